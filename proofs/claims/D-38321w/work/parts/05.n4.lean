/-! LullabygateModel -/
set_option maxRecDepth 100000
def RX4 : String := "LullabygateModel"
def TX4 : u_T := fun k => match k with
  | 0 => ("LullabygateModel", "thrown", "I", false)
  | 1 => ("LullabygateModel", "night", "I", false)
  | 2 => ("LullabygateModel", "hour", "I", false)
  | 3 => ("LullabygateModel", "next", "I", false)
  | 4 => ("LullabygateModel", "drawn", "I", false)
  | 5 => ("LullabygateModel", "yawns", "I", false)
  | 6 => ("LullabygateModel", "lands", "[LLullabygateModel$Land;", true)
  | 7 => ("LullabygateModel", "gates", "Ljava/util/ArrayList;", true)
  | 8 => ("LullabygateModel", "sleepers", "Ljava/util/ArrayList;", true)
  | 9 => ("LullabygateModel", "parts", "Ljava/util/ArrayList;", true)
  | 10 => ("LullabygateModel", "hidings", "Ljava/util/ArrayList;", true)
  | 11 => ("LullabygateModel", "isMore", "[Z", true)
  | _ => ("LullabygateModel", "sum", "J", false)
def tyX4 : Nat → FieldType := fun k => match k with
  | 0 => .int
  | 1 => .int
  | 2 => .int
  | 3 => .int
  | 4 => .int
  | 5 => .int
  | 6 => .array (.object "LullabygateModel$Land")
  | 7 => .object "java/util/ArrayList"
  | 8 => .object "java/util/ArrayList"
  | 9 => .object "java/util/ArrayList"
  | 10 => .object "java/util/ArrayList"
  | 11 => .array .boolean
  | _ => .long
abbrev wsX40 : List Cond := u_ws RX4 TX4 13
set_option maxRecDepth 100000 in
theorem nmX4 : ∀ a, a < 13 → ∀ b, b < 13 → a ≠ b → (TX4 a).2.1 ≠ (TX4 b).2.1 := by decide +kernel
set_option maxRecDepth 100000 in
theorem tyX4_ok : ∀ k, k < 13 → parseFieldDescriptor (TX4 k).2.2.1 = some (tyX4 k) := by decide +kernel
abbrev cX4_init : ByteArray := prog_14_method_1_code
def yX4_init : MethodName := ⟨RX4, "<init>", "()V"⟩
def dkwX4_init_4 : List UInt8 := [132, 1, 1, 167, 255, 234, 177]
abbrev dktX4_init_4 : List UInt8 := dkwX4_init_4 ++ []
def dkwX4_init_3 : List UInt8 := [181, 0, 35, 3, 60, 27, 16, 6, 162, 0, 22, 42, 180, 0, 15, 27, 187, 0, 13, 89, 183, 0, 39, 83]
abbrev dktX4_init_3 : List UInt8 := dkwX4_init_3 ++ dktX4_init_4
def dkwX4_init_2 : List UInt8 := [183, 0, 21, 181, 0, 29, 42, 187, 0, 19, 89, 183, 0, 21, 181, 0, 32, 42, 17, 3, 8, 188, 4]
abbrev dktX4_init_2 : List UInt8 := dkwX4_init_2 ++ dktX4_init_3
def dkwX4_init_1 : List UInt8 := [183, 0, 21, 181, 0, 22, 42, 187, 0, 19, 89, 183, 0, 21, 181, 0, 26, 42, 187, 0, 19, 89]
abbrev dktX4_init_1 : List UInt8 := dkwX4_init_1 ++ dktX4_init_2
def dkwX4_init_0 : List UInt8 := [42, 183, 0, 1, 42, 6, 181, 0, 7, 42, 16, 6, 189, 0, 13, 181, 0, 15, 42, 187, 0, 19, 89]
abbrev dktX4_init_0 : List UInt8 := dkwX4_init_0 ++ dktX4_init_1
theorem dksX4_init_0 : cX4_init.data.toList.drop 0 = dktX4_init_0 := by decide +kernel
theorem dksX4_init_1 : cX4_init.data.toList.drop 23 = dktX4_init_1 := dk_seg dksX4_init_0 23 rfl rfl
theorem dksX4_init_2 : cX4_init.data.toList.drop 45 = dktX4_init_2 := dk_seg dksX4_init_1 22 rfl rfl
theorem dksX4_init_3 : cX4_init.data.toList.drop 68 = dktX4_init_3 := dk_seg dksX4_init_2 23 rfl rfl
theorem dksX4_init_4 : cX4_init.data.toList.drop 92 = dktX4_init_4 := dk_seg dksX4_init_3 24 rfl rfl
theorem dX4_init_0 : decode cX4_init 0 = .ok (.aload_n 0, 1) := dk_42 (dk_at dksX4_init_0 0 rfl rfl)
theorem dX4_init_1 : decode cX4_init 1 = .ok (.invokespecial 1, 3) := dk_183 0 1 (dk_at dksX4_init_0 1 rfl rfl)
theorem dX4_init_4 : decode cX4_init 4 = .ok (.aload_n 0, 1) := dk_42 (dk_at dksX4_init_0 4 rfl rfl)
theorem dX4_init_5 : decode cX4_init 5 = .ok (.iconst 3, 1) := dk_6 (dk_at dksX4_init_0 5 rfl rfl)
theorem dX4_init_6 : decode cX4_init 6 = .ok (.putfield 7, 3) := dk_181 0 7 (dk_at dksX4_init_0 6 rfl rfl)
theorem dX4_init_9 : decode cX4_init 9 = .ok (.aload_n 0, 1) := dk_42 (dk_at dksX4_init_0 9 rfl rfl)
theorem dX4_init_10 : decode cX4_init 10 = .ok (.bipush 6, 2) := dk_16 6 (dk_at dksX4_init_0 10 rfl rfl)
theorem dX4_init_12 : decode cX4_init 12 = .ok (.anewarray 13, 3) := dk_189 0 13 (dk_at dksX4_init_0 12 rfl rfl)
theorem dX4_init_15 : decode cX4_init 15 = .ok (.putfield 15, 3) := dk_181 0 15 (dk_at dksX4_init_0 15 rfl rfl)
theorem dX4_init_18 : decode cX4_init 18 = .ok (.aload_n 0, 1) := dk_42 (dk_at dksX4_init_0 18 rfl rfl)
theorem dX4_init_19 : decode cX4_init 19 = .ok (.new 19, 3) := dk_187 0 19 (dk_at dksX4_init_0 19 rfl rfl)
theorem dX4_init_22 : decode cX4_init 22 = .ok (.dup, 1) := dk_89 (dk_at dksX4_init_0 22 rfl rfl)
theorem dX4_init_23 : decode cX4_init 23 = .ok (.invokespecial 21, 3) := dk_183 0 21 (dk_at dksX4_init_1 0 rfl rfl)
theorem dX4_init_26 : decode cX4_init 26 = .ok (.putfield 22, 3) := dk_181 0 22 (dk_at dksX4_init_1 3 rfl rfl)
theorem dX4_init_29 : decode cX4_init 29 = .ok (.aload_n 0, 1) := dk_42 (dk_at dksX4_init_1 6 rfl rfl)
theorem dX4_init_30 : decode cX4_init 30 = .ok (.new 19, 3) := dk_187 0 19 (dk_at dksX4_init_1 7 rfl rfl)
theorem dX4_init_33 : decode cX4_init 33 = .ok (.dup, 1) := dk_89 (dk_at dksX4_init_1 10 rfl rfl)
theorem dX4_init_34 : decode cX4_init 34 = .ok (.invokespecial 21, 3) := dk_183 0 21 (dk_at dksX4_init_1 11 rfl rfl)
theorem dX4_init_37 : decode cX4_init 37 = .ok (.putfield 26, 3) := dk_181 0 26 (dk_at dksX4_init_1 14 rfl rfl)
theorem dX4_init_40 : decode cX4_init 40 = .ok (.aload_n 0, 1) := dk_42 (dk_at dksX4_init_1 17 rfl rfl)
theorem dX4_init_41 : decode cX4_init 41 = .ok (.new 19, 3) := dk_187 0 19 (dk_at dksX4_init_1 18 rfl rfl)
theorem dX4_init_44 : decode cX4_init 44 = .ok (.dup, 1) := dk_89 (dk_at dksX4_init_1 21 rfl rfl)
theorem dX4_init_45 : decode cX4_init 45 = .ok (.invokespecial 21, 3) := dk_183 0 21 (dk_at dksX4_init_2 0 rfl rfl)
theorem dX4_init_48 : decode cX4_init 48 = .ok (.putfield 29, 3) := dk_181 0 29 (dk_at dksX4_init_2 3 rfl rfl)
theorem dX4_init_51 : decode cX4_init 51 = .ok (.aload_n 0, 1) := dk_42 (dk_at dksX4_init_2 6 rfl rfl)
theorem dX4_init_52 : decode cX4_init 52 = .ok (.new 19, 3) := dk_187 0 19 (dk_at dksX4_init_2 7 rfl rfl)
theorem dX4_init_55 : decode cX4_init 55 = .ok (.dup, 1) := dk_89 (dk_at dksX4_init_2 10 rfl rfl)
theorem dX4_init_56 : decode cX4_init 56 = .ok (.invokespecial 21, 3) := dk_183 0 21 (dk_at dksX4_init_2 11 rfl rfl)
theorem dX4_init_59 : decode cX4_init 59 = .ok (.putfield 32, 3) := dk_181 0 32 (dk_at dksX4_init_2 14 rfl rfl)
theorem dX4_init_62 : decode cX4_init 62 = .ok (.aload_n 0, 1) := dk_42 (dk_at dksX4_init_2 17 rfl rfl)
theorem dX4_init_63 : decode cX4_init 63 = .ok (.sipush 776, 3) := dk_17 3 8 (dk_at dksX4_init_2 18 rfl rfl)
theorem dX4_init_66 : decode cX4_init 66 = .ok (.newarray .boolean, 2) := dk_188_4 (dk_at dksX4_init_2 21 rfl rfl)
theorem dX4_init_68 : decode cX4_init 68 = .ok (.putfield 35, 3) := dk_181 0 35 (dk_at dksX4_init_3 0 rfl rfl)
theorem dX4_init_71 : decode cX4_init 71 = .ok (.iconst 0, 1) := dk_3 (dk_at dksX4_init_3 3 rfl rfl)
theorem dX4_init_72 : decode cX4_init 72 = .ok (.istore_n 1, 1) := dk_60 (dk_at dksX4_init_3 4 rfl rfl)
theorem dX4_init_73 : decode cX4_init 73 = .ok (.iload_n 1, 1) := dk_27 (dk_at dksX4_init_3 5 rfl rfl)
theorem dX4_init_74 : decode cX4_init 74 = .ok (.bipush 6, 2) := dk_16 6 (dk_at dksX4_init_3 6 rfl rfl)
theorem dX4_init_76 : decode cX4_init 76 = .ok (.if_icmp .ge 22, 3) := dk_162 0 22 (dk_at dksX4_init_3 8 rfl rfl)
theorem dX4_init_79 : decode cX4_init 79 = .ok (.aload_n 0, 1) := dk_42 (dk_at dksX4_init_3 11 rfl rfl)
theorem dX4_init_80 : decode cX4_init 80 = .ok (.getfield 15, 3) := dk_180 0 15 (dk_at dksX4_init_3 12 rfl rfl)
theorem dX4_init_83 : decode cX4_init 83 = .ok (.iload_n 1, 1) := dk_27 (dk_at dksX4_init_3 15 rfl rfl)
theorem dX4_init_84 : decode cX4_init 84 = .ok (.new 13, 3) := dk_187 0 13 (dk_at dksX4_init_3 16 rfl rfl)
theorem dX4_init_87 : decode cX4_init 87 = .ok (.dup, 1) := dk_89 (dk_at dksX4_init_3 19 rfl rfl)
theorem dX4_init_88 : decode cX4_init 88 = .ok (.invokespecial 39, 3) := dk_183 0 39 (dk_at dksX4_init_3 20 rfl rfl)
theorem dX4_init_91 : decode cX4_init 91 = .ok (.aastore, 1) := dk_83 (dk_at dksX4_init_3 23 rfl rfl)
theorem dX4_init_92 : decode cX4_init 92 = .ok (.iinc 1 1, 3) := dk_132 1 1 (dk_at dksX4_init_4 0 rfl rfl)
theorem dX4_init_95 : decode cX4_init 95 = .ok (.goto (-22), 3) := dk_167 255 234 (dk_at dksX4_init_4 3 rfl rfl)
theorem dX4_init_98 : decode cX4_init 98 = .ok (.return_, 1) := dk_177 (dk_at dksX4_init_4 6 rfl rfl)
abbrev cX4_thrown : ByteArray := prog_14_method_2_code
def yX4_thrown : MethodName := ⟨RX4, "thrown", "()I"⟩
theorem dX4_thrown_0 : decode cX4_thrown 0 = .ok (.aload_n 0, 1) := by decide +kernel
theorem dX4_thrown_1 : decode cX4_thrown 1 = .ok (.getfield 40, 3) := by decide +kernel
theorem dX4_thrown_4 : decode cX4_thrown 4 = .ok (.ireturn, 1) := by decide +kernel
abbrev cX4_land : ByteArray := prog_14_method_9_code
def yX4_land : MethodName := ⟨RX4, "land", "(III)I"⟩
def dkwX4_land_3 : List UInt8 := [27, 50, 29, 181, 0, 62, 21, 4, 172]
abbrev dktX4_land_3 : List UInt8 := dkwX4_land_3 ++ []
def dkwX4_land_2 : List UInt8 := [180, 0, 15, 27, 50, 180, 0, 59, 54, 4, 42, 180, 0, 15, 27, 50, 28, 181, 0, 59, 42, 180, 0, 15]
abbrev dktX4_land_2 : List UInt8 := dkwX4_land_2 ++ dktX4_land_3
def dkwX4_land_1 : List UInt8 := [184, 0, 43, 153, 0, 13, 29, 3, 16, 99, 184, 0, 43, 154, 0, 9, 42, 5, 182, 0, 55, 172, 42]
abbrev dktX4_land_1 : List UInt8 := dkwX4_land_1 ++ dktX4_land_2
def dkwX4_land_0 : List UInt8 := [42, 3, 181, 0, 40, 42, 27, 182, 0, 51, 154, 0, 9, 42, 4, 182, 0, 55, 172, 28, 3, 16, 50]
abbrev dktX4_land_0 : List UInt8 := dkwX4_land_0 ++ dktX4_land_1
theorem dksX4_land_0 : cX4_land.data.toList.drop 0 = dktX4_land_0 := by decide +kernel
theorem dksX4_land_1 : cX4_land.data.toList.drop 23 = dktX4_land_1 := dk_seg dksX4_land_0 23 rfl rfl
theorem dksX4_land_2 : cX4_land.data.toList.drop 46 = dktX4_land_2 := dk_seg dksX4_land_1 23 rfl rfl
theorem dksX4_land_3 : cX4_land.data.toList.drop 70 = dktX4_land_3 := dk_seg dksX4_land_2 24 rfl rfl
theorem dX4_land_0 : decode cX4_land 0 = .ok (.aload_n 0, 1) := dk_42 (dk_at dksX4_land_0 0 rfl rfl)
theorem dX4_land_1 : decode cX4_land 1 = .ok (.iconst 0, 1) := dk_3 (dk_at dksX4_land_0 1 rfl rfl)
theorem dX4_land_2 : decode cX4_land 2 = .ok (.putfield 40, 3) := dk_181 0 40 (dk_at dksX4_land_0 2 rfl rfl)
theorem dX4_land_5 : decode cX4_land 5 = .ok (.aload_n 0, 1) := dk_42 (dk_at dksX4_land_0 5 rfl rfl)
theorem dX4_land_6 : decode cX4_land 6 = .ok (.iload_n 1, 1) := dk_27 (dk_at dksX4_land_0 6 rfl rfl)
theorem dX4_land_7 : decode cX4_land 7 = .ok (.invokevirtual 51, 3) := dk_182 0 51 (dk_at dksX4_land_0 7 rfl rfl)
theorem dX4_land_10 : decode cX4_land 10 = .ok (.ifCond .ne 9, 3) := dk_154 0 9 (dk_at dksX4_land_0 10 rfl rfl)
theorem dX4_land_13 : decode cX4_land 13 = .ok (.aload_n 0, 1) := dk_42 (dk_at dksX4_land_0 13 rfl rfl)
theorem dX4_land_14 : decode cX4_land 14 = .ok (.iconst 1, 1) := dk_4 (dk_at dksX4_land_0 14 rfl rfl)
theorem dX4_land_15 : decode cX4_land 15 = .ok (.invokevirtual 55, 3) := dk_182 0 55 (dk_at dksX4_land_0 15 rfl rfl)
theorem dX4_land_18 : decode cX4_land 18 = .ok (.ireturn, 1) := dk_172 (dk_at dksX4_land_0 18 rfl rfl)
theorem dX4_land_19 : decode cX4_land 19 = .ok (.iload_n 2, 1) := dk_28 (dk_at dksX4_land_0 19 rfl rfl)
theorem dX4_land_20 : decode cX4_land 20 = .ok (.iconst 0, 1) := dk_3 (dk_at dksX4_land_0 20 rfl rfl)
theorem dX4_land_21 : decode cX4_land 21 = .ok (.bipush 50, 2) := dk_16 50 (dk_at dksX4_land_0 21 rfl rfl)
theorem dX4_land_23 : decode cX4_land 23 = .ok (.invokestatic 43, 3) := dk_184 0 43 (dk_at dksX4_land_1 0 rfl rfl)
theorem dX4_land_26 : decode cX4_land 26 = .ok (.ifCond .eq 13, 3) := dk_153 0 13 (dk_at dksX4_land_1 3 rfl rfl)
theorem dX4_land_29 : decode cX4_land 29 = .ok (.iload_n 3, 1) := dk_29 (dk_at dksX4_land_1 6 rfl rfl)
theorem dX4_land_30 : decode cX4_land 30 = .ok (.iconst 0, 1) := dk_3 (dk_at dksX4_land_1 7 rfl rfl)
theorem dX4_land_31 : decode cX4_land 31 = .ok (.bipush 99, 2) := dk_16 99 (dk_at dksX4_land_1 8 rfl rfl)
theorem dX4_land_33 : decode cX4_land 33 = .ok (.invokestatic 43, 3) := dk_184 0 43 (dk_at dksX4_land_1 10 rfl rfl)
theorem dX4_land_36 : decode cX4_land 36 = .ok (.ifCond .ne 9, 3) := dk_154 0 9 (dk_at dksX4_land_1 13 rfl rfl)
theorem dX4_land_39 : decode cX4_land 39 = .ok (.aload_n 0, 1) := dk_42 (dk_at dksX4_land_1 16 rfl rfl)
theorem dX4_land_40 : decode cX4_land 40 = .ok (.iconst 2, 1) := dk_5 (dk_at dksX4_land_1 17 rfl rfl)
theorem dX4_land_41 : decode cX4_land 41 = .ok (.invokevirtual 55, 3) := dk_182 0 55 (dk_at dksX4_land_1 18 rfl rfl)
theorem dX4_land_44 : decode cX4_land 44 = .ok (.ireturn, 1) := dk_172 (dk_at dksX4_land_1 21 rfl rfl)
theorem dX4_land_45 : decode cX4_land 45 = .ok (.aload_n 0, 1) := dk_42 (dk_at dksX4_land_1 22 rfl rfl)
theorem dX4_land_46 : decode cX4_land 46 = .ok (.getfield 15, 3) := dk_180 0 15 (dk_at dksX4_land_2 0 rfl rfl)
theorem dX4_land_49 : decode cX4_land 49 = .ok (.iload_n 1, 1) := dk_27 (dk_at dksX4_land_2 3 rfl rfl)
theorem dX4_land_50 : decode cX4_land 50 = .ok (.aaload, 1) := dk_50 (dk_at dksX4_land_2 4 rfl rfl)
theorem dX4_land_51 : decode cX4_land 51 = .ok (.getfield 59, 3) := dk_180 0 59 (dk_at dksX4_land_2 5 rfl rfl)
theorem dX4_land_54 : decode cX4_land 54 = .ok (.istore 4, 2) := dk_54 4 (dk_at dksX4_land_2 8 rfl rfl)
theorem dX4_land_56 : decode cX4_land 56 = .ok (.aload_n 0, 1) := dk_42 (dk_at dksX4_land_2 10 rfl rfl)
theorem dX4_land_57 : decode cX4_land 57 = .ok (.getfield 15, 3) := dk_180 0 15 (dk_at dksX4_land_2 11 rfl rfl)
theorem dX4_land_60 : decode cX4_land 60 = .ok (.iload_n 1, 1) := dk_27 (dk_at dksX4_land_2 14 rfl rfl)
theorem dX4_land_61 : decode cX4_land 61 = .ok (.aaload, 1) := dk_50 (dk_at dksX4_land_2 15 rfl rfl)
theorem dX4_land_62 : decode cX4_land 62 = .ok (.iload_n 2, 1) := dk_28 (dk_at dksX4_land_2 16 rfl rfl)
theorem dX4_land_63 : decode cX4_land 63 = .ok (.putfield 59, 3) := dk_181 0 59 (dk_at dksX4_land_2 17 rfl rfl)
theorem dX4_land_66 : decode cX4_land 66 = .ok (.aload_n 0, 1) := dk_42 (dk_at dksX4_land_2 20 rfl rfl)
theorem dX4_land_67 : decode cX4_land 67 = .ok (.getfield 15, 3) := dk_180 0 15 (dk_at dksX4_land_2 21 rfl rfl)
theorem dX4_land_70 : decode cX4_land 70 = .ok (.iload_n 1, 1) := dk_27 (dk_at dksX4_land_3 0 rfl rfl)
theorem dX4_land_71 : decode cX4_land 71 = .ok (.aaload, 1) := dk_50 (dk_at dksX4_land_3 1 rfl rfl)
theorem dX4_land_72 : decode cX4_land 72 = .ok (.iload_n 3, 1) := dk_29 (dk_at dksX4_land_3 2 rfl rfl)
theorem dX4_land_73 : decode cX4_land 73 = .ok (.putfield 62, 3) := dk_181 0 62 (dk_at dksX4_land_3 3 rfl rfl)
theorem dX4_land_76 : decode cX4_land 76 = .ok (.iload 4, 2) := dk_21 4 (dk_at dksX4_land_3 6 rfl rfl)
theorem dX4_land_78 : decode cX4_land 78 = .ok (.ireturn, 1) := dk_172 (dk_at dksX4_land_3 8 rfl rfl)
abbrev cX4_isLand : ByteArray := prog_14_method_5_code
def yX4_isLand : MethodName := ⟨RX4, "isLand", "(I)Z"⟩
def dkwX4_isLand_0 : List UInt8 := [27, 3, 8, 184, 0, 43, 172]
abbrev dktX4_isLand_0 : List UInt8 := dkwX4_isLand_0 ++ []
theorem dksX4_isLand_0 : cX4_isLand.data.toList.drop 0 = dktX4_isLand_0 := by decide +kernel
theorem dX4_isLand_0 : decode cX4_isLand 0 = .ok (.iload_n 1, 1) := dk_27 (dk_at dksX4_isLand_0 0 rfl rfl)
theorem dX4_isLand_1 : decode cX4_isLand 1 = .ok (.iconst 0, 1) := dk_3 (dk_at dksX4_isLand_0 1 rfl rfl)
theorem dX4_isLand_2 : decode cX4_isLand 2 = .ok (.iconst 5, 1) := dk_8 (dk_at dksX4_isLand_0 2 rfl rfl)
theorem dX4_isLand_3 : decode cX4_isLand 3 = .ok (.invokestatic 43, 3) := dk_184 0 43 (dk_at dksX4_isLand_0 3 rfl rfl)
theorem dX4_isLand_6 : decode cX4_isLand 6 = .ok (.ireturn, 1) := dk_172 (dk_at dksX4_isLand_0 6 rfl rfl)
abbrev cX4_is : ByteArray := prog_14_method_4_code
def yX4_is : MethodName := ⟨RX4, "is", "(III)Z"⟩
def dkwX4_is_0 : List UInt8 := [26, 27, 161, 0, 12, 26, 28, 163, 0, 7, 4, 167, 0, 4, 3, 172]
abbrev dktX4_is_0 : List UInt8 := dkwX4_is_0 ++ []
theorem dksX4_is_0 : cX4_is.data.toList.drop 0 = dktX4_is_0 := by decide +kernel
theorem dX4_is_0 : decode cX4_is 0 = .ok (.iload_n 0, 1) := dk_26 (dk_at dksX4_is_0 0 rfl rfl)
theorem dX4_is_1 : decode cX4_is 1 = .ok (.iload_n 1, 1) := dk_27 (dk_at dksX4_is_0 1 rfl rfl)
theorem dX4_is_2 : decode cX4_is 2 = .ok (.if_icmp .lt 12, 3) := dk_161 0 12 (dk_at dksX4_is_0 2 rfl rfl)
theorem dX4_is_5 : decode cX4_is 5 = .ok (.iload_n 0, 1) := dk_26 (dk_at dksX4_is_0 5 rfl rfl)
theorem dX4_is_6 : decode cX4_is 6 = .ok (.iload_n 2, 1) := dk_28 (dk_at dksX4_is_0 6 rfl rfl)
theorem dX4_is_7 : decode cX4_is 7 = .ok (.if_icmp .gt 7, 3) := dk_163 0 7 (dk_at dksX4_is_0 7 rfl rfl)
theorem dX4_is_10 : decode cX4_is 10 = .ok (.iconst 1, 1) := dk_4 (dk_at dksX4_is_0 10 rfl rfl)
theorem dX4_is_11 : decode cX4_is 11 = .ok (.goto 4, 3) := dk_167 0 4 (dk_at dksX4_is_0 11 rfl rfl)
theorem dX4_is_14 : decode cX4_is 14 = .ok (.iconst 0, 1) := dk_3 (dk_at dksX4_is_0 14 rfl rfl)
theorem dX4_is_15 : decode cX4_is 15 = .ok (.ireturn, 1) := dk_172 (dk_at dksX4_is_0 15 rfl rfl)
abbrev cX4_refuse : ByteArray := prog_14_method_3_code
def yX4_refuse : MethodName := ⟨RX4, "refuse", "(I)I"⟩
def dkwX4_refuse_0 : List UInt8 := [42, 27, 181, 0, 40, 3, 172]
abbrev dktX4_refuse_0 : List UInt8 := dkwX4_refuse_0 ++ []
theorem dksX4_refuse_0 : cX4_refuse.data.toList.drop 0 = dktX4_refuse_0 := by decide +kernel
theorem dX4_refuse_0 : decode cX4_refuse 0 = .ok (.aload_n 0, 1) := dk_42 (dk_at dksX4_refuse_0 0 rfl rfl)
theorem dX4_refuse_1 : decode cX4_refuse 1 = .ok (.iload_n 1, 1) := dk_27 (dk_at dksX4_refuse_0 1 rfl rfl)
theorem dX4_refuse_2 : decode cX4_refuse 2 = .ok (.putfield 40, 3) := dk_181 0 40 (dk_at dksX4_refuse_0 2 rfl rfl)
theorem dX4_refuse_5 : decode cX4_refuse 5 = .ok (.iconst 0, 1) := dk_3 (dk_at dksX4_refuse_0 5 rfl rfl)
theorem dX4_refuse_6 : decode cX4_refuse 6 = .ok (.ireturn, 1) := dk_172 (dk_at dksX4_refuse_0 6 rfl rfl)
abbrev cX4_trade : ByteArray := prog_14_method_10_code
def yX4_trade : MethodName := ⟨RX4, "trade", "(III)I"⟩
def dkwX4_trade_4 : List UInt8 := [180, 0, 15, 28, 50, 89, 180, 0, 65, 29, 96, 181, 0, 65, 42, 180, 0, 15, 28, 50, 180, 0, 65, 172]
abbrev dktX4_trade_4 : List UInt8 := dkwX4_trade_4 ++ []
def dkwX4_trade_3 : List UInt8 := [42, 6, 182, 0, 55, 172, 42, 180, 0, 15, 27, 50, 89, 180, 0, 65, 29, 100, 181, 0, 65, 42]
abbrev dktX4_trade_3 : List UInt8 := dkwX4_trade_3 ++ dktX4_trade_4
def dkwX4_trade_2 : List UInt8 := [50, 180, 0, 65, 29, 161, 0, 19, 42, 180, 0, 15, 28, 50, 180, 0, 65, 29, 96, 16, 30, 164, 0, 9]
abbrev dktX4_trade_2 : List UInt8 := dkwX4_trade_2 ++ dktX4_trade_3
def dkwX4_trade_1 : List UInt8 := [182, 0, 55, 172, 27, 28, 159, 0, 7, 29, 156, 0, 9, 42, 5, 182, 0, 55, 172, 42, 180, 0, 15, 27]
abbrev dktX4_trade_1 : List UInt8 := dkwX4_trade_1 ++ dktX4_trade_2
def dkwX4_trade_0 : List UInt8 := [42, 3, 181, 0, 40, 42, 27, 182, 0, 51, 153, 0, 11, 42, 28, 182, 0, 51, 154, 0, 9, 42, 4]
abbrev dktX4_trade_0 : List UInt8 := dkwX4_trade_0 ++ dktX4_trade_1
theorem dksX4_trade_0 : cX4_trade.data.toList.drop 0 = dktX4_trade_0 := by decide +kernel
theorem dksX4_trade_1 : cX4_trade.data.toList.drop 23 = dktX4_trade_1 := dk_seg dksX4_trade_0 23 rfl rfl
theorem dksX4_trade_2 : cX4_trade.data.toList.drop 47 = dktX4_trade_2 := dk_seg dksX4_trade_1 24 rfl rfl
theorem dksX4_trade_3 : cX4_trade.data.toList.drop 71 = dktX4_trade_3 := dk_seg dksX4_trade_2 24 rfl rfl
theorem dksX4_trade_4 : cX4_trade.data.toList.drop 93 = dktX4_trade_4 := dk_seg dksX4_trade_3 22 rfl rfl
theorem dX4_trade_0 : decode cX4_trade 0 = .ok (.aload_n 0, 1) := dk_42 (dk_at dksX4_trade_0 0 rfl rfl)
theorem dX4_trade_1 : decode cX4_trade 1 = .ok (.iconst 0, 1) := dk_3 (dk_at dksX4_trade_0 1 rfl rfl)
theorem dX4_trade_2 : decode cX4_trade 2 = .ok (.putfield 40, 3) := dk_181 0 40 (dk_at dksX4_trade_0 2 rfl rfl)
theorem dX4_trade_5 : decode cX4_trade 5 = .ok (.aload_n 0, 1) := dk_42 (dk_at dksX4_trade_0 5 rfl rfl)
theorem dX4_trade_6 : decode cX4_trade 6 = .ok (.iload_n 1, 1) := dk_27 (dk_at dksX4_trade_0 6 rfl rfl)
theorem dX4_trade_7 : decode cX4_trade 7 = .ok (.invokevirtual 51, 3) := dk_182 0 51 (dk_at dksX4_trade_0 7 rfl rfl)
theorem dX4_trade_10 : decode cX4_trade 10 = .ok (.ifCond .eq 11, 3) := dk_153 0 11 (dk_at dksX4_trade_0 10 rfl rfl)
theorem dX4_trade_13 : decode cX4_trade 13 = .ok (.aload_n 0, 1) := dk_42 (dk_at dksX4_trade_0 13 rfl rfl)
theorem dX4_trade_14 : decode cX4_trade 14 = .ok (.iload_n 2, 1) := dk_28 (dk_at dksX4_trade_0 14 rfl rfl)
theorem dX4_trade_15 : decode cX4_trade 15 = .ok (.invokevirtual 51, 3) := dk_182 0 51 (dk_at dksX4_trade_0 15 rfl rfl)
theorem dX4_trade_18 : decode cX4_trade 18 = .ok (.ifCond .ne 9, 3) := dk_154 0 9 (dk_at dksX4_trade_0 18 rfl rfl)
theorem dX4_trade_21 : decode cX4_trade 21 = .ok (.aload_n 0, 1) := dk_42 (dk_at dksX4_trade_0 21 rfl rfl)
theorem dX4_trade_22 : decode cX4_trade 22 = .ok (.iconst 1, 1) := dk_4 (dk_at dksX4_trade_0 22 rfl rfl)
theorem dX4_trade_23 : decode cX4_trade 23 = .ok (.invokevirtual 55, 3) := dk_182 0 55 (dk_at dksX4_trade_1 0 rfl rfl)
theorem dX4_trade_26 : decode cX4_trade 26 = .ok (.ireturn, 1) := dk_172 (dk_at dksX4_trade_1 3 rfl rfl)
theorem dX4_trade_27 : decode cX4_trade 27 = .ok (.iload_n 1, 1) := dk_27 (dk_at dksX4_trade_1 4 rfl rfl)
theorem dX4_trade_28 : decode cX4_trade 28 = .ok (.iload_n 2, 1) := dk_28 (dk_at dksX4_trade_1 5 rfl rfl)
theorem dX4_trade_29 : decode cX4_trade 29 = .ok (.if_icmp .eq 7, 3) := dk_159 0 7 (dk_at dksX4_trade_1 6 rfl rfl)
theorem dX4_trade_32 : decode cX4_trade 32 = .ok (.iload_n 3, 1) := dk_29 (dk_at dksX4_trade_1 9 rfl rfl)
theorem dX4_trade_33 : decode cX4_trade 33 = .ok (.ifCond .ge 9, 3) := dk_156 0 9 (dk_at dksX4_trade_1 10 rfl rfl)
theorem dX4_trade_36 : decode cX4_trade 36 = .ok (.aload_n 0, 1) := dk_42 (dk_at dksX4_trade_1 13 rfl rfl)
theorem dX4_trade_37 : decode cX4_trade 37 = .ok (.iconst 2, 1) := dk_5 (dk_at dksX4_trade_1 14 rfl rfl)
theorem dX4_trade_38 : decode cX4_trade 38 = .ok (.invokevirtual 55, 3) := dk_182 0 55 (dk_at dksX4_trade_1 15 rfl rfl)
theorem dX4_trade_41 : decode cX4_trade 41 = .ok (.ireturn, 1) := dk_172 (dk_at dksX4_trade_1 18 rfl rfl)
theorem dX4_trade_42 : decode cX4_trade 42 = .ok (.aload_n 0, 1) := dk_42 (dk_at dksX4_trade_1 19 rfl rfl)
theorem dX4_trade_43 : decode cX4_trade 43 = .ok (.getfield 15, 3) := dk_180 0 15 (dk_at dksX4_trade_1 20 rfl rfl)
theorem dX4_trade_46 : decode cX4_trade 46 = .ok (.iload_n 1, 1) := dk_27 (dk_at dksX4_trade_1 23 rfl rfl)
theorem dX4_trade_47 : decode cX4_trade 47 = .ok (.aaload, 1) := dk_50 (dk_at dksX4_trade_2 0 rfl rfl)
theorem dX4_trade_48 : decode cX4_trade 48 = .ok (.getfield 65, 3) := dk_180 0 65 (dk_at dksX4_trade_2 1 rfl rfl)
theorem dX4_trade_51 : decode cX4_trade 51 = .ok (.iload_n 3, 1) := dk_29 (dk_at dksX4_trade_2 4 rfl rfl)
theorem dX4_trade_52 : decode cX4_trade 52 = .ok (.if_icmp .lt 19, 3) := dk_161 0 19 (dk_at dksX4_trade_2 5 rfl rfl)
theorem dX4_trade_55 : decode cX4_trade 55 = .ok (.aload_n 0, 1) := dk_42 (dk_at dksX4_trade_2 8 rfl rfl)
theorem dX4_trade_56 : decode cX4_trade 56 = .ok (.getfield 15, 3) := dk_180 0 15 (dk_at dksX4_trade_2 9 rfl rfl)
theorem dX4_trade_59 : decode cX4_trade 59 = .ok (.iload_n 2, 1) := dk_28 (dk_at dksX4_trade_2 12 rfl rfl)
theorem dX4_trade_60 : decode cX4_trade 60 = .ok (.aaload, 1) := dk_50 (dk_at dksX4_trade_2 13 rfl rfl)
theorem dX4_trade_61 : decode cX4_trade 61 = .ok (.getfield 65, 3) := dk_180 0 65 (dk_at dksX4_trade_2 14 rfl rfl)
theorem dX4_trade_64 : decode cX4_trade 64 = .ok (.iload_n 3, 1) := dk_29 (dk_at dksX4_trade_2 17 rfl rfl)
theorem dX4_trade_65 : decode cX4_trade 65 = .ok (.iadd, 1) := dk_96 (dk_at dksX4_trade_2 18 rfl rfl)
theorem dX4_trade_66 : decode cX4_trade 66 = .ok (.bipush 30, 2) := dk_16 30 (dk_at dksX4_trade_2 19 rfl rfl)
theorem dX4_trade_68 : decode cX4_trade 68 = .ok (.if_icmp .le 9, 3) := dk_164 0 9 (dk_at dksX4_trade_2 21 rfl rfl)
theorem dX4_trade_71 : decode cX4_trade 71 = .ok (.aload_n 0, 1) := dk_42 (dk_at dksX4_trade_3 0 rfl rfl)
theorem dX4_trade_72 : decode cX4_trade 72 = .ok (.iconst 3, 1) := dk_6 (dk_at dksX4_trade_3 1 rfl rfl)
theorem dX4_trade_73 : decode cX4_trade 73 = .ok (.invokevirtual 55, 3) := dk_182 0 55 (dk_at dksX4_trade_3 2 rfl rfl)
theorem dX4_trade_76 : decode cX4_trade 76 = .ok (.ireturn, 1) := dk_172 (dk_at dksX4_trade_3 5 rfl rfl)
theorem dX4_trade_77 : decode cX4_trade 77 = .ok (.aload_n 0, 1) := dk_42 (dk_at dksX4_trade_3 6 rfl rfl)
theorem dX4_trade_78 : decode cX4_trade 78 = .ok (.getfield 15, 3) := dk_180 0 15 (dk_at dksX4_trade_3 7 rfl rfl)
theorem dX4_trade_81 : decode cX4_trade 81 = .ok (.iload_n 1, 1) := dk_27 (dk_at dksX4_trade_3 10 rfl rfl)
theorem dX4_trade_82 : decode cX4_trade 82 = .ok (.aaload, 1) := dk_50 (dk_at dksX4_trade_3 11 rfl rfl)
theorem dX4_trade_83 : decode cX4_trade 83 = .ok (.dup, 1) := dk_89 (dk_at dksX4_trade_3 12 rfl rfl)
theorem dX4_trade_84 : decode cX4_trade 84 = .ok (.getfield 65, 3) := dk_180 0 65 (dk_at dksX4_trade_3 13 rfl rfl)
theorem dX4_trade_87 : decode cX4_trade 87 = .ok (.iload_n 3, 1) := dk_29 (dk_at dksX4_trade_3 16 rfl rfl)
theorem dX4_trade_88 : decode cX4_trade 88 = .ok (.isub, 1) := dk_100 (dk_at dksX4_trade_3 17 rfl rfl)
theorem dX4_trade_89 : decode cX4_trade 89 = .ok (.putfield 65, 3) := dk_181 0 65 (dk_at dksX4_trade_3 18 rfl rfl)
theorem dX4_trade_92 : decode cX4_trade 92 = .ok (.aload_n 0, 1) := dk_42 (dk_at dksX4_trade_3 21 rfl rfl)
theorem dX4_trade_93 : decode cX4_trade 93 = .ok (.getfield 15, 3) := dk_180 0 15 (dk_at dksX4_trade_4 0 rfl rfl)
theorem dX4_trade_96 : decode cX4_trade 96 = .ok (.iload_n 2, 1) := dk_28 (dk_at dksX4_trade_4 3 rfl rfl)
theorem dX4_trade_97 : decode cX4_trade 97 = .ok (.aaload, 1) := dk_50 (dk_at dksX4_trade_4 4 rfl rfl)
theorem dX4_trade_98 : decode cX4_trade 98 = .ok (.dup, 1) := dk_89 (dk_at dksX4_trade_4 5 rfl rfl)
theorem dX4_trade_99 : decode cX4_trade 99 = .ok (.getfield 65, 3) := dk_180 0 65 (dk_at dksX4_trade_4 6 rfl rfl)
theorem dX4_trade_102 : decode cX4_trade 102 = .ok (.iload_n 3, 1) := dk_29 (dk_at dksX4_trade_4 9 rfl rfl)
theorem dX4_trade_103 : decode cX4_trade 103 = .ok (.iadd, 1) := dk_96 (dk_at dksX4_trade_4 10 rfl rfl)
theorem dX4_trade_104 : decode cX4_trade 104 = .ok (.putfield 65, 3) := dk_181 0 65 (dk_at dksX4_trade_4 11 rfl rfl)
theorem dX4_trade_107 : decode cX4_trade 107 = .ok (.aload_n 0, 1) := dk_42 (dk_at dksX4_trade_4 14 rfl rfl)
theorem dX4_trade_108 : decode cX4_trade 108 = .ok (.getfield 15, 3) := dk_180 0 15 (dk_at dksX4_trade_4 15 rfl rfl)
theorem dX4_trade_111 : decode cX4_trade 111 = .ok (.iload_n 2, 1) := dk_28 (dk_at dksX4_trade_4 18 rfl rfl)
theorem dX4_trade_112 : decode cX4_trade 112 = .ok (.aaload, 1) := dk_50 (dk_at dksX4_trade_4 19 rfl rfl)
theorem dX4_trade_113 : decode cX4_trade 113 = .ok (.getfield 65, 3) := dk_180 0 65 (dk_at dksX4_trade_4 20 rfl rfl)
theorem dX4_trade_116 : decode cX4_trade 116 = .ok (.ireturn, 1) := dk_172 (dk_at dksX4_trade_4 23 rfl rfl)
abbrev cX4_gate : ByteArray := prog_14_method_11_code
def yX4_gate : MethodName := ⟨RX4, "gate", "(IIII)I"⟩
def dkwX4_gate_5 : List UInt8 := [182, 0, 83, 87, 42, 180, 0, 22, 182, 0, 47, 4, 100, 172]
abbrev dktX4_gate_5 : List UInt8 := dkwX4_gate_5 ++ []
def dkwX4_gate_4 : List UInt8 := [181, 0, 74, 25, 5, 29, 181, 0, 77, 25, 5, 21, 4, 181, 0, 80, 42, 180, 0, 22, 25, 5]
abbrev dktX4_gate_4 : List UInt8 := dkwX4_gate_4 ++ dktX4_gate_5
def dkwX4_gate_3 : List UInt8 := [42, 6, 182, 0, 55, 172, 187, 0, 68, 89, 183, 0, 70, 58, 5, 25, 5, 27, 181, 0, 71, 25, 5, 28]
abbrev dktX4_gate_3 : List UInt8 := dkwX4_gate_3 ++ dktX4_gate_4
def dkwX4_gate_2 : List UInt8 := [184, 0, 43, 154, 0, 9, 42, 5, 182, 0, 55, 172, 42, 180, 0, 22, 182, 0, 47, 16, 8, 160, 0, 9]
abbrev dktX4_gate_2 : List UInt8 := dkwX4_gate_2 ++ dktX4_gate_3
def dkwX4_gate_1 : List UInt8 := [182, 0, 55, 172, 27, 28, 159, 0, 24, 29, 3, 16, 23, 184, 0, 43, 153, 0, 14, 21, 4, 4, 16, 24]
abbrev dktX4_gate_1 : List UInt8 := dkwX4_gate_1 ++ dktX4_gate_2
def dkwX4_gate_0 : List UInt8 := [42, 3, 181, 0, 40, 42, 27, 182, 0, 51, 153, 0, 11, 42, 28, 182, 0, 51, 154, 0, 9, 42, 4]
abbrev dktX4_gate_0 : List UInt8 := dkwX4_gate_0 ++ dktX4_gate_1
theorem dksX4_gate_0 : cX4_gate.data.toList.drop 0 = dktX4_gate_0 := by decide +kernel
theorem dksX4_gate_1 : cX4_gate.data.toList.drop 23 = dktX4_gate_1 := dk_seg dksX4_gate_0 23 rfl rfl
theorem dksX4_gate_2 : cX4_gate.data.toList.drop 47 = dktX4_gate_2 := dk_seg dksX4_gate_1 24 rfl rfl
theorem dksX4_gate_3 : cX4_gate.data.toList.drop 71 = dktX4_gate_3 := dk_seg dksX4_gate_2 24 rfl rfl
theorem dksX4_gate_4 : cX4_gate.data.toList.drop 95 = dktX4_gate_4 := dk_seg dksX4_gate_3 24 rfl rfl
theorem dksX4_gate_5 : cX4_gate.data.toList.drop 117 = dktX4_gate_5 := dk_seg dksX4_gate_4 22 rfl rfl
theorem dX4_gate_0 : decode cX4_gate 0 = .ok (.aload_n 0, 1) := dk_42 (dk_at dksX4_gate_0 0 rfl rfl)
theorem dX4_gate_1 : decode cX4_gate 1 = .ok (.iconst 0, 1) := dk_3 (dk_at dksX4_gate_0 1 rfl rfl)
theorem dX4_gate_2 : decode cX4_gate 2 = .ok (.putfield 40, 3) := dk_181 0 40 (dk_at dksX4_gate_0 2 rfl rfl)
theorem dX4_gate_5 : decode cX4_gate 5 = .ok (.aload_n 0, 1) := dk_42 (dk_at dksX4_gate_0 5 rfl rfl)
theorem dX4_gate_6 : decode cX4_gate 6 = .ok (.iload_n 1, 1) := dk_27 (dk_at dksX4_gate_0 6 rfl rfl)
theorem dX4_gate_7 : decode cX4_gate 7 = .ok (.invokevirtual 51, 3) := dk_182 0 51 (dk_at dksX4_gate_0 7 rfl rfl)
theorem dX4_gate_10 : decode cX4_gate 10 = .ok (.ifCond .eq 11, 3) := dk_153 0 11 (dk_at dksX4_gate_0 10 rfl rfl)
theorem dX4_gate_13 : decode cX4_gate 13 = .ok (.aload_n 0, 1) := dk_42 (dk_at dksX4_gate_0 13 rfl rfl)
theorem dX4_gate_14 : decode cX4_gate 14 = .ok (.iload_n 2, 1) := dk_28 (dk_at dksX4_gate_0 14 rfl rfl)
theorem dX4_gate_15 : decode cX4_gate 15 = .ok (.invokevirtual 51, 3) := dk_182 0 51 (dk_at dksX4_gate_0 15 rfl rfl)
theorem dX4_gate_18 : decode cX4_gate 18 = .ok (.ifCond .ne 9, 3) := dk_154 0 9 (dk_at dksX4_gate_0 18 rfl rfl)
theorem dX4_gate_21 : decode cX4_gate 21 = .ok (.aload_n 0, 1) := dk_42 (dk_at dksX4_gate_0 21 rfl rfl)
theorem dX4_gate_22 : decode cX4_gate 22 = .ok (.iconst 1, 1) := dk_4 (dk_at dksX4_gate_0 22 rfl rfl)
theorem dX4_gate_23 : decode cX4_gate 23 = .ok (.invokevirtual 55, 3) := dk_182 0 55 (dk_at dksX4_gate_1 0 rfl rfl)
theorem dX4_gate_26 : decode cX4_gate 26 = .ok (.ireturn, 1) := dk_172 (dk_at dksX4_gate_1 3 rfl rfl)
theorem dX4_gate_27 : decode cX4_gate 27 = .ok (.iload_n 1, 1) := dk_27 (dk_at dksX4_gate_1 4 rfl rfl)
theorem dX4_gate_28 : decode cX4_gate 28 = .ok (.iload_n 2, 1) := dk_28 (dk_at dksX4_gate_1 5 rfl rfl)
theorem dX4_gate_29 : decode cX4_gate 29 = .ok (.if_icmp .eq 24, 3) := dk_159 0 24 (dk_at dksX4_gate_1 6 rfl rfl)
theorem dX4_gate_32 : decode cX4_gate 32 = .ok (.iload_n 3, 1) := dk_29 (dk_at dksX4_gate_1 9 rfl rfl)
theorem dX4_gate_33 : decode cX4_gate 33 = .ok (.iconst 0, 1) := dk_3 (dk_at dksX4_gate_1 10 rfl rfl)
theorem dX4_gate_34 : decode cX4_gate 34 = .ok (.bipush 23, 2) := dk_16 23 (dk_at dksX4_gate_1 11 rfl rfl)
theorem dX4_gate_36 : decode cX4_gate 36 = .ok (.invokestatic 43, 3) := dk_184 0 43 (dk_at dksX4_gate_1 13 rfl rfl)
theorem dX4_gate_39 : decode cX4_gate 39 = .ok (.ifCond .eq 14, 3) := dk_153 0 14 (dk_at dksX4_gate_1 16 rfl rfl)
theorem dX4_gate_42 : decode cX4_gate 42 = .ok (.iload 4, 2) := dk_21 4 (dk_at dksX4_gate_1 19 rfl rfl)
theorem dX4_gate_44 : decode cX4_gate 44 = .ok (.iconst 1, 1) := dk_4 (dk_at dksX4_gate_1 21 rfl rfl)
theorem dX4_gate_45 : decode cX4_gate 45 = .ok (.bipush 24, 2) := dk_16 24 (dk_at dksX4_gate_1 22 rfl rfl)
theorem dX4_gate_47 : decode cX4_gate 47 = .ok (.invokestatic 43, 3) := dk_184 0 43 (dk_at dksX4_gate_2 0 rfl rfl)
theorem dX4_gate_50 : decode cX4_gate 50 = .ok (.ifCond .ne 9, 3) := dk_154 0 9 (dk_at dksX4_gate_2 3 rfl rfl)
theorem dX4_gate_53 : decode cX4_gate 53 = .ok (.aload_n 0, 1) := dk_42 (dk_at dksX4_gate_2 6 rfl rfl)
theorem dX4_gate_54 : decode cX4_gate 54 = .ok (.iconst 2, 1) := dk_5 (dk_at dksX4_gate_2 7 rfl rfl)
theorem dX4_gate_55 : decode cX4_gate 55 = .ok (.invokevirtual 55, 3) := dk_182 0 55 (dk_at dksX4_gate_2 8 rfl rfl)
theorem dX4_gate_58 : decode cX4_gate 58 = .ok (.ireturn, 1) := dk_172 (dk_at dksX4_gate_2 11 rfl rfl)
theorem dX4_gate_59 : decode cX4_gate 59 = .ok (.aload_n 0, 1) := dk_42 (dk_at dksX4_gate_2 12 rfl rfl)
theorem dX4_gate_60 : decode cX4_gate 60 = .ok (.getfield 22, 3) := dk_180 0 22 (dk_at dksX4_gate_2 13 rfl rfl)
theorem dX4_gate_63 : decode cX4_gate 63 = .ok (.invokevirtual 47, 3) := dk_182 0 47 (dk_at dksX4_gate_2 16 rfl rfl)
theorem dX4_gate_66 : decode cX4_gate 66 = .ok (.bipush 8, 2) := dk_16 8 (dk_at dksX4_gate_2 19 rfl rfl)
theorem dX4_gate_68 : decode cX4_gate 68 = .ok (.if_icmp .ne 9, 3) := dk_160 0 9 (dk_at dksX4_gate_2 21 rfl rfl)
theorem dX4_gate_71 : decode cX4_gate 71 = .ok (.aload_n 0, 1) := dk_42 (dk_at dksX4_gate_3 0 rfl rfl)
theorem dX4_gate_72 : decode cX4_gate 72 = .ok (.iconst 3, 1) := dk_6 (dk_at dksX4_gate_3 1 rfl rfl)
theorem dX4_gate_73 : decode cX4_gate 73 = .ok (.invokevirtual 55, 3) := dk_182 0 55 (dk_at dksX4_gate_3 2 rfl rfl)
theorem dX4_gate_76 : decode cX4_gate 76 = .ok (.ireturn, 1) := dk_172 (dk_at dksX4_gate_3 5 rfl rfl)
theorem dX4_gate_77 : decode cX4_gate 77 = .ok (.new 68, 3) := dk_187 0 68 (dk_at dksX4_gate_3 6 rfl rfl)
theorem dX4_gate_80 : decode cX4_gate 80 = .ok (.dup, 1) := dk_89 (dk_at dksX4_gate_3 9 rfl rfl)
theorem dX4_gate_81 : decode cX4_gate 81 = .ok (.invokespecial 70, 3) := dk_183 0 70 (dk_at dksX4_gate_3 10 rfl rfl)
theorem dX4_gate_84 : decode cX4_gate 84 = .ok (.astore 5, 2) := dk_58 5 (dk_at dksX4_gate_3 13 rfl rfl)
theorem dX4_gate_86 : decode cX4_gate 86 = .ok (.aload 5, 2) := dk_25 5 (dk_at dksX4_gate_3 15 rfl rfl)
theorem dX4_gate_88 : decode cX4_gate 88 = .ok (.iload_n 1, 1) := dk_27 (dk_at dksX4_gate_3 17 rfl rfl)
theorem dX4_gate_89 : decode cX4_gate 89 = .ok (.putfield 71, 3) := dk_181 0 71 (dk_at dksX4_gate_3 18 rfl rfl)
theorem dX4_gate_92 : decode cX4_gate 92 = .ok (.aload 5, 2) := dk_25 5 (dk_at dksX4_gate_3 21 rfl rfl)
theorem dX4_gate_94 : decode cX4_gate 94 = .ok (.iload_n 2, 1) := dk_28 (dk_at dksX4_gate_3 23 rfl rfl)
theorem dX4_gate_95 : decode cX4_gate 95 = .ok (.putfield 74, 3) := dk_181 0 74 (dk_at dksX4_gate_4 0 rfl rfl)
theorem dX4_gate_98 : decode cX4_gate 98 = .ok (.aload 5, 2) := dk_25 5 (dk_at dksX4_gate_4 3 rfl rfl)
theorem dX4_gate_100 : decode cX4_gate 100 = .ok (.iload_n 3, 1) := dk_29 (dk_at dksX4_gate_4 5 rfl rfl)
theorem dX4_gate_101 : decode cX4_gate 101 = .ok (.putfield 77, 3) := dk_181 0 77 (dk_at dksX4_gate_4 6 rfl rfl)
theorem dX4_gate_104 : decode cX4_gate 104 = .ok (.aload 5, 2) := dk_25 5 (dk_at dksX4_gate_4 9 rfl rfl)
theorem dX4_gate_106 : decode cX4_gate 106 = .ok (.iload 4, 2) := dk_21 4 (dk_at dksX4_gate_4 11 rfl rfl)
theorem dX4_gate_108 : decode cX4_gate 108 = .ok (.putfield 80, 3) := dk_181 0 80 (dk_at dksX4_gate_4 13 rfl rfl)
theorem dX4_gate_111 : decode cX4_gate 111 = .ok (.aload_n 0, 1) := dk_42 (dk_at dksX4_gate_4 16 rfl rfl)
theorem dX4_gate_112 : decode cX4_gate 112 = .ok (.getfield 22, 3) := dk_180 0 22 (dk_at dksX4_gate_4 17 rfl rfl)
theorem dX4_gate_115 : decode cX4_gate 115 = .ok (.aload 5, 2) := dk_25 5 (dk_at dksX4_gate_4 20 rfl rfl)
theorem dX4_gate_117 : decode cX4_gate 117 = .ok (.invokevirtual 83, 3) := dk_182 0 83 (dk_at dksX4_gate_5 0 rfl rfl)
theorem dX4_gate_120 : decode cX4_gate 120 = .ok (.pop, 1) := dk_87 (dk_at dksX4_gate_5 3 rfl rfl)
theorem dX4_gate_121 : decode cX4_gate 121 = .ok (.aload_n 0, 1) := dk_42 (dk_at dksX4_gate_5 4 rfl rfl)
theorem dX4_gate_122 : decode cX4_gate 122 = .ok (.getfield 22, 3) := dk_180 0 22 (dk_at dksX4_gate_5 5 rfl rfl)
theorem dX4_gate_125 : decode cX4_gate 125 = .ok (.invokevirtual 47, 3) := dk_182 0 47 (dk_at dksX4_gate_5 8 rfl rfl)
theorem dX4_gate_128 : decode cX4_gate 128 = .ok (.iconst 1, 1) := dk_4 (dk_at dksX4_gate_5 11 rfl rfl)
theorem dX4_gate_129 : decode cX4_gate 129 = .ok (.isub, 1) := dk_100 (dk_at dksX4_gate_5 12 rfl rfl)
theorem dX4_gate_130 : decode cX4_gate 130 = .ok (.ireturn, 1) := dk_172 (dk_at dksX4_gate_5 13 rfl rfl)
abbrev cX4_odds : ByteArray := prog_14_method_12_code
def yX4_odds : MethodName := ⟨RX4, "odds", "(II)I"⟩
def dkwX4_odds_2 : List UInt8 := [180, 0, 94, 62, 42, 180, 0, 22, 27, 182, 0, 90, 192, 0, 68, 28, 181, 0, 94, 29, 172]
abbrev dktX4_odds_2 : List UInt8 := dkwX4_odds_2 ++ []
def dkwX4_odds_1 : List UInt8 := [184, 0, 43, 154, 0, 9, 42, 5, 182, 0, 55, 172, 42, 180, 0, 22, 27, 182, 0, 90, 192, 0, 68]
abbrev dktX4_odds_1 : List UInt8 := dkwX4_odds_1 ++ dktX4_odds_2
def dkwX4_odds_0 : List UInt8 := [42, 3, 181, 0, 40, 42, 27, 182, 0, 87, 154, 0, 9, 42, 4, 182, 0, 55, 172, 28, 3, 16, 10]
abbrev dktX4_odds_0 : List UInt8 := dkwX4_odds_0 ++ dktX4_odds_1
theorem dksX4_odds_0 : cX4_odds.data.toList.drop 0 = dktX4_odds_0 := by decide +kernel
theorem dksX4_odds_1 : cX4_odds.data.toList.drop 23 = dktX4_odds_1 := dk_seg dksX4_odds_0 23 rfl rfl
theorem dksX4_odds_2 : cX4_odds.data.toList.drop 46 = dktX4_odds_2 := dk_seg dksX4_odds_1 23 rfl rfl
theorem dX4_odds_0 : decode cX4_odds 0 = .ok (.aload_n 0, 1) := dk_42 (dk_at dksX4_odds_0 0 rfl rfl)
theorem dX4_odds_1 : decode cX4_odds 1 = .ok (.iconst 0, 1) := dk_3 (dk_at dksX4_odds_0 1 rfl rfl)
theorem dX4_odds_2 : decode cX4_odds 2 = .ok (.putfield 40, 3) := dk_181 0 40 (dk_at dksX4_odds_0 2 rfl rfl)
theorem dX4_odds_5 : decode cX4_odds 5 = .ok (.aload_n 0, 1) := dk_42 (dk_at dksX4_odds_0 5 rfl rfl)
theorem dX4_odds_6 : decode cX4_odds 6 = .ok (.iload_n 1, 1) := dk_27 (dk_at dksX4_odds_0 6 rfl rfl)
theorem dX4_odds_7 : decode cX4_odds 7 = .ok (.invokevirtual 87, 3) := dk_182 0 87 (dk_at dksX4_odds_0 7 rfl rfl)
theorem dX4_odds_10 : decode cX4_odds 10 = .ok (.ifCond .ne 9, 3) := dk_154 0 9 (dk_at dksX4_odds_0 10 rfl rfl)
theorem dX4_odds_13 : decode cX4_odds 13 = .ok (.aload_n 0, 1) := dk_42 (dk_at dksX4_odds_0 13 rfl rfl)
theorem dX4_odds_14 : decode cX4_odds 14 = .ok (.iconst 1, 1) := dk_4 (dk_at dksX4_odds_0 14 rfl rfl)
theorem dX4_odds_15 : decode cX4_odds 15 = .ok (.invokevirtual 55, 3) := dk_182 0 55 (dk_at dksX4_odds_0 15 rfl rfl)
theorem dX4_odds_18 : decode cX4_odds 18 = .ok (.ireturn, 1) := dk_172 (dk_at dksX4_odds_0 18 rfl rfl)
theorem dX4_odds_19 : decode cX4_odds 19 = .ok (.iload_n 2, 1) := dk_28 (dk_at dksX4_odds_0 19 rfl rfl)
theorem dX4_odds_20 : decode cX4_odds 20 = .ok (.iconst 0, 1) := dk_3 (dk_at dksX4_odds_0 20 rfl rfl)
theorem dX4_odds_21 : decode cX4_odds 21 = .ok (.bipush 10, 2) := dk_16 10 (dk_at dksX4_odds_0 21 rfl rfl)
theorem dX4_odds_23 : decode cX4_odds 23 = .ok (.invokestatic 43, 3) := dk_184 0 43 (dk_at dksX4_odds_1 0 rfl rfl)
theorem dX4_odds_26 : decode cX4_odds 26 = .ok (.ifCond .ne 9, 3) := dk_154 0 9 (dk_at dksX4_odds_1 3 rfl rfl)
theorem dX4_odds_29 : decode cX4_odds 29 = .ok (.aload_n 0, 1) := dk_42 (dk_at dksX4_odds_1 6 rfl rfl)
theorem dX4_odds_30 : decode cX4_odds 30 = .ok (.iconst 2, 1) := dk_5 (dk_at dksX4_odds_1 7 rfl rfl)
theorem dX4_odds_31 : decode cX4_odds 31 = .ok (.invokevirtual 55, 3) := dk_182 0 55 (dk_at dksX4_odds_1 8 rfl rfl)
theorem dX4_odds_34 : decode cX4_odds 34 = .ok (.ireturn, 1) := dk_172 (dk_at dksX4_odds_1 11 rfl rfl)
theorem dX4_odds_35 : decode cX4_odds 35 = .ok (.aload_n 0, 1) := dk_42 (dk_at dksX4_odds_1 12 rfl rfl)
theorem dX4_odds_36 : decode cX4_odds 36 = .ok (.getfield 22, 3) := dk_180 0 22 (dk_at dksX4_odds_1 13 rfl rfl)
theorem dX4_odds_39 : decode cX4_odds 39 = .ok (.iload_n 1, 1) := dk_27 (dk_at dksX4_odds_1 16 rfl rfl)
theorem dX4_odds_40 : decode cX4_odds 40 = .ok (.invokevirtual 90, 3) := dk_182 0 90 (dk_at dksX4_odds_1 17 rfl rfl)
theorem dX4_odds_43 : decode cX4_odds 43 = .ok (.checkcast 68, 3) := dk_192 0 68 (dk_at dksX4_odds_1 20 rfl rfl)
theorem dX4_odds_46 : decode cX4_odds 46 = .ok (.getfield 94, 3) := dk_180 0 94 (dk_at dksX4_odds_2 0 rfl rfl)
theorem dX4_odds_49 : decode cX4_odds 49 = .ok (.istore_n 3, 1) := dk_62 (dk_at dksX4_odds_2 3 rfl rfl)
theorem dX4_odds_50 : decode cX4_odds 50 = .ok (.aload_n 0, 1) := dk_42 (dk_at dksX4_odds_2 4 rfl rfl)
theorem dX4_odds_51 : decode cX4_odds 51 = .ok (.getfield 22, 3) := dk_180 0 22 (dk_at dksX4_odds_2 5 rfl rfl)
theorem dX4_odds_54 : decode cX4_odds 54 = .ok (.iload_n 1, 1) := dk_27 (dk_at dksX4_odds_2 8 rfl rfl)
theorem dX4_odds_55 : decode cX4_odds 55 = .ok (.invokevirtual 90, 3) := dk_182 0 90 (dk_at dksX4_odds_2 9 rfl rfl)
theorem dX4_odds_58 : decode cX4_odds 58 = .ok (.checkcast 68, 3) := dk_192 0 68 (dk_at dksX4_odds_2 12 rfl rfl)
theorem dX4_odds_61 : decode cX4_odds 61 = .ok (.iload_n 2, 1) := dk_28 (dk_at dksX4_odds_2 15 rfl rfl)
theorem dX4_odds_62 : decode cX4_odds 62 = .ok (.putfield 94, 3) := dk_181 0 94 (dk_at dksX4_odds_2 16 rfl rfl)
theorem dX4_odds_65 : decode cX4_odds 65 = .ok (.iload_n 3, 1) := dk_29 (dk_at dksX4_odds_2 19 rfl rfl)
theorem dX4_odds_66 : decode cX4_odds 66 = .ok (.ireturn, 1) := dk_172 (dk_at dksX4_odds_2 20 rfl rfl)
abbrev cX4_isGate : ByteArray := prog_14_method_6_code
def yX4_isGate : MethodName := ⟨RX4, "isGate", "(I)Z"⟩
def dkwX4_isGate_0 : List UInt8 := [27, 3, 42, 180, 0, 22, 182, 0, 47, 4, 100, 184, 0, 43, 172]
abbrev dktX4_isGate_0 : List UInt8 := dkwX4_isGate_0 ++ []
theorem dksX4_isGate_0 : cX4_isGate.data.toList.drop 0 = dktX4_isGate_0 := by decide +kernel
theorem dX4_isGate_0 : decode cX4_isGate 0 = .ok (.iload_n 1, 1) := dk_27 (dk_at dksX4_isGate_0 0 rfl rfl)
theorem dX4_isGate_1 : decode cX4_isGate 1 = .ok (.iconst 0, 1) := dk_3 (dk_at dksX4_isGate_0 1 rfl rfl)
theorem dX4_isGate_2 : decode cX4_isGate 2 = .ok (.aload_n 0, 1) := dk_42 (dk_at dksX4_isGate_0 2 rfl rfl)
theorem dX4_isGate_3 : decode cX4_isGate 3 = .ok (.getfield 22, 3) := dk_180 0 22 (dk_at dksX4_isGate_0 3 rfl rfl)
theorem dX4_isGate_6 : decode cX4_isGate 6 = .ok (.invokevirtual 47, 3) := dk_182 0 47 (dk_at dksX4_isGate_0 6 rfl rfl)
theorem dX4_isGate_9 : decode cX4_isGate 9 = .ok (.iconst 1, 1) := dk_4 (dk_at dksX4_isGate_0 9 rfl rfl)
theorem dX4_isGate_10 : decode cX4_isGate 10 = .ok (.isub, 1) := dk_100 (dk_at dksX4_isGate_0 10 rfl rfl)
theorem dX4_isGate_11 : decode cX4_isGate 11 = .ok (.invokestatic 43, 3) := dk_184 0 43 (dk_at dksX4_isGate_0 11 rfl rfl)
theorem dX4_isGate_14 : decode cX4_isGate 14 = .ok (.ireturn, 1) := dk_172 (dk_at dksX4_isGate_0 14 rfl rfl)
abbrev cX4_relieve : ByteArray := prog_14_method_13_code
def yX4_relieve : MethodName := ⟨RX4, "relieve", "(I)I"⟩
def dkwX4_relieve_2 : List UInt8 := [181, 0, 97, 28, 172]
abbrev dktX4_relieve_2 : List UInt8 := dkwX4_relieve_2 ++ []
def dkwX4_relieve_1 : List UInt8 := [182, 0, 90, 192, 0, 68, 180, 0, 97, 61, 42, 180, 0, 22, 27, 182, 0, 90, 192, 0, 68, 3]
abbrev dktX4_relieve_1 : List UInt8 := dkwX4_relieve_1 ++ dktX4_relieve_2
def dkwX4_relieve_0 : List UInt8 := [42, 3, 181, 0, 40, 42, 27, 182, 0, 87, 154, 0, 9, 42, 4, 182, 0, 55, 172, 42, 180, 0, 22, 27]
abbrev dktX4_relieve_0 : List UInt8 := dkwX4_relieve_0 ++ dktX4_relieve_1
theorem dksX4_relieve_0 : cX4_relieve.data.toList.drop 0 = dktX4_relieve_0 := by decide +kernel
theorem dksX4_relieve_1 : cX4_relieve.data.toList.drop 24 = dktX4_relieve_1 := dk_seg dksX4_relieve_0 24 rfl rfl
theorem dksX4_relieve_2 : cX4_relieve.data.toList.drop 46 = dktX4_relieve_2 := dk_seg dksX4_relieve_1 22 rfl rfl
theorem dX4_relieve_0 : decode cX4_relieve 0 = .ok (.aload_n 0, 1) := dk_42 (dk_at dksX4_relieve_0 0 rfl rfl)
theorem dX4_relieve_1 : decode cX4_relieve 1 = .ok (.iconst 0, 1) := dk_3 (dk_at dksX4_relieve_0 1 rfl rfl)
theorem dX4_relieve_2 : decode cX4_relieve 2 = .ok (.putfield 40, 3) := dk_181 0 40 (dk_at dksX4_relieve_0 2 rfl rfl)
theorem dX4_relieve_5 : decode cX4_relieve 5 = .ok (.aload_n 0, 1) := dk_42 (dk_at dksX4_relieve_0 5 rfl rfl)
theorem dX4_relieve_6 : decode cX4_relieve 6 = .ok (.iload_n 1, 1) := dk_27 (dk_at dksX4_relieve_0 6 rfl rfl)
theorem dX4_relieve_7 : decode cX4_relieve 7 = .ok (.invokevirtual 87, 3) := dk_182 0 87 (dk_at dksX4_relieve_0 7 rfl rfl)
theorem dX4_relieve_10 : decode cX4_relieve 10 = .ok (.ifCond .ne 9, 3) := dk_154 0 9 (dk_at dksX4_relieve_0 10 rfl rfl)
theorem dX4_relieve_13 : decode cX4_relieve 13 = .ok (.aload_n 0, 1) := dk_42 (dk_at dksX4_relieve_0 13 rfl rfl)
theorem dX4_relieve_14 : decode cX4_relieve 14 = .ok (.iconst 1, 1) := dk_4 (dk_at dksX4_relieve_0 14 rfl rfl)
theorem dX4_relieve_15 : decode cX4_relieve 15 = .ok (.invokevirtual 55, 3) := dk_182 0 55 (dk_at dksX4_relieve_0 15 rfl rfl)
theorem dX4_relieve_18 : decode cX4_relieve 18 = .ok (.ireturn, 1) := dk_172 (dk_at dksX4_relieve_0 18 rfl rfl)
theorem dX4_relieve_19 : decode cX4_relieve 19 = .ok (.aload_n 0, 1) := dk_42 (dk_at dksX4_relieve_0 19 rfl rfl)
theorem dX4_relieve_20 : decode cX4_relieve 20 = .ok (.getfield 22, 3) := dk_180 0 22 (dk_at dksX4_relieve_0 20 rfl rfl)
theorem dX4_relieve_23 : decode cX4_relieve 23 = .ok (.iload_n 1, 1) := dk_27 (dk_at dksX4_relieve_0 23 rfl rfl)
theorem dX4_relieve_24 : decode cX4_relieve 24 = .ok (.invokevirtual 90, 3) := dk_182 0 90 (dk_at dksX4_relieve_1 0 rfl rfl)
theorem dX4_relieve_27 : decode cX4_relieve 27 = .ok (.checkcast 68, 3) := dk_192 0 68 (dk_at dksX4_relieve_1 3 rfl rfl)
theorem dX4_relieve_30 : decode cX4_relieve 30 = .ok (.getfield 97, 3) := dk_180 0 97 (dk_at dksX4_relieve_1 6 rfl rfl)
theorem dX4_relieve_33 : decode cX4_relieve 33 = .ok (.istore_n 2, 1) := dk_61 (dk_at dksX4_relieve_1 9 rfl rfl)
theorem dX4_relieve_34 : decode cX4_relieve 34 = .ok (.aload_n 0, 1) := dk_42 (dk_at dksX4_relieve_1 10 rfl rfl)
theorem dX4_relieve_35 : decode cX4_relieve 35 = .ok (.getfield 22, 3) := dk_180 0 22 (dk_at dksX4_relieve_1 11 rfl rfl)
theorem dX4_relieve_38 : decode cX4_relieve 38 = .ok (.iload_n 1, 1) := dk_27 (dk_at dksX4_relieve_1 14 rfl rfl)
theorem dX4_relieve_39 : decode cX4_relieve 39 = .ok (.invokevirtual 90, 3) := dk_182 0 90 (dk_at dksX4_relieve_1 15 rfl rfl)
theorem dX4_relieve_42 : decode cX4_relieve 42 = .ok (.checkcast 68, 3) := dk_192 0 68 (dk_at dksX4_relieve_1 18 rfl rfl)
theorem dX4_relieve_45 : decode cX4_relieve 45 = .ok (.iconst 0, 1) := dk_3 (dk_at dksX4_relieve_1 21 rfl rfl)
theorem dX4_relieve_46 : decode cX4_relieve 46 = .ok (.putfield 97, 3) := dk_181 0 97 (dk_at dksX4_relieve_2 0 rfl rfl)
theorem dX4_relieve_49 : decode cX4_relieve 49 = .ok (.iload_n 2, 1) := dk_28 (dk_at dksX4_relieve_2 3 rfl rfl)
theorem dX4_relieve_50 : decode cX4_relieve 50 = .ok (.ireturn, 1) := dk_172 (dk_at dksX4_relieve_2 4 rfl rfl)
abbrev cX4_sleeper : ByteArray := prog_14_method_14_code
def yX4_sleeper : MethodName := ⟨RX4, "sleeper", "(IZI)I"⟩
def dkwX4_sleeper_4 : List UInt8 := [182, 0, 47, 4, 100, 172]
abbrev dktX4_sleeper_4 : List UInt8 := dkwX4_sleeper_4 ++ []
def dkwX4_sleeper_3 : List UInt8 := [181, 0, 106, 25, 4, 29, 181, 0, 110, 42, 180, 0, 26, 25, 4, 182, 0, 83, 87, 42, 180, 0, 26]
abbrev dktX4_sleeper_3 : List UInt8 := dkwX4_sleeper_3 ++ dktX4_sleeper_4
def dkwX4_sleeper_2 : List UInt8 := [42, 6, 182, 0, 55, 172, 187, 0, 100, 89, 183, 0, 102, 58, 4, 25, 4, 27, 181, 0, 103, 25, 4, 28]
abbrev dktX4_sleeper_2 : List UInt8 := dkwX4_sleeper_2 ++ dktX4_sleeper_3
def dkwX4_sleeper_1 : List UInt8 := [184, 0, 43, 154, 0, 9, 42, 5, 182, 0, 55, 172, 42, 180, 0, 26, 182, 0, 47, 16, 12, 160, 0, 9]
abbrev dktX4_sleeper_1 : List UInt8 := dkwX4_sleeper_1 ++ dktX4_sleeper_2
def dkwX4_sleeper_0 : List UInt8 := [42, 3, 181, 0, 40, 42, 27, 182, 0, 51, 154, 0, 9, 42, 4, 182, 0, 55, 172, 29, 4, 16, 9]
abbrev dktX4_sleeper_0 : List UInt8 := dkwX4_sleeper_0 ++ dktX4_sleeper_1
theorem dksX4_sleeper_0 : cX4_sleeper.data.toList.drop 0 = dktX4_sleeper_0 := by decide +kernel
theorem dksX4_sleeper_1 : cX4_sleeper.data.toList.drop 23 = dktX4_sleeper_1 := dk_seg dksX4_sleeper_0 23 rfl rfl
theorem dksX4_sleeper_2 : cX4_sleeper.data.toList.drop 47 = dktX4_sleeper_2 := dk_seg dksX4_sleeper_1 24 rfl rfl
theorem dksX4_sleeper_3 : cX4_sleeper.data.toList.drop 71 = dktX4_sleeper_3 := dk_seg dksX4_sleeper_2 24 rfl rfl
theorem dksX4_sleeper_4 : cX4_sleeper.data.toList.drop 94 = dktX4_sleeper_4 := dk_seg dksX4_sleeper_3 23 rfl rfl
theorem dX4_sleeper_0 : decode cX4_sleeper 0 = .ok (.aload_n 0, 1) := dk_42 (dk_at dksX4_sleeper_0 0 rfl rfl)
theorem dX4_sleeper_1 : decode cX4_sleeper 1 = .ok (.iconst 0, 1) := dk_3 (dk_at dksX4_sleeper_0 1 rfl rfl)
theorem dX4_sleeper_2 : decode cX4_sleeper 2 = .ok (.putfield 40, 3) := dk_181 0 40 (dk_at dksX4_sleeper_0 2 rfl rfl)
theorem dX4_sleeper_5 : decode cX4_sleeper 5 = .ok (.aload_n 0, 1) := dk_42 (dk_at dksX4_sleeper_0 5 rfl rfl)
theorem dX4_sleeper_6 : decode cX4_sleeper 6 = .ok (.iload_n 1, 1) := dk_27 (dk_at dksX4_sleeper_0 6 rfl rfl)
theorem dX4_sleeper_7 : decode cX4_sleeper 7 = .ok (.invokevirtual 51, 3) := dk_182 0 51 (dk_at dksX4_sleeper_0 7 rfl rfl)
theorem dX4_sleeper_10 : decode cX4_sleeper 10 = .ok (.ifCond .ne 9, 3) := dk_154 0 9 (dk_at dksX4_sleeper_0 10 rfl rfl)
theorem dX4_sleeper_13 : decode cX4_sleeper 13 = .ok (.aload_n 0, 1) := dk_42 (dk_at dksX4_sleeper_0 13 rfl rfl)
theorem dX4_sleeper_14 : decode cX4_sleeper 14 = .ok (.iconst 1, 1) := dk_4 (dk_at dksX4_sleeper_0 14 rfl rfl)
theorem dX4_sleeper_15 : decode cX4_sleeper 15 = .ok (.invokevirtual 55, 3) := dk_182 0 55 (dk_at dksX4_sleeper_0 15 rfl rfl)
theorem dX4_sleeper_18 : decode cX4_sleeper 18 = .ok (.ireturn, 1) := dk_172 (dk_at dksX4_sleeper_0 18 rfl rfl)
theorem dX4_sleeper_19 : decode cX4_sleeper 19 = .ok (.iload_n 3, 1) := dk_29 (dk_at dksX4_sleeper_0 19 rfl rfl)
theorem dX4_sleeper_20 : decode cX4_sleeper 20 = .ok (.iconst 1, 1) := dk_4 (dk_at dksX4_sleeper_0 20 rfl rfl)
theorem dX4_sleeper_21 : decode cX4_sleeper 21 = .ok (.bipush 9, 2) := dk_16 9 (dk_at dksX4_sleeper_0 21 rfl rfl)
theorem dX4_sleeper_23 : decode cX4_sleeper 23 = .ok (.invokestatic 43, 3) := dk_184 0 43 (dk_at dksX4_sleeper_1 0 rfl rfl)
theorem dX4_sleeper_26 : decode cX4_sleeper 26 = .ok (.ifCond .ne 9, 3) := dk_154 0 9 (dk_at dksX4_sleeper_1 3 rfl rfl)
theorem dX4_sleeper_29 : decode cX4_sleeper 29 = .ok (.aload_n 0, 1) := dk_42 (dk_at dksX4_sleeper_1 6 rfl rfl)
theorem dX4_sleeper_30 : decode cX4_sleeper 30 = .ok (.iconst 2, 1) := dk_5 (dk_at dksX4_sleeper_1 7 rfl rfl)
theorem dX4_sleeper_31 : decode cX4_sleeper 31 = .ok (.invokevirtual 55, 3) := dk_182 0 55 (dk_at dksX4_sleeper_1 8 rfl rfl)
theorem dX4_sleeper_34 : decode cX4_sleeper 34 = .ok (.ireturn, 1) := dk_172 (dk_at dksX4_sleeper_1 11 rfl rfl)
theorem dX4_sleeper_35 : decode cX4_sleeper 35 = .ok (.aload_n 0, 1) := dk_42 (dk_at dksX4_sleeper_1 12 rfl rfl)
theorem dX4_sleeper_36 : decode cX4_sleeper 36 = .ok (.getfield 26, 3) := dk_180 0 26 (dk_at dksX4_sleeper_1 13 rfl rfl)
theorem dX4_sleeper_39 : decode cX4_sleeper 39 = .ok (.invokevirtual 47, 3) := dk_182 0 47 (dk_at dksX4_sleeper_1 16 rfl rfl)
theorem dX4_sleeper_42 : decode cX4_sleeper 42 = .ok (.bipush 12, 2) := dk_16 12 (dk_at dksX4_sleeper_1 19 rfl rfl)
theorem dX4_sleeper_44 : decode cX4_sleeper 44 = .ok (.if_icmp .ne 9, 3) := dk_160 0 9 (dk_at dksX4_sleeper_1 21 rfl rfl)
theorem dX4_sleeper_47 : decode cX4_sleeper 47 = .ok (.aload_n 0, 1) := dk_42 (dk_at dksX4_sleeper_2 0 rfl rfl)
theorem dX4_sleeper_48 : decode cX4_sleeper 48 = .ok (.iconst 3, 1) := dk_6 (dk_at dksX4_sleeper_2 1 rfl rfl)
theorem dX4_sleeper_49 : decode cX4_sleeper 49 = .ok (.invokevirtual 55, 3) := dk_182 0 55 (dk_at dksX4_sleeper_2 2 rfl rfl)
theorem dX4_sleeper_52 : decode cX4_sleeper 52 = .ok (.ireturn, 1) := dk_172 (dk_at dksX4_sleeper_2 5 rfl rfl)
theorem dX4_sleeper_53 : decode cX4_sleeper 53 = .ok (.new 100, 3) := dk_187 0 100 (dk_at dksX4_sleeper_2 6 rfl rfl)
theorem dX4_sleeper_56 : decode cX4_sleeper 56 = .ok (.dup, 1) := dk_89 (dk_at dksX4_sleeper_2 9 rfl rfl)
theorem dX4_sleeper_57 : decode cX4_sleeper 57 = .ok (.invokespecial 102, 3) := dk_183 0 102 (dk_at dksX4_sleeper_2 10 rfl rfl)
theorem dX4_sleeper_60 : decode cX4_sleeper 60 = .ok (.astore 4, 2) := dk_58 4 (dk_at dksX4_sleeper_2 13 rfl rfl)
theorem dX4_sleeper_62 : decode cX4_sleeper 62 = .ok (.aload 4, 2) := dk_25 4 (dk_at dksX4_sleeper_2 15 rfl rfl)
theorem dX4_sleeper_64 : decode cX4_sleeper 64 = .ok (.iload_n 1, 1) := dk_27 (dk_at dksX4_sleeper_2 17 rfl rfl)
theorem dX4_sleeper_65 : decode cX4_sleeper 65 = .ok (.putfield 103, 3) := dk_181 0 103 (dk_at dksX4_sleeper_2 18 rfl rfl)
theorem dX4_sleeper_68 : decode cX4_sleeper 68 = .ok (.aload 4, 2) := dk_25 4 (dk_at dksX4_sleeper_2 21 rfl rfl)
theorem dX4_sleeper_70 : decode cX4_sleeper 70 = .ok (.iload_n 2, 1) := dk_28 (dk_at dksX4_sleeper_2 23 rfl rfl)
theorem dX4_sleeper_71 : decode cX4_sleeper 71 = .ok (.putfield 106, 3) := dk_181 0 106 (dk_at dksX4_sleeper_3 0 rfl rfl)
theorem dX4_sleeper_74 : decode cX4_sleeper 74 = .ok (.aload 4, 2) := dk_25 4 (dk_at dksX4_sleeper_3 3 rfl rfl)
theorem dX4_sleeper_76 : decode cX4_sleeper 76 = .ok (.iload_n 3, 1) := dk_29 (dk_at dksX4_sleeper_3 5 rfl rfl)
theorem dX4_sleeper_77 : decode cX4_sleeper 77 = .ok (.putfield 110, 3) := dk_181 0 110 (dk_at dksX4_sleeper_3 6 rfl rfl)
theorem dX4_sleeper_80 : decode cX4_sleeper 80 = .ok (.aload_n 0, 1) := dk_42 (dk_at dksX4_sleeper_3 9 rfl rfl)
theorem dX4_sleeper_81 : decode cX4_sleeper 81 = .ok (.getfield 26, 3) := dk_180 0 26 (dk_at dksX4_sleeper_3 10 rfl rfl)
theorem dX4_sleeper_84 : decode cX4_sleeper 84 = .ok (.aload 4, 2) := dk_25 4 (dk_at dksX4_sleeper_3 13 rfl rfl)
theorem dX4_sleeper_86 : decode cX4_sleeper 86 = .ok (.invokevirtual 83, 3) := dk_182 0 83 (dk_at dksX4_sleeper_3 15 rfl rfl)
theorem dX4_sleeper_89 : decode cX4_sleeper 89 = .ok (.pop, 1) := dk_87 (dk_at dksX4_sleeper_3 18 rfl rfl)
theorem dX4_sleeper_90 : decode cX4_sleeper 90 = .ok (.aload_n 0, 1) := dk_42 (dk_at dksX4_sleeper_3 19 rfl rfl)
theorem dX4_sleeper_91 : decode cX4_sleeper 91 = .ok (.getfield 26, 3) := dk_180 0 26 (dk_at dksX4_sleeper_3 20 rfl rfl)
theorem dX4_sleeper_94 : decode cX4_sleeper 94 = .ok (.invokevirtual 47, 3) := dk_182 0 47 (dk_at dksX4_sleeper_4 0 rfl rfl)
theorem dX4_sleeper_97 : decode cX4_sleeper 97 = .ok (.iconst 1, 1) := dk_4 (dk_at dksX4_sleeper_4 3 rfl rfl)
theorem dX4_sleeper_98 : decode cX4_sleeper 98 = .ok (.isub, 1) := dk_100 (dk_at dksX4_sleeper_4 4 rfl rfl)
theorem dX4_sleeper_99 : decode cX4_sleeper 99 = .ok (.ireturn, 1) := dk_172 (dk_at dksX4_sleeper_4 5 rfl rfl)
abbrev cX4_part : ByteArray := prog_14_method_15_code
def yX4_part : MethodName := ⟨RX4, "part", "(IIII)I"⟩
def dkwX4_part_6 : List UInt8 := [180, 0, 29, 182, 0, 47, 4, 100, 172]
abbrev dktX4_part_6 : List UInt8 := dkwX4_part_6 ++ []
def dkwX4_part_5 : List UInt8 := [21, 4, 181, 0, 128, 25, 5, 27, 181, 0, 131, 42, 180, 0, 29, 25, 5, 182, 0, 83, 87, 42]
abbrev dktX4_part_5 : List UInt8 := dkwX4_part_5 ++ dktX4_part_6
def dkwX4_part_4 : List UInt8 := [187, 0, 119, 89, 183, 0, 121, 58, 5, 25, 5, 28, 181, 0, 122, 25, 5, 29, 181, 0, 125, 25, 5]
abbrev dktX4_part_4 : List UInt8 := dkwX4_part_4 ++ dktX4_part_5
def dkwX4_part_3 : List UInt8 := [180, 0, 26, 27, 182, 0, 90, 192, 0, 100, 180, 0, 116, 153, 0, 9, 42, 6, 182, 0, 55, 172]
abbrev dktX4_part_3 : List UInt8 := dkwX4_part_3 ++ dktX4_part_4
def dkwX4_part_2 : List UInt8 := [154, 0, 9, 42, 5, 182, 0, 55, 172, 42, 180, 0, 29, 182, 0, 47, 16, 24, 159, 0, 20, 42]
abbrev dktX4_part_2 : List UInt8 := dkwX4_part_2 ++ dktX4_part_3
def dkwX4_part_1 : List UInt8 := [184, 0, 43, 153, 0, 24, 29, 3, 16, 99, 184, 0, 43, 153, 0, 14, 21, 4, 3, 16, 9, 184, 0, 43]
abbrev dktX4_part_1 : List UInt8 := dkwX4_part_1 ++ dktX4_part_2
def dkwX4_part_0 : List UInt8 := [42, 3, 181, 0, 40, 42, 27, 182, 0, 113, 154, 0, 9, 42, 4, 182, 0, 55, 172, 28, 3, 16, 7]
abbrev dktX4_part_0 : List UInt8 := dkwX4_part_0 ++ dktX4_part_1
theorem dksX4_part_0 : cX4_part.data.toList.drop 0 = dktX4_part_0 := by decide +kernel
theorem dksX4_part_1 : cX4_part.data.toList.drop 23 = dktX4_part_1 := dk_seg dksX4_part_0 23 rfl rfl
theorem dksX4_part_2 : cX4_part.data.toList.drop 47 = dktX4_part_2 := dk_seg dksX4_part_1 24 rfl rfl
theorem dksX4_part_3 : cX4_part.data.toList.drop 69 = dktX4_part_3 := dk_seg dksX4_part_2 22 rfl rfl
theorem dksX4_part_4 : cX4_part.data.toList.drop 91 = dktX4_part_4 := dk_seg dksX4_part_3 22 rfl rfl
theorem dksX4_part_5 : cX4_part.data.toList.drop 114 = dktX4_part_5 := dk_seg dksX4_part_4 23 rfl rfl
theorem dksX4_part_6 : cX4_part.data.toList.drop 136 = dktX4_part_6 := dk_seg dksX4_part_5 22 rfl rfl
theorem dX4_part_0 : decode cX4_part 0 = .ok (.aload_n 0, 1) := dk_42 (dk_at dksX4_part_0 0 rfl rfl)
theorem dX4_part_1 : decode cX4_part 1 = .ok (.iconst 0, 1) := dk_3 (dk_at dksX4_part_0 1 rfl rfl)
theorem dX4_part_2 : decode cX4_part 2 = .ok (.putfield 40, 3) := dk_181 0 40 (dk_at dksX4_part_0 2 rfl rfl)
theorem dX4_part_5 : decode cX4_part 5 = .ok (.aload_n 0, 1) := dk_42 (dk_at dksX4_part_0 5 rfl rfl)
theorem dX4_part_6 : decode cX4_part 6 = .ok (.iload_n 1, 1) := dk_27 (dk_at dksX4_part_0 6 rfl rfl)
theorem dX4_part_7 : decode cX4_part 7 = .ok (.invokevirtual 113, 3) := dk_182 0 113 (dk_at dksX4_part_0 7 rfl rfl)
theorem dX4_part_10 : decode cX4_part 10 = .ok (.ifCond .ne 9, 3) := dk_154 0 9 (dk_at dksX4_part_0 10 rfl rfl)
theorem dX4_part_13 : decode cX4_part 13 = .ok (.aload_n 0, 1) := dk_42 (dk_at dksX4_part_0 13 rfl rfl)
theorem dX4_part_14 : decode cX4_part 14 = .ok (.iconst 1, 1) := dk_4 (dk_at dksX4_part_0 14 rfl rfl)
theorem dX4_part_15 : decode cX4_part 15 = .ok (.invokevirtual 55, 3) := dk_182 0 55 (dk_at dksX4_part_0 15 rfl rfl)
theorem dX4_part_18 : decode cX4_part 18 = .ok (.ireturn, 1) := dk_172 (dk_at dksX4_part_0 18 rfl rfl)
theorem dX4_part_19 : decode cX4_part 19 = .ok (.iload_n 2, 1) := dk_28 (dk_at dksX4_part_0 19 rfl rfl)
theorem dX4_part_20 : decode cX4_part 20 = .ok (.iconst 0, 1) := dk_3 (dk_at dksX4_part_0 20 rfl rfl)
theorem dX4_part_21 : decode cX4_part 21 = .ok (.bipush 7, 2) := dk_16 7 (dk_at dksX4_part_0 21 rfl rfl)
theorem dX4_part_23 : decode cX4_part 23 = .ok (.invokestatic 43, 3) := dk_184 0 43 (dk_at dksX4_part_1 0 rfl rfl)
theorem dX4_part_26 : decode cX4_part 26 = .ok (.ifCond .eq 24, 3) := dk_153 0 24 (dk_at dksX4_part_1 3 rfl rfl)
theorem dX4_part_29 : decode cX4_part 29 = .ok (.iload_n 3, 1) := dk_29 (dk_at dksX4_part_1 6 rfl rfl)
theorem dX4_part_30 : decode cX4_part 30 = .ok (.iconst 0, 1) := dk_3 (dk_at dksX4_part_1 7 rfl rfl)
theorem dX4_part_31 : decode cX4_part 31 = .ok (.bipush 99, 2) := dk_16 99 (dk_at dksX4_part_1 8 rfl rfl)
theorem dX4_part_33 : decode cX4_part 33 = .ok (.invokestatic 43, 3) := dk_184 0 43 (dk_at dksX4_part_1 10 rfl rfl)
theorem dX4_part_36 : decode cX4_part 36 = .ok (.ifCond .eq 14, 3) := dk_153 0 14 (dk_at dksX4_part_1 13 rfl rfl)
theorem dX4_part_39 : decode cX4_part 39 = .ok (.iload 4, 2) := dk_21 4 (dk_at dksX4_part_1 16 rfl rfl)
theorem dX4_part_41 : decode cX4_part 41 = .ok (.iconst 0, 1) := dk_3 (dk_at dksX4_part_1 18 rfl rfl)
theorem dX4_part_42 : decode cX4_part 42 = .ok (.bipush 9, 2) := dk_16 9 (dk_at dksX4_part_1 19 rfl rfl)
theorem dX4_part_44 : decode cX4_part 44 = .ok (.invokestatic 43, 3) := dk_184 0 43 (dk_at dksX4_part_1 21 rfl rfl)
theorem dX4_part_47 : decode cX4_part 47 = .ok (.ifCond .ne 9, 3) := dk_154 0 9 (dk_at dksX4_part_2 0 rfl rfl)
theorem dX4_part_50 : decode cX4_part 50 = .ok (.aload_n 0, 1) := dk_42 (dk_at dksX4_part_2 3 rfl rfl)
theorem dX4_part_51 : decode cX4_part 51 = .ok (.iconst 2, 1) := dk_5 (dk_at dksX4_part_2 4 rfl rfl)
theorem dX4_part_52 : decode cX4_part 52 = .ok (.invokevirtual 55, 3) := dk_182 0 55 (dk_at dksX4_part_2 5 rfl rfl)
theorem dX4_part_55 : decode cX4_part 55 = .ok (.ireturn, 1) := dk_172 (dk_at dksX4_part_2 8 rfl rfl)
theorem dX4_part_56 : decode cX4_part 56 = .ok (.aload_n 0, 1) := dk_42 (dk_at dksX4_part_2 9 rfl rfl)
theorem dX4_part_57 : decode cX4_part 57 = .ok (.getfield 29, 3) := dk_180 0 29 (dk_at dksX4_part_2 10 rfl rfl)
theorem dX4_part_60 : decode cX4_part 60 = .ok (.invokevirtual 47, 3) := dk_182 0 47 (dk_at dksX4_part_2 13 rfl rfl)
theorem dX4_part_63 : decode cX4_part 63 = .ok (.bipush 24, 2) := dk_16 24 (dk_at dksX4_part_2 16 rfl rfl)
theorem dX4_part_65 : decode cX4_part 65 = .ok (.if_icmp .eq 20, 3) := dk_159 0 20 (dk_at dksX4_part_2 18 rfl rfl)
theorem dX4_part_68 : decode cX4_part 68 = .ok (.aload_n 0, 1) := dk_42 (dk_at dksX4_part_2 21 rfl rfl)
theorem dX4_part_69 : decode cX4_part 69 = .ok (.getfield 26, 3) := dk_180 0 26 (dk_at dksX4_part_3 0 rfl rfl)
theorem dX4_part_72 : decode cX4_part 72 = .ok (.iload_n 1, 1) := dk_27 (dk_at dksX4_part_3 3 rfl rfl)
theorem dX4_part_73 : decode cX4_part 73 = .ok (.invokevirtual 90, 3) := dk_182 0 90 (dk_at dksX4_part_3 4 rfl rfl)
theorem dX4_part_76 : decode cX4_part 76 = .ok (.checkcast 100, 3) := dk_192 0 100 (dk_at dksX4_part_3 7 rfl rfl)
theorem dX4_part_79 : decode cX4_part 79 = .ok (.getfield 116, 3) := dk_180 0 116 (dk_at dksX4_part_3 10 rfl rfl)
theorem dX4_part_82 : decode cX4_part 82 = .ok (.ifCond .eq 9, 3) := dk_153 0 9 (dk_at dksX4_part_3 13 rfl rfl)
theorem dX4_part_85 : decode cX4_part 85 = .ok (.aload_n 0, 1) := dk_42 (dk_at dksX4_part_3 16 rfl rfl)
theorem dX4_part_86 : decode cX4_part 86 = .ok (.iconst 3, 1) := dk_6 (dk_at dksX4_part_3 17 rfl rfl)
theorem dX4_part_87 : decode cX4_part 87 = .ok (.invokevirtual 55, 3) := dk_182 0 55 (dk_at dksX4_part_3 18 rfl rfl)
theorem dX4_part_90 : decode cX4_part 90 = .ok (.ireturn, 1) := dk_172 (dk_at dksX4_part_3 21 rfl rfl)
theorem dX4_part_91 : decode cX4_part 91 = .ok (.new 119, 3) := dk_187 0 119 (dk_at dksX4_part_4 0 rfl rfl)
theorem dX4_part_94 : decode cX4_part 94 = .ok (.dup, 1) := dk_89 (dk_at dksX4_part_4 3 rfl rfl)
theorem dX4_part_95 : decode cX4_part 95 = .ok (.invokespecial 121, 3) := dk_183 0 121 (dk_at dksX4_part_4 4 rfl rfl)
theorem dX4_part_98 : decode cX4_part 98 = .ok (.astore 5, 2) := dk_58 5 (dk_at dksX4_part_4 7 rfl rfl)
theorem dX4_part_100 : decode cX4_part 100 = .ok (.aload 5, 2) := dk_25 5 (dk_at dksX4_part_4 9 rfl rfl)
theorem dX4_part_102 : decode cX4_part 102 = .ok (.iload_n 2, 1) := dk_28 (dk_at dksX4_part_4 11 rfl rfl)
theorem dX4_part_103 : decode cX4_part 103 = .ok (.putfield 122, 3) := dk_181 0 122 (dk_at dksX4_part_4 12 rfl rfl)
theorem dX4_part_106 : decode cX4_part 106 = .ok (.aload 5, 2) := dk_25 5 (dk_at dksX4_part_4 15 rfl rfl)
theorem dX4_part_108 : decode cX4_part 108 = .ok (.iload_n 3, 1) := dk_29 (dk_at dksX4_part_4 17 rfl rfl)
theorem dX4_part_109 : decode cX4_part 109 = .ok (.putfield 125, 3) := dk_181 0 125 (dk_at dksX4_part_4 18 rfl rfl)
theorem dX4_part_112 : decode cX4_part 112 = .ok (.aload 5, 2) := dk_25 5 (dk_at dksX4_part_4 21 rfl rfl)
theorem dX4_part_114 : decode cX4_part 114 = .ok (.iload 4, 2) := dk_21 4 (dk_at dksX4_part_5 0 rfl rfl)
theorem dX4_part_116 : decode cX4_part 116 = .ok (.putfield 128, 3) := dk_181 0 128 (dk_at dksX4_part_5 2 rfl rfl)
theorem dX4_part_119 : decode cX4_part 119 = .ok (.aload 5, 2) := dk_25 5 (dk_at dksX4_part_5 5 rfl rfl)
theorem dX4_part_121 : decode cX4_part 121 = .ok (.iload_n 1, 1) := dk_27 (dk_at dksX4_part_5 7 rfl rfl)
theorem dX4_part_122 : decode cX4_part 122 = .ok (.putfield 131, 3) := dk_181 0 131 (dk_at dksX4_part_5 8 rfl rfl)
theorem dX4_part_125 : decode cX4_part 125 = .ok (.aload_n 0, 1) := dk_42 (dk_at dksX4_part_5 11 rfl rfl)
theorem dX4_part_126 : decode cX4_part 126 = .ok (.getfield 29, 3) := dk_180 0 29 (dk_at dksX4_part_5 12 rfl rfl)
theorem dX4_part_129 : decode cX4_part 129 = .ok (.aload 5, 2) := dk_25 5 (dk_at dksX4_part_5 15 rfl rfl)
theorem dX4_part_131 : decode cX4_part 131 = .ok (.invokevirtual 83, 3) := dk_182 0 83 (dk_at dksX4_part_5 17 rfl rfl)
theorem dX4_part_134 : decode cX4_part 134 = .ok (.pop, 1) := dk_87 (dk_at dksX4_part_5 20 rfl rfl)
theorem dX4_part_135 : decode cX4_part 135 = .ok (.aload_n 0, 1) := dk_42 (dk_at dksX4_part_5 21 rfl rfl)
theorem dX4_part_136 : decode cX4_part 136 = .ok (.getfield 29, 3) := dk_180 0 29 (dk_at dksX4_part_6 0 rfl rfl)
theorem dX4_part_139 : decode cX4_part 139 = .ok (.invokevirtual 47, 3) := dk_182 0 47 (dk_at dksX4_part_6 3 rfl rfl)
theorem dX4_part_142 : decode cX4_part 142 = .ok (.iconst 1, 1) := dk_4 (dk_at dksX4_part_6 6 rfl rfl)
theorem dX4_part_143 : decode cX4_part 143 = .ok (.isub, 1) := dk_100 (dk_at dksX4_part_6 7 rfl rfl)
theorem dX4_part_144 : decode cX4_part 144 = .ok (.ireturn, 1) := dk_172 (dk_at dksX4_part_6 8 rfl rfl)
abbrev cX4_isSleeper : ByteArray := prog_14_method_7_code
def yX4_isSleeper : MethodName := ⟨RX4, "isSleeper", "(I)Z"⟩
def dkwX4_isSleeper_0 : List UInt8 := [27, 3, 42, 180, 0, 26, 182, 0, 47, 4, 100, 184, 0, 43, 172]
abbrev dktX4_isSleeper_0 : List UInt8 := dkwX4_isSleeper_0 ++ []
theorem dksX4_isSleeper_0 : cX4_isSleeper.data.toList.drop 0 = dktX4_isSleeper_0 := by decide +kernel
theorem dX4_isSleeper_0 : decode cX4_isSleeper 0 = .ok (.iload_n 1, 1) := dk_27 (dk_at dksX4_isSleeper_0 0 rfl rfl)
theorem dX4_isSleeper_1 : decode cX4_isSleeper 1 = .ok (.iconst 0, 1) := dk_3 (dk_at dksX4_isSleeper_0 1 rfl rfl)
theorem dX4_isSleeper_2 : decode cX4_isSleeper 2 = .ok (.aload_n 0, 1) := dk_42 (dk_at dksX4_isSleeper_0 2 rfl rfl)
theorem dX4_isSleeper_3 : decode cX4_isSleeper 3 = .ok (.getfield 26, 3) := dk_180 0 26 (dk_at dksX4_isSleeper_0 3 rfl rfl)
theorem dX4_isSleeper_6 : decode cX4_isSleeper 6 = .ok (.invokevirtual 47, 3) := dk_182 0 47 (dk_at dksX4_isSleeper_0 6 rfl rfl)
theorem dX4_isSleeper_9 : decode cX4_isSleeper 9 = .ok (.iconst 1, 1) := dk_4 (dk_at dksX4_isSleeper_0 9 rfl rfl)
theorem dX4_isSleeper_10 : decode cX4_isSleeper 10 = .ok (.isub, 1) := dk_100 (dk_at dksX4_isSleeper_0 10 rfl rfl)
theorem dX4_isSleeper_11 : decode cX4_isSleeper 11 = .ok (.invokestatic 43, 3) := dk_184 0 43 (dk_at dksX4_isSleeper_0 11 rfl rfl)
theorem dX4_isSleeper_14 : decode cX4_isSleeper 14 = .ok (.ireturn, 1) := dk_172 (dk_at dksX4_isSleeper_0 14 rfl rfl)
abbrev cX4_give : ByteArray := prog_14_method_16_code
def yX4_give : MethodName := ⟨RX4, "give", "(II)I"⟩
def dkwX4_give_5 : List UInt8 := [42, 5, 182, 0, 55, 172, 42, 180, 0, 29, 27, 182, 0, 90, 192, 0, 119, 28, 181, 0, 131, 29, 172]
abbrev dktX4_give_5 : List UInt8 := dkwX4_give_5 ++ []
def dkwX4_give_4 : List UInt8 := [25, 5, 180, 0, 103, 160, 0, 19, 25, 4, 180, 0, 116, 154, 0, 11, 25, 5, 180, 0, 116, 153, 0, 9]
abbrev dktX4_give_4 : List UInt8 := dkwX4_give_4 ++ dktX4_give_5
def dkwX4_give_3 : List UInt8 := [192, 0, 100, 58, 4, 42, 180, 0, 26, 28, 182, 0, 90, 192, 0, 100, 58, 5, 25, 4, 180, 0, 103]
abbrev dktX4_give_3 : List UInt8 := dkwX4_give_3 ++ dktX4_give_4
def dkwX4_give_2 : List UInt8 := [162, 0, 8, 29, 28, 160, 0, 9, 42, 5, 182, 0, 55, 172, 42, 180, 0, 26, 29, 182, 0, 90]
abbrev dktX4_give_2 : List UInt8 := dkwX4_give_2 ++ dktX4_give_3
def dkwX4_give_1 : List UInt8 := [182, 0, 55, 172, 42, 180, 0, 29, 27, 182, 0, 90, 192, 0, 119, 180, 0, 131, 62, 29, 16, 100]
abbrev dktX4_give_1 : List UInt8 := dkwX4_give_1 ++ dktX4_give_2
def dkwX4_give_0 : List UInt8 := [42, 3, 181, 0, 40, 42, 27, 182, 0, 134, 153, 0, 11, 42, 28, 182, 0, 113, 154, 0, 9, 42, 4]
abbrev dktX4_give_0 : List UInt8 := dkwX4_give_0 ++ dktX4_give_1
theorem dksX4_give_0 : cX4_give.data.toList.drop 0 = dktX4_give_0 := by decide +kernel
theorem dksX4_give_1 : cX4_give.data.toList.drop 23 = dktX4_give_1 := dk_seg dksX4_give_0 23 rfl rfl
theorem dksX4_give_2 : cX4_give.data.toList.drop 45 = dktX4_give_2 := dk_seg dksX4_give_1 22 rfl rfl
theorem dksX4_give_3 : cX4_give.data.toList.drop 67 = dktX4_give_3 := dk_seg dksX4_give_2 22 rfl rfl
theorem dksX4_give_4 : cX4_give.data.toList.drop 90 = dktX4_give_4 := dk_seg dksX4_give_3 23 rfl rfl
theorem dksX4_give_5 : cX4_give.data.toList.drop 114 = dktX4_give_5 := dk_seg dksX4_give_4 24 rfl rfl
theorem dX4_give_0 : decode cX4_give 0 = .ok (.aload_n 0, 1) := dk_42 (dk_at dksX4_give_0 0 rfl rfl)
theorem dX4_give_1 : decode cX4_give 1 = .ok (.iconst 0, 1) := dk_3 (dk_at dksX4_give_0 1 rfl rfl)
theorem dX4_give_2 : decode cX4_give 2 = .ok (.putfield 40, 3) := dk_181 0 40 (dk_at dksX4_give_0 2 rfl rfl)
theorem dX4_give_5 : decode cX4_give 5 = .ok (.aload_n 0, 1) := dk_42 (dk_at dksX4_give_0 5 rfl rfl)
theorem dX4_give_6 : decode cX4_give 6 = .ok (.iload_n 1, 1) := dk_27 (dk_at dksX4_give_0 6 rfl rfl)
theorem dX4_give_7 : decode cX4_give 7 = .ok (.invokevirtual 134, 3) := dk_182 0 134 (dk_at dksX4_give_0 7 rfl rfl)
theorem dX4_give_10 : decode cX4_give 10 = .ok (.ifCond .eq 11, 3) := dk_153 0 11 (dk_at dksX4_give_0 10 rfl rfl)
theorem dX4_give_13 : decode cX4_give 13 = .ok (.aload_n 0, 1) := dk_42 (dk_at dksX4_give_0 13 rfl rfl)
theorem dX4_give_14 : decode cX4_give 14 = .ok (.iload_n 2, 1) := dk_28 (dk_at dksX4_give_0 14 rfl rfl)
theorem dX4_give_15 : decode cX4_give 15 = .ok (.invokevirtual 113, 3) := dk_182 0 113 (dk_at dksX4_give_0 15 rfl rfl)
theorem dX4_give_18 : decode cX4_give 18 = .ok (.ifCond .ne 9, 3) := dk_154 0 9 (dk_at dksX4_give_0 18 rfl rfl)
theorem dX4_give_21 : decode cX4_give 21 = .ok (.aload_n 0, 1) := dk_42 (dk_at dksX4_give_0 21 rfl rfl)
theorem dX4_give_22 : decode cX4_give 22 = .ok (.iconst 1, 1) := dk_4 (dk_at dksX4_give_0 22 rfl rfl)
theorem dX4_give_23 : decode cX4_give 23 = .ok (.invokevirtual 55, 3) := dk_182 0 55 (dk_at dksX4_give_1 0 rfl rfl)
theorem dX4_give_26 : decode cX4_give 26 = .ok (.ireturn, 1) := dk_172 (dk_at dksX4_give_1 3 rfl rfl)
theorem dX4_give_27 : decode cX4_give 27 = .ok (.aload_n 0, 1) := dk_42 (dk_at dksX4_give_1 4 rfl rfl)
theorem dX4_give_28 : decode cX4_give 28 = .ok (.getfield 29, 3) := dk_180 0 29 (dk_at dksX4_give_1 5 rfl rfl)
theorem dX4_give_31 : decode cX4_give 31 = .ok (.iload_n 1, 1) := dk_27 (dk_at dksX4_give_1 8 rfl rfl)
theorem dX4_give_32 : decode cX4_give 32 = .ok (.invokevirtual 90, 3) := dk_182 0 90 (dk_at dksX4_give_1 9 rfl rfl)
theorem dX4_give_35 : decode cX4_give 35 = .ok (.checkcast 119, 3) := dk_192 0 119 (dk_at dksX4_give_1 12 rfl rfl)
theorem dX4_give_38 : decode cX4_give 38 = .ok (.getfield 131, 3) := dk_180 0 131 (dk_at dksX4_give_1 15 rfl rfl)
theorem dX4_give_41 : decode cX4_give 41 = .ok (.istore_n 3, 1) := dk_62 (dk_at dksX4_give_1 18 rfl rfl)
theorem dX4_give_42 : decode cX4_give 42 = .ok (.iload_n 3, 1) := dk_29 (dk_at dksX4_give_1 19 rfl rfl)
theorem dX4_give_43 : decode cX4_give 43 = .ok (.bipush 100, 2) := dk_16 100 (dk_at dksX4_give_1 20 rfl rfl)
theorem dX4_give_45 : decode cX4_give 45 = .ok (.if_icmp .ge 8, 3) := dk_162 0 8 (dk_at dksX4_give_2 0 rfl rfl)
theorem dX4_give_48 : decode cX4_give 48 = .ok (.iload_n 3, 1) := dk_29 (dk_at dksX4_give_2 3 rfl rfl)
theorem dX4_give_49 : decode cX4_give 49 = .ok (.iload_n 2, 1) := dk_28 (dk_at dksX4_give_2 4 rfl rfl)
theorem dX4_give_50 : decode cX4_give 50 = .ok (.if_icmp .ne 9, 3) := dk_160 0 9 (dk_at dksX4_give_2 5 rfl rfl)
theorem dX4_give_53 : decode cX4_give 53 = .ok (.aload_n 0, 1) := dk_42 (dk_at dksX4_give_2 8 rfl rfl)
theorem dX4_give_54 : decode cX4_give 54 = .ok (.iconst 2, 1) := dk_5 (dk_at dksX4_give_2 9 rfl rfl)
theorem dX4_give_55 : decode cX4_give 55 = .ok (.invokevirtual 55, 3) := dk_182 0 55 (dk_at dksX4_give_2 10 rfl rfl)
theorem dX4_give_58 : decode cX4_give 58 = .ok (.ireturn, 1) := dk_172 (dk_at dksX4_give_2 13 rfl rfl)
theorem dX4_give_59 : decode cX4_give 59 = .ok (.aload_n 0, 1) := dk_42 (dk_at dksX4_give_2 14 rfl rfl)
theorem dX4_give_60 : decode cX4_give 60 = .ok (.getfield 26, 3) := dk_180 0 26 (dk_at dksX4_give_2 15 rfl rfl)
theorem dX4_give_63 : decode cX4_give 63 = .ok (.iload_n 3, 1) := dk_29 (dk_at dksX4_give_2 18 rfl rfl)
theorem dX4_give_64 : decode cX4_give 64 = .ok (.invokevirtual 90, 3) := dk_182 0 90 (dk_at dksX4_give_2 19 rfl rfl)
theorem dX4_give_67 : decode cX4_give 67 = .ok (.checkcast 100, 3) := dk_192 0 100 (dk_at dksX4_give_3 0 rfl rfl)
theorem dX4_give_70 : decode cX4_give 70 = .ok (.astore 4, 2) := dk_58 4 (dk_at dksX4_give_3 3 rfl rfl)
theorem dX4_give_72 : decode cX4_give 72 = .ok (.aload_n 0, 1) := dk_42 (dk_at dksX4_give_3 5 rfl rfl)
theorem dX4_give_73 : decode cX4_give 73 = .ok (.getfield 26, 3) := dk_180 0 26 (dk_at dksX4_give_3 6 rfl rfl)
theorem dX4_give_76 : decode cX4_give 76 = .ok (.iload_n 2, 1) := dk_28 (dk_at dksX4_give_3 9 rfl rfl)
theorem dX4_give_77 : decode cX4_give 77 = .ok (.invokevirtual 90, 3) := dk_182 0 90 (dk_at dksX4_give_3 10 rfl rfl)
theorem dX4_give_80 : decode cX4_give 80 = .ok (.checkcast 100, 3) := dk_192 0 100 (dk_at dksX4_give_3 13 rfl rfl)
theorem dX4_give_83 : decode cX4_give 83 = .ok (.astore 5, 2) := dk_58 5 (dk_at dksX4_give_3 16 rfl rfl)
theorem dX4_give_85 : decode cX4_give 85 = .ok (.aload 4, 2) := dk_25 4 (dk_at dksX4_give_3 18 rfl rfl)
theorem dX4_give_87 : decode cX4_give 87 = .ok (.getfield 103, 3) := dk_180 0 103 (dk_at dksX4_give_3 20 rfl rfl)
theorem dX4_give_90 : decode cX4_give 90 = .ok (.aload 5, 2) := dk_25 5 (dk_at dksX4_give_4 0 rfl rfl)
theorem dX4_give_92 : decode cX4_give 92 = .ok (.getfield 103, 3) := dk_180 0 103 (dk_at dksX4_give_4 2 rfl rfl)
theorem dX4_give_95 : decode cX4_give 95 = .ok (.if_icmp .ne 19, 3) := dk_160 0 19 (dk_at dksX4_give_4 5 rfl rfl)
theorem dX4_give_98 : decode cX4_give 98 = .ok (.aload 4, 2) := dk_25 4 (dk_at dksX4_give_4 8 rfl rfl)
theorem dX4_give_100 : decode cX4_give 100 = .ok (.getfield 116, 3) := dk_180 0 116 (dk_at dksX4_give_4 10 rfl rfl)
theorem dX4_give_103 : decode cX4_give 103 = .ok (.ifCond .ne 11, 3) := dk_154 0 11 (dk_at dksX4_give_4 13 rfl rfl)
theorem dX4_give_106 : decode cX4_give 106 = .ok (.aload 5, 2) := dk_25 5 (dk_at dksX4_give_4 16 rfl rfl)
theorem dX4_give_108 : decode cX4_give 108 = .ok (.getfield 116, 3) := dk_180 0 116 (dk_at dksX4_give_4 18 rfl rfl)
theorem dX4_give_111 : decode cX4_give 111 = .ok (.ifCond .eq 9, 3) := dk_153 0 9 (dk_at dksX4_give_4 21 rfl rfl)
theorem dX4_give_114 : decode cX4_give 114 = .ok (.aload_n 0, 1) := dk_42 (dk_at dksX4_give_5 0 rfl rfl)
theorem dX4_give_115 : decode cX4_give 115 = .ok (.iconst 2, 1) := dk_5 (dk_at dksX4_give_5 1 rfl rfl)
theorem dX4_give_116 : decode cX4_give 116 = .ok (.invokevirtual 55, 3) := dk_182 0 55 (dk_at dksX4_give_5 2 rfl rfl)
theorem dX4_give_119 : decode cX4_give 119 = .ok (.ireturn, 1) := dk_172 (dk_at dksX4_give_5 5 rfl rfl)
theorem dX4_give_120 : decode cX4_give 120 = .ok (.aload_n 0, 1) := dk_42 (dk_at dksX4_give_5 6 rfl rfl)
theorem dX4_give_121 : decode cX4_give 121 = .ok (.getfield 29, 3) := dk_180 0 29 (dk_at dksX4_give_5 7 rfl rfl)
theorem dX4_give_124 : decode cX4_give 124 = .ok (.iload_n 1, 1) := dk_27 (dk_at dksX4_give_5 10 rfl rfl)
theorem dX4_give_125 : decode cX4_give 125 = .ok (.invokevirtual 90, 3) := dk_182 0 90 (dk_at dksX4_give_5 11 rfl rfl)
theorem dX4_give_128 : decode cX4_give 128 = .ok (.checkcast 119, 3) := dk_192 0 119 (dk_at dksX4_give_5 14 rfl rfl)
theorem dX4_give_131 : decode cX4_give 131 = .ok (.iload_n 2, 1) := dk_28 (dk_at dksX4_give_5 17 rfl rfl)
theorem dX4_give_132 : decode cX4_give 132 = .ok (.putfield 131, 3) := dk_181 0 131 (dk_at dksX4_give_5 18 rfl rfl)
theorem dX4_give_135 : decode cX4_give 135 = .ok (.iload_n 3, 1) := dk_29 (dk_at dksX4_give_5 21 rfl rfl)
theorem dX4_give_136 : decode cX4_give 136 = .ok (.ireturn, 1) := dk_172 (dk_at dksX4_give_5 22 rfl rfl)
abbrev cX4_isPart : ByteArray := prog_14_method_8_code
def yX4_isPart : MethodName := ⟨RX4, "isPart", "(I)Z"⟩
def dkwX4_isPart_0 : List UInt8 := [27, 3, 42, 180, 0, 29, 182, 0, 47, 4, 100, 184, 0, 43, 172]
abbrev dktX4_isPart_0 : List UInt8 := dkwX4_isPart_0 ++ []
theorem dksX4_isPart_0 : cX4_isPart.data.toList.drop 0 = dktX4_isPart_0 := by decide +kernel
theorem dX4_isPart_0 : decode cX4_isPart 0 = .ok (.iload_n 1, 1) := dk_27 (dk_at dksX4_isPart_0 0 rfl rfl)
theorem dX4_isPart_1 : decode cX4_isPart 1 = .ok (.iconst 0, 1) := dk_3 (dk_at dksX4_isPart_0 1 rfl rfl)
theorem dX4_isPart_2 : decode cX4_isPart 2 = .ok (.aload_n 0, 1) := dk_42 (dk_at dksX4_isPart_0 2 rfl rfl)
theorem dX4_isPart_3 : decode cX4_isPart 3 = .ok (.getfield 29, 3) := dk_180 0 29 (dk_at dksX4_isPart_0 3 rfl rfl)
theorem dX4_isPart_6 : decode cX4_isPart 6 = .ok (.invokevirtual 47, 3) := dk_182 0 47 (dk_at dksX4_isPart_0 6 rfl rfl)
theorem dX4_isPart_9 : decode cX4_isPart 9 = .ok (.iconst 1, 1) := dk_4 (dk_at dksX4_isPart_0 9 rfl rfl)
theorem dX4_isPart_10 : decode cX4_isPart 10 = .ok (.isub, 1) := dk_100 (dk_at dksX4_isPart_0 10 rfl rfl)
theorem dX4_isPart_11 : decode cX4_isPart 11 = .ok (.invokestatic 43, 3) := dk_184 0 43 (dk_at dksX4_isPart_0 11 rfl rfl)
theorem dX4_isPart_14 : decode cX4_isPart 14 = .ok (.ireturn, 1) := dk_172 (dk_at dksX4_isPart_0 14 rfl rfl)
abbrev cX4_sing : ByteArray := prog_14_method_18_code
def yX4_sing : MethodName := ⟨RX4, "sing", "(IIII)I"⟩
def dkwX4_sing_4 : List UInt8 := [184, 0, 149, 172]
abbrev dktX4_sing_4 : List UInt8 := dkwX4_sing_4 ++ []
def dkwX4_sing_3 : List UInt8 := [58, 5, 25, 5, 28, 181, 0, 140, 25, 5, 29, 181, 0, 143, 25, 5, 21, 4, 181, 0, 146, 27, 28, 29]
abbrev dktX4_sing_3 : List UInt8 := dkwX4_sing_3 ++ dktX4_sing_4
def dkwX4_sing_2 : List UInt8 := [184, 0, 43, 154, 0, 9, 42, 5, 182, 0, 55, 172, 42, 180, 0, 26, 27, 182, 0, 90, 192, 0, 100]
abbrev dktX4_sing_2 : List UInt8 := dkwX4_sing_2 ++ dktX4_sing_3
def dkwX4_sing_1 : List UInt8 := [182, 0, 55, 172, 29, 42, 180, 0, 137, 16, 99, 184, 0, 43, 153, 0, 14, 21, 4, 3, 16, 96]
abbrev dktX4_sing_1 : List UInt8 := dkwX4_sing_1 ++ dktX4_sing_2
def dkwX4_sing_0 : List UInt8 := [42, 3, 181, 0, 40, 42, 27, 182, 0, 113, 153, 0, 11, 42, 28, 182, 0, 87, 154, 0, 9, 42, 4]
abbrev dktX4_sing_0 : List UInt8 := dkwX4_sing_0 ++ dktX4_sing_1
theorem dksX4_sing_0 : cX4_sing.data.toList.drop 0 = dktX4_sing_0 := by decide +kernel
theorem dksX4_sing_1 : cX4_sing.data.toList.drop 23 = dktX4_sing_1 := dk_seg dksX4_sing_0 23 rfl rfl
theorem dksX4_sing_2 : cX4_sing.data.toList.drop 45 = dktX4_sing_2 := dk_seg dksX4_sing_1 22 rfl rfl
theorem dksX4_sing_3 : cX4_sing.data.toList.drop 68 = dktX4_sing_3 := dk_seg dksX4_sing_2 23 rfl rfl
theorem dksX4_sing_4 : cX4_sing.data.toList.drop 92 = dktX4_sing_4 := dk_seg dksX4_sing_3 24 rfl rfl
theorem dX4_sing_0 : decode cX4_sing 0 = .ok (.aload_n 0, 1) := dk_42 (dk_at dksX4_sing_0 0 rfl rfl)
theorem dX4_sing_1 : decode cX4_sing 1 = .ok (.iconst 0, 1) := dk_3 (dk_at dksX4_sing_0 1 rfl rfl)
theorem dX4_sing_2 : decode cX4_sing 2 = .ok (.putfield 40, 3) := dk_181 0 40 (dk_at dksX4_sing_0 2 rfl rfl)
theorem dX4_sing_5 : decode cX4_sing 5 = .ok (.aload_n 0, 1) := dk_42 (dk_at dksX4_sing_0 5 rfl rfl)
theorem dX4_sing_6 : decode cX4_sing 6 = .ok (.iload_n 1, 1) := dk_27 (dk_at dksX4_sing_0 6 rfl rfl)
theorem dX4_sing_7 : decode cX4_sing 7 = .ok (.invokevirtual 113, 3) := dk_182 0 113 (dk_at dksX4_sing_0 7 rfl rfl)
theorem dX4_sing_10 : decode cX4_sing 10 = .ok (.ifCond .eq 11, 3) := dk_153 0 11 (dk_at dksX4_sing_0 10 rfl rfl)
theorem dX4_sing_13 : decode cX4_sing 13 = .ok (.aload_n 0, 1) := dk_42 (dk_at dksX4_sing_0 13 rfl rfl)
theorem dX4_sing_14 : decode cX4_sing 14 = .ok (.iload_n 2, 1) := dk_28 (dk_at dksX4_sing_0 14 rfl rfl)
theorem dX4_sing_15 : decode cX4_sing 15 = .ok (.invokevirtual 87, 3) := dk_182 0 87 (dk_at dksX4_sing_0 15 rfl rfl)
theorem dX4_sing_18 : decode cX4_sing 18 = .ok (.ifCond .ne 9, 3) := dk_154 0 9 (dk_at dksX4_sing_0 18 rfl rfl)
theorem dX4_sing_21 : decode cX4_sing 21 = .ok (.aload_n 0, 1) := dk_42 (dk_at dksX4_sing_0 21 rfl rfl)
theorem dX4_sing_22 : decode cX4_sing 22 = .ok (.iconst 1, 1) := dk_4 (dk_at dksX4_sing_0 22 rfl rfl)
theorem dX4_sing_23 : decode cX4_sing 23 = .ok (.invokevirtual 55, 3) := dk_182 0 55 (dk_at dksX4_sing_1 0 rfl rfl)
theorem dX4_sing_26 : decode cX4_sing 26 = .ok (.ireturn, 1) := dk_172 (dk_at dksX4_sing_1 3 rfl rfl)
theorem dX4_sing_27 : decode cX4_sing 27 = .ok (.iload_n 3, 1) := dk_29 (dk_at dksX4_sing_1 4 rfl rfl)
theorem dX4_sing_28 : decode cX4_sing 28 = .ok (.aload_n 0, 1) := dk_42 (dk_at dksX4_sing_1 5 rfl rfl)
theorem dX4_sing_29 : decode cX4_sing 29 = .ok (.getfield 137, 3) := dk_180 0 137 (dk_at dksX4_sing_1 6 rfl rfl)
theorem dX4_sing_32 : decode cX4_sing 32 = .ok (.bipush 99, 2) := dk_16 99 (dk_at dksX4_sing_1 9 rfl rfl)
theorem dX4_sing_34 : decode cX4_sing 34 = .ok (.invokestatic 43, 3) := dk_184 0 43 (dk_at dksX4_sing_1 11 rfl rfl)
theorem dX4_sing_37 : decode cX4_sing 37 = .ok (.ifCond .eq 14, 3) := dk_153 0 14 (dk_at dksX4_sing_1 14 rfl rfl)
theorem dX4_sing_40 : decode cX4_sing 40 = .ok (.iload 4, 2) := dk_21 4 (dk_at dksX4_sing_1 17 rfl rfl)
theorem dX4_sing_42 : decode cX4_sing 42 = .ok (.iconst 0, 1) := dk_3 (dk_at dksX4_sing_1 19 rfl rfl)
theorem dX4_sing_43 : decode cX4_sing 43 = .ok (.bipush 96, 2) := dk_16 96 (dk_at dksX4_sing_1 20 rfl rfl)
theorem dX4_sing_45 : decode cX4_sing 45 = .ok (.invokestatic 43, 3) := dk_184 0 43 (dk_at dksX4_sing_2 0 rfl rfl)
theorem dX4_sing_48 : decode cX4_sing 48 = .ok (.ifCond .ne 9, 3) := dk_154 0 9 (dk_at dksX4_sing_2 3 rfl rfl)
theorem dX4_sing_51 : decode cX4_sing 51 = .ok (.aload_n 0, 1) := dk_42 (dk_at dksX4_sing_2 6 rfl rfl)
theorem dX4_sing_52 : decode cX4_sing 52 = .ok (.iconst 2, 1) := dk_5 (dk_at dksX4_sing_2 7 rfl rfl)
theorem dX4_sing_53 : decode cX4_sing 53 = .ok (.invokevirtual 55, 3) := dk_182 0 55 (dk_at dksX4_sing_2 8 rfl rfl)
theorem dX4_sing_56 : decode cX4_sing 56 = .ok (.ireturn, 1) := dk_172 (dk_at dksX4_sing_2 11 rfl rfl)
theorem dX4_sing_57 : decode cX4_sing 57 = .ok (.aload_n 0, 1) := dk_42 (dk_at dksX4_sing_2 12 rfl rfl)
theorem dX4_sing_58 : decode cX4_sing 58 = .ok (.getfield 26, 3) := dk_180 0 26 (dk_at dksX4_sing_2 13 rfl rfl)
theorem dX4_sing_61 : decode cX4_sing 61 = .ok (.iload_n 1, 1) := dk_27 (dk_at dksX4_sing_2 16 rfl rfl)
theorem dX4_sing_62 : decode cX4_sing 62 = .ok (.invokevirtual 90, 3) := dk_182 0 90 (dk_at dksX4_sing_2 17 rfl rfl)
theorem dX4_sing_65 : decode cX4_sing 65 = .ok (.checkcast 100, 3) := dk_192 0 100 (dk_at dksX4_sing_2 20 rfl rfl)
theorem dX4_sing_68 : decode cX4_sing 68 = .ok (.astore 5, 2) := dk_58 5 (dk_at dksX4_sing_3 0 rfl rfl)
theorem dX4_sing_70 : decode cX4_sing 70 = .ok (.aload 5, 2) := dk_25 5 (dk_at dksX4_sing_3 2 rfl rfl)
theorem dX4_sing_72 : decode cX4_sing 72 = .ok (.iload_n 2, 1) := dk_28 (dk_at dksX4_sing_3 4 rfl rfl)
theorem dX4_sing_73 : decode cX4_sing 73 = .ok (.putfield 140, 3) := dk_181 0 140 (dk_at dksX4_sing_3 5 rfl rfl)
theorem dX4_sing_76 : decode cX4_sing 76 = .ok (.aload 5, 2) := dk_25 5 (dk_at dksX4_sing_3 8 rfl rfl)
theorem dX4_sing_78 : decode cX4_sing 78 = .ok (.iload_n 3, 1) := dk_29 (dk_at dksX4_sing_3 10 rfl rfl)
theorem dX4_sing_79 : decode cX4_sing 79 = .ok (.putfield 143, 3) := dk_181 0 143 (dk_at dksX4_sing_3 11 rfl rfl)
theorem dX4_sing_82 : decode cX4_sing 82 = .ok (.aload 5, 2) := dk_25 5 (dk_at dksX4_sing_3 14 rfl rfl)
theorem dX4_sing_84 : decode cX4_sing 84 = .ok (.iload 4, 2) := dk_21 4 (dk_at dksX4_sing_3 16 rfl rfl)
theorem dX4_sing_86 : decode cX4_sing 86 = .ok (.putfield 146, 3) := dk_181 0 146 (dk_at dksX4_sing_3 18 rfl rfl)
theorem dX4_sing_89 : decode cX4_sing 89 = .ok (.iload_n 1, 1) := dk_27 (dk_at dksX4_sing_3 21 rfl rfl)
theorem dX4_sing_90 : decode cX4_sing 90 = .ok (.iload_n 2, 1) := dk_28 (dk_at dksX4_sing_3 22 rfl rfl)
theorem dX4_sing_91 : decode cX4_sing 91 = .ok (.iload_n 3, 1) := dk_29 (dk_at dksX4_sing_3 23 rfl rfl)
theorem dX4_sing_92 : decode cX4_sing 92 = .ok (.invokestatic 149, 3) := dk_184 0 149 (dk_at dksX4_sing_4 0 rfl rfl)
theorem dX4_sing_95 : decode cX4_sing 95 = .ok (.ireturn, 1) := dk_172 (dk_at dksX4_sing_4 3 rfl rfl)
abbrev cX4_right : ByteArray := prog_14_method_17_code
def yX4_right : MethodName := ⟨RX4, "right", "(III)I"⟩
def dkwX4_right_0 : List UInt8 := [16, 13, 26, 104, 16, 29, 27, 104, 96, 16, 7, 28, 104, 96, 16, 97, 112, 172]
abbrev dktX4_right_0 : List UInt8 := dkwX4_right_0 ++ []
theorem dksX4_right_0 : cX4_right.data.toList.drop 0 = dktX4_right_0 := by decide +kernel
theorem dX4_right_0 : decode cX4_right 0 = .ok (.bipush 13, 2) := dk_16 13 (dk_at dksX4_right_0 0 rfl rfl)
theorem dX4_right_2 : decode cX4_right 2 = .ok (.iload_n 0, 1) := dk_26 (dk_at dksX4_right_0 2 rfl rfl)
theorem dX4_right_3 : decode cX4_right 3 = .ok (.imul, 1) := dk_104 (dk_at dksX4_right_0 3 rfl rfl)
theorem dX4_right_4 : decode cX4_right 4 = .ok (.bipush 29, 2) := dk_16 29 (dk_at dksX4_right_0 4 rfl rfl)
theorem dX4_right_6 : decode cX4_right 6 = .ok (.iload_n 1, 1) := dk_27 (dk_at dksX4_right_0 6 rfl rfl)
theorem dX4_right_7 : decode cX4_right 7 = .ok (.imul, 1) := dk_104 (dk_at dksX4_right_0 7 rfl rfl)
theorem dX4_right_8 : decode cX4_right 8 = .ok (.iadd, 1) := dk_96 (dk_at dksX4_right_0 8 rfl rfl)
theorem dX4_right_9 : decode cX4_right 9 = .ok (.bipush 7, 2) := dk_16 7 (dk_at dksX4_right_0 9 rfl rfl)
theorem dX4_right_11 : decode cX4_right 11 = .ok (.iload_n 2, 1) := dk_28 (dk_at dksX4_right_0 11 rfl rfl)
theorem dX4_right_12 : decode cX4_right 12 = .ok (.imul, 1) := dk_104 (dk_at dksX4_right_0 12 rfl rfl)
theorem dX4_right_13 : decode cX4_right 13 = .ok (.iadd, 1) := dk_96 (dk_at dksX4_right_0 13 rfl rfl)
theorem dX4_right_14 : decode cX4_right 14 = .ok (.bipush 97, 2) := dk_16 97 (dk_at dksX4_right_0 14 rfl rfl)
theorem dX4_right_16 : decode cX4_right 16 = .ok (.irem, 1) := dk_112 (dk_at dksX4_right_0 16 rfl rfl)
theorem dX4_right_17 : decode cX4_right 17 = .ok (.ireturn, 1) := dk_172 (dk_at dksX4_right_0 17 rfl rfl)
abbrev cX4_revoke : ByteArray := prog_14_method_19_code
def yX4_revoke : MethodName := ⟨RX4, "revoke", "(II)Z"⟩
def dkwX4_revoke_3 : List UInt8 := [4, 84, 29, 154, 0, 7, 4, 167, 0, 4, 3, 172]
abbrev dktX4_revoke_3 : List UInt8 := dkwX4_revoke_3 ++ []
def dkwX4_revoke_2 : List UInt8 := [192, 0, 68, 180, 0, 153, 28, 51, 62, 42, 180, 0, 22, 27, 182, 0, 90, 192, 0, 68, 180, 0, 153, 28]
abbrev dktX4_revoke_2 : List UInt8 := dkwX4_revoke_2 ++ dktX4_revoke_3
def dkwX4_revoke_1 : List UInt8 := [167, 0, 4, 3, 181, 0, 40, 42, 180, 0, 40, 158, 0, 5, 3, 172, 42, 180, 0, 22, 27, 182, 0, 90]
abbrev dktX4_revoke_1 : List UInt8 := dkwX4_revoke_1 ++ dktX4_revoke_2
def dkwX4_revoke_0 : List UInt8 := [42, 42, 27, 182, 0, 87, 154, 0, 7, 4, 167, 0, 18, 28, 3, 16, 96, 184, 0, 43, 154, 0, 7, 5]
abbrev dktX4_revoke_0 : List UInt8 := dkwX4_revoke_0 ++ dktX4_revoke_1
theorem dksX4_revoke_0 : cX4_revoke.data.toList.drop 0 = dktX4_revoke_0 := by decide +kernel
theorem dksX4_revoke_1 : cX4_revoke.data.toList.drop 24 = dktX4_revoke_1 := dk_seg dksX4_revoke_0 24 rfl rfl
theorem dksX4_revoke_2 : cX4_revoke.data.toList.drop 48 = dktX4_revoke_2 := dk_seg dksX4_revoke_1 24 rfl rfl
theorem dksX4_revoke_3 : cX4_revoke.data.toList.drop 72 = dktX4_revoke_3 := dk_seg dksX4_revoke_2 24 rfl rfl
theorem dX4_revoke_0 : decode cX4_revoke 0 = .ok (.aload_n 0, 1) := dk_42 (dk_at dksX4_revoke_0 0 rfl rfl)
theorem dX4_revoke_1 : decode cX4_revoke 1 = .ok (.aload_n 0, 1) := dk_42 (dk_at dksX4_revoke_0 1 rfl rfl)
theorem dX4_revoke_2 : decode cX4_revoke 2 = .ok (.iload_n 1, 1) := dk_27 (dk_at dksX4_revoke_0 2 rfl rfl)
theorem dX4_revoke_3 : decode cX4_revoke 3 = .ok (.invokevirtual 87, 3) := dk_182 0 87 (dk_at dksX4_revoke_0 3 rfl rfl)
theorem dX4_revoke_6 : decode cX4_revoke 6 = .ok (.ifCond .ne 7, 3) := dk_154 0 7 (dk_at dksX4_revoke_0 6 rfl rfl)
theorem dX4_revoke_9 : decode cX4_revoke 9 = .ok (.iconst 1, 1) := dk_4 (dk_at dksX4_revoke_0 9 rfl rfl)
theorem dX4_revoke_10 : decode cX4_revoke 10 = .ok (.goto 18, 3) := dk_167 0 18 (dk_at dksX4_revoke_0 10 rfl rfl)
theorem dX4_revoke_13 : decode cX4_revoke 13 = .ok (.iload_n 2, 1) := dk_28 (dk_at dksX4_revoke_0 13 rfl rfl)
theorem dX4_revoke_14 : decode cX4_revoke 14 = .ok (.iconst 0, 1) := dk_3 (dk_at dksX4_revoke_0 14 rfl rfl)
theorem dX4_revoke_15 : decode cX4_revoke 15 = .ok (.bipush 96, 2) := dk_16 96 (dk_at dksX4_revoke_0 15 rfl rfl)
theorem dX4_revoke_17 : decode cX4_revoke 17 = .ok (.invokestatic 43, 3) := dk_184 0 43 (dk_at dksX4_revoke_0 17 rfl rfl)
theorem dX4_revoke_20 : decode cX4_revoke 20 = .ok (.ifCond .ne 7, 3) := dk_154 0 7 (dk_at dksX4_revoke_0 20 rfl rfl)
theorem dX4_revoke_23 : decode cX4_revoke 23 = .ok (.iconst 2, 1) := dk_5 (dk_at dksX4_revoke_0 23 rfl rfl)
theorem dX4_revoke_24 : decode cX4_revoke 24 = .ok (.goto 4, 3) := dk_167 0 4 (dk_at dksX4_revoke_1 0 rfl rfl)
theorem dX4_revoke_27 : decode cX4_revoke 27 = .ok (.iconst 0, 1) := dk_3 (dk_at dksX4_revoke_1 3 rfl rfl)
theorem dX4_revoke_28 : decode cX4_revoke 28 = .ok (.putfield 40, 3) := dk_181 0 40 (dk_at dksX4_revoke_1 4 rfl rfl)
theorem dX4_revoke_31 : decode cX4_revoke 31 = .ok (.aload_n 0, 1) := dk_42 (dk_at dksX4_revoke_1 7 rfl rfl)
theorem dX4_revoke_32 : decode cX4_revoke 32 = .ok (.getfield 40, 3) := dk_180 0 40 (dk_at dksX4_revoke_1 8 rfl rfl)
theorem dX4_revoke_35 : decode cX4_revoke 35 = .ok (.ifCond .le 5, 3) := dk_158 0 5 (dk_at dksX4_revoke_1 11 rfl rfl)
theorem dX4_revoke_38 : decode cX4_revoke 38 = .ok (.iconst 0, 1) := dk_3 (dk_at dksX4_revoke_1 14 rfl rfl)
theorem dX4_revoke_39 : decode cX4_revoke 39 = .ok (.ireturn, 1) := dk_172 (dk_at dksX4_revoke_1 15 rfl rfl)
theorem dX4_revoke_40 : decode cX4_revoke 40 = .ok (.aload_n 0, 1) := dk_42 (dk_at dksX4_revoke_1 16 rfl rfl)
theorem dX4_revoke_41 : decode cX4_revoke 41 = .ok (.getfield 22, 3) := dk_180 0 22 (dk_at dksX4_revoke_1 17 rfl rfl)
theorem dX4_revoke_44 : decode cX4_revoke 44 = .ok (.iload_n 1, 1) := dk_27 (dk_at dksX4_revoke_1 20 rfl rfl)
theorem dX4_revoke_45 : decode cX4_revoke 45 = .ok (.invokevirtual 90, 3) := dk_182 0 90 (dk_at dksX4_revoke_1 21 rfl rfl)
theorem dX4_revoke_48 : decode cX4_revoke 48 = .ok (.checkcast 68, 3) := dk_192 0 68 (dk_at dksX4_revoke_2 0 rfl rfl)
theorem dX4_revoke_51 : decode cX4_revoke 51 = .ok (.getfield 153, 3) := dk_180 0 153 (dk_at dksX4_revoke_2 3 rfl rfl)
theorem dX4_revoke_54 : decode cX4_revoke 54 = .ok (.iload_n 2, 1) := dk_28 (dk_at dksX4_revoke_2 6 rfl rfl)
theorem dX4_revoke_55 : decode cX4_revoke 55 = .ok (.baload, 1) := dk_51 (dk_at dksX4_revoke_2 7 rfl rfl)
theorem dX4_revoke_56 : decode cX4_revoke 56 = .ok (.istore_n 3, 1) := dk_62 (dk_at dksX4_revoke_2 8 rfl rfl)
theorem dX4_revoke_57 : decode cX4_revoke 57 = .ok (.aload_n 0, 1) := dk_42 (dk_at dksX4_revoke_2 9 rfl rfl)
theorem dX4_revoke_58 : decode cX4_revoke 58 = .ok (.getfield 22, 3) := dk_180 0 22 (dk_at dksX4_revoke_2 10 rfl rfl)
theorem dX4_revoke_61 : decode cX4_revoke 61 = .ok (.iload_n 1, 1) := dk_27 (dk_at dksX4_revoke_2 13 rfl rfl)
theorem dX4_revoke_62 : decode cX4_revoke 62 = .ok (.invokevirtual 90, 3) := dk_182 0 90 (dk_at dksX4_revoke_2 14 rfl rfl)
theorem dX4_revoke_65 : decode cX4_revoke 65 = .ok (.checkcast 68, 3) := dk_192 0 68 (dk_at dksX4_revoke_2 17 rfl rfl)
theorem dX4_revoke_68 : decode cX4_revoke 68 = .ok (.getfield 153, 3) := dk_180 0 153 (dk_at dksX4_revoke_2 20 rfl rfl)
theorem dX4_revoke_71 : decode cX4_revoke 71 = .ok (.iload_n 2, 1) := dk_28 (dk_at dksX4_revoke_2 23 rfl rfl)
theorem dX4_revoke_72 : decode cX4_revoke 72 = .ok (.iconst 1, 1) := dk_4 (dk_at dksX4_revoke_3 0 rfl rfl)
theorem dX4_revoke_73 : decode cX4_revoke 73 = .ok (.bastore, 1) := dk_84 (dk_at dksX4_revoke_3 1 rfl rfl)
theorem dX4_revoke_74 : decode cX4_revoke 74 = .ok (.iload_n 3, 1) := dk_29 (dk_at dksX4_revoke_3 2 rfl rfl)
theorem dX4_revoke_75 : decode cX4_revoke 75 = .ok (.ifCond .ne 7, 3) := dk_154 0 7 (dk_at dksX4_revoke_3 3 rfl rfl)
theorem dX4_revoke_78 : decode cX4_revoke 78 = .ok (.iconst 1, 1) := dk_4 (dk_at dksX4_revoke_3 6 rfl rfl)
theorem dX4_revoke_79 : decode cX4_revoke 79 = .ok (.goto 4, 3) := dk_167 0 4 (dk_at dksX4_revoke_3 7 rfl rfl)
theorem dX4_revoke_82 : decode cX4_revoke 82 = .ok (.iconst 0, 1) := dk_3 (dk_at dksX4_revoke_3 10 rfl rfl)
theorem dX4_revoke_83 : decode cX4_revoke 83 = .ok (.ireturn, 1) := dk_172 (dk_at dksX4_revoke_3 11 rfl rfl)
abbrev cX4_join : ByteArray := prog_14_method_21_code
def yX4_join : MethodName := ⟨RX4, "join", "(III)I"⟩
def dkwX4_join_8 : List UInt8 := [25, 4, 28, 181, 0, 177, 25, 4, 29, 181, 0, 180, 21, 6, 172]
abbrev dktX4_join_8 : List UInt8 := dkwX4_join_8 ++ []
def dkwX4_join_7 : List UInt8 := [167, 255, 206, 25, 5, 180, 0, 162, 21, 6, 27, 184, 0, 170, 182, 0, 174, 25, 4, 4, 181, 0, 116]
abbrev dktX4_join_7 : List UInt8 := dkwX4_join_7 ++ dktX4_join_8
def dkwX4_join_6 : List UInt8 := [182, 0, 90, 192, 0, 165, 182, 0, 167, 182, 0, 90, 192, 0, 100, 180, 0, 106, 154, 0, 9, 132, 6, 255]
abbrev dktX4_join_6 : List UInt8 := dkwX4_join_6 ++ dktX4_join_7
def dkwX4_join_5 : List UInt8 := [180, 0, 106, 153, 0, 48, 21, 6, 158, 0, 43, 42, 180, 0, 26, 25, 5, 180, 0, 162, 21, 6, 4, 100]
abbrev dktX4_join_5 : List UInt8 := dkwX4_join_5 ++ dktX4_join_6
def dkwX4_join_4 : List UInt8 := [182, 0, 159, 154, 0, 9, 42, 6, 182, 0, 55, 172, 25, 5, 180, 0, 162, 182, 0, 47, 54, 6, 25, 4]
abbrev dktX4_join_4 : List UInt8 := dkwX4_join_4 ++ dktX4_join_5
def dkwX4_join_3 : List UInt8 := [182, 0, 90, 192, 0, 68, 58, 5, 25, 4, 180, 0, 116, 154, 0, 16, 25, 5, 25, 4, 180, 0, 103]
abbrev dktX4_join_3 : List UInt8 := dkwX4_join_3 ++ dktX4_join_4
def dkwX4_join_2 : List UInt8 := [182, 0, 55, 172, 42, 180, 0, 26, 27, 182, 0, 90, 192, 0, 100, 58, 4, 42, 180, 0, 22, 28]
abbrev dktX4_join_2 : List UInt8 := dkwX4_join_2 ++ dktX4_join_3
def dkwX4_join_1 : List UInt8 := [182, 0, 55, 172, 29, 155, 0, 15, 29, 42, 27, 182, 0, 156, 2, 130, 126, 153, 0, 9, 42, 5]
abbrev dktX4_join_1 : List UInt8 := dkwX4_join_1 ++ dktX4_join_2
def dkwX4_join_0 : List UInt8 := [42, 3, 181, 0, 40, 42, 27, 182, 0, 113, 153, 0, 11, 42, 28, 182, 0, 87, 154, 0, 9, 42, 4]
abbrev dktX4_join_0 : List UInt8 := dkwX4_join_0 ++ dktX4_join_1
theorem dksX4_join_0 : cX4_join.data.toList.drop 0 = dktX4_join_0 := by decide +kernel
theorem dksX4_join_1 : cX4_join.data.toList.drop 23 = dktX4_join_1 := dk_seg dksX4_join_0 23 rfl rfl
theorem dksX4_join_2 : cX4_join.data.toList.drop 45 = dktX4_join_2 := dk_seg dksX4_join_1 22 rfl rfl
theorem dksX4_join_3 : cX4_join.data.toList.drop 67 = dktX4_join_3 := dk_seg dksX4_join_2 22 rfl rfl
theorem dksX4_join_4 : cX4_join.data.toList.drop 90 = dktX4_join_4 := dk_seg dksX4_join_3 23 rfl rfl
theorem dksX4_join_5 : cX4_join.data.toList.drop 114 = dktX4_join_5 := dk_seg dksX4_join_4 24 rfl rfl
theorem dksX4_join_6 : cX4_join.data.toList.drop 138 = dktX4_join_6 := dk_seg dksX4_join_5 24 rfl rfl
theorem dksX4_join_7 : cX4_join.data.toList.drop 162 = dktX4_join_7 := dk_seg dksX4_join_6 24 rfl rfl
theorem dksX4_join_8 : cX4_join.data.toList.drop 185 = dktX4_join_8 := dk_seg dksX4_join_7 23 rfl rfl
theorem dX4_join_0 : decode cX4_join 0 = .ok (.aload_n 0, 1) := dk_42 (dk_at dksX4_join_0 0 rfl rfl)
theorem dX4_join_1 : decode cX4_join 1 = .ok (.iconst 0, 1) := dk_3 (dk_at dksX4_join_0 1 rfl rfl)
theorem dX4_join_2 : decode cX4_join 2 = .ok (.putfield 40, 3) := dk_181 0 40 (dk_at dksX4_join_0 2 rfl rfl)
theorem dX4_join_5 : decode cX4_join 5 = .ok (.aload_n 0, 1) := dk_42 (dk_at dksX4_join_0 5 rfl rfl)
theorem dX4_join_6 : decode cX4_join 6 = .ok (.iload_n 1, 1) := dk_27 (dk_at dksX4_join_0 6 rfl rfl)
theorem dX4_join_7 : decode cX4_join 7 = .ok (.invokevirtual 113, 3) := dk_182 0 113 (dk_at dksX4_join_0 7 rfl rfl)
theorem dX4_join_10 : decode cX4_join 10 = .ok (.ifCond .eq 11, 3) := dk_153 0 11 (dk_at dksX4_join_0 10 rfl rfl)
theorem dX4_join_13 : decode cX4_join 13 = .ok (.aload_n 0, 1) := dk_42 (dk_at dksX4_join_0 13 rfl rfl)
theorem dX4_join_14 : decode cX4_join 14 = .ok (.iload_n 2, 1) := dk_28 (dk_at dksX4_join_0 14 rfl rfl)
theorem dX4_join_15 : decode cX4_join 15 = .ok (.invokevirtual 87, 3) := dk_182 0 87 (dk_at dksX4_join_0 15 rfl rfl)
theorem dX4_join_18 : decode cX4_join 18 = .ok (.ifCond .ne 9, 3) := dk_154 0 9 (dk_at dksX4_join_0 18 rfl rfl)
theorem dX4_join_21 : decode cX4_join 21 = .ok (.aload_n 0, 1) := dk_42 (dk_at dksX4_join_0 21 rfl rfl)
theorem dX4_join_22 : decode cX4_join 22 = .ok (.iconst 1, 1) := dk_4 (dk_at dksX4_join_0 22 rfl rfl)
theorem dX4_join_23 : decode cX4_join 23 = .ok (.invokevirtual 55, 3) := dk_182 0 55 (dk_at dksX4_join_1 0 rfl rfl)
theorem dX4_join_26 : decode cX4_join 26 = .ok (.ireturn, 1) := dk_172 (dk_at dksX4_join_1 3 rfl rfl)
theorem dX4_join_27 : decode cX4_join 27 = .ok (.iload_n 3, 1) := dk_29 (dk_at dksX4_join_1 4 rfl rfl)
theorem dX4_join_28 : decode cX4_join 28 = .ok (.ifCond .lt 15, 3) := dk_155 0 15 (dk_at dksX4_join_1 5 rfl rfl)
theorem dX4_join_31 : decode cX4_join 31 = .ok (.iload_n 3, 1) := dk_29 (dk_at dksX4_join_1 8 rfl rfl)
theorem dX4_join_32 : decode cX4_join 32 = .ok (.aload_n 0, 1) := dk_42 (dk_at dksX4_join_1 9 rfl rfl)
theorem dX4_join_33 : decode cX4_join 33 = .ok (.iload_n 1, 1) := dk_27 (dk_at dksX4_join_1 10 rfl rfl)
theorem dX4_join_34 : decode cX4_join 34 = .ok (.invokevirtual 156, 3) := dk_182 0 156 (dk_at dksX4_join_1 11 rfl rfl)
theorem dX4_join_37 : decode cX4_join 37 = .ok (.iconst (-1), 1) := dk_2 (dk_at dksX4_join_1 14 rfl rfl)
theorem dX4_join_38 : decode cX4_join 38 = .ok (.ixor, 1) := dk_130 (dk_at dksX4_join_1 15 rfl rfl)
theorem dX4_join_39 : decode cX4_join 39 = .ok (.iand, 1) := dk_126 (dk_at dksX4_join_1 16 rfl rfl)
theorem dX4_join_40 : decode cX4_join 40 = .ok (.ifCond .eq 9, 3) := dk_153 0 9 (dk_at dksX4_join_1 17 rfl rfl)
theorem dX4_join_43 : decode cX4_join 43 = .ok (.aload_n 0, 1) := dk_42 (dk_at dksX4_join_1 20 rfl rfl)
theorem dX4_join_44 : decode cX4_join 44 = .ok (.iconst 2, 1) := dk_5 (dk_at dksX4_join_1 21 rfl rfl)
theorem dX4_join_45 : decode cX4_join 45 = .ok (.invokevirtual 55, 3) := dk_182 0 55 (dk_at dksX4_join_2 0 rfl rfl)
theorem dX4_join_48 : decode cX4_join 48 = .ok (.ireturn, 1) := dk_172 (dk_at dksX4_join_2 3 rfl rfl)
theorem dX4_join_49 : decode cX4_join 49 = .ok (.aload_n 0, 1) := dk_42 (dk_at dksX4_join_2 4 rfl rfl)
theorem dX4_join_50 : decode cX4_join 50 = .ok (.getfield 26, 3) := dk_180 0 26 (dk_at dksX4_join_2 5 rfl rfl)
theorem dX4_join_53 : decode cX4_join 53 = .ok (.iload_n 1, 1) := dk_27 (dk_at dksX4_join_2 8 rfl rfl)
theorem dX4_join_54 : decode cX4_join 54 = .ok (.invokevirtual 90, 3) := dk_182 0 90 (dk_at dksX4_join_2 9 rfl rfl)
theorem dX4_join_57 : decode cX4_join 57 = .ok (.checkcast 100, 3) := dk_192 0 100 (dk_at dksX4_join_2 12 rfl rfl)
theorem dX4_join_60 : decode cX4_join 60 = .ok (.astore 4, 2) := dk_58 4 (dk_at dksX4_join_2 15 rfl rfl)
theorem dX4_join_62 : decode cX4_join 62 = .ok (.aload_n 0, 1) := dk_42 (dk_at dksX4_join_2 17 rfl rfl)
theorem dX4_join_63 : decode cX4_join 63 = .ok (.getfield 22, 3) := dk_180 0 22 (dk_at dksX4_join_2 18 rfl rfl)
theorem dX4_join_66 : decode cX4_join 66 = .ok (.iload_n 2, 1) := dk_28 (dk_at dksX4_join_2 21 rfl rfl)
theorem dX4_join_67 : decode cX4_join 67 = .ok (.invokevirtual 90, 3) := dk_182 0 90 (dk_at dksX4_join_3 0 rfl rfl)
theorem dX4_join_70 : decode cX4_join 70 = .ok (.checkcast 68, 3) := dk_192 0 68 (dk_at dksX4_join_3 3 rfl rfl)
theorem dX4_join_73 : decode cX4_join 73 = .ok (.astore 5, 2) := dk_58 5 (dk_at dksX4_join_3 6 rfl rfl)
theorem dX4_join_75 : decode cX4_join 75 = .ok (.aload 4, 2) := dk_25 4 (dk_at dksX4_join_3 8 rfl rfl)
theorem dX4_join_77 : decode cX4_join 77 = .ok (.getfield 116, 3) := dk_180 0 116 (dk_at dksX4_join_3 10 rfl rfl)
theorem dX4_join_80 : decode cX4_join 80 = .ok (.ifCond .ne 16, 3) := dk_154 0 16 (dk_at dksX4_join_3 13 rfl rfl)
theorem dX4_join_83 : decode cX4_join 83 = .ok (.aload 5, 2) := dk_25 5 (dk_at dksX4_join_3 16 rfl rfl)
theorem dX4_join_85 : decode cX4_join 85 = .ok (.aload 4, 2) := dk_25 4 (dk_at dksX4_join_3 18 rfl rfl)
theorem dX4_join_87 : decode cX4_join 87 = .ok (.getfield 103, 3) := dk_180 0 103 (dk_at dksX4_join_3 20 rfl rfl)
theorem dX4_join_90 : decode cX4_join 90 = .ok (.invokevirtual 159, 3) := dk_182 0 159 (dk_at dksX4_join_4 0 rfl rfl)
theorem dX4_join_93 : decode cX4_join 93 = .ok (.ifCond .ne 9, 3) := dk_154 0 9 (dk_at dksX4_join_4 3 rfl rfl)
theorem dX4_join_96 : decode cX4_join 96 = .ok (.aload_n 0, 1) := dk_42 (dk_at dksX4_join_4 6 rfl rfl)
theorem dX4_join_97 : decode cX4_join 97 = .ok (.iconst 3, 1) := dk_6 (dk_at dksX4_join_4 7 rfl rfl)
theorem dX4_join_98 : decode cX4_join 98 = .ok (.invokevirtual 55, 3) := dk_182 0 55 (dk_at dksX4_join_4 8 rfl rfl)
theorem dX4_join_101 : decode cX4_join 101 = .ok (.ireturn, 1) := dk_172 (dk_at dksX4_join_4 11 rfl rfl)
theorem dX4_join_102 : decode cX4_join 102 = .ok (.aload 5, 2) := dk_25 5 (dk_at dksX4_join_4 12 rfl rfl)
theorem dX4_join_104 : decode cX4_join 104 = .ok (.getfield 162, 3) := dk_180 0 162 (dk_at dksX4_join_4 14 rfl rfl)
theorem dX4_join_107 : decode cX4_join 107 = .ok (.invokevirtual 47, 3) := dk_182 0 47 (dk_at dksX4_join_4 17 rfl rfl)
theorem dX4_join_110 : decode cX4_join 110 = .ok (.istore 6, 2) := dk_54 6 (dk_at dksX4_join_4 20 rfl rfl)
theorem dX4_join_112 : decode cX4_join 112 = .ok (.aload 4, 2) := dk_25 4 (dk_at dksX4_join_4 22 rfl rfl)
theorem dX4_join_114 : decode cX4_join 114 = .ok (.getfield 106, 3) := dk_180 0 106 (dk_at dksX4_join_5 0 rfl rfl)
theorem dX4_join_117 : decode cX4_join 117 = .ok (.ifCond .eq 48, 3) := dk_153 0 48 (dk_at dksX4_join_5 3 rfl rfl)
theorem dX4_join_120 : decode cX4_join 120 = .ok (.iload 6, 2) := dk_21 6 (dk_at dksX4_join_5 6 rfl rfl)
theorem dX4_join_122 : decode cX4_join 122 = .ok (.ifCond .le 43, 3) := dk_158 0 43 (dk_at dksX4_join_5 8 rfl rfl)
theorem dX4_join_125 : decode cX4_join 125 = .ok (.aload_n 0, 1) := dk_42 (dk_at dksX4_join_5 11 rfl rfl)
theorem dX4_join_126 : decode cX4_join 126 = .ok (.getfield 26, 3) := dk_180 0 26 (dk_at dksX4_join_5 12 rfl rfl)
theorem dX4_join_129 : decode cX4_join 129 = .ok (.aload 5, 2) := dk_25 5 (dk_at dksX4_join_5 15 rfl rfl)
theorem dX4_join_131 : decode cX4_join 131 = .ok (.getfield 162, 3) := dk_180 0 162 (dk_at dksX4_join_5 17 rfl rfl)
theorem dX4_join_134 : decode cX4_join 134 = .ok (.iload 6, 2) := dk_21 6 (dk_at dksX4_join_5 20 rfl rfl)
theorem dX4_join_136 : decode cX4_join 136 = .ok (.iconst 1, 1) := dk_4 (dk_at dksX4_join_5 22 rfl rfl)
theorem dX4_join_137 : decode cX4_join 137 = .ok (.isub, 1) := dk_100 (dk_at dksX4_join_5 23 rfl rfl)
theorem dX4_join_138 : decode cX4_join 138 = .ok (.invokevirtual 90, 3) := dk_182 0 90 (dk_at dksX4_join_6 0 rfl rfl)
theorem dX4_join_141 : decode cX4_join 141 = .ok (.checkcast 165, 3) := dk_192 0 165 (dk_at dksX4_join_6 3 rfl rfl)
theorem dX4_join_144 : decode cX4_join 144 = .ok (.invokevirtual 167, 3) := dk_182 0 167 (dk_at dksX4_join_6 6 rfl rfl)
theorem dX4_join_147 : decode cX4_join 147 = .ok (.invokevirtual 90, 3) := dk_182 0 90 (dk_at dksX4_join_6 9 rfl rfl)
theorem dX4_join_150 : decode cX4_join 150 = .ok (.checkcast 100, 3) := dk_192 0 100 (dk_at dksX4_join_6 12 rfl rfl)
theorem dX4_join_153 : decode cX4_join 153 = .ok (.getfield 106, 3) := dk_180 0 106 (dk_at dksX4_join_6 15 rfl rfl)
theorem dX4_join_156 : decode cX4_join 156 = .ok (.ifCond .ne 9, 3) := dk_154 0 9 (dk_at dksX4_join_6 18 rfl rfl)
theorem dX4_join_159 : decode cX4_join 159 = .ok (.iinc 6 (-1), 3) := dk_132 6 255 (dk_at dksX4_join_6 21 rfl rfl)
theorem dX4_join_162 : decode cX4_join 162 = .ok (.goto (-50), 3) := dk_167 255 206 (dk_at dksX4_join_7 0 rfl rfl)
theorem dX4_join_165 : decode cX4_join 165 = .ok (.aload 5, 2) := dk_25 5 (dk_at dksX4_join_7 3 rfl rfl)
theorem dX4_join_167 : decode cX4_join 167 = .ok (.getfield 162, 3) := dk_180 0 162 (dk_at dksX4_join_7 5 rfl rfl)
theorem dX4_join_170 : decode cX4_join 170 = .ok (.iload 6, 2) := dk_21 6 (dk_at dksX4_join_7 8 rfl rfl)
theorem dX4_join_172 : decode cX4_join 172 = .ok (.iload_n 1, 1) := dk_27 (dk_at dksX4_join_7 10 rfl rfl)
theorem dX4_join_173 : decode cX4_join 173 = .ok (.invokestatic 170, 3) := dk_184 0 170 (dk_at dksX4_join_7 11 rfl rfl)
theorem dX4_join_176 : decode cX4_join 176 = .ok (.invokevirtual 174, 3) := dk_182 0 174 (dk_at dksX4_join_7 14 rfl rfl)
theorem dX4_join_179 : decode cX4_join 179 = .ok (.aload 4, 2) := dk_25 4 (dk_at dksX4_join_7 17 rfl rfl)
theorem dX4_join_181 : decode cX4_join 181 = .ok (.iconst 1, 1) := dk_4 (dk_at dksX4_join_7 19 rfl rfl)
theorem dX4_join_182 : decode cX4_join 182 = .ok (.putfield 116, 3) := dk_181 0 116 (dk_at dksX4_join_7 20 rfl rfl)
theorem dX4_join_185 : decode cX4_join 185 = .ok (.aload 4, 2) := dk_25 4 (dk_at dksX4_join_8 0 rfl rfl)
theorem dX4_join_187 : decode cX4_join 187 = .ok (.iload_n 2, 1) := dk_28 (dk_at dksX4_join_8 2 rfl rfl)
theorem dX4_join_188 : decode cX4_join 188 = .ok (.putfield 177, 3) := dk_181 0 177 (dk_at dksX4_join_8 3 rfl rfl)
theorem dX4_join_191 : decode cX4_join 191 = .ok (.aload 4, 2) := dk_25 4 (dk_at dksX4_join_8 6 rfl rfl)
theorem dX4_join_193 : decode cX4_join 193 = .ok (.iload_n 3, 1) := dk_29 (dk_at dksX4_join_8 8 rfl rfl)
theorem dX4_join_194 : decode cX4_join 194 = .ok (.putfield 180, 3) := dk_181 0 180 (dk_at dksX4_join_8 9 rfl rfl)
theorem dX4_join_197 : decode cX4_join 197 = .ok (.iload 6, 2) := dk_21 6 (dk_at dksX4_join_8 12 rfl rfl)
theorem dX4_join_199 : decode cX4_join 199 = .ok (.ireturn, 1) := dk_172 (dk_at dksX4_join_8 14 rfl rfl)
abbrev cX4_head : ByteArray := prog_14_method_20_code
def yX4_head : MethodName := ⟨RX4, "head", "(I)I"⟩
def dkwX4_head_2 : List UInt8 := [167, 255, 214, 28, 172]
abbrev dktX4_head_2 : List UInt8 := dkwX4_head_2 ++ []
def dkwX4_head_1 : List UInt8 := [192, 0, 119, 180, 0, 131, 27, 160, 0, 9, 4, 29, 120, 167, 0, 4, 3, 128, 61, 132, 3, 1]
abbrev dktX4_head_1 : List UInt8 := dkwX4_head_1 ++ dktX4_head_2
def dkwX4_head_0 : List UInt8 := [3, 61, 3, 62, 29, 42, 180, 0, 29, 182, 0, 47, 162, 0, 37, 28, 42, 180, 0, 29, 29, 182, 0, 90]
abbrev dktX4_head_0 : List UInt8 := dkwX4_head_0 ++ dktX4_head_1
theorem dksX4_head_0 : cX4_head.data.toList.drop 0 = dktX4_head_0 := by decide +kernel
theorem dksX4_head_1 : cX4_head.data.toList.drop 24 = dktX4_head_1 := dk_seg dksX4_head_0 24 rfl rfl
theorem dksX4_head_2 : cX4_head.data.toList.drop 46 = dktX4_head_2 := dk_seg dksX4_head_1 22 rfl rfl
theorem dX4_head_0 : decode cX4_head 0 = .ok (.iconst 0, 1) := dk_3 (dk_at dksX4_head_0 0 rfl rfl)
theorem dX4_head_1 : decode cX4_head 1 = .ok (.istore_n 2, 1) := dk_61 (dk_at dksX4_head_0 1 rfl rfl)
theorem dX4_head_2 : decode cX4_head 2 = .ok (.iconst 0, 1) := dk_3 (dk_at dksX4_head_0 2 rfl rfl)
theorem dX4_head_3 : decode cX4_head 3 = .ok (.istore_n 3, 1) := dk_62 (dk_at dksX4_head_0 3 rfl rfl)
theorem dX4_head_4 : decode cX4_head 4 = .ok (.iload_n 3, 1) := dk_29 (dk_at dksX4_head_0 4 rfl rfl)
theorem dX4_head_5 : decode cX4_head 5 = .ok (.aload_n 0, 1) := dk_42 (dk_at dksX4_head_0 5 rfl rfl)
theorem dX4_head_6 : decode cX4_head 6 = .ok (.getfield 29, 3) := dk_180 0 29 (dk_at dksX4_head_0 6 rfl rfl)
theorem dX4_head_9 : decode cX4_head 9 = .ok (.invokevirtual 47, 3) := dk_182 0 47 (dk_at dksX4_head_0 9 rfl rfl)
theorem dX4_head_12 : decode cX4_head 12 = .ok (.if_icmp .ge 37, 3) := dk_162 0 37 (dk_at dksX4_head_0 12 rfl rfl)
theorem dX4_head_15 : decode cX4_head 15 = .ok (.iload_n 2, 1) := dk_28 (dk_at dksX4_head_0 15 rfl rfl)
theorem dX4_head_16 : decode cX4_head 16 = .ok (.aload_n 0, 1) := dk_42 (dk_at dksX4_head_0 16 rfl rfl)
theorem dX4_head_17 : decode cX4_head 17 = .ok (.getfield 29, 3) := dk_180 0 29 (dk_at dksX4_head_0 17 rfl rfl)
theorem dX4_head_20 : decode cX4_head 20 = .ok (.iload_n 3, 1) := dk_29 (dk_at dksX4_head_0 20 rfl rfl)
theorem dX4_head_21 : decode cX4_head 21 = .ok (.invokevirtual 90, 3) := dk_182 0 90 (dk_at dksX4_head_0 21 rfl rfl)
theorem dX4_head_24 : decode cX4_head 24 = .ok (.checkcast 119, 3) := dk_192 0 119 (dk_at dksX4_head_1 0 rfl rfl)
theorem dX4_head_27 : decode cX4_head 27 = .ok (.getfield 131, 3) := dk_180 0 131 (dk_at dksX4_head_1 3 rfl rfl)
theorem dX4_head_30 : decode cX4_head 30 = .ok (.iload_n 1, 1) := dk_27 (dk_at dksX4_head_1 6 rfl rfl)
theorem dX4_head_31 : decode cX4_head 31 = .ok (.if_icmp .ne 9, 3) := dk_160 0 9 (dk_at dksX4_head_1 7 rfl rfl)
theorem dX4_head_34 : decode cX4_head 34 = .ok (.iconst 1, 1) := dk_4 (dk_at dksX4_head_1 10 rfl rfl)
theorem dX4_head_35 : decode cX4_head 35 = .ok (.iload_n 3, 1) := dk_29 (dk_at dksX4_head_1 11 rfl rfl)
theorem dX4_head_36 : decode cX4_head 36 = .ok (.ishl, 1) := dk_120 (dk_at dksX4_head_1 12 rfl rfl)
theorem dX4_head_37 : decode cX4_head 37 = .ok (.goto 4, 3) := dk_167 0 4 (dk_at dksX4_head_1 13 rfl rfl)
theorem dX4_head_40 : decode cX4_head 40 = .ok (.iconst 0, 1) := dk_3 (dk_at dksX4_head_1 16 rfl rfl)
theorem dX4_head_41 : decode cX4_head 41 = .ok (.ior, 1) := dk_128 (dk_at dksX4_head_1 17 rfl rfl)
theorem dX4_head_42 : decode cX4_head 42 = .ok (.istore_n 2, 1) := dk_61 (dk_at dksX4_head_1 18 rfl rfl)
theorem dX4_head_43 : decode cX4_head 43 = .ok (.iinc 3 1, 3) := dk_132 3 1 (dk_at dksX4_head_1 19 rfl rfl)
theorem dX4_head_46 : decode cX4_head 46 = .ok (.goto (-42), 3) := dk_167 255 214 (dk_at dksX4_head_2 0 rfl rfl)
theorem dX4_head_49 : decode cX4_head 49 = .ok (.iload_n 2, 1) := dk_28 (dk_at dksX4_head_2 3 rfl rfl)
theorem dX4_head_50 : decode cX4_head 50 = .ok (.ireturn, 1) := dk_172 (dk_at dksX4_head_2 4 rfl rfl)
abbrev cX4_leave : ByteArray := prog_14_method_23_code
def yX4_leave : MethodName := ⟨RX4, "leave", "(I)I"⟩
def dkwX4_leave_3 : List UInt8 := [29, 172]
abbrev dktX4_leave_3 : List UInt8 := dkwX4_leave_3 ++ []
def dkwX4_leave_2 : List UInt8 := [180, 0, 22, 44, 180, 0, 177, 182, 0, 90, 192, 0, 68, 27, 182, 0, 183, 62, 42, 27, 3, 182, 0, 189]
abbrev dktX4_leave_2 : List UInt8 := dkwX4_leave_2 ++ dktX4_leave_3
def dkwX4_leave_1 : List UInt8 := [182, 0, 90, 192, 0, 100, 77, 44, 180, 0, 116, 4, 159, 0, 9, 42, 5, 182, 0, 55, 172, 42]
abbrev dktX4_leave_1 : List UInt8 := dkwX4_leave_1 ++ dktX4_leave_2
def dkwX4_leave_0 : List UInt8 := [42, 3, 181, 0, 40, 42, 27, 182, 0, 113, 154, 0, 9, 42, 4, 182, 0, 55, 172, 42, 180, 0, 26, 27]
abbrev dktX4_leave_0 : List UInt8 := dkwX4_leave_0 ++ dktX4_leave_1
theorem dksX4_leave_0 : cX4_leave.data.toList.drop 0 = dktX4_leave_0 := by decide +kernel
theorem dksX4_leave_1 : cX4_leave.data.toList.drop 24 = dktX4_leave_1 := dk_seg dksX4_leave_0 24 rfl rfl
theorem dksX4_leave_2 : cX4_leave.data.toList.drop 46 = dktX4_leave_2 := dk_seg dksX4_leave_1 22 rfl rfl
theorem dksX4_leave_3 : cX4_leave.data.toList.drop 70 = dktX4_leave_3 := dk_seg dksX4_leave_2 24 rfl rfl
theorem dX4_leave_0 : decode cX4_leave 0 = .ok (.aload_n 0, 1) := dk_42 (dk_at dksX4_leave_0 0 rfl rfl)
theorem dX4_leave_1 : decode cX4_leave 1 = .ok (.iconst 0, 1) := dk_3 (dk_at dksX4_leave_0 1 rfl rfl)
theorem dX4_leave_2 : decode cX4_leave 2 = .ok (.putfield 40, 3) := dk_181 0 40 (dk_at dksX4_leave_0 2 rfl rfl)
theorem dX4_leave_5 : decode cX4_leave 5 = .ok (.aload_n 0, 1) := dk_42 (dk_at dksX4_leave_0 5 rfl rfl)
theorem dX4_leave_6 : decode cX4_leave 6 = .ok (.iload_n 1, 1) := dk_27 (dk_at dksX4_leave_0 6 rfl rfl)
theorem dX4_leave_7 : decode cX4_leave 7 = .ok (.invokevirtual 113, 3) := dk_182 0 113 (dk_at dksX4_leave_0 7 rfl rfl)
theorem dX4_leave_10 : decode cX4_leave 10 = .ok (.ifCond .ne 9, 3) := dk_154 0 9 (dk_at dksX4_leave_0 10 rfl rfl)
theorem dX4_leave_13 : decode cX4_leave 13 = .ok (.aload_n 0, 1) := dk_42 (dk_at dksX4_leave_0 13 rfl rfl)
theorem dX4_leave_14 : decode cX4_leave 14 = .ok (.iconst 1, 1) := dk_4 (dk_at dksX4_leave_0 14 rfl rfl)
theorem dX4_leave_15 : decode cX4_leave 15 = .ok (.invokevirtual 55, 3) := dk_182 0 55 (dk_at dksX4_leave_0 15 rfl rfl)
theorem dX4_leave_18 : decode cX4_leave 18 = .ok (.ireturn, 1) := dk_172 (dk_at dksX4_leave_0 18 rfl rfl)
theorem dX4_leave_19 : decode cX4_leave 19 = .ok (.aload_n 0, 1) := dk_42 (dk_at dksX4_leave_0 19 rfl rfl)
theorem dX4_leave_20 : decode cX4_leave 20 = .ok (.getfield 26, 3) := dk_180 0 26 (dk_at dksX4_leave_0 20 rfl rfl)
theorem dX4_leave_23 : decode cX4_leave 23 = .ok (.iload_n 1, 1) := dk_27 (dk_at dksX4_leave_0 23 rfl rfl)
theorem dX4_leave_24 : decode cX4_leave 24 = .ok (.invokevirtual 90, 3) := dk_182 0 90 (dk_at dksX4_leave_1 0 rfl rfl)
theorem dX4_leave_27 : decode cX4_leave 27 = .ok (.checkcast 100, 3) := dk_192 0 100 (dk_at dksX4_leave_1 3 rfl rfl)
theorem dX4_leave_30 : decode cX4_leave 30 = .ok (.astore_n 2, 1) := dk_77 (dk_at dksX4_leave_1 6 rfl rfl)
theorem dX4_leave_31 : decode cX4_leave 31 = .ok (.aload_n 2, 1) := dk_44 (dk_at dksX4_leave_1 7 rfl rfl)
theorem dX4_leave_32 : decode cX4_leave 32 = .ok (.getfield 116, 3) := dk_180 0 116 (dk_at dksX4_leave_1 8 rfl rfl)
theorem dX4_leave_35 : decode cX4_leave 35 = .ok (.iconst 1, 1) := dk_4 (dk_at dksX4_leave_1 11 rfl rfl)
theorem dX4_leave_36 : decode cX4_leave 36 = .ok (.if_icmp .eq 9, 3) := dk_159 0 9 (dk_at dksX4_leave_1 12 rfl rfl)
theorem dX4_leave_39 : decode cX4_leave 39 = .ok (.aload_n 0, 1) := dk_42 (dk_at dksX4_leave_1 15 rfl rfl)
theorem dX4_leave_40 : decode cX4_leave 40 = .ok (.iconst 2, 1) := dk_5 (dk_at dksX4_leave_1 16 rfl rfl)
theorem dX4_leave_41 : decode cX4_leave 41 = .ok (.invokevirtual 55, 3) := dk_182 0 55 (dk_at dksX4_leave_1 17 rfl rfl)
theorem dX4_leave_44 : decode cX4_leave 44 = .ok (.ireturn, 1) := dk_172 (dk_at dksX4_leave_1 20 rfl rfl)
theorem dX4_leave_45 : decode cX4_leave 45 = .ok (.aload_n 0, 1) := dk_42 (dk_at dksX4_leave_1 21 rfl rfl)
theorem dX4_leave_46 : decode cX4_leave 46 = .ok (.getfield 22, 3) := dk_180 0 22 (dk_at dksX4_leave_2 0 rfl rfl)
theorem dX4_leave_49 : decode cX4_leave 49 = .ok (.aload_n 2, 1) := dk_44 (dk_at dksX4_leave_2 3 rfl rfl)
theorem dX4_leave_50 : decode cX4_leave 50 = .ok (.getfield 177, 3) := dk_180 0 177 (dk_at dksX4_leave_2 4 rfl rfl)
theorem dX4_leave_53 : decode cX4_leave 53 = .ok (.invokevirtual 90, 3) := dk_182 0 90 (dk_at dksX4_leave_2 7 rfl rfl)
theorem dX4_leave_56 : decode cX4_leave 56 = .ok (.checkcast 68, 3) := dk_192 0 68 (dk_at dksX4_leave_2 10 rfl rfl)
theorem dX4_leave_59 : decode cX4_leave 59 = .ok (.iload_n 1, 1) := dk_27 (dk_at dksX4_leave_2 13 rfl rfl)
theorem dX4_leave_60 : decode cX4_leave 60 = .ok (.invokevirtual 183, 3) := dk_182 0 183 (dk_at dksX4_leave_2 14 rfl rfl)
theorem dX4_leave_63 : decode cX4_leave 63 = .ok (.istore_n 3, 1) := dk_62 (dk_at dksX4_leave_2 17 rfl rfl)
theorem dX4_leave_64 : decode cX4_leave 64 = .ok (.aload_n 0, 1) := dk_42 (dk_at dksX4_leave_2 18 rfl rfl)
theorem dX4_leave_65 : decode cX4_leave 65 = .ok (.iload_n 1, 1) := dk_27 (dk_at dksX4_leave_2 19 rfl rfl)
theorem dX4_leave_66 : decode cX4_leave 66 = .ok (.iconst 0, 1) := dk_3 (dk_at dksX4_leave_2 20 rfl rfl)
theorem dX4_leave_67 : decode cX4_leave 67 = .ok (.invokevirtual 189, 3) := dk_182 0 189 (dk_at dksX4_leave_2 21 rfl rfl)
theorem dX4_leave_70 : decode cX4_leave 70 = .ok (.iload_n 3, 1) := dk_29 (dk_at dksX4_leave_3 0 rfl rfl)
theorem dX4_leave_71 : decode cX4_leave 71 = .ok (.ireturn, 1) := dk_172 (dk_at dksX4_leave_3 1 rfl rfl)
abbrev cX4_stepOut : ByteArray := prog_14_method_22_code
def yX4_stepOut : MethodName := ⟨RX4, "stepOut", "(II)V"⟩
def dkwX4_stepOut_4 : List UInt8 := [180, 0, 29, 21, 5, 182, 0, 90, 192, 0, 119, 17, 3, 231, 181, 0, 131, 132, 5, 1, 167, 255, 199, 177]
abbrev dktX4_stepOut_4 : List UInt8 := dkwX4_stepOut_4 ++ []
def dkwX4_stepOut_3 : List UInt8 := [5, 160, 0, 46, 42, 180, 0, 29, 21, 5, 182, 0, 90, 192, 0, 119, 180, 0, 131, 27, 160, 0, 21, 42]
abbrev dktX4_stepOut_3 : List UInt8 := dkwX4_stepOut_3 ++ dktX4_stepOut_4
def dkwX4_stepOut_2 : List UInt8 := [181, 0, 116, 45, 2, 181, 0, 177, 3, 54, 5, 21, 5, 42, 180, 0, 29, 182, 0, 47, 162, 0, 51, 28]
abbrev dktX4_stepOut_2 : List UInt8 := dkwX4_stepOut_2 ++ dktX4_stepOut_3
def dkwX4_stepOut_1 : List UInt8 := [192, 0, 68, 58, 4, 25, 4, 180, 0, 162, 25, 4, 27, 182, 0, 183, 182, 0, 186, 87, 45, 28]
abbrev dktX4_stepOut_1 : List UInt8 := dkwX4_stepOut_1 ++ dktX4_stepOut_2
def dkwX4_stepOut_0 : List UInt8 := [42, 180, 0, 26, 27, 182, 0, 90, 192, 0, 100, 78, 42, 180, 0, 22, 45, 180, 0, 177, 182, 0, 90]
abbrev dktX4_stepOut_0 : List UInt8 := dkwX4_stepOut_0 ++ dktX4_stepOut_1
theorem dksX4_stepOut_0 : cX4_stepOut.data.toList.drop 0 = dktX4_stepOut_0 := by decide +kernel
theorem dksX4_stepOut_1 : cX4_stepOut.data.toList.drop 23 = dktX4_stepOut_1 := dk_seg dksX4_stepOut_0 23 rfl rfl
theorem dksX4_stepOut_2 : cX4_stepOut.data.toList.drop 45 = dktX4_stepOut_2 := dk_seg dksX4_stepOut_1 22 rfl rfl
theorem dksX4_stepOut_3 : cX4_stepOut.data.toList.drop 69 = dktX4_stepOut_3 := dk_seg dksX4_stepOut_2 24 rfl rfl
theorem dksX4_stepOut_4 : cX4_stepOut.data.toList.drop 93 = dktX4_stepOut_4 := dk_seg dksX4_stepOut_3 24 rfl rfl
theorem dX4_stepOut_0 : decode cX4_stepOut 0 = .ok (.aload_n 0, 1) := dk_42 (dk_at dksX4_stepOut_0 0 rfl rfl)
theorem dX4_stepOut_1 : decode cX4_stepOut 1 = .ok (.getfield 26, 3) := dk_180 0 26 (dk_at dksX4_stepOut_0 1 rfl rfl)
theorem dX4_stepOut_4 : decode cX4_stepOut 4 = .ok (.iload_n 1, 1) := dk_27 (dk_at dksX4_stepOut_0 4 rfl rfl)
theorem dX4_stepOut_5 : decode cX4_stepOut 5 = .ok (.invokevirtual 90, 3) := dk_182 0 90 (dk_at dksX4_stepOut_0 5 rfl rfl)
theorem dX4_stepOut_8 : decode cX4_stepOut 8 = .ok (.checkcast 100, 3) := dk_192 0 100 (dk_at dksX4_stepOut_0 8 rfl rfl)
theorem dX4_stepOut_11 : decode cX4_stepOut 11 = .ok (.astore_n 3, 1) := dk_78 (dk_at dksX4_stepOut_0 11 rfl rfl)
theorem dX4_stepOut_12 : decode cX4_stepOut 12 = .ok (.aload_n 0, 1) := dk_42 (dk_at dksX4_stepOut_0 12 rfl rfl)
theorem dX4_stepOut_13 : decode cX4_stepOut 13 = .ok (.getfield 22, 3) := dk_180 0 22 (dk_at dksX4_stepOut_0 13 rfl rfl)
theorem dX4_stepOut_16 : decode cX4_stepOut 16 = .ok (.aload_n 3, 1) := dk_45 (dk_at dksX4_stepOut_0 16 rfl rfl)
theorem dX4_stepOut_17 : decode cX4_stepOut 17 = .ok (.getfield 177, 3) := dk_180 0 177 (dk_at dksX4_stepOut_0 17 rfl rfl)
theorem dX4_stepOut_20 : decode cX4_stepOut 20 = .ok (.invokevirtual 90, 3) := dk_182 0 90 (dk_at dksX4_stepOut_0 20 rfl rfl)
theorem dX4_stepOut_23 : decode cX4_stepOut 23 = .ok (.checkcast 68, 3) := dk_192 0 68 (dk_at dksX4_stepOut_1 0 rfl rfl)
theorem dX4_stepOut_26 : decode cX4_stepOut 26 = .ok (.astore 4, 2) := dk_58 4 (dk_at dksX4_stepOut_1 3 rfl rfl)
theorem dX4_stepOut_28 : decode cX4_stepOut 28 = .ok (.aload 4, 2) := dk_25 4 (dk_at dksX4_stepOut_1 5 rfl rfl)
theorem dX4_stepOut_30 : decode cX4_stepOut 30 = .ok (.getfield 162, 3) := dk_180 0 162 (dk_at dksX4_stepOut_1 7 rfl rfl)
theorem dX4_stepOut_33 : decode cX4_stepOut 33 = .ok (.aload 4, 2) := dk_25 4 (dk_at dksX4_stepOut_1 10 rfl rfl)
theorem dX4_stepOut_35 : decode cX4_stepOut 35 = .ok (.iload_n 1, 1) := dk_27 (dk_at dksX4_stepOut_1 12 rfl rfl)
theorem dX4_stepOut_36 : decode cX4_stepOut 36 = .ok (.invokevirtual 183, 3) := dk_182 0 183 (dk_at dksX4_stepOut_1 13 rfl rfl)
theorem dX4_stepOut_39 : decode cX4_stepOut 39 = .ok (.invokevirtual 186, 3) := dk_182 0 186 (dk_at dksX4_stepOut_1 16 rfl rfl)
theorem dX4_stepOut_42 : decode cX4_stepOut 42 = .ok (.pop, 1) := dk_87 (dk_at dksX4_stepOut_1 19 rfl rfl)
theorem dX4_stepOut_43 : decode cX4_stepOut 43 = .ok (.aload_n 3, 1) := dk_45 (dk_at dksX4_stepOut_1 20 rfl rfl)
theorem dX4_stepOut_44 : decode cX4_stepOut 44 = .ok (.iload_n 2, 1) := dk_28 (dk_at dksX4_stepOut_1 21 rfl rfl)
theorem dX4_stepOut_45 : decode cX4_stepOut 45 = .ok (.putfield 116, 3) := dk_181 0 116 (dk_at dksX4_stepOut_2 0 rfl rfl)
theorem dX4_stepOut_48 : decode cX4_stepOut 48 = .ok (.aload_n 3, 1) := dk_45 (dk_at dksX4_stepOut_2 3 rfl rfl)
theorem dX4_stepOut_49 : decode cX4_stepOut 49 = .ok (.iconst (-1), 1) := dk_2 (dk_at dksX4_stepOut_2 4 rfl rfl)
theorem dX4_stepOut_50 : decode cX4_stepOut 50 = .ok (.putfield 177, 3) := dk_181 0 177 (dk_at dksX4_stepOut_2 5 rfl rfl)
theorem dX4_stepOut_53 : decode cX4_stepOut 53 = .ok (.iconst 0, 1) := dk_3 (dk_at dksX4_stepOut_2 8 rfl rfl)
theorem dX4_stepOut_54 : decode cX4_stepOut 54 = .ok (.istore 5, 2) := dk_54 5 (dk_at dksX4_stepOut_2 9 rfl rfl)
theorem dX4_stepOut_56 : decode cX4_stepOut 56 = .ok (.iload 5, 2) := dk_21 5 (dk_at dksX4_stepOut_2 11 rfl rfl)
theorem dX4_stepOut_58 : decode cX4_stepOut 58 = .ok (.aload_n 0, 1) := dk_42 (dk_at dksX4_stepOut_2 13 rfl rfl)
theorem dX4_stepOut_59 : decode cX4_stepOut 59 = .ok (.getfield 29, 3) := dk_180 0 29 (dk_at dksX4_stepOut_2 14 rfl rfl)
theorem dX4_stepOut_62 : decode cX4_stepOut 62 = .ok (.invokevirtual 47, 3) := dk_182 0 47 (dk_at dksX4_stepOut_2 17 rfl rfl)
theorem dX4_stepOut_65 : decode cX4_stepOut 65 = .ok (.if_icmp .ge 51, 3) := dk_162 0 51 (dk_at dksX4_stepOut_2 20 rfl rfl)
theorem dX4_stepOut_68 : decode cX4_stepOut 68 = .ok (.iload_n 2, 1) := dk_28 (dk_at dksX4_stepOut_2 23 rfl rfl)
theorem dX4_stepOut_69 : decode cX4_stepOut 69 = .ok (.iconst 2, 1) := dk_5 (dk_at dksX4_stepOut_3 0 rfl rfl)
theorem dX4_stepOut_70 : decode cX4_stepOut 70 = .ok (.if_icmp .ne 46, 3) := dk_160 0 46 (dk_at dksX4_stepOut_3 1 rfl rfl)
theorem dX4_stepOut_73 : decode cX4_stepOut 73 = .ok (.aload_n 0, 1) := dk_42 (dk_at dksX4_stepOut_3 4 rfl rfl)
theorem dX4_stepOut_74 : decode cX4_stepOut 74 = .ok (.getfield 29, 3) := dk_180 0 29 (dk_at dksX4_stepOut_3 5 rfl rfl)
theorem dX4_stepOut_77 : decode cX4_stepOut 77 = .ok (.iload 5, 2) := dk_21 5 (dk_at dksX4_stepOut_3 8 rfl rfl)
theorem dX4_stepOut_79 : decode cX4_stepOut 79 = .ok (.invokevirtual 90, 3) := dk_182 0 90 (dk_at dksX4_stepOut_3 10 rfl rfl)
theorem dX4_stepOut_82 : decode cX4_stepOut 82 = .ok (.checkcast 119, 3) := dk_192 0 119 (dk_at dksX4_stepOut_3 13 rfl rfl)
theorem dX4_stepOut_85 : decode cX4_stepOut 85 = .ok (.getfield 131, 3) := dk_180 0 131 (dk_at dksX4_stepOut_3 16 rfl rfl)
theorem dX4_stepOut_88 : decode cX4_stepOut 88 = .ok (.iload_n 1, 1) := dk_27 (dk_at dksX4_stepOut_3 19 rfl rfl)
theorem dX4_stepOut_89 : decode cX4_stepOut 89 = .ok (.if_icmp .ne 21, 3) := dk_160 0 21 (dk_at dksX4_stepOut_3 20 rfl rfl)
theorem dX4_stepOut_92 : decode cX4_stepOut 92 = .ok (.aload_n 0, 1) := dk_42 (dk_at dksX4_stepOut_3 23 rfl rfl)
theorem dX4_stepOut_93 : decode cX4_stepOut 93 = .ok (.getfield 29, 3) := dk_180 0 29 (dk_at dksX4_stepOut_4 0 rfl rfl)
theorem dX4_stepOut_96 : decode cX4_stepOut 96 = .ok (.iload 5, 2) := dk_21 5 (dk_at dksX4_stepOut_4 3 rfl rfl)
theorem dX4_stepOut_98 : decode cX4_stepOut 98 = .ok (.invokevirtual 90, 3) := dk_182 0 90 (dk_at dksX4_stepOut_4 5 rfl rfl)
theorem dX4_stepOut_101 : decode cX4_stepOut 101 = .ok (.checkcast 119, 3) := dk_192 0 119 (dk_at dksX4_stepOut_4 8 rfl rfl)
theorem dX4_stepOut_104 : decode cX4_stepOut 104 = .ok (.sipush 999, 3) := dk_17 3 231 (dk_at dksX4_stepOut_4 11 rfl rfl)
theorem dX4_stepOut_107 : decode cX4_stepOut 107 = .ok (.putfield 131, 3) := dk_181 0 131 (dk_at dksX4_stepOut_4 14 rfl rfl)
theorem dX4_stepOut_110 : decode cX4_stepOut 110 = .ok (.iinc 5 1, 3) := dk_132 5 1 (dk_at dksX4_stepOut_4 17 rfl rfl)
theorem dX4_stepOut_113 : decode cX4_stepOut 113 = .ok (.goto (-57), 3) := dk_167 255 199 (dk_at dksX4_stepOut_4 20 rfl rfl)
theorem dX4_stepOut_116 : decode cX4_stepOut 116 = .ok (.return_, 1) := dk_177 (dk_at dksX4_stepOut_4 23 rfl rfl)
abbrev cX4_yawn : ByteArray := prog_14_method_29_code
def yX4_yawn : MethodName := ⟨RX4, "yawn", "(I)I"⟩
def dkwX4_yawn_8 : List UInt8 := [5, 182, 0, 189, 132, 5, 255, 167, 255, 185, 21, 4, 172]
abbrev dktX4_yawn_8 : List UInt8 := dkwX4_yawn_8 ++ []
def dkwX4_yawn_7 : List UInt8 := [181, 0, 110, 42, 180, 0, 26, 21, 6, 182, 0, 90, 192, 0, 100, 180, 0, 110, 154, 0, 10, 42, 21, 6]
abbrev dktX4_yawn_7 : List UInt8 := dkwX4_yawn_7 ++ dktX4_yawn_8
def dkwX4_yawn_6 : List UInt8 := [182, 0, 167, 54, 6, 42, 180, 0, 26, 21, 6, 182, 0, 90, 192, 0, 100, 89, 180, 0, 110, 4, 100]
abbrev dktX4_yawn_6 : List UInt8 := dkwX4_yawn_6 ++ dktX4_yawn_7
def dkwX4_yawn_5 : List UInt8 := [182, 0, 47, 4, 100, 54, 5, 21, 5, 155, 0, 72, 44, 180, 0, 162, 21, 5, 182, 0, 90, 192, 0, 165]
abbrev dktX4_yawn_5 : List UInt8 := dkwX4_yawn_5 ++ dktX4_yawn_6
def dkwX4_yawn_4 : List UInt8 := [182, 0, 253, 153, 0, 12, 42, 29, 44, 182, 1, 1, 167, 0, 4, 2, 54, 4, 44, 180, 0, 162]
abbrev dktX4_yawn_4 : List UInt8 := dkwX4_yawn_4 ++ dktX4_yawn_5
def dkwX4_yawn_3 : List UInt8 := [180, 0, 162, 3, 182, 0, 90, 192, 0, 165, 182, 0, 167, 62, 42, 29, 3, 182, 0, 189, 42, 29, 27]
abbrev dktX4_yawn_3 : List UInt8 := dkwX4_yawn_3 ++ dktX4_yawn_4
def dkwX4_yawn_2 : List UInt8 := [182, 0, 247, 153, 0, 9, 42, 5, 182, 0, 55, 172, 42, 89, 180, 0, 250, 4, 96, 181, 0, 250, 44]
abbrev dktX4_yawn_2 : List UInt8 := dkwX4_yawn_2 ++ dktX4_yawn_3
def dkwX4_yawn_1 : List UInt8 := [182, 0, 90, 192, 0, 68, 77, 44, 42, 180, 0, 241, 182, 0, 244, 153, 0, 13, 44, 180, 0, 162]
abbrev dktX4_yawn_1 : List UInt8 := dkwX4_yawn_1 ++ dktX4_yawn_2
def dkwX4_yawn_0 : List UInt8 := [42, 3, 181, 0, 40, 42, 27, 182, 0, 87, 154, 0, 9, 42, 4, 182, 0, 55, 172, 42, 180, 0, 22, 27]
abbrev dktX4_yawn_0 : List UInt8 := dkwX4_yawn_0 ++ dktX4_yawn_1
theorem dksX4_yawn_0 : cX4_yawn.data.toList.drop 0 = dktX4_yawn_0 := by decide +kernel
theorem dksX4_yawn_1 : cX4_yawn.data.toList.drop 24 = dktX4_yawn_1 := dk_seg dksX4_yawn_0 24 rfl rfl
theorem dksX4_yawn_2 : cX4_yawn.data.toList.drop 46 = dktX4_yawn_2 := dk_seg dksX4_yawn_1 22 rfl rfl
theorem dksX4_yawn_3 : cX4_yawn.data.toList.drop 69 = dktX4_yawn_3 := dk_seg dksX4_yawn_2 23 rfl rfl
theorem dksX4_yawn_4 : cX4_yawn.data.toList.drop 92 = dktX4_yawn_4 := dk_seg dksX4_yawn_3 23 rfl rfl
theorem dksX4_yawn_5 : cX4_yawn.data.toList.drop 114 = dktX4_yawn_5 := dk_seg dksX4_yawn_4 22 rfl rfl
theorem dksX4_yawn_6 : cX4_yawn.data.toList.drop 138 = dktX4_yawn_6 := dk_seg dksX4_yawn_5 24 rfl rfl
theorem dksX4_yawn_7 : cX4_yawn.data.toList.drop 161 = dktX4_yawn_7 := dk_seg dksX4_yawn_6 23 rfl rfl
theorem dksX4_yawn_8 : cX4_yawn.data.toList.drop 185 = dktX4_yawn_8 := dk_seg dksX4_yawn_7 24 rfl rfl
theorem dX4_yawn_0 : decode cX4_yawn 0 = .ok (.aload_n 0, 1) := dk_42 (dk_at dksX4_yawn_0 0 rfl rfl)
theorem dX4_yawn_1 : decode cX4_yawn 1 = .ok (.iconst 0, 1) := dk_3 (dk_at dksX4_yawn_0 1 rfl rfl)
theorem dX4_yawn_2 : decode cX4_yawn 2 = .ok (.putfield 40, 3) := dk_181 0 40 (dk_at dksX4_yawn_0 2 rfl rfl)
theorem dX4_yawn_5 : decode cX4_yawn 5 = .ok (.aload_n 0, 1) := dk_42 (dk_at dksX4_yawn_0 5 rfl rfl)
theorem dX4_yawn_6 : decode cX4_yawn 6 = .ok (.iload_n 1, 1) := dk_27 (dk_at dksX4_yawn_0 6 rfl rfl)
theorem dX4_yawn_7 : decode cX4_yawn 7 = .ok (.invokevirtual 87, 3) := dk_182 0 87 (dk_at dksX4_yawn_0 7 rfl rfl)
theorem dX4_yawn_10 : decode cX4_yawn 10 = .ok (.ifCond .ne 9, 3) := dk_154 0 9 (dk_at dksX4_yawn_0 10 rfl rfl)
theorem dX4_yawn_13 : decode cX4_yawn 13 = .ok (.aload_n 0, 1) := dk_42 (dk_at dksX4_yawn_0 13 rfl rfl)
theorem dX4_yawn_14 : decode cX4_yawn 14 = .ok (.iconst 1, 1) := dk_4 (dk_at dksX4_yawn_0 14 rfl rfl)
theorem dX4_yawn_15 : decode cX4_yawn 15 = .ok (.invokevirtual 55, 3) := dk_182 0 55 (dk_at dksX4_yawn_0 15 rfl rfl)
theorem dX4_yawn_18 : decode cX4_yawn 18 = .ok (.ireturn, 1) := dk_172 (dk_at dksX4_yawn_0 18 rfl rfl)
theorem dX4_yawn_19 : decode cX4_yawn 19 = .ok (.aload_n 0, 1) := dk_42 (dk_at dksX4_yawn_0 19 rfl rfl)
theorem dX4_yawn_20 : decode cX4_yawn 20 = .ok (.getfield 22, 3) := dk_180 0 22 (dk_at dksX4_yawn_0 20 rfl rfl)
theorem dX4_yawn_23 : decode cX4_yawn 23 = .ok (.iload_n 1, 1) := dk_27 (dk_at dksX4_yawn_0 23 rfl rfl)
theorem dX4_yawn_24 : decode cX4_yawn 24 = .ok (.invokevirtual 90, 3) := dk_182 0 90 (dk_at dksX4_yawn_1 0 rfl rfl)
theorem dX4_yawn_27 : decode cX4_yawn 27 = .ok (.checkcast 68, 3) := dk_192 0 68 (dk_at dksX4_yawn_1 3 rfl rfl)
theorem dX4_yawn_30 : decode cX4_yawn 30 = .ok (.astore_n 2, 1) := dk_77 (dk_at dksX4_yawn_1 6 rfl rfl)
theorem dX4_yawn_31 : decode cX4_yawn 31 = .ok (.aload_n 2, 1) := dk_44 (dk_at dksX4_yawn_1 7 rfl rfl)
theorem dX4_yawn_32 : decode cX4_yawn 32 = .ok (.aload_n 0, 1) := dk_42 (dk_at dksX4_yawn_1 8 rfl rfl)
theorem dX4_yawn_33 : decode cX4_yawn 33 = .ok (.getfield 241, 3) := dk_180 0 241 (dk_at dksX4_yawn_1 9 rfl rfl)
theorem dX4_yawn_36 : decode cX4_yawn 36 = .ok (.invokevirtual 244, 3) := dk_182 0 244 (dk_at dksX4_yawn_1 12 rfl rfl)
theorem dX4_yawn_39 : decode cX4_yawn 39 = .ok (.ifCond .eq 13, 3) := dk_153 0 13 (dk_at dksX4_yawn_1 15 rfl rfl)
theorem dX4_yawn_42 : decode cX4_yawn 42 = .ok (.aload_n 2, 1) := dk_44 (dk_at dksX4_yawn_1 18 rfl rfl)
theorem dX4_yawn_43 : decode cX4_yawn 43 = .ok (.getfield 162, 3) := dk_180 0 162 (dk_at dksX4_yawn_1 19 rfl rfl)
theorem dX4_yawn_46 : decode cX4_yawn 46 = .ok (.invokevirtual 247, 3) := dk_182 0 247 (dk_at dksX4_yawn_2 0 rfl rfl)
theorem dX4_yawn_49 : decode cX4_yawn 49 = .ok (.ifCond .eq 9, 3) := dk_153 0 9 (dk_at dksX4_yawn_2 3 rfl rfl)
theorem dX4_yawn_52 : decode cX4_yawn 52 = .ok (.aload_n 0, 1) := dk_42 (dk_at dksX4_yawn_2 6 rfl rfl)
theorem dX4_yawn_53 : decode cX4_yawn 53 = .ok (.iconst 2, 1) := dk_5 (dk_at dksX4_yawn_2 7 rfl rfl)
theorem dX4_yawn_54 : decode cX4_yawn 54 = .ok (.invokevirtual 55, 3) := dk_182 0 55 (dk_at dksX4_yawn_2 8 rfl rfl)
theorem dX4_yawn_57 : decode cX4_yawn 57 = .ok (.ireturn, 1) := dk_172 (dk_at dksX4_yawn_2 11 rfl rfl)
theorem dX4_yawn_58 : decode cX4_yawn 58 = .ok (.aload_n 0, 1) := dk_42 (dk_at dksX4_yawn_2 12 rfl rfl)
theorem dX4_yawn_59 : decode cX4_yawn 59 = .ok (.dup, 1) := dk_89 (dk_at dksX4_yawn_2 13 rfl rfl)
theorem dX4_yawn_60 : decode cX4_yawn 60 = .ok (.getfield 250, 3) := dk_180 0 250 (dk_at dksX4_yawn_2 14 rfl rfl)
theorem dX4_yawn_63 : decode cX4_yawn 63 = .ok (.iconst 1, 1) := dk_4 (dk_at dksX4_yawn_2 17 rfl rfl)
theorem dX4_yawn_64 : decode cX4_yawn 64 = .ok (.iadd, 1) := dk_96 (dk_at dksX4_yawn_2 18 rfl rfl)
theorem dX4_yawn_65 : decode cX4_yawn 65 = .ok (.putfield 250, 3) := dk_181 0 250 (dk_at dksX4_yawn_2 19 rfl rfl)
theorem dX4_yawn_68 : decode cX4_yawn 68 = .ok (.aload_n 2, 1) := dk_44 (dk_at dksX4_yawn_2 22 rfl rfl)
theorem dX4_yawn_69 : decode cX4_yawn 69 = .ok (.getfield 162, 3) := dk_180 0 162 (dk_at dksX4_yawn_3 0 rfl rfl)
theorem dX4_yawn_72 : decode cX4_yawn 72 = .ok (.iconst 0, 1) := dk_3 (dk_at dksX4_yawn_3 3 rfl rfl)
theorem dX4_yawn_73 : decode cX4_yawn 73 = .ok (.invokevirtual 90, 3) := dk_182 0 90 (dk_at dksX4_yawn_3 4 rfl rfl)
theorem dX4_yawn_76 : decode cX4_yawn 76 = .ok (.checkcast 165, 3) := dk_192 0 165 (dk_at dksX4_yawn_3 7 rfl rfl)
theorem dX4_yawn_79 : decode cX4_yawn 79 = .ok (.invokevirtual 167, 3) := dk_182 0 167 (dk_at dksX4_yawn_3 10 rfl rfl)
theorem dX4_yawn_82 : decode cX4_yawn 82 = .ok (.istore_n 3, 1) := dk_62 (dk_at dksX4_yawn_3 13 rfl rfl)
theorem dX4_yawn_83 : decode cX4_yawn 83 = .ok (.aload_n 0, 1) := dk_42 (dk_at dksX4_yawn_3 14 rfl rfl)
theorem dX4_yawn_84 : decode cX4_yawn 84 = .ok (.iload_n 3, 1) := dk_29 (dk_at dksX4_yawn_3 15 rfl rfl)
theorem dX4_yawn_85 : decode cX4_yawn 85 = .ok (.iconst 0, 1) := dk_3 (dk_at dksX4_yawn_3 16 rfl rfl)
theorem dX4_yawn_86 : decode cX4_yawn 86 = .ok (.invokevirtual 189, 3) := dk_182 0 189 (dk_at dksX4_yawn_3 17 rfl rfl)
theorem dX4_yawn_89 : decode cX4_yawn 89 = .ok (.aload_n 0, 1) := dk_42 (dk_at dksX4_yawn_3 20 rfl rfl)
theorem dX4_yawn_90 : decode cX4_yawn 90 = .ok (.iload_n 3, 1) := dk_29 (dk_at dksX4_yawn_3 21 rfl rfl)
theorem dX4_yawn_91 : decode cX4_yawn 91 = .ok (.iload_n 1, 1) := dk_27 (dk_at dksX4_yawn_3 22 rfl rfl)
theorem dX4_yawn_92 : decode cX4_yawn 92 = .ok (.invokevirtual 253, 3) := dk_182 0 253 (dk_at dksX4_yawn_4 0 rfl rfl)
theorem dX4_yawn_95 : decode cX4_yawn 95 = .ok (.ifCond .eq 12, 3) := dk_153 0 12 (dk_at dksX4_yawn_4 3 rfl rfl)
theorem dX4_yawn_98 : decode cX4_yawn 98 = .ok (.aload_n 0, 1) := dk_42 (dk_at dksX4_yawn_4 6 rfl rfl)
theorem dX4_yawn_99 : decode cX4_yawn 99 = .ok (.iload_n 3, 1) := dk_29 (dk_at dksX4_yawn_4 7 rfl rfl)
theorem dX4_yawn_100 : decode cX4_yawn 100 = .ok (.aload_n 2, 1) := dk_44 (dk_at dksX4_yawn_4 8 rfl rfl)
theorem dX4_yawn_101 : decode cX4_yawn 101 = .ok (.invokevirtual 257, 3) := dk_182 1 1 (dk_at dksX4_yawn_4 9 rfl rfl)
theorem dX4_yawn_104 : decode cX4_yawn 104 = .ok (.goto 4, 3) := dk_167 0 4 (dk_at dksX4_yawn_4 12 rfl rfl)
theorem dX4_yawn_107 : decode cX4_yawn 107 = .ok (.iconst (-1), 1) := dk_2 (dk_at dksX4_yawn_4 15 rfl rfl)
theorem dX4_yawn_108 : decode cX4_yawn 108 = .ok (.istore 4, 2) := dk_54 4 (dk_at dksX4_yawn_4 16 rfl rfl)
theorem dX4_yawn_110 : decode cX4_yawn 110 = .ok (.aload_n 2, 1) := dk_44 (dk_at dksX4_yawn_4 18 rfl rfl)
theorem dX4_yawn_111 : decode cX4_yawn 111 = .ok (.getfield 162, 3) := dk_180 0 162 (dk_at dksX4_yawn_4 19 rfl rfl)
theorem dX4_yawn_114 : decode cX4_yawn 114 = .ok (.invokevirtual 47, 3) := dk_182 0 47 (dk_at dksX4_yawn_5 0 rfl rfl)
theorem dX4_yawn_117 : decode cX4_yawn 117 = .ok (.iconst 1, 1) := dk_4 (dk_at dksX4_yawn_5 3 rfl rfl)
theorem dX4_yawn_118 : decode cX4_yawn 118 = .ok (.isub, 1) := dk_100 (dk_at dksX4_yawn_5 4 rfl rfl)
theorem dX4_yawn_119 : decode cX4_yawn 119 = .ok (.istore 5, 2) := dk_54 5 (dk_at dksX4_yawn_5 5 rfl rfl)
theorem dX4_yawn_121 : decode cX4_yawn 121 = .ok (.iload 5, 2) := dk_21 5 (dk_at dksX4_yawn_5 7 rfl rfl)
theorem dX4_yawn_123 : decode cX4_yawn 123 = .ok (.ifCond .lt 72, 3) := dk_155 0 72 (dk_at dksX4_yawn_5 9 rfl rfl)
theorem dX4_yawn_126 : decode cX4_yawn 126 = .ok (.aload_n 2, 1) := dk_44 (dk_at dksX4_yawn_5 12 rfl rfl)
theorem dX4_yawn_127 : decode cX4_yawn 127 = .ok (.getfield 162, 3) := dk_180 0 162 (dk_at dksX4_yawn_5 13 rfl rfl)
theorem dX4_yawn_130 : decode cX4_yawn 130 = .ok (.iload 5, 2) := dk_21 5 (dk_at dksX4_yawn_5 16 rfl rfl)
theorem dX4_yawn_132 : decode cX4_yawn 132 = .ok (.invokevirtual 90, 3) := dk_182 0 90 (dk_at dksX4_yawn_5 18 rfl rfl)
theorem dX4_yawn_135 : decode cX4_yawn 135 = .ok (.checkcast 165, 3) := dk_192 0 165 (dk_at dksX4_yawn_5 21 rfl rfl)
theorem dX4_yawn_138 : decode cX4_yawn 138 = .ok (.invokevirtual 167, 3) := dk_182 0 167 (dk_at dksX4_yawn_6 0 rfl rfl)
theorem dX4_yawn_141 : decode cX4_yawn 141 = .ok (.istore 6, 2) := dk_54 6 (dk_at dksX4_yawn_6 3 rfl rfl)
theorem dX4_yawn_143 : decode cX4_yawn 143 = .ok (.aload_n 0, 1) := dk_42 (dk_at dksX4_yawn_6 5 rfl rfl)
theorem dX4_yawn_144 : decode cX4_yawn 144 = .ok (.getfield 26, 3) := dk_180 0 26 (dk_at dksX4_yawn_6 6 rfl rfl)
theorem dX4_yawn_147 : decode cX4_yawn 147 = .ok (.iload 6, 2) := dk_21 6 (dk_at dksX4_yawn_6 9 rfl rfl)
theorem dX4_yawn_149 : decode cX4_yawn 149 = .ok (.invokevirtual 90, 3) := dk_182 0 90 (dk_at dksX4_yawn_6 11 rfl rfl)
theorem dX4_yawn_152 : decode cX4_yawn 152 = .ok (.checkcast 100, 3) := dk_192 0 100 (dk_at dksX4_yawn_6 14 rfl rfl)
theorem dX4_yawn_155 : decode cX4_yawn 155 = .ok (.dup, 1) := dk_89 (dk_at dksX4_yawn_6 17 rfl rfl)
theorem dX4_yawn_156 : decode cX4_yawn 156 = .ok (.getfield 110, 3) := dk_180 0 110 (dk_at dksX4_yawn_6 18 rfl rfl)
theorem dX4_yawn_159 : decode cX4_yawn 159 = .ok (.iconst 1, 1) := dk_4 (dk_at dksX4_yawn_6 21 rfl rfl)
theorem dX4_yawn_160 : decode cX4_yawn 160 = .ok (.isub, 1) := dk_100 (dk_at dksX4_yawn_6 22 rfl rfl)
theorem dX4_yawn_161 : decode cX4_yawn 161 = .ok (.putfield 110, 3) := dk_181 0 110 (dk_at dksX4_yawn_7 0 rfl rfl)
theorem dX4_yawn_164 : decode cX4_yawn 164 = .ok (.aload_n 0, 1) := dk_42 (dk_at dksX4_yawn_7 3 rfl rfl)
theorem dX4_yawn_165 : decode cX4_yawn 165 = .ok (.getfield 26, 3) := dk_180 0 26 (dk_at dksX4_yawn_7 4 rfl rfl)
theorem dX4_yawn_168 : decode cX4_yawn 168 = .ok (.iload 6, 2) := dk_21 6 (dk_at dksX4_yawn_7 7 rfl rfl)
theorem dX4_yawn_170 : decode cX4_yawn 170 = .ok (.invokevirtual 90, 3) := dk_182 0 90 (dk_at dksX4_yawn_7 9 rfl rfl)
theorem dX4_yawn_173 : decode cX4_yawn 173 = .ok (.checkcast 100, 3) := dk_192 0 100 (dk_at dksX4_yawn_7 12 rfl rfl)
theorem dX4_yawn_176 : decode cX4_yawn 176 = .ok (.getfield 110, 3) := dk_180 0 110 (dk_at dksX4_yawn_7 15 rfl rfl)
theorem dX4_yawn_179 : decode cX4_yawn 179 = .ok (.ifCond .ne 10, 3) := dk_154 0 10 (dk_at dksX4_yawn_7 18 rfl rfl)
theorem dX4_yawn_182 : decode cX4_yawn 182 = .ok (.aload_n 0, 1) := dk_42 (dk_at dksX4_yawn_7 21 rfl rfl)
theorem dX4_yawn_183 : decode cX4_yawn 183 = .ok (.iload 6, 2) := dk_21 6 (dk_at dksX4_yawn_7 22 rfl rfl)
theorem dX4_yawn_185 : decode cX4_yawn 185 = .ok (.iconst 2, 1) := dk_5 (dk_at dksX4_yawn_8 0 rfl rfl)
theorem dX4_yawn_186 : decode cX4_yawn 186 = .ok (.invokevirtual 189, 3) := dk_182 0 189 (dk_at dksX4_yawn_8 1 rfl rfl)
theorem dX4_yawn_189 : decode cX4_yawn 189 = .ok (.iinc 5 (-1), 3) := dk_132 5 255 (dk_at dksX4_yawn_8 4 rfl rfl)
theorem dX4_yawn_192 : decode cX4_yawn 192 = .ok (.goto (-71), 3) := dk_167 255 185 (dk_at dksX4_yawn_8 7 rfl rfl)
theorem dX4_yawn_195 : decode cX4_yawn 195 = .ok (.iload 4, 2) := dk_21 4 (dk_at dksX4_yawn_8 10 rfl rfl)
theorem dX4_yawn_197 : decode cX4_yawn 197 = .ok (.ireturn, 1) := dk_172 (dk_at dksX4_yawn_8 12 rfl rfl)
abbrev cX4_isGoodNow : ByteArray := prog_14_method_24_code
def yX4_isGoodNow : MethodName := ⟨RX4, "isGoodNow", "(II)Z"⟩
def dkwX4_isGoodNow_5 : List UInt8 := [167, 0, 4, 3, 172]
abbrev dktX4_isGoodNow_5 : List UInt8 := dkwX4_isGoodNow_5 ++ []
def dkwX4_isGoodNow_4 : List UInt8 := [167, 0, 26, 21, 5, 154, 0, 20, 25, 4, 180, 0, 153, 45, 180, 0, 146, 51, 154, 0, 7, 4]
abbrev dktX4_isGoodNow_4 : List UInt8 := dkwX4_isGoodNow_4 ++ dktX4_isGoodNow_5
def dkwX4_isGoodNow_3 : List UInt8 := [184, 0, 193, 54, 5, 25, 4, 182, 0, 198, 153, 0, 17, 21, 5, 4, 163, 0, 7, 4, 167, 0, 30, 3]
abbrev dktX4_isGoodNow_3 : List UInt8 := dkwX4_isGoodNow_3 ++ dktX4_isGoodNow_4
def dkwX4_isGoodNow_2 : List UInt8 := [182, 0, 90, 192, 0, 68, 58, 4, 45, 180, 0, 146, 27, 28, 42, 180, 0, 137, 184, 0, 149, 100]
abbrev dktX4_isGoodNow_2 : List UInt8 := dkwX4_isGoodNow_2 ++ dktX4_isGoodNow_3
def dkwX4_isGoodNow_1 : List UInt8 := [28, 160, 0, 14, 45, 180, 0, 143, 42, 180, 0, 137, 159, 0, 5, 3, 172, 42, 180, 0, 22, 28]
abbrev dktX4_isGoodNow_1 : List UInt8 := dkwX4_isGoodNow_1 ++ dktX4_isGoodNow_2
def dkwX4_isGoodNow_0 : List UInt8 := [42, 180, 0, 26, 27, 182, 0, 90, 192, 0, 100, 78, 45, 180, 0, 146, 2, 159, 0, 22, 45, 180, 0, 140]
abbrev dktX4_isGoodNow_0 : List UInt8 := dkwX4_isGoodNow_0 ++ dktX4_isGoodNow_1
theorem dksX4_isGoodNow_0 : cX4_isGoodNow.data.toList.drop 0 = dktX4_isGoodNow_0 := by decide +kernel
theorem dksX4_isGoodNow_1 : cX4_isGoodNow.data.toList.drop 24 = dktX4_isGoodNow_1 := dk_seg dksX4_isGoodNow_0 24 rfl rfl
theorem dksX4_isGoodNow_2 : cX4_isGoodNow.data.toList.drop 46 = dktX4_isGoodNow_2 := dk_seg dksX4_isGoodNow_1 22 rfl rfl
theorem dksX4_isGoodNow_3 : cX4_isGoodNow.data.toList.drop 68 = dktX4_isGoodNow_3 := dk_seg dksX4_isGoodNow_2 22 rfl rfl
theorem dksX4_isGoodNow_4 : cX4_isGoodNow.data.toList.drop 92 = dktX4_isGoodNow_4 := dk_seg dksX4_isGoodNow_3 24 rfl rfl
theorem dksX4_isGoodNow_5 : cX4_isGoodNow.data.toList.drop 114 = dktX4_isGoodNow_5 := dk_seg dksX4_isGoodNow_4 22 rfl rfl
theorem dX4_isGoodNow_0 : decode cX4_isGoodNow 0 = .ok (.aload_n 0, 1) := dk_42 (dk_at dksX4_isGoodNow_0 0 rfl rfl)
theorem dX4_isGoodNow_1 : decode cX4_isGoodNow 1 = .ok (.getfield 26, 3) := dk_180 0 26 (dk_at dksX4_isGoodNow_0 1 rfl rfl)
theorem dX4_isGoodNow_4 : decode cX4_isGoodNow 4 = .ok (.iload_n 1, 1) := dk_27 (dk_at dksX4_isGoodNow_0 4 rfl rfl)
theorem dX4_isGoodNow_5 : decode cX4_isGoodNow 5 = .ok (.invokevirtual 90, 3) := dk_182 0 90 (dk_at dksX4_isGoodNow_0 5 rfl rfl)
theorem dX4_isGoodNow_8 : decode cX4_isGoodNow 8 = .ok (.checkcast 100, 3) := dk_192 0 100 (dk_at dksX4_isGoodNow_0 8 rfl rfl)
theorem dX4_isGoodNow_11 : decode cX4_isGoodNow 11 = .ok (.astore_n 3, 1) := dk_78 (dk_at dksX4_isGoodNow_0 11 rfl rfl)
theorem dX4_isGoodNow_12 : decode cX4_isGoodNow 12 = .ok (.aload_n 3, 1) := dk_45 (dk_at dksX4_isGoodNow_0 12 rfl rfl)
theorem dX4_isGoodNow_13 : decode cX4_isGoodNow 13 = .ok (.getfield 146, 3) := dk_180 0 146 (dk_at dksX4_isGoodNow_0 13 rfl rfl)
theorem dX4_isGoodNow_16 : decode cX4_isGoodNow 16 = .ok (.iconst (-1), 1) := dk_2 (dk_at dksX4_isGoodNow_0 16 rfl rfl)
theorem dX4_isGoodNow_17 : decode cX4_isGoodNow 17 = .ok (.if_icmp .eq 22, 3) := dk_159 0 22 (dk_at dksX4_isGoodNow_0 17 rfl rfl)
theorem dX4_isGoodNow_20 : decode cX4_isGoodNow 20 = .ok (.aload_n 3, 1) := dk_45 (dk_at dksX4_isGoodNow_0 20 rfl rfl)
theorem dX4_isGoodNow_21 : decode cX4_isGoodNow 21 = .ok (.getfield 140, 3) := dk_180 0 140 (dk_at dksX4_isGoodNow_0 21 rfl rfl)
theorem dX4_isGoodNow_24 : decode cX4_isGoodNow 24 = .ok (.iload_n 2, 1) := dk_28 (dk_at dksX4_isGoodNow_1 0 rfl rfl)
theorem dX4_isGoodNow_25 : decode cX4_isGoodNow 25 = .ok (.if_icmp .ne 14, 3) := dk_160 0 14 (dk_at dksX4_isGoodNow_1 1 rfl rfl)
theorem dX4_isGoodNow_28 : decode cX4_isGoodNow 28 = .ok (.aload_n 3, 1) := dk_45 (dk_at dksX4_isGoodNow_1 4 rfl rfl)
theorem dX4_isGoodNow_29 : decode cX4_isGoodNow 29 = .ok (.getfield 143, 3) := dk_180 0 143 (dk_at dksX4_isGoodNow_1 5 rfl rfl)
theorem dX4_isGoodNow_32 : decode cX4_isGoodNow 32 = .ok (.aload_n 0, 1) := dk_42 (dk_at dksX4_isGoodNow_1 8 rfl rfl)
theorem dX4_isGoodNow_33 : decode cX4_isGoodNow 33 = .ok (.getfield 137, 3) := dk_180 0 137 (dk_at dksX4_isGoodNow_1 9 rfl rfl)
theorem dX4_isGoodNow_36 : decode cX4_isGoodNow 36 = .ok (.if_icmp .eq 5, 3) := dk_159 0 5 (dk_at dksX4_isGoodNow_1 12 rfl rfl)
theorem dX4_isGoodNow_39 : decode cX4_isGoodNow 39 = .ok (.iconst 0, 1) := dk_3 (dk_at dksX4_isGoodNow_1 15 rfl rfl)
theorem dX4_isGoodNow_40 : decode cX4_isGoodNow 40 = .ok (.ireturn, 1) := dk_172 (dk_at dksX4_isGoodNow_1 16 rfl rfl)
theorem dX4_isGoodNow_41 : decode cX4_isGoodNow 41 = .ok (.aload_n 0, 1) := dk_42 (dk_at dksX4_isGoodNow_1 17 rfl rfl)
theorem dX4_isGoodNow_42 : decode cX4_isGoodNow 42 = .ok (.getfield 22, 3) := dk_180 0 22 (dk_at dksX4_isGoodNow_1 18 rfl rfl)
theorem dX4_isGoodNow_45 : decode cX4_isGoodNow 45 = .ok (.iload_n 2, 1) := dk_28 (dk_at dksX4_isGoodNow_1 21 rfl rfl)
theorem dX4_isGoodNow_46 : decode cX4_isGoodNow 46 = .ok (.invokevirtual 90, 3) := dk_182 0 90 (dk_at dksX4_isGoodNow_2 0 rfl rfl)
theorem dX4_isGoodNow_49 : decode cX4_isGoodNow 49 = .ok (.checkcast 68, 3) := dk_192 0 68 (dk_at dksX4_isGoodNow_2 3 rfl rfl)
theorem dX4_isGoodNow_52 : decode cX4_isGoodNow 52 = .ok (.astore 4, 2) := dk_58 4 (dk_at dksX4_isGoodNow_2 6 rfl rfl)
theorem dX4_isGoodNow_54 : decode cX4_isGoodNow 54 = .ok (.aload_n 3, 1) := dk_45 (dk_at dksX4_isGoodNow_2 8 rfl rfl)
theorem dX4_isGoodNow_55 : decode cX4_isGoodNow 55 = .ok (.getfield 146, 3) := dk_180 0 146 (dk_at dksX4_isGoodNow_2 9 rfl rfl)
theorem dX4_isGoodNow_58 : decode cX4_isGoodNow 58 = .ok (.iload_n 1, 1) := dk_27 (dk_at dksX4_isGoodNow_2 12 rfl rfl)
theorem dX4_isGoodNow_59 : decode cX4_isGoodNow 59 = .ok (.iload_n 2, 1) := dk_28 (dk_at dksX4_isGoodNow_2 13 rfl rfl)
theorem dX4_isGoodNow_60 : decode cX4_isGoodNow 60 = .ok (.aload_n 0, 1) := dk_42 (dk_at dksX4_isGoodNow_2 14 rfl rfl)
theorem dX4_isGoodNow_61 : decode cX4_isGoodNow 61 = .ok (.getfield 137, 3) := dk_180 0 137 (dk_at dksX4_isGoodNow_2 15 rfl rfl)
theorem dX4_isGoodNow_64 : decode cX4_isGoodNow 64 = .ok (.invokestatic 149, 3) := dk_184 0 149 (dk_at dksX4_isGoodNow_2 18 rfl rfl)
theorem dX4_isGoodNow_67 : decode cX4_isGoodNow 67 = .ok (.isub, 1) := dk_100 (dk_at dksX4_isGoodNow_2 21 rfl rfl)
theorem dX4_isGoodNow_68 : decode cX4_isGoodNow 68 = .ok (.invokestatic 193, 3) := dk_184 0 193 (dk_at dksX4_isGoodNow_3 0 rfl rfl)
theorem dX4_isGoodNow_71 : decode cX4_isGoodNow 71 = .ok (.istore 5, 2) := dk_54 5 (dk_at dksX4_isGoodNow_3 3 rfl rfl)
theorem dX4_isGoodNow_73 : decode cX4_isGoodNow 73 = .ok (.aload 4, 2) := dk_25 4 (dk_at dksX4_isGoodNow_3 5 rfl rfl)
theorem dX4_isGoodNow_75 : decode cX4_isGoodNow 75 = .ok (.invokevirtual 198, 3) := dk_182 0 198 (dk_at dksX4_isGoodNow_3 7 rfl rfl)
theorem dX4_isGoodNow_78 : decode cX4_isGoodNow 78 = .ok (.ifCond .eq 17, 3) := dk_153 0 17 (dk_at dksX4_isGoodNow_3 10 rfl rfl)
theorem dX4_isGoodNow_81 : decode cX4_isGoodNow 81 = .ok (.iload 5, 2) := dk_21 5 (dk_at dksX4_isGoodNow_3 13 rfl rfl)
theorem dX4_isGoodNow_83 : decode cX4_isGoodNow 83 = .ok (.iconst 1, 1) := dk_4 (dk_at dksX4_isGoodNow_3 15 rfl rfl)
theorem dX4_isGoodNow_84 : decode cX4_isGoodNow 84 = .ok (.if_icmp .gt 7, 3) := dk_163 0 7 (dk_at dksX4_isGoodNow_3 16 rfl rfl)
theorem dX4_isGoodNow_87 : decode cX4_isGoodNow 87 = .ok (.iconst 1, 1) := dk_4 (dk_at dksX4_isGoodNow_3 19 rfl rfl)
theorem dX4_isGoodNow_88 : decode cX4_isGoodNow 88 = .ok (.goto 30, 3) := dk_167 0 30 (dk_at dksX4_isGoodNow_3 20 rfl rfl)
theorem dX4_isGoodNow_91 : decode cX4_isGoodNow 91 = .ok (.iconst 0, 1) := dk_3 (dk_at dksX4_isGoodNow_3 23 rfl rfl)
theorem dX4_isGoodNow_92 : decode cX4_isGoodNow 92 = .ok (.goto 26, 3) := dk_167 0 26 (dk_at dksX4_isGoodNow_4 0 rfl rfl)
theorem dX4_isGoodNow_95 : decode cX4_isGoodNow 95 = .ok (.iload 5, 2) := dk_21 5 (dk_at dksX4_isGoodNow_4 3 rfl rfl)
theorem dX4_isGoodNow_97 : decode cX4_isGoodNow 97 = .ok (.ifCond .ne 20, 3) := dk_154 0 20 (dk_at dksX4_isGoodNow_4 5 rfl rfl)
theorem dX4_isGoodNow_100 : decode cX4_isGoodNow 100 = .ok (.aload 4, 2) := dk_25 4 (dk_at dksX4_isGoodNow_4 8 rfl rfl)
theorem dX4_isGoodNow_102 : decode cX4_isGoodNow 102 = .ok (.getfield 153, 3) := dk_180 0 153 (dk_at dksX4_isGoodNow_4 10 rfl rfl)
theorem dX4_isGoodNow_105 : decode cX4_isGoodNow 105 = .ok (.aload_n 3, 1) := dk_45 (dk_at dksX4_isGoodNow_4 13 rfl rfl)
theorem dX4_isGoodNow_106 : decode cX4_isGoodNow 106 = .ok (.getfield 146, 3) := dk_180 0 146 (dk_at dksX4_isGoodNow_4 14 rfl rfl)
theorem dX4_isGoodNow_109 : decode cX4_isGoodNow 109 = .ok (.baload, 1) := dk_51 (dk_at dksX4_isGoodNow_4 17 rfl rfl)
theorem dX4_isGoodNow_110 : decode cX4_isGoodNow 110 = .ok (.ifCond .ne 7, 3) := dk_154 0 7 (dk_at dksX4_isGoodNow_4 18 rfl rfl)
theorem dX4_isGoodNow_113 : decode cX4_isGoodNow 113 = .ok (.iconst 1, 1) := dk_4 (dk_at dksX4_isGoodNow_4 21 rfl rfl)
theorem dX4_isGoodNow_114 : decode cX4_isGoodNow 114 = .ok (.goto 4, 3) := dk_167 0 4 (dk_at dksX4_isGoodNow_5 0 rfl rfl)
theorem dX4_isGoodNow_117 : decode cX4_isGoodNow 117 = .ok (.iconst 0, 1) := dk_3 (dk_at dksX4_isGoodNow_5 3 rfl rfl)
theorem dX4_isGoodNow_118 : decode cX4_isGoodNow 118 = .ok (.ireturn, 1) := dk_172 (dk_at dksX4_isGoodNow_5 4 rfl rfl)
abbrev cX4_comeThrough : ByteArray := prog_14_method_27_code
def yX4_comeThrough : MethodName := ⟨RX4, "comeThrough", "(ILLullabygateModel$Gate;)I"⟩
def dkwX4_comeThrough_14 : List UInt8 := [167, 255, 184, 45, 21, 4, 181, 0, 103, 45, 2, 181, 0, 146, 21, 6, 172]
abbrev dktX4_comeThrough_14 : List UInt8 := dkwX4_comeThrough_14 ++ []
def dkwX4_comeThrough_13 : List UInt8 := [21, 7, 42, 180, 0, 15, 21, 4, 50, 180, 0, 62, 163, 0, 9, 25, 9, 5, 181, 0, 208, 132, 8, 1]
abbrev dktX4_comeThrough_13 : List UInt8 := dkwX4_comeThrough_13 ++ dktX4_comeThrough_14
def dkwX4_comeThrough_12 : List UInt8 := [58, 9, 25, 9, 180, 0, 131, 27, 160, 0, 37, 45, 180, 0, 180, 21, 8, 122, 4, 126, 4, 160, 0, 24]
abbrev dktX4_comeThrough_12 : List UInt8 := dkwX4_comeThrough_12 ++ dktX4_comeThrough_13
def dkwX4_comeThrough_11 : List UInt8 := [21, 8, 42, 180, 0, 29, 182, 0, 47, 162, 0, 66, 42, 180, 0, 29, 21, 8, 182, 0, 90, 192, 0, 119]
abbrev dktX4_comeThrough_11 : List UInt8 := dkwX4_comeThrough_11 ++ dktX4_comeThrough_12
def dkwX4_comeThrough_10 : List UInt8 := [180, 0, 234, 42, 21, 7, 42, 180, 0, 15, 21, 4, 50, 182, 0, 237, 96, 181, 0, 234, 3, 54, 8]
abbrev dktX4_comeThrough_10 : List UInt8 := dkwX4_comeThrough_10 ++ dktX4_comeThrough_11
def dkwX4_comeThrough_9 : List UInt8 := [132, 7, 1, 167, 255, 130, 42, 27, 21, 4, 4, 182, 0, 230, 54, 7, 42, 180, 0, 15, 21, 4, 50, 89]
abbrev dktX4_comeThrough_9 : List UInt8 := dkwX4_comeThrough_9 ++ dktX4_comeThrough_10
def dkwX4_comeThrough_8 : List UInt8 := [42, 180, 0, 15, 21, 4, 50, 89, 180, 0, 227, 25, 8, 180, 0, 125, 96, 181, 0, 227, 132, 6, 1]
abbrev dktX4_comeThrough_8 : List UInt8 := dkwX4_comeThrough_8 ++ dktX4_comeThrough_9
def dkwX4_comeThrough_7 : List UInt8 := [25, 8, 27, 181, 0, 224, 21, 5, 154, 0, 6, 167, 0, 36, 25, 8, 16, 100, 21, 4, 96, 181, 0, 131]
abbrev dktX4_comeThrough_7 : List UInt8 := dkwX4_comeThrough_7 ++ dktX4_comeThrough_8
def dkwX4_comeThrough_6 : List UInt8 := [27, 25, 8, 180, 0, 122, 182, 0, 221, 25, 8, 21, 5, 153, 0, 7, 6, 167, 0, 4, 7, 181, 0, 208]
abbrev dktX4_comeThrough_6 : List UInt8 := dkwX4_comeThrough_6 ++ dktX4_comeThrough_7
def dkwX4_comeThrough_5 : List UInt8 := [180, 0, 131, 27, 160, 0, 91, 45, 180, 0, 180, 21, 7, 122, 4, 126, 4, 160, 0, 6, 167, 0, 75, 42]
abbrev dktX4_comeThrough_5 : List UInt8 := dkwX4_comeThrough_5 ++ dktX4_comeThrough_6
def dkwX4_comeThrough_4 : List UInt8 := [182, 0, 47, 162, 0, 120, 42, 180, 0, 29, 21, 7, 182, 0, 90, 192, 0, 119, 58, 8, 25, 8]
abbrev dktX4_comeThrough_4 : List UInt8 := dkwX4_comeThrough_4 ++ dktX4_comeThrough_5
def dkwX4_comeThrough_3 : List UInt8 := [42, 89, 180, 0, 218, 4, 96, 181, 0, 218, 3, 54, 6, 3, 54, 7, 21, 7, 42, 180, 0, 29]
abbrev dktX4_comeThrough_3 : List UInt8 := dkwX4_comeThrough_3 ++ dktX4_comeThrough_4
def dkwX4_comeThrough_2 : List UInt8 := [167, 0, 4, 3, 54, 5, 42, 16, 21, 42, 180, 0, 7, 104, 16, 11, 96, 17, 16, 0, 112, 181, 0, 7]
abbrev dktX4_comeThrough_2 : List UInt8 := dkwX4_comeThrough_2 ++ dktX4_comeThrough_3
def dkwX4_comeThrough_1 : List UInt8 := [54, 5, 44, 182, 0, 198, 154, 0, 52, 42, 180, 0, 7, 16, 10, 112, 44, 180, 0, 94, 162, 0, 7, 4]
abbrev dktX4_comeThrough_1 : List UInt8 := dkwX4_comeThrough_1 ++ dktX4_comeThrough_2
def dkwX4_comeThrough_0 : List UInt8 := [42, 180, 0, 26, 27, 182, 0, 90, 192, 0, 100, 78, 44, 45, 180, 0, 103, 182, 0, 215, 54, 4, 3]
abbrev dktX4_comeThrough_0 : List UInt8 := dkwX4_comeThrough_0 ++ dktX4_comeThrough_1
theorem dksX4_comeThrough_0 : cX4_comeThrough.data.toList.drop 0 = dktX4_comeThrough_0 := by decide +kernel
theorem dksX4_comeThrough_1 : cX4_comeThrough.data.toList.drop 23 = dktX4_comeThrough_1 := dk_seg dksX4_comeThrough_0 23 rfl rfl
theorem dksX4_comeThrough_2 : cX4_comeThrough.data.toList.drop 47 = dktX4_comeThrough_2 := dk_seg dksX4_comeThrough_1 24 rfl rfl
theorem dksX4_comeThrough_3 : cX4_comeThrough.data.toList.drop 71 = dktX4_comeThrough_3 := dk_seg dksX4_comeThrough_2 24 rfl rfl
theorem dksX4_comeThrough_4 : cX4_comeThrough.data.toList.drop 93 = dktX4_comeThrough_4 := dk_seg dksX4_comeThrough_3 22 rfl rfl
theorem dksX4_comeThrough_5 : cX4_comeThrough.data.toList.drop 115 = dktX4_comeThrough_5 := dk_seg dksX4_comeThrough_4 22 rfl rfl
theorem dksX4_comeThrough_6 : cX4_comeThrough.data.toList.drop 139 = dktX4_comeThrough_6 := dk_seg dksX4_comeThrough_5 24 rfl rfl
theorem dksX4_comeThrough_7 : cX4_comeThrough.data.toList.drop 163 = dktX4_comeThrough_7 := dk_seg dksX4_comeThrough_6 24 rfl rfl
theorem dksX4_comeThrough_8 : cX4_comeThrough.data.toList.drop 187 = dktX4_comeThrough_8 := dk_seg dksX4_comeThrough_7 24 rfl rfl
theorem dksX4_comeThrough_9 : cX4_comeThrough.data.toList.drop 210 = dktX4_comeThrough_9 := dk_seg dksX4_comeThrough_8 23 rfl rfl
theorem dksX4_comeThrough_10 : cX4_comeThrough.data.toList.drop 234 = dktX4_comeThrough_10 := dk_seg dksX4_comeThrough_9 24 rfl rfl
theorem dksX4_comeThrough_11 : cX4_comeThrough.data.toList.drop 257 = dktX4_comeThrough_11 := dk_seg dksX4_comeThrough_10 23 rfl rfl
theorem dksX4_comeThrough_12 : cX4_comeThrough.data.toList.drop 281 = dktX4_comeThrough_12 := dk_seg dksX4_comeThrough_11 24 rfl rfl
theorem dksX4_comeThrough_13 : cX4_comeThrough.data.toList.drop 305 = dktX4_comeThrough_13 := dk_seg dksX4_comeThrough_12 24 rfl rfl
theorem dksX4_comeThrough_14 : cX4_comeThrough.data.toList.drop 329 = dktX4_comeThrough_14 := dk_seg dksX4_comeThrough_13 24 rfl rfl
theorem dX4_comeThrough_0 : decode cX4_comeThrough 0 = .ok (.aload_n 0, 1) := dk_42 (dk_at dksX4_comeThrough_0 0 rfl rfl)
theorem dX4_comeThrough_1 : decode cX4_comeThrough 1 = .ok (.getfield 26, 3) := dk_180 0 26 (dk_at dksX4_comeThrough_0 1 rfl rfl)
theorem dX4_comeThrough_4 : decode cX4_comeThrough 4 = .ok (.iload_n 1, 1) := dk_27 (dk_at dksX4_comeThrough_0 4 rfl rfl)
theorem dX4_comeThrough_5 : decode cX4_comeThrough 5 = .ok (.invokevirtual 90, 3) := dk_182 0 90 (dk_at dksX4_comeThrough_0 5 rfl rfl)
theorem dX4_comeThrough_8 : decode cX4_comeThrough 8 = .ok (.checkcast 100, 3) := dk_192 0 100 (dk_at dksX4_comeThrough_0 8 rfl rfl)
theorem dX4_comeThrough_11 : decode cX4_comeThrough 11 = .ok (.astore_n 3, 1) := dk_78 (dk_at dksX4_comeThrough_0 11 rfl rfl)
theorem dX4_comeThrough_12 : decode cX4_comeThrough 12 = .ok (.aload_n 2, 1) := dk_44 (dk_at dksX4_comeThrough_0 12 rfl rfl)
theorem dX4_comeThrough_13 : decode cX4_comeThrough 13 = .ok (.aload_n 3, 1) := dk_45 (dk_at dksX4_comeThrough_0 13 rfl rfl)
theorem dX4_comeThrough_14 : decode cX4_comeThrough 14 = .ok (.getfield 103, 3) := dk_180 0 103 (dk_at dksX4_comeThrough_0 14 rfl rfl)
theorem dX4_comeThrough_17 : decode cX4_comeThrough 17 = .ok (.invokevirtual 215, 3) := dk_182 0 215 (dk_at dksX4_comeThrough_0 17 rfl rfl)
theorem dX4_comeThrough_20 : decode cX4_comeThrough 20 = .ok (.istore 4, 2) := dk_54 4 (dk_at dksX4_comeThrough_0 20 rfl rfl)
theorem dX4_comeThrough_22 : decode cX4_comeThrough 22 = .ok (.iconst 0, 1) := dk_3 (dk_at dksX4_comeThrough_0 22 rfl rfl)
theorem dX4_comeThrough_23 : decode cX4_comeThrough 23 = .ok (.istore 5, 2) := dk_54 5 (dk_at dksX4_comeThrough_1 0 rfl rfl)
theorem dX4_comeThrough_25 : decode cX4_comeThrough 25 = .ok (.aload_n 2, 1) := dk_44 (dk_at dksX4_comeThrough_1 2 rfl rfl)
theorem dX4_comeThrough_26 : decode cX4_comeThrough 26 = .ok (.invokevirtual 198, 3) := dk_182 0 198 (dk_at dksX4_comeThrough_1 3 rfl rfl)
theorem dX4_comeThrough_29 : decode cX4_comeThrough 29 = .ok (.ifCond .ne 52, 3) := dk_154 0 52 (dk_at dksX4_comeThrough_1 6 rfl rfl)
theorem dX4_comeThrough_32 : decode cX4_comeThrough 32 = .ok (.aload_n 0, 1) := dk_42 (dk_at dksX4_comeThrough_1 9 rfl rfl)
theorem dX4_comeThrough_33 : decode cX4_comeThrough 33 = .ok (.getfield 7, 3) := dk_180 0 7 (dk_at dksX4_comeThrough_1 10 rfl rfl)
theorem dX4_comeThrough_36 : decode cX4_comeThrough 36 = .ok (.bipush 10, 2) := dk_16 10 (dk_at dksX4_comeThrough_1 13 rfl rfl)
theorem dX4_comeThrough_38 : decode cX4_comeThrough 38 = .ok (.irem, 1) := dk_112 (dk_at dksX4_comeThrough_1 15 rfl rfl)
theorem dX4_comeThrough_39 : decode cX4_comeThrough 39 = .ok (.aload_n 2, 1) := dk_44 (dk_at dksX4_comeThrough_1 16 rfl rfl)
theorem dX4_comeThrough_40 : decode cX4_comeThrough 40 = .ok (.getfield 94, 3) := dk_180 0 94 (dk_at dksX4_comeThrough_1 17 rfl rfl)
theorem dX4_comeThrough_43 : decode cX4_comeThrough 43 = .ok (.if_icmp .ge 7, 3) := dk_162 0 7 (dk_at dksX4_comeThrough_1 20 rfl rfl)
theorem dX4_comeThrough_46 : decode cX4_comeThrough 46 = .ok (.iconst 1, 1) := dk_4 (dk_at dksX4_comeThrough_1 23 rfl rfl)
theorem dX4_comeThrough_47 : decode cX4_comeThrough 47 = .ok (.goto 4, 3) := dk_167 0 4 (dk_at dksX4_comeThrough_2 0 rfl rfl)
theorem dX4_comeThrough_50 : decode cX4_comeThrough 50 = .ok (.iconst 0, 1) := dk_3 (dk_at dksX4_comeThrough_2 3 rfl rfl)
theorem dX4_comeThrough_51 : decode cX4_comeThrough 51 = .ok (.istore 5, 2) := dk_54 5 (dk_at dksX4_comeThrough_2 4 rfl rfl)
theorem dX4_comeThrough_53 : decode cX4_comeThrough 53 = .ok (.aload_n 0, 1) := dk_42 (dk_at dksX4_comeThrough_2 6 rfl rfl)
theorem dX4_comeThrough_54 : decode cX4_comeThrough 54 = .ok (.bipush 21, 2) := dk_16 21 (dk_at dksX4_comeThrough_2 7 rfl rfl)
theorem dX4_comeThrough_56 : decode cX4_comeThrough 56 = .ok (.aload_n 0, 1) := dk_42 (dk_at dksX4_comeThrough_2 9 rfl rfl)
theorem dX4_comeThrough_57 : decode cX4_comeThrough 57 = .ok (.getfield 7, 3) := dk_180 0 7 (dk_at dksX4_comeThrough_2 10 rfl rfl)
theorem dX4_comeThrough_60 : decode cX4_comeThrough 60 = .ok (.imul, 1) := dk_104 (dk_at dksX4_comeThrough_2 13 rfl rfl)
theorem dX4_comeThrough_61 : decode cX4_comeThrough 61 = .ok (.bipush 11, 2) := dk_16 11 (dk_at dksX4_comeThrough_2 14 rfl rfl)
theorem dX4_comeThrough_63 : decode cX4_comeThrough 63 = .ok (.iadd, 1) := dk_96 (dk_at dksX4_comeThrough_2 16 rfl rfl)
theorem dX4_comeThrough_64 : decode cX4_comeThrough 64 = .ok (.sipush 4096, 3) := dk_17 16 0 (dk_at dksX4_comeThrough_2 17 rfl rfl)
theorem dX4_comeThrough_67 : decode cX4_comeThrough 67 = .ok (.irem, 1) := dk_112 (dk_at dksX4_comeThrough_2 20 rfl rfl)
theorem dX4_comeThrough_68 : decode cX4_comeThrough 68 = .ok (.putfield 7, 3) := dk_181 0 7 (dk_at dksX4_comeThrough_2 21 rfl rfl)
theorem dX4_comeThrough_71 : decode cX4_comeThrough 71 = .ok (.aload_n 0, 1) := dk_42 (dk_at dksX4_comeThrough_3 0 rfl rfl)
theorem dX4_comeThrough_72 : decode cX4_comeThrough 72 = .ok (.dup, 1) := dk_89 (dk_at dksX4_comeThrough_3 1 rfl rfl)
theorem dX4_comeThrough_73 : decode cX4_comeThrough 73 = .ok (.getfield 218, 3) := dk_180 0 218 (dk_at dksX4_comeThrough_3 2 rfl rfl)
theorem dX4_comeThrough_76 : decode cX4_comeThrough 76 = .ok (.iconst 1, 1) := dk_4 (dk_at dksX4_comeThrough_3 5 rfl rfl)
theorem dX4_comeThrough_77 : decode cX4_comeThrough 77 = .ok (.iadd, 1) := dk_96 (dk_at dksX4_comeThrough_3 6 rfl rfl)
theorem dX4_comeThrough_78 : decode cX4_comeThrough 78 = .ok (.putfield 218, 3) := dk_181 0 218 (dk_at dksX4_comeThrough_3 7 rfl rfl)
theorem dX4_comeThrough_81 : decode cX4_comeThrough 81 = .ok (.iconst 0, 1) := dk_3 (dk_at dksX4_comeThrough_3 10 rfl rfl)
theorem dX4_comeThrough_82 : decode cX4_comeThrough 82 = .ok (.istore 6, 2) := dk_54 6 (dk_at dksX4_comeThrough_3 11 rfl rfl)
theorem dX4_comeThrough_84 : decode cX4_comeThrough 84 = .ok (.iconst 0, 1) := dk_3 (dk_at dksX4_comeThrough_3 13 rfl rfl)
theorem dX4_comeThrough_85 : decode cX4_comeThrough 85 = .ok (.istore 7, 2) := dk_54 7 (dk_at dksX4_comeThrough_3 14 rfl rfl)
theorem dX4_comeThrough_87 : decode cX4_comeThrough 87 = .ok (.iload 7, 2) := dk_21 7 (dk_at dksX4_comeThrough_3 16 rfl rfl)
theorem dX4_comeThrough_89 : decode cX4_comeThrough 89 = .ok (.aload_n 0, 1) := dk_42 (dk_at dksX4_comeThrough_3 18 rfl rfl)
theorem dX4_comeThrough_90 : decode cX4_comeThrough 90 = .ok (.getfield 29, 3) := dk_180 0 29 (dk_at dksX4_comeThrough_3 19 rfl rfl)
theorem dX4_comeThrough_93 : decode cX4_comeThrough 93 = .ok (.invokevirtual 47, 3) := dk_182 0 47 (dk_at dksX4_comeThrough_4 0 rfl rfl)
theorem dX4_comeThrough_96 : decode cX4_comeThrough 96 = .ok (.if_icmp .ge 120, 3) := dk_162 0 120 (dk_at dksX4_comeThrough_4 3 rfl rfl)
theorem dX4_comeThrough_99 : decode cX4_comeThrough 99 = .ok (.aload_n 0, 1) := dk_42 (dk_at dksX4_comeThrough_4 6 rfl rfl)
theorem dX4_comeThrough_100 : decode cX4_comeThrough 100 = .ok (.getfield 29, 3) := dk_180 0 29 (dk_at dksX4_comeThrough_4 7 rfl rfl)
theorem dX4_comeThrough_103 : decode cX4_comeThrough 103 = .ok (.iload 7, 2) := dk_21 7 (dk_at dksX4_comeThrough_4 10 rfl rfl)
theorem dX4_comeThrough_105 : decode cX4_comeThrough 105 = .ok (.invokevirtual 90, 3) := dk_182 0 90 (dk_at dksX4_comeThrough_4 12 rfl rfl)
theorem dX4_comeThrough_108 : decode cX4_comeThrough 108 = .ok (.checkcast 119, 3) := dk_192 0 119 (dk_at dksX4_comeThrough_4 15 rfl rfl)
theorem dX4_comeThrough_111 : decode cX4_comeThrough 111 = .ok (.astore 8, 2) := dk_58 8 (dk_at dksX4_comeThrough_4 18 rfl rfl)
theorem dX4_comeThrough_113 : decode cX4_comeThrough 113 = .ok (.aload 8, 2) := dk_25 8 (dk_at dksX4_comeThrough_4 20 rfl rfl)
theorem dX4_comeThrough_115 : decode cX4_comeThrough 115 = .ok (.getfield 131, 3) := dk_180 0 131 (dk_at dksX4_comeThrough_5 0 rfl rfl)
theorem dX4_comeThrough_118 : decode cX4_comeThrough 118 = .ok (.iload_n 1, 1) := dk_27 (dk_at dksX4_comeThrough_5 3 rfl rfl)
theorem dX4_comeThrough_119 : decode cX4_comeThrough 119 = .ok (.if_icmp .ne 91, 3) := dk_160 0 91 (dk_at dksX4_comeThrough_5 4 rfl rfl)
theorem dX4_comeThrough_122 : decode cX4_comeThrough 122 = .ok (.aload_n 3, 1) := dk_45 (dk_at dksX4_comeThrough_5 7 rfl rfl)
theorem dX4_comeThrough_123 : decode cX4_comeThrough 123 = .ok (.getfield 180, 3) := dk_180 0 180 (dk_at dksX4_comeThrough_5 8 rfl rfl)
theorem dX4_comeThrough_126 : decode cX4_comeThrough 126 = .ok (.iload 7, 2) := dk_21 7 (dk_at dksX4_comeThrough_5 11 rfl rfl)
theorem dX4_comeThrough_128 : decode cX4_comeThrough 128 = .ok (.ishr, 1) := dk_122 (dk_at dksX4_comeThrough_5 13 rfl rfl)
theorem dX4_comeThrough_129 : decode cX4_comeThrough 129 = .ok (.iconst 1, 1) := dk_4 (dk_at dksX4_comeThrough_5 14 rfl rfl)
theorem dX4_comeThrough_130 : decode cX4_comeThrough 130 = .ok (.iand, 1) := dk_126 (dk_at dksX4_comeThrough_5 15 rfl rfl)
theorem dX4_comeThrough_131 : decode cX4_comeThrough 131 = .ok (.iconst 1, 1) := dk_4 (dk_at dksX4_comeThrough_5 16 rfl rfl)
theorem dX4_comeThrough_132 : decode cX4_comeThrough 132 = .ok (.if_icmp .ne 6, 3) := dk_160 0 6 (dk_at dksX4_comeThrough_5 17 rfl rfl)
theorem dX4_comeThrough_135 : decode cX4_comeThrough 135 = .ok (.goto 75, 3) := dk_167 0 75 (dk_at dksX4_comeThrough_5 20 rfl rfl)
theorem dX4_comeThrough_138 : decode cX4_comeThrough 138 = .ok (.aload_n 0, 1) := dk_42 (dk_at dksX4_comeThrough_5 23 rfl rfl)
theorem dX4_comeThrough_139 : decode cX4_comeThrough 139 = .ok (.iload_n 1, 1) := dk_27 (dk_at dksX4_comeThrough_6 0 rfl rfl)
theorem dX4_comeThrough_140 : decode cX4_comeThrough 140 = .ok (.aload 8, 2) := dk_25 8 (dk_at dksX4_comeThrough_6 1 rfl rfl)
theorem dX4_comeThrough_142 : decode cX4_comeThrough 142 = .ok (.getfield 122, 3) := dk_180 0 122 (dk_at dksX4_comeThrough_6 3 rfl rfl)
theorem dX4_comeThrough_145 : decode cX4_comeThrough 145 = .ok (.invokevirtual 221, 3) := dk_182 0 221 (dk_at dksX4_comeThrough_6 6 rfl rfl)
theorem dX4_comeThrough_148 : decode cX4_comeThrough 148 = .ok (.aload 8, 2) := dk_25 8 (dk_at dksX4_comeThrough_6 9 rfl rfl)
theorem dX4_comeThrough_150 : decode cX4_comeThrough 150 = .ok (.iload 5, 2) := dk_21 5 (dk_at dksX4_comeThrough_6 11 rfl rfl)
theorem dX4_comeThrough_152 : decode cX4_comeThrough 152 = .ok (.ifCond .eq 7, 3) := dk_153 0 7 (dk_at dksX4_comeThrough_6 13 rfl rfl)
theorem dX4_comeThrough_155 : decode cX4_comeThrough 155 = .ok (.iconst 3, 1) := dk_6 (dk_at dksX4_comeThrough_6 16 rfl rfl)
theorem dX4_comeThrough_156 : decode cX4_comeThrough 156 = .ok (.goto 4, 3) := dk_167 0 4 (dk_at dksX4_comeThrough_6 17 rfl rfl)
theorem dX4_comeThrough_159 : decode cX4_comeThrough 159 = .ok (.iconst 4, 1) := dk_7 (dk_at dksX4_comeThrough_6 20 rfl rfl)
theorem dX4_comeThrough_160 : decode cX4_comeThrough 160 = .ok (.putfield 208, 3) := dk_181 0 208 (dk_at dksX4_comeThrough_6 21 rfl rfl)
theorem dX4_comeThrough_163 : decode cX4_comeThrough 163 = .ok (.aload 8, 2) := dk_25 8 (dk_at dksX4_comeThrough_7 0 rfl rfl)
theorem dX4_comeThrough_165 : decode cX4_comeThrough 165 = .ok (.iload_n 1, 1) := dk_27 (dk_at dksX4_comeThrough_7 2 rfl rfl)
theorem dX4_comeThrough_166 : decode cX4_comeThrough 166 = .ok (.putfield 224, 3) := dk_181 0 224 (dk_at dksX4_comeThrough_7 3 rfl rfl)
theorem dX4_comeThrough_169 : decode cX4_comeThrough 169 = .ok (.iload 5, 2) := dk_21 5 (dk_at dksX4_comeThrough_7 6 rfl rfl)
theorem dX4_comeThrough_171 : decode cX4_comeThrough 171 = .ok (.ifCond .ne 6, 3) := dk_154 0 6 (dk_at dksX4_comeThrough_7 8 rfl rfl)
theorem dX4_comeThrough_174 : decode cX4_comeThrough 174 = .ok (.goto 36, 3) := dk_167 0 36 (dk_at dksX4_comeThrough_7 11 rfl rfl)
theorem dX4_comeThrough_177 : decode cX4_comeThrough 177 = .ok (.aload 8, 2) := dk_25 8 (dk_at dksX4_comeThrough_7 14 rfl rfl)
theorem dX4_comeThrough_179 : decode cX4_comeThrough 179 = .ok (.bipush 100, 2) := dk_16 100 (dk_at dksX4_comeThrough_7 16 rfl rfl)
theorem dX4_comeThrough_181 : decode cX4_comeThrough 181 = .ok (.iload 4, 2) := dk_21 4 (dk_at dksX4_comeThrough_7 18 rfl rfl)
theorem dX4_comeThrough_183 : decode cX4_comeThrough 183 = .ok (.iadd, 1) := dk_96 (dk_at dksX4_comeThrough_7 20 rfl rfl)
theorem dX4_comeThrough_184 : decode cX4_comeThrough 184 = .ok (.putfield 131, 3) := dk_181 0 131 (dk_at dksX4_comeThrough_7 21 rfl rfl)
theorem dX4_comeThrough_187 : decode cX4_comeThrough 187 = .ok (.aload_n 0, 1) := dk_42 (dk_at dksX4_comeThrough_8 0 rfl rfl)
theorem dX4_comeThrough_188 : decode cX4_comeThrough 188 = .ok (.getfield 15, 3) := dk_180 0 15 (dk_at dksX4_comeThrough_8 1 rfl rfl)
theorem dX4_comeThrough_191 : decode cX4_comeThrough 191 = .ok (.iload 4, 2) := dk_21 4 (dk_at dksX4_comeThrough_8 4 rfl rfl)
theorem dX4_comeThrough_193 : decode cX4_comeThrough 193 = .ok (.aaload, 1) := dk_50 (dk_at dksX4_comeThrough_8 6 rfl rfl)
theorem dX4_comeThrough_194 : decode cX4_comeThrough 194 = .ok (.dup, 1) := dk_89 (dk_at dksX4_comeThrough_8 7 rfl rfl)
theorem dX4_comeThrough_195 : decode cX4_comeThrough 195 = .ok (.getfield 227, 3) := dk_180 0 227 (dk_at dksX4_comeThrough_8 8 rfl rfl)
theorem dX4_comeThrough_198 : decode cX4_comeThrough 198 = .ok (.aload 8, 2) := dk_25 8 (dk_at dksX4_comeThrough_8 11 rfl rfl)
theorem dX4_comeThrough_200 : decode cX4_comeThrough 200 = .ok (.getfield 125, 3) := dk_180 0 125 (dk_at dksX4_comeThrough_8 13 rfl rfl)
theorem dX4_comeThrough_203 : decode cX4_comeThrough 203 = .ok (.iadd, 1) := dk_96 (dk_at dksX4_comeThrough_8 16 rfl rfl)
theorem dX4_comeThrough_204 : decode cX4_comeThrough 204 = .ok (.putfield 227, 3) := dk_181 0 227 (dk_at dksX4_comeThrough_8 17 rfl rfl)
theorem dX4_comeThrough_207 : decode cX4_comeThrough 207 = .ok (.iinc 6 1, 3) := dk_132 6 1 (dk_at dksX4_comeThrough_8 20 rfl rfl)
theorem dX4_comeThrough_210 : decode cX4_comeThrough 210 = .ok (.iinc 7 1, 3) := dk_132 7 1 (dk_at dksX4_comeThrough_9 0 rfl rfl)
theorem dX4_comeThrough_213 : decode cX4_comeThrough 213 = .ok (.goto (-126), 3) := dk_167 255 130 (dk_at dksX4_comeThrough_9 3 rfl rfl)
theorem dX4_comeThrough_216 : decode cX4_comeThrough 216 = .ok (.aload_n 0, 1) := dk_42 (dk_at dksX4_comeThrough_9 6 rfl rfl)
theorem dX4_comeThrough_217 : decode cX4_comeThrough 217 = .ok (.iload_n 1, 1) := dk_27 (dk_at dksX4_comeThrough_9 7 rfl rfl)
theorem dX4_comeThrough_218 : decode cX4_comeThrough 218 = .ok (.iload 4, 2) := dk_21 4 (dk_at dksX4_comeThrough_9 8 rfl rfl)
theorem dX4_comeThrough_220 : decode cX4_comeThrough 220 = .ok (.iconst 1, 1) := dk_4 (dk_at dksX4_comeThrough_9 10 rfl rfl)
theorem dX4_comeThrough_221 : decode cX4_comeThrough 221 = .ok (.invokevirtual 230, 3) := dk_182 0 230 (dk_at dksX4_comeThrough_9 11 rfl rfl)
theorem dX4_comeThrough_224 : decode cX4_comeThrough 224 = .ok (.istore 7, 2) := dk_54 7 (dk_at dksX4_comeThrough_9 14 rfl rfl)
theorem dX4_comeThrough_226 : decode cX4_comeThrough 226 = .ok (.aload_n 0, 1) := dk_42 (dk_at dksX4_comeThrough_9 16 rfl rfl)
theorem dX4_comeThrough_227 : decode cX4_comeThrough 227 = .ok (.getfield 15, 3) := dk_180 0 15 (dk_at dksX4_comeThrough_9 17 rfl rfl)
theorem dX4_comeThrough_230 : decode cX4_comeThrough 230 = .ok (.iload 4, 2) := dk_21 4 (dk_at dksX4_comeThrough_9 20 rfl rfl)
theorem dX4_comeThrough_232 : decode cX4_comeThrough 232 = .ok (.aaload, 1) := dk_50 (dk_at dksX4_comeThrough_9 22 rfl rfl)
theorem dX4_comeThrough_233 : decode cX4_comeThrough 233 = .ok (.dup, 1) := dk_89 (dk_at dksX4_comeThrough_9 23 rfl rfl)
theorem dX4_comeThrough_234 : decode cX4_comeThrough 234 = .ok (.getfield 234, 3) := dk_180 0 234 (dk_at dksX4_comeThrough_10 0 rfl rfl)
theorem dX4_comeThrough_237 : decode cX4_comeThrough 237 = .ok (.aload_n 0, 1) := dk_42 (dk_at dksX4_comeThrough_10 3 rfl rfl)
theorem dX4_comeThrough_238 : decode cX4_comeThrough 238 = .ok (.iload 7, 2) := dk_21 7 (dk_at dksX4_comeThrough_10 4 rfl rfl)
theorem dX4_comeThrough_240 : decode cX4_comeThrough 240 = .ok (.aload_n 0, 1) := dk_42 (dk_at dksX4_comeThrough_10 6 rfl rfl)
theorem dX4_comeThrough_241 : decode cX4_comeThrough 241 = .ok (.getfield 15, 3) := dk_180 0 15 (dk_at dksX4_comeThrough_10 7 rfl rfl)
theorem dX4_comeThrough_244 : decode cX4_comeThrough 244 = .ok (.iload 4, 2) := dk_21 4 (dk_at dksX4_comeThrough_10 10 rfl rfl)
theorem dX4_comeThrough_246 : decode cX4_comeThrough 246 = .ok (.aaload, 1) := dk_50 (dk_at dksX4_comeThrough_10 12 rfl rfl)
theorem dX4_comeThrough_247 : decode cX4_comeThrough 247 = .ok (.invokevirtual 237, 3) := dk_182 0 237 (dk_at dksX4_comeThrough_10 13 rfl rfl)
theorem dX4_comeThrough_250 : decode cX4_comeThrough 250 = .ok (.iadd, 1) := dk_96 (dk_at dksX4_comeThrough_10 16 rfl rfl)
theorem dX4_comeThrough_251 : decode cX4_comeThrough 251 = .ok (.putfield 234, 3) := dk_181 0 234 (dk_at dksX4_comeThrough_10 17 rfl rfl)
theorem dX4_comeThrough_254 : decode cX4_comeThrough 254 = .ok (.iconst 0, 1) := dk_3 (dk_at dksX4_comeThrough_10 20 rfl rfl)
theorem dX4_comeThrough_255 : decode cX4_comeThrough 255 = .ok (.istore 8, 2) := dk_54 8 (dk_at dksX4_comeThrough_10 21 rfl rfl)
theorem dX4_comeThrough_257 : decode cX4_comeThrough 257 = .ok (.iload 8, 2) := dk_21 8 (dk_at dksX4_comeThrough_11 0 rfl rfl)
theorem dX4_comeThrough_259 : decode cX4_comeThrough 259 = .ok (.aload_n 0, 1) := dk_42 (dk_at dksX4_comeThrough_11 2 rfl rfl)
theorem dX4_comeThrough_260 : decode cX4_comeThrough 260 = .ok (.getfield 29, 3) := dk_180 0 29 (dk_at dksX4_comeThrough_11 3 rfl rfl)
theorem dX4_comeThrough_263 : decode cX4_comeThrough 263 = .ok (.invokevirtual 47, 3) := dk_182 0 47 (dk_at dksX4_comeThrough_11 6 rfl rfl)
theorem dX4_comeThrough_266 : decode cX4_comeThrough 266 = .ok (.if_icmp .ge 66, 3) := dk_162 0 66 (dk_at dksX4_comeThrough_11 9 rfl rfl)
theorem dX4_comeThrough_269 : decode cX4_comeThrough 269 = .ok (.aload_n 0, 1) := dk_42 (dk_at dksX4_comeThrough_11 12 rfl rfl)
theorem dX4_comeThrough_270 : decode cX4_comeThrough 270 = .ok (.getfield 29, 3) := dk_180 0 29 (dk_at dksX4_comeThrough_11 13 rfl rfl)
theorem dX4_comeThrough_273 : decode cX4_comeThrough 273 = .ok (.iload 8, 2) := dk_21 8 (dk_at dksX4_comeThrough_11 16 rfl rfl)
theorem dX4_comeThrough_275 : decode cX4_comeThrough 275 = .ok (.invokevirtual 90, 3) := dk_182 0 90 (dk_at dksX4_comeThrough_11 18 rfl rfl)
theorem dX4_comeThrough_278 : decode cX4_comeThrough 278 = .ok (.checkcast 119, 3) := dk_192 0 119 (dk_at dksX4_comeThrough_11 21 rfl rfl)
theorem dX4_comeThrough_281 : decode cX4_comeThrough 281 = .ok (.astore 9, 2) := dk_58 9 (dk_at dksX4_comeThrough_12 0 rfl rfl)
theorem dX4_comeThrough_283 : decode cX4_comeThrough 283 = .ok (.aload 9, 2) := dk_25 9 (dk_at dksX4_comeThrough_12 2 rfl rfl)
theorem dX4_comeThrough_285 : decode cX4_comeThrough 285 = .ok (.getfield 131, 3) := dk_180 0 131 (dk_at dksX4_comeThrough_12 4 rfl rfl)
theorem dX4_comeThrough_288 : decode cX4_comeThrough 288 = .ok (.iload_n 1, 1) := dk_27 (dk_at dksX4_comeThrough_12 7 rfl rfl)
theorem dX4_comeThrough_289 : decode cX4_comeThrough 289 = .ok (.if_icmp .ne 37, 3) := dk_160 0 37 (dk_at dksX4_comeThrough_12 8 rfl rfl)
theorem dX4_comeThrough_292 : decode cX4_comeThrough 292 = .ok (.aload_n 3, 1) := dk_45 (dk_at dksX4_comeThrough_12 11 rfl rfl)
theorem dX4_comeThrough_293 : decode cX4_comeThrough 293 = .ok (.getfield 180, 3) := dk_180 0 180 (dk_at dksX4_comeThrough_12 12 rfl rfl)
theorem dX4_comeThrough_296 : decode cX4_comeThrough 296 = .ok (.iload 8, 2) := dk_21 8 (dk_at dksX4_comeThrough_12 15 rfl rfl)
theorem dX4_comeThrough_298 : decode cX4_comeThrough 298 = .ok (.ishr, 1) := dk_122 (dk_at dksX4_comeThrough_12 17 rfl rfl)
theorem dX4_comeThrough_299 : decode cX4_comeThrough 299 = .ok (.iconst 1, 1) := dk_4 (dk_at dksX4_comeThrough_12 18 rfl rfl)
theorem dX4_comeThrough_300 : decode cX4_comeThrough 300 = .ok (.iand, 1) := dk_126 (dk_at dksX4_comeThrough_12 19 rfl rfl)
theorem dX4_comeThrough_301 : decode cX4_comeThrough 301 = .ok (.iconst 1, 1) := dk_4 (dk_at dksX4_comeThrough_12 20 rfl rfl)
theorem dX4_comeThrough_302 : decode cX4_comeThrough 302 = .ok (.if_icmp .ne 24, 3) := dk_160 0 24 (dk_at dksX4_comeThrough_12 21 rfl rfl)
theorem dX4_comeThrough_305 : decode cX4_comeThrough 305 = .ok (.iload 7, 2) := dk_21 7 (dk_at dksX4_comeThrough_13 0 rfl rfl)
theorem dX4_comeThrough_307 : decode cX4_comeThrough 307 = .ok (.aload_n 0, 1) := dk_42 (dk_at dksX4_comeThrough_13 2 rfl rfl)
theorem dX4_comeThrough_308 : decode cX4_comeThrough 308 = .ok (.getfield 15, 3) := dk_180 0 15 (dk_at dksX4_comeThrough_13 3 rfl rfl)
theorem dX4_comeThrough_311 : decode cX4_comeThrough 311 = .ok (.iload 4, 2) := dk_21 4 (dk_at dksX4_comeThrough_13 6 rfl rfl)
theorem dX4_comeThrough_313 : decode cX4_comeThrough 313 = .ok (.aaload, 1) := dk_50 (dk_at dksX4_comeThrough_13 8 rfl rfl)
theorem dX4_comeThrough_314 : decode cX4_comeThrough 314 = .ok (.getfield 62, 3) := dk_180 0 62 (dk_at dksX4_comeThrough_13 9 rfl rfl)
theorem dX4_comeThrough_317 : decode cX4_comeThrough 317 = .ok (.if_icmp .gt 9, 3) := dk_163 0 9 (dk_at dksX4_comeThrough_13 12 rfl rfl)
theorem dX4_comeThrough_320 : decode cX4_comeThrough 320 = .ok (.aload 9, 2) := dk_25 9 (dk_at dksX4_comeThrough_13 15 rfl rfl)
theorem dX4_comeThrough_322 : decode cX4_comeThrough 322 = .ok (.iconst 2, 1) := dk_5 (dk_at dksX4_comeThrough_13 17 rfl rfl)
theorem dX4_comeThrough_323 : decode cX4_comeThrough 323 = .ok (.putfield 208, 3) := dk_181 0 208 (dk_at dksX4_comeThrough_13 18 rfl rfl)
theorem dX4_comeThrough_326 : decode cX4_comeThrough 326 = .ok (.iinc 8 1, 3) := dk_132 8 1 (dk_at dksX4_comeThrough_13 21 rfl rfl)
theorem dX4_comeThrough_329 : decode cX4_comeThrough 329 = .ok (.goto (-72), 3) := dk_167 255 184 (dk_at dksX4_comeThrough_14 0 rfl rfl)
theorem dX4_comeThrough_332 : decode cX4_comeThrough 332 = .ok (.aload_n 3, 1) := dk_45 (dk_at dksX4_comeThrough_14 3 rfl rfl)
theorem dX4_comeThrough_333 : decode cX4_comeThrough 333 = .ok (.iload 4, 2) := dk_21 4 (dk_at dksX4_comeThrough_14 4 rfl rfl)
theorem dX4_comeThrough_335 : decode cX4_comeThrough 335 = .ok (.putfield 103, 3) := dk_181 0 103 (dk_at dksX4_comeThrough_14 6 rfl rfl)
theorem dX4_comeThrough_338 : decode cX4_comeThrough 338 = .ok (.aload_n 3, 1) := dk_45 (dk_at dksX4_comeThrough_14 9 rfl rfl)
theorem dX4_comeThrough_339 : decode cX4_comeThrough 339 = .ok (.iconst (-1), 1) := dk_2 (dk_at dksX4_comeThrough_14 10 rfl rfl)
theorem dX4_comeThrough_340 : decode cX4_comeThrough 340 = .ok (.putfield 146, 3) := dk_181 0 146 (dk_at dksX4_comeThrough_14 11 rfl rfl)
theorem dX4_comeThrough_343 : decode cX4_comeThrough 343 = .ok (.iload 6, 2) := dk_21 6 (dk_at dksX4_comeThrough_14 14 rfl rfl)
theorem dX4_comeThrough_345 : decode cX4_comeThrough 345 = .ok (.ireturn, 1) := dk_172 (dk_at dksX4_comeThrough_14 16 rfl rfl)
abbrev cX4_hide : ByteArray := prog_14_method_28_code
def yX4_hide : MethodName := ⟨RX4, "hide", "(II)V"⟩
def dkwX4_hide_2 : List UInt8 := [182, 0, 83, 87, 177]
abbrev dktX4_hide_2 : List UInt8 := dkwX4_hide_2 ++ []
def dkwX4_hide_1 : List UInt8 := [87, 42, 180, 0, 32, 28, 184, 0, 170, 182, 0, 83, 87, 42, 180, 0, 32, 42, 180, 0, 137, 184, 0, 170]
abbrev dktX4_hide_1 : List UInt8 := dkwX4_hide_1 ++ dktX4_hide_2
def dkwX4_hide_0 : List UInt8 := [42, 180, 0, 32, 182, 0, 47, 16, 120, 160, 0, 4, 177, 42, 180, 0, 32, 27, 184, 0, 170, 182, 0, 83]
abbrev dktX4_hide_0 : List UInt8 := dkwX4_hide_0 ++ dktX4_hide_1
theorem dksX4_hide_0 : cX4_hide.data.toList.drop 0 = dktX4_hide_0 := by decide +kernel
theorem dksX4_hide_1 : cX4_hide.data.toList.drop 24 = dktX4_hide_1 := dk_seg dksX4_hide_0 24 rfl rfl
theorem dksX4_hide_2 : cX4_hide.data.toList.drop 48 = dktX4_hide_2 := dk_seg dksX4_hide_1 24 rfl rfl
theorem dX4_hide_0 : decode cX4_hide 0 = .ok (.aload_n 0, 1) := dk_42 (dk_at dksX4_hide_0 0 rfl rfl)
theorem dX4_hide_1 : decode cX4_hide 1 = .ok (.getfield 32, 3) := dk_180 0 32 (dk_at dksX4_hide_0 1 rfl rfl)
theorem dX4_hide_4 : decode cX4_hide 4 = .ok (.invokevirtual 47, 3) := dk_182 0 47 (dk_at dksX4_hide_0 4 rfl rfl)
theorem dX4_hide_7 : decode cX4_hide 7 = .ok (.bipush 120, 2) := dk_16 120 (dk_at dksX4_hide_0 7 rfl rfl)
theorem dX4_hide_9 : decode cX4_hide 9 = .ok (.if_icmp .ne 4, 3) := dk_160 0 4 (dk_at dksX4_hide_0 9 rfl rfl)
theorem dX4_hide_12 : decode cX4_hide 12 = .ok (.return_, 1) := dk_177 (dk_at dksX4_hide_0 12 rfl rfl)
theorem dX4_hide_13 : decode cX4_hide 13 = .ok (.aload_n 0, 1) := dk_42 (dk_at dksX4_hide_0 13 rfl rfl)
theorem dX4_hide_14 : decode cX4_hide 14 = .ok (.getfield 32, 3) := dk_180 0 32 (dk_at dksX4_hide_0 14 rfl rfl)
theorem dX4_hide_17 : decode cX4_hide 17 = .ok (.iload_n 1, 1) := dk_27 (dk_at dksX4_hide_0 17 rfl rfl)
theorem dX4_hide_18 : decode cX4_hide 18 = .ok (.invokestatic 170, 3) := dk_184 0 170 (dk_at dksX4_hide_0 18 rfl rfl)
theorem dX4_hide_21 : decode cX4_hide 21 = .ok (.invokevirtual 83, 3) := dk_182 0 83 (dk_at dksX4_hide_0 21 rfl rfl)
theorem dX4_hide_24 : decode cX4_hide 24 = .ok (.pop, 1) := dk_87 (dk_at dksX4_hide_1 0 rfl rfl)
theorem dX4_hide_25 : decode cX4_hide 25 = .ok (.aload_n 0, 1) := dk_42 (dk_at dksX4_hide_1 1 rfl rfl)
theorem dX4_hide_26 : decode cX4_hide 26 = .ok (.getfield 32, 3) := dk_180 0 32 (dk_at dksX4_hide_1 2 rfl rfl)
theorem dX4_hide_29 : decode cX4_hide 29 = .ok (.iload_n 2, 1) := dk_28 (dk_at dksX4_hide_1 5 rfl rfl)
theorem dX4_hide_30 : decode cX4_hide 30 = .ok (.invokestatic 170, 3) := dk_184 0 170 (dk_at dksX4_hide_1 6 rfl rfl)
theorem dX4_hide_33 : decode cX4_hide 33 = .ok (.invokevirtual 83, 3) := dk_182 0 83 (dk_at dksX4_hide_1 9 rfl rfl)
theorem dX4_hide_36 : decode cX4_hide 36 = .ok (.pop, 1) := dk_87 (dk_at dksX4_hide_1 12 rfl rfl)
theorem dX4_hide_37 : decode cX4_hide 37 = .ok (.aload_n 0, 1) := dk_42 (dk_at dksX4_hide_1 13 rfl rfl)
theorem dX4_hide_38 : decode cX4_hide 38 = .ok (.getfield 32, 3) := dk_180 0 32 (dk_at dksX4_hide_1 14 rfl rfl)
theorem dX4_hide_41 : decode cX4_hide 41 = .ok (.aload_n 0, 1) := dk_42 (dk_at dksX4_hide_1 17 rfl rfl)
theorem dX4_hide_42 : decode cX4_hide 42 = .ok (.getfield 137, 3) := dk_180 0 137 (dk_at dksX4_hide_1 18 rfl rfl)
theorem dX4_hide_45 : decode cX4_hide 45 = .ok (.invokestatic 170, 3) := dk_184 0 170 (dk_at dksX4_hide_1 21 rfl rfl)
theorem dX4_hide_48 : decode cX4_hide 48 = .ok (.invokevirtual 83, 3) := dk_182 0 83 (dk_at dksX4_hide_2 0 rfl rfl)
theorem dX4_hide_51 : decode cX4_hide 51 = .ok (.pop, 1) := dk_87 (dk_at dksX4_hide_2 3 rfl rfl)
theorem dX4_hide_52 : decode cX4_hide 52 = .ok (.return_, 1) := dk_177 (dk_at dksX4_hide_2 4 rfl rfl)
abbrev cX4_comeIn : ByteArray := prog_14_method_25_code
def yX4_comeIn : MethodName := ⟨RX4, "comeIn", "(IIZ)I"⟩
def dkwX4_comeIn_8 : List UInt8 := [4, 181, 0, 208, 132, 8, 1, 167, 255, 94, 29, 153, 0, 10, 25, 5, 21, 6, 181, 0, 202, 21, 7, 172]
abbrev dktX4_comeIn_8 : List UInt8 := dkwX4_comeIn_8 ++ []
def dkwX4_comeIn_7 : List UInt8 := [25, 4, 180, 0, 103, 96, 181, 0, 131, 29, 153, 0, 18, 25, 9, 21, 10, 153, 0, 7, 8, 167, 0, 4]
abbrev dktX4_comeIn_7 : List UInt8 := dkwX4_comeIn_7 ++ dktX4_comeIn_8
def dkwX4_comeIn_6 : List UInt8 := [167, 0, 8, 25, 9, 180, 0, 125, 96, 54, 7, 29, 153, 0, 21, 21, 10, 153, 0, 16, 25, 9, 16, 100]
abbrev dktX4_comeIn_6 : List UInt8 := dkwX4_comeIn_6 ++ dktX4_comeIn_7
def dkwX4_comeIn_5 : List UInt8 := [153, 0, 12, 21, 10, 154, 0, 7, 4, 167, 0, 4, 3, 96, 54, 6, 21, 7, 21, 10, 153, 0, 7, 3]
abbrev dktX4_comeIn_5 : List UInt8 := dkwX4_comeIn_5 ++ dktX4_comeIn_6
def dkwX4_comeIn_4 : List UInt8 := [25, 5, 180, 0, 65, 161, 0, 7, 4, 167, 0, 4, 3, 54, 10, 21, 6, 25, 9, 182, 0, 205]
abbrev dktX4_comeIn_4 : List UInt8 := dkwX4_comeIn_4 ++ dktX4_comeIn_5
def dkwX4_comeIn_3 : List UInt8 := [180, 0, 180, 21, 8, 122, 4, 126, 154, 0, 6, 167, 0, 111, 25, 9, 182, 0, 205, 153, 0, 17, 21, 6]
abbrev dktX4_comeIn_3 : List UInt8 := dkwX4_comeIn_3 ++ dktX4_comeIn_4
def dkwX4_comeIn_2 : List UInt8 := [180, 0, 29, 21, 8, 182, 0, 90, 192, 0, 119, 58, 9, 25, 9, 180, 0, 131, 27, 160, 0, 127, 25, 4]
abbrev dktX4_comeIn_2 : List UInt8 := dkwX4_comeIn_2 ++ dktX4_comeIn_3
def dkwX4_comeIn_1 : List UInt8 := [180, 0, 202, 54, 6, 3, 54, 7, 3, 54, 8, 21, 8, 42, 180, 0, 29, 182, 0, 47, 162, 0, 156, 42]
abbrev dktX4_comeIn_1 : List UInt8 := dkwX4_comeIn_1 ++ dktX4_comeIn_2
def dkwX4_comeIn_0 : List UInt8 := [42, 180, 0, 26, 27, 182, 0, 90, 192, 0, 100, 58, 4, 42, 180, 0, 15, 28, 50, 58, 5, 25, 5]
abbrev dktX4_comeIn_0 : List UInt8 := dkwX4_comeIn_0 ++ dktX4_comeIn_1
theorem dksX4_comeIn_0 : cX4_comeIn.data.toList.drop 0 = dktX4_comeIn_0 := by decide +kernel
theorem dksX4_comeIn_1 : cX4_comeIn.data.toList.drop 23 = dktX4_comeIn_1 := dk_seg dksX4_comeIn_0 23 rfl rfl
theorem dksX4_comeIn_2 : cX4_comeIn.data.toList.drop 47 = dktX4_comeIn_2 := dk_seg dksX4_comeIn_1 24 rfl rfl
theorem dksX4_comeIn_3 : cX4_comeIn.data.toList.drop 71 = dktX4_comeIn_3 := dk_seg dksX4_comeIn_2 24 rfl rfl
theorem dksX4_comeIn_4 : cX4_comeIn.data.toList.drop 95 = dktX4_comeIn_4 := dk_seg dksX4_comeIn_3 24 rfl rfl
theorem dksX4_comeIn_5 : cX4_comeIn.data.toList.drop 117 = dktX4_comeIn_5 := dk_seg dksX4_comeIn_4 22 rfl rfl
theorem dksX4_comeIn_6 : cX4_comeIn.data.toList.drop 141 = dktX4_comeIn_6 := dk_seg dksX4_comeIn_5 24 rfl rfl
theorem dksX4_comeIn_7 : cX4_comeIn.data.toList.drop 165 = dktX4_comeIn_7 := dk_seg dksX4_comeIn_6 24 rfl rfl
theorem dksX4_comeIn_8 : cX4_comeIn.data.toList.drop 189 = dktX4_comeIn_8 := dk_seg dksX4_comeIn_7 24 rfl rfl
theorem dX4_comeIn_0 : decode cX4_comeIn 0 = .ok (.aload_n 0, 1) := dk_42 (dk_at dksX4_comeIn_0 0 rfl rfl)
theorem dX4_comeIn_1 : decode cX4_comeIn 1 = .ok (.getfield 26, 3) := dk_180 0 26 (dk_at dksX4_comeIn_0 1 rfl rfl)
theorem dX4_comeIn_4 : decode cX4_comeIn 4 = .ok (.iload_n 1, 1) := dk_27 (dk_at dksX4_comeIn_0 4 rfl rfl)
theorem dX4_comeIn_5 : decode cX4_comeIn 5 = .ok (.invokevirtual 90, 3) := dk_182 0 90 (dk_at dksX4_comeIn_0 5 rfl rfl)
theorem dX4_comeIn_8 : decode cX4_comeIn 8 = .ok (.checkcast 100, 3) := dk_192 0 100 (dk_at dksX4_comeIn_0 8 rfl rfl)
theorem dX4_comeIn_11 : decode cX4_comeIn 11 = .ok (.astore 4, 2) := dk_58 4 (dk_at dksX4_comeIn_0 11 rfl rfl)
theorem dX4_comeIn_13 : decode cX4_comeIn 13 = .ok (.aload_n 0, 1) := dk_42 (dk_at dksX4_comeIn_0 13 rfl rfl)
theorem dX4_comeIn_14 : decode cX4_comeIn 14 = .ok (.getfield 15, 3) := dk_180 0 15 (dk_at dksX4_comeIn_0 14 rfl rfl)
theorem dX4_comeIn_17 : decode cX4_comeIn 17 = .ok (.iload_n 2, 1) := dk_28 (dk_at dksX4_comeIn_0 17 rfl rfl)
theorem dX4_comeIn_18 : decode cX4_comeIn 18 = .ok (.aaload, 1) := dk_50 (dk_at dksX4_comeIn_0 18 rfl rfl)
theorem dX4_comeIn_19 : decode cX4_comeIn 19 = .ok (.astore 5, 2) := dk_58 5 (dk_at dksX4_comeIn_0 19 rfl rfl)
theorem dX4_comeIn_21 : decode cX4_comeIn 21 = .ok (.aload 5, 2) := dk_25 5 (dk_at dksX4_comeIn_0 21 rfl rfl)
theorem dX4_comeIn_23 : decode cX4_comeIn 23 = .ok (.getfield 202, 3) := dk_180 0 202 (dk_at dksX4_comeIn_1 0 rfl rfl)
theorem dX4_comeIn_26 : decode cX4_comeIn 26 = .ok (.istore 6, 2) := dk_54 6 (dk_at dksX4_comeIn_1 3 rfl rfl)
theorem dX4_comeIn_28 : decode cX4_comeIn 28 = .ok (.iconst 0, 1) := dk_3 (dk_at dksX4_comeIn_1 5 rfl rfl)
theorem dX4_comeIn_29 : decode cX4_comeIn 29 = .ok (.istore 7, 2) := dk_54 7 (dk_at dksX4_comeIn_1 6 rfl rfl)
theorem dX4_comeIn_31 : decode cX4_comeIn 31 = .ok (.iconst 0, 1) := dk_3 (dk_at dksX4_comeIn_1 8 rfl rfl)
theorem dX4_comeIn_32 : decode cX4_comeIn 32 = .ok (.istore 8, 2) := dk_54 8 (dk_at dksX4_comeIn_1 9 rfl rfl)
theorem dX4_comeIn_34 : decode cX4_comeIn 34 = .ok (.iload 8, 2) := dk_21 8 (dk_at dksX4_comeIn_1 11 rfl rfl)
theorem dX4_comeIn_36 : decode cX4_comeIn 36 = .ok (.aload_n 0, 1) := dk_42 (dk_at dksX4_comeIn_1 13 rfl rfl)
theorem dX4_comeIn_37 : decode cX4_comeIn 37 = .ok (.getfield 29, 3) := dk_180 0 29 (dk_at dksX4_comeIn_1 14 rfl rfl)
theorem dX4_comeIn_40 : decode cX4_comeIn 40 = .ok (.invokevirtual 47, 3) := dk_182 0 47 (dk_at dksX4_comeIn_1 17 rfl rfl)
theorem dX4_comeIn_43 : decode cX4_comeIn 43 = .ok (.if_icmp .ge 156, 3) := dk_162 0 156 (dk_at dksX4_comeIn_1 20 rfl rfl)
theorem dX4_comeIn_46 : decode cX4_comeIn 46 = .ok (.aload_n 0, 1) := dk_42 (dk_at dksX4_comeIn_1 23 rfl rfl)
theorem dX4_comeIn_47 : decode cX4_comeIn 47 = .ok (.getfield 29, 3) := dk_180 0 29 (dk_at dksX4_comeIn_2 0 rfl rfl)
theorem dX4_comeIn_50 : decode cX4_comeIn 50 = .ok (.iload 8, 2) := dk_21 8 (dk_at dksX4_comeIn_2 3 rfl rfl)
theorem dX4_comeIn_52 : decode cX4_comeIn 52 = .ok (.invokevirtual 90, 3) := dk_182 0 90 (dk_at dksX4_comeIn_2 5 rfl rfl)
theorem dX4_comeIn_55 : decode cX4_comeIn 55 = .ok (.checkcast 119, 3) := dk_192 0 119 (dk_at dksX4_comeIn_2 8 rfl rfl)
theorem dX4_comeIn_58 : decode cX4_comeIn 58 = .ok (.astore 9, 2) := dk_58 9 (dk_at dksX4_comeIn_2 11 rfl rfl)
theorem dX4_comeIn_60 : decode cX4_comeIn 60 = .ok (.aload 9, 2) := dk_25 9 (dk_at dksX4_comeIn_2 13 rfl rfl)
theorem dX4_comeIn_62 : decode cX4_comeIn 62 = .ok (.getfield 131, 3) := dk_180 0 131 (dk_at dksX4_comeIn_2 15 rfl rfl)
theorem dX4_comeIn_65 : decode cX4_comeIn 65 = .ok (.iload_n 1, 1) := dk_27 (dk_at dksX4_comeIn_2 18 rfl rfl)
theorem dX4_comeIn_66 : decode cX4_comeIn 66 = .ok (.if_icmp .ne 127, 3) := dk_160 0 127 (dk_at dksX4_comeIn_2 19 rfl rfl)
theorem dX4_comeIn_69 : decode cX4_comeIn 69 = .ok (.aload 4, 2) := dk_25 4 (dk_at dksX4_comeIn_2 22 rfl rfl)
theorem dX4_comeIn_71 : decode cX4_comeIn 71 = .ok (.getfield 180, 3) := dk_180 0 180 (dk_at dksX4_comeIn_3 0 rfl rfl)
theorem dX4_comeIn_74 : decode cX4_comeIn 74 = .ok (.iload 8, 2) := dk_21 8 (dk_at dksX4_comeIn_3 3 rfl rfl)
theorem dX4_comeIn_76 : decode cX4_comeIn 76 = .ok (.ishr, 1) := dk_122 (dk_at dksX4_comeIn_3 5 rfl rfl)
theorem dX4_comeIn_77 : decode cX4_comeIn 77 = .ok (.iconst 1, 1) := dk_4 (dk_at dksX4_comeIn_3 6 rfl rfl)
theorem dX4_comeIn_78 : decode cX4_comeIn 78 = .ok (.iand, 1) := dk_126 (dk_at dksX4_comeIn_3 7 rfl rfl)
theorem dX4_comeIn_79 : decode cX4_comeIn 79 = .ok (.ifCond .ne 6, 3) := dk_154 0 6 (dk_at dksX4_comeIn_3 8 rfl rfl)
theorem dX4_comeIn_82 : decode cX4_comeIn 82 = .ok (.goto 111, 3) := dk_167 0 111 (dk_at dksX4_comeIn_3 11 rfl rfl)
theorem dX4_comeIn_85 : decode cX4_comeIn 85 = .ok (.aload 9, 2) := dk_25 9 (dk_at dksX4_comeIn_3 14 rfl rfl)
theorem dX4_comeIn_87 : decode cX4_comeIn 87 = .ok (.invokevirtual 205, 3) := dk_182 0 205 (dk_at dksX4_comeIn_3 16 rfl rfl)
theorem dX4_comeIn_90 : decode cX4_comeIn 90 = .ok (.ifCond .eq 17, 3) := dk_153 0 17 (dk_at dksX4_comeIn_3 19 rfl rfl)
theorem dX4_comeIn_93 : decode cX4_comeIn 93 = .ok (.iload 6, 2) := dk_21 6 (dk_at dksX4_comeIn_3 22 rfl rfl)
theorem dX4_comeIn_95 : decode cX4_comeIn 95 = .ok (.aload 5, 2) := dk_25 5 (dk_at dksX4_comeIn_4 0 rfl rfl)
theorem dX4_comeIn_97 : decode cX4_comeIn 97 = .ok (.getfield 65, 3) := dk_180 0 65 (dk_at dksX4_comeIn_4 2 rfl rfl)
theorem dX4_comeIn_100 : decode cX4_comeIn 100 = .ok (.if_icmp .lt 7, 3) := dk_161 0 7 (dk_at dksX4_comeIn_4 5 rfl rfl)
theorem dX4_comeIn_103 : decode cX4_comeIn 103 = .ok (.iconst 1, 1) := dk_4 (dk_at dksX4_comeIn_4 8 rfl rfl)
theorem dX4_comeIn_104 : decode cX4_comeIn 104 = .ok (.goto 4, 3) := dk_167 0 4 (dk_at dksX4_comeIn_4 9 rfl rfl)
theorem dX4_comeIn_107 : decode cX4_comeIn 107 = .ok (.iconst 0, 1) := dk_3 (dk_at dksX4_comeIn_4 12 rfl rfl)
theorem dX4_comeIn_108 : decode cX4_comeIn 108 = .ok (.istore 10, 2) := dk_54 10 (dk_at dksX4_comeIn_4 13 rfl rfl)
theorem dX4_comeIn_110 : decode cX4_comeIn 110 = .ok (.iload 6, 2) := dk_21 6 (dk_at dksX4_comeIn_4 15 rfl rfl)
theorem dX4_comeIn_112 : decode cX4_comeIn 112 = .ok (.aload 9, 2) := dk_25 9 (dk_at dksX4_comeIn_4 17 rfl rfl)
theorem dX4_comeIn_114 : decode cX4_comeIn 114 = .ok (.invokevirtual 205, 3) := dk_182 0 205 (dk_at dksX4_comeIn_4 19 rfl rfl)
theorem dX4_comeIn_117 : decode cX4_comeIn 117 = .ok (.ifCond .eq 12, 3) := dk_153 0 12 (dk_at dksX4_comeIn_5 0 rfl rfl)
theorem dX4_comeIn_120 : decode cX4_comeIn 120 = .ok (.iload 10, 2) := dk_21 10 (dk_at dksX4_comeIn_5 3 rfl rfl)
theorem dX4_comeIn_122 : decode cX4_comeIn 122 = .ok (.ifCond .ne 7, 3) := dk_154 0 7 (dk_at dksX4_comeIn_5 5 rfl rfl)
theorem dX4_comeIn_125 : decode cX4_comeIn 125 = .ok (.iconst 1, 1) := dk_4 (dk_at dksX4_comeIn_5 8 rfl rfl)
theorem dX4_comeIn_126 : decode cX4_comeIn 126 = .ok (.goto 4, 3) := dk_167 0 4 (dk_at dksX4_comeIn_5 9 rfl rfl)
theorem dX4_comeIn_129 : decode cX4_comeIn 129 = .ok (.iconst 0, 1) := dk_3 (dk_at dksX4_comeIn_5 12 rfl rfl)
theorem dX4_comeIn_130 : decode cX4_comeIn 130 = .ok (.iadd, 1) := dk_96 (dk_at dksX4_comeIn_5 13 rfl rfl)
theorem dX4_comeIn_131 : decode cX4_comeIn 131 = .ok (.istore 6, 2) := dk_54 6 (dk_at dksX4_comeIn_5 14 rfl rfl)
theorem dX4_comeIn_133 : decode cX4_comeIn 133 = .ok (.iload 7, 2) := dk_21 7 (dk_at dksX4_comeIn_5 16 rfl rfl)
theorem dX4_comeIn_135 : decode cX4_comeIn 135 = .ok (.iload 10, 2) := dk_21 10 (dk_at dksX4_comeIn_5 18 rfl rfl)
theorem dX4_comeIn_137 : decode cX4_comeIn 137 = .ok (.ifCond .eq 7, 3) := dk_153 0 7 (dk_at dksX4_comeIn_5 20 rfl rfl)
theorem dX4_comeIn_140 : decode cX4_comeIn 140 = .ok (.iconst 0, 1) := dk_3 (dk_at dksX4_comeIn_5 23 rfl rfl)
theorem dX4_comeIn_141 : decode cX4_comeIn 141 = .ok (.goto 8, 3) := dk_167 0 8 (dk_at dksX4_comeIn_6 0 rfl rfl)
theorem dX4_comeIn_144 : decode cX4_comeIn 144 = .ok (.aload 9, 2) := dk_25 9 (dk_at dksX4_comeIn_6 3 rfl rfl)
theorem dX4_comeIn_146 : decode cX4_comeIn 146 = .ok (.getfield 125, 3) := dk_180 0 125 (dk_at dksX4_comeIn_6 5 rfl rfl)
theorem dX4_comeIn_149 : decode cX4_comeIn 149 = .ok (.iadd, 1) := dk_96 (dk_at dksX4_comeIn_6 8 rfl rfl)
theorem dX4_comeIn_150 : decode cX4_comeIn 150 = .ok (.istore 7, 2) := dk_54 7 (dk_at dksX4_comeIn_6 9 rfl rfl)
theorem dX4_comeIn_152 : decode cX4_comeIn 152 = .ok (.iload_n 3, 1) := dk_29 (dk_at dksX4_comeIn_6 11 rfl rfl)
theorem dX4_comeIn_153 : decode cX4_comeIn 153 = .ok (.ifCond .eq 21, 3) := dk_153 0 21 (dk_at dksX4_comeIn_6 12 rfl rfl)
theorem dX4_comeIn_156 : decode cX4_comeIn 156 = .ok (.iload 10, 2) := dk_21 10 (dk_at dksX4_comeIn_6 15 rfl rfl)
theorem dX4_comeIn_158 : decode cX4_comeIn 158 = .ok (.ifCond .eq 16, 3) := dk_153 0 16 (dk_at dksX4_comeIn_6 17 rfl rfl)
theorem dX4_comeIn_161 : decode cX4_comeIn 161 = .ok (.aload 9, 2) := dk_25 9 (dk_at dksX4_comeIn_6 20 rfl rfl)
theorem dX4_comeIn_163 : decode cX4_comeIn 163 = .ok (.bipush 100, 2) := dk_16 100 (dk_at dksX4_comeIn_6 22 rfl rfl)
theorem dX4_comeIn_165 : decode cX4_comeIn 165 = .ok (.aload 4, 2) := dk_25 4 (dk_at dksX4_comeIn_7 0 rfl rfl)
theorem dX4_comeIn_167 : decode cX4_comeIn 167 = .ok (.getfield 103, 3) := dk_180 0 103 (dk_at dksX4_comeIn_7 2 rfl rfl)
theorem dX4_comeIn_170 : decode cX4_comeIn 170 = .ok (.iadd, 1) := dk_96 (dk_at dksX4_comeIn_7 5 rfl rfl)
theorem dX4_comeIn_171 : decode cX4_comeIn 171 = .ok (.putfield 131, 3) := dk_181 0 131 (dk_at dksX4_comeIn_7 6 rfl rfl)
theorem dX4_comeIn_174 : decode cX4_comeIn 174 = .ok (.iload_n 3, 1) := dk_29 (dk_at dksX4_comeIn_7 9 rfl rfl)
theorem dX4_comeIn_175 : decode cX4_comeIn 175 = .ok (.ifCond .eq 18, 3) := dk_153 0 18 (dk_at dksX4_comeIn_7 10 rfl rfl)
theorem dX4_comeIn_178 : decode cX4_comeIn 178 = .ok (.aload 9, 2) := dk_25 9 (dk_at dksX4_comeIn_7 13 rfl rfl)
theorem dX4_comeIn_180 : decode cX4_comeIn 180 = .ok (.iload 10, 2) := dk_21 10 (dk_at dksX4_comeIn_7 15 rfl rfl)
theorem dX4_comeIn_182 : decode cX4_comeIn 182 = .ok (.ifCond .eq 7, 3) := dk_153 0 7 (dk_at dksX4_comeIn_7 17 rfl rfl)
theorem dX4_comeIn_185 : decode cX4_comeIn 185 = .ok (.iconst 5, 1) := dk_8 (dk_at dksX4_comeIn_7 20 rfl rfl)
theorem dX4_comeIn_186 : decode cX4_comeIn 186 = .ok (.goto 4, 3) := dk_167 0 4 (dk_at dksX4_comeIn_7 21 rfl rfl)
theorem dX4_comeIn_189 : decode cX4_comeIn 189 = .ok (.iconst 1, 1) := dk_4 (dk_at dksX4_comeIn_8 0 rfl rfl)
theorem dX4_comeIn_190 : decode cX4_comeIn 190 = .ok (.putfield 208, 3) := dk_181 0 208 (dk_at dksX4_comeIn_8 1 rfl rfl)
theorem dX4_comeIn_193 : decode cX4_comeIn 193 = .ok (.iinc 8 1, 3) := dk_132 8 1 (dk_at dksX4_comeIn_8 4 rfl rfl)
theorem dX4_comeIn_196 : decode cX4_comeIn 196 = .ok (.goto (-162), 3) := dk_167 255 94 (dk_at dksX4_comeIn_8 7 rfl rfl)
theorem dX4_comeIn_199 : decode cX4_comeIn 199 = .ok (.iload_n 3, 1) := dk_29 (dk_at dksX4_comeIn_8 10 rfl rfl)
theorem dX4_comeIn_200 : decode cX4_comeIn 200 = .ok (.ifCond .eq 10, 3) := dk_153 0 10 (dk_at dksX4_comeIn_8 11 rfl rfl)
theorem dX4_comeIn_203 : decode cX4_comeIn 203 = .ok (.aload 5, 2) := dk_25 5 (dk_at dksX4_comeIn_8 14 rfl rfl)
theorem dX4_comeIn_205 : decode cX4_comeIn 205 = .ok (.iload 6, 2) := dk_21 6 (dk_at dksX4_comeIn_8 16 rfl rfl)
theorem dX4_comeIn_207 : decode cX4_comeIn 207 = .ok (.putfield 202, 3) := dk_181 0 202 (dk_at dksX4_comeIn_8 18 rfl rfl)
theorem dX4_comeIn_210 : decode cX4_comeIn 210 = .ok (.iload 7, 2) := dk_21 7 (dk_at dksX4_comeIn_8 21 rfl rfl)
theorem dX4_comeIn_212 : decode cX4_comeIn 212 = .ok (.ireturn, 1) := dk_172 (dk_at dksX4_comeIn_8 23 rfl rfl)
abbrev cX4_duty : ByteArray := prog_14_method_26_code
def yX4_duty : MethodName := ⟨RX4, "duty", "(ILLullabygateModel$Land;)I"⟩
def dkwX4_duty_0 : List UInt8 := [3, 27, 44, 180, 0, 62, 100, 184, 0, 211, 44, 180, 0, 59, 104, 16, 100, 108, 172]
abbrev dktX4_duty_0 : List UInt8 := dkwX4_duty_0 ++ []
theorem dksX4_duty_0 : cX4_duty.data.toList.drop 0 = dktX4_duty_0 := by decide +kernel
theorem dX4_duty_0 : decode cX4_duty 0 = .ok (.iconst 0, 1) := dk_3 (dk_at dksX4_duty_0 0 rfl rfl)
theorem dX4_duty_1 : decode cX4_duty 1 = .ok (.iload_n 1, 1) := dk_27 (dk_at dksX4_duty_0 1 rfl rfl)
theorem dX4_duty_2 : decode cX4_duty 2 = .ok (.aload_n 2, 1) := dk_44 (dk_at dksX4_duty_0 2 rfl rfl)
theorem dX4_duty_3 : decode cX4_duty 3 = .ok (.getfield 62, 3) := dk_180 0 62 (dk_at dksX4_duty_0 3 rfl rfl)
theorem dX4_duty_6 : decode cX4_duty 6 = .ok (.isub, 1) := dk_100 (dk_at dksX4_duty_0 6 rfl rfl)
theorem dX4_duty_7 : decode cX4_duty 7 = .ok (.invokestatic 211, 3) := dk_184 0 211 (dk_at dksX4_duty_0 7 rfl rfl)
theorem dX4_duty_10 : decode cX4_duty 10 = .ok (.aload_n 2, 1) := dk_44 (dk_at dksX4_duty_0 10 rfl rfl)
theorem dX4_duty_11 : decode cX4_duty 11 = .ok (.getfield 59, 3) := dk_180 0 59 (dk_at dksX4_duty_0 11 rfl rfl)
theorem dX4_duty_14 : decode cX4_duty 14 = .ok (.imul, 1) := dk_104 (dk_at dksX4_duty_0 14 rfl rfl)
theorem dX4_duty_15 : decode cX4_duty 15 = .ok (.bipush 100, 2) := dk_16 100 (dk_at dksX4_duty_0 15 rfl rfl)
theorem dX4_duty_17 : decode cX4_duty 17 = .ok (.idiv, 1) := dk_108 (dk_at dksX4_duty_0 17 rfl rfl)
theorem dX4_duty_18 : decode cX4_duty 18 = .ok (.ireturn, 1) := dk_172 (dk_at dksX4_duty_0 18 rfl rfl)
abbrev cX4_appeal : ByteArray := prog_14_method_30_code
def yX4_appeal : MethodName := ⟨RX4, "appeal", "(I)Z"⟩
def dkwX4_appeal_7 : List UInt8 := [44, 180, 0, 125, 100, 181, 0, 227, 44, 44, 180, 0, 224, 181, 0, 131, 44, 5, 181, 0, 208, 4, 172]
abbrev dktX4_appeal_7 : List UInt8 := dkwX4_appeal_7 ++ []
def dkwX4_appeal_6 : List UInt8 := [180, 0, 131, 16, 100, 100, 160, 0, 11, 25, 4, 180, 0, 116, 153, 0, 5, 3, 172, 45, 89, 180, 0, 227]
abbrev dktX4_appeal_6 : List UInt8 := dkwX4_appeal_6 ++ dktX4_appeal_7
def dkwX4_appeal_5 : List UInt8 := [192, 0, 100, 58, 4, 44, 180, 0, 125, 45, 180, 0, 62, 163, 0, 26, 25, 4, 180, 0, 103, 44]
abbrev dktX4_appeal_5 : List UInt8 := dkwX4_appeal_5 ++ dktX4_appeal_6
def dkwX4_appeal_4 : List UInt8 := [180, 0, 15, 44, 180, 0, 131, 16, 100, 100, 50, 78, 42, 180, 0, 26, 44, 180, 0, 224, 182, 0, 90]
abbrev dktX4_appeal_4 : List UInt8 := dkwX4_appeal_4 ++ dktX4_appeal_5
def dkwX4_appeal_3 : List UInt8 := [42, 180, 0, 40, 158, 0, 5, 3, 172, 42, 180, 0, 29, 27, 182, 0, 90, 192, 0, 119, 77, 42]
abbrev dktX4_appeal_3 : List UInt8 := dkwX4_appeal_3 ++ dktX4_appeal_4
def dkwX4_appeal_2 : List UInt8 := [182, 0, 90, 192, 0, 119, 180, 0, 131, 16, 100, 16, 105, 184, 0, 43, 154, 0, 8, 42, 5, 181, 0, 40]
abbrev dktX4_appeal_2 : List UInt8 := dkwX4_appeal_2 ++ dktX4_appeal_3
def dkwX4_appeal_1 : List UInt8 := [180, 0, 29, 27, 182, 0, 90, 192, 0, 119, 180, 0, 208, 6, 160, 0, 27, 42, 180, 0, 29, 27]
abbrev dktX4_appeal_1 : List UInt8 := dkwX4_appeal_1 ++ dktX4_appeal_2
def dkwX4_appeal_0 : List UInt8 := [42, 3, 181, 0, 40, 42, 27, 182, 0, 134, 154, 0, 11, 42, 4, 181, 0, 40, 167, 0, 50, 42]
abbrev dktX4_appeal_0 : List UInt8 := dkwX4_appeal_0 ++ dktX4_appeal_1
theorem dksX4_appeal_0 : cX4_appeal.data.toList.drop 0 = dktX4_appeal_0 := by decide +kernel
theorem dksX4_appeal_1 : cX4_appeal.data.toList.drop 22 = dktX4_appeal_1 := dk_seg dksX4_appeal_0 22 rfl rfl
theorem dksX4_appeal_2 : cX4_appeal.data.toList.drop 44 = dktX4_appeal_2 := dk_seg dksX4_appeal_1 22 rfl rfl
theorem dksX4_appeal_3 : cX4_appeal.data.toList.drop 68 = dktX4_appeal_3 := dk_seg dksX4_appeal_2 24 rfl rfl
theorem dksX4_appeal_4 : cX4_appeal.data.toList.drop 90 = dktX4_appeal_4 := dk_seg dksX4_appeal_3 22 rfl rfl
theorem dksX4_appeal_5 : cX4_appeal.data.toList.drop 113 = dktX4_appeal_5 := dk_seg dksX4_appeal_4 23 rfl rfl
theorem dksX4_appeal_6 : cX4_appeal.data.toList.drop 135 = dktX4_appeal_6 := dk_seg dksX4_appeal_5 22 rfl rfl
theorem dksX4_appeal_7 : cX4_appeal.data.toList.drop 159 = dktX4_appeal_7 := dk_seg dksX4_appeal_6 24 rfl rfl
theorem dX4_appeal_0 : decode cX4_appeal 0 = .ok (.aload_n 0, 1) := dk_42 (dk_at dksX4_appeal_0 0 rfl rfl)
theorem dX4_appeal_1 : decode cX4_appeal 1 = .ok (.iconst 0, 1) := dk_3 (dk_at dksX4_appeal_0 1 rfl rfl)
theorem dX4_appeal_2 : decode cX4_appeal 2 = .ok (.putfield 40, 3) := dk_181 0 40 (dk_at dksX4_appeal_0 2 rfl rfl)
theorem dX4_appeal_5 : decode cX4_appeal 5 = .ok (.aload_n 0, 1) := dk_42 (dk_at dksX4_appeal_0 5 rfl rfl)
theorem dX4_appeal_6 : decode cX4_appeal 6 = .ok (.iload_n 1, 1) := dk_27 (dk_at dksX4_appeal_0 6 rfl rfl)
theorem dX4_appeal_7 : decode cX4_appeal 7 = .ok (.invokevirtual 134, 3) := dk_182 0 134 (dk_at dksX4_appeal_0 7 rfl rfl)
theorem dX4_appeal_10 : decode cX4_appeal 10 = .ok (.ifCond .ne 11, 3) := dk_154 0 11 (dk_at dksX4_appeal_0 10 rfl rfl)
theorem dX4_appeal_13 : decode cX4_appeal 13 = .ok (.aload_n 0, 1) := dk_42 (dk_at dksX4_appeal_0 13 rfl rfl)
theorem dX4_appeal_14 : decode cX4_appeal 14 = .ok (.iconst 1, 1) := dk_4 (dk_at dksX4_appeal_0 14 rfl rfl)
theorem dX4_appeal_15 : decode cX4_appeal 15 = .ok (.putfield 40, 3) := dk_181 0 40 (dk_at dksX4_appeal_0 15 rfl rfl)
theorem dX4_appeal_18 : decode cX4_appeal 18 = .ok (.goto 50, 3) := dk_167 0 50 (dk_at dksX4_appeal_0 18 rfl rfl)
theorem dX4_appeal_21 : decode cX4_appeal 21 = .ok (.aload_n 0, 1) := dk_42 (dk_at dksX4_appeal_0 21 rfl rfl)
theorem dX4_appeal_22 : decode cX4_appeal 22 = .ok (.getfield 29, 3) := dk_180 0 29 (dk_at dksX4_appeal_1 0 rfl rfl)
theorem dX4_appeal_25 : decode cX4_appeal 25 = .ok (.iload_n 1, 1) := dk_27 (dk_at dksX4_appeal_1 3 rfl rfl)
theorem dX4_appeal_26 : decode cX4_appeal 26 = .ok (.invokevirtual 90, 3) := dk_182 0 90 (dk_at dksX4_appeal_1 4 rfl rfl)
theorem dX4_appeal_29 : decode cX4_appeal 29 = .ok (.checkcast 119, 3) := dk_192 0 119 (dk_at dksX4_appeal_1 7 rfl rfl)
theorem dX4_appeal_32 : decode cX4_appeal 32 = .ok (.getfield 208, 3) := dk_180 0 208 (dk_at dksX4_appeal_1 10 rfl rfl)
theorem dX4_appeal_35 : decode cX4_appeal 35 = .ok (.iconst 3, 1) := dk_6 (dk_at dksX4_appeal_1 13 rfl rfl)
theorem dX4_appeal_36 : decode cX4_appeal 36 = .ok (.if_icmp .ne 27, 3) := dk_160 0 27 (dk_at dksX4_appeal_1 14 rfl rfl)
theorem dX4_appeal_39 : decode cX4_appeal 39 = .ok (.aload_n 0, 1) := dk_42 (dk_at dksX4_appeal_1 17 rfl rfl)
theorem dX4_appeal_40 : decode cX4_appeal 40 = .ok (.getfield 29, 3) := dk_180 0 29 (dk_at dksX4_appeal_1 18 rfl rfl)
theorem dX4_appeal_43 : decode cX4_appeal 43 = .ok (.iload_n 1, 1) := dk_27 (dk_at dksX4_appeal_1 21 rfl rfl)
theorem dX4_appeal_44 : decode cX4_appeal 44 = .ok (.invokevirtual 90, 3) := dk_182 0 90 (dk_at dksX4_appeal_2 0 rfl rfl)
theorem dX4_appeal_47 : decode cX4_appeal 47 = .ok (.checkcast 119, 3) := dk_192 0 119 (dk_at dksX4_appeal_2 3 rfl rfl)
theorem dX4_appeal_50 : decode cX4_appeal 50 = .ok (.getfield 131, 3) := dk_180 0 131 (dk_at dksX4_appeal_2 6 rfl rfl)
theorem dX4_appeal_53 : decode cX4_appeal 53 = .ok (.bipush 100, 2) := dk_16 100 (dk_at dksX4_appeal_2 9 rfl rfl)
theorem dX4_appeal_55 : decode cX4_appeal 55 = .ok (.bipush 105, 2) := dk_16 105 (dk_at dksX4_appeal_2 11 rfl rfl)
theorem dX4_appeal_57 : decode cX4_appeal 57 = .ok (.invokestatic 43, 3) := dk_184 0 43 (dk_at dksX4_appeal_2 13 rfl rfl)
theorem dX4_appeal_60 : decode cX4_appeal 60 = .ok (.ifCond .ne 8, 3) := dk_154 0 8 (dk_at dksX4_appeal_2 16 rfl rfl)
theorem dX4_appeal_63 : decode cX4_appeal 63 = .ok (.aload_n 0, 1) := dk_42 (dk_at dksX4_appeal_2 19 rfl rfl)
theorem dX4_appeal_64 : decode cX4_appeal 64 = .ok (.iconst 2, 1) := dk_5 (dk_at dksX4_appeal_2 20 rfl rfl)
theorem dX4_appeal_65 : decode cX4_appeal 65 = .ok (.putfield 40, 3) := dk_181 0 40 (dk_at dksX4_appeal_2 21 rfl rfl)
theorem dX4_appeal_68 : decode cX4_appeal 68 = .ok (.aload_n 0, 1) := dk_42 (dk_at dksX4_appeal_3 0 rfl rfl)
theorem dX4_appeal_69 : decode cX4_appeal 69 = .ok (.getfield 40, 3) := dk_180 0 40 (dk_at dksX4_appeal_3 1 rfl rfl)
theorem dX4_appeal_72 : decode cX4_appeal 72 = .ok (.ifCond .le 5, 3) := dk_158 0 5 (dk_at dksX4_appeal_3 4 rfl rfl)
theorem dX4_appeal_75 : decode cX4_appeal 75 = .ok (.iconst 0, 1) := dk_3 (dk_at dksX4_appeal_3 7 rfl rfl)
theorem dX4_appeal_76 : decode cX4_appeal 76 = .ok (.ireturn, 1) := dk_172 (dk_at dksX4_appeal_3 8 rfl rfl)
theorem dX4_appeal_77 : decode cX4_appeal 77 = .ok (.aload_n 0, 1) := dk_42 (dk_at dksX4_appeal_3 9 rfl rfl)
theorem dX4_appeal_78 : decode cX4_appeal 78 = .ok (.getfield 29, 3) := dk_180 0 29 (dk_at dksX4_appeal_3 10 rfl rfl)
theorem dX4_appeal_81 : decode cX4_appeal 81 = .ok (.iload_n 1, 1) := dk_27 (dk_at dksX4_appeal_3 13 rfl rfl)
theorem dX4_appeal_82 : decode cX4_appeal 82 = .ok (.invokevirtual 90, 3) := dk_182 0 90 (dk_at dksX4_appeal_3 14 rfl rfl)
theorem dX4_appeal_85 : decode cX4_appeal 85 = .ok (.checkcast 119, 3) := dk_192 0 119 (dk_at dksX4_appeal_3 17 rfl rfl)
theorem dX4_appeal_88 : decode cX4_appeal 88 = .ok (.astore_n 2, 1) := dk_77 (dk_at dksX4_appeal_3 20 rfl rfl)
theorem dX4_appeal_89 : decode cX4_appeal 89 = .ok (.aload_n 0, 1) := dk_42 (dk_at dksX4_appeal_3 21 rfl rfl)
theorem dX4_appeal_90 : decode cX4_appeal 90 = .ok (.getfield 15, 3) := dk_180 0 15 (dk_at dksX4_appeal_4 0 rfl rfl)
theorem dX4_appeal_93 : decode cX4_appeal 93 = .ok (.aload_n 2, 1) := dk_44 (dk_at dksX4_appeal_4 3 rfl rfl)
theorem dX4_appeal_94 : decode cX4_appeal 94 = .ok (.getfield 131, 3) := dk_180 0 131 (dk_at dksX4_appeal_4 4 rfl rfl)
theorem dX4_appeal_97 : decode cX4_appeal 97 = .ok (.bipush 100, 2) := dk_16 100 (dk_at dksX4_appeal_4 7 rfl rfl)
theorem dX4_appeal_99 : decode cX4_appeal 99 = .ok (.isub, 1) := dk_100 (dk_at dksX4_appeal_4 9 rfl rfl)
theorem dX4_appeal_100 : decode cX4_appeal 100 = .ok (.aaload, 1) := dk_50 (dk_at dksX4_appeal_4 10 rfl rfl)
theorem dX4_appeal_101 : decode cX4_appeal 101 = .ok (.astore_n 3, 1) := dk_78 (dk_at dksX4_appeal_4 11 rfl rfl)
theorem dX4_appeal_102 : decode cX4_appeal 102 = .ok (.aload_n 0, 1) := dk_42 (dk_at dksX4_appeal_4 12 rfl rfl)
theorem dX4_appeal_103 : decode cX4_appeal 103 = .ok (.getfield 26, 3) := dk_180 0 26 (dk_at dksX4_appeal_4 13 rfl rfl)
theorem dX4_appeal_106 : decode cX4_appeal 106 = .ok (.aload_n 2, 1) := dk_44 (dk_at dksX4_appeal_4 16 rfl rfl)
theorem dX4_appeal_107 : decode cX4_appeal 107 = .ok (.getfield 224, 3) := dk_180 0 224 (dk_at dksX4_appeal_4 17 rfl rfl)
theorem dX4_appeal_110 : decode cX4_appeal 110 = .ok (.invokevirtual 90, 3) := dk_182 0 90 (dk_at dksX4_appeal_4 20 rfl rfl)
theorem dX4_appeal_113 : decode cX4_appeal 113 = .ok (.checkcast 100, 3) := dk_192 0 100 (dk_at dksX4_appeal_5 0 rfl rfl)
theorem dX4_appeal_116 : decode cX4_appeal 116 = .ok (.astore 4, 2) := dk_58 4 (dk_at dksX4_appeal_5 3 rfl rfl)
theorem dX4_appeal_118 : decode cX4_appeal 118 = .ok (.aload_n 2, 1) := dk_44 (dk_at dksX4_appeal_5 5 rfl rfl)
theorem dX4_appeal_119 : decode cX4_appeal 119 = .ok (.getfield 125, 3) := dk_180 0 125 (dk_at dksX4_appeal_5 6 rfl rfl)
theorem dX4_appeal_122 : decode cX4_appeal 122 = .ok (.aload_n 3, 1) := dk_45 (dk_at dksX4_appeal_5 9 rfl rfl)
theorem dX4_appeal_123 : decode cX4_appeal 123 = .ok (.getfield 62, 3) := dk_180 0 62 (dk_at dksX4_appeal_5 10 rfl rfl)
theorem dX4_appeal_126 : decode cX4_appeal 126 = .ok (.if_icmp .gt 26, 3) := dk_163 0 26 (dk_at dksX4_appeal_5 13 rfl rfl)
theorem dX4_appeal_129 : decode cX4_appeal 129 = .ok (.aload 4, 2) := dk_25 4 (dk_at dksX4_appeal_5 16 rfl rfl)
theorem dX4_appeal_131 : decode cX4_appeal 131 = .ok (.getfield 103, 3) := dk_180 0 103 (dk_at dksX4_appeal_5 18 rfl rfl)
theorem dX4_appeal_134 : decode cX4_appeal 134 = .ok (.aload_n 2, 1) := dk_44 (dk_at dksX4_appeal_5 21 rfl rfl)
theorem dX4_appeal_135 : decode cX4_appeal 135 = .ok (.getfield 131, 3) := dk_180 0 131 (dk_at dksX4_appeal_6 0 rfl rfl)
theorem dX4_appeal_138 : decode cX4_appeal 138 = .ok (.bipush 100, 2) := dk_16 100 (dk_at dksX4_appeal_6 3 rfl rfl)
theorem dX4_appeal_140 : decode cX4_appeal 140 = .ok (.isub, 1) := dk_100 (dk_at dksX4_appeal_6 5 rfl rfl)
theorem dX4_appeal_141 : decode cX4_appeal 141 = .ok (.if_icmp .ne 11, 3) := dk_160 0 11 (dk_at dksX4_appeal_6 6 rfl rfl)
theorem dX4_appeal_144 : decode cX4_appeal 144 = .ok (.aload 4, 2) := dk_25 4 (dk_at dksX4_appeal_6 9 rfl rfl)
theorem dX4_appeal_146 : decode cX4_appeal 146 = .ok (.getfield 116, 3) := dk_180 0 116 (dk_at dksX4_appeal_6 11 rfl rfl)
theorem dX4_appeal_149 : decode cX4_appeal 149 = .ok (.ifCond .eq 5, 3) := dk_153 0 5 (dk_at dksX4_appeal_6 14 rfl rfl)
theorem dX4_appeal_152 : decode cX4_appeal 152 = .ok (.iconst 0, 1) := dk_3 (dk_at dksX4_appeal_6 17 rfl rfl)
theorem dX4_appeal_153 : decode cX4_appeal 153 = .ok (.ireturn, 1) := dk_172 (dk_at dksX4_appeal_6 18 rfl rfl)
theorem dX4_appeal_154 : decode cX4_appeal 154 = .ok (.aload_n 3, 1) := dk_45 (dk_at dksX4_appeal_6 19 rfl rfl)
theorem dX4_appeal_155 : decode cX4_appeal 155 = .ok (.dup, 1) := dk_89 (dk_at dksX4_appeal_6 20 rfl rfl)
theorem dX4_appeal_156 : decode cX4_appeal 156 = .ok (.getfield 227, 3) := dk_180 0 227 (dk_at dksX4_appeal_6 21 rfl rfl)
theorem dX4_appeal_159 : decode cX4_appeal 159 = .ok (.aload_n 2, 1) := dk_44 (dk_at dksX4_appeal_7 0 rfl rfl)
theorem dX4_appeal_160 : decode cX4_appeal 160 = .ok (.getfield 125, 3) := dk_180 0 125 (dk_at dksX4_appeal_7 1 rfl rfl)
theorem dX4_appeal_163 : decode cX4_appeal 163 = .ok (.isub, 1) := dk_100 (dk_at dksX4_appeal_7 4 rfl rfl)
theorem dX4_appeal_164 : decode cX4_appeal 164 = .ok (.putfield 227, 3) := dk_181 0 227 (dk_at dksX4_appeal_7 5 rfl rfl)
theorem dX4_appeal_167 : decode cX4_appeal 167 = .ok (.aload_n 2, 1) := dk_44 (dk_at dksX4_appeal_7 8 rfl rfl)
theorem dX4_appeal_168 : decode cX4_appeal 168 = .ok (.aload_n 2, 1) := dk_44 (dk_at dksX4_appeal_7 9 rfl rfl)
theorem dX4_appeal_169 : decode cX4_appeal 169 = .ok (.getfield 224, 3) := dk_180 0 224 (dk_at dksX4_appeal_7 10 rfl rfl)
theorem dX4_appeal_172 : decode cX4_appeal 172 = .ok (.putfield 131, 3) := dk_181 0 131 (dk_at dksX4_appeal_7 13 rfl rfl)
theorem dX4_appeal_175 : decode cX4_appeal 175 = .ok (.aload_n 2, 1) := dk_44 (dk_at dksX4_appeal_7 16 rfl rfl)
theorem dX4_appeal_176 : decode cX4_appeal 176 = .ok (.iconst 2, 1) := dk_5 (dk_at dksX4_appeal_7 17 rfl rfl)
theorem dX4_appeal_177 : decode cX4_appeal 177 = .ok (.putfield 208, 3) := dk_181 0 208 (dk_at dksX4_appeal_7 18 rfl rfl)
theorem dX4_appeal_180 : decode cX4_appeal 180 = .ok (.iconst 1, 1) := dk_4 (dk_at dksX4_appeal_7 21 rfl rfl)
theorem dX4_appeal_181 : decode cX4_appeal 181 = .ok (.ireturn, 1) := dk_172 (dk_at dksX4_appeal_7 22 rfl rfl)
abbrev cX4_pass : ByteArray := prog_14_method_31_code
def yX4_pass : MethodName := ⟨RX4, "pass", "(I)I"⟩
def dkwX4_pass_2 : List UInt8 := [3, 61, 28, 27, 162, 0, 13, 42, 182, 1, 5, 132, 2, 1, 167, 255, 244, 42, 180, 0, 241, 172]
abbrev dktX4_pass_2 : List UInt8 := dkwX4_pass_2 ++ []
def dkwX4_pass_1 : List UInt8 := [180, 0, 137, 42, 180, 0, 241, 27, 96, 16, 24, 108, 96, 16, 99, 164, 0, 9, 42, 5, 182, 0, 55, 172]
abbrev dktX4_pass_1 : List UInt8 := dkwX4_pass_1 ++ dktX4_pass_2
def dkwX4_pass_0 : List UInt8 := [42, 3, 181, 0, 40, 27, 4, 16, 48, 184, 0, 43, 154, 0, 9, 42, 4, 182, 0, 55, 172, 42]
abbrev dktX4_pass_0 : List UInt8 := dkwX4_pass_0 ++ dktX4_pass_1
theorem dksX4_pass_0 : cX4_pass.data.toList.drop 0 = dktX4_pass_0 := by decide +kernel
theorem dksX4_pass_1 : cX4_pass.data.toList.drop 22 = dktX4_pass_1 := dk_seg dksX4_pass_0 22 rfl rfl
theorem dksX4_pass_2 : cX4_pass.data.toList.drop 46 = dktX4_pass_2 := dk_seg dksX4_pass_1 24 rfl rfl
theorem dX4_pass_0 : decode cX4_pass 0 = .ok (.aload_n 0, 1) := dk_42 (dk_at dksX4_pass_0 0 rfl rfl)
theorem dX4_pass_1 : decode cX4_pass 1 = .ok (.iconst 0, 1) := dk_3 (dk_at dksX4_pass_0 1 rfl rfl)
theorem dX4_pass_2 : decode cX4_pass 2 = .ok (.putfield 40, 3) := dk_181 0 40 (dk_at dksX4_pass_0 2 rfl rfl)
theorem dX4_pass_5 : decode cX4_pass 5 = .ok (.iload_n 1, 1) := dk_27 (dk_at dksX4_pass_0 5 rfl rfl)
theorem dX4_pass_6 : decode cX4_pass 6 = .ok (.iconst 1, 1) := dk_4 (dk_at dksX4_pass_0 6 rfl rfl)
theorem dX4_pass_7 : decode cX4_pass 7 = .ok (.bipush 48, 2) := dk_16 48 (dk_at dksX4_pass_0 7 rfl rfl)
theorem dX4_pass_9 : decode cX4_pass 9 = .ok (.invokestatic 43, 3) := dk_184 0 43 (dk_at dksX4_pass_0 9 rfl rfl)
theorem dX4_pass_12 : decode cX4_pass 12 = .ok (.ifCond .ne 9, 3) := dk_154 0 9 (dk_at dksX4_pass_0 12 rfl rfl)
theorem dX4_pass_15 : decode cX4_pass 15 = .ok (.aload_n 0, 1) := dk_42 (dk_at dksX4_pass_0 15 rfl rfl)
theorem dX4_pass_16 : decode cX4_pass 16 = .ok (.iconst 1, 1) := dk_4 (dk_at dksX4_pass_0 16 rfl rfl)
theorem dX4_pass_17 : decode cX4_pass 17 = .ok (.invokevirtual 55, 3) := dk_182 0 55 (dk_at dksX4_pass_0 17 rfl rfl)
theorem dX4_pass_20 : decode cX4_pass 20 = .ok (.ireturn, 1) := dk_172 (dk_at dksX4_pass_0 20 rfl rfl)
theorem dX4_pass_21 : decode cX4_pass 21 = .ok (.aload_n 0, 1) := dk_42 (dk_at dksX4_pass_0 21 rfl rfl)
theorem dX4_pass_22 : decode cX4_pass 22 = .ok (.getfield 137, 3) := dk_180 0 137 (dk_at dksX4_pass_1 0 rfl rfl)
theorem dX4_pass_25 : decode cX4_pass 25 = .ok (.aload_n 0, 1) := dk_42 (dk_at dksX4_pass_1 3 rfl rfl)
theorem dX4_pass_26 : decode cX4_pass 26 = .ok (.getfield 241, 3) := dk_180 0 241 (dk_at dksX4_pass_1 4 rfl rfl)
theorem dX4_pass_29 : decode cX4_pass 29 = .ok (.iload_n 1, 1) := dk_27 (dk_at dksX4_pass_1 7 rfl rfl)
theorem dX4_pass_30 : decode cX4_pass 30 = .ok (.iadd, 1) := dk_96 (dk_at dksX4_pass_1 8 rfl rfl)
theorem dX4_pass_31 : decode cX4_pass 31 = .ok (.bipush 24, 2) := dk_16 24 (dk_at dksX4_pass_1 9 rfl rfl)
theorem dX4_pass_33 : decode cX4_pass 33 = .ok (.idiv, 1) := dk_108 (dk_at dksX4_pass_1 11 rfl rfl)
theorem dX4_pass_34 : decode cX4_pass 34 = .ok (.iadd, 1) := dk_96 (dk_at dksX4_pass_1 12 rfl rfl)
theorem dX4_pass_35 : decode cX4_pass 35 = .ok (.bipush 99, 2) := dk_16 99 (dk_at dksX4_pass_1 13 rfl rfl)
theorem dX4_pass_37 : decode cX4_pass 37 = .ok (.if_icmp .le 9, 3) := dk_164 0 9 (dk_at dksX4_pass_1 15 rfl rfl)
theorem dX4_pass_40 : decode cX4_pass 40 = .ok (.aload_n 0, 1) := dk_42 (dk_at dksX4_pass_1 18 rfl rfl)
theorem dX4_pass_41 : decode cX4_pass 41 = .ok (.iconst 2, 1) := dk_5 (dk_at dksX4_pass_1 19 rfl rfl)
theorem dX4_pass_42 : decode cX4_pass 42 = .ok (.invokevirtual 55, 3) := dk_182 0 55 (dk_at dksX4_pass_1 20 rfl rfl)
theorem dX4_pass_45 : decode cX4_pass 45 = .ok (.ireturn, 1) := dk_172 (dk_at dksX4_pass_1 23 rfl rfl)
theorem dX4_pass_46 : decode cX4_pass 46 = .ok (.iconst 0, 1) := dk_3 (dk_at dksX4_pass_2 0 rfl rfl)
theorem dX4_pass_47 : decode cX4_pass 47 = .ok (.istore_n 2, 1) := dk_61 (dk_at dksX4_pass_2 1 rfl rfl)
theorem dX4_pass_48 : decode cX4_pass 48 = .ok (.iload_n 2, 1) := dk_28 (dk_at dksX4_pass_2 2 rfl rfl)
theorem dX4_pass_49 : decode cX4_pass 49 = .ok (.iload_n 1, 1) := dk_27 (dk_at dksX4_pass_2 3 rfl rfl)
theorem dX4_pass_50 : decode cX4_pass 50 = .ok (.if_icmp .ge 13, 3) := dk_162 0 13 (dk_at dksX4_pass_2 4 rfl rfl)
theorem dX4_pass_53 : decode cX4_pass 53 = .ok (.aload_n 0, 1) := dk_42 (dk_at dksX4_pass_2 7 rfl rfl)
theorem dX4_pass_54 : decode cX4_pass 54 = .ok (.invokevirtual 261, 3) := dk_182 1 5 (dk_at dksX4_pass_2 8 rfl rfl)
theorem dX4_pass_57 : decode cX4_pass 57 = .ok (.iinc 2 1, 3) := dk_132 2 1 (dk_at dksX4_pass_2 11 rfl rfl)
theorem dX4_pass_60 : decode cX4_pass 60 = .ok (.goto (-12), 3) := dk_167 255 244 (dk_at dksX4_pass_2 14 rfl rfl)
theorem dX4_pass_63 : decode cX4_pass 63 = .ok (.aload_n 0, 1) := dk_42 (dk_at dksX4_pass_2 17 rfl rfl)
theorem dX4_pass_64 : decode cX4_pass 64 = .ok (.getfield 241, 3) := dk_180 0 241 (dk_at dksX4_pass_2 18 rfl rfl)
theorem dX4_pass_67 : decode cX4_pass 67 = .ok (.ireturn, 1) := dk_172 (dk_at dksX4_pass_2 21 rfl rfl)
abbrev cX4_begin : ByteArray := prog_14_method_32_code
def yX4_begin : MethodName := ⟨RX4, "begin", "()V"⟩
def dkwX4_begin_15 : List UInt8 := [4, 96, 167, 0, 4, 3, 181, 0, 97, 132, 1, 1, 167, 255, 170, 177]
abbrev dktX4_begin_15 : List UInt8 := dkwX4_begin_15 ++ []
def dkwX4_begin_14 : List UInt8 := [4, 84, 132, 3, 1, 167, 255, 226, 44, 44, 42, 180, 0, 241, 182, 0, 244, 153, 0, 12, 44, 180, 0, 97]
abbrev dktX4_begin_14 : List UInt8 := dkwX4_begin_14 ++ dktX4_begin_15
def dkwX4_begin_13 : List UInt8 := [16, 97, 162, 0, 30, 42, 180, 0, 35, 27, 16, 97, 104, 29, 96, 51, 153, 0, 10, 44, 180, 0, 153, 29]
abbrev dktX4_begin_13 : List UInt8 := dkwX4_begin_13 ++ dktX4_begin_14
def dkwX4_begin_12 : List UInt8 := [180, 0, 22, 182, 0, 47, 162, 0, 81, 42, 180, 0, 22, 27, 182, 0, 90, 192, 0, 68, 77, 3, 62, 29]
abbrev dktX4_begin_12 : List UInt8 := dkwX4_begin_12 ++ dktX4_begin_13
def dkwX4_begin_11 : List UInt8 := [132, 5, 1, 167, 255, 222, 132, 2, 1, 167, 255, 150, 132, 1, 1, 167, 255, 131, 3, 60, 27, 42]
abbrev dktX4_begin_11 : List UInt8 := dkwX4_begin_11 ++ dktX4_begin_12
def dkwX4_begin_10 : List UInt8 := [180, 0, 153, 21, 5, 51, 153, 0, 16, 42, 180, 0, 35, 27, 16, 97, 104, 21, 5, 96, 4, 84]
abbrev dktX4_begin_10 : List UInt8 := dkwX4_begin_10 ++ dktX4_begin_11
def dkwX4_begin_9 : List UInt8 := [180, 0, 74, 182, 0, 159, 154, 0, 6, 167, 0, 43, 3, 54, 5, 21, 5, 16, 97, 162, 0, 33, 25, 4]
abbrev dktX4_begin_9 : List UInt8 := dkwX4_begin_9 ++ dktX4_begin_10
def dkwX4_begin_8 : List UInt8 := [182, 0, 90, 192, 0, 68, 58, 4, 45, 25, 4, 180, 0, 71, 182, 0, 159, 154, 0, 18, 45, 25, 4]
abbrev dktX4_begin_8 : List UInt8 := dkwX4_begin_8 ++ dktX4_begin_9
def dkwX4_begin_7 : List UInt8 := [182, 0, 47, 162, 0, 101, 42, 180, 0, 22, 27, 182, 0, 90, 192, 0, 68, 78, 42, 180, 0, 22, 28]
abbrev dktX4_begin_7 : List UInt8 := dkwX4_begin_7 ++ dktX4_begin_8
def dkwX4_begin_6 : List UInt8 := [167, 255, 237, 3, 60, 27, 42, 180, 0, 22, 182, 0, 47, 162, 0, 120, 3, 61, 28, 42, 180, 0, 22]
abbrev dktX4_begin_6 : List UInt8 := dkwX4_begin_6 ++ dktX4_begin_7
def dkwX4_begin_5 : List UInt8 := [167, 255, 213, 3, 60, 27, 42, 180, 0, 35, 190, 162, 0, 16, 42, 180, 0, 35, 27, 3, 84, 132, 1, 1]
abbrev dktX4_begin_5 : List UInt8 := dkwX4_begin_5 ++ dktX4_begin_6
def dkwX4_begin_4 : List UInt8 := [180, 0, 146, 2, 159, 0, 19, 44, 180, 0, 143, 42, 180, 0, 137, 162, 0, 8, 44, 2, 181, 0, 146]
abbrev dktX4_begin_4 : List UInt8 := dkwX4_begin_4 ++ dktX4_begin_5
def dkwX4_begin_3 : List UInt8 := [182, 1, 8, 76, 43, 185, 1, 12, 1, 0, 153, 0, 40, 43, 185, 1, 17, 1, 0, 192, 0, 100, 77, 44]
abbrev dktX4_begin_3 : List UInt8 := dkwX4_begin_3 ++ dktX4_begin_4
def dkwX4_begin_2 : List UInt8 := [162, 0, 20, 43, 29, 50, 58, 4, 25, 4, 3, 181, 0, 202, 132, 3, 1, 167, 255, 237, 42, 180, 0, 26]
abbrev dktX4_begin_2 : List UInt8 := dkwX4_begin_2 ++ dktX4_begin_3
def dkwX4_begin_1 : List UInt8 := [42, 89, 180, 0, 137, 4, 96, 181, 0, 137, 42, 180, 0, 15, 76, 43, 190, 61, 3, 62, 29, 28]
abbrev dktX4_begin_1 : List UInt8 := dkwX4_begin_1 ++ dktX4_begin_2
def dkwX4_begin_0 : List UInt8 := [42, 89, 180, 0, 241, 4, 96, 181, 0, 241, 42, 180, 0, 241, 16, 24, 160, 0, 104, 42, 3, 181, 0, 241]
abbrev dktX4_begin_0 : List UInt8 := dkwX4_begin_0 ++ dktX4_begin_1
theorem dksX4_begin_0 : cX4_begin.data.toList.drop 0 = dktX4_begin_0 := by decide +kernel
theorem dksX4_begin_1 : cX4_begin.data.toList.drop 24 = dktX4_begin_1 := dk_seg dksX4_begin_0 24 rfl rfl
theorem dksX4_begin_2 : cX4_begin.data.toList.drop 46 = dktX4_begin_2 := dk_seg dksX4_begin_1 22 rfl rfl
theorem dksX4_begin_3 : cX4_begin.data.toList.drop 70 = dktX4_begin_3 := dk_seg dksX4_begin_2 24 rfl rfl
theorem dksX4_begin_4 : cX4_begin.data.toList.drop 94 = dktX4_begin_4 := dk_seg dksX4_begin_3 24 rfl rfl
theorem dksX4_begin_5 : cX4_begin.data.toList.drop 117 = dktX4_begin_5 := dk_seg dksX4_begin_4 23 rfl rfl
theorem dksX4_begin_6 : cX4_begin.data.toList.drop 141 = dktX4_begin_6 := dk_seg dksX4_begin_5 24 rfl rfl
theorem dksX4_begin_7 : cX4_begin.data.toList.drop 164 = dktX4_begin_7 := dk_seg dksX4_begin_6 23 rfl rfl
theorem dksX4_begin_8 : cX4_begin.data.toList.drop 187 = dktX4_begin_8 := dk_seg dksX4_begin_7 23 rfl rfl
theorem dksX4_begin_9 : cX4_begin.data.toList.drop 210 = dktX4_begin_9 := dk_seg dksX4_begin_8 23 rfl rfl
theorem dksX4_begin_10 : cX4_begin.data.toList.drop 234 = dktX4_begin_10 := dk_seg dksX4_begin_9 24 rfl rfl
theorem dksX4_begin_11 : cX4_begin.data.toList.drop 256 = dktX4_begin_11 := dk_seg dksX4_begin_10 22 rfl rfl
theorem dksX4_begin_12 : cX4_begin.data.toList.drop 278 = dktX4_begin_12 := dk_seg dksX4_begin_11 22 rfl rfl
theorem dksX4_begin_13 : cX4_begin.data.toList.drop 302 = dktX4_begin_13 := dk_seg dksX4_begin_12 24 rfl rfl
theorem dksX4_begin_14 : cX4_begin.data.toList.drop 326 = dktX4_begin_14 := dk_seg dksX4_begin_13 24 rfl rfl
theorem dksX4_begin_15 : cX4_begin.data.toList.drop 350 = dktX4_begin_15 := dk_seg dksX4_begin_14 24 rfl rfl
theorem dX4_begin_0 : decode cX4_begin 0 = .ok (.aload_n 0, 1) := dk_42 (dk_at dksX4_begin_0 0 rfl rfl)
theorem dX4_begin_1 : decode cX4_begin 1 = .ok (.dup, 1) := dk_89 (dk_at dksX4_begin_0 1 rfl rfl)
theorem dX4_begin_2 : decode cX4_begin 2 = .ok (.getfield 241, 3) := dk_180 0 241 (dk_at dksX4_begin_0 2 rfl rfl)
theorem dX4_begin_5 : decode cX4_begin 5 = .ok (.iconst 1, 1) := dk_4 (dk_at dksX4_begin_0 5 rfl rfl)
theorem dX4_begin_6 : decode cX4_begin 6 = .ok (.iadd, 1) := dk_96 (dk_at dksX4_begin_0 6 rfl rfl)
theorem dX4_begin_7 : decode cX4_begin 7 = .ok (.putfield 241, 3) := dk_181 0 241 (dk_at dksX4_begin_0 7 rfl rfl)
theorem dX4_begin_10 : decode cX4_begin 10 = .ok (.aload_n 0, 1) := dk_42 (dk_at dksX4_begin_0 10 rfl rfl)
theorem dX4_begin_11 : decode cX4_begin 11 = .ok (.getfield 241, 3) := dk_180 0 241 (dk_at dksX4_begin_0 11 rfl rfl)
theorem dX4_begin_14 : decode cX4_begin 14 = .ok (.bipush 24, 2) := dk_16 24 (dk_at dksX4_begin_0 14 rfl rfl)
theorem dX4_begin_16 : decode cX4_begin 16 = .ok (.if_icmp .ne 104, 3) := dk_160 0 104 (dk_at dksX4_begin_0 16 rfl rfl)
theorem dX4_begin_19 : decode cX4_begin 19 = .ok (.aload_n 0, 1) := dk_42 (dk_at dksX4_begin_0 19 rfl rfl)
theorem dX4_begin_20 : decode cX4_begin 20 = .ok (.iconst 0, 1) := dk_3 (dk_at dksX4_begin_0 20 rfl rfl)
theorem dX4_begin_21 : decode cX4_begin 21 = .ok (.putfield 241, 3) := dk_181 0 241 (dk_at dksX4_begin_0 21 rfl rfl)
theorem dX4_begin_24 : decode cX4_begin 24 = .ok (.aload_n 0, 1) := dk_42 (dk_at dksX4_begin_1 0 rfl rfl)
theorem dX4_begin_25 : decode cX4_begin 25 = .ok (.dup, 1) := dk_89 (dk_at dksX4_begin_1 1 rfl rfl)
theorem dX4_begin_26 : decode cX4_begin 26 = .ok (.getfield 137, 3) := dk_180 0 137 (dk_at dksX4_begin_1 2 rfl rfl)
theorem dX4_begin_29 : decode cX4_begin 29 = .ok (.iconst 1, 1) := dk_4 (dk_at dksX4_begin_1 5 rfl rfl)
theorem dX4_begin_30 : decode cX4_begin 30 = .ok (.iadd, 1) := dk_96 (dk_at dksX4_begin_1 6 rfl rfl)
theorem dX4_begin_31 : decode cX4_begin 31 = .ok (.putfield 137, 3) := dk_181 0 137 (dk_at dksX4_begin_1 7 rfl rfl)
theorem dX4_begin_34 : decode cX4_begin 34 = .ok (.aload_n 0, 1) := dk_42 (dk_at dksX4_begin_1 10 rfl rfl)
theorem dX4_begin_35 : decode cX4_begin 35 = .ok (.getfield 15, 3) := dk_180 0 15 (dk_at dksX4_begin_1 11 rfl rfl)
theorem dX4_begin_38 : decode cX4_begin 38 = .ok (.astore_n 1, 1) := dk_76 (dk_at dksX4_begin_1 14 rfl rfl)
theorem dX4_begin_39 : decode cX4_begin 39 = .ok (.aload_n 1, 1) := dk_43 (dk_at dksX4_begin_1 15 rfl rfl)
theorem dX4_begin_40 : decode cX4_begin 40 = .ok (.arraylength, 1) := dk_190 (dk_at dksX4_begin_1 16 rfl rfl)
theorem dX4_begin_41 : decode cX4_begin 41 = .ok (.istore_n 2, 1) := dk_61 (dk_at dksX4_begin_1 17 rfl rfl)
theorem dX4_begin_42 : decode cX4_begin 42 = .ok (.iconst 0, 1) := dk_3 (dk_at dksX4_begin_1 18 rfl rfl)
theorem dX4_begin_43 : decode cX4_begin 43 = .ok (.istore_n 3, 1) := dk_62 (dk_at dksX4_begin_1 19 rfl rfl)
theorem dX4_begin_44 : decode cX4_begin 44 = .ok (.iload_n 3, 1) := dk_29 (dk_at dksX4_begin_1 20 rfl rfl)
theorem dX4_begin_45 : decode cX4_begin 45 = .ok (.iload_n 2, 1) := dk_28 (dk_at dksX4_begin_1 21 rfl rfl)
theorem dX4_begin_46 : decode cX4_begin 46 = .ok (.if_icmp .ge 20, 3) := dk_162 0 20 (dk_at dksX4_begin_2 0 rfl rfl)
theorem dX4_begin_49 : decode cX4_begin 49 = .ok (.aload_n 1, 1) := dk_43 (dk_at dksX4_begin_2 3 rfl rfl)
theorem dX4_begin_50 : decode cX4_begin 50 = .ok (.iload_n 3, 1) := dk_29 (dk_at dksX4_begin_2 4 rfl rfl)
theorem dX4_begin_51 : decode cX4_begin 51 = .ok (.aaload, 1) := dk_50 (dk_at dksX4_begin_2 5 rfl rfl)
theorem dX4_begin_52 : decode cX4_begin 52 = .ok (.astore 4, 2) := dk_58 4 (dk_at dksX4_begin_2 6 rfl rfl)
theorem dX4_begin_54 : decode cX4_begin 54 = .ok (.aload 4, 2) := dk_25 4 (dk_at dksX4_begin_2 8 rfl rfl)
theorem dX4_begin_56 : decode cX4_begin 56 = .ok (.iconst 0, 1) := dk_3 (dk_at dksX4_begin_2 10 rfl rfl)
theorem dX4_begin_57 : decode cX4_begin 57 = .ok (.putfield 202, 3) := dk_181 0 202 (dk_at dksX4_begin_2 11 rfl rfl)
theorem dX4_begin_60 : decode cX4_begin 60 = .ok (.iinc 3 1, 3) := dk_132 3 1 (dk_at dksX4_begin_2 14 rfl rfl)
theorem dX4_begin_63 : decode cX4_begin 63 = .ok (.goto (-19), 3) := dk_167 255 237 (dk_at dksX4_begin_2 17 rfl rfl)
theorem dX4_begin_66 : decode cX4_begin 66 = .ok (.aload_n 0, 1) := dk_42 (dk_at dksX4_begin_2 20 rfl rfl)
theorem dX4_begin_67 : decode cX4_begin 67 = .ok (.getfield 26, 3) := dk_180 0 26 (dk_at dksX4_begin_2 21 rfl rfl)
theorem dX4_begin_70 : decode cX4_begin 70 = .ok (.invokevirtual 264, 3) := dk_182 1 8 (dk_at dksX4_begin_3 0 rfl rfl)
theorem dX4_begin_73 : decode cX4_begin 73 = .ok (.astore_n 1, 1) := dk_76 (dk_at dksX4_begin_3 3 rfl rfl)
theorem dX4_begin_74 : decode cX4_begin 74 = .ok (.aload_n 1, 1) := dk_43 (dk_at dksX4_begin_3 4 rfl rfl)
theorem dX4_begin_75 : decode cX4_begin 75 = .ok (.invokeinterface 268 1, 5) := by decide +kernel
theorem dX4_begin_80 : decode cX4_begin 80 = .ok (.ifCond .eq 40, 3) := dk_153 0 40 (dk_at dksX4_begin_3 10 rfl rfl)
theorem dX4_begin_83 : decode cX4_begin 83 = .ok (.aload_n 1, 1) := dk_43 (dk_at dksX4_begin_3 13 rfl rfl)
theorem dX4_begin_84 : decode cX4_begin 84 = .ok (.invokeinterface 273 1, 5) := by decide +kernel
theorem dX4_begin_89 : decode cX4_begin 89 = .ok (.checkcast 100, 3) := dk_192 0 100 (dk_at dksX4_begin_3 19 rfl rfl)
theorem dX4_begin_92 : decode cX4_begin 92 = .ok (.astore_n 2, 1) := dk_77 (dk_at dksX4_begin_3 22 rfl rfl)
theorem dX4_begin_93 : decode cX4_begin 93 = .ok (.aload_n 2, 1) := dk_44 (dk_at dksX4_begin_3 23 rfl rfl)
theorem dX4_begin_94 : decode cX4_begin 94 = .ok (.getfield 146, 3) := dk_180 0 146 (dk_at dksX4_begin_4 0 rfl rfl)
theorem dX4_begin_97 : decode cX4_begin 97 = .ok (.iconst (-1), 1) := dk_2 (dk_at dksX4_begin_4 3 rfl rfl)
theorem dX4_begin_98 : decode cX4_begin 98 = .ok (.if_icmp .eq 19, 3) := dk_159 0 19 (dk_at dksX4_begin_4 4 rfl rfl)
theorem dX4_begin_101 : decode cX4_begin 101 = .ok (.aload_n 2, 1) := dk_44 (dk_at dksX4_begin_4 7 rfl rfl)
theorem dX4_begin_102 : decode cX4_begin 102 = .ok (.getfield 143, 3) := dk_180 0 143 (dk_at dksX4_begin_4 8 rfl rfl)
theorem dX4_begin_105 : decode cX4_begin 105 = .ok (.aload_n 0, 1) := dk_42 (dk_at dksX4_begin_4 11 rfl rfl)
theorem dX4_begin_106 : decode cX4_begin 106 = .ok (.getfield 137, 3) := dk_180 0 137 (dk_at dksX4_begin_4 12 rfl rfl)
theorem dX4_begin_109 : decode cX4_begin 109 = .ok (.if_icmp .ge 8, 3) := dk_162 0 8 (dk_at dksX4_begin_4 15 rfl rfl)
theorem dX4_begin_112 : decode cX4_begin 112 = .ok (.aload_n 2, 1) := dk_44 (dk_at dksX4_begin_4 18 rfl rfl)
theorem dX4_begin_113 : decode cX4_begin 113 = .ok (.iconst (-1), 1) := dk_2 (dk_at dksX4_begin_4 19 rfl rfl)
theorem dX4_begin_114 : decode cX4_begin 114 = .ok (.putfield 146, 3) := dk_181 0 146 (dk_at dksX4_begin_4 20 rfl rfl)
theorem dX4_begin_117 : decode cX4_begin 117 = .ok (.goto (-43), 3) := dk_167 255 213 (dk_at dksX4_begin_5 0 rfl rfl)
theorem dX4_begin_120 : decode cX4_begin 120 = .ok (.iconst 0, 1) := dk_3 (dk_at dksX4_begin_5 3 rfl rfl)
theorem dX4_begin_121 : decode cX4_begin 121 = .ok (.istore_n 1, 1) := dk_60 (dk_at dksX4_begin_5 4 rfl rfl)
theorem dX4_begin_122 : decode cX4_begin 122 = .ok (.iload_n 1, 1) := dk_27 (dk_at dksX4_begin_5 5 rfl rfl)
theorem dX4_begin_123 : decode cX4_begin 123 = .ok (.aload_n 0, 1) := dk_42 (dk_at dksX4_begin_5 6 rfl rfl)
theorem dX4_begin_124 : decode cX4_begin 124 = .ok (.getfield 35, 3) := dk_180 0 35 (dk_at dksX4_begin_5 7 rfl rfl)
theorem dX4_begin_127 : decode cX4_begin 127 = .ok (.arraylength, 1) := dk_190 (dk_at dksX4_begin_5 10 rfl rfl)
theorem dX4_begin_128 : decode cX4_begin 128 = .ok (.if_icmp .ge 16, 3) := dk_162 0 16 (dk_at dksX4_begin_5 11 rfl rfl)
theorem dX4_begin_131 : decode cX4_begin 131 = .ok (.aload_n 0, 1) := dk_42 (dk_at dksX4_begin_5 14 rfl rfl)
theorem dX4_begin_132 : decode cX4_begin 132 = .ok (.getfield 35, 3) := dk_180 0 35 (dk_at dksX4_begin_5 15 rfl rfl)
theorem dX4_begin_135 : decode cX4_begin 135 = .ok (.iload_n 1, 1) := dk_27 (dk_at dksX4_begin_5 18 rfl rfl)
theorem dX4_begin_136 : decode cX4_begin 136 = .ok (.iconst 0, 1) := dk_3 (dk_at dksX4_begin_5 19 rfl rfl)
theorem dX4_begin_137 : decode cX4_begin 137 = .ok (.bastore, 1) := dk_84 (dk_at dksX4_begin_5 20 rfl rfl)
theorem dX4_begin_138 : decode cX4_begin 138 = .ok (.iinc 1 1, 3) := dk_132 1 1 (dk_at dksX4_begin_5 21 rfl rfl)
theorem dX4_begin_141 : decode cX4_begin 141 = .ok (.goto (-19), 3) := dk_167 255 237 (dk_at dksX4_begin_6 0 rfl rfl)
theorem dX4_begin_144 : decode cX4_begin 144 = .ok (.iconst 0, 1) := dk_3 (dk_at dksX4_begin_6 3 rfl rfl)
theorem dX4_begin_145 : decode cX4_begin 145 = .ok (.istore_n 1, 1) := dk_60 (dk_at dksX4_begin_6 4 rfl rfl)
theorem dX4_begin_146 : decode cX4_begin 146 = .ok (.iload_n 1, 1) := dk_27 (dk_at dksX4_begin_6 5 rfl rfl)
theorem dX4_begin_147 : decode cX4_begin 147 = .ok (.aload_n 0, 1) := dk_42 (dk_at dksX4_begin_6 6 rfl rfl)
theorem dX4_begin_148 : decode cX4_begin 148 = .ok (.getfield 22, 3) := dk_180 0 22 (dk_at dksX4_begin_6 7 rfl rfl)
theorem dX4_begin_151 : decode cX4_begin 151 = .ok (.invokevirtual 47, 3) := dk_182 0 47 (dk_at dksX4_begin_6 10 rfl rfl)
theorem dX4_begin_154 : decode cX4_begin 154 = .ok (.if_icmp .ge 120, 3) := dk_162 0 120 (dk_at dksX4_begin_6 13 rfl rfl)
theorem dX4_begin_157 : decode cX4_begin 157 = .ok (.iconst 0, 1) := dk_3 (dk_at dksX4_begin_6 16 rfl rfl)
theorem dX4_begin_158 : decode cX4_begin 158 = .ok (.istore_n 2, 1) := dk_61 (dk_at dksX4_begin_6 17 rfl rfl)
theorem dX4_begin_159 : decode cX4_begin 159 = .ok (.iload_n 2, 1) := dk_28 (dk_at dksX4_begin_6 18 rfl rfl)
theorem dX4_begin_160 : decode cX4_begin 160 = .ok (.aload_n 0, 1) := dk_42 (dk_at dksX4_begin_6 19 rfl rfl)
theorem dX4_begin_161 : decode cX4_begin 161 = .ok (.getfield 22, 3) := dk_180 0 22 (dk_at dksX4_begin_6 20 rfl rfl)
theorem dX4_begin_164 : decode cX4_begin 164 = .ok (.invokevirtual 47, 3) := dk_182 0 47 (dk_at dksX4_begin_7 0 rfl rfl)
theorem dX4_begin_167 : decode cX4_begin 167 = .ok (.if_icmp .ge 101, 3) := dk_162 0 101 (dk_at dksX4_begin_7 3 rfl rfl)
theorem dX4_begin_170 : decode cX4_begin 170 = .ok (.aload_n 0, 1) := dk_42 (dk_at dksX4_begin_7 6 rfl rfl)
theorem dX4_begin_171 : decode cX4_begin 171 = .ok (.getfield 22, 3) := dk_180 0 22 (dk_at dksX4_begin_7 7 rfl rfl)
theorem dX4_begin_174 : decode cX4_begin 174 = .ok (.iload_n 1, 1) := dk_27 (dk_at dksX4_begin_7 10 rfl rfl)
theorem dX4_begin_175 : decode cX4_begin 175 = .ok (.invokevirtual 90, 3) := dk_182 0 90 (dk_at dksX4_begin_7 11 rfl rfl)
theorem dX4_begin_178 : decode cX4_begin 178 = .ok (.checkcast 68, 3) := dk_192 0 68 (dk_at dksX4_begin_7 14 rfl rfl)
theorem dX4_begin_181 : decode cX4_begin 181 = .ok (.astore_n 3, 1) := dk_78 (dk_at dksX4_begin_7 17 rfl rfl)
theorem dX4_begin_182 : decode cX4_begin 182 = .ok (.aload_n 0, 1) := dk_42 (dk_at dksX4_begin_7 18 rfl rfl)
theorem dX4_begin_183 : decode cX4_begin 183 = .ok (.getfield 22, 3) := dk_180 0 22 (dk_at dksX4_begin_7 19 rfl rfl)
theorem dX4_begin_186 : decode cX4_begin 186 = .ok (.iload_n 2, 1) := dk_28 (dk_at dksX4_begin_7 22 rfl rfl)
theorem dX4_begin_187 : decode cX4_begin 187 = .ok (.invokevirtual 90, 3) := dk_182 0 90 (dk_at dksX4_begin_8 0 rfl rfl)
theorem dX4_begin_190 : decode cX4_begin 190 = .ok (.checkcast 68, 3) := dk_192 0 68 (dk_at dksX4_begin_8 3 rfl rfl)
theorem dX4_begin_193 : decode cX4_begin 193 = .ok (.astore 4, 2) := dk_58 4 (dk_at dksX4_begin_8 6 rfl rfl)
theorem dX4_begin_195 : decode cX4_begin 195 = .ok (.aload_n 3, 1) := dk_45 (dk_at dksX4_begin_8 8 rfl rfl)
theorem dX4_begin_196 : decode cX4_begin 196 = .ok (.aload 4, 2) := dk_25 4 (dk_at dksX4_begin_8 9 rfl rfl)
theorem dX4_begin_198 : decode cX4_begin 198 = .ok (.getfield 71, 3) := dk_180 0 71 (dk_at dksX4_begin_8 11 rfl rfl)
theorem dX4_begin_201 : decode cX4_begin 201 = .ok (.invokevirtual 159, 3) := dk_182 0 159 (dk_at dksX4_begin_8 14 rfl rfl)
theorem dX4_begin_204 : decode cX4_begin 204 = .ok (.ifCond .ne 18, 3) := dk_154 0 18 (dk_at dksX4_begin_8 17 rfl rfl)
theorem dX4_begin_207 : decode cX4_begin 207 = .ok (.aload_n 3, 1) := dk_45 (dk_at dksX4_begin_8 20 rfl rfl)
theorem dX4_begin_208 : decode cX4_begin 208 = .ok (.aload 4, 2) := dk_25 4 (dk_at dksX4_begin_8 21 rfl rfl)
theorem dX4_begin_210 : decode cX4_begin 210 = .ok (.getfield 74, 3) := dk_180 0 74 (dk_at dksX4_begin_9 0 rfl rfl)
theorem dX4_begin_213 : decode cX4_begin 213 = .ok (.invokevirtual 159, 3) := dk_182 0 159 (dk_at dksX4_begin_9 3 rfl rfl)
theorem dX4_begin_216 : decode cX4_begin 216 = .ok (.ifCond .ne 6, 3) := dk_154 0 6 (dk_at dksX4_begin_9 6 rfl rfl)
theorem dX4_begin_219 : decode cX4_begin 219 = .ok (.goto 43, 3) := dk_167 0 43 (dk_at dksX4_begin_9 9 rfl rfl)
theorem dX4_begin_222 : decode cX4_begin 222 = .ok (.iconst 0, 1) := dk_3 (dk_at dksX4_begin_9 12 rfl rfl)
theorem dX4_begin_223 : decode cX4_begin 223 = .ok (.istore 5, 2) := dk_54 5 (dk_at dksX4_begin_9 13 rfl rfl)
theorem dX4_begin_225 : decode cX4_begin 225 = .ok (.iload 5, 2) := dk_21 5 (dk_at dksX4_begin_9 15 rfl rfl)
theorem dX4_begin_227 : decode cX4_begin 227 = .ok (.bipush 97, 2) := dk_16 97 (dk_at dksX4_begin_9 17 rfl rfl)
theorem dX4_begin_229 : decode cX4_begin 229 = .ok (.if_icmp .ge 33, 3) := dk_162 0 33 (dk_at dksX4_begin_9 19 rfl rfl)
theorem dX4_begin_232 : decode cX4_begin 232 = .ok (.aload 4, 2) := dk_25 4 (dk_at dksX4_begin_9 22 rfl rfl)
theorem dX4_begin_234 : decode cX4_begin 234 = .ok (.getfield 153, 3) := dk_180 0 153 (dk_at dksX4_begin_10 0 rfl rfl)
theorem dX4_begin_237 : decode cX4_begin 237 = .ok (.iload 5, 2) := dk_21 5 (dk_at dksX4_begin_10 3 rfl rfl)
theorem dX4_begin_239 : decode cX4_begin 239 = .ok (.baload, 1) := dk_51 (dk_at dksX4_begin_10 5 rfl rfl)
theorem dX4_begin_240 : decode cX4_begin 240 = .ok (.ifCond .eq 16, 3) := dk_153 0 16 (dk_at dksX4_begin_10 6 rfl rfl)
theorem dX4_begin_243 : decode cX4_begin 243 = .ok (.aload_n 0, 1) := dk_42 (dk_at dksX4_begin_10 9 rfl rfl)
theorem dX4_begin_244 : decode cX4_begin 244 = .ok (.getfield 35, 3) := dk_180 0 35 (dk_at dksX4_begin_10 10 rfl rfl)
theorem dX4_begin_247 : decode cX4_begin 247 = .ok (.iload_n 1, 1) := dk_27 (dk_at dksX4_begin_10 13 rfl rfl)
theorem dX4_begin_248 : decode cX4_begin 248 = .ok (.bipush 97, 2) := dk_16 97 (dk_at dksX4_begin_10 14 rfl rfl)
theorem dX4_begin_250 : decode cX4_begin 250 = .ok (.imul, 1) := dk_104 (dk_at dksX4_begin_10 16 rfl rfl)
theorem dX4_begin_251 : decode cX4_begin 251 = .ok (.iload 5, 2) := dk_21 5 (dk_at dksX4_begin_10 17 rfl rfl)
theorem dX4_begin_253 : decode cX4_begin 253 = .ok (.iadd, 1) := dk_96 (dk_at dksX4_begin_10 19 rfl rfl)
theorem dX4_begin_254 : decode cX4_begin 254 = .ok (.iconst 1, 1) := dk_4 (dk_at dksX4_begin_10 20 rfl rfl)
theorem dX4_begin_255 : decode cX4_begin 255 = .ok (.bastore, 1) := dk_84 (dk_at dksX4_begin_10 21 rfl rfl)
theorem dX4_begin_256 : decode cX4_begin 256 = .ok (.iinc 5 1, 3) := dk_132 5 1 (dk_at dksX4_begin_11 0 rfl rfl)
theorem dX4_begin_259 : decode cX4_begin 259 = .ok (.goto (-34), 3) := dk_167 255 222 (dk_at dksX4_begin_11 3 rfl rfl)
theorem dX4_begin_262 : decode cX4_begin 262 = .ok (.iinc 2 1, 3) := dk_132 2 1 (dk_at dksX4_begin_11 6 rfl rfl)
theorem dX4_begin_265 : decode cX4_begin 265 = .ok (.goto (-106), 3) := dk_167 255 150 (dk_at dksX4_begin_11 9 rfl rfl)
theorem dX4_begin_268 : decode cX4_begin 268 = .ok (.iinc 1 1, 3) := dk_132 1 1 (dk_at dksX4_begin_11 12 rfl rfl)
theorem dX4_begin_271 : decode cX4_begin 271 = .ok (.goto (-125), 3) := dk_167 255 131 (dk_at dksX4_begin_11 15 rfl rfl)
theorem dX4_begin_274 : decode cX4_begin 274 = .ok (.iconst 0, 1) := dk_3 (dk_at dksX4_begin_11 18 rfl rfl)
theorem dX4_begin_275 : decode cX4_begin 275 = .ok (.istore_n 1, 1) := dk_60 (dk_at dksX4_begin_11 19 rfl rfl)
theorem dX4_begin_276 : decode cX4_begin 276 = .ok (.iload_n 1, 1) := dk_27 (dk_at dksX4_begin_11 20 rfl rfl)
theorem dX4_begin_277 : decode cX4_begin 277 = .ok (.aload_n 0, 1) := dk_42 (dk_at dksX4_begin_11 21 rfl rfl)
theorem dX4_begin_278 : decode cX4_begin 278 = .ok (.getfield 22, 3) := dk_180 0 22 (dk_at dksX4_begin_12 0 rfl rfl)
theorem dX4_begin_281 : decode cX4_begin 281 = .ok (.invokevirtual 47, 3) := dk_182 0 47 (dk_at dksX4_begin_12 3 rfl rfl)
theorem dX4_begin_284 : decode cX4_begin 284 = .ok (.if_icmp .ge 81, 3) := dk_162 0 81 (dk_at dksX4_begin_12 6 rfl rfl)
theorem dX4_begin_287 : decode cX4_begin 287 = .ok (.aload_n 0, 1) := dk_42 (dk_at dksX4_begin_12 9 rfl rfl)
theorem dX4_begin_288 : decode cX4_begin 288 = .ok (.getfield 22, 3) := dk_180 0 22 (dk_at dksX4_begin_12 10 rfl rfl)
theorem dX4_begin_291 : decode cX4_begin 291 = .ok (.iload_n 1, 1) := dk_27 (dk_at dksX4_begin_12 13 rfl rfl)
theorem dX4_begin_292 : decode cX4_begin 292 = .ok (.invokevirtual 90, 3) := dk_182 0 90 (dk_at dksX4_begin_12 14 rfl rfl)
theorem dX4_begin_295 : decode cX4_begin 295 = .ok (.checkcast 68, 3) := dk_192 0 68 (dk_at dksX4_begin_12 17 rfl rfl)
theorem dX4_begin_298 : decode cX4_begin 298 = .ok (.astore_n 2, 1) := dk_77 (dk_at dksX4_begin_12 20 rfl rfl)
theorem dX4_begin_299 : decode cX4_begin 299 = .ok (.iconst 0, 1) := dk_3 (dk_at dksX4_begin_12 21 rfl rfl)
theorem dX4_begin_300 : decode cX4_begin 300 = .ok (.istore_n 3, 1) := dk_62 (dk_at dksX4_begin_12 22 rfl rfl)
theorem dX4_begin_301 : decode cX4_begin 301 = .ok (.iload_n 3, 1) := dk_29 (dk_at dksX4_begin_12 23 rfl rfl)
theorem dX4_begin_302 : decode cX4_begin 302 = .ok (.bipush 97, 2) := dk_16 97 (dk_at dksX4_begin_13 0 rfl rfl)
theorem dX4_begin_304 : decode cX4_begin 304 = .ok (.if_icmp .ge 30, 3) := dk_162 0 30 (dk_at dksX4_begin_13 2 rfl rfl)
theorem dX4_begin_307 : decode cX4_begin 307 = .ok (.aload_n 0, 1) := dk_42 (dk_at dksX4_begin_13 5 rfl rfl)
theorem dX4_begin_308 : decode cX4_begin 308 = .ok (.getfield 35, 3) := dk_180 0 35 (dk_at dksX4_begin_13 6 rfl rfl)
theorem dX4_begin_311 : decode cX4_begin 311 = .ok (.iload_n 1, 1) := dk_27 (dk_at dksX4_begin_13 9 rfl rfl)
theorem dX4_begin_312 : decode cX4_begin 312 = .ok (.bipush 97, 2) := dk_16 97 (dk_at dksX4_begin_13 10 rfl rfl)
theorem dX4_begin_314 : decode cX4_begin 314 = .ok (.imul, 1) := dk_104 (dk_at dksX4_begin_13 12 rfl rfl)
theorem dX4_begin_315 : decode cX4_begin 315 = .ok (.iload_n 3, 1) := dk_29 (dk_at dksX4_begin_13 13 rfl rfl)
theorem dX4_begin_316 : decode cX4_begin 316 = .ok (.iadd, 1) := dk_96 (dk_at dksX4_begin_13 14 rfl rfl)
theorem dX4_begin_317 : decode cX4_begin 317 = .ok (.baload, 1) := dk_51 (dk_at dksX4_begin_13 15 rfl rfl)
theorem dX4_begin_318 : decode cX4_begin 318 = .ok (.ifCond .eq 10, 3) := dk_153 0 10 (dk_at dksX4_begin_13 16 rfl rfl)
theorem dX4_begin_321 : decode cX4_begin 321 = .ok (.aload_n 2, 1) := dk_44 (dk_at dksX4_begin_13 19 rfl rfl)
theorem dX4_begin_322 : decode cX4_begin 322 = .ok (.getfield 153, 3) := dk_180 0 153 (dk_at dksX4_begin_13 20 rfl rfl)
theorem dX4_begin_325 : decode cX4_begin 325 = .ok (.iload_n 3, 1) := dk_29 (dk_at dksX4_begin_13 23 rfl rfl)
theorem dX4_begin_326 : decode cX4_begin 326 = .ok (.iconst 1, 1) := dk_4 (dk_at dksX4_begin_14 0 rfl rfl)
theorem dX4_begin_327 : decode cX4_begin 327 = .ok (.bastore, 1) := dk_84 (dk_at dksX4_begin_14 1 rfl rfl)
theorem dX4_begin_328 : decode cX4_begin 328 = .ok (.iinc 3 1, 3) := dk_132 3 1 (dk_at dksX4_begin_14 2 rfl rfl)
theorem dX4_begin_331 : decode cX4_begin 331 = .ok (.goto (-30), 3) := dk_167 255 226 (dk_at dksX4_begin_14 5 rfl rfl)
theorem dX4_begin_334 : decode cX4_begin 334 = .ok (.aload_n 2, 1) := dk_44 (dk_at dksX4_begin_14 8 rfl rfl)
theorem dX4_begin_335 : decode cX4_begin 335 = .ok (.aload_n 2, 1) := dk_44 (dk_at dksX4_begin_14 9 rfl rfl)
theorem dX4_begin_336 : decode cX4_begin 336 = .ok (.aload_n 0, 1) := dk_42 (dk_at dksX4_begin_14 10 rfl rfl)
theorem dX4_begin_337 : decode cX4_begin 337 = .ok (.getfield 241, 3) := dk_180 0 241 (dk_at dksX4_begin_14 11 rfl rfl)
theorem dX4_begin_340 : decode cX4_begin 340 = .ok (.invokevirtual 244, 3) := dk_182 0 244 (dk_at dksX4_begin_14 14 rfl rfl)
theorem dX4_begin_343 : decode cX4_begin 343 = .ok (.ifCond .eq 12, 3) := dk_153 0 12 (dk_at dksX4_begin_14 17 rfl rfl)
theorem dX4_begin_346 : decode cX4_begin 346 = .ok (.aload_n 2, 1) := dk_44 (dk_at dksX4_begin_14 20 rfl rfl)
theorem dX4_begin_347 : decode cX4_begin 347 = .ok (.getfield 97, 3) := dk_180 0 97 (dk_at dksX4_begin_14 21 rfl rfl)
theorem dX4_begin_350 : decode cX4_begin 350 = .ok (.iconst 1, 1) := dk_4 (dk_at dksX4_begin_15 0 rfl rfl)
theorem dX4_begin_351 : decode cX4_begin 351 = .ok (.iadd, 1) := dk_96 (dk_at dksX4_begin_15 1 rfl rfl)
theorem dX4_begin_352 : decode cX4_begin 352 = .ok (.goto 4, 3) := dk_167 0 4 (dk_at dksX4_begin_15 2 rfl rfl)
theorem dX4_begin_355 : decode cX4_begin 355 = .ok (.iconst 0, 1) := dk_3 (dk_at dksX4_begin_15 5 rfl rfl)
theorem dX4_begin_356 : decode cX4_begin 356 = .ok (.putfield 97, 3) := dk_181 0 97 (dk_at dksX4_begin_15 6 rfl rfl)
theorem dX4_begin_359 : decode cX4_begin 359 = .ok (.iinc 1 1, 3) := dk_132 1 1 (dk_at dksX4_begin_15 9 rfl rfl)
theorem dX4_begin_362 : decode cX4_begin 362 = .ok (.goto (-86), 3) := dk_167 255 170 (dk_at dksX4_begin_15 12 rfl rfl)
theorem dX4_begin_365 : decode cX4_begin 365 = .ok (.return_, 1) := dk_177 (dk_at dksX4_begin_15 15 rfl rfl)
abbrev cX4_ofLand : ByteArray := prog_14_method_36_code
def yX4_ofLand : MethodName := ⟨RX4, "ofLand", "(II)I"⟩
def dkwX4_ofLand_1 : List UInt8 := [184, 0, 43, 153, 0, 12, 42, 27, 28, 182, 1, 27, 167, 0, 8, 42, 5, 182, 0, 55, 172]
abbrev dktX4_ofLand_1 : List UInt8 := dkwX4_ofLand_1 ++ []
def dkwX4_ofLand_0 : List UInt8 := [42, 3, 181, 0, 40, 42, 27, 182, 0, 51, 154, 0, 9, 42, 4, 182, 0, 55, 172, 28, 3, 16, 8]
abbrev dktX4_ofLand_0 : List UInt8 := dkwX4_ofLand_0 ++ dktX4_ofLand_1
theorem dksX4_ofLand_0 : cX4_ofLand.data.toList.drop 0 = dktX4_ofLand_0 := by decide +kernel
theorem dksX4_ofLand_1 : cX4_ofLand.data.toList.drop 23 = dktX4_ofLand_1 := dk_seg dksX4_ofLand_0 23 rfl rfl
theorem dX4_ofLand_0 : decode cX4_ofLand 0 = .ok (.aload_n 0, 1) := dk_42 (dk_at dksX4_ofLand_0 0 rfl rfl)
theorem dX4_ofLand_1 : decode cX4_ofLand 1 = .ok (.iconst 0, 1) := dk_3 (dk_at dksX4_ofLand_0 1 rfl rfl)
theorem dX4_ofLand_2 : decode cX4_ofLand 2 = .ok (.putfield 40, 3) := dk_181 0 40 (dk_at dksX4_ofLand_0 2 rfl rfl)
theorem dX4_ofLand_5 : decode cX4_ofLand 5 = .ok (.aload_n 0, 1) := dk_42 (dk_at dksX4_ofLand_0 5 rfl rfl)
theorem dX4_ofLand_6 : decode cX4_ofLand 6 = .ok (.iload_n 1, 1) := dk_27 (dk_at dksX4_ofLand_0 6 rfl rfl)
theorem dX4_ofLand_7 : decode cX4_ofLand 7 = .ok (.invokevirtual 51, 3) := dk_182 0 51 (dk_at dksX4_ofLand_0 7 rfl rfl)
theorem dX4_ofLand_10 : decode cX4_ofLand 10 = .ok (.ifCond .ne 9, 3) := dk_154 0 9 (dk_at dksX4_ofLand_0 10 rfl rfl)
theorem dX4_ofLand_13 : decode cX4_ofLand 13 = .ok (.aload_n 0, 1) := dk_42 (dk_at dksX4_ofLand_0 13 rfl rfl)
theorem dX4_ofLand_14 : decode cX4_ofLand 14 = .ok (.iconst 1, 1) := dk_4 (dk_at dksX4_ofLand_0 14 rfl rfl)
theorem dX4_ofLand_15 : decode cX4_ofLand 15 = .ok (.invokevirtual 55, 3) := dk_182 0 55 (dk_at dksX4_ofLand_0 15 rfl rfl)
theorem dX4_ofLand_18 : decode cX4_ofLand 18 = .ok (.ireturn, 1) := dk_172 (dk_at dksX4_ofLand_0 18 rfl rfl)
theorem dX4_ofLand_19 : decode cX4_ofLand 19 = .ok (.iload_n 2, 1) := dk_28 (dk_at dksX4_ofLand_0 19 rfl rfl)
theorem dX4_ofLand_20 : decode cX4_ofLand 20 = .ok (.iconst 0, 1) := dk_3 (dk_at dksX4_ofLand_0 20 rfl rfl)
theorem dX4_ofLand_21 : decode cX4_ofLand 21 = .ok (.bipush 8, 2) := dk_16 8 (dk_at dksX4_ofLand_0 21 rfl rfl)
theorem dX4_ofLand_23 : decode cX4_ofLand 23 = .ok (.invokestatic 43, 3) := dk_184 0 43 (dk_at dksX4_ofLand_1 0 rfl rfl)
theorem dX4_ofLand_26 : decode cX4_ofLand 26 = .ok (.ifCond .eq 12, 3) := dk_153 0 12 (dk_at dksX4_ofLand_1 3 rfl rfl)
theorem dX4_ofLand_29 : decode cX4_ofLand 29 = .ok (.aload_n 0, 1) := dk_42 (dk_at dksX4_ofLand_1 6 rfl rfl)
theorem dX4_ofLand_30 : decode cX4_ofLand 30 = .ok (.iload_n 1, 1) := dk_27 (dk_at dksX4_ofLand_1 7 rfl rfl)
theorem dX4_ofLand_31 : decode cX4_ofLand 31 = .ok (.iload_n 2, 1) := dk_28 (dk_at dksX4_ofLand_1 8 rfl rfl)
theorem dX4_ofLand_32 : decode cX4_ofLand 32 = .ok (.invokevirtual 283, 3) := dk_182 1 27 (dk_at dksX4_ofLand_1 9 rfl rfl)
theorem dX4_ofLand_35 : decode cX4_ofLand 35 = .ok (.goto 8, 3) := dk_167 0 8 (dk_at dksX4_ofLand_1 12 rfl rfl)
theorem dX4_ofLand_38 : decode cX4_ofLand 38 = .ok (.aload_n 0, 1) := dk_42 (dk_at dksX4_ofLand_1 15 rfl rfl)
theorem dX4_ofLand_39 : decode cX4_ofLand 39 = .ok (.iconst 2, 1) := dk_5 (dk_at dksX4_ofLand_1 16 rfl rfl)
theorem dX4_ofLand_40 : decode cX4_ofLand 40 = .ok (.invokevirtual 55, 3) := dk_182 0 55 (dk_at dksX4_ofLand_1 17 rfl rfl)
theorem dX4_ofLand_43 : decode cX4_ofLand 43 = .ok (.ireturn, 1) := dk_172 (dk_at dksX4_ofLand_1 20 rfl rfl)
abbrev cX4_ofLandNow : ByteArray := prog_14_method_35_code
def yX4_ofLandNow : MethodName := ⟨RX4, "ofLandNow", "(II)I"⟩
def dkwX4_ofLandNow_9 : List UInt8 := [182, 1, 24, 172]
abbrev dktX4_ofLandNow_9 : List UInt8 := dkwX4_ofLandNow_9 ++ []
def dkwX4_ofLandNow_8 : List UInt8 := [159, 0, 7, 4, 167, 0, 4, 3, 96, 54, 4, 132, 5, 1, 167, 255, 193, 21, 4, 172, 42, 27]
abbrev dktX4_ofLandNow_8 : List UInt8 := dkwX4_ofLandNow_8 ++ dktX4_ofLandNow_9
def dkwX4_ofLandNow_7 : List UInt8 := [180, 0, 103, 27, 160, 0, 26, 42, 180, 0, 26, 21, 5, 182, 0, 90, 192, 0, 100, 180, 0, 116, 5]
abbrev dktX4_ofLandNow_7 : List UInt8 := dkwX4_ofLandNow_7 ++ dktX4_ofLandNow_8
def dkwX4_ofLandNow_6 : List UInt8 := [180, 0, 26, 182, 0, 47, 162, 0, 57, 21, 4, 42, 180, 0, 26, 21, 5, 182, 0, 90, 192, 0, 100]
abbrev dktX4_ofLandNow_6 : List UInt8 := dkwX4_ofLandNow_6 ++ dktX4_ofLandNow_7
def dkwX4_ofLandNow_5 : List UInt8 := [167, 0, 4, 3, 96, 54, 4, 132, 5, 1, 167, 255, 209, 21, 4, 172, 3, 54, 5, 21, 5, 42]
abbrev dktX4_ofLandNow_5 : List UInt8 := dkwX4_ofLandNow_5 ++ dktX4_ofLandNow_6
def dkwX4_ofLandNow_4 : List UInt8 := [180, 0, 29, 21, 5, 182, 0, 90, 192, 0, 119, 180, 0, 131, 16, 100, 27, 96, 160, 0, 7, 4]
abbrev dktX4_ofLandNow_4 : List UInt8 := dkwX4_ofLandNow_4 ++ dktX4_ofLandNow_5
def dkwX4_ofLandNow_3 : List UInt8 := [172, 45, 180, 0, 227, 172, 3, 54, 5, 21, 5, 42, 180, 0, 29, 182, 0, 47, 162, 0, 41, 21, 4, 42]
abbrev dktX4_ofLandNow_3 : List UInt8 := dkwX4_ofLandNow_3 ++ dktX4_ofLandNow_4
def dkwX4_ofLandNow_2 : List UInt8 := [45, 180, 0, 59, 172, 45, 180, 0, 62, 172, 45, 180, 0, 65, 172, 45, 180, 0, 202, 172, 45, 180, 0, 234]
abbrev dktX4_ofLandNow_2 : List UInt8 := dkwX4_ofLandNow_2 ++ dktX4_ofLandNow_3
def dkwX4_ofLandNow_1 : List UInt8 := [170, 0, 0, 0, 203, 0, 0, 0, 0, 0, 0, 0, 7, 0, 0, 0, 45, 0, 0, 0, 50, 0, 0, 0, 55, 0, 0, 0, 60, 0, 0, 0, 65, 0, 0, 0, 70, 0, 0, 0, 75, 0, 0, 0, 131]
abbrev dktX4_ofLandNow_1 : List UInt8 := dkwX4_ofLandNow_1 ++ dktX4_ofLandNow_2
def dkwX4_ofLandNow_0 : List UInt8 := [42, 180, 0, 15, 27, 50, 78, 3, 54, 4, 28]
abbrev dktX4_ofLandNow_0 : List UInt8 := dkwX4_ofLandNow_0 ++ dktX4_ofLandNow_1
theorem dksX4_ofLandNow_0 : cX4_ofLandNow.data.toList.drop 0 = dktX4_ofLandNow_0 := by decide +kernel
theorem dksX4_ofLandNow_1 : cX4_ofLandNow.data.toList.drop 11 = dktX4_ofLandNow_1 := dk_seg dksX4_ofLandNow_0 11 rfl rfl
theorem dksX4_ofLandNow_2 : cX4_ofLandNow.data.toList.drop 56 = dktX4_ofLandNow_2 := dk_seg dksX4_ofLandNow_1 45 rfl rfl
theorem dksX4_ofLandNow_3 : cX4_ofLandNow.data.toList.drop 80 = dktX4_ofLandNow_3 := dk_seg dksX4_ofLandNow_2 24 rfl rfl
theorem dksX4_ofLandNow_4 : cX4_ofLandNow.data.toList.drop 104 = dktX4_ofLandNow_4 := dk_seg dksX4_ofLandNow_3 24 rfl rfl
theorem dksX4_ofLandNow_5 : cX4_ofLandNow.data.toList.drop 126 = dktX4_ofLandNow_5 := dk_seg dksX4_ofLandNow_4 22 rfl rfl
theorem dksX4_ofLandNow_6 : cX4_ofLandNow.data.toList.drop 148 = dktX4_ofLandNow_6 := dk_seg dksX4_ofLandNow_5 22 rfl rfl
theorem dksX4_ofLandNow_7 : cX4_ofLandNow.data.toList.drop 171 = dktX4_ofLandNow_7 := dk_seg dksX4_ofLandNow_6 23 rfl rfl
theorem dksX4_ofLandNow_8 : cX4_ofLandNow.data.toList.drop 194 = dktX4_ofLandNow_8 := dk_seg dksX4_ofLandNow_7 23 rfl rfl
theorem dksX4_ofLandNow_9 : cX4_ofLandNow.data.toList.drop 216 = dktX4_ofLandNow_9 := dk_seg dksX4_ofLandNow_8 22 rfl rfl
theorem dX4_ofLandNow_0 : decode cX4_ofLandNow 0 = .ok (.aload_n 0, 1) := dk_42 (dk_at dksX4_ofLandNow_0 0 rfl rfl)
theorem dX4_ofLandNow_1 : decode cX4_ofLandNow 1 = .ok (.getfield 15, 3) := dk_180 0 15 (dk_at dksX4_ofLandNow_0 1 rfl rfl)
theorem dX4_ofLandNow_4 : decode cX4_ofLandNow 4 = .ok (.iload_n 1, 1) := dk_27 (dk_at dksX4_ofLandNow_0 4 rfl rfl)
theorem dX4_ofLandNow_5 : decode cX4_ofLandNow 5 = .ok (.aaload, 1) := dk_50 (dk_at dksX4_ofLandNow_0 5 rfl rfl)
theorem dX4_ofLandNow_6 : decode cX4_ofLandNow 6 = .ok (.astore_n 3, 1) := dk_78 (dk_at dksX4_ofLandNow_0 6 rfl rfl)
theorem dX4_ofLandNow_7 : decode cX4_ofLandNow 7 = .ok (.iconst 0, 1) := dk_3 (dk_at dksX4_ofLandNow_0 7 rfl rfl)
theorem dX4_ofLandNow_8 : decode cX4_ofLandNow 8 = .ok (.istore 4, 2) := dk_54 4 (dk_at dksX4_ofLandNow_0 8 rfl rfl)
theorem dX4_ofLandNow_10 : decode cX4_ofLandNow 10 = .ok (.iload_n 2, 1) := dk_28 (dk_at dksX4_ofLandNow_0 10 rfl rfl)
theorem dX4_ofLandNow_11 : decode cX4_ofLandNow 11 = .ok (.tableswitch 203 0 7 #[45, 50, 55, 60, 65, 70, 75, 131], 45) := by decide +kernel
theorem dX4_ofLandNow_56 : decode cX4_ofLandNow 56 = .ok (.aload_n 3, 1) := dk_45 (dk_at dksX4_ofLandNow_2 0 rfl rfl)
theorem dX4_ofLandNow_57 : decode cX4_ofLandNow 57 = .ok (.getfield 59, 3) := dk_180 0 59 (dk_at dksX4_ofLandNow_2 1 rfl rfl)
theorem dX4_ofLandNow_60 : decode cX4_ofLandNow 60 = .ok (.ireturn, 1) := dk_172 (dk_at dksX4_ofLandNow_2 4 rfl rfl)
theorem dX4_ofLandNow_61 : decode cX4_ofLandNow 61 = .ok (.aload_n 3, 1) := dk_45 (dk_at dksX4_ofLandNow_2 5 rfl rfl)
theorem dX4_ofLandNow_62 : decode cX4_ofLandNow 62 = .ok (.getfield 62, 3) := dk_180 0 62 (dk_at dksX4_ofLandNow_2 6 rfl rfl)
theorem dX4_ofLandNow_65 : decode cX4_ofLandNow 65 = .ok (.ireturn, 1) := dk_172 (dk_at dksX4_ofLandNow_2 9 rfl rfl)
theorem dX4_ofLandNow_66 : decode cX4_ofLandNow 66 = .ok (.aload_n 3, 1) := dk_45 (dk_at dksX4_ofLandNow_2 10 rfl rfl)
theorem dX4_ofLandNow_67 : decode cX4_ofLandNow 67 = .ok (.getfield 65, 3) := dk_180 0 65 (dk_at dksX4_ofLandNow_2 11 rfl rfl)
theorem dX4_ofLandNow_70 : decode cX4_ofLandNow 70 = .ok (.ireturn, 1) := dk_172 (dk_at dksX4_ofLandNow_2 14 rfl rfl)
theorem dX4_ofLandNow_71 : decode cX4_ofLandNow 71 = .ok (.aload_n 3, 1) := dk_45 (dk_at dksX4_ofLandNow_2 15 rfl rfl)
theorem dX4_ofLandNow_72 : decode cX4_ofLandNow 72 = .ok (.getfield 202, 3) := dk_180 0 202 (dk_at dksX4_ofLandNow_2 16 rfl rfl)
theorem dX4_ofLandNow_75 : decode cX4_ofLandNow 75 = .ok (.ireturn, 1) := dk_172 (dk_at dksX4_ofLandNow_2 19 rfl rfl)
theorem dX4_ofLandNow_76 : decode cX4_ofLandNow 76 = .ok (.aload_n 3, 1) := dk_45 (dk_at dksX4_ofLandNow_2 20 rfl rfl)
theorem dX4_ofLandNow_77 : decode cX4_ofLandNow 77 = .ok (.getfield 234, 3) := dk_180 0 234 (dk_at dksX4_ofLandNow_2 21 rfl rfl)
theorem dX4_ofLandNow_80 : decode cX4_ofLandNow 80 = .ok (.ireturn, 1) := dk_172 (dk_at dksX4_ofLandNow_3 0 rfl rfl)
theorem dX4_ofLandNow_81 : decode cX4_ofLandNow 81 = .ok (.aload_n 3, 1) := dk_45 (dk_at dksX4_ofLandNow_3 1 rfl rfl)
theorem dX4_ofLandNow_82 : decode cX4_ofLandNow 82 = .ok (.getfield 227, 3) := dk_180 0 227 (dk_at dksX4_ofLandNow_3 2 rfl rfl)
theorem dX4_ofLandNow_85 : decode cX4_ofLandNow 85 = .ok (.ireturn, 1) := dk_172 (dk_at dksX4_ofLandNow_3 5 rfl rfl)
theorem dX4_ofLandNow_86 : decode cX4_ofLandNow 86 = .ok (.iconst 0, 1) := dk_3 (dk_at dksX4_ofLandNow_3 6 rfl rfl)
theorem dX4_ofLandNow_87 : decode cX4_ofLandNow 87 = .ok (.istore 5, 2) := dk_54 5 (dk_at dksX4_ofLandNow_3 7 rfl rfl)
theorem dX4_ofLandNow_89 : decode cX4_ofLandNow 89 = .ok (.iload 5, 2) := dk_21 5 (dk_at dksX4_ofLandNow_3 9 rfl rfl)
theorem dX4_ofLandNow_91 : decode cX4_ofLandNow 91 = .ok (.aload_n 0, 1) := dk_42 (dk_at dksX4_ofLandNow_3 11 rfl rfl)
theorem dX4_ofLandNow_92 : decode cX4_ofLandNow 92 = .ok (.getfield 29, 3) := dk_180 0 29 (dk_at dksX4_ofLandNow_3 12 rfl rfl)
theorem dX4_ofLandNow_95 : decode cX4_ofLandNow 95 = .ok (.invokevirtual 47, 3) := dk_182 0 47 (dk_at dksX4_ofLandNow_3 15 rfl rfl)
theorem dX4_ofLandNow_98 : decode cX4_ofLandNow 98 = .ok (.if_icmp .ge 41, 3) := dk_162 0 41 (dk_at dksX4_ofLandNow_3 18 rfl rfl)
theorem dX4_ofLandNow_101 : decode cX4_ofLandNow 101 = .ok (.iload 4, 2) := dk_21 4 (dk_at dksX4_ofLandNow_3 21 rfl rfl)
theorem dX4_ofLandNow_103 : decode cX4_ofLandNow 103 = .ok (.aload_n 0, 1) := dk_42 (dk_at dksX4_ofLandNow_3 23 rfl rfl)
theorem dX4_ofLandNow_104 : decode cX4_ofLandNow 104 = .ok (.getfield 29, 3) := dk_180 0 29 (dk_at dksX4_ofLandNow_4 0 rfl rfl)
theorem dX4_ofLandNow_107 : decode cX4_ofLandNow 107 = .ok (.iload 5, 2) := dk_21 5 (dk_at dksX4_ofLandNow_4 3 rfl rfl)
theorem dX4_ofLandNow_109 : decode cX4_ofLandNow 109 = .ok (.invokevirtual 90, 3) := dk_182 0 90 (dk_at dksX4_ofLandNow_4 5 rfl rfl)
theorem dX4_ofLandNow_112 : decode cX4_ofLandNow 112 = .ok (.checkcast 119, 3) := dk_192 0 119 (dk_at dksX4_ofLandNow_4 8 rfl rfl)
theorem dX4_ofLandNow_115 : decode cX4_ofLandNow 115 = .ok (.getfield 131, 3) := dk_180 0 131 (dk_at dksX4_ofLandNow_4 11 rfl rfl)
theorem dX4_ofLandNow_118 : decode cX4_ofLandNow 118 = .ok (.bipush 100, 2) := dk_16 100 (dk_at dksX4_ofLandNow_4 14 rfl rfl)
theorem dX4_ofLandNow_120 : decode cX4_ofLandNow 120 = .ok (.iload_n 1, 1) := dk_27 (dk_at dksX4_ofLandNow_4 16 rfl rfl)
theorem dX4_ofLandNow_121 : decode cX4_ofLandNow 121 = .ok (.iadd, 1) := dk_96 (dk_at dksX4_ofLandNow_4 17 rfl rfl)
theorem dX4_ofLandNow_122 : decode cX4_ofLandNow 122 = .ok (.if_icmp .ne 7, 3) := dk_160 0 7 (dk_at dksX4_ofLandNow_4 18 rfl rfl)
theorem dX4_ofLandNow_125 : decode cX4_ofLandNow 125 = .ok (.iconst 1, 1) := dk_4 (dk_at dksX4_ofLandNow_4 21 rfl rfl)
theorem dX4_ofLandNow_126 : decode cX4_ofLandNow 126 = .ok (.goto 4, 3) := dk_167 0 4 (dk_at dksX4_ofLandNow_5 0 rfl rfl)
theorem dX4_ofLandNow_129 : decode cX4_ofLandNow 129 = .ok (.iconst 0, 1) := dk_3 (dk_at dksX4_ofLandNow_5 3 rfl rfl)
theorem dX4_ofLandNow_130 : decode cX4_ofLandNow 130 = .ok (.iadd, 1) := dk_96 (dk_at dksX4_ofLandNow_5 4 rfl rfl)
theorem dX4_ofLandNow_131 : decode cX4_ofLandNow 131 = .ok (.istore 4, 2) := dk_54 4 (dk_at dksX4_ofLandNow_5 5 rfl rfl)
theorem dX4_ofLandNow_133 : decode cX4_ofLandNow 133 = .ok (.iinc 5 1, 3) := dk_132 5 1 (dk_at dksX4_ofLandNow_5 7 rfl rfl)
theorem dX4_ofLandNow_136 : decode cX4_ofLandNow 136 = .ok (.goto (-47), 3) := dk_167 255 209 (dk_at dksX4_ofLandNow_5 10 rfl rfl)
theorem dX4_ofLandNow_139 : decode cX4_ofLandNow 139 = .ok (.iload 4, 2) := dk_21 4 (dk_at dksX4_ofLandNow_5 13 rfl rfl)
theorem dX4_ofLandNow_141 : decode cX4_ofLandNow 141 = .ok (.ireturn, 1) := dk_172 (dk_at dksX4_ofLandNow_5 15 rfl rfl)
theorem dX4_ofLandNow_142 : decode cX4_ofLandNow 142 = .ok (.iconst 0, 1) := dk_3 (dk_at dksX4_ofLandNow_5 16 rfl rfl)
theorem dX4_ofLandNow_143 : decode cX4_ofLandNow 143 = .ok (.istore 5, 2) := dk_54 5 (dk_at dksX4_ofLandNow_5 17 rfl rfl)
theorem dX4_ofLandNow_145 : decode cX4_ofLandNow 145 = .ok (.iload 5, 2) := dk_21 5 (dk_at dksX4_ofLandNow_5 19 rfl rfl)
theorem dX4_ofLandNow_147 : decode cX4_ofLandNow 147 = .ok (.aload_n 0, 1) := dk_42 (dk_at dksX4_ofLandNow_5 21 rfl rfl)
theorem dX4_ofLandNow_148 : decode cX4_ofLandNow 148 = .ok (.getfield 26, 3) := dk_180 0 26 (dk_at dksX4_ofLandNow_6 0 rfl rfl)
theorem dX4_ofLandNow_151 : decode cX4_ofLandNow 151 = .ok (.invokevirtual 47, 3) := dk_182 0 47 (dk_at dksX4_ofLandNow_6 3 rfl rfl)
theorem dX4_ofLandNow_154 : decode cX4_ofLandNow 154 = .ok (.if_icmp .ge 57, 3) := dk_162 0 57 (dk_at dksX4_ofLandNow_6 6 rfl rfl)
theorem dX4_ofLandNow_157 : decode cX4_ofLandNow 157 = .ok (.iload 4, 2) := dk_21 4 (dk_at dksX4_ofLandNow_6 9 rfl rfl)
theorem dX4_ofLandNow_159 : decode cX4_ofLandNow 159 = .ok (.aload_n 0, 1) := dk_42 (dk_at dksX4_ofLandNow_6 11 rfl rfl)
theorem dX4_ofLandNow_160 : decode cX4_ofLandNow 160 = .ok (.getfield 26, 3) := dk_180 0 26 (dk_at dksX4_ofLandNow_6 12 rfl rfl)
theorem dX4_ofLandNow_163 : decode cX4_ofLandNow 163 = .ok (.iload 5, 2) := dk_21 5 (dk_at dksX4_ofLandNow_6 15 rfl rfl)
theorem dX4_ofLandNow_165 : decode cX4_ofLandNow 165 = .ok (.invokevirtual 90, 3) := dk_182 0 90 (dk_at dksX4_ofLandNow_6 17 rfl rfl)
theorem dX4_ofLandNow_168 : decode cX4_ofLandNow 168 = .ok (.checkcast 100, 3) := dk_192 0 100 (dk_at dksX4_ofLandNow_6 20 rfl rfl)
theorem dX4_ofLandNow_171 : decode cX4_ofLandNow 171 = .ok (.getfield 103, 3) := dk_180 0 103 (dk_at dksX4_ofLandNow_7 0 rfl rfl)
theorem dX4_ofLandNow_174 : decode cX4_ofLandNow 174 = .ok (.iload_n 1, 1) := dk_27 (dk_at dksX4_ofLandNow_7 3 rfl rfl)
theorem dX4_ofLandNow_175 : decode cX4_ofLandNow 175 = .ok (.if_icmp .ne 26, 3) := dk_160 0 26 (dk_at dksX4_ofLandNow_7 4 rfl rfl)
theorem dX4_ofLandNow_178 : decode cX4_ofLandNow 178 = .ok (.aload_n 0, 1) := dk_42 (dk_at dksX4_ofLandNow_7 7 rfl rfl)
theorem dX4_ofLandNow_179 : decode cX4_ofLandNow 179 = .ok (.getfield 26, 3) := dk_180 0 26 (dk_at dksX4_ofLandNow_7 8 rfl rfl)
theorem dX4_ofLandNow_182 : decode cX4_ofLandNow 182 = .ok (.iload 5, 2) := dk_21 5 (dk_at dksX4_ofLandNow_7 11 rfl rfl)
theorem dX4_ofLandNow_184 : decode cX4_ofLandNow 184 = .ok (.invokevirtual 90, 3) := dk_182 0 90 (dk_at dksX4_ofLandNow_7 13 rfl rfl)
theorem dX4_ofLandNow_187 : decode cX4_ofLandNow 187 = .ok (.checkcast 100, 3) := dk_192 0 100 (dk_at dksX4_ofLandNow_7 16 rfl rfl)
theorem dX4_ofLandNow_190 : decode cX4_ofLandNow 190 = .ok (.getfield 116, 3) := dk_180 0 116 (dk_at dksX4_ofLandNow_7 19 rfl rfl)
theorem dX4_ofLandNow_193 : decode cX4_ofLandNow 193 = .ok (.iconst 2, 1) := dk_5 (dk_at dksX4_ofLandNow_7 22 rfl rfl)
theorem dX4_ofLandNow_194 : decode cX4_ofLandNow 194 = .ok (.if_icmp .eq 7, 3) := dk_159 0 7 (dk_at dksX4_ofLandNow_8 0 rfl rfl)
theorem dX4_ofLandNow_197 : decode cX4_ofLandNow 197 = .ok (.iconst 1, 1) := dk_4 (dk_at dksX4_ofLandNow_8 3 rfl rfl)
theorem dX4_ofLandNow_198 : decode cX4_ofLandNow 198 = .ok (.goto 4, 3) := dk_167 0 4 (dk_at dksX4_ofLandNow_8 4 rfl rfl)
theorem dX4_ofLandNow_201 : decode cX4_ofLandNow 201 = .ok (.iconst 0, 1) := dk_3 (dk_at dksX4_ofLandNow_8 7 rfl rfl)
theorem dX4_ofLandNow_202 : decode cX4_ofLandNow 202 = .ok (.iadd, 1) := dk_96 (dk_at dksX4_ofLandNow_8 8 rfl rfl)
theorem dX4_ofLandNow_203 : decode cX4_ofLandNow 203 = .ok (.istore 4, 2) := dk_54 4 (dk_at dksX4_ofLandNow_8 9 rfl rfl)
theorem dX4_ofLandNow_205 : decode cX4_ofLandNow 205 = .ok (.iinc 5 1, 3) := dk_132 5 1 (dk_at dksX4_ofLandNow_8 11 rfl rfl)
theorem dX4_ofLandNow_208 : decode cX4_ofLandNow 208 = .ok (.goto (-63), 3) := dk_167 255 193 (dk_at dksX4_ofLandNow_8 14 rfl rfl)
theorem dX4_ofLandNow_211 : decode cX4_ofLandNow 211 = .ok (.iload 4, 2) := dk_21 4 (dk_at dksX4_ofLandNow_8 17 rfl rfl)
theorem dX4_ofLandNow_213 : decode cX4_ofLandNow 213 = .ok (.ireturn, 1) := dk_172 (dk_at dksX4_ofLandNow_8 19 rfl rfl)
theorem dX4_ofLandNow_214 : decode cX4_ofLandNow 214 = .ok (.aload_n 0, 1) := dk_42 (dk_at dksX4_ofLandNow_8 20 rfl rfl)
theorem dX4_ofLandNow_215 : decode cX4_ofLandNow 215 = .ok (.iload_n 1, 1) := dk_27 (dk_at dksX4_ofLandNow_8 21 rfl rfl)
theorem dX4_ofLandNow_216 : decode cX4_ofLandNow 216 = .ok (.invokevirtual 280, 3) := dk_182 1 24 (dk_at dksX4_ofLandNow_9 0 rfl rfl)
theorem dX4_ofLandNow_219 : decode cX4_ofLandNow 219 = .ok (.ireturn, 1) := dk_172 (dk_at dksX4_ofLandNow_9 3 rfl rfl)
abbrev cX4_wholes : ByteArray := prog_14_method_34_code
def yX4_wholes : MethodName := ⟨RX4, "wholes", "(I)I"⟩
def dkwX4_wholes_5 : List UInt8 := [167, 255, 145, 28, 172]
abbrev dktX4_wholes_5 : List UInt8 := dkwX4_wholes_5 ++ []
def dkwX4_wholes_4 : List UInt8 := [28, 21, 5, 153, 0, 14, 21, 4, 158, 0, 9, 4, 29, 120, 167, 0, 4, 3, 128, 61, 132, 3, 1]
abbrev dktX4_wholes_4 : List UInt8 := dkwX4_wholes_4 ++ dktX4_wholes_5
def dkwX4_wholes_3 : List UInt8 := [192, 0, 119, 182, 1, 20, 27, 160, 0, 7, 4, 167, 0, 4, 3, 126, 54, 5, 132, 6, 1, 167, 255, 186]
abbrev dktX4_wholes_3 : List UInt8 := dkwX4_wholes_3 ++ dktX4_wholes_4
def dkwX4_wholes_2 : List UInt8 := [29, 159, 0, 6, 167, 0, 36, 132, 4, 1, 21, 5, 42, 42, 180, 0, 29, 21, 6, 182, 0, 90]
abbrev dktX4_wholes_2 : List UInt8 := dkwX4_wholes_2 ++ dktX4_wholes_3
def dkwX4_wholes_1 : List UInt8 := [180, 0, 29, 182, 0, 47, 162, 0, 64, 42, 180, 0, 29, 21, 6, 182, 0, 90, 192, 0, 119, 180, 0, 122]
abbrev dktX4_wholes_1 : List UInt8 := dkwX4_wholes_1 ++ dktX4_wholes_2
def dkwX4_wholes_0 : List UInt8 := [3, 61, 3, 62, 29, 16, 8, 162, 0, 111, 3, 54, 4, 4, 54, 5, 3, 54, 6, 21, 6, 42]
abbrev dktX4_wholes_0 : List UInt8 := dkwX4_wholes_0 ++ dktX4_wholes_1
theorem dksX4_wholes_0 : cX4_wholes.data.toList.drop 0 = dktX4_wholes_0 := by decide +kernel
theorem dksX4_wholes_1 : cX4_wholes.data.toList.drop 22 = dktX4_wholes_1 := dk_seg dksX4_wholes_0 22 rfl rfl
theorem dksX4_wholes_2 : cX4_wholes.data.toList.drop 46 = dktX4_wholes_2 := dk_seg dksX4_wholes_1 24 rfl rfl
theorem dksX4_wholes_3 : cX4_wholes.data.toList.drop 68 = dktX4_wholes_3 := dk_seg dksX4_wholes_2 22 rfl rfl
theorem dksX4_wholes_4 : cX4_wholes.data.toList.drop 92 = dktX4_wholes_4 := dk_seg dksX4_wholes_3 24 rfl rfl
theorem dksX4_wholes_5 : cX4_wholes.data.toList.drop 115 = dktX4_wholes_5 := dk_seg dksX4_wholes_4 23 rfl rfl
theorem dX4_wholes_0 : decode cX4_wholes 0 = .ok (.iconst 0, 1) := dk_3 (dk_at dksX4_wholes_0 0 rfl rfl)
theorem dX4_wholes_1 : decode cX4_wholes 1 = .ok (.istore_n 2, 1) := dk_61 (dk_at dksX4_wholes_0 1 rfl rfl)
theorem dX4_wholes_2 : decode cX4_wholes 2 = .ok (.iconst 0, 1) := dk_3 (dk_at dksX4_wholes_0 2 rfl rfl)
theorem dX4_wholes_3 : decode cX4_wholes 3 = .ok (.istore_n 3, 1) := dk_62 (dk_at dksX4_wholes_0 3 rfl rfl)
theorem dX4_wholes_4 : decode cX4_wholes 4 = .ok (.iload_n 3, 1) := dk_29 (dk_at dksX4_wholes_0 4 rfl rfl)
theorem dX4_wholes_5 : decode cX4_wholes 5 = .ok (.bipush 8, 2) := dk_16 8 (dk_at dksX4_wholes_0 5 rfl rfl)
theorem dX4_wholes_7 : decode cX4_wholes 7 = .ok (.if_icmp .ge 111, 3) := dk_162 0 111 (dk_at dksX4_wholes_0 7 rfl rfl)
theorem dX4_wholes_10 : decode cX4_wholes 10 = .ok (.iconst 0, 1) := dk_3 (dk_at dksX4_wholes_0 10 rfl rfl)
theorem dX4_wholes_11 : decode cX4_wholes 11 = .ok (.istore 4, 2) := dk_54 4 (dk_at dksX4_wholes_0 11 rfl rfl)
theorem dX4_wholes_13 : decode cX4_wholes 13 = .ok (.iconst 1, 1) := dk_4 (dk_at dksX4_wholes_0 13 rfl rfl)
theorem dX4_wholes_14 : decode cX4_wholes 14 = .ok (.istore 5, 2) := dk_54 5 (dk_at dksX4_wholes_0 14 rfl rfl)
theorem dX4_wholes_16 : decode cX4_wholes 16 = .ok (.iconst 0, 1) := dk_3 (dk_at dksX4_wholes_0 16 rfl rfl)
theorem dX4_wholes_17 : decode cX4_wholes 17 = .ok (.istore 6, 2) := dk_54 6 (dk_at dksX4_wholes_0 17 rfl rfl)
theorem dX4_wholes_19 : decode cX4_wholes 19 = .ok (.iload 6, 2) := dk_21 6 (dk_at dksX4_wholes_0 19 rfl rfl)
theorem dX4_wholes_21 : decode cX4_wholes 21 = .ok (.aload_n 0, 1) := dk_42 (dk_at dksX4_wholes_0 21 rfl rfl)
theorem dX4_wholes_22 : decode cX4_wholes 22 = .ok (.getfield 29, 3) := dk_180 0 29 (dk_at dksX4_wholes_1 0 rfl rfl)
theorem dX4_wholes_25 : decode cX4_wholes 25 = .ok (.invokevirtual 47, 3) := dk_182 0 47 (dk_at dksX4_wholes_1 3 rfl rfl)
theorem dX4_wholes_28 : decode cX4_wholes 28 = .ok (.if_icmp .ge 64, 3) := dk_162 0 64 (dk_at dksX4_wholes_1 6 rfl rfl)
theorem dX4_wholes_31 : decode cX4_wholes 31 = .ok (.aload_n 0, 1) := dk_42 (dk_at dksX4_wholes_1 9 rfl rfl)
theorem dX4_wholes_32 : decode cX4_wholes 32 = .ok (.getfield 29, 3) := dk_180 0 29 (dk_at dksX4_wholes_1 10 rfl rfl)
theorem dX4_wholes_35 : decode cX4_wholes 35 = .ok (.iload 6, 2) := dk_21 6 (dk_at dksX4_wholes_1 13 rfl rfl)
theorem dX4_wholes_37 : decode cX4_wholes 37 = .ok (.invokevirtual 90, 3) := dk_182 0 90 (dk_at dksX4_wholes_1 15 rfl rfl)
theorem dX4_wholes_40 : decode cX4_wholes 40 = .ok (.checkcast 119, 3) := dk_192 0 119 (dk_at dksX4_wholes_1 18 rfl rfl)
theorem dX4_wholes_43 : decode cX4_wholes 43 = .ok (.getfield 122, 3) := dk_180 0 122 (dk_at dksX4_wholes_1 21 rfl rfl)
theorem dX4_wholes_46 : decode cX4_wholes 46 = .ok (.iload_n 3, 1) := dk_29 (dk_at dksX4_wholes_2 0 rfl rfl)
theorem dX4_wholes_47 : decode cX4_wholes 47 = .ok (.if_icmp .eq 6, 3) := dk_159 0 6 (dk_at dksX4_wholes_2 1 rfl rfl)
theorem dX4_wholes_50 : decode cX4_wholes 50 = .ok (.goto 36, 3) := dk_167 0 36 (dk_at dksX4_wholes_2 4 rfl rfl)
theorem dX4_wholes_53 : decode cX4_wholes 53 = .ok (.iinc 4 1, 3) := dk_132 4 1 (dk_at dksX4_wholes_2 7 rfl rfl)
theorem dX4_wholes_56 : decode cX4_wholes 56 = .ok (.iload 5, 2) := dk_21 5 (dk_at dksX4_wholes_2 10 rfl rfl)
theorem dX4_wholes_58 : decode cX4_wholes 58 = .ok (.aload_n 0, 1) := dk_42 (dk_at dksX4_wholes_2 12 rfl rfl)
theorem dX4_wholes_59 : decode cX4_wholes 59 = .ok (.aload_n 0, 1) := dk_42 (dk_at dksX4_wholes_2 13 rfl rfl)
theorem dX4_wholes_60 : decode cX4_wholes 60 = .ok (.getfield 29, 3) := dk_180 0 29 (dk_at dksX4_wholes_2 14 rfl rfl)
theorem dX4_wholes_63 : decode cX4_wholes 63 = .ok (.iload 6, 2) := dk_21 6 (dk_at dksX4_wholes_2 17 rfl rfl)
theorem dX4_wholes_65 : decode cX4_wholes 65 = .ok (.invokevirtual 90, 3) := dk_182 0 90 (dk_at dksX4_wholes_2 19 rfl rfl)
theorem dX4_wholes_68 : decode cX4_wholes 68 = .ok (.checkcast 119, 3) := dk_192 0 119 (dk_at dksX4_wholes_3 0 rfl rfl)
theorem dX4_wholes_71 : decode cX4_wholes 71 = .ok (.invokevirtual 276, 3) := dk_182 1 20 (dk_at dksX4_wholes_3 3 rfl rfl)
theorem dX4_wholes_74 : decode cX4_wholes 74 = .ok (.iload_n 1, 1) := dk_27 (dk_at dksX4_wholes_3 6 rfl rfl)
theorem dX4_wholes_75 : decode cX4_wholes 75 = .ok (.if_icmp .ne 7, 3) := dk_160 0 7 (dk_at dksX4_wholes_3 7 rfl rfl)
theorem dX4_wholes_78 : decode cX4_wholes 78 = .ok (.iconst 1, 1) := dk_4 (dk_at dksX4_wholes_3 10 rfl rfl)
theorem dX4_wholes_79 : decode cX4_wholes 79 = .ok (.goto 4, 3) := dk_167 0 4 (dk_at dksX4_wholes_3 11 rfl rfl)
theorem dX4_wholes_82 : decode cX4_wholes 82 = .ok (.iconst 0, 1) := dk_3 (dk_at dksX4_wholes_3 14 rfl rfl)
theorem dX4_wholes_83 : decode cX4_wholes 83 = .ok (.iand, 1) := dk_126 (dk_at dksX4_wholes_3 15 rfl rfl)
theorem dX4_wholes_84 : decode cX4_wholes 84 = .ok (.istore 5, 2) := dk_54 5 (dk_at dksX4_wholes_3 16 rfl rfl)
theorem dX4_wholes_86 : decode cX4_wholes 86 = .ok (.iinc 6 1, 3) := dk_132 6 1 (dk_at dksX4_wholes_3 18 rfl rfl)
theorem dX4_wholes_89 : decode cX4_wholes 89 = .ok (.goto (-70), 3) := dk_167 255 186 (dk_at dksX4_wholes_3 21 rfl rfl)
theorem dX4_wholes_92 : decode cX4_wholes 92 = .ok (.iload_n 2, 1) := dk_28 (dk_at dksX4_wholes_4 0 rfl rfl)
theorem dX4_wholes_93 : decode cX4_wholes 93 = .ok (.iload 5, 2) := dk_21 5 (dk_at dksX4_wholes_4 1 rfl rfl)
theorem dX4_wholes_95 : decode cX4_wholes 95 = .ok (.ifCond .eq 14, 3) := dk_153 0 14 (dk_at dksX4_wholes_4 3 rfl rfl)
theorem dX4_wholes_98 : decode cX4_wholes 98 = .ok (.iload 4, 2) := dk_21 4 (dk_at dksX4_wholes_4 6 rfl rfl)
theorem dX4_wholes_100 : decode cX4_wholes 100 = .ok (.ifCond .le 9, 3) := dk_158 0 9 (dk_at dksX4_wholes_4 8 rfl rfl)
theorem dX4_wholes_103 : decode cX4_wholes 103 = .ok (.iconst 1, 1) := dk_4 (dk_at dksX4_wholes_4 11 rfl rfl)
theorem dX4_wholes_104 : decode cX4_wholes 104 = .ok (.iload_n 3, 1) := dk_29 (dk_at dksX4_wholes_4 12 rfl rfl)
theorem dX4_wholes_105 : decode cX4_wholes 105 = .ok (.ishl, 1) := dk_120 (dk_at dksX4_wholes_4 13 rfl rfl)
theorem dX4_wholes_106 : decode cX4_wholes 106 = .ok (.goto 4, 3) := dk_167 0 4 (dk_at dksX4_wholes_4 14 rfl rfl)
theorem dX4_wholes_109 : decode cX4_wholes 109 = .ok (.iconst 0, 1) := dk_3 (dk_at dksX4_wholes_4 17 rfl rfl)
theorem dX4_wholes_110 : decode cX4_wholes 110 = .ok (.ior, 1) := dk_128 (dk_at dksX4_wholes_4 18 rfl rfl)
theorem dX4_wholes_111 : decode cX4_wholes 111 = .ok (.istore_n 2, 1) := dk_61 (dk_at dksX4_wholes_4 19 rfl rfl)
theorem dX4_wholes_112 : decode cX4_wholes 112 = .ok (.iinc 3 1, 3) := dk_132 3 1 (dk_at dksX4_wholes_4 20 rfl rfl)
theorem dX4_wholes_115 : decode cX4_wholes 115 = .ok (.goto (-111), 3) := dk_167 255 145 (dk_at dksX4_wholes_5 0 rfl rfl)
theorem dX4_wholes_118 : decode cX4_wholes 118 = .ok (.iload_n 2, 1) := dk_28 (dk_at dksX4_wholes_5 3 rfl rfl)
theorem dX4_wholes_119 : decode cX4_wholes 119 = .ok (.ireturn, 1) := dk_172 (dk_at dksX4_wholes_5 4 rfl rfl)
abbrev cX4_landOf : ByteArray := prog_14_method_33_code
def yX4_landOf : MethodName := ⟨RX4, "landOf", "(LLullabygateModel$Part;)I"⟩
def dkwX4_landOf_2 : List UInt8 := [180, 0, 103, 172]
abbrev dktX4_landOf_2 : List UInt8 := dkwX4_landOf_2 ++ []
def dkwX4_landOf_1 : List UInt8 := [180, 0, 131, 16, 100, 100, 167, 0, 20, 42, 180, 0, 26, 43, 180, 0, 131, 182, 0, 90, 192, 0, 100]
abbrev dktX4_landOf_1 : List UInt8 := dkwX4_landOf_1 ++ dktX4_landOf_2
def dkwX4_landOf_0 : List UInt8 := [43, 180, 0, 131, 17, 3, 231, 160, 0, 7, 2, 167, 0, 39, 43, 180, 0, 131, 16, 100, 161, 0, 13, 43]
abbrev dktX4_landOf_0 : List UInt8 := dkwX4_landOf_0 ++ dktX4_landOf_1
theorem dksX4_landOf_0 : cX4_landOf.data.toList.drop 0 = dktX4_landOf_0 := by decide +kernel
theorem dksX4_landOf_1 : cX4_landOf.data.toList.drop 24 = dktX4_landOf_1 := dk_seg dksX4_landOf_0 24 rfl rfl
theorem dksX4_landOf_2 : cX4_landOf.data.toList.drop 47 = dktX4_landOf_2 := dk_seg dksX4_landOf_1 23 rfl rfl
theorem dX4_landOf_0 : decode cX4_landOf 0 = .ok (.aload_n 1, 1) := dk_43 (dk_at dksX4_landOf_0 0 rfl rfl)
theorem dX4_landOf_1 : decode cX4_landOf 1 = .ok (.getfield 131, 3) := dk_180 0 131 (dk_at dksX4_landOf_0 1 rfl rfl)
theorem dX4_landOf_4 : decode cX4_landOf 4 = .ok (.sipush 999, 3) := dk_17 3 231 (dk_at dksX4_landOf_0 4 rfl rfl)
theorem dX4_landOf_7 : decode cX4_landOf 7 = .ok (.if_icmp .ne 7, 3) := dk_160 0 7 (dk_at dksX4_landOf_0 7 rfl rfl)
theorem dX4_landOf_10 : decode cX4_landOf 10 = .ok (.iconst (-1), 1) := dk_2 (dk_at dksX4_landOf_0 10 rfl rfl)
theorem dX4_landOf_11 : decode cX4_landOf 11 = .ok (.goto 39, 3) := dk_167 0 39 (dk_at dksX4_landOf_0 11 rfl rfl)
theorem dX4_landOf_14 : decode cX4_landOf 14 = .ok (.aload_n 1, 1) := dk_43 (dk_at dksX4_landOf_0 14 rfl rfl)
theorem dX4_landOf_15 : decode cX4_landOf 15 = .ok (.getfield 131, 3) := dk_180 0 131 (dk_at dksX4_landOf_0 15 rfl rfl)
theorem dX4_landOf_18 : decode cX4_landOf 18 = .ok (.bipush 100, 2) := dk_16 100 (dk_at dksX4_landOf_0 18 rfl rfl)
theorem dX4_landOf_20 : decode cX4_landOf 20 = .ok (.if_icmp .lt 13, 3) := dk_161 0 13 (dk_at dksX4_landOf_0 20 rfl rfl)
theorem dX4_landOf_23 : decode cX4_landOf 23 = .ok (.aload_n 1, 1) := dk_43 (dk_at dksX4_landOf_0 23 rfl rfl)
theorem dX4_landOf_24 : decode cX4_landOf 24 = .ok (.getfield 131, 3) := dk_180 0 131 (dk_at dksX4_landOf_1 0 rfl rfl)
theorem dX4_landOf_27 : decode cX4_landOf 27 = .ok (.bipush 100, 2) := dk_16 100 (dk_at dksX4_landOf_1 3 rfl rfl)
theorem dX4_landOf_29 : decode cX4_landOf 29 = .ok (.isub, 1) := dk_100 (dk_at dksX4_landOf_1 5 rfl rfl)
theorem dX4_landOf_30 : decode cX4_landOf 30 = .ok (.goto 20, 3) := dk_167 0 20 (dk_at dksX4_landOf_1 6 rfl rfl)
theorem dX4_landOf_33 : decode cX4_landOf 33 = .ok (.aload_n 0, 1) := dk_42 (dk_at dksX4_landOf_1 9 rfl rfl)
theorem dX4_landOf_34 : decode cX4_landOf 34 = .ok (.getfield 26, 3) := dk_180 0 26 (dk_at dksX4_landOf_1 10 rfl rfl)
theorem dX4_landOf_37 : decode cX4_landOf 37 = .ok (.aload_n 1, 1) := dk_43 (dk_at dksX4_landOf_1 13 rfl rfl)
theorem dX4_landOf_38 : decode cX4_landOf 38 = .ok (.getfield 131, 3) := dk_180 0 131 (dk_at dksX4_landOf_1 14 rfl rfl)
theorem dX4_landOf_41 : decode cX4_landOf 41 = .ok (.invokevirtual 90, 3) := dk_182 0 90 (dk_at dksX4_landOf_1 17 rfl rfl)
theorem dX4_landOf_44 : decode cX4_landOf 44 = .ok (.checkcast 100, 3) := dk_192 0 100 (dk_at dksX4_landOf_1 20 rfl rfl)
theorem dX4_landOf_47 : decode cX4_landOf 47 = .ok (.getfield 103, 3) := dk_180 0 103 (dk_at dksX4_landOf_2 0 rfl rfl)
theorem dX4_landOf_50 : decode cX4_landOf 50 = .ok (.ireturn, 1) := dk_172 (dk_at dksX4_landOf_2 3 rfl rfl)
abbrev cX4_ofGate : ByteArray := prog_14_method_39_code
def yX4_ofGate : MethodName := ⟨RX4, "ofGate", "(II)I"⟩
def dkwX4_ofGate_1 : List UInt8 := [184, 0, 43, 153, 0, 12, 42, 27, 28, 182, 1, 34, 167, 0, 8, 42, 5, 182, 0, 55, 172]
abbrev dktX4_ofGate_1 : List UInt8 := dkwX4_ofGate_1 ++ []
def dkwX4_ofGate_0 : List UInt8 := [42, 3, 181, 0, 40, 42, 27, 182, 0, 87, 154, 0, 9, 42, 4, 182, 0, 55, 172, 28, 3, 16, 9]
abbrev dktX4_ofGate_0 : List UInt8 := dkwX4_ofGate_0 ++ dktX4_ofGate_1
theorem dksX4_ofGate_0 : cX4_ofGate.data.toList.drop 0 = dktX4_ofGate_0 := by decide +kernel
theorem dksX4_ofGate_1 : cX4_ofGate.data.toList.drop 23 = dktX4_ofGate_1 := dk_seg dksX4_ofGate_0 23 rfl rfl
theorem dX4_ofGate_0 : decode cX4_ofGate 0 = .ok (.aload_n 0, 1) := dk_42 (dk_at dksX4_ofGate_0 0 rfl rfl)
theorem dX4_ofGate_1 : decode cX4_ofGate 1 = .ok (.iconst 0, 1) := dk_3 (dk_at dksX4_ofGate_0 1 rfl rfl)
theorem dX4_ofGate_2 : decode cX4_ofGate 2 = .ok (.putfield 40, 3) := dk_181 0 40 (dk_at dksX4_ofGate_0 2 rfl rfl)
theorem dX4_ofGate_5 : decode cX4_ofGate 5 = .ok (.aload_n 0, 1) := dk_42 (dk_at dksX4_ofGate_0 5 rfl rfl)
theorem dX4_ofGate_6 : decode cX4_ofGate 6 = .ok (.iload_n 1, 1) := dk_27 (dk_at dksX4_ofGate_0 6 rfl rfl)
theorem dX4_ofGate_7 : decode cX4_ofGate 7 = .ok (.invokevirtual 87, 3) := dk_182 0 87 (dk_at dksX4_ofGate_0 7 rfl rfl)
theorem dX4_ofGate_10 : decode cX4_ofGate 10 = .ok (.ifCond .ne 9, 3) := dk_154 0 9 (dk_at dksX4_ofGate_0 10 rfl rfl)
theorem dX4_ofGate_13 : decode cX4_ofGate 13 = .ok (.aload_n 0, 1) := dk_42 (dk_at dksX4_ofGate_0 13 rfl rfl)
theorem dX4_ofGate_14 : decode cX4_ofGate 14 = .ok (.iconst 1, 1) := dk_4 (dk_at dksX4_ofGate_0 14 rfl rfl)
theorem dX4_ofGate_15 : decode cX4_ofGate 15 = .ok (.invokevirtual 55, 3) := dk_182 0 55 (dk_at dksX4_ofGate_0 15 rfl rfl)
theorem dX4_ofGate_18 : decode cX4_ofGate 18 = .ok (.ireturn, 1) := dk_172 (dk_at dksX4_ofGate_0 18 rfl rfl)
theorem dX4_ofGate_19 : decode cX4_ofGate 19 = .ok (.iload_n 2, 1) := dk_28 (dk_at dksX4_ofGate_0 19 rfl rfl)
theorem dX4_ofGate_20 : decode cX4_ofGate 20 = .ok (.iconst 0, 1) := dk_3 (dk_at dksX4_ofGate_0 20 rfl rfl)
theorem dX4_ofGate_21 : decode cX4_ofGate 21 = .ok (.bipush 9, 2) := dk_16 9 (dk_at dksX4_ofGate_0 21 rfl rfl)
theorem dX4_ofGate_23 : decode cX4_ofGate 23 = .ok (.invokestatic 43, 3) := dk_184 0 43 (dk_at dksX4_ofGate_1 0 rfl rfl)
theorem dX4_ofGate_26 : decode cX4_ofGate 26 = .ok (.ifCond .eq 12, 3) := dk_153 0 12 (dk_at dksX4_ofGate_1 3 rfl rfl)
theorem dX4_ofGate_29 : decode cX4_ofGate 29 = .ok (.aload_n 0, 1) := dk_42 (dk_at dksX4_ofGate_1 6 rfl rfl)
theorem dX4_ofGate_30 : decode cX4_ofGate 30 = .ok (.iload_n 1, 1) := dk_27 (dk_at dksX4_ofGate_1 7 rfl rfl)
theorem dX4_ofGate_31 : decode cX4_ofGate 31 = .ok (.iload_n 2, 1) := dk_28 (dk_at dksX4_ofGate_1 8 rfl rfl)
theorem dX4_ofGate_32 : decode cX4_ofGate 32 = .ok (.invokevirtual 290, 3) := dk_182 1 34 (dk_at dksX4_ofGate_1 9 rfl rfl)
theorem dX4_ofGate_35 : decode cX4_ofGate 35 = .ok (.goto 8, 3) := dk_167 0 8 (dk_at dksX4_ofGate_1 12 rfl rfl)
theorem dX4_ofGate_38 : decode cX4_ofGate 38 = .ok (.aload_n 0, 1) := dk_42 (dk_at dksX4_ofGate_1 15 rfl rfl)
theorem dX4_ofGate_39 : decode cX4_ofGate 39 = .ok (.iconst 2, 1) := dk_5 (dk_at dksX4_ofGate_1 16 rfl rfl)
theorem dX4_ofGate_40 : decode cX4_ofGate 40 = .ok (.invokevirtual 55, 3) := dk_182 0 55 (dk_at dksX4_ofGate_1 17 rfl rfl)
theorem dX4_ofGate_43 : decode cX4_ofGate 43 = .ok (.ireturn, 1) := dk_172 (dk_at dksX4_ofGate_1 20 rfl rfl)
abbrev cX4_ofGateNow : ByteArray := prog_14_method_38_code
def yX4_ofGateNow : MethodName := ⟨RX4, "ofGateNow", "(II)I"⟩
def dkwX4_ofGateNow_8 : List UInt8 := [167, 255, 224, 21, 4, 172]
abbrev dktX4_ofGateNow_8 : List UInt8 := dkwX4_ofGateNow_8 ++ []
def dkwX4_ofGateNow_7 : List UInt8 := [21, 7, 51, 54, 8, 21, 4, 21, 8, 153, 0, 7, 4, 167, 0, 4, 3, 96, 54, 4, 132, 7, 1]
abbrev dktX4_ofGateNow_7 : List UInt8 := dkwX4_ofGateNow_7 ++ dktX4_ofGateNow_8
def dkwX4_ofGateNow_6 : List UInt8 := [45, 180, 0, 153, 58, 5, 25, 5, 190, 54, 6, 3, 54, 7, 21, 7, 21, 6, 162, 0, 31, 25, 5]
abbrev dktX4_ofGateNow_6 : List UInt8 := dkwX4_ofGateNow_6 ++ dktX4_ofGateNow_7
def dkwX4_ofGateNow_5 : List UInt8 := [167, 0, 17, 45, 180, 0, 162, 3, 182, 0, 90, 192, 0, 165, 182, 0, 167, 172, 42, 45, 182, 1, 30, 172]
abbrev dktX4_ofGateNow_5 : List UInt8 := dkwX4_ofGateNow_5 ++ dktX4_ofGateNow_6
def dkwX4_ofGateNow_4 : List UInt8 := [167, 0, 4, 3, 172, 45, 180, 0, 162, 182, 0, 47, 172, 45, 180, 0, 162, 182, 0, 247, 153, 0, 7, 2]
abbrev dktX4_ofGateNow_4 : List UInt8 := dkwX4_ofGateNow_4 ++ dktX4_ofGateNow_5
def dkwX4_ofGateNow_3 : List UInt8 := [167, 0, 4, 3, 172, 45, 180, 0, 94, 172, 45, 180, 0, 97, 172, 45, 182, 0, 198, 153, 0, 7, 4]
abbrev dktX4_ofGateNow_3 : List UInt8 := dkwX4_ofGateNow_3 ++ dktX4_ofGateNow_4
def dkwX4_ofGateNow_2 : List UInt8 := [45, 180, 0, 71, 172, 45, 180, 0, 74, 172, 45, 42, 180, 0, 241, 182, 0, 244, 153, 0, 7, 4]
abbrev dktX4_ofGateNow_2 : List UInt8 := dkwX4_ofGateNow_2 ++ dktX4_ofGateNow_3
def dkwX4_ofGateNow_1 : List UInt8 := [170, 0, 0, 0, 0, 0, 0, 145, 0, 0, 0, 0, 0, 0, 0, 8, 0, 0, 0, 52, 0, 0, 0, 57, 0, 0, 0, 62, 0, 0, 0, 79, 0, 0, 0, 84, 0, 0, 0, 89, 0, 0, 0, 102, 0, 0, 0, 110, 0, 0, 0, 139]
abbrev dktX4_ofGateNow_1 : List UInt8 := dkwX4_ofGateNow_1 ++ dktX4_ofGateNow_2
def dkwX4_ofGateNow_0 : List UInt8 := [42, 180, 0, 22, 27, 182, 0, 90, 192, 0, 68, 78, 3, 54, 4, 28]
abbrev dktX4_ofGateNow_0 : List UInt8 := dkwX4_ofGateNow_0 ++ dktX4_ofGateNow_1
theorem dksX4_ofGateNow_0 : cX4_ofGateNow.data.toList.drop 0 = dktX4_ofGateNow_0 := by decide +kernel
theorem dksX4_ofGateNow_1 : cX4_ofGateNow.data.toList.drop 16 = dktX4_ofGateNow_1 := dk_seg dksX4_ofGateNow_0 16 rfl rfl
theorem dksX4_ofGateNow_2 : cX4_ofGateNow.data.toList.drop 68 = dktX4_ofGateNow_2 := dk_seg dksX4_ofGateNow_1 52 rfl rfl
theorem dksX4_ofGateNow_3 : cX4_ofGateNow.data.toList.drop 90 = dktX4_ofGateNow_3 := dk_seg dksX4_ofGateNow_2 22 rfl rfl
theorem dksX4_ofGateNow_4 : cX4_ofGateNow.data.toList.drop 113 = dktX4_ofGateNow_4 := dk_seg dksX4_ofGateNow_3 23 rfl rfl
theorem dksX4_ofGateNow_5 : cX4_ofGateNow.data.toList.drop 137 = dktX4_ofGateNow_5 := dk_seg dksX4_ofGateNow_4 24 rfl rfl
theorem dksX4_ofGateNow_6 : cX4_ofGateNow.data.toList.drop 161 = dktX4_ofGateNow_6 := dk_seg dksX4_ofGateNow_5 24 rfl rfl
theorem dksX4_ofGateNow_7 : cX4_ofGateNow.data.toList.drop 184 = dktX4_ofGateNow_7 := dk_seg dksX4_ofGateNow_6 23 rfl rfl
theorem dksX4_ofGateNow_8 : cX4_ofGateNow.data.toList.drop 207 = dktX4_ofGateNow_8 := dk_seg dksX4_ofGateNow_7 23 rfl rfl
theorem dX4_ofGateNow_0 : decode cX4_ofGateNow 0 = .ok (.aload_n 0, 1) := dk_42 (dk_at dksX4_ofGateNow_0 0 rfl rfl)
theorem dX4_ofGateNow_1 : decode cX4_ofGateNow 1 = .ok (.getfield 22, 3) := dk_180 0 22 (dk_at dksX4_ofGateNow_0 1 rfl rfl)
theorem dX4_ofGateNow_4 : decode cX4_ofGateNow 4 = .ok (.iload_n 1, 1) := dk_27 (dk_at dksX4_ofGateNow_0 4 rfl rfl)
theorem dX4_ofGateNow_5 : decode cX4_ofGateNow 5 = .ok (.invokevirtual 90, 3) := dk_182 0 90 (dk_at dksX4_ofGateNow_0 5 rfl rfl)
theorem dX4_ofGateNow_8 : decode cX4_ofGateNow 8 = .ok (.checkcast 68, 3) := dk_192 0 68 (dk_at dksX4_ofGateNow_0 8 rfl rfl)
theorem dX4_ofGateNow_11 : decode cX4_ofGateNow 11 = .ok (.astore_n 3, 1) := dk_78 (dk_at dksX4_ofGateNow_0 11 rfl rfl)
theorem dX4_ofGateNow_12 : decode cX4_ofGateNow 12 = .ok (.iconst 0, 1) := dk_3 (dk_at dksX4_ofGateNow_0 12 rfl rfl)
theorem dX4_ofGateNow_13 : decode cX4_ofGateNow 13 = .ok (.istore 4, 2) := dk_54 4 (dk_at dksX4_ofGateNow_0 13 rfl rfl)
theorem dX4_ofGateNow_15 : decode cX4_ofGateNow 15 = .ok (.iload_n 2, 1) := dk_28 (dk_at dksX4_ofGateNow_0 15 rfl rfl)
theorem dX4_ofGateNow_16 : decode cX4_ofGateNow 16 = .ok (.tableswitch 145 0 8 #[52, 57, 62, 79, 84, 89, 102, 110, 139], 52) := by decide +kernel
theorem dX4_ofGateNow_68 : decode cX4_ofGateNow 68 = .ok (.aload_n 3, 1) := dk_45 (dk_at dksX4_ofGateNow_2 0 rfl rfl)
theorem dX4_ofGateNow_69 : decode cX4_ofGateNow 69 = .ok (.getfield 71, 3) := dk_180 0 71 (dk_at dksX4_ofGateNow_2 1 rfl rfl)
theorem dX4_ofGateNow_72 : decode cX4_ofGateNow 72 = .ok (.ireturn, 1) := dk_172 (dk_at dksX4_ofGateNow_2 4 rfl rfl)
theorem dX4_ofGateNow_73 : decode cX4_ofGateNow 73 = .ok (.aload_n 3, 1) := dk_45 (dk_at dksX4_ofGateNow_2 5 rfl rfl)
theorem dX4_ofGateNow_74 : decode cX4_ofGateNow 74 = .ok (.getfield 74, 3) := dk_180 0 74 (dk_at dksX4_ofGateNow_2 6 rfl rfl)
theorem dX4_ofGateNow_77 : decode cX4_ofGateNow 77 = .ok (.ireturn, 1) := dk_172 (dk_at dksX4_ofGateNow_2 9 rfl rfl)
theorem dX4_ofGateNow_78 : decode cX4_ofGateNow 78 = .ok (.aload_n 3, 1) := dk_45 (dk_at dksX4_ofGateNow_2 10 rfl rfl)
theorem dX4_ofGateNow_79 : decode cX4_ofGateNow 79 = .ok (.aload_n 0, 1) := dk_42 (dk_at dksX4_ofGateNow_2 11 rfl rfl)
theorem dX4_ofGateNow_80 : decode cX4_ofGateNow 80 = .ok (.getfield 241, 3) := dk_180 0 241 (dk_at dksX4_ofGateNow_2 12 rfl rfl)
theorem dX4_ofGateNow_83 : decode cX4_ofGateNow 83 = .ok (.invokevirtual 244, 3) := dk_182 0 244 (dk_at dksX4_ofGateNow_2 15 rfl rfl)
theorem dX4_ofGateNow_86 : decode cX4_ofGateNow 86 = .ok (.ifCond .eq 7, 3) := dk_153 0 7 (dk_at dksX4_ofGateNow_2 18 rfl rfl)
theorem dX4_ofGateNow_89 : decode cX4_ofGateNow 89 = .ok (.iconst 1, 1) := dk_4 (dk_at dksX4_ofGateNow_2 21 rfl rfl)
theorem dX4_ofGateNow_90 : decode cX4_ofGateNow 90 = .ok (.goto 4, 3) := dk_167 0 4 (dk_at dksX4_ofGateNow_3 0 rfl rfl)
theorem dX4_ofGateNow_93 : decode cX4_ofGateNow 93 = .ok (.iconst 0, 1) := dk_3 (dk_at dksX4_ofGateNow_3 3 rfl rfl)
theorem dX4_ofGateNow_94 : decode cX4_ofGateNow 94 = .ok (.ireturn, 1) := dk_172 (dk_at dksX4_ofGateNow_3 4 rfl rfl)
theorem dX4_ofGateNow_95 : decode cX4_ofGateNow 95 = .ok (.aload_n 3, 1) := dk_45 (dk_at dksX4_ofGateNow_3 5 rfl rfl)
theorem dX4_ofGateNow_96 : decode cX4_ofGateNow 96 = .ok (.getfield 94, 3) := dk_180 0 94 (dk_at dksX4_ofGateNow_3 6 rfl rfl)
theorem dX4_ofGateNow_99 : decode cX4_ofGateNow 99 = .ok (.ireturn, 1) := dk_172 (dk_at dksX4_ofGateNow_3 9 rfl rfl)
theorem dX4_ofGateNow_100 : decode cX4_ofGateNow 100 = .ok (.aload_n 3, 1) := dk_45 (dk_at dksX4_ofGateNow_3 10 rfl rfl)
theorem dX4_ofGateNow_101 : decode cX4_ofGateNow 101 = .ok (.getfield 97, 3) := dk_180 0 97 (dk_at dksX4_ofGateNow_3 11 rfl rfl)
theorem dX4_ofGateNow_104 : decode cX4_ofGateNow 104 = .ok (.ireturn, 1) := dk_172 (dk_at dksX4_ofGateNow_3 14 rfl rfl)
theorem dX4_ofGateNow_105 : decode cX4_ofGateNow 105 = .ok (.aload_n 3, 1) := dk_45 (dk_at dksX4_ofGateNow_3 15 rfl rfl)
theorem dX4_ofGateNow_106 : decode cX4_ofGateNow 106 = .ok (.invokevirtual 198, 3) := dk_182 0 198 (dk_at dksX4_ofGateNow_3 16 rfl rfl)
theorem dX4_ofGateNow_109 : decode cX4_ofGateNow 109 = .ok (.ifCond .eq 7, 3) := dk_153 0 7 (dk_at dksX4_ofGateNow_3 19 rfl rfl)
theorem dX4_ofGateNow_112 : decode cX4_ofGateNow 112 = .ok (.iconst 1, 1) := dk_4 (dk_at dksX4_ofGateNow_3 22 rfl rfl)
theorem dX4_ofGateNow_113 : decode cX4_ofGateNow 113 = .ok (.goto 4, 3) := dk_167 0 4 (dk_at dksX4_ofGateNow_4 0 rfl rfl)
theorem dX4_ofGateNow_116 : decode cX4_ofGateNow 116 = .ok (.iconst 0, 1) := dk_3 (dk_at dksX4_ofGateNow_4 3 rfl rfl)
theorem dX4_ofGateNow_117 : decode cX4_ofGateNow 117 = .ok (.ireturn, 1) := dk_172 (dk_at dksX4_ofGateNow_4 4 rfl rfl)
theorem dX4_ofGateNow_118 : decode cX4_ofGateNow 118 = .ok (.aload_n 3, 1) := dk_45 (dk_at dksX4_ofGateNow_4 5 rfl rfl)
theorem dX4_ofGateNow_119 : decode cX4_ofGateNow 119 = .ok (.getfield 162, 3) := dk_180 0 162 (dk_at dksX4_ofGateNow_4 6 rfl rfl)
theorem dX4_ofGateNow_122 : decode cX4_ofGateNow 122 = .ok (.invokevirtual 47, 3) := dk_182 0 47 (dk_at dksX4_ofGateNow_4 9 rfl rfl)
theorem dX4_ofGateNow_125 : decode cX4_ofGateNow 125 = .ok (.ireturn, 1) := dk_172 (dk_at dksX4_ofGateNow_4 12 rfl rfl)
theorem dX4_ofGateNow_126 : decode cX4_ofGateNow 126 = .ok (.aload_n 3, 1) := dk_45 (dk_at dksX4_ofGateNow_4 13 rfl rfl)
theorem dX4_ofGateNow_127 : decode cX4_ofGateNow 127 = .ok (.getfield 162, 3) := dk_180 0 162 (dk_at dksX4_ofGateNow_4 14 rfl rfl)
theorem dX4_ofGateNow_130 : decode cX4_ofGateNow 130 = .ok (.invokevirtual 247, 3) := dk_182 0 247 (dk_at dksX4_ofGateNow_4 17 rfl rfl)
theorem dX4_ofGateNow_133 : decode cX4_ofGateNow 133 = .ok (.ifCond .eq 7, 3) := dk_153 0 7 (dk_at dksX4_ofGateNow_4 20 rfl rfl)
theorem dX4_ofGateNow_136 : decode cX4_ofGateNow 136 = .ok (.iconst (-1), 1) := dk_2 (dk_at dksX4_ofGateNow_4 23 rfl rfl)
theorem dX4_ofGateNow_137 : decode cX4_ofGateNow 137 = .ok (.goto 17, 3) := dk_167 0 17 (dk_at dksX4_ofGateNow_5 0 rfl rfl)
theorem dX4_ofGateNow_140 : decode cX4_ofGateNow 140 = .ok (.aload_n 3, 1) := dk_45 (dk_at dksX4_ofGateNow_5 3 rfl rfl)
theorem dX4_ofGateNow_141 : decode cX4_ofGateNow 141 = .ok (.getfield 162, 3) := dk_180 0 162 (dk_at dksX4_ofGateNow_5 4 rfl rfl)
theorem dX4_ofGateNow_144 : decode cX4_ofGateNow 144 = .ok (.iconst 0, 1) := dk_3 (dk_at dksX4_ofGateNow_5 7 rfl rfl)
theorem dX4_ofGateNow_145 : decode cX4_ofGateNow 145 = .ok (.invokevirtual 90, 3) := dk_182 0 90 (dk_at dksX4_ofGateNow_5 8 rfl rfl)
theorem dX4_ofGateNow_148 : decode cX4_ofGateNow 148 = .ok (.checkcast 165, 3) := dk_192 0 165 (dk_at dksX4_ofGateNow_5 11 rfl rfl)
theorem dX4_ofGateNow_151 : decode cX4_ofGateNow 151 = .ok (.invokevirtual 167, 3) := dk_182 0 167 (dk_at dksX4_ofGateNow_5 14 rfl rfl)
theorem dX4_ofGateNow_154 : decode cX4_ofGateNow 154 = .ok (.ireturn, 1) := dk_172 (dk_at dksX4_ofGateNow_5 17 rfl rfl)
theorem dX4_ofGateNow_155 : decode cX4_ofGateNow 155 = .ok (.aload_n 0, 1) := dk_42 (dk_at dksX4_ofGateNow_5 18 rfl rfl)
theorem dX4_ofGateNow_156 : decode cX4_ofGateNow 156 = .ok (.aload_n 3, 1) := dk_45 (dk_at dksX4_ofGateNow_5 19 rfl rfl)
theorem dX4_ofGateNow_157 : decode cX4_ofGateNow 157 = .ok (.invokevirtual 286, 3) := dk_182 1 30 (dk_at dksX4_ofGateNow_5 20 rfl rfl)
theorem dX4_ofGateNow_160 : decode cX4_ofGateNow 160 = .ok (.ireturn, 1) := dk_172 (dk_at dksX4_ofGateNow_5 23 rfl rfl)
theorem dX4_ofGateNow_161 : decode cX4_ofGateNow 161 = .ok (.aload_n 3, 1) := dk_45 (dk_at dksX4_ofGateNow_6 0 rfl rfl)
theorem dX4_ofGateNow_162 : decode cX4_ofGateNow 162 = .ok (.getfield 153, 3) := dk_180 0 153 (dk_at dksX4_ofGateNow_6 1 rfl rfl)
theorem dX4_ofGateNow_165 : decode cX4_ofGateNow 165 = .ok (.astore 5, 2) := dk_58 5 (dk_at dksX4_ofGateNow_6 4 rfl rfl)
theorem dX4_ofGateNow_167 : decode cX4_ofGateNow 167 = .ok (.aload 5, 2) := dk_25 5 (dk_at dksX4_ofGateNow_6 6 rfl rfl)
theorem dX4_ofGateNow_169 : decode cX4_ofGateNow 169 = .ok (.arraylength, 1) := dk_190 (dk_at dksX4_ofGateNow_6 8 rfl rfl)
theorem dX4_ofGateNow_170 : decode cX4_ofGateNow 170 = .ok (.istore 6, 2) := dk_54 6 (dk_at dksX4_ofGateNow_6 9 rfl rfl)
theorem dX4_ofGateNow_172 : decode cX4_ofGateNow 172 = .ok (.iconst 0, 1) := dk_3 (dk_at dksX4_ofGateNow_6 11 rfl rfl)
theorem dX4_ofGateNow_173 : decode cX4_ofGateNow 173 = .ok (.istore 7, 2) := dk_54 7 (dk_at dksX4_ofGateNow_6 12 rfl rfl)
theorem dX4_ofGateNow_175 : decode cX4_ofGateNow 175 = .ok (.iload 7, 2) := dk_21 7 (dk_at dksX4_ofGateNow_6 14 rfl rfl)
theorem dX4_ofGateNow_177 : decode cX4_ofGateNow 177 = .ok (.iload 6, 2) := dk_21 6 (dk_at dksX4_ofGateNow_6 16 rfl rfl)
theorem dX4_ofGateNow_179 : decode cX4_ofGateNow 179 = .ok (.if_icmp .ge 31, 3) := dk_162 0 31 (dk_at dksX4_ofGateNow_6 18 rfl rfl)
theorem dX4_ofGateNow_182 : decode cX4_ofGateNow 182 = .ok (.aload 5, 2) := dk_25 5 (dk_at dksX4_ofGateNow_6 21 rfl rfl)
theorem dX4_ofGateNow_184 : decode cX4_ofGateNow 184 = .ok (.iload 7, 2) := dk_21 7 (dk_at dksX4_ofGateNow_7 0 rfl rfl)
theorem dX4_ofGateNow_186 : decode cX4_ofGateNow 186 = .ok (.baload, 1) := dk_51 (dk_at dksX4_ofGateNow_7 2 rfl rfl)
theorem dX4_ofGateNow_187 : decode cX4_ofGateNow 187 = .ok (.istore 8, 2) := dk_54 8 (dk_at dksX4_ofGateNow_7 3 rfl rfl)
theorem dX4_ofGateNow_189 : decode cX4_ofGateNow 189 = .ok (.iload 4, 2) := dk_21 4 (dk_at dksX4_ofGateNow_7 5 rfl rfl)
theorem dX4_ofGateNow_191 : decode cX4_ofGateNow 191 = .ok (.iload 8, 2) := dk_21 8 (dk_at dksX4_ofGateNow_7 7 rfl rfl)
theorem dX4_ofGateNow_193 : decode cX4_ofGateNow 193 = .ok (.ifCond .eq 7, 3) := dk_153 0 7 (dk_at dksX4_ofGateNow_7 9 rfl rfl)
theorem dX4_ofGateNow_196 : decode cX4_ofGateNow 196 = .ok (.iconst 1, 1) := dk_4 (dk_at dksX4_ofGateNow_7 12 rfl rfl)
theorem dX4_ofGateNow_197 : decode cX4_ofGateNow 197 = .ok (.goto 4, 3) := dk_167 0 4 (dk_at dksX4_ofGateNow_7 13 rfl rfl)
theorem dX4_ofGateNow_200 : decode cX4_ofGateNow 200 = .ok (.iconst 0, 1) := dk_3 (dk_at dksX4_ofGateNow_7 16 rfl rfl)
theorem dX4_ofGateNow_201 : decode cX4_ofGateNow 201 = .ok (.iadd, 1) := dk_96 (dk_at dksX4_ofGateNow_7 17 rfl rfl)
theorem dX4_ofGateNow_202 : decode cX4_ofGateNow 202 = .ok (.istore 4, 2) := dk_54 4 (dk_at dksX4_ofGateNow_7 18 rfl rfl)
theorem dX4_ofGateNow_204 : decode cX4_ofGateNow 204 = .ok (.iinc 7 1, 3) := dk_132 7 1 (dk_at dksX4_ofGateNow_7 20 rfl rfl)
theorem dX4_ofGateNow_207 : decode cX4_ofGateNow 207 = .ok (.goto (-32), 3) := dk_167 255 224 (dk_at dksX4_ofGateNow_8 0 rfl rfl)
theorem dX4_ofGateNow_210 : decode cX4_ofGateNow 210 = .ok (.iload 4, 2) := dk_21 4 (dk_at dksX4_ofGateNow_8 3 rfl rfl)
theorem dX4_ofGateNow_212 : decode cX4_ofGateNow 212 = .ok (.ireturn, 1) := dk_172 (dk_at dksX4_ofGateNow_8 5 rfl rfl)
abbrev cX4_hiddenWorth : ByteArray := prog_14_method_37_code
def yX4_hiddenWorth : MethodName := ⟨RX4, "hiddenWorth", "(LLullabygateModel$Gate;)I"⟩
def dkwX4_hiddenWorth_4 : List UInt8 := [167, 255, 170, 28, 172]
abbrev dktX4_hiddenWorth_4 : List UInt8 := dkwX4_hiddenWorth_4 ++ []
def dkwX4_hiddenWorth_3 : List UInt8 := [154, 0, 20, 28, 42, 180, 0, 29, 29, 182, 0, 90, 192, 0, 119, 180, 0, 125, 96, 61, 132, 3, 1]
abbrev dktX4_hiddenWorth_3 : List UInt8 := dkwX4_hiddenWorth_3 ++ dktX4_hiddenWorth_4
def dkwX4_hiddenWorth_2 : List UInt8 := [159, 0, 42, 42, 180, 0, 26, 21, 4, 182, 0, 90, 192, 0, 100, 180, 0, 180, 29, 122, 4, 126]
abbrev dktX4_hiddenWorth_2 : List UInt8 := dkwX4_hiddenWorth_2 ++ dktX4_hiddenWorth_3
def dkwX4_hiddenWorth_1 : List UInt8 := [192, 0, 119, 180, 0, 131, 54, 4, 21, 4, 16, 100, 162, 0, 52, 43, 21, 4, 182, 0, 183, 2]
abbrev dktX4_hiddenWorth_1 : List UInt8 := dkwX4_hiddenWorth_1 ++ dktX4_hiddenWorth_2
def dkwX4_hiddenWorth_0 : List UInt8 := [3, 61, 3, 62, 29, 42, 180, 0, 29, 182, 0, 47, 162, 0, 81, 42, 180, 0, 29, 29, 182, 0, 90]
abbrev dktX4_hiddenWorth_0 : List UInt8 := dkwX4_hiddenWorth_0 ++ dktX4_hiddenWorth_1
theorem dksX4_hiddenWorth_0 : cX4_hiddenWorth.data.toList.drop 0 = dktX4_hiddenWorth_0 := by decide +kernel
theorem dksX4_hiddenWorth_1 : cX4_hiddenWorth.data.toList.drop 23 = dktX4_hiddenWorth_1 := dk_seg dksX4_hiddenWorth_0 23 rfl rfl
theorem dksX4_hiddenWorth_2 : cX4_hiddenWorth.data.toList.drop 45 = dktX4_hiddenWorth_2 := dk_seg dksX4_hiddenWorth_1 22 rfl rfl
theorem dksX4_hiddenWorth_3 : cX4_hiddenWorth.data.toList.drop 67 = dktX4_hiddenWorth_3 := dk_seg dksX4_hiddenWorth_2 22 rfl rfl
theorem dksX4_hiddenWorth_4 : cX4_hiddenWorth.data.toList.drop 90 = dktX4_hiddenWorth_4 := dk_seg dksX4_hiddenWorth_3 23 rfl rfl
theorem dX4_hiddenWorth_0 : decode cX4_hiddenWorth 0 = .ok (.iconst 0, 1) := dk_3 (dk_at dksX4_hiddenWorth_0 0 rfl rfl)
theorem dX4_hiddenWorth_1 : decode cX4_hiddenWorth 1 = .ok (.istore_n 2, 1) := dk_61 (dk_at dksX4_hiddenWorth_0 1 rfl rfl)
theorem dX4_hiddenWorth_2 : decode cX4_hiddenWorth 2 = .ok (.iconst 0, 1) := dk_3 (dk_at dksX4_hiddenWorth_0 2 rfl rfl)
theorem dX4_hiddenWorth_3 : decode cX4_hiddenWorth 3 = .ok (.istore_n 3, 1) := dk_62 (dk_at dksX4_hiddenWorth_0 3 rfl rfl)
theorem dX4_hiddenWorth_4 : decode cX4_hiddenWorth 4 = .ok (.iload_n 3, 1) := dk_29 (dk_at dksX4_hiddenWorth_0 4 rfl rfl)
theorem dX4_hiddenWorth_5 : decode cX4_hiddenWorth 5 = .ok (.aload_n 0, 1) := dk_42 (dk_at dksX4_hiddenWorth_0 5 rfl rfl)
theorem dX4_hiddenWorth_6 : decode cX4_hiddenWorth 6 = .ok (.getfield 29, 3) := dk_180 0 29 (dk_at dksX4_hiddenWorth_0 6 rfl rfl)
theorem dX4_hiddenWorth_9 : decode cX4_hiddenWorth 9 = .ok (.invokevirtual 47, 3) := dk_182 0 47 (dk_at dksX4_hiddenWorth_0 9 rfl rfl)
theorem dX4_hiddenWorth_12 : decode cX4_hiddenWorth 12 = .ok (.if_icmp .ge 81, 3) := dk_162 0 81 (dk_at dksX4_hiddenWorth_0 12 rfl rfl)
theorem dX4_hiddenWorth_15 : decode cX4_hiddenWorth 15 = .ok (.aload_n 0, 1) := dk_42 (dk_at dksX4_hiddenWorth_0 15 rfl rfl)
theorem dX4_hiddenWorth_16 : decode cX4_hiddenWorth 16 = .ok (.getfield 29, 3) := dk_180 0 29 (dk_at dksX4_hiddenWorth_0 16 rfl rfl)
theorem dX4_hiddenWorth_19 : decode cX4_hiddenWorth 19 = .ok (.iload_n 3, 1) := dk_29 (dk_at dksX4_hiddenWorth_0 19 rfl rfl)
theorem dX4_hiddenWorth_20 : decode cX4_hiddenWorth 20 = .ok (.invokevirtual 90, 3) := dk_182 0 90 (dk_at dksX4_hiddenWorth_0 20 rfl rfl)
theorem dX4_hiddenWorth_23 : decode cX4_hiddenWorth 23 = .ok (.checkcast 119, 3) := dk_192 0 119 (dk_at dksX4_hiddenWorth_1 0 rfl rfl)
theorem dX4_hiddenWorth_26 : decode cX4_hiddenWorth 26 = .ok (.getfield 131, 3) := dk_180 0 131 (dk_at dksX4_hiddenWorth_1 3 rfl rfl)
theorem dX4_hiddenWorth_29 : decode cX4_hiddenWorth 29 = .ok (.istore 4, 2) := dk_54 4 (dk_at dksX4_hiddenWorth_1 6 rfl rfl)
theorem dX4_hiddenWorth_31 : decode cX4_hiddenWorth 31 = .ok (.iload 4, 2) := dk_21 4 (dk_at dksX4_hiddenWorth_1 8 rfl rfl)
theorem dX4_hiddenWorth_33 : decode cX4_hiddenWorth 33 = .ok (.bipush 100, 2) := dk_16 100 (dk_at dksX4_hiddenWorth_1 10 rfl rfl)
theorem dX4_hiddenWorth_35 : decode cX4_hiddenWorth 35 = .ok (.if_icmp .ge 52, 3) := dk_162 0 52 (dk_at dksX4_hiddenWorth_1 12 rfl rfl)
theorem dX4_hiddenWorth_38 : decode cX4_hiddenWorth 38 = .ok (.aload_n 1, 1) := dk_43 (dk_at dksX4_hiddenWorth_1 15 rfl rfl)
theorem dX4_hiddenWorth_39 : decode cX4_hiddenWorth 39 = .ok (.iload 4, 2) := dk_21 4 (dk_at dksX4_hiddenWorth_1 16 rfl rfl)
theorem dX4_hiddenWorth_41 : decode cX4_hiddenWorth 41 = .ok (.invokevirtual 183, 3) := dk_182 0 183 (dk_at dksX4_hiddenWorth_1 18 rfl rfl)
theorem dX4_hiddenWorth_44 : decode cX4_hiddenWorth 44 = .ok (.iconst (-1), 1) := dk_2 (dk_at dksX4_hiddenWorth_1 21 rfl rfl)
theorem dX4_hiddenWorth_45 : decode cX4_hiddenWorth 45 = .ok (.if_icmp .eq 42, 3) := dk_159 0 42 (dk_at dksX4_hiddenWorth_2 0 rfl rfl)
theorem dX4_hiddenWorth_48 : decode cX4_hiddenWorth 48 = .ok (.aload_n 0, 1) := dk_42 (dk_at dksX4_hiddenWorth_2 3 rfl rfl)
theorem dX4_hiddenWorth_49 : decode cX4_hiddenWorth 49 = .ok (.getfield 26, 3) := dk_180 0 26 (dk_at dksX4_hiddenWorth_2 4 rfl rfl)
theorem dX4_hiddenWorth_52 : decode cX4_hiddenWorth 52 = .ok (.iload 4, 2) := dk_21 4 (dk_at dksX4_hiddenWorth_2 7 rfl rfl)
theorem dX4_hiddenWorth_54 : decode cX4_hiddenWorth 54 = .ok (.invokevirtual 90, 3) := dk_182 0 90 (dk_at dksX4_hiddenWorth_2 9 rfl rfl)
theorem dX4_hiddenWorth_57 : decode cX4_hiddenWorth 57 = .ok (.checkcast 100, 3) := dk_192 0 100 (dk_at dksX4_hiddenWorth_2 12 rfl rfl)
theorem dX4_hiddenWorth_60 : decode cX4_hiddenWorth 60 = .ok (.getfield 180, 3) := dk_180 0 180 (dk_at dksX4_hiddenWorth_2 15 rfl rfl)
theorem dX4_hiddenWorth_63 : decode cX4_hiddenWorth 63 = .ok (.iload_n 3, 1) := dk_29 (dk_at dksX4_hiddenWorth_2 18 rfl rfl)
theorem dX4_hiddenWorth_64 : decode cX4_hiddenWorth 64 = .ok (.ishr, 1) := dk_122 (dk_at dksX4_hiddenWorth_2 19 rfl rfl)
theorem dX4_hiddenWorth_65 : decode cX4_hiddenWorth 65 = .ok (.iconst 1, 1) := dk_4 (dk_at dksX4_hiddenWorth_2 20 rfl rfl)
theorem dX4_hiddenWorth_66 : decode cX4_hiddenWorth 66 = .ok (.iand, 1) := dk_126 (dk_at dksX4_hiddenWorth_2 21 rfl rfl)
theorem dX4_hiddenWorth_67 : decode cX4_hiddenWorth 67 = .ok (.ifCond .ne 20, 3) := dk_154 0 20 (dk_at dksX4_hiddenWorth_3 0 rfl rfl)
theorem dX4_hiddenWorth_70 : decode cX4_hiddenWorth 70 = .ok (.iload_n 2, 1) := dk_28 (dk_at dksX4_hiddenWorth_3 3 rfl rfl)
theorem dX4_hiddenWorth_71 : decode cX4_hiddenWorth 71 = .ok (.aload_n 0, 1) := dk_42 (dk_at dksX4_hiddenWorth_3 4 rfl rfl)
theorem dX4_hiddenWorth_72 : decode cX4_hiddenWorth 72 = .ok (.getfield 29, 3) := dk_180 0 29 (dk_at dksX4_hiddenWorth_3 5 rfl rfl)
theorem dX4_hiddenWorth_75 : decode cX4_hiddenWorth 75 = .ok (.iload_n 3, 1) := dk_29 (dk_at dksX4_hiddenWorth_3 8 rfl rfl)
theorem dX4_hiddenWorth_76 : decode cX4_hiddenWorth 76 = .ok (.invokevirtual 90, 3) := dk_182 0 90 (dk_at dksX4_hiddenWorth_3 9 rfl rfl)
theorem dX4_hiddenWorth_79 : decode cX4_hiddenWorth 79 = .ok (.checkcast 119, 3) := dk_192 0 119 (dk_at dksX4_hiddenWorth_3 12 rfl rfl)
theorem dX4_hiddenWorth_82 : decode cX4_hiddenWorth 82 = .ok (.getfield 125, 3) := dk_180 0 125 (dk_at dksX4_hiddenWorth_3 15 rfl rfl)
theorem dX4_hiddenWorth_85 : decode cX4_hiddenWorth 85 = .ok (.iadd, 1) := dk_96 (dk_at dksX4_hiddenWorth_3 18 rfl rfl)
theorem dX4_hiddenWorth_86 : decode cX4_hiddenWorth 86 = .ok (.istore_n 2, 1) := dk_61 (dk_at dksX4_hiddenWorth_3 19 rfl rfl)
theorem dX4_hiddenWorth_87 : decode cX4_hiddenWorth 87 = .ok (.iinc 3 1, 3) := dk_132 3 1 (dk_at dksX4_hiddenWorth_3 20 rfl rfl)
theorem dX4_hiddenWorth_90 : decode cX4_hiddenWorth 90 = .ok (.goto (-86), 3) := dk_167 255 170 (dk_at dksX4_hiddenWorth_4 0 rfl rfl)
theorem dX4_hiddenWorth_93 : decode cX4_hiddenWorth 93 = .ok (.iload_n 2, 1) := dk_28 (dk_at dksX4_hiddenWorth_4 3 rfl rfl)
theorem dX4_hiddenWorth_94 : decode cX4_hiddenWorth 94 = .ok (.ireturn, 1) := dk_172 (dk_at dksX4_hiddenWorth_4 4 rfl rfl)
abbrev cX4_ofSleeper : ByteArray := prog_14_method_42_code
def yX4_ofSleeper : MethodName := ⟨RX4, "ofSleeper", "(II)I"⟩
def dkwX4_ofSleeper_1 : List UInt8 := [184, 0, 43, 153, 0, 12, 42, 27, 28, 182, 1, 40, 167, 0, 8, 42, 5, 182, 0, 55, 172]
abbrev dktX4_ofSleeper_1 : List UInt8 := dkwX4_ofSleeper_1 ++ []
def dkwX4_ofSleeper_0 : List UInt8 := [42, 3, 181, 0, 40, 42, 27, 182, 0, 113, 154, 0, 9, 42, 4, 182, 0, 55, 172, 28, 3, 16, 8]
abbrev dktX4_ofSleeper_0 : List UInt8 := dkwX4_ofSleeper_0 ++ dktX4_ofSleeper_1
theorem dksX4_ofSleeper_0 : cX4_ofSleeper.data.toList.drop 0 = dktX4_ofSleeper_0 := by decide +kernel
theorem dksX4_ofSleeper_1 : cX4_ofSleeper.data.toList.drop 23 = dktX4_ofSleeper_1 := dk_seg dksX4_ofSleeper_0 23 rfl rfl
theorem dX4_ofSleeper_0 : decode cX4_ofSleeper 0 = .ok (.aload_n 0, 1) := dk_42 (dk_at dksX4_ofSleeper_0 0 rfl rfl)
theorem dX4_ofSleeper_1 : decode cX4_ofSleeper 1 = .ok (.iconst 0, 1) := dk_3 (dk_at dksX4_ofSleeper_0 1 rfl rfl)
theorem dX4_ofSleeper_2 : decode cX4_ofSleeper 2 = .ok (.putfield 40, 3) := dk_181 0 40 (dk_at dksX4_ofSleeper_0 2 rfl rfl)
theorem dX4_ofSleeper_5 : decode cX4_ofSleeper 5 = .ok (.aload_n 0, 1) := dk_42 (dk_at dksX4_ofSleeper_0 5 rfl rfl)
theorem dX4_ofSleeper_6 : decode cX4_ofSleeper 6 = .ok (.iload_n 1, 1) := dk_27 (dk_at dksX4_ofSleeper_0 6 rfl rfl)
theorem dX4_ofSleeper_7 : decode cX4_ofSleeper 7 = .ok (.invokevirtual 113, 3) := dk_182 0 113 (dk_at dksX4_ofSleeper_0 7 rfl rfl)
theorem dX4_ofSleeper_10 : decode cX4_ofSleeper 10 = .ok (.ifCond .ne 9, 3) := dk_154 0 9 (dk_at dksX4_ofSleeper_0 10 rfl rfl)
theorem dX4_ofSleeper_13 : decode cX4_ofSleeper 13 = .ok (.aload_n 0, 1) := dk_42 (dk_at dksX4_ofSleeper_0 13 rfl rfl)
theorem dX4_ofSleeper_14 : decode cX4_ofSleeper 14 = .ok (.iconst 1, 1) := dk_4 (dk_at dksX4_ofSleeper_0 14 rfl rfl)
theorem dX4_ofSleeper_15 : decode cX4_ofSleeper 15 = .ok (.invokevirtual 55, 3) := dk_182 0 55 (dk_at dksX4_ofSleeper_0 15 rfl rfl)
theorem dX4_ofSleeper_18 : decode cX4_ofSleeper 18 = .ok (.ireturn, 1) := dk_172 (dk_at dksX4_ofSleeper_0 18 rfl rfl)
theorem dX4_ofSleeper_19 : decode cX4_ofSleeper 19 = .ok (.iload_n 2, 1) := dk_28 (dk_at dksX4_ofSleeper_0 19 rfl rfl)
theorem dX4_ofSleeper_20 : decode cX4_ofSleeper 20 = .ok (.iconst 0, 1) := dk_3 (dk_at dksX4_ofSleeper_0 20 rfl rfl)
theorem dX4_ofSleeper_21 : decode cX4_ofSleeper 21 = .ok (.bipush 8, 2) := dk_16 8 (dk_at dksX4_ofSleeper_0 21 rfl rfl)
theorem dX4_ofSleeper_23 : decode cX4_ofSleeper 23 = .ok (.invokestatic 43, 3) := dk_184 0 43 (dk_at dksX4_ofSleeper_1 0 rfl rfl)
theorem dX4_ofSleeper_26 : decode cX4_ofSleeper 26 = .ok (.ifCond .eq 12, 3) := dk_153 0 12 (dk_at dksX4_ofSleeper_1 3 rfl rfl)
theorem dX4_ofSleeper_29 : decode cX4_ofSleeper 29 = .ok (.aload_n 0, 1) := dk_42 (dk_at dksX4_ofSleeper_1 6 rfl rfl)
theorem dX4_ofSleeper_30 : decode cX4_ofSleeper 30 = .ok (.iload_n 1, 1) := dk_27 (dk_at dksX4_ofSleeper_1 7 rfl rfl)
theorem dX4_ofSleeper_31 : decode cX4_ofSleeper 31 = .ok (.iload_n 2, 1) := dk_28 (dk_at dksX4_ofSleeper_1 8 rfl rfl)
theorem dX4_ofSleeper_32 : decode cX4_ofSleeper 32 = .ok (.invokevirtual 296, 3) := dk_182 1 40 (dk_at dksX4_ofSleeper_1 9 rfl rfl)
theorem dX4_ofSleeper_35 : decode cX4_ofSleeper 35 = .ok (.goto 8, 3) := dk_167 0 8 (dk_at dksX4_ofSleeper_1 12 rfl rfl)
theorem dX4_ofSleeper_38 : decode cX4_ofSleeper 38 = .ok (.aload_n 0, 1) := dk_42 (dk_at dksX4_ofSleeper_1 15 rfl rfl)
theorem dX4_ofSleeper_39 : decode cX4_ofSleeper 39 = .ok (.iconst 2, 1) := dk_5 (dk_at dksX4_ofSleeper_1 16 rfl rfl)
theorem dX4_ofSleeper_40 : decode cX4_ofSleeper 40 = .ok (.invokevirtual 55, 3) := dk_182 0 55 (dk_at dksX4_ofSleeper_1 17 rfl rfl)
theorem dX4_ofSleeper_43 : decode cX4_ofSleeper 43 = .ok (.ireturn, 1) := dk_172 (dk_at dksX4_ofSleeper_1 20 rfl rfl)
abbrev cX4_ofSleeperNow : ByteArray := prog_14_method_41_code
def yX4_ofSleeperNow : MethodName := ⟨RX4, "ofSleeperNow", "(II)I"⟩
def dkwX4_ofSleeperNow_7 : List UInt8 := [21, 4, 172]
abbrev dktX4_ofSleeperNow_7 : List UInt8 := dkwX4_ofSleeperNow_7 ++ []
def dkwX4_ofSleeperNow_6 : List UInt8 := [192, 0, 165, 182, 0, 167, 27, 160, 0, 7, 4, 167, 0, 4, 3, 96, 54, 4, 132, 5, 3, 167, 255, 212]
abbrev dktX4_ofSleeperNow_6 : List UInt8 := dkwX4_ofSleeperNow_6 ++ dktX4_ofSleeperNow_7
def dkwX4_ofSleeperNow_5 : List UInt8 := [21, 5, 42, 180, 0, 32, 182, 0, 47, 162, 0, 38, 21, 4, 42, 180, 0, 32, 21, 5, 182, 0, 90]
abbrev dktX4_ofSleeperNow_5 : List UInt8 := dkwX4_ofSleeperNow_5 ++ dktX4_ofSleeperNow_6
def dkwX4_ofSleeperNow_4 : List UInt8 := [182, 0, 183, 172, 42, 27, 182, 0, 156, 172, 45, 180, 0, 146, 172, 42, 27, 182, 1, 37, 172, 3, 54, 5]
abbrev dktX4_ofSleeperNow_4 : List UInt8 := dkwX4_ofSleeperNow_4 ++ dktX4_ofSleeperNow_5
def dkwX4_ofSleeperNow_3 : List UInt8 := [2, 160, 0, 7, 2, 167, 0, 21, 42, 180, 0, 22, 45, 180, 0, 177, 182, 0, 90, 192, 0, 68, 27]
abbrev dktX4_ofSleeperNow_3 : List UInt8 := dkwX4_ofSleeperNow_3 ++ dktX4_ofSleeperNow_4
def dkwX4_ofSleeperNow_2 : List UInt8 := [45, 180, 0, 103, 172, 45, 180, 0, 110, 172, 45, 180, 0, 116, 172, 45, 180, 0, 177, 172, 45, 180, 0, 177]
abbrev dktX4_ofSleeperNow_2 : List UInt8 := dkwX4_ofSleeperNow_2 ++ dktX4_ofSleeperNow_3
def dkwX4_ofSleeperNow_1 : List UInt8 := [170, 0, 0, 0, 0, 0, 0, 116, 0, 0, 0, 0, 0, 0, 0, 7, 0, 0, 0, 48, 0, 0, 0, 53, 0, 0, 0, 58, 0, 0, 0, 63, 0, 0, 0, 68, 0, 0, 0, 99, 0, 0, 0, 105, 0, 0, 0, 110]
abbrev dktX4_ofSleeperNow_1 : List UInt8 := dkwX4_ofSleeperNow_1 ++ dktX4_ofSleeperNow_2
def dkwX4_ofSleeperNow_0 : List UInt8 := [42, 180, 0, 26, 27, 182, 0, 90, 192, 0, 100, 78, 3, 54, 4, 28]
abbrev dktX4_ofSleeperNow_0 : List UInt8 := dkwX4_ofSleeperNow_0 ++ dktX4_ofSleeperNow_1
theorem dksX4_ofSleeperNow_0 : cX4_ofSleeperNow.data.toList.drop 0 = dktX4_ofSleeperNow_0 := by decide +kernel
theorem dksX4_ofSleeperNow_1 : cX4_ofSleeperNow.data.toList.drop 16 = dktX4_ofSleeperNow_1 := dk_seg dksX4_ofSleeperNow_0 16 rfl rfl
theorem dksX4_ofSleeperNow_2 : cX4_ofSleeperNow.data.toList.drop 64 = dktX4_ofSleeperNow_2 := dk_seg dksX4_ofSleeperNow_1 48 rfl rfl
theorem dksX4_ofSleeperNow_3 : cX4_ofSleeperNow.data.toList.drop 88 = dktX4_ofSleeperNow_3 := dk_seg dksX4_ofSleeperNow_2 24 rfl rfl
theorem dksX4_ofSleeperNow_4 : cX4_ofSleeperNow.data.toList.drop 111 = dktX4_ofSleeperNow_4 := dk_seg dksX4_ofSleeperNow_3 23 rfl rfl
theorem dksX4_ofSleeperNow_5 : cX4_ofSleeperNow.data.toList.drop 135 = dktX4_ofSleeperNow_5 := dk_seg dksX4_ofSleeperNow_4 24 rfl rfl
theorem dksX4_ofSleeperNow_6 : cX4_ofSleeperNow.data.toList.drop 158 = dktX4_ofSleeperNow_6 := dk_seg dksX4_ofSleeperNow_5 23 rfl rfl
theorem dksX4_ofSleeperNow_7 : cX4_ofSleeperNow.data.toList.drop 182 = dktX4_ofSleeperNow_7 := dk_seg dksX4_ofSleeperNow_6 24 rfl rfl
theorem dX4_ofSleeperNow_0 : decode cX4_ofSleeperNow 0 = .ok (.aload_n 0, 1) := dk_42 (dk_at dksX4_ofSleeperNow_0 0 rfl rfl)
theorem dX4_ofSleeperNow_1 : decode cX4_ofSleeperNow 1 = .ok (.getfield 26, 3) := dk_180 0 26 (dk_at dksX4_ofSleeperNow_0 1 rfl rfl)
theorem dX4_ofSleeperNow_4 : decode cX4_ofSleeperNow 4 = .ok (.iload_n 1, 1) := dk_27 (dk_at dksX4_ofSleeperNow_0 4 rfl rfl)
theorem dX4_ofSleeperNow_5 : decode cX4_ofSleeperNow 5 = .ok (.invokevirtual 90, 3) := dk_182 0 90 (dk_at dksX4_ofSleeperNow_0 5 rfl rfl)
theorem dX4_ofSleeperNow_8 : decode cX4_ofSleeperNow 8 = .ok (.checkcast 100, 3) := dk_192 0 100 (dk_at dksX4_ofSleeperNow_0 8 rfl rfl)
theorem dX4_ofSleeperNow_11 : decode cX4_ofSleeperNow 11 = .ok (.astore_n 3, 1) := dk_78 (dk_at dksX4_ofSleeperNow_0 11 rfl rfl)
theorem dX4_ofSleeperNow_12 : decode cX4_ofSleeperNow 12 = .ok (.iconst 0, 1) := dk_3 (dk_at dksX4_ofSleeperNow_0 12 rfl rfl)
theorem dX4_ofSleeperNow_13 : decode cX4_ofSleeperNow 13 = .ok (.istore 4, 2) := dk_54 4 (dk_at dksX4_ofSleeperNow_0 13 rfl rfl)
theorem dX4_ofSleeperNow_15 : decode cX4_ofSleeperNow 15 = .ok (.iload_n 2, 1) := dk_28 (dk_at dksX4_ofSleeperNow_0 15 rfl rfl)
theorem dX4_ofSleeperNow_16 : decode cX4_ofSleeperNow 16 = .ok (.tableswitch 116 0 7 #[48, 53, 58, 63, 68, 99, 105, 110], 48) := by decide +kernel
theorem dX4_ofSleeperNow_64 : decode cX4_ofSleeperNow 64 = .ok (.aload_n 3, 1) := dk_45 (dk_at dksX4_ofSleeperNow_2 0 rfl rfl)
theorem dX4_ofSleeperNow_65 : decode cX4_ofSleeperNow 65 = .ok (.getfield 103, 3) := dk_180 0 103 (dk_at dksX4_ofSleeperNow_2 1 rfl rfl)
theorem dX4_ofSleeperNow_68 : decode cX4_ofSleeperNow 68 = .ok (.ireturn, 1) := dk_172 (dk_at dksX4_ofSleeperNow_2 4 rfl rfl)
theorem dX4_ofSleeperNow_69 : decode cX4_ofSleeperNow 69 = .ok (.aload_n 3, 1) := dk_45 (dk_at dksX4_ofSleeperNow_2 5 rfl rfl)
theorem dX4_ofSleeperNow_70 : decode cX4_ofSleeperNow 70 = .ok (.getfield 110, 3) := dk_180 0 110 (dk_at dksX4_ofSleeperNow_2 6 rfl rfl)
theorem dX4_ofSleeperNow_73 : decode cX4_ofSleeperNow 73 = .ok (.ireturn, 1) := dk_172 (dk_at dksX4_ofSleeperNow_2 9 rfl rfl)
theorem dX4_ofSleeperNow_74 : decode cX4_ofSleeperNow 74 = .ok (.aload_n 3, 1) := dk_45 (dk_at dksX4_ofSleeperNow_2 10 rfl rfl)
theorem dX4_ofSleeperNow_75 : decode cX4_ofSleeperNow 75 = .ok (.getfield 116, 3) := dk_180 0 116 (dk_at dksX4_ofSleeperNow_2 11 rfl rfl)
theorem dX4_ofSleeperNow_78 : decode cX4_ofSleeperNow 78 = .ok (.ireturn, 1) := dk_172 (dk_at dksX4_ofSleeperNow_2 14 rfl rfl)
theorem dX4_ofSleeperNow_79 : decode cX4_ofSleeperNow 79 = .ok (.aload_n 3, 1) := dk_45 (dk_at dksX4_ofSleeperNow_2 15 rfl rfl)
theorem dX4_ofSleeperNow_80 : decode cX4_ofSleeperNow 80 = .ok (.getfield 177, 3) := dk_180 0 177 (dk_at dksX4_ofSleeperNow_2 16 rfl rfl)
theorem dX4_ofSleeperNow_83 : decode cX4_ofSleeperNow 83 = .ok (.ireturn, 1) := dk_172 (dk_at dksX4_ofSleeperNow_2 19 rfl rfl)
theorem dX4_ofSleeperNow_84 : decode cX4_ofSleeperNow 84 = .ok (.aload_n 3, 1) := dk_45 (dk_at dksX4_ofSleeperNow_2 20 rfl rfl)
theorem dX4_ofSleeperNow_85 : decode cX4_ofSleeperNow 85 = .ok (.getfield 177, 3) := dk_180 0 177 (dk_at dksX4_ofSleeperNow_2 21 rfl rfl)
theorem dX4_ofSleeperNow_88 : decode cX4_ofSleeperNow 88 = .ok (.iconst (-1), 1) := dk_2 (dk_at dksX4_ofSleeperNow_3 0 rfl rfl)
theorem dX4_ofSleeperNow_89 : decode cX4_ofSleeperNow 89 = .ok (.if_icmp .ne 7, 3) := dk_160 0 7 (dk_at dksX4_ofSleeperNow_3 1 rfl rfl)
theorem dX4_ofSleeperNow_92 : decode cX4_ofSleeperNow 92 = .ok (.iconst (-1), 1) := dk_2 (dk_at dksX4_ofSleeperNow_3 4 rfl rfl)
theorem dX4_ofSleeperNow_93 : decode cX4_ofSleeperNow 93 = .ok (.goto 21, 3) := dk_167 0 21 (dk_at dksX4_ofSleeperNow_3 5 rfl rfl)
theorem dX4_ofSleeperNow_96 : decode cX4_ofSleeperNow 96 = .ok (.aload_n 0, 1) := dk_42 (dk_at dksX4_ofSleeperNow_3 8 rfl rfl)
theorem dX4_ofSleeperNow_97 : decode cX4_ofSleeperNow 97 = .ok (.getfield 22, 3) := dk_180 0 22 (dk_at dksX4_ofSleeperNow_3 9 rfl rfl)
theorem dX4_ofSleeperNow_100 : decode cX4_ofSleeperNow 100 = .ok (.aload_n 3, 1) := dk_45 (dk_at dksX4_ofSleeperNow_3 12 rfl rfl)
theorem dX4_ofSleeperNow_101 : decode cX4_ofSleeperNow 101 = .ok (.getfield 177, 3) := dk_180 0 177 (dk_at dksX4_ofSleeperNow_3 13 rfl rfl)
theorem dX4_ofSleeperNow_104 : decode cX4_ofSleeperNow 104 = .ok (.invokevirtual 90, 3) := dk_182 0 90 (dk_at dksX4_ofSleeperNow_3 16 rfl rfl)
theorem dX4_ofSleeperNow_107 : decode cX4_ofSleeperNow 107 = .ok (.checkcast 68, 3) := dk_192 0 68 (dk_at dksX4_ofSleeperNow_3 19 rfl rfl)
theorem dX4_ofSleeperNow_110 : decode cX4_ofSleeperNow 110 = .ok (.iload_n 1, 1) := dk_27 (dk_at dksX4_ofSleeperNow_3 22 rfl rfl)
theorem dX4_ofSleeperNow_111 : decode cX4_ofSleeperNow 111 = .ok (.invokevirtual 183, 3) := dk_182 0 183 (dk_at dksX4_ofSleeperNow_4 0 rfl rfl)
theorem dX4_ofSleeperNow_114 : decode cX4_ofSleeperNow 114 = .ok (.ireturn, 1) := dk_172 (dk_at dksX4_ofSleeperNow_4 3 rfl rfl)
theorem dX4_ofSleeperNow_115 : decode cX4_ofSleeperNow 115 = .ok (.aload_n 0, 1) := dk_42 (dk_at dksX4_ofSleeperNow_4 4 rfl rfl)
theorem dX4_ofSleeperNow_116 : decode cX4_ofSleeperNow 116 = .ok (.iload_n 1, 1) := dk_27 (dk_at dksX4_ofSleeperNow_4 5 rfl rfl)
theorem dX4_ofSleeperNow_117 : decode cX4_ofSleeperNow 117 = .ok (.invokevirtual 156, 3) := dk_182 0 156 (dk_at dksX4_ofSleeperNow_4 6 rfl rfl)
theorem dX4_ofSleeperNow_120 : decode cX4_ofSleeperNow 120 = .ok (.ireturn, 1) := dk_172 (dk_at dksX4_ofSleeperNow_4 9 rfl rfl)
theorem dX4_ofSleeperNow_121 : decode cX4_ofSleeperNow 121 = .ok (.aload_n 3, 1) := dk_45 (dk_at dksX4_ofSleeperNow_4 10 rfl rfl)
theorem dX4_ofSleeperNow_122 : decode cX4_ofSleeperNow 122 = .ok (.getfield 146, 3) := dk_180 0 146 (dk_at dksX4_ofSleeperNow_4 11 rfl rfl)
theorem dX4_ofSleeperNow_125 : decode cX4_ofSleeperNow 125 = .ok (.ireturn, 1) := dk_172 (dk_at dksX4_ofSleeperNow_4 14 rfl rfl)
theorem dX4_ofSleeperNow_126 : decode cX4_ofSleeperNow 126 = .ok (.aload_n 0, 1) := dk_42 (dk_at dksX4_ofSleeperNow_4 15 rfl rfl)
theorem dX4_ofSleeperNow_127 : decode cX4_ofSleeperNow 127 = .ok (.iload_n 1, 1) := dk_27 (dk_at dksX4_ofSleeperNow_4 16 rfl rfl)
theorem dX4_ofSleeperNow_128 : decode cX4_ofSleeperNow 128 = .ok (.invokevirtual 293, 3) := dk_182 1 37 (dk_at dksX4_ofSleeperNow_4 17 rfl rfl)
theorem dX4_ofSleeperNow_131 : decode cX4_ofSleeperNow 131 = .ok (.ireturn, 1) := dk_172 (dk_at dksX4_ofSleeperNow_4 20 rfl rfl)
theorem dX4_ofSleeperNow_132 : decode cX4_ofSleeperNow 132 = .ok (.iconst 0, 1) := dk_3 (dk_at dksX4_ofSleeperNow_4 21 rfl rfl)
theorem dX4_ofSleeperNow_133 : decode cX4_ofSleeperNow 133 = .ok (.istore 5, 2) := dk_54 5 (dk_at dksX4_ofSleeperNow_4 22 rfl rfl)
theorem dX4_ofSleeperNow_135 : decode cX4_ofSleeperNow 135 = .ok (.iload 5, 2) := dk_21 5 (dk_at dksX4_ofSleeperNow_5 0 rfl rfl)
theorem dX4_ofSleeperNow_137 : decode cX4_ofSleeperNow 137 = .ok (.aload_n 0, 1) := dk_42 (dk_at dksX4_ofSleeperNow_5 2 rfl rfl)
theorem dX4_ofSleeperNow_138 : decode cX4_ofSleeperNow 138 = .ok (.getfield 32, 3) := dk_180 0 32 (dk_at dksX4_ofSleeperNow_5 3 rfl rfl)
theorem dX4_ofSleeperNow_141 : decode cX4_ofSleeperNow 141 = .ok (.invokevirtual 47, 3) := dk_182 0 47 (dk_at dksX4_ofSleeperNow_5 6 rfl rfl)
theorem dX4_ofSleeperNow_144 : decode cX4_ofSleeperNow 144 = .ok (.if_icmp .ge 38, 3) := dk_162 0 38 (dk_at dksX4_ofSleeperNow_5 9 rfl rfl)
theorem dX4_ofSleeperNow_147 : decode cX4_ofSleeperNow 147 = .ok (.iload 4, 2) := dk_21 4 (dk_at dksX4_ofSleeperNow_5 12 rfl rfl)
theorem dX4_ofSleeperNow_149 : decode cX4_ofSleeperNow 149 = .ok (.aload_n 0, 1) := dk_42 (dk_at dksX4_ofSleeperNow_5 14 rfl rfl)
theorem dX4_ofSleeperNow_150 : decode cX4_ofSleeperNow 150 = .ok (.getfield 32, 3) := dk_180 0 32 (dk_at dksX4_ofSleeperNow_5 15 rfl rfl)
theorem dX4_ofSleeperNow_153 : decode cX4_ofSleeperNow 153 = .ok (.iload 5, 2) := dk_21 5 (dk_at dksX4_ofSleeperNow_5 18 rfl rfl)
theorem dX4_ofSleeperNow_155 : decode cX4_ofSleeperNow 155 = .ok (.invokevirtual 90, 3) := dk_182 0 90 (dk_at dksX4_ofSleeperNow_5 20 rfl rfl)
theorem dX4_ofSleeperNow_158 : decode cX4_ofSleeperNow 158 = .ok (.checkcast 165, 3) := dk_192 0 165 (dk_at dksX4_ofSleeperNow_6 0 rfl rfl)
theorem dX4_ofSleeperNow_161 : decode cX4_ofSleeperNow 161 = .ok (.invokevirtual 167, 3) := dk_182 0 167 (dk_at dksX4_ofSleeperNow_6 3 rfl rfl)
theorem dX4_ofSleeperNow_164 : decode cX4_ofSleeperNow 164 = .ok (.iload_n 1, 1) := dk_27 (dk_at dksX4_ofSleeperNow_6 6 rfl rfl)
theorem dX4_ofSleeperNow_165 : decode cX4_ofSleeperNow 165 = .ok (.if_icmp .ne 7, 3) := dk_160 0 7 (dk_at dksX4_ofSleeperNow_6 7 rfl rfl)
theorem dX4_ofSleeperNow_168 : decode cX4_ofSleeperNow 168 = .ok (.iconst 1, 1) := dk_4 (dk_at dksX4_ofSleeperNow_6 10 rfl rfl)
theorem dX4_ofSleeperNow_169 : decode cX4_ofSleeperNow 169 = .ok (.goto 4, 3) := dk_167 0 4 (dk_at dksX4_ofSleeperNow_6 11 rfl rfl)
theorem dX4_ofSleeperNow_172 : decode cX4_ofSleeperNow 172 = .ok (.iconst 0, 1) := dk_3 (dk_at dksX4_ofSleeperNow_6 14 rfl rfl)
theorem dX4_ofSleeperNow_173 : decode cX4_ofSleeperNow 173 = .ok (.iadd, 1) := dk_96 (dk_at dksX4_ofSleeperNow_6 15 rfl rfl)
theorem dX4_ofSleeperNow_174 : decode cX4_ofSleeperNow 174 = .ok (.istore 4, 2) := dk_54 4 (dk_at dksX4_ofSleeperNow_6 16 rfl rfl)
theorem dX4_ofSleeperNow_176 : decode cX4_ofSleeperNow 176 = .ok (.iinc 5 3, 3) := dk_132 5 3 (dk_at dksX4_ofSleeperNow_6 18 rfl rfl)
theorem dX4_ofSleeperNow_179 : decode cX4_ofSleeperNow 179 = .ok (.goto (-44), 3) := dk_167 255 212 (dk_at dksX4_ofSleeperNow_6 21 rfl rfl)
theorem dX4_ofSleeperNow_182 : decode cX4_ofSleeperNow 182 = .ok (.iload 4, 2) := dk_21 4 (dk_at dksX4_ofSleeperNow_7 0 rfl rfl)
theorem dX4_ofSleeperNow_184 : decode cX4_ofSleeperNow 184 = .ok (.ireturn, 1) := dk_172 (dk_at dksX4_ofSleeperNow_7 2 rfl rfl)
abbrev cX4_ring : ByteArray := prog_14_method_40_code
def yX4_ring : MethodName := ⟨RX4, "ring", "(I)I"⟩
def dkwX4_ring_9 : List UInt8 := [172]
abbrev dktX4_ring_9 : List UInt8 := dkwX4_ring_9 ++ []
def dkwX4_ring_8 : List UInt8 := [4, 21, 6, 120, 128, 61, 4, 62, 132, 5, 3, 167, 255, 115, 132, 4, 3, 167, 255, 69, 167, 255, 57, 28]
abbrev dktX4_ring_8 : List UInt8 := dkwX4_ring_8 ++ dktX4_ring_9
def dkwX4_ring_7 : List UInt8 := [182, 0, 90, 192, 0, 165, 182, 0, 167, 21, 7, 160, 0, 21, 21, 8, 5, 164, 0, 6, 167, 0, 12, 28]
abbrev dktX4_ring_7 : List UInt8 := dkwX4_ring_7 ++ dktX4_ring_8
def dkwX4_ring_6 : List UInt8 := [184, 0, 193, 54, 8, 28, 21, 6, 122, 4, 126, 4, 159, 0, 43, 42, 180, 0, 32, 21, 5, 4, 96]
abbrev dktX4_ring_6 : List UInt8 := dkwX4_ring_6 ++ dktX4_ring_7
def dkwX4_ring_5 : List UInt8 := [192, 0, 165, 182, 0, 167, 42, 180, 0, 32, 21, 5, 5, 96, 182, 0, 90, 192, 0, 165, 182, 0, 167, 100]
abbrev dktX4_ring_5 : List UInt8 := dkwX4_ring_5 ++ dktX4_ring_6
def dkwX4_ring_4 : List UInt8 := [182, 0, 90, 192, 0, 165, 182, 0, 167, 54, 7, 42, 180, 0, 32, 21, 4, 5, 96, 182, 0, 90]
abbrev dktX4_ring_4 : List UInt8 := dkwX4_ring_4 ++ dktX4_ring_5
def dkwX4_ring_3 : List UInt8 := [180, 0, 32, 21, 5, 182, 0, 90, 192, 0, 165, 182, 0, 167, 54, 6, 42, 180, 0, 32, 21, 4, 4, 96]
abbrev dktX4_ring_3 : List UInt8 := dkwX4_ring_3 ++ dktX4_ring_4
def dkwX4_ring_2 : List UInt8 := [154, 0, 6, 167, 0, 150, 3, 54, 5, 21, 5, 42, 180, 0, 32, 182, 0, 47, 162, 0, 135, 42]
abbrev dktX4_ring_2 : List UInt8 := dkwX4_ring_2 ++ dktX4_ring_3
def dkwX4_ring_1 : List UInt8 := [162, 0, 181, 28, 42, 180, 0, 32, 21, 4, 182, 0, 90, 192, 0, 165, 182, 0, 167, 122, 4, 126]
abbrev dktX4_ring_1 : List UInt8 := dkwX4_ring_1 ++ dktX4_ring_2
def dkwX4_ring_0 : List UInt8 := [4, 27, 120, 61, 4, 62, 29, 153, 0, 201, 3, 62, 3, 54, 4, 21, 4, 42, 180, 0, 32, 182, 0, 47]
abbrev dktX4_ring_0 : List UInt8 := dkwX4_ring_0 ++ dktX4_ring_1
theorem dksX4_ring_0 : cX4_ring.data.toList.drop 0 = dktX4_ring_0 := by decide +kernel
theorem dksX4_ring_1 : cX4_ring.data.toList.drop 24 = dktX4_ring_1 := dk_seg dksX4_ring_0 24 rfl rfl
theorem dksX4_ring_2 : cX4_ring.data.toList.drop 46 = dktX4_ring_2 := dk_seg dksX4_ring_1 22 rfl rfl
theorem dksX4_ring_3 : cX4_ring.data.toList.drop 68 = dktX4_ring_3 := dk_seg dksX4_ring_2 22 rfl rfl
theorem dksX4_ring_4 : cX4_ring.data.toList.drop 92 = dktX4_ring_4 := dk_seg dksX4_ring_3 24 rfl rfl
theorem dksX4_ring_5 : cX4_ring.data.toList.drop 114 = dktX4_ring_5 := dk_seg dksX4_ring_4 22 rfl rfl
theorem dksX4_ring_6 : cX4_ring.data.toList.drop 138 = dktX4_ring_6 := dk_seg dksX4_ring_5 24 rfl rfl
theorem dksX4_ring_7 : cX4_ring.data.toList.drop 161 = dktX4_ring_7 := dk_seg dksX4_ring_6 23 rfl rfl
theorem dksX4_ring_8 : cX4_ring.data.toList.drop 185 = dktX4_ring_8 := dk_seg dksX4_ring_7 24 rfl rfl
theorem dksX4_ring_9 : cX4_ring.data.toList.drop 209 = dktX4_ring_9 := dk_seg dksX4_ring_8 24 rfl rfl
theorem dX4_ring_0 : decode cX4_ring 0 = .ok (.iconst 1, 1) := dk_4 (dk_at dksX4_ring_0 0 rfl rfl)
theorem dX4_ring_1 : decode cX4_ring 1 = .ok (.iload_n 1, 1) := dk_27 (dk_at dksX4_ring_0 1 rfl rfl)
theorem dX4_ring_2 : decode cX4_ring 2 = .ok (.ishl, 1) := dk_120 (dk_at dksX4_ring_0 2 rfl rfl)
theorem dX4_ring_3 : decode cX4_ring 3 = .ok (.istore_n 2, 1) := dk_61 (dk_at dksX4_ring_0 3 rfl rfl)
theorem dX4_ring_4 : decode cX4_ring 4 = .ok (.iconst 1, 1) := dk_4 (dk_at dksX4_ring_0 4 rfl rfl)
theorem dX4_ring_5 : decode cX4_ring 5 = .ok (.istore_n 3, 1) := dk_62 (dk_at dksX4_ring_0 5 rfl rfl)
theorem dX4_ring_6 : decode cX4_ring 6 = .ok (.iload_n 3, 1) := dk_29 (dk_at dksX4_ring_0 6 rfl rfl)
theorem dX4_ring_7 : decode cX4_ring 7 = .ok (.ifCond .eq 201, 3) := dk_153 0 201 (dk_at dksX4_ring_0 7 rfl rfl)
theorem dX4_ring_10 : decode cX4_ring 10 = .ok (.iconst 0, 1) := dk_3 (dk_at dksX4_ring_0 10 rfl rfl)
theorem dX4_ring_11 : decode cX4_ring 11 = .ok (.istore_n 3, 1) := dk_62 (dk_at dksX4_ring_0 11 rfl rfl)
theorem dX4_ring_12 : decode cX4_ring 12 = .ok (.iconst 0, 1) := dk_3 (dk_at dksX4_ring_0 12 rfl rfl)
theorem dX4_ring_13 : decode cX4_ring 13 = .ok (.istore 4, 2) := dk_54 4 (dk_at dksX4_ring_0 13 rfl rfl)
theorem dX4_ring_15 : decode cX4_ring 15 = .ok (.iload 4, 2) := dk_21 4 (dk_at dksX4_ring_0 15 rfl rfl)
theorem dX4_ring_17 : decode cX4_ring 17 = .ok (.aload_n 0, 1) := dk_42 (dk_at dksX4_ring_0 17 rfl rfl)
theorem dX4_ring_18 : decode cX4_ring 18 = .ok (.getfield 32, 3) := dk_180 0 32 (dk_at dksX4_ring_0 18 rfl rfl)
theorem dX4_ring_21 : decode cX4_ring 21 = .ok (.invokevirtual 47, 3) := dk_182 0 47 (dk_at dksX4_ring_0 21 rfl rfl)
theorem dX4_ring_24 : decode cX4_ring 24 = .ok (.if_icmp .ge 181, 3) := dk_162 0 181 (dk_at dksX4_ring_1 0 rfl rfl)
theorem dX4_ring_27 : decode cX4_ring 27 = .ok (.iload_n 2, 1) := dk_28 (dk_at dksX4_ring_1 3 rfl rfl)
theorem dX4_ring_28 : decode cX4_ring 28 = .ok (.aload_n 0, 1) := dk_42 (dk_at dksX4_ring_1 4 rfl rfl)
theorem dX4_ring_29 : decode cX4_ring 29 = .ok (.getfield 32, 3) := dk_180 0 32 (dk_at dksX4_ring_1 5 rfl rfl)
theorem dX4_ring_32 : decode cX4_ring 32 = .ok (.iload 4, 2) := dk_21 4 (dk_at dksX4_ring_1 8 rfl rfl)
theorem dX4_ring_34 : decode cX4_ring 34 = .ok (.invokevirtual 90, 3) := dk_182 0 90 (dk_at dksX4_ring_1 10 rfl rfl)
theorem dX4_ring_37 : decode cX4_ring 37 = .ok (.checkcast 165, 3) := dk_192 0 165 (dk_at dksX4_ring_1 13 rfl rfl)
theorem dX4_ring_40 : decode cX4_ring 40 = .ok (.invokevirtual 167, 3) := dk_182 0 167 (dk_at dksX4_ring_1 16 rfl rfl)
theorem dX4_ring_43 : decode cX4_ring 43 = .ok (.ishr, 1) := dk_122 (dk_at dksX4_ring_1 19 rfl rfl)
theorem dX4_ring_44 : decode cX4_ring 44 = .ok (.iconst 1, 1) := dk_4 (dk_at dksX4_ring_1 20 rfl rfl)
theorem dX4_ring_45 : decode cX4_ring 45 = .ok (.iand, 1) := dk_126 (dk_at dksX4_ring_1 21 rfl rfl)
theorem dX4_ring_46 : decode cX4_ring 46 = .ok (.ifCond .ne 6, 3) := dk_154 0 6 (dk_at dksX4_ring_2 0 rfl rfl)
theorem dX4_ring_49 : decode cX4_ring 49 = .ok (.goto 150, 3) := dk_167 0 150 (dk_at dksX4_ring_2 3 rfl rfl)
theorem dX4_ring_52 : decode cX4_ring 52 = .ok (.iconst 0, 1) := dk_3 (dk_at dksX4_ring_2 6 rfl rfl)
theorem dX4_ring_53 : decode cX4_ring 53 = .ok (.istore 5, 2) := dk_54 5 (dk_at dksX4_ring_2 7 rfl rfl)
theorem dX4_ring_55 : decode cX4_ring 55 = .ok (.iload 5, 2) := dk_21 5 (dk_at dksX4_ring_2 9 rfl rfl)
theorem dX4_ring_57 : decode cX4_ring 57 = .ok (.aload_n 0, 1) := dk_42 (dk_at dksX4_ring_2 11 rfl rfl)
theorem dX4_ring_58 : decode cX4_ring 58 = .ok (.getfield 32, 3) := dk_180 0 32 (dk_at dksX4_ring_2 12 rfl rfl)
theorem dX4_ring_61 : decode cX4_ring 61 = .ok (.invokevirtual 47, 3) := dk_182 0 47 (dk_at dksX4_ring_2 15 rfl rfl)
theorem dX4_ring_64 : decode cX4_ring 64 = .ok (.if_icmp .ge 135, 3) := dk_162 0 135 (dk_at dksX4_ring_2 18 rfl rfl)
theorem dX4_ring_67 : decode cX4_ring 67 = .ok (.aload_n 0, 1) := dk_42 (dk_at dksX4_ring_2 21 rfl rfl)
theorem dX4_ring_68 : decode cX4_ring 68 = .ok (.getfield 32, 3) := dk_180 0 32 (dk_at dksX4_ring_3 0 rfl rfl)
theorem dX4_ring_71 : decode cX4_ring 71 = .ok (.iload 5, 2) := dk_21 5 (dk_at dksX4_ring_3 3 rfl rfl)
theorem dX4_ring_73 : decode cX4_ring 73 = .ok (.invokevirtual 90, 3) := dk_182 0 90 (dk_at dksX4_ring_3 5 rfl rfl)
theorem dX4_ring_76 : decode cX4_ring 76 = .ok (.checkcast 165, 3) := dk_192 0 165 (dk_at dksX4_ring_3 8 rfl rfl)
theorem dX4_ring_79 : decode cX4_ring 79 = .ok (.invokevirtual 167, 3) := dk_182 0 167 (dk_at dksX4_ring_3 11 rfl rfl)
theorem dX4_ring_82 : decode cX4_ring 82 = .ok (.istore 6, 2) := dk_54 6 (dk_at dksX4_ring_3 14 rfl rfl)
theorem dX4_ring_84 : decode cX4_ring 84 = .ok (.aload_n 0, 1) := dk_42 (dk_at dksX4_ring_3 16 rfl rfl)
theorem dX4_ring_85 : decode cX4_ring 85 = .ok (.getfield 32, 3) := dk_180 0 32 (dk_at dksX4_ring_3 17 rfl rfl)
theorem dX4_ring_88 : decode cX4_ring 88 = .ok (.iload 4, 2) := dk_21 4 (dk_at dksX4_ring_3 20 rfl rfl)
theorem dX4_ring_90 : decode cX4_ring 90 = .ok (.iconst 1, 1) := dk_4 (dk_at dksX4_ring_3 22 rfl rfl)
theorem dX4_ring_91 : decode cX4_ring 91 = .ok (.iadd, 1) := dk_96 (dk_at dksX4_ring_3 23 rfl rfl)
theorem dX4_ring_92 : decode cX4_ring 92 = .ok (.invokevirtual 90, 3) := dk_182 0 90 (dk_at dksX4_ring_4 0 rfl rfl)
theorem dX4_ring_95 : decode cX4_ring 95 = .ok (.checkcast 165, 3) := dk_192 0 165 (dk_at dksX4_ring_4 3 rfl rfl)
theorem dX4_ring_98 : decode cX4_ring 98 = .ok (.invokevirtual 167, 3) := dk_182 0 167 (dk_at dksX4_ring_4 6 rfl rfl)
theorem dX4_ring_101 : decode cX4_ring 101 = .ok (.istore 7, 2) := dk_54 7 (dk_at dksX4_ring_4 9 rfl rfl)
theorem dX4_ring_103 : decode cX4_ring 103 = .ok (.aload_n 0, 1) := dk_42 (dk_at dksX4_ring_4 11 rfl rfl)
theorem dX4_ring_104 : decode cX4_ring 104 = .ok (.getfield 32, 3) := dk_180 0 32 (dk_at dksX4_ring_4 12 rfl rfl)
theorem dX4_ring_107 : decode cX4_ring 107 = .ok (.iload 4, 2) := dk_21 4 (dk_at dksX4_ring_4 15 rfl rfl)
theorem dX4_ring_109 : decode cX4_ring 109 = .ok (.iconst 2, 1) := dk_5 (dk_at dksX4_ring_4 17 rfl rfl)
theorem dX4_ring_110 : decode cX4_ring 110 = .ok (.iadd, 1) := dk_96 (dk_at dksX4_ring_4 18 rfl rfl)
theorem dX4_ring_111 : decode cX4_ring 111 = .ok (.invokevirtual 90, 3) := dk_182 0 90 (dk_at dksX4_ring_4 19 rfl rfl)
theorem dX4_ring_114 : decode cX4_ring 114 = .ok (.checkcast 165, 3) := dk_192 0 165 (dk_at dksX4_ring_5 0 rfl rfl)
theorem dX4_ring_117 : decode cX4_ring 117 = .ok (.invokevirtual 167, 3) := dk_182 0 167 (dk_at dksX4_ring_5 3 rfl rfl)
theorem dX4_ring_120 : decode cX4_ring 120 = .ok (.aload_n 0, 1) := dk_42 (dk_at dksX4_ring_5 6 rfl rfl)
theorem dX4_ring_121 : decode cX4_ring 121 = .ok (.getfield 32, 3) := dk_180 0 32 (dk_at dksX4_ring_5 7 rfl rfl)
theorem dX4_ring_124 : decode cX4_ring 124 = .ok (.iload 5, 2) := dk_21 5 (dk_at dksX4_ring_5 10 rfl rfl)
theorem dX4_ring_126 : decode cX4_ring 126 = .ok (.iconst 2, 1) := dk_5 (dk_at dksX4_ring_5 12 rfl rfl)
theorem dX4_ring_127 : decode cX4_ring 127 = .ok (.iadd, 1) := dk_96 (dk_at dksX4_ring_5 13 rfl rfl)
theorem dX4_ring_128 : decode cX4_ring 128 = .ok (.invokevirtual 90, 3) := dk_182 0 90 (dk_at dksX4_ring_5 14 rfl rfl)
theorem dX4_ring_131 : decode cX4_ring 131 = .ok (.checkcast 165, 3) := dk_192 0 165 (dk_at dksX4_ring_5 17 rfl rfl)
theorem dX4_ring_134 : decode cX4_ring 134 = .ok (.invokevirtual 167, 3) := dk_182 0 167 (dk_at dksX4_ring_5 20 rfl rfl)
theorem dX4_ring_137 : decode cX4_ring 137 = .ok (.isub, 1) := dk_100 (dk_at dksX4_ring_5 23 rfl rfl)
theorem dX4_ring_138 : decode cX4_ring 138 = .ok (.invokestatic 193, 3) := dk_184 0 193 (dk_at dksX4_ring_6 0 rfl rfl)
theorem dX4_ring_141 : decode cX4_ring 141 = .ok (.istore 8, 2) := dk_54 8 (dk_at dksX4_ring_6 3 rfl rfl)
theorem dX4_ring_143 : decode cX4_ring 143 = .ok (.iload_n 2, 1) := dk_28 (dk_at dksX4_ring_6 5 rfl rfl)
theorem dX4_ring_144 : decode cX4_ring 144 = .ok (.iload 6, 2) := dk_21 6 (dk_at dksX4_ring_6 6 rfl rfl)
theorem dX4_ring_146 : decode cX4_ring 146 = .ok (.ishr, 1) := dk_122 (dk_at dksX4_ring_6 8 rfl rfl)
theorem dX4_ring_147 : decode cX4_ring 147 = .ok (.iconst 1, 1) := dk_4 (dk_at dksX4_ring_6 9 rfl rfl)
theorem dX4_ring_148 : decode cX4_ring 148 = .ok (.iand, 1) := dk_126 (dk_at dksX4_ring_6 10 rfl rfl)
theorem dX4_ring_149 : decode cX4_ring 149 = .ok (.iconst 1, 1) := dk_4 (dk_at dksX4_ring_6 11 rfl rfl)
theorem dX4_ring_150 : decode cX4_ring 150 = .ok (.if_icmp .eq 43, 3) := dk_159 0 43 (dk_at dksX4_ring_6 12 rfl rfl)
theorem dX4_ring_153 : decode cX4_ring 153 = .ok (.aload_n 0, 1) := dk_42 (dk_at dksX4_ring_6 15 rfl rfl)
theorem dX4_ring_154 : decode cX4_ring 154 = .ok (.getfield 32, 3) := dk_180 0 32 (dk_at dksX4_ring_6 16 rfl rfl)
theorem dX4_ring_157 : decode cX4_ring 157 = .ok (.iload 5, 2) := dk_21 5 (dk_at dksX4_ring_6 19 rfl rfl)
theorem dX4_ring_159 : decode cX4_ring 159 = .ok (.iconst 1, 1) := dk_4 (dk_at dksX4_ring_6 21 rfl rfl)
theorem dX4_ring_160 : decode cX4_ring 160 = .ok (.iadd, 1) := dk_96 (dk_at dksX4_ring_6 22 rfl rfl)
theorem dX4_ring_161 : decode cX4_ring 161 = .ok (.invokevirtual 90, 3) := dk_182 0 90 (dk_at dksX4_ring_7 0 rfl rfl)
theorem dX4_ring_164 : decode cX4_ring 164 = .ok (.checkcast 165, 3) := dk_192 0 165 (dk_at dksX4_ring_7 3 rfl rfl)
theorem dX4_ring_167 : decode cX4_ring 167 = .ok (.invokevirtual 167, 3) := dk_182 0 167 (dk_at dksX4_ring_7 6 rfl rfl)
theorem dX4_ring_170 : decode cX4_ring 170 = .ok (.iload 7, 2) := dk_21 7 (dk_at dksX4_ring_7 9 rfl rfl)
theorem dX4_ring_172 : decode cX4_ring 172 = .ok (.if_icmp .ne 21, 3) := dk_160 0 21 (dk_at dksX4_ring_7 11 rfl rfl)
theorem dX4_ring_175 : decode cX4_ring 175 = .ok (.iload 8, 2) := dk_21 8 (dk_at dksX4_ring_7 14 rfl rfl)
theorem dX4_ring_177 : decode cX4_ring 177 = .ok (.iconst 2, 1) := dk_5 (dk_at dksX4_ring_7 16 rfl rfl)
theorem dX4_ring_178 : decode cX4_ring 178 = .ok (.if_icmp .le 6, 3) := dk_164 0 6 (dk_at dksX4_ring_7 17 rfl rfl)
theorem dX4_ring_181 : decode cX4_ring 181 = .ok (.goto 12, 3) := dk_167 0 12 (dk_at dksX4_ring_7 20 rfl rfl)
theorem dX4_ring_184 : decode cX4_ring 184 = .ok (.iload_n 2, 1) := dk_28 (dk_at dksX4_ring_7 23 rfl rfl)
theorem dX4_ring_185 : decode cX4_ring 185 = .ok (.iconst 1, 1) := dk_4 (dk_at dksX4_ring_8 0 rfl rfl)
theorem dX4_ring_186 : decode cX4_ring 186 = .ok (.iload 6, 2) := dk_21 6 (dk_at dksX4_ring_8 1 rfl rfl)
theorem dX4_ring_188 : decode cX4_ring 188 = .ok (.ishl, 1) := dk_120 (dk_at dksX4_ring_8 3 rfl rfl)
theorem dX4_ring_189 : decode cX4_ring 189 = .ok (.ior, 1) := dk_128 (dk_at dksX4_ring_8 4 rfl rfl)
theorem dX4_ring_190 : decode cX4_ring 190 = .ok (.istore_n 2, 1) := dk_61 (dk_at dksX4_ring_8 5 rfl rfl)
theorem dX4_ring_191 : decode cX4_ring 191 = .ok (.iconst 1, 1) := dk_4 (dk_at dksX4_ring_8 6 rfl rfl)
theorem dX4_ring_192 : decode cX4_ring 192 = .ok (.istore_n 3, 1) := dk_62 (dk_at dksX4_ring_8 7 rfl rfl)
theorem dX4_ring_193 : decode cX4_ring 193 = .ok (.iinc 5 3, 3) := dk_132 5 3 (dk_at dksX4_ring_8 8 rfl rfl)
theorem dX4_ring_196 : decode cX4_ring 196 = .ok (.goto (-141), 3) := dk_167 255 115 (dk_at dksX4_ring_8 11 rfl rfl)
theorem dX4_ring_199 : decode cX4_ring 199 = .ok (.iinc 4 3, 3) := dk_132 4 3 (dk_at dksX4_ring_8 14 rfl rfl)
theorem dX4_ring_202 : decode cX4_ring 202 = .ok (.goto (-187), 3) := dk_167 255 69 (dk_at dksX4_ring_8 17 rfl rfl)
theorem dX4_ring_205 : decode cX4_ring 205 = .ok (.goto (-199), 3) := dk_167 255 57 (dk_at dksX4_ring_8 20 rfl rfl)
theorem dX4_ring_208 : decode cX4_ring 208 = .ok (.iload_n 2, 1) := dk_28 (dk_at dksX4_ring_8 23 rfl rfl)
theorem dX4_ring_209 : decode cX4_ring 209 = .ok (.ireturn, 1) := dk_172 (dk_at dksX4_ring_9 0 rfl rfl)
abbrev cX4_ofPart : ByteArray := prog_14_method_44_code
def yX4_ofPart : MethodName := ⟨RX4, "ofPart", "(II)I"⟩
def dkwX4_ofPart_1 : List UInt8 := [184, 0, 43, 153, 0, 12, 42, 27, 28, 182, 1, 43, 167, 0, 8, 42, 5, 182, 0, 55, 172]
abbrev dktX4_ofPart_1 : List UInt8 := dkwX4_ofPart_1 ++ []
def dkwX4_ofPart_0 : List UInt8 := [42, 3, 181, 0, 40, 42, 27, 182, 0, 134, 154, 0, 9, 42, 4, 182, 0, 55, 172, 28, 3, 8]
abbrev dktX4_ofPart_0 : List UInt8 := dkwX4_ofPart_0 ++ dktX4_ofPart_1
theorem dksX4_ofPart_0 : cX4_ofPart.data.toList.drop 0 = dktX4_ofPart_0 := by decide +kernel
theorem dksX4_ofPart_1 : cX4_ofPart.data.toList.drop 22 = dktX4_ofPart_1 := dk_seg dksX4_ofPart_0 22 rfl rfl
theorem dX4_ofPart_0 : decode cX4_ofPart 0 = .ok (.aload_n 0, 1) := dk_42 (dk_at dksX4_ofPart_0 0 rfl rfl)
theorem dX4_ofPart_1 : decode cX4_ofPart 1 = .ok (.iconst 0, 1) := dk_3 (dk_at dksX4_ofPart_0 1 rfl rfl)
theorem dX4_ofPart_2 : decode cX4_ofPart 2 = .ok (.putfield 40, 3) := dk_181 0 40 (dk_at dksX4_ofPart_0 2 rfl rfl)
theorem dX4_ofPart_5 : decode cX4_ofPart 5 = .ok (.aload_n 0, 1) := dk_42 (dk_at dksX4_ofPart_0 5 rfl rfl)
theorem dX4_ofPart_6 : decode cX4_ofPart 6 = .ok (.iload_n 1, 1) := dk_27 (dk_at dksX4_ofPart_0 6 rfl rfl)
theorem dX4_ofPart_7 : decode cX4_ofPart 7 = .ok (.invokevirtual 134, 3) := dk_182 0 134 (dk_at dksX4_ofPart_0 7 rfl rfl)
theorem dX4_ofPart_10 : decode cX4_ofPart 10 = .ok (.ifCond .ne 9, 3) := dk_154 0 9 (dk_at dksX4_ofPart_0 10 rfl rfl)
theorem dX4_ofPart_13 : decode cX4_ofPart 13 = .ok (.aload_n 0, 1) := dk_42 (dk_at dksX4_ofPart_0 13 rfl rfl)
theorem dX4_ofPart_14 : decode cX4_ofPart 14 = .ok (.iconst 1, 1) := dk_4 (dk_at dksX4_ofPart_0 14 rfl rfl)
theorem dX4_ofPart_15 : decode cX4_ofPart 15 = .ok (.invokevirtual 55, 3) := dk_182 0 55 (dk_at dksX4_ofPart_0 15 rfl rfl)
theorem dX4_ofPart_18 : decode cX4_ofPart 18 = .ok (.ireturn, 1) := dk_172 (dk_at dksX4_ofPart_0 18 rfl rfl)
theorem dX4_ofPart_19 : decode cX4_ofPart 19 = .ok (.iload_n 2, 1) := dk_28 (dk_at dksX4_ofPart_0 19 rfl rfl)
theorem dX4_ofPart_20 : decode cX4_ofPart 20 = .ok (.iconst 0, 1) := dk_3 (dk_at dksX4_ofPart_0 20 rfl rfl)
theorem dX4_ofPart_21 : decode cX4_ofPart 21 = .ok (.iconst 5, 1) := dk_8 (dk_at dksX4_ofPart_0 21 rfl rfl)
theorem dX4_ofPart_22 : decode cX4_ofPart 22 = .ok (.invokestatic 43, 3) := dk_184 0 43 (dk_at dksX4_ofPart_1 0 rfl rfl)
theorem dX4_ofPart_25 : decode cX4_ofPart 25 = .ok (.ifCond .eq 12, 3) := dk_153 0 12 (dk_at dksX4_ofPart_1 3 rfl rfl)
theorem dX4_ofPart_28 : decode cX4_ofPart 28 = .ok (.aload_n 0, 1) := dk_42 (dk_at dksX4_ofPart_1 6 rfl rfl)
theorem dX4_ofPart_29 : decode cX4_ofPart 29 = .ok (.iload_n 1, 1) := dk_27 (dk_at dksX4_ofPart_1 7 rfl rfl)
theorem dX4_ofPart_30 : decode cX4_ofPart 30 = .ok (.iload_n 2, 1) := dk_28 (dk_at dksX4_ofPart_1 8 rfl rfl)
theorem dX4_ofPart_31 : decode cX4_ofPart 31 = .ok (.invokevirtual 299, 3) := dk_182 1 43 (dk_at dksX4_ofPart_1 9 rfl rfl)
theorem dX4_ofPart_34 : decode cX4_ofPart 34 = .ok (.goto 8, 3) := dk_167 0 8 (dk_at dksX4_ofPart_1 12 rfl rfl)
theorem dX4_ofPart_37 : decode cX4_ofPart 37 = .ok (.aload_n 0, 1) := dk_42 (dk_at dksX4_ofPart_1 15 rfl rfl)
theorem dX4_ofPart_38 : decode cX4_ofPart 38 = .ok (.iconst 2, 1) := dk_5 (dk_at dksX4_ofPart_1 16 rfl rfl)
theorem dX4_ofPart_39 : decode cX4_ofPart 39 = .ok (.invokevirtual 55, 3) := dk_182 0 55 (dk_at dksX4_ofPart_1 17 rfl rfl)
theorem dX4_ofPart_42 : decode cX4_ofPart 42 = .ok (.ireturn, 1) := dk_172 (dk_at dksX4_ofPart_1 20 rfl rfl)
abbrev cX4_ofPartNow : ByteArray := prog_14_method_43_code
def yX4_ofPartNow : MethodName := ⟨RX4, "ofPartNow", "(II)I"⟩
def dkwX4_ofPartNow_3 : List UInt8 := [182, 1, 20, 172, 45, 180, 0, 131, 16, 100, 162, 0, 10, 45, 180, 0, 131, 167, 0, 4, 2, 172]
abbrev dktX4_ofPartNow_3 : List UInt8 := dkwX4_ofPartNow_3 ++ []
def dkwX4_ofPartNow_2 : List UInt8 := [45, 180, 0, 122, 172, 45, 180, 0, 125, 172, 45, 180, 0, 128, 172, 45, 180, 0, 208, 172, 42, 45]
abbrev dktX4_ofPartNow_2 : List UInt8 := dkwX4_ofPartNow_2 ++ dktX4_ofPartNow_3
def dkwX4_ofPartNow_1 : List UInt8 := [170, 0, 0, 0, 0, 0, 61, 0, 0, 0, 0, 0, 0, 0, 4, 0, 0, 0, 35, 0, 0, 0, 40, 0, 0, 0, 45, 0, 0, 0, 50, 0, 0, 0, 55]
abbrev dktX4_ofPartNow_1 : List UInt8 := dkwX4_ofPartNow_1 ++ dktX4_ofPartNow_2
def dkwX4_ofPartNow_0 : List UInt8 := [42, 180, 0, 29, 27, 182, 0, 90, 192, 0, 119, 78, 28]
abbrev dktX4_ofPartNow_0 : List UInt8 := dkwX4_ofPartNow_0 ++ dktX4_ofPartNow_1
theorem dksX4_ofPartNow_0 : cX4_ofPartNow.data.toList.drop 0 = dktX4_ofPartNow_0 := by decide +kernel
theorem dksX4_ofPartNow_1 : cX4_ofPartNow.data.toList.drop 13 = dktX4_ofPartNow_1 := dk_seg dksX4_ofPartNow_0 13 rfl rfl
theorem dksX4_ofPartNow_2 : cX4_ofPartNow.data.toList.drop 48 = dktX4_ofPartNow_2 := dk_seg dksX4_ofPartNow_1 35 rfl rfl
theorem dksX4_ofPartNow_3 : cX4_ofPartNow.data.toList.drop 70 = dktX4_ofPartNow_3 := dk_seg dksX4_ofPartNow_2 22 rfl rfl
theorem dX4_ofPartNow_0 : decode cX4_ofPartNow 0 = .ok (.aload_n 0, 1) := dk_42 (dk_at dksX4_ofPartNow_0 0 rfl rfl)
theorem dX4_ofPartNow_1 : decode cX4_ofPartNow 1 = .ok (.getfield 29, 3) := dk_180 0 29 (dk_at dksX4_ofPartNow_0 1 rfl rfl)
theorem dX4_ofPartNow_4 : decode cX4_ofPartNow 4 = .ok (.iload_n 1, 1) := dk_27 (dk_at dksX4_ofPartNow_0 4 rfl rfl)
theorem dX4_ofPartNow_5 : decode cX4_ofPartNow 5 = .ok (.invokevirtual 90, 3) := dk_182 0 90 (dk_at dksX4_ofPartNow_0 5 rfl rfl)
theorem dX4_ofPartNow_8 : decode cX4_ofPartNow 8 = .ok (.checkcast 119, 3) := dk_192 0 119 (dk_at dksX4_ofPartNow_0 8 rfl rfl)
theorem dX4_ofPartNow_11 : decode cX4_ofPartNow 11 = .ok (.astore_n 3, 1) := dk_78 (dk_at dksX4_ofPartNow_0 11 rfl rfl)
theorem dX4_ofPartNow_12 : decode cX4_ofPartNow 12 = .ok (.iload_n 2, 1) := dk_28 (dk_at dksX4_ofPartNow_0 12 rfl rfl)
theorem dX4_ofPartNow_13 : decode cX4_ofPartNow 13 = .ok (.tableswitch 61 0 4 #[35, 40, 45, 50, 55], 35) := by decide +kernel
theorem dX4_ofPartNow_48 : decode cX4_ofPartNow 48 = .ok (.aload_n 3, 1) := dk_45 (dk_at dksX4_ofPartNow_2 0 rfl rfl)
theorem dX4_ofPartNow_49 : decode cX4_ofPartNow 49 = .ok (.getfield 122, 3) := dk_180 0 122 (dk_at dksX4_ofPartNow_2 1 rfl rfl)
theorem dX4_ofPartNow_52 : decode cX4_ofPartNow 52 = .ok (.ireturn, 1) := dk_172 (dk_at dksX4_ofPartNow_2 4 rfl rfl)
theorem dX4_ofPartNow_53 : decode cX4_ofPartNow 53 = .ok (.aload_n 3, 1) := dk_45 (dk_at dksX4_ofPartNow_2 5 rfl rfl)
theorem dX4_ofPartNow_54 : decode cX4_ofPartNow 54 = .ok (.getfield 125, 3) := dk_180 0 125 (dk_at dksX4_ofPartNow_2 6 rfl rfl)
theorem dX4_ofPartNow_57 : decode cX4_ofPartNow 57 = .ok (.ireturn, 1) := dk_172 (dk_at dksX4_ofPartNow_2 9 rfl rfl)
theorem dX4_ofPartNow_58 : decode cX4_ofPartNow 58 = .ok (.aload_n 3, 1) := dk_45 (dk_at dksX4_ofPartNow_2 10 rfl rfl)
theorem dX4_ofPartNow_59 : decode cX4_ofPartNow 59 = .ok (.getfield 128, 3) := dk_180 0 128 (dk_at dksX4_ofPartNow_2 11 rfl rfl)
theorem dX4_ofPartNow_62 : decode cX4_ofPartNow 62 = .ok (.ireturn, 1) := dk_172 (dk_at dksX4_ofPartNow_2 14 rfl rfl)
theorem dX4_ofPartNow_63 : decode cX4_ofPartNow 63 = .ok (.aload_n 3, 1) := dk_45 (dk_at dksX4_ofPartNow_2 15 rfl rfl)
theorem dX4_ofPartNow_64 : decode cX4_ofPartNow 64 = .ok (.getfield 208, 3) := dk_180 0 208 (dk_at dksX4_ofPartNow_2 16 rfl rfl)
theorem dX4_ofPartNow_67 : decode cX4_ofPartNow 67 = .ok (.ireturn, 1) := dk_172 (dk_at dksX4_ofPartNow_2 19 rfl rfl)
theorem dX4_ofPartNow_68 : decode cX4_ofPartNow 68 = .ok (.aload_n 0, 1) := dk_42 (dk_at dksX4_ofPartNow_2 20 rfl rfl)
theorem dX4_ofPartNow_69 : decode cX4_ofPartNow 69 = .ok (.aload_n 3, 1) := dk_45 (dk_at dksX4_ofPartNow_2 21 rfl rfl)
theorem dX4_ofPartNow_70 : decode cX4_ofPartNow 70 = .ok (.invokevirtual 276, 3) := dk_182 1 20 (dk_at dksX4_ofPartNow_3 0 rfl rfl)
theorem dX4_ofPartNow_73 : decode cX4_ofPartNow 73 = .ok (.ireturn, 1) := dk_172 (dk_at dksX4_ofPartNow_3 3 rfl rfl)
theorem dX4_ofPartNow_74 : decode cX4_ofPartNow 74 = .ok (.aload_n 3, 1) := dk_45 (dk_at dksX4_ofPartNow_3 4 rfl rfl)
theorem dX4_ofPartNow_75 : decode cX4_ofPartNow 75 = .ok (.getfield 131, 3) := dk_180 0 131 (dk_at dksX4_ofPartNow_3 5 rfl rfl)
theorem dX4_ofPartNow_78 : decode cX4_ofPartNow 78 = .ok (.bipush 100, 2) := dk_16 100 (dk_at dksX4_ofPartNow_3 8 rfl rfl)
theorem dX4_ofPartNow_80 : decode cX4_ofPartNow 80 = .ok (.if_icmp .ge 10, 3) := dk_162 0 10 (dk_at dksX4_ofPartNow_3 10 rfl rfl)
theorem dX4_ofPartNow_83 : decode cX4_ofPartNow 83 = .ok (.aload_n 3, 1) := dk_45 (dk_at dksX4_ofPartNow_3 13 rfl rfl)
theorem dX4_ofPartNow_84 : decode cX4_ofPartNow 84 = .ok (.getfield 131, 3) := dk_180 0 131 (dk_at dksX4_ofPartNow_3 14 rfl rfl)
theorem dX4_ofPartNow_87 : decode cX4_ofPartNow 87 = .ok (.goto 4, 3) := dk_167 0 4 (dk_at dksX4_ofPartNow_3 17 rfl rfl)
theorem dX4_ofPartNow_90 : decode cX4_ofPartNow 90 = .ok (.iconst (-1), 1) := dk_2 (dk_at dksX4_ofPartNow_3 20 rfl rfl)
theorem dX4_ofPartNow_91 : decode cX4_ofPartNow 91 = .ok (.ireturn, 1) := dk_172 (dk_at dksX4_ofPartNow_3 21 rfl rfl)
abbrev cX4_isGood : ByteArray := prog_14_method_45_code
def yX4_isGood : MethodName := ⟨RX4, "isGood", "(II)Z"⟩
def dkwX4_isGood_2 : List UInt8 := [172]
abbrev dktX4_isGood_2 : List UInt8 := dkwX4_isGood_2 ++ []
def dkwX4_isGood_1 : List UInt8 := [181, 0, 40, 42, 180, 0, 40, 154, 0, 16, 42, 27, 28, 182, 0, 253, 153, 0, 7, 4, 167, 0, 4, 3]
abbrev dktX4_isGood_1 : List UInt8 := dkwX4_isGood_1 ++ dktX4_isGood_2
def dkwX4_isGood_0 : List UInt8 := [42, 42, 27, 182, 0, 113, 153, 0, 15, 42, 28, 182, 0, 87, 153, 0, 7, 3, 167, 0, 4, 4]
abbrev dktX4_isGood_0 : List UInt8 := dkwX4_isGood_0 ++ dktX4_isGood_1
theorem dksX4_isGood_0 : cX4_isGood.data.toList.drop 0 = dktX4_isGood_0 := by decide +kernel
theorem dksX4_isGood_1 : cX4_isGood.data.toList.drop 22 = dktX4_isGood_1 := dk_seg dksX4_isGood_0 22 rfl rfl
theorem dksX4_isGood_2 : cX4_isGood.data.toList.drop 46 = dktX4_isGood_2 := dk_seg dksX4_isGood_1 24 rfl rfl
theorem dX4_isGood_0 : decode cX4_isGood 0 = .ok (.aload_n 0, 1) := dk_42 (dk_at dksX4_isGood_0 0 rfl rfl)
theorem dX4_isGood_1 : decode cX4_isGood 1 = .ok (.aload_n 0, 1) := dk_42 (dk_at dksX4_isGood_0 1 rfl rfl)
theorem dX4_isGood_2 : decode cX4_isGood 2 = .ok (.iload_n 1, 1) := dk_27 (dk_at dksX4_isGood_0 2 rfl rfl)
theorem dX4_isGood_3 : decode cX4_isGood 3 = .ok (.invokevirtual 113, 3) := dk_182 0 113 (dk_at dksX4_isGood_0 3 rfl rfl)
theorem dX4_isGood_6 : decode cX4_isGood 6 = .ok (.ifCond .eq 15, 3) := dk_153 0 15 (dk_at dksX4_isGood_0 6 rfl rfl)
theorem dX4_isGood_9 : decode cX4_isGood 9 = .ok (.aload_n 0, 1) := dk_42 (dk_at dksX4_isGood_0 9 rfl rfl)
theorem dX4_isGood_10 : decode cX4_isGood 10 = .ok (.iload_n 2, 1) := dk_28 (dk_at dksX4_isGood_0 10 rfl rfl)
theorem dX4_isGood_11 : decode cX4_isGood 11 = .ok (.invokevirtual 87, 3) := dk_182 0 87 (dk_at dksX4_isGood_0 11 rfl rfl)
theorem dX4_isGood_14 : decode cX4_isGood 14 = .ok (.ifCond .eq 7, 3) := dk_153 0 7 (dk_at dksX4_isGood_0 14 rfl rfl)
theorem dX4_isGood_17 : decode cX4_isGood 17 = .ok (.iconst 0, 1) := dk_3 (dk_at dksX4_isGood_0 17 rfl rfl)
theorem dX4_isGood_18 : decode cX4_isGood 18 = .ok (.goto 4, 3) := dk_167 0 4 (dk_at dksX4_isGood_0 18 rfl rfl)
theorem dX4_isGood_21 : decode cX4_isGood 21 = .ok (.iconst 1, 1) := dk_4 (dk_at dksX4_isGood_0 21 rfl rfl)
theorem dX4_isGood_22 : decode cX4_isGood 22 = .ok (.putfield 40, 3) := dk_181 0 40 (dk_at dksX4_isGood_1 0 rfl rfl)
theorem dX4_isGood_25 : decode cX4_isGood 25 = .ok (.aload_n 0, 1) := dk_42 (dk_at dksX4_isGood_1 3 rfl rfl)
theorem dX4_isGood_26 : decode cX4_isGood 26 = .ok (.getfield 40, 3) := dk_180 0 40 (dk_at dksX4_isGood_1 4 rfl rfl)
theorem dX4_isGood_29 : decode cX4_isGood 29 = .ok (.ifCond .ne 16, 3) := dk_154 0 16 (dk_at dksX4_isGood_1 7 rfl rfl)
theorem dX4_isGood_32 : decode cX4_isGood 32 = .ok (.aload_n 0, 1) := dk_42 (dk_at dksX4_isGood_1 10 rfl rfl)
theorem dX4_isGood_33 : decode cX4_isGood 33 = .ok (.iload_n 1, 1) := dk_27 (dk_at dksX4_isGood_1 11 rfl rfl)
theorem dX4_isGood_34 : decode cX4_isGood 34 = .ok (.iload_n 2, 1) := dk_28 (dk_at dksX4_isGood_1 12 rfl rfl)
theorem dX4_isGood_35 : decode cX4_isGood 35 = .ok (.invokevirtual 253, 3) := dk_182 0 253 (dk_at dksX4_isGood_1 13 rfl rfl)
theorem dX4_isGood_38 : decode cX4_isGood 38 = .ok (.ifCond .eq 7, 3) := dk_153 0 7 (dk_at dksX4_isGood_1 16 rfl rfl)
theorem dX4_isGood_41 : decode cX4_isGood 41 = .ok (.iconst 1, 1) := dk_4 (dk_at dksX4_isGood_1 19 rfl rfl)
theorem dX4_isGood_42 : decode cX4_isGood 42 = .ok (.goto 4, 3) := dk_167 0 4 (dk_at dksX4_isGood_1 20 rfl rfl)
theorem dX4_isGood_45 : decode cX4_isGood 45 = .ok (.iconst 0, 1) := dk_3 (dk_at dksX4_isGood_1 23 rfl rfl)
theorem dX4_isGood_46 : decode cX4_isGood 46 = .ok (.ireturn, 1) := dk_172 (dk_at dksX4_isGood_2 0 rfl rfl)
abbrev cX4_queue : ByteArray := prog_14_method_46_code
def yX4_queue : MethodName := ⟨RX4, "queue", "(I)Ljava/lang/String;"⟩
def dkwX4_queue_6 : List UInt8 := [182, 0, 247, 153, 0, 9, 19, 1, 62, 167, 0, 7, 44, 182, 1, 64, 176]
abbrev dktX4_queue_6 : List UInt8 := dkwX4_queue_6 ++ []
def dkwX4_queue_5 : List UInt8 := [153, 0, 9, 19, 1, 60, 167, 0, 6, 19, 1, 46, 182, 1, 53, 87, 132, 4, 1, 167, 255, 176, 45]
abbrev dktX4_queue_5 : List UInt8 := dkwX4_queue_5 ++ dktX4_queue_6
def dkwX4_queue_4 : List UInt8 := [182, 1, 53, 21, 5, 182, 1, 57, 42, 180, 0, 26, 21, 5, 182, 0, 90, 192, 0, 100, 180, 0, 106]
abbrev dktX4_queue_4 : List UInt8 := dkwX4_queue_4 ++ dktX4_queue_5
def dkwX4_queue_3 : List UInt8 := [192, 0, 165, 182, 0, 167, 54, 5, 44, 21, 4, 158, 0, 9, 19, 1, 51, 167, 0, 6, 19, 1, 46]
abbrev dktX4_queue_3 : List UInt8 := dkwX4_queue_3 ++ dktX4_queue_4
def dkwX4_queue_2 : List UInt8 := [180, 0, 162, 78, 3, 54, 4, 21, 4, 45, 182, 0, 47, 162, 0, 77, 45, 21, 4, 182, 0, 90]
abbrev dktX4_queue_2 : List UInt8 := dkwX4_queue_2 ++ dktX4_queue_3
def dkwX4_queue_1 : List UInt8 := [19, 1, 46, 176, 187, 1, 48, 89, 183, 1, 50, 77, 42, 180, 0, 22, 27, 182, 0, 90, 192, 0, 68]
abbrev dktX4_queue_1 : List UInt8 := dkwX4_queue_1 ++ dktX4_queue_2
def dkwX4_queue_0 : List UInt8 := [42, 42, 27, 182, 0, 87, 153, 0, 7, 3, 167, 0, 4, 4, 181, 0, 40, 42, 180, 0, 40, 158, 0, 7]
abbrev dktX4_queue_0 : List UInt8 := dkwX4_queue_0 ++ dktX4_queue_1
theorem dksX4_queue_0 : cX4_queue.data.toList.drop 0 = dktX4_queue_0 := by decide +kernel
theorem dksX4_queue_1 : cX4_queue.data.toList.drop 24 = dktX4_queue_1 := dk_seg dksX4_queue_0 24 rfl rfl
theorem dksX4_queue_2 : cX4_queue.data.toList.drop 47 = dktX4_queue_2 := dk_seg dksX4_queue_1 23 rfl rfl
theorem dksX4_queue_3 : cX4_queue.data.toList.drop 69 = dktX4_queue_3 := dk_seg dksX4_queue_2 22 rfl rfl
theorem dksX4_queue_4 : cX4_queue.data.toList.drop 92 = dktX4_queue_4 := dk_seg dksX4_queue_3 23 rfl rfl
theorem dksX4_queue_5 : cX4_queue.data.toList.drop 115 = dktX4_queue_5 := dk_seg dksX4_queue_4 23 rfl rfl
theorem dksX4_queue_6 : cX4_queue.data.toList.drop 138 = dktX4_queue_6 := dk_seg dksX4_queue_5 23 rfl rfl
theorem dX4_queue_0 : decode cX4_queue 0 = .ok (.aload_n 0, 1) := dk_42 (dk_at dksX4_queue_0 0 rfl rfl)
theorem dX4_queue_1 : decode cX4_queue 1 = .ok (.aload_n 0, 1) := dk_42 (dk_at dksX4_queue_0 1 rfl rfl)
theorem dX4_queue_2 : decode cX4_queue 2 = .ok (.iload_n 1, 1) := dk_27 (dk_at dksX4_queue_0 2 rfl rfl)
theorem dX4_queue_3 : decode cX4_queue 3 = .ok (.invokevirtual 87, 3) := dk_182 0 87 (dk_at dksX4_queue_0 3 rfl rfl)
theorem dX4_queue_6 : decode cX4_queue 6 = .ok (.ifCond .eq 7, 3) := dk_153 0 7 (dk_at dksX4_queue_0 6 rfl rfl)
theorem dX4_queue_9 : decode cX4_queue 9 = .ok (.iconst 0, 1) := dk_3 (dk_at dksX4_queue_0 9 rfl rfl)
theorem dX4_queue_10 : decode cX4_queue 10 = .ok (.goto 4, 3) := dk_167 0 4 (dk_at dksX4_queue_0 10 rfl rfl)
theorem dX4_queue_13 : decode cX4_queue 13 = .ok (.iconst 1, 1) := dk_4 (dk_at dksX4_queue_0 13 rfl rfl)
theorem dX4_queue_14 : decode cX4_queue 14 = .ok (.putfield 40, 3) := dk_181 0 40 (dk_at dksX4_queue_0 14 rfl rfl)
theorem dX4_queue_17 : decode cX4_queue 17 = .ok (.aload_n 0, 1) := dk_42 (dk_at dksX4_queue_0 17 rfl rfl)
theorem dX4_queue_18 : decode cX4_queue 18 = .ok (.getfield 40, 3) := dk_180 0 40 (dk_at dksX4_queue_0 18 rfl rfl)
theorem dX4_queue_21 : decode cX4_queue 21 = .ok (.ifCond .le 7, 3) := dk_158 0 7 (dk_at dksX4_queue_0 21 rfl rfl)
theorem dX4_queue_24 : decode cX4_queue 24 = .ok (.ldc_w 302, 3) := dk_19 1 46 (dk_at dksX4_queue_1 0 rfl rfl)
theorem dX4_queue_27 : decode cX4_queue 27 = .ok (.areturn, 1) := dk_176 (dk_at dksX4_queue_1 3 rfl rfl)
theorem dX4_queue_28 : decode cX4_queue 28 = .ok (.new 304, 3) := dk_187 1 48 (dk_at dksX4_queue_1 4 rfl rfl)
theorem dX4_queue_31 : decode cX4_queue 31 = .ok (.dup, 1) := dk_89 (dk_at dksX4_queue_1 7 rfl rfl)
theorem dX4_queue_32 : decode cX4_queue 32 = .ok (.invokespecial 306, 3) := dk_183 1 50 (dk_at dksX4_queue_1 8 rfl rfl)
theorem dX4_queue_35 : decode cX4_queue 35 = .ok (.astore_n 2, 1) := dk_77 (dk_at dksX4_queue_1 11 rfl rfl)
theorem dX4_queue_36 : decode cX4_queue 36 = .ok (.aload_n 0, 1) := dk_42 (dk_at dksX4_queue_1 12 rfl rfl)
theorem dX4_queue_37 : decode cX4_queue 37 = .ok (.getfield 22, 3) := dk_180 0 22 (dk_at dksX4_queue_1 13 rfl rfl)
theorem dX4_queue_40 : decode cX4_queue 40 = .ok (.iload_n 1, 1) := dk_27 (dk_at dksX4_queue_1 16 rfl rfl)
theorem dX4_queue_41 : decode cX4_queue 41 = .ok (.invokevirtual 90, 3) := dk_182 0 90 (dk_at dksX4_queue_1 17 rfl rfl)
theorem dX4_queue_44 : decode cX4_queue 44 = .ok (.checkcast 68, 3) := dk_192 0 68 (dk_at dksX4_queue_1 20 rfl rfl)
theorem dX4_queue_47 : decode cX4_queue 47 = .ok (.getfield 162, 3) := dk_180 0 162 (dk_at dksX4_queue_2 0 rfl rfl)
theorem dX4_queue_50 : decode cX4_queue 50 = .ok (.astore_n 3, 1) := dk_78 (dk_at dksX4_queue_2 3 rfl rfl)
theorem dX4_queue_51 : decode cX4_queue 51 = .ok (.iconst 0, 1) := dk_3 (dk_at dksX4_queue_2 4 rfl rfl)
theorem dX4_queue_52 : decode cX4_queue 52 = .ok (.istore 4, 2) := dk_54 4 (dk_at dksX4_queue_2 5 rfl rfl)
theorem dX4_queue_54 : decode cX4_queue 54 = .ok (.iload 4, 2) := dk_21 4 (dk_at dksX4_queue_2 7 rfl rfl)
theorem dX4_queue_56 : decode cX4_queue 56 = .ok (.aload_n 3, 1) := dk_45 (dk_at dksX4_queue_2 9 rfl rfl)
theorem dX4_queue_57 : decode cX4_queue 57 = .ok (.invokevirtual 47, 3) := dk_182 0 47 (dk_at dksX4_queue_2 10 rfl rfl)
theorem dX4_queue_60 : decode cX4_queue 60 = .ok (.if_icmp .ge 77, 3) := dk_162 0 77 (dk_at dksX4_queue_2 13 rfl rfl)
theorem dX4_queue_63 : decode cX4_queue 63 = .ok (.aload_n 3, 1) := dk_45 (dk_at dksX4_queue_2 16 rfl rfl)
theorem dX4_queue_64 : decode cX4_queue 64 = .ok (.iload 4, 2) := dk_21 4 (dk_at dksX4_queue_2 17 rfl rfl)
theorem dX4_queue_66 : decode cX4_queue 66 = .ok (.invokevirtual 90, 3) := dk_182 0 90 (dk_at dksX4_queue_2 19 rfl rfl)
theorem dX4_queue_69 : decode cX4_queue 69 = .ok (.checkcast 165, 3) := dk_192 0 165 (dk_at dksX4_queue_3 0 rfl rfl)
theorem dX4_queue_72 : decode cX4_queue 72 = .ok (.invokevirtual 167, 3) := dk_182 0 167 (dk_at dksX4_queue_3 3 rfl rfl)
theorem dX4_queue_75 : decode cX4_queue 75 = .ok (.istore 5, 2) := dk_54 5 (dk_at dksX4_queue_3 6 rfl rfl)
theorem dX4_queue_77 : decode cX4_queue 77 = .ok (.aload_n 2, 1) := dk_44 (dk_at dksX4_queue_3 8 rfl rfl)
theorem dX4_queue_78 : decode cX4_queue 78 = .ok (.iload 4, 2) := dk_21 4 (dk_at dksX4_queue_3 9 rfl rfl)
theorem dX4_queue_80 : decode cX4_queue 80 = .ok (.ifCond .le 9, 3) := dk_158 0 9 (dk_at dksX4_queue_3 11 rfl rfl)
theorem dX4_queue_83 : decode cX4_queue 83 = .ok (.ldc_w 307, 3) := dk_19 1 51 (dk_at dksX4_queue_3 14 rfl rfl)
theorem dX4_queue_86 : decode cX4_queue 86 = .ok (.goto 6, 3) := dk_167 0 6 (dk_at dksX4_queue_3 17 rfl rfl)
theorem dX4_queue_89 : decode cX4_queue 89 = .ok (.ldc_w 302, 3) := dk_19 1 46 (dk_at dksX4_queue_3 20 rfl rfl)
theorem dX4_queue_92 : decode cX4_queue 92 = .ok (.invokevirtual 309, 3) := dk_182 1 53 (dk_at dksX4_queue_4 0 rfl rfl)
theorem dX4_queue_95 : decode cX4_queue 95 = .ok (.iload 5, 2) := dk_21 5 (dk_at dksX4_queue_4 3 rfl rfl)
theorem dX4_queue_97 : decode cX4_queue 97 = .ok (.invokevirtual 313, 3) := dk_182 1 57 (dk_at dksX4_queue_4 5 rfl rfl)
theorem dX4_queue_100 : decode cX4_queue 100 = .ok (.aload_n 0, 1) := dk_42 (dk_at dksX4_queue_4 8 rfl rfl)
theorem dX4_queue_101 : decode cX4_queue 101 = .ok (.getfield 26, 3) := dk_180 0 26 (dk_at dksX4_queue_4 9 rfl rfl)
theorem dX4_queue_104 : decode cX4_queue 104 = .ok (.iload 5, 2) := dk_21 5 (dk_at dksX4_queue_4 12 rfl rfl)
theorem dX4_queue_106 : decode cX4_queue 106 = .ok (.invokevirtual 90, 3) := dk_182 0 90 (dk_at dksX4_queue_4 14 rfl rfl)
theorem dX4_queue_109 : decode cX4_queue 109 = .ok (.checkcast 100, 3) := dk_192 0 100 (dk_at dksX4_queue_4 17 rfl rfl)
theorem dX4_queue_112 : decode cX4_queue 112 = .ok (.getfield 106, 3) := dk_180 0 106 (dk_at dksX4_queue_4 20 rfl rfl)
theorem dX4_queue_115 : decode cX4_queue 115 = .ok (.ifCond .eq 9, 3) := dk_153 0 9 (dk_at dksX4_queue_5 0 rfl rfl)
theorem dX4_queue_118 : decode cX4_queue 118 = .ok (.ldc_w 316, 3) := dk_19 1 60 (dk_at dksX4_queue_5 3 rfl rfl)
theorem dX4_queue_121 : decode cX4_queue 121 = .ok (.goto 6, 3) := dk_167 0 6 (dk_at dksX4_queue_5 6 rfl rfl)
theorem dX4_queue_124 : decode cX4_queue 124 = .ok (.ldc_w 302, 3) := dk_19 1 46 (dk_at dksX4_queue_5 9 rfl rfl)
theorem dX4_queue_127 : decode cX4_queue 127 = .ok (.invokevirtual 309, 3) := dk_182 1 53 (dk_at dksX4_queue_5 12 rfl rfl)
theorem dX4_queue_130 : decode cX4_queue 130 = .ok (.pop, 1) := dk_87 (dk_at dksX4_queue_5 15 rfl rfl)
theorem dX4_queue_131 : decode cX4_queue 131 = .ok (.iinc 4 1, 3) := dk_132 4 1 (dk_at dksX4_queue_5 16 rfl rfl)
theorem dX4_queue_134 : decode cX4_queue 134 = .ok (.goto (-80), 3) := dk_167 255 176 (dk_at dksX4_queue_5 19 rfl rfl)
theorem dX4_queue_137 : decode cX4_queue 137 = .ok (.aload_n 3, 1) := dk_45 (dk_at dksX4_queue_5 22 rfl rfl)
theorem dX4_queue_138 : decode cX4_queue 138 = .ok (.invokevirtual 247, 3) := dk_182 0 247 (dk_at dksX4_queue_6 0 rfl rfl)
theorem dX4_queue_141 : decode cX4_queue 141 = .ok (.ifCond .eq 9, 3) := dk_153 0 9 (dk_at dksX4_queue_6 3 rfl rfl)
theorem dX4_queue_144 : decode cX4_queue 144 = .ok (.ldc_w 318, 3) := dk_19 1 62 (dk_at dksX4_queue_6 6 rfl rfl)
theorem dX4_queue_147 : decode cX4_queue 147 = .ok (.goto 7, 3) := dk_167 0 7 (dk_at dksX4_queue_6 9 rfl rfl)
theorem dX4_queue_150 : decode cX4_queue 150 = .ok (.aload_n 2, 1) := dk_44 (dk_at dksX4_queue_6 12 rfl rfl)
theorem dX4_queue_151 : decode cX4_queue 151 = .ok (.invokevirtual 320, 3) := dk_182 1 64 (dk_at dksX4_queue_6 13 rfl rfl)
theorem dX4_queue_154 : decode cX4_queue 154 = .ok (.areturn, 1) := dk_176 (dk_at dksX4_queue_6 16 rfl rfl)
abbrev cX4_night : ByteArray := prog_14_method_48_code
def yX4_night : MethodName := ⟨RX4, "night", "(I)I"⟩
def dkwX4_night_1 : List UInt8 := [4, 182, 0, 55, 172]
abbrev dktX4_night_1 : List UInt8 := dkwX4_night_1 ++ []
def dkwX4_night_0 : List UInt8 := [42, 3, 181, 0, 40, 27, 3, 16, 16, 184, 0, 43, 153, 0, 11, 42, 27, 182, 1, 68, 167, 0, 8, 42]
abbrev dktX4_night_0 : List UInt8 := dkwX4_night_0 ++ dktX4_night_1
theorem dksX4_night_0 : cX4_night.data.toList.drop 0 = dktX4_night_0 := by decide +kernel
theorem dksX4_night_1 : cX4_night.data.toList.drop 24 = dktX4_night_1 := dk_seg dksX4_night_0 24 rfl rfl
theorem dX4_night_0 : decode cX4_night 0 = .ok (.aload_n 0, 1) := dk_42 (dk_at dksX4_night_0 0 rfl rfl)
theorem dX4_night_1 : decode cX4_night 1 = .ok (.iconst 0, 1) := dk_3 (dk_at dksX4_night_0 1 rfl rfl)
theorem dX4_night_2 : decode cX4_night 2 = .ok (.putfield 40, 3) := dk_181 0 40 (dk_at dksX4_night_0 2 rfl rfl)
theorem dX4_night_5 : decode cX4_night 5 = .ok (.iload_n 1, 1) := dk_27 (dk_at dksX4_night_0 5 rfl rfl)
theorem dX4_night_6 : decode cX4_night 6 = .ok (.iconst 0, 1) := dk_3 (dk_at dksX4_night_0 6 rfl rfl)
theorem dX4_night_7 : decode cX4_night 7 = .ok (.bipush 16, 2) := dk_16 16 (dk_at dksX4_night_0 7 rfl rfl)
theorem dX4_night_9 : decode cX4_night 9 = .ok (.invokestatic 43, 3) := dk_184 0 43 (dk_at dksX4_night_0 9 rfl rfl)
theorem dX4_night_12 : decode cX4_night 12 = .ok (.ifCond .eq 11, 3) := dk_153 0 11 (dk_at dksX4_night_0 12 rfl rfl)
theorem dX4_night_15 : decode cX4_night 15 = .ok (.aload_n 0, 1) := dk_42 (dk_at dksX4_night_0 15 rfl rfl)
theorem dX4_night_16 : decode cX4_night 16 = .ok (.iload_n 1, 1) := dk_27 (dk_at dksX4_night_0 16 rfl rfl)
theorem dX4_night_17 : decode cX4_night 17 = .ok (.invokevirtual 324, 3) := dk_182 1 68 (dk_at dksX4_night_0 17 rfl rfl)
theorem dX4_night_20 : decode cX4_night 20 = .ok (.goto 8, 3) := dk_167 0 8 (dk_at dksX4_night_0 20 rfl rfl)
theorem dX4_night_23 : decode cX4_night 23 = .ok (.aload_n 0, 1) := dk_42 (dk_at dksX4_night_0 23 rfl rfl)
theorem dX4_night_24 : decode cX4_night 24 = .ok (.iconst 1, 1) := dk_4 (dk_at dksX4_night_1 0 rfl rfl)
theorem dX4_night_25 : decode cX4_night 25 = .ok (.invokevirtual 55, 3) := dk_182 0 55 (dk_at dksX4_night_1 1 rfl rfl)
theorem dX4_night_28 : decode cX4_night 28 = .ok (.ireturn, 1) := dk_172 (dk_at dksX4_night_1 4 rfl rfl)
abbrev cX4_nightNow : ByteArray := prog_14_method_47_code
def yX4_nightNow : MethodName := ⟨RX4, "nightNow", "(I)I"⟩
def dkwX4_nightNow_14 : List UInt8 := [180, 0, 227, 96, 61, 132, 5, 1, 167, 255, 232, 28, 172]
abbrev dktX4_nightNow_14 : List UInt8 := dkwX4_nightNow_14 ++ []
def dkwX4_nightNow_13 : List UInt8 := [190, 54, 4, 3, 54, 5, 21, 5, 21, 4, 162, 0, 23, 45, 21, 5, 50, 58, 6, 28, 25, 6]
abbrev dktX4_nightNow_13 : List UInt8 := dkwX4_nightNow_13 ++ dktX4_nightNow_14
def dkwX4_nightNow_12 : List UInt8 := [58, 6, 28, 25, 6, 180, 0, 234, 96, 61, 132, 5, 1, 167, 255, 232, 28, 172, 42, 180, 0, 15, 78, 45]
abbrev dktX4_nightNow_12 : List UInt8 := dkwX4_nightNow_12 ++ dktX4_nightNow_13
def dkwX4_nightNow_11 : List UInt8 := [172, 42, 180, 0, 15, 78, 45, 190, 54, 4, 3, 54, 5, 21, 5, 21, 4, 162, 0, 23, 45, 21, 5, 50]
abbrev dktX4_nightNow_11 : List UInt8 := dkwX4_nightNow_11 ++ dktX4_nightNow_12
def dkwX4_nightNow_10 : List UInt8 := [167, 255, 217, 28, 172, 42, 180, 0, 32, 182, 0, 47, 6, 108, 172, 42, 180, 0, 218, 172, 42, 180, 0, 250]
abbrev dktX4_nightNow_10 : List UInt8 := dkwX4_nightNow_10 ++ dktX4_nightNow_11
def dkwX4_nightNow_9 : List UInt8 := [192, 0, 119, 58, 4, 28, 25, 4, 180, 0, 131, 17, 3, 231, 160, 0, 7, 4, 167, 0, 4, 3, 96, 61]
abbrev dktX4_nightNow_9 : List UInt8 := dkwX4_nightNow_9 ++ dktX4_nightNow_10
def dkwX4_nightNow_8 : List UInt8 := [180, 0, 29, 182, 1, 8, 78, 45, 185, 1, 12, 1, 0, 153, 0, 36, 45, 185, 1, 17, 1, 0]
abbrev dktX4_nightNow_8 : List UInt8 := dkwX4_nightNow_8 ++ dktX4_nightNow_9
def dkwX4_nightNow_7 : List UInt8 := [180, 0, 208, 27, 8, 100, 160, 0, 7, 4, 167, 0, 4, 3, 96, 61, 167, 255, 217, 28, 172, 42]
abbrev dktX4_nightNow_7 : List UInt8 := dkwX4_nightNow_7 ++ dktX4_nightNow_8
def dkwX4_nightNow_6 : List UInt8 := [45, 185, 1, 12, 1, 0, 153, 0, 36, 45, 185, 1, 17, 1, 0, 192, 0, 119, 58, 4, 28, 25, 4]
abbrev dktX4_nightNow_6 : List UInt8 := dkwX4_nightNow_6 ++ dktX4_nightNow_7
def dkwX4_nightNow_5 : List UInt8 := [3, 96, 61, 167, 255, 219, 28, 172, 42, 180, 0, 29, 182, 0, 47, 172, 42, 180, 0, 29, 182, 1, 8, 78]
abbrev dktX4_nightNow_5 : List UInt8 := dkwX4_nightNow_5 ++ dktX4_nightNow_6
def dkwX4_nightNow_4 : List UInt8 := [185, 1, 17, 1, 0, 192, 0, 100, 58, 4, 28, 25, 4, 180, 0, 116, 5, 160, 0, 7, 4, 167, 0, 4]
abbrev dktX4_nightNow_4 : List UInt8 := dkwX4_nightNow_4 ++ dktX4_nightNow_5
def dkwX4_nightNow_3 : List UInt8 := [182, 0, 47, 172, 42, 180, 0, 26, 182, 1, 8, 78, 45, 185, 1, 12, 1, 0, 153, 0, 34, 45]
abbrev dktX4_nightNow_3 : List UInt8 := dkwX4_nightNow_3 ++ dktX4_nightNow_4
def dkwX4_nightNow_2 : List UInt8 := [42, 180, 0, 137, 172, 42, 180, 0, 241, 172, 42, 180, 0, 22, 182, 0, 47, 172, 42, 180, 0, 26]
abbrev dktX4_nightNow_2 : List UInt8 := dkwX4_nightNow_2 ++ dktX4_nightNow_3
def dkwX4_nightNow_1 : List UInt8 := [170, 0, 0, 1, 70, 0, 0, 0, 0, 0, 0, 0, 15, 0, 0, 0, 77, 0, 0, 0, 82, 0, 0, 0, 87, 0, 0, 0, 95, 0, 0, 0, 103, 0, 0, 0, 153, 0, 0, 0, 161, 0, 0, 0, 161, 0, 0, 0, 161, 0, 0, 0, 161, 0, 0, 0, 161, 0, 0, 0, 213, 0, 0, 1, 9, 0, 0, 1, 19, 0, 0, 1, 24, 0, 0, 1, 29]
abbrev dktX4_nightNow_1 : List UInt8 := dkwX4_nightNow_1 ++ dktX4_nightNow_2
def dkwX4_nightNow_0 : List UInt8 := [3, 61, 27]
abbrev dktX4_nightNow_0 : List UInt8 := dkwX4_nightNow_0 ++ dktX4_nightNow_1
theorem dksX4_nightNow_0 : cX4_nightNow.data.toList.drop 0 = dktX4_nightNow_0 := by decide +kernel
theorem dksX4_nightNow_1 : cX4_nightNow.data.toList.drop 3 = dktX4_nightNow_1 := dk_seg dksX4_nightNow_0 3 rfl rfl
theorem dksX4_nightNow_2 : cX4_nightNow.data.toList.drop 80 = dktX4_nightNow_2 := dk_seg dksX4_nightNow_1 77 rfl rfl
theorem dksX4_nightNow_3 : cX4_nightNow.data.toList.drop 102 = dktX4_nightNow_3 := dk_seg dksX4_nightNow_2 22 rfl rfl
theorem dksX4_nightNow_4 : cX4_nightNow.data.toList.drop 124 = dktX4_nightNow_4 := dk_seg dksX4_nightNow_3 22 rfl rfl
theorem dksX4_nightNow_5 : cX4_nightNow.data.toList.drop 148 = dktX4_nightNow_5 := dk_seg dksX4_nightNow_4 24 rfl rfl
theorem dksX4_nightNow_6 : cX4_nightNow.data.toList.drop 172 = dktX4_nightNow_6 := dk_seg dksX4_nightNow_5 24 rfl rfl
theorem dksX4_nightNow_7 : cX4_nightNow.data.toList.drop 195 = dktX4_nightNow_7 := dk_seg dksX4_nightNow_6 23 rfl rfl
theorem dksX4_nightNow_8 : cX4_nightNow.data.toList.drop 217 = dktX4_nightNow_8 := dk_seg dksX4_nightNow_7 22 rfl rfl
theorem dksX4_nightNow_9 : cX4_nightNow.data.toList.drop 239 = dktX4_nightNow_9 := dk_seg dksX4_nightNow_8 22 rfl rfl
theorem dksX4_nightNow_10 : cX4_nightNow.data.toList.drop 263 = dktX4_nightNow_10 := dk_seg dksX4_nightNow_9 24 rfl rfl
theorem dksX4_nightNow_11 : cX4_nightNow.data.toList.drop 287 = dktX4_nightNow_11 := dk_seg dksX4_nightNow_10 24 rfl rfl
theorem dksX4_nightNow_12 : cX4_nightNow.data.toList.drop 311 = dktX4_nightNow_12 := dk_seg dksX4_nightNow_11 24 rfl rfl
theorem dksX4_nightNow_13 : cX4_nightNow.data.toList.drop 335 = dktX4_nightNow_13 := dk_seg dksX4_nightNow_12 24 rfl rfl
theorem dksX4_nightNow_14 : cX4_nightNow.data.toList.drop 357 = dktX4_nightNow_14 := dk_seg dksX4_nightNow_13 22 rfl rfl
theorem dX4_nightNow_0 : decode cX4_nightNow 0 = .ok (.iconst 0, 1) := dk_3 (dk_at dksX4_nightNow_0 0 rfl rfl)
theorem dX4_nightNow_1 : decode cX4_nightNow 1 = .ok (.istore_n 2, 1) := dk_61 (dk_at dksX4_nightNow_0 1 rfl rfl)
theorem dX4_nightNow_2 : decode cX4_nightNow 2 = .ok (.iload_n 1, 1) := dk_27 (dk_at dksX4_nightNow_0 2 rfl rfl)
theorem dX4_nightNow_3 : decode cX4_nightNow 3 = .ok (.tableswitch 326 0 15 #[77, 82, 87, 95, 103, 153, 161, 161, 161, 161, 161, 213, 265, 275, 280, 285], 77) := by decide +kernel
theorem dX4_nightNow_80 : decode cX4_nightNow 80 = .ok (.aload_n 0, 1) := dk_42 (dk_at dksX4_nightNow_2 0 rfl rfl)
theorem dX4_nightNow_81 : decode cX4_nightNow 81 = .ok (.getfield 137, 3) := dk_180 0 137 (dk_at dksX4_nightNow_2 1 rfl rfl)
theorem dX4_nightNow_84 : decode cX4_nightNow 84 = .ok (.ireturn, 1) := dk_172 (dk_at dksX4_nightNow_2 4 rfl rfl)
theorem dX4_nightNow_85 : decode cX4_nightNow 85 = .ok (.aload_n 0, 1) := dk_42 (dk_at dksX4_nightNow_2 5 rfl rfl)
theorem dX4_nightNow_86 : decode cX4_nightNow 86 = .ok (.getfield 241, 3) := dk_180 0 241 (dk_at dksX4_nightNow_2 6 rfl rfl)
theorem dX4_nightNow_89 : decode cX4_nightNow 89 = .ok (.ireturn, 1) := dk_172 (dk_at dksX4_nightNow_2 9 rfl rfl)
theorem dX4_nightNow_90 : decode cX4_nightNow 90 = .ok (.aload_n 0, 1) := dk_42 (dk_at dksX4_nightNow_2 10 rfl rfl)
theorem dX4_nightNow_91 : decode cX4_nightNow 91 = .ok (.getfield 22, 3) := dk_180 0 22 (dk_at dksX4_nightNow_2 11 rfl rfl)
theorem dX4_nightNow_94 : decode cX4_nightNow 94 = .ok (.invokevirtual 47, 3) := dk_182 0 47 (dk_at dksX4_nightNow_2 14 rfl rfl)
theorem dX4_nightNow_97 : decode cX4_nightNow 97 = .ok (.ireturn, 1) := dk_172 (dk_at dksX4_nightNow_2 17 rfl rfl)
theorem dX4_nightNow_98 : decode cX4_nightNow 98 = .ok (.aload_n 0, 1) := dk_42 (dk_at dksX4_nightNow_2 18 rfl rfl)
theorem dX4_nightNow_99 : decode cX4_nightNow 99 = .ok (.getfield 26, 3) := dk_180 0 26 (dk_at dksX4_nightNow_2 19 rfl rfl)
theorem dX4_nightNow_102 : decode cX4_nightNow 102 = .ok (.invokevirtual 47, 3) := dk_182 0 47 (dk_at dksX4_nightNow_3 0 rfl rfl)
theorem dX4_nightNow_105 : decode cX4_nightNow 105 = .ok (.ireturn, 1) := dk_172 (dk_at dksX4_nightNow_3 3 rfl rfl)
theorem dX4_nightNow_106 : decode cX4_nightNow 106 = .ok (.aload_n 0, 1) := dk_42 (dk_at dksX4_nightNow_3 4 rfl rfl)
theorem dX4_nightNow_107 : decode cX4_nightNow 107 = .ok (.getfield 26, 3) := dk_180 0 26 (dk_at dksX4_nightNow_3 5 rfl rfl)
theorem dX4_nightNow_110 : decode cX4_nightNow 110 = .ok (.invokevirtual 264, 3) := dk_182 1 8 (dk_at dksX4_nightNow_3 8 rfl rfl)
theorem dX4_nightNow_113 : decode cX4_nightNow 113 = .ok (.astore_n 3, 1) := dk_78 (dk_at dksX4_nightNow_3 11 rfl rfl)
theorem dX4_nightNow_114 : decode cX4_nightNow 114 = .ok (.aload_n 3, 1) := dk_45 (dk_at dksX4_nightNow_3 12 rfl rfl)
theorem dX4_nightNow_115 : decode cX4_nightNow 115 = .ok (.invokeinterface 268 1, 5) := by decide +kernel
theorem dX4_nightNow_120 : decode cX4_nightNow 120 = .ok (.ifCond .eq 34, 3) := dk_153 0 34 (dk_at dksX4_nightNow_3 18 rfl rfl)
theorem dX4_nightNow_123 : decode cX4_nightNow 123 = .ok (.aload_n 3, 1) := dk_45 (dk_at dksX4_nightNow_3 21 rfl rfl)
theorem dX4_nightNow_124 : decode cX4_nightNow 124 = .ok (.invokeinterface 273 1, 5) := by decide +kernel
theorem dX4_nightNow_129 : decode cX4_nightNow 129 = .ok (.checkcast 100, 3) := dk_192 0 100 (dk_at dksX4_nightNow_4 5 rfl rfl)
theorem dX4_nightNow_132 : decode cX4_nightNow 132 = .ok (.astore 4, 2) := dk_58 4 (dk_at dksX4_nightNow_4 8 rfl rfl)
theorem dX4_nightNow_134 : decode cX4_nightNow 134 = .ok (.iload_n 2, 1) := dk_28 (dk_at dksX4_nightNow_4 10 rfl rfl)
theorem dX4_nightNow_135 : decode cX4_nightNow 135 = .ok (.aload 4, 2) := dk_25 4 (dk_at dksX4_nightNow_4 11 rfl rfl)
theorem dX4_nightNow_137 : decode cX4_nightNow 137 = .ok (.getfield 116, 3) := dk_180 0 116 (dk_at dksX4_nightNow_4 13 rfl rfl)
theorem dX4_nightNow_140 : decode cX4_nightNow 140 = .ok (.iconst 2, 1) := dk_5 (dk_at dksX4_nightNow_4 16 rfl rfl)
theorem dX4_nightNow_141 : decode cX4_nightNow 141 = .ok (.if_icmp .ne 7, 3) := dk_160 0 7 (dk_at dksX4_nightNow_4 17 rfl rfl)
theorem dX4_nightNow_144 : decode cX4_nightNow 144 = .ok (.iconst 1, 1) := dk_4 (dk_at dksX4_nightNow_4 20 rfl rfl)
theorem dX4_nightNow_145 : decode cX4_nightNow 145 = .ok (.goto 4, 3) := dk_167 0 4 (dk_at dksX4_nightNow_4 21 rfl rfl)
theorem dX4_nightNow_148 : decode cX4_nightNow 148 = .ok (.iconst 0, 1) := dk_3 (dk_at dksX4_nightNow_5 0 rfl rfl)
theorem dX4_nightNow_149 : decode cX4_nightNow 149 = .ok (.iadd, 1) := dk_96 (dk_at dksX4_nightNow_5 1 rfl rfl)
theorem dX4_nightNow_150 : decode cX4_nightNow 150 = .ok (.istore_n 2, 1) := dk_61 (dk_at dksX4_nightNow_5 2 rfl rfl)
theorem dX4_nightNow_151 : decode cX4_nightNow 151 = .ok (.goto (-37), 3) := dk_167 255 219 (dk_at dksX4_nightNow_5 3 rfl rfl)
theorem dX4_nightNow_154 : decode cX4_nightNow 154 = .ok (.iload_n 2, 1) := dk_28 (dk_at dksX4_nightNow_5 6 rfl rfl)
theorem dX4_nightNow_155 : decode cX4_nightNow 155 = .ok (.ireturn, 1) := dk_172 (dk_at dksX4_nightNow_5 7 rfl rfl)
theorem dX4_nightNow_156 : decode cX4_nightNow 156 = .ok (.aload_n 0, 1) := dk_42 (dk_at dksX4_nightNow_5 8 rfl rfl)
theorem dX4_nightNow_157 : decode cX4_nightNow 157 = .ok (.getfield 29, 3) := dk_180 0 29 (dk_at dksX4_nightNow_5 9 rfl rfl)
theorem dX4_nightNow_160 : decode cX4_nightNow 160 = .ok (.invokevirtual 47, 3) := dk_182 0 47 (dk_at dksX4_nightNow_5 12 rfl rfl)
theorem dX4_nightNow_163 : decode cX4_nightNow 163 = .ok (.ireturn, 1) := dk_172 (dk_at dksX4_nightNow_5 15 rfl rfl)
theorem dX4_nightNow_164 : decode cX4_nightNow 164 = .ok (.aload_n 0, 1) := dk_42 (dk_at dksX4_nightNow_5 16 rfl rfl)
theorem dX4_nightNow_165 : decode cX4_nightNow 165 = .ok (.getfield 29, 3) := dk_180 0 29 (dk_at dksX4_nightNow_5 17 rfl rfl)
theorem dX4_nightNow_168 : decode cX4_nightNow 168 = .ok (.invokevirtual 264, 3) := dk_182 1 8 (dk_at dksX4_nightNow_5 20 rfl rfl)
theorem dX4_nightNow_171 : decode cX4_nightNow 171 = .ok (.astore_n 3, 1) := dk_78 (dk_at dksX4_nightNow_5 23 rfl rfl)
theorem dX4_nightNow_172 : decode cX4_nightNow 172 = .ok (.aload_n 3, 1) := dk_45 (dk_at dksX4_nightNow_6 0 rfl rfl)
theorem dX4_nightNow_173 : decode cX4_nightNow 173 = .ok (.invokeinterface 268 1, 5) := by decide +kernel
theorem dX4_nightNow_178 : decode cX4_nightNow 178 = .ok (.ifCond .eq 36, 3) := dk_153 0 36 (dk_at dksX4_nightNow_6 6 rfl rfl)
theorem dX4_nightNow_181 : decode cX4_nightNow 181 = .ok (.aload_n 3, 1) := dk_45 (dk_at dksX4_nightNow_6 9 rfl rfl)
theorem dX4_nightNow_182 : decode cX4_nightNow 182 = .ok (.invokeinterface 273 1, 5) := by decide +kernel
theorem dX4_nightNow_187 : decode cX4_nightNow 187 = .ok (.checkcast 119, 3) := dk_192 0 119 (dk_at dksX4_nightNow_6 15 rfl rfl)
theorem dX4_nightNow_190 : decode cX4_nightNow 190 = .ok (.astore 4, 2) := dk_58 4 (dk_at dksX4_nightNow_6 18 rfl rfl)
theorem dX4_nightNow_192 : decode cX4_nightNow 192 = .ok (.iload_n 2, 1) := dk_28 (dk_at dksX4_nightNow_6 20 rfl rfl)
theorem dX4_nightNow_193 : decode cX4_nightNow 193 = .ok (.aload 4, 2) := dk_25 4 (dk_at dksX4_nightNow_6 21 rfl rfl)
theorem dX4_nightNow_195 : decode cX4_nightNow 195 = .ok (.getfield 208, 3) := dk_180 0 208 (dk_at dksX4_nightNow_7 0 rfl rfl)
theorem dX4_nightNow_198 : decode cX4_nightNow 198 = .ok (.iload_n 1, 1) := dk_27 (dk_at dksX4_nightNow_7 3 rfl rfl)
theorem dX4_nightNow_199 : decode cX4_nightNow 199 = .ok (.iconst 5, 1) := dk_8 (dk_at dksX4_nightNow_7 4 rfl rfl)
theorem dX4_nightNow_200 : decode cX4_nightNow 200 = .ok (.isub, 1) := dk_100 (dk_at dksX4_nightNow_7 5 rfl rfl)
theorem dX4_nightNow_201 : decode cX4_nightNow 201 = .ok (.if_icmp .ne 7, 3) := dk_160 0 7 (dk_at dksX4_nightNow_7 6 rfl rfl)
theorem dX4_nightNow_204 : decode cX4_nightNow 204 = .ok (.iconst 1, 1) := dk_4 (dk_at dksX4_nightNow_7 9 rfl rfl)
theorem dX4_nightNow_205 : decode cX4_nightNow 205 = .ok (.goto 4, 3) := dk_167 0 4 (dk_at dksX4_nightNow_7 10 rfl rfl)
theorem dX4_nightNow_208 : decode cX4_nightNow 208 = .ok (.iconst 0, 1) := dk_3 (dk_at dksX4_nightNow_7 13 rfl rfl)
theorem dX4_nightNow_209 : decode cX4_nightNow 209 = .ok (.iadd, 1) := dk_96 (dk_at dksX4_nightNow_7 14 rfl rfl)
theorem dX4_nightNow_210 : decode cX4_nightNow 210 = .ok (.istore_n 2, 1) := dk_61 (dk_at dksX4_nightNow_7 15 rfl rfl)
theorem dX4_nightNow_211 : decode cX4_nightNow 211 = .ok (.goto (-39), 3) := dk_167 255 217 (dk_at dksX4_nightNow_7 16 rfl rfl)
theorem dX4_nightNow_214 : decode cX4_nightNow 214 = .ok (.iload_n 2, 1) := dk_28 (dk_at dksX4_nightNow_7 19 rfl rfl)
theorem dX4_nightNow_215 : decode cX4_nightNow 215 = .ok (.ireturn, 1) := dk_172 (dk_at dksX4_nightNow_7 20 rfl rfl)
theorem dX4_nightNow_216 : decode cX4_nightNow 216 = .ok (.aload_n 0, 1) := dk_42 (dk_at dksX4_nightNow_7 21 rfl rfl)
theorem dX4_nightNow_217 : decode cX4_nightNow 217 = .ok (.getfield 29, 3) := dk_180 0 29 (dk_at dksX4_nightNow_8 0 rfl rfl)
theorem dX4_nightNow_220 : decode cX4_nightNow 220 = .ok (.invokevirtual 264, 3) := dk_182 1 8 (dk_at dksX4_nightNow_8 3 rfl rfl)
theorem dX4_nightNow_223 : decode cX4_nightNow 223 = .ok (.astore_n 3, 1) := dk_78 (dk_at dksX4_nightNow_8 6 rfl rfl)
theorem dX4_nightNow_224 : decode cX4_nightNow 224 = .ok (.aload_n 3, 1) := dk_45 (dk_at dksX4_nightNow_8 7 rfl rfl)
theorem dX4_nightNow_225 : decode cX4_nightNow 225 = .ok (.invokeinterface 268 1, 5) := by decide +kernel
theorem dX4_nightNow_230 : decode cX4_nightNow 230 = .ok (.ifCond .eq 36, 3) := dk_153 0 36 (dk_at dksX4_nightNow_8 13 rfl rfl)
theorem dX4_nightNow_233 : decode cX4_nightNow 233 = .ok (.aload_n 3, 1) := dk_45 (dk_at dksX4_nightNow_8 16 rfl rfl)
theorem dX4_nightNow_234 : decode cX4_nightNow 234 = .ok (.invokeinterface 273 1, 5) := by decide +kernel
theorem dX4_nightNow_239 : decode cX4_nightNow 239 = .ok (.checkcast 119, 3) := dk_192 0 119 (dk_at dksX4_nightNow_9 0 rfl rfl)
theorem dX4_nightNow_242 : decode cX4_nightNow 242 = .ok (.astore 4, 2) := dk_58 4 (dk_at dksX4_nightNow_9 3 rfl rfl)
theorem dX4_nightNow_244 : decode cX4_nightNow 244 = .ok (.iload_n 2, 1) := dk_28 (dk_at dksX4_nightNow_9 5 rfl rfl)
theorem dX4_nightNow_245 : decode cX4_nightNow 245 = .ok (.aload 4, 2) := dk_25 4 (dk_at dksX4_nightNow_9 6 rfl rfl)
theorem dX4_nightNow_247 : decode cX4_nightNow 247 = .ok (.getfield 131, 3) := dk_180 0 131 (dk_at dksX4_nightNow_9 8 rfl rfl)
theorem dX4_nightNow_250 : decode cX4_nightNow 250 = .ok (.sipush 999, 3) := dk_17 3 231 (dk_at dksX4_nightNow_9 11 rfl rfl)
theorem dX4_nightNow_253 : decode cX4_nightNow 253 = .ok (.if_icmp .ne 7, 3) := dk_160 0 7 (dk_at dksX4_nightNow_9 14 rfl rfl)
theorem dX4_nightNow_256 : decode cX4_nightNow 256 = .ok (.iconst 1, 1) := dk_4 (dk_at dksX4_nightNow_9 17 rfl rfl)
theorem dX4_nightNow_257 : decode cX4_nightNow 257 = .ok (.goto 4, 3) := dk_167 0 4 (dk_at dksX4_nightNow_9 18 rfl rfl)
theorem dX4_nightNow_260 : decode cX4_nightNow 260 = .ok (.iconst 0, 1) := dk_3 (dk_at dksX4_nightNow_9 21 rfl rfl)
theorem dX4_nightNow_261 : decode cX4_nightNow 261 = .ok (.iadd, 1) := dk_96 (dk_at dksX4_nightNow_9 22 rfl rfl)
theorem dX4_nightNow_262 : decode cX4_nightNow 262 = .ok (.istore_n 2, 1) := dk_61 (dk_at dksX4_nightNow_9 23 rfl rfl)
theorem dX4_nightNow_263 : decode cX4_nightNow 263 = .ok (.goto (-39), 3) := dk_167 255 217 (dk_at dksX4_nightNow_10 0 rfl rfl)
theorem dX4_nightNow_266 : decode cX4_nightNow 266 = .ok (.iload_n 2, 1) := dk_28 (dk_at dksX4_nightNow_10 3 rfl rfl)
theorem dX4_nightNow_267 : decode cX4_nightNow 267 = .ok (.ireturn, 1) := dk_172 (dk_at dksX4_nightNow_10 4 rfl rfl)
theorem dX4_nightNow_268 : decode cX4_nightNow 268 = .ok (.aload_n 0, 1) := dk_42 (dk_at dksX4_nightNow_10 5 rfl rfl)
theorem dX4_nightNow_269 : decode cX4_nightNow 269 = .ok (.getfield 32, 3) := dk_180 0 32 (dk_at dksX4_nightNow_10 6 rfl rfl)
theorem dX4_nightNow_272 : decode cX4_nightNow 272 = .ok (.invokevirtual 47, 3) := dk_182 0 47 (dk_at dksX4_nightNow_10 9 rfl rfl)
theorem dX4_nightNow_275 : decode cX4_nightNow 275 = .ok (.iconst 3, 1) := dk_6 (dk_at dksX4_nightNow_10 12 rfl rfl)
theorem dX4_nightNow_276 : decode cX4_nightNow 276 = .ok (.idiv, 1) := dk_108 (dk_at dksX4_nightNow_10 13 rfl rfl)
theorem dX4_nightNow_277 : decode cX4_nightNow 277 = .ok (.ireturn, 1) := dk_172 (dk_at dksX4_nightNow_10 14 rfl rfl)
theorem dX4_nightNow_278 : decode cX4_nightNow 278 = .ok (.aload_n 0, 1) := dk_42 (dk_at dksX4_nightNow_10 15 rfl rfl)
theorem dX4_nightNow_279 : decode cX4_nightNow 279 = .ok (.getfield 218, 3) := dk_180 0 218 (dk_at dksX4_nightNow_10 16 rfl rfl)
theorem dX4_nightNow_282 : decode cX4_nightNow 282 = .ok (.ireturn, 1) := dk_172 (dk_at dksX4_nightNow_10 19 rfl rfl)
theorem dX4_nightNow_283 : decode cX4_nightNow 283 = .ok (.aload_n 0, 1) := dk_42 (dk_at dksX4_nightNow_10 20 rfl rfl)
theorem dX4_nightNow_284 : decode cX4_nightNow 284 = .ok (.getfield 250, 3) := dk_180 0 250 (dk_at dksX4_nightNow_10 21 rfl rfl)
theorem dX4_nightNow_287 : decode cX4_nightNow 287 = .ok (.ireturn, 1) := dk_172 (dk_at dksX4_nightNow_11 0 rfl rfl)
theorem dX4_nightNow_288 : decode cX4_nightNow 288 = .ok (.aload_n 0, 1) := dk_42 (dk_at dksX4_nightNow_11 1 rfl rfl)
theorem dX4_nightNow_289 : decode cX4_nightNow 289 = .ok (.getfield 15, 3) := dk_180 0 15 (dk_at dksX4_nightNow_11 2 rfl rfl)
theorem dX4_nightNow_292 : decode cX4_nightNow 292 = .ok (.astore_n 3, 1) := dk_78 (dk_at dksX4_nightNow_11 5 rfl rfl)
theorem dX4_nightNow_293 : decode cX4_nightNow 293 = .ok (.aload_n 3, 1) := dk_45 (dk_at dksX4_nightNow_11 6 rfl rfl)
theorem dX4_nightNow_294 : decode cX4_nightNow 294 = .ok (.arraylength, 1) := dk_190 (dk_at dksX4_nightNow_11 7 rfl rfl)
theorem dX4_nightNow_295 : decode cX4_nightNow 295 = .ok (.istore 4, 2) := dk_54 4 (dk_at dksX4_nightNow_11 8 rfl rfl)
theorem dX4_nightNow_297 : decode cX4_nightNow 297 = .ok (.iconst 0, 1) := dk_3 (dk_at dksX4_nightNow_11 10 rfl rfl)
theorem dX4_nightNow_298 : decode cX4_nightNow 298 = .ok (.istore 5, 2) := dk_54 5 (dk_at dksX4_nightNow_11 11 rfl rfl)
theorem dX4_nightNow_300 : decode cX4_nightNow 300 = .ok (.iload 5, 2) := dk_21 5 (dk_at dksX4_nightNow_11 13 rfl rfl)
theorem dX4_nightNow_302 : decode cX4_nightNow 302 = .ok (.iload 4, 2) := dk_21 4 (dk_at dksX4_nightNow_11 15 rfl rfl)
theorem dX4_nightNow_304 : decode cX4_nightNow 304 = .ok (.if_icmp .ge 23, 3) := dk_162 0 23 (dk_at dksX4_nightNow_11 17 rfl rfl)
theorem dX4_nightNow_307 : decode cX4_nightNow 307 = .ok (.aload_n 3, 1) := dk_45 (dk_at dksX4_nightNow_11 20 rfl rfl)
theorem dX4_nightNow_308 : decode cX4_nightNow 308 = .ok (.iload 5, 2) := dk_21 5 (dk_at dksX4_nightNow_11 21 rfl rfl)
theorem dX4_nightNow_310 : decode cX4_nightNow 310 = .ok (.aaload, 1) := dk_50 (dk_at dksX4_nightNow_11 23 rfl rfl)
theorem dX4_nightNow_311 : decode cX4_nightNow 311 = .ok (.astore 6, 2) := dk_58 6 (dk_at dksX4_nightNow_12 0 rfl rfl)
theorem dX4_nightNow_313 : decode cX4_nightNow 313 = .ok (.iload_n 2, 1) := dk_28 (dk_at dksX4_nightNow_12 2 rfl rfl)
theorem dX4_nightNow_314 : decode cX4_nightNow 314 = .ok (.aload 6, 2) := dk_25 6 (dk_at dksX4_nightNow_12 3 rfl rfl)
theorem dX4_nightNow_316 : decode cX4_nightNow 316 = .ok (.getfield 234, 3) := dk_180 0 234 (dk_at dksX4_nightNow_12 5 rfl rfl)
theorem dX4_nightNow_319 : decode cX4_nightNow 319 = .ok (.iadd, 1) := dk_96 (dk_at dksX4_nightNow_12 8 rfl rfl)
theorem dX4_nightNow_320 : decode cX4_nightNow 320 = .ok (.istore_n 2, 1) := dk_61 (dk_at dksX4_nightNow_12 9 rfl rfl)
theorem dX4_nightNow_321 : decode cX4_nightNow 321 = .ok (.iinc 5 1, 3) := dk_132 5 1 (dk_at dksX4_nightNow_12 10 rfl rfl)
theorem dX4_nightNow_324 : decode cX4_nightNow 324 = .ok (.goto (-24), 3) := dk_167 255 232 (dk_at dksX4_nightNow_12 13 rfl rfl)
theorem dX4_nightNow_327 : decode cX4_nightNow 327 = .ok (.iload_n 2, 1) := dk_28 (dk_at dksX4_nightNow_12 16 rfl rfl)
theorem dX4_nightNow_328 : decode cX4_nightNow 328 = .ok (.ireturn, 1) := dk_172 (dk_at dksX4_nightNow_12 17 rfl rfl)
theorem dX4_nightNow_329 : decode cX4_nightNow 329 = .ok (.aload_n 0, 1) := dk_42 (dk_at dksX4_nightNow_12 18 rfl rfl)
theorem dX4_nightNow_330 : decode cX4_nightNow 330 = .ok (.getfield 15, 3) := dk_180 0 15 (dk_at dksX4_nightNow_12 19 rfl rfl)
theorem dX4_nightNow_333 : decode cX4_nightNow 333 = .ok (.astore_n 3, 1) := dk_78 (dk_at dksX4_nightNow_12 22 rfl rfl)
theorem dX4_nightNow_334 : decode cX4_nightNow 334 = .ok (.aload_n 3, 1) := dk_45 (dk_at dksX4_nightNow_12 23 rfl rfl)
theorem dX4_nightNow_335 : decode cX4_nightNow 335 = .ok (.arraylength, 1) := dk_190 (dk_at dksX4_nightNow_13 0 rfl rfl)
theorem dX4_nightNow_336 : decode cX4_nightNow 336 = .ok (.istore 4, 2) := dk_54 4 (dk_at dksX4_nightNow_13 1 rfl rfl)
theorem dX4_nightNow_338 : decode cX4_nightNow 338 = .ok (.iconst 0, 1) := dk_3 (dk_at dksX4_nightNow_13 3 rfl rfl)
theorem dX4_nightNow_339 : decode cX4_nightNow 339 = .ok (.istore 5, 2) := dk_54 5 (dk_at dksX4_nightNow_13 4 rfl rfl)
theorem dX4_nightNow_341 : decode cX4_nightNow 341 = .ok (.iload 5, 2) := dk_21 5 (dk_at dksX4_nightNow_13 6 rfl rfl)
theorem dX4_nightNow_343 : decode cX4_nightNow 343 = .ok (.iload 4, 2) := dk_21 4 (dk_at dksX4_nightNow_13 8 rfl rfl)
theorem dX4_nightNow_345 : decode cX4_nightNow 345 = .ok (.if_icmp .ge 23, 3) := dk_162 0 23 (dk_at dksX4_nightNow_13 10 rfl rfl)
theorem dX4_nightNow_348 : decode cX4_nightNow 348 = .ok (.aload_n 3, 1) := dk_45 (dk_at dksX4_nightNow_13 13 rfl rfl)
theorem dX4_nightNow_349 : decode cX4_nightNow 349 = .ok (.iload 5, 2) := dk_21 5 (dk_at dksX4_nightNow_13 14 rfl rfl)
theorem dX4_nightNow_351 : decode cX4_nightNow 351 = .ok (.aaload, 1) := dk_50 (dk_at dksX4_nightNow_13 16 rfl rfl)
theorem dX4_nightNow_352 : decode cX4_nightNow 352 = .ok (.astore 6, 2) := dk_58 6 (dk_at dksX4_nightNow_13 17 rfl rfl)
theorem dX4_nightNow_354 : decode cX4_nightNow 354 = .ok (.iload_n 2, 1) := dk_28 (dk_at dksX4_nightNow_13 19 rfl rfl)
theorem dX4_nightNow_355 : decode cX4_nightNow 355 = .ok (.aload 6, 2) := dk_25 6 (dk_at dksX4_nightNow_13 20 rfl rfl)
theorem dX4_nightNow_357 : decode cX4_nightNow 357 = .ok (.getfield 227, 3) := dk_180 0 227 (dk_at dksX4_nightNow_14 0 rfl rfl)
theorem dX4_nightNow_360 : decode cX4_nightNow 360 = .ok (.iadd, 1) := dk_96 (dk_at dksX4_nightNow_14 3 rfl rfl)
theorem dX4_nightNow_361 : decode cX4_nightNow 361 = .ok (.istore_n 2, 1) := dk_61 (dk_at dksX4_nightNow_14 4 rfl rfl)
theorem dX4_nightNow_362 : decode cX4_nightNow 362 = .ok (.iinc 5 1, 3) := dk_132 5 1 (dk_at dksX4_nightNow_14 5 rfl rfl)
theorem dX4_nightNow_365 : decode cX4_nightNow 365 = .ok (.goto (-24), 3) := dk_167 255 232 (dk_at dksX4_nightNow_14 8 rfl rfl)
theorem dX4_nightNow_368 : decode cX4_nightNow 368 = .ok (.iload_n 2, 1) := dk_28 (dk_at dksX4_nightNow_14 11 rfl rfl)
theorem dX4_nightNow_369 : decode cX4_nightNow 369 = .ok (.ireturn, 1) := dk_172 (dk_at dksX4_nightNow_14 12 rfl rfl)
abbrev cX4_way : ByteArray := prog_14_method_50_code
def yX4_way : MethodName := ⟨RX4, "way", "(II)I"⟩
def dkwX4_way_1 : List UInt8 := [182, 1, 71, 167, 0, 8, 42, 4, 182, 0, 55, 172]
abbrev dktX4_way_1 : List UInt8 := dkwX4_way_1 ++ []
def dkwX4_way_0 : List UInt8 := [42, 3, 181, 0, 40, 42, 27, 182, 0, 51, 153, 0, 20, 42, 28, 182, 0, 51, 153, 0, 12, 42, 27, 28]
abbrev dktX4_way_0 : List UInt8 := dkwX4_way_0 ++ dktX4_way_1
theorem dksX4_way_0 : cX4_way.data.toList.drop 0 = dktX4_way_0 := by decide +kernel
theorem dksX4_way_1 : cX4_way.data.toList.drop 24 = dktX4_way_1 := dk_seg dksX4_way_0 24 rfl rfl
theorem dX4_way_0 : decode cX4_way 0 = .ok (.aload_n 0, 1) := dk_42 (dk_at dksX4_way_0 0 rfl rfl)
theorem dX4_way_1 : decode cX4_way 1 = .ok (.iconst 0, 1) := dk_3 (dk_at dksX4_way_0 1 rfl rfl)
theorem dX4_way_2 : decode cX4_way 2 = .ok (.putfield 40, 3) := dk_181 0 40 (dk_at dksX4_way_0 2 rfl rfl)
theorem dX4_way_5 : decode cX4_way 5 = .ok (.aload_n 0, 1) := dk_42 (dk_at dksX4_way_0 5 rfl rfl)
theorem dX4_way_6 : decode cX4_way 6 = .ok (.iload_n 1, 1) := dk_27 (dk_at dksX4_way_0 6 rfl rfl)
theorem dX4_way_7 : decode cX4_way 7 = .ok (.invokevirtual 51, 3) := dk_182 0 51 (dk_at dksX4_way_0 7 rfl rfl)
theorem dX4_way_10 : decode cX4_way 10 = .ok (.ifCond .eq 20, 3) := dk_153 0 20 (dk_at dksX4_way_0 10 rfl rfl)
theorem dX4_way_13 : decode cX4_way 13 = .ok (.aload_n 0, 1) := dk_42 (dk_at dksX4_way_0 13 rfl rfl)
theorem dX4_way_14 : decode cX4_way 14 = .ok (.iload_n 2, 1) := dk_28 (dk_at dksX4_way_0 14 rfl rfl)
theorem dX4_way_15 : decode cX4_way 15 = .ok (.invokevirtual 51, 3) := dk_182 0 51 (dk_at dksX4_way_0 15 rfl rfl)
theorem dX4_way_18 : decode cX4_way 18 = .ok (.ifCond .eq 12, 3) := dk_153 0 12 (dk_at dksX4_way_0 18 rfl rfl)
theorem dX4_way_21 : decode cX4_way 21 = .ok (.aload_n 0, 1) := dk_42 (dk_at dksX4_way_0 21 rfl rfl)
theorem dX4_way_22 : decode cX4_way 22 = .ok (.iload_n 1, 1) := dk_27 (dk_at dksX4_way_0 22 rfl rfl)
theorem dX4_way_23 : decode cX4_way 23 = .ok (.iload_n 2, 1) := dk_28 (dk_at dksX4_way_0 23 rfl rfl)
theorem dX4_way_24 : decode cX4_way 24 = .ok (.invokevirtual 327, 3) := dk_182 1 71 (dk_at dksX4_way_1 0 rfl rfl)
theorem dX4_way_27 : decode cX4_way 27 = .ok (.goto 8, 3) := dk_167 0 8 (dk_at dksX4_way_1 3 rfl rfl)
theorem dX4_way_30 : decode cX4_way 30 = .ok (.aload_n 0, 1) := dk_42 (dk_at dksX4_way_1 6 rfl rfl)
theorem dX4_way_31 : decode cX4_way 31 = .ok (.iconst 1, 1) := dk_4 (dk_at dksX4_way_1 7 rfl rfl)
theorem dX4_way_32 : decode cX4_way 32 = .ok (.invokevirtual 55, 3) := dk_182 0 55 (dk_at dksX4_way_1 8 rfl rfl)
theorem dX4_way_35 : decode cX4_way 35 = .ok (.ireturn, 1) := dk_172 (dk_at dksX4_way_1 11 rfl rfl)
abbrev cX4_wayNow : ByteArray := prog_14_method_49_code
def yX4_wayNow : MethodName := ⟨RX4, "wayNow", "(II)I"⟩
def dkwX4_wayNow_6 : List UInt8 := [132, 4, 1, 167, 255, 122, 2, 172]
abbrev dktX4_wayNow_6 : List UInt8 := dkwX4_wayNow_6 ++ []
def dkwX4_wayNow_5 : List UInt8 := [160, 0, 15, 21, 5, 4, 25, 7, 180, 0, 71, 120, 128, 54, 5, 132, 6, 1, 167, 255, 156, 21, 5, 62]
abbrev dktX4_wayNow_5 : List UInt8 := dkwX4_wayNow_5 ++ dktX4_wayNow_6
def dkwX4_wayNow_4 : List UInt8 := [21, 5, 4, 25, 7, 180, 0, 74, 120, 128, 54, 5, 29, 25, 7, 180, 0, 74, 122, 4, 126, 4]
abbrev dktX4_wayNow_4 : List UInt8 := dkwX4_wayNow_4 ++ dktX4_wayNow_5
def dkwX4_wayNow_3 : List UInt8 := [112, 182, 0, 244, 154, 0, 6, 167, 0, 53, 29, 25, 7, 180, 0, 71, 122, 4, 126, 4, 160, 0, 15]
abbrev dktX4_wayNow_3 : List UInt8 := dkwX4_wayNow_3 ++ dktX4_wayNow_4
def dkwX4_wayNow_2 : List UInt8 := [180, 0, 22, 21, 6, 182, 0, 90, 192, 0, 68, 58, 7, 25, 7, 42, 180, 0, 241, 21, 4, 96, 16, 24]
abbrev dktX4_wayNow_2 : List UInt8 := dkwX4_wayNow_2 ++ dktX4_wayNow_3
def dkwX4_wayNow_1 : List UInt8 := [21, 4, 172, 29, 54, 5, 3, 54, 6, 21, 6, 42, 180, 0, 22, 182, 0, 47, 162, 0, 94, 42]
abbrev dktX4_wayNow_1 : List UInt8 := dkwX4_wayNow_1 ++ dktX4_wayNow_2
def dkwX4_wayNow_0 : List UInt8 := [4, 27, 120, 62, 3, 54, 4, 21, 4, 16, 72, 163, 0, 133, 29, 28, 122, 4, 126, 4, 160, 0, 6]
abbrev dktX4_wayNow_0 : List UInt8 := dkwX4_wayNow_0 ++ dktX4_wayNow_1
theorem dksX4_wayNow_0 : cX4_wayNow.data.toList.drop 0 = dktX4_wayNow_0 := by decide +kernel
theorem dksX4_wayNow_1 : cX4_wayNow.data.toList.drop 23 = dktX4_wayNow_1 := dk_seg dksX4_wayNow_0 23 rfl rfl
theorem dksX4_wayNow_2 : cX4_wayNow.data.toList.drop 45 = dktX4_wayNow_2 := dk_seg dksX4_wayNow_1 22 rfl rfl
theorem dksX4_wayNow_3 : cX4_wayNow.data.toList.drop 69 = dktX4_wayNow_3 := dk_seg dksX4_wayNow_2 24 rfl rfl
theorem dksX4_wayNow_4 : cX4_wayNow.data.toList.drop 92 = dktX4_wayNow_4 := dk_seg dksX4_wayNow_3 23 rfl rfl
theorem dksX4_wayNow_5 : cX4_wayNow.data.toList.drop 114 = dktX4_wayNow_5 := dk_seg dksX4_wayNow_4 22 rfl rfl
theorem dksX4_wayNow_6 : cX4_wayNow.data.toList.drop 138 = dktX4_wayNow_6 := dk_seg dksX4_wayNow_5 24 rfl rfl
theorem dX4_wayNow_0 : decode cX4_wayNow 0 = .ok (.iconst 1, 1) := dk_4 (dk_at dksX4_wayNow_0 0 rfl rfl)
theorem dX4_wayNow_1 : decode cX4_wayNow 1 = .ok (.iload_n 1, 1) := dk_27 (dk_at dksX4_wayNow_0 1 rfl rfl)
theorem dX4_wayNow_2 : decode cX4_wayNow 2 = .ok (.ishl, 1) := dk_120 (dk_at dksX4_wayNow_0 2 rfl rfl)
theorem dX4_wayNow_3 : decode cX4_wayNow 3 = .ok (.istore_n 3, 1) := dk_62 (dk_at dksX4_wayNow_0 3 rfl rfl)
theorem dX4_wayNow_4 : decode cX4_wayNow 4 = .ok (.iconst 0, 1) := dk_3 (dk_at dksX4_wayNow_0 4 rfl rfl)
theorem dX4_wayNow_5 : decode cX4_wayNow 5 = .ok (.istore 4, 2) := dk_54 4 (dk_at dksX4_wayNow_0 5 rfl rfl)
theorem dX4_wayNow_7 : decode cX4_wayNow 7 = .ok (.iload 4, 2) := dk_21 4 (dk_at dksX4_wayNow_0 7 rfl rfl)
theorem dX4_wayNow_9 : decode cX4_wayNow 9 = .ok (.bipush 72, 2) := dk_16 72 (dk_at dksX4_wayNow_0 9 rfl rfl)
theorem dX4_wayNow_11 : decode cX4_wayNow 11 = .ok (.if_icmp .gt 133, 3) := dk_163 0 133 (dk_at dksX4_wayNow_0 11 rfl rfl)
theorem dX4_wayNow_14 : decode cX4_wayNow 14 = .ok (.iload_n 3, 1) := dk_29 (dk_at dksX4_wayNow_0 14 rfl rfl)
theorem dX4_wayNow_15 : decode cX4_wayNow 15 = .ok (.iload_n 2, 1) := dk_28 (dk_at dksX4_wayNow_0 15 rfl rfl)
theorem dX4_wayNow_16 : decode cX4_wayNow 16 = .ok (.ishr, 1) := dk_122 (dk_at dksX4_wayNow_0 16 rfl rfl)
theorem dX4_wayNow_17 : decode cX4_wayNow 17 = .ok (.iconst 1, 1) := dk_4 (dk_at dksX4_wayNow_0 17 rfl rfl)
theorem dX4_wayNow_18 : decode cX4_wayNow 18 = .ok (.iand, 1) := dk_126 (dk_at dksX4_wayNow_0 18 rfl rfl)
theorem dX4_wayNow_19 : decode cX4_wayNow 19 = .ok (.iconst 1, 1) := dk_4 (dk_at dksX4_wayNow_0 19 rfl rfl)
theorem dX4_wayNow_20 : decode cX4_wayNow 20 = .ok (.if_icmp .ne 6, 3) := dk_160 0 6 (dk_at dksX4_wayNow_0 20 rfl rfl)
theorem dX4_wayNow_23 : decode cX4_wayNow 23 = .ok (.iload 4, 2) := dk_21 4 (dk_at dksX4_wayNow_1 0 rfl rfl)
theorem dX4_wayNow_25 : decode cX4_wayNow 25 = .ok (.ireturn, 1) := dk_172 (dk_at dksX4_wayNow_1 2 rfl rfl)
theorem dX4_wayNow_26 : decode cX4_wayNow 26 = .ok (.iload_n 3, 1) := dk_29 (dk_at dksX4_wayNow_1 3 rfl rfl)
theorem dX4_wayNow_27 : decode cX4_wayNow 27 = .ok (.istore 5, 2) := dk_54 5 (dk_at dksX4_wayNow_1 4 rfl rfl)
theorem dX4_wayNow_29 : decode cX4_wayNow 29 = .ok (.iconst 0, 1) := dk_3 (dk_at dksX4_wayNow_1 6 rfl rfl)
theorem dX4_wayNow_30 : decode cX4_wayNow 30 = .ok (.istore 6, 2) := dk_54 6 (dk_at dksX4_wayNow_1 7 rfl rfl)
theorem dX4_wayNow_32 : decode cX4_wayNow 32 = .ok (.iload 6, 2) := dk_21 6 (dk_at dksX4_wayNow_1 9 rfl rfl)
theorem dX4_wayNow_34 : decode cX4_wayNow 34 = .ok (.aload_n 0, 1) := dk_42 (dk_at dksX4_wayNow_1 11 rfl rfl)
theorem dX4_wayNow_35 : decode cX4_wayNow 35 = .ok (.getfield 22, 3) := dk_180 0 22 (dk_at dksX4_wayNow_1 12 rfl rfl)
theorem dX4_wayNow_38 : decode cX4_wayNow 38 = .ok (.invokevirtual 47, 3) := dk_182 0 47 (dk_at dksX4_wayNow_1 15 rfl rfl)
theorem dX4_wayNow_41 : decode cX4_wayNow 41 = .ok (.if_icmp .ge 94, 3) := dk_162 0 94 (dk_at dksX4_wayNow_1 18 rfl rfl)
theorem dX4_wayNow_44 : decode cX4_wayNow 44 = .ok (.aload_n 0, 1) := dk_42 (dk_at dksX4_wayNow_1 21 rfl rfl)
theorem dX4_wayNow_45 : decode cX4_wayNow 45 = .ok (.getfield 22, 3) := dk_180 0 22 (dk_at dksX4_wayNow_2 0 rfl rfl)
theorem dX4_wayNow_48 : decode cX4_wayNow 48 = .ok (.iload 6, 2) := dk_21 6 (dk_at dksX4_wayNow_2 3 rfl rfl)
theorem dX4_wayNow_50 : decode cX4_wayNow 50 = .ok (.invokevirtual 90, 3) := dk_182 0 90 (dk_at dksX4_wayNow_2 5 rfl rfl)
theorem dX4_wayNow_53 : decode cX4_wayNow 53 = .ok (.checkcast 68, 3) := dk_192 0 68 (dk_at dksX4_wayNow_2 8 rfl rfl)
theorem dX4_wayNow_56 : decode cX4_wayNow 56 = .ok (.astore 7, 2) := dk_58 7 (dk_at dksX4_wayNow_2 11 rfl rfl)
theorem dX4_wayNow_58 : decode cX4_wayNow 58 = .ok (.aload 7, 2) := dk_25 7 (dk_at dksX4_wayNow_2 13 rfl rfl)
theorem dX4_wayNow_60 : decode cX4_wayNow 60 = .ok (.aload_n 0, 1) := dk_42 (dk_at dksX4_wayNow_2 15 rfl rfl)
theorem dX4_wayNow_61 : decode cX4_wayNow 61 = .ok (.getfield 241, 3) := dk_180 0 241 (dk_at dksX4_wayNow_2 16 rfl rfl)
theorem dX4_wayNow_64 : decode cX4_wayNow 64 = .ok (.iload 4, 2) := dk_21 4 (dk_at dksX4_wayNow_2 19 rfl rfl)
theorem dX4_wayNow_66 : decode cX4_wayNow 66 = .ok (.iadd, 1) := dk_96 (dk_at dksX4_wayNow_2 21 rfl rfl)
theorem dX4_wayNow_67 : decode cX4_wayNow 67 = .ok (.bipush 24, 2) := dk_16 24 (dk_at dksX4_wayNow_2 22 rfl rfl)
theorem dX4_wayNow_69 : decode cX4_wayNow 69 = .ok (.irem, 1) := dk_112 (dk_at dksX4_wayNow_3 0 rfl rfl)
theorem dX4_wayNow_70 : decode cX4_wayNow 70 = .ok (.invokevirtual 244, 3) := dk_182 0 244 (dk_at dksX4_wayNow_3 1 rfl rfl)
theorem dX4_wayNow_73 : decode cX4_wayNow 73 = .ok (.ifCond .ne 6, 3) := dk_154 0 6 (dk_at dksX4_wayNow_3 4 rfl rfl)
theorem dX4_wayNow_76 : decode cX4_wayNow 76 = .ok (.goto 53, 3) := dk_167 0 53 (dk_at dksX4_wayNow_3 7 rfl rfl)
theorem dX4_wayNow_79 : decode cX4_wayNow 79 = .ok (.iload_n 3, 1) := dk_29 (dk_at dksX4_wayNow_3 10 rfl rfl)
theorem dX4_wayNow_80 : decode cX4_wayNow 80 = .ok (.aload 7, 2) := dk_25 7 (dk_at dksX4_wayNow_3 11 rfl rfl)
theorem dX4_wayNow_82 : decode cX4_wayNow 82 = .ok (.getfield 71, 3) := dk_180 0 71 (dk_at dksX4_wayNow_3 13 rfl rfl)
theorem dX4_wayNow_85 : decode cX4_wayNow 85 = .ok (.ishr, 1) := dk_122 (dk_at dksX4_wayNow_3 16 rfl rfl)
theorem dX4_wayNow_86 : decode cX4_wayNow 86 = .ok (.iconst 1, 1) := dk_4 (dk_at dksX4_wayNow_3 17 rfl rfl)
theorem dX4_wayNow_87 : decode cX4_wayNow 87 = .ok (.iand, 1) := dk_126 (dk_at dksX4_wayNow_3 18 rfl rfl)
theorem dX4_wayNow_88 : decode cX4_wayNow 88 = .ok (.iconst 1, 1) := dk_4 (dk_at dksX4_wayNow_3 19 rfl rfl)
theorem dX4_wayNow_89 : decode cX4_wayNow 89 = .ok (.if_icmp .ne 15, 3) := dk_160 0 15 (dk_at dksX4_wayNow_3 20 rfl rfl)
theorem dX4_wayNow_92 : decode cX4_wayNow 92 = .ok (.iload 5, 2) := dk_21 5 (dk_at dksX4_wayNow_4 0 rfl rfl)
theorem dX4_wayNow_94 : decode cX4_wayNow 94 = .ok (.iconst 1, 1) := dk_4 (dk_at dksX4_wayNow_4 2 rfl rfl)
theorem dX4_wayNow_95 : decode cX4_wayNow 95 = .ok (.aload 7, 2) := dk_25 7 (dk_at dksX4_wayNow_4 3 rfl rfl)
theorem dX4_wayNow_97 : decode cX4_wayNow 97 = .ok (.getfield 74, 3) := dk_180 0 74 (dk_at dksX4_wayNow_4 5 rfl rfl)
theorem dX4_wayNow_100 : decode cX4_wayNow 100 = .ok (.ishl, 1) := dk_120 (dk_at dksX4_wayNow_4 8 rfl rfl)
theorem dX4_wayNow_101 : decode cX4_wayNow 101 = .ok (.ior, 1) := dk_128 (dk_at dksX4_wayNow_4 9 rfl rfl)
theorem dX4_wayNow_102 : decode cX4_wayNow 102 = .ok (.istore 5, 2) := dk_54 5 (dk_at dksX4_wayNow_4 10 rfl rfl)
theorem dX4_wayNow_104 : decode cX4_wayNow 104 = .ok (.iload_n 3, 1) := dk_29 (dk_at dksX4_wayNow_4 12 rfl rfl)
theorem dX4_wayNow_105 : decode cX4_wayNow 105 = .ok (.aload 7, 2) := dk_25 7 (dk_at dksX4_wayNow_4 13 rfl rfl)
theorem dX4_wayNow_107 : decode cX4_wayNow 107 = .ok (.getfield 74, 3) := dk_180 0 74 (dk_at dksX4_wayNow_4 15 rfl rfl)
theorem dX4_wayNow_110 : decode cX4_wayNow 110 = .ok (.ishr, 1) := dk_122 (dk_at dksX4_wayNow_4 18 rfl rfl)
theorem dX4_wayNow_111 : decode cX4_wayNow 111 = .ok (.iconst 1, 1) := dk_4 (dk_at dksX4_wayNow_4 19 rfl rfl)
theorem dX4_wayNow_112 : decode cX4_wayNow 112 = .ok (.iand, 1) := dk_126 (dk_at dksX4_wayNow_4 20 rfl rfl)
theorem dX4_wayNow_113 : decode cX4_wayNow 113 = .ok (.iconst 1, 1) := dk_4 (dk_at dksX4_wayNow_4 21 rfl rfl)
theorem dX4_wayNow_114 : decode cX4_wayNow 114 = .ok (.if_icmp .ne 15, 3) := dk_160 0 15 (dk_at dksX4_wayNow_5 0 rfl rfl)
theorem dX4_wayNow_117 : decode cX4_wayNow 117 = .ok (.iload 5, 2) := dk_21 5 (dk_at dksX4_wayNow_5 3 rfl rfl)
theorem dX4_wayNow_119 : decode cX4_wayNow 119 = .ok (.iconst 1, 1) := dk_4 (dk_at dksX4_wayNow_5 5 rfl rfl)
theorem dX4_wayNow_120 : decode cX4_wayNow 120 = .ok (.aload 7, 2) := dk_25 7 (dk_at dksX4_wayNow_5 6 rfl rfl)
theorem dX4_wayNow_122 : decode cX4_wayNow 122 = .ok (.getfield 71, 3) := dk_180 0 71 (dk_at dksX4_wayNow_5 8 rfl rfl)
theorem dX4_wayNow_125 : decode cX4_wayNow 125 = .ok (.ishl, 1) := dk_120 (dk_at dksX4_wayNow_5 11 rfl rfl)
theorem dX4_wayNow_126 : decode cX4_wayNow 126 = .ok (.ior, 1) := dk_128 (dk_at dksX4_wayNow_5 12 rfl rfl)
theorem dX4_wayNow_127 : decode cX4_wayNow 127 = .ok (.istore 5, 2) := dk_54 5 (dk_at dksX4_wayNow_5 13 rfl rfl)
theorem dX4_wayNow_129 : decode cX4_wayNow 129 = .ok (.iinc 6 1, 3) := dk_132 6 1 (dk_at dksX4_wayNow_5 15 rfl rfl)
theorem dX4_wayNow_132 : decode cX4_wayNow 132 = .ok (.goto (-100), 3) := dk_167 255 156 (dk_at dksX4_wayNow_5 18 rfl rfl)
theorem dX4_wayNow_135 : decode cX4_wayNow 135 = .ok (.iload 5, 2) := dk_21 5 (dk_at dksX4_wayNow_5 21 rfl rfl)
theorem dX4_wayNow_137 : decode cX4_wayNow 137 = .ok (.istore_n 3, 1) := dk_62 (dk_at dksX4_wayNow_5 23 rfl rfl)
theorem dX4_wayNow_138 : decode cX4_wayNow 138 = .ok (.iinc 4 1, 3) := dk_132 4 1 (dk_at dksX4_wayNow_6 0 rfl rfl)
theorem dX4_wayNow_141 : decode cX4_wayNow 141 = .ok (.goto (-134), 3) := dk_167 255 122 (dk_at dksX4_wayNow_6 3 rfl rfl)
theorem dX4_wayNow_144 : decode cX4_wayNow 144 = .ok (.iconst (-1), 1) := dk_2 (dk_at dksX4_wayNow_6 6 rfl rfl)
theorem dX4_wayNow_145 : decode cX4_wayNow 145 = .ok (.ireturn, 1) := dk_172 (dk_at dksX4_wayNow_6 7 rfl rfl)
abbrev cX4_plan : ByteArray := prog_14_method_53_code
def yX4_plan : MethodName := ⟨RX4, "plan", "(II)I"⟩
def dkwX4_plan_2 : List UInt8 := [182, 0, 55, 172]
abbrev dktX4_plan_2 : List UInt8 := dkwX4_plan_2 ++ []
def dkwX4_plan_1 : List UInt8 := [27, 3, 17, 7, 208, 184, 0, 43, 153, 0, 12, 42, 27, 28, 182, 1, 81, 167, 0, 8, 42, 5]
abbrev dktX4_plan_1 : List UInt8 := dkwX4_plan_1 ++ dktX4_plan_2
def dkwX4_plan_0 : List UInt8 := [42, 3, 181, 0, 40, 28, 2, 159, 0, 17, 42, 28, 182, 0, 87, 154, 0, 9, 42, 4, 182, 0, 55, 172]
abbrev dktX4_plan_0 : List UInt8 := dkwX4_plan_0 ++ dktX4_plan_1
theorem dksX4_plan_0 : cX4_plan.data.toList.drop 0 = dktX4_plan_0 := by decide +kernel
theorem dksX4_plan_1 : cX4_plan.data.toList.drop 24 = dktX4_plan_1 := dk_seg dksX4_plan_0 24 rfl rfl
theorem dksX4_plan_2 : cX4_plan.data.toList.drop 46 = dktX4_plan_2 := dk_seg dksX4_plan_1 22 rfl rfl
theorem dX4_plan_0 : decode cX4_plan 0 = .ok (.aload_n 0, 1) := dk_42 (dk_at dksX4_plan_0 0 rfl rfl)
theorem dX4_plan_1 : decode cX4_plan 1 = .ok (.iconst 0, 1) := dk_3 (dk_at dksX4_plan_0 1 rfl rfl)
theorem dX4_plan_2 : decode cX4_plan 2 = .ok (.putfield 40, 3) := dk_181 0 40 (dk_at dksX4_plan_0 2 rfl rfl)
theorem dX4_plan_5 : decode cX4_plan 5 = .ok (.iload_n 2, 1) := dk_28 (dk_at dksX4_plan_0 5 rfl rfl)
theorem dX4_plan_6 : decode cX4_plan 6 = .ok (.iconst (-1), 1) := dk_2 (dk_at dksX4_plan_0 6 rfl rfl)
theorem dX4_plan_7 : decode cX4_plan 7 = .ok (.if_icmp .eq 17, 3) := dk_159 0 17 (dk_at dksX4_plan_0 7 rfl rfl)
theorem dX4_plan_10 : decode cX4_plan 10 = .ok (.aload_n 0, 1) := dk_42 (dk_at dksX4_plan_0 10 rfl rfl)
theorem dX4_plan_11 : decode cX4_plan 11 = .ok (.iload_n 2, 1) := dk_28 (dk_at dksX4_plan_0 11 rfl rfl)
theorem dX4_plan_12 : decode cX4_plan 12 = .ok (.invokevirtual 87, 3) := dk_182 0 87 (dk_at dksX4_plan_0 12 rfl rfl)
theorem dX4_plan_15 : decode cX4_plan 15 = .ok (.ifCond .ne 9, 3) := dk_154 0 9 (dk_at dksX4_plan_0 15 rfl rfl)
theorem dX4_plan_18 : decode cX4_plan 18 = .ok (.aload_n 0, 1) := dk_42 (dk_at dksX4_plan_0 18 rfl rfl)
theorem dX4_plan_19 : decode cX4_plan 19 = .ok (.iconst 1, 1) := dk_4 (dk_at dksX4_plan_0 19 rfl rfl)
theorem dX4_plan_20 : decode cX4_plan 20 = .ok (.invokevirtual 55, 3) := dk_182 0 55 (dk_at dksX4_plan_0 20 rfl rfl)
theorem dX4_plan_23 : decode cX4_plan 23 = .ok (.ireturn, 1) := dk_172 (dk_at dksX4_plan_0 23 rfl rfl)
theorem dX4_plan_24 : decode cX4_plan 24 = .ok (.iload_n 1, 1) := dk_27 (dk_at dksX4_plan_1 0 rfl rfl)
theorem dX4_plan_25 : decode cX4_plan 25 = .ok (.iconst 0, 1) := dk_3 (dk_at dksX4_plan_1 1 rfl rfl)
theorem dX4_plan_26 : decode cX4_plan 26 = .ok (.sipush 2000, 3) := dk_17 7 208 (dk_at dksX4_plan_1 2 rfl rfl)
theorem dX4_plan_29 : decode cX4_plan 29 = .ok (.invokestatic 43, 3) := dk_184 0 43 (dk_at dksX4_plan_1 5 rfl rfl)
theorem dX4_plan_32 : decode cX4_plan 32 = .ok (.ifCond .eq 12, 3) := dk_153 0 12 (dk_at dksX4_plan_1 8 rfl rfl)
theorem dX4_plan_35 : decode cX4_plan 35 = .ok (.aload_n 0, 1) := dk_42 (dk_at dksX4_plan_1 11 rfl rfl)
theorem dX4_plan_36 : decode cX4_plan 36 = .ok (.iload_n 1, 1) := dk_27 (dk_at dksX4_plan_1 12 rfl rfl)
theorem dX4_plan_37 : decode cX4_plan 37 = .ok (.iload_n 2, 1) := dk_28 (dk_at dksX4_plan_1 13 rfl rfl)
theorem dX4_plan_38 : decode cX4_plan 38 = .ok (.invokevirtual 337, 3) := dk_182 1 81 (dk_at dksX4_plan_1 14 rfl rfl)
theorem dX4_plan_41 : decode cX4_plan 41 = .ok (.goto 8, 3) := dk_167 0 8 (dk_at dksX4_plan_1 17 rfl rfl)
theorem dX4_plan_44 : decode cX4_plan 44 = .ok (.aload_n 0, 1) := dk_42 (dk_at dksX4_plan_1 20 rfl rfl)
theorem dX4_plan_45 : decode cX4_plan 45 = .ok (.iconst 2, 1) := dk_5 (dk_at dksX4_plan_1 21 rfl rfl)
theorem dX4_plan_46 : decode cX4_plan 46 = .ok (.invokevirtual 55, 3) := dk_182 0 55 (dk_at dksX4_plan_2 0 rfl rfl)
theorem dX4_plan_49 : decode cX4_plan 49 = .ok (.ireturn, 1) := dk_172 (dk_at dksX4_plan_2 3 rfl rfl)
abbrev cX4_planNow : ByteArray := prog_14_method_52_code
def yX4_planNow : MethodName := ⟨RX4, "planNow", "(II)I"⟩
def dkwX4_planNow_6 : List UInt8 := [21, 9, 104, 16, 10, 108, 100, 54, 6, 132, 7, 1, 167, 255, 156, 2, 172]
abbrev dktX4_planNow_6 : List UInt8 := dkwX4_planNow_6 ++ []
def dkwX4_planNow_5 : List UInt8 := [167, 255, 224, 21, 7, 28, 160, 0, 6, 21, 9, 172, 21, 5, 21, 9, 100, 54, 5, 21, 6, 21, 8]
abbrev dktX4_planNow_5 : List UInt8 := dkwX4_planNow_5 ++ dktX4_planNow_6
def dkwX4_planNow_4 : List UInt8 := [25, 4, 21, 7, 4, 96, 29, 104, 21, 5, 96, 21, 9, 100, 46, 96, 21, 6, 162, 0, 9, 132, 9, 1]
abbrev dktX4_planNow_4 : List UInt8 := dkwX4_planNow_4 ++ dktX4_planNow_5
def dkwX4_planNow_3 : List UInt8 := [21, 7, 182, 0, 90, 192, 0, 68, 182, 1, 30, 54, 8, 3, 54, 9, 21, 8, 21, 9, 104, 16, 10, 108]
abbrev dktX4_planNow_3 : List UInt8 := dkwX4_planNow_3 ++ dktX4_planNow_4
def dkwX4_planNow_2 : List UInt8 := [172, 27, 54, 6, 3, 54, 7, 21, 7, 42, 180, 0, 22, 182, 0, 47, 162, 0, 94, 42, 42, 180, 0, 22]
abbrev dktX4_planNow_2 : List UInt8 := dkwX4_planNow_2 ++ dktX4_planNow_3
def dkwX4_planNow_1 : List UInt8 := [162, 0, 9, 132, 5, 1, 167, 255, 238, 21, 5, 29, 160, 0, 5, 2, 172, 28, 2, 160, 0, 6, 21, 5]
abbrev dktX4_planNow_1 : List UInt8 := dkwX4_planNow_1 ++ dktX4_planNow_2
def dkwX4_planNow_0 : List UInt8 := [16, 81, 62, 42, 182, 1, 77, 58, 4, 3, 54, 5, 21, 5, 29, 162, 0, 18, 25, 4, 21, 5, 46, 27]
abbrev dktX4_planNow_0 : List UInt8 := dkwX4_planNow_0 ++ dktX4_planNow_1
theorem dksX4_planNow_0 : cX4_planNow.data.toList.drop 0 = dktX4_planNow_0 := by decide +kernel
theorem dksX4_planNow_1 : cX4_planNow.data.toList.drop 24 = dktX4_planNow_1 := dk_seg dksX4_planNow_0 24 rfl rfl
theorem dksX4_planNow_2 : cX4_planNow.data.toList.drop 48 = dktX4_planNow_2 := dk_seg dksX4_planNow_1 24 rfl rfl
theorem dksX4_planNow_3 : cX4_planNow.data.toList.drop 72 = dktX4_planNow_3 := dk_seg dksX4_planNow_2 24 rfl rfl
theorem dksX4_planNow_4 : cX4_planNow.data.toList.drop 96 = dktX4_planNow_4 := dk_seg dksX4_planNow_3 24 rfl rfl
theorem dksX4_planNow_5 : cX4_planNow.data.toList.drop 120 = dktX4_planNow_5 := dk_seg dksX4_planNow_4 24 rfl rfl
theorem dksX4_planNow_6 : cX4_planNow.data.toList.drop 143 = dktX4_planNow_6 := dk_seg dksX4_planNow_5 23 rfl rfl
theorem dX4_planNow_0 : decode cX4_planNow 0 = .ok (.bipush 81, 2) := dk_16 81 (dk_at dksX4_planNow_0 0 rfl rfl)
theorem dX4_planNow_2 : decode cX4_planNow 2 = .ok (.istore_n 3, 1) := dk_62 (dk_at dksX4_planNow_0 2 rfl rfl)
theorem dX4_planNow_3 : decode cX4_planNow 3 = .ok (.aload_n 0, 1) := dk_42 (dk_at dksX4_planNow_0 3 rfl rfl)
theorem dX4_planNow_4 : decode cX4_planNow 4 = .ok (.invokevirtual 333, 3) := dk_182 1 77 (dk_at dksX4_planNow_0 4 rfl rfl)
theorem dX4_planNow_7 : decode cX4_planNow 7 = .ok (.astore 4, 2) := dk_58 4 (dk_at dksX4_planNow_0 7 rfl rfl)
theorem dX4_planNow_9 : decode cX4_planNow 9 = .ok (.iconst 0, 1) := dk_3 (dk_at dksX4_planNow_0 9 rfl rfl)
theorem dX4_planNow_10 : decode cX4_planNow 10 = .ok (.istore 5, 2) := dk_54 5 (dk_at dksX4_planNow_0 10 rfl rfl)
theorem dX4_planNow_12 : decode cX4_planNow 12 = .ok (.iload 5, 2) := dk_21 5 (dk_at dksX4_planNow_0 12 rfl rfl)
theorem dX4_planNow_14 : decode cX4_planNow 14 = .ok (.iload_n 3, 1) := dk_29 (dk_at dksX4_planNow_0 14 rfl rfl)
theorem dX4_planNow_15 : decode cX4_planNow 15 = .ok (.if_icmp .ge 18, 3) := dk_162 0 18 (dk_at dksX4_planNow_0 15 rfl rfl)
theorem dX4_planNow_18 : decode cX4_planNow 18 = .ok (.aload 4, 2) := dk_25 4 (dk_at dksX4_planNow_0 18 rfl rfl)
theorem dX4_planNow_20 : decode cX4_planNow 20 = .ok (.iload 5, 2) := dk_21 5 (dk_at dksX4_planNow_0 20 rfl rfl)
theorem dX4_planNow_22 : decode cX4_planNow 22 = .ok (.iaload, 1) := dk_46 (dk_at dksX4_planNow_0 22 rfl rfl)
theorem dX4_planNow_23 : decode cX4_planNow 23 = .ok (.iload_n 1, 1) := dk_27 (dk_at dksX4_planNow_0 23 rfl rfl)
theorem dX4_planNow_24 : decode cX4_planNow 24 = .ok (.if_icmp .ge 9, 3) := dk_162 0 9 (dk_at dksX4_planNow_1 0 rfl rfl)
theorem dX4_planNow_27 : decode cX4_planNow 27 = .ok (.iinc 5 1, 3) := dk_132 5 1 (dk_at dksX4_planNow_1 3 rfl rfl)
theorem dX4_planNow_30 : decode cX4_planNow 30 = .ok (.goto (-18), 3) := dk_167 255 238 (dk_at dksX4_planNow_1 6 rfl rfl)
theorem dX4_planNow_33 : decode cX4_planNow 33 = .ok (.iload 5, 2) := dk_21 5 (dk_at dksX4_planNow_1 9 rfl rfl)
theorem dX4_planNow_35 : decode cX4_planNow 35 = .ok (.iload_n 3, 1) := dk_29 (dk_at dksX4_planNow_1 11 rfl rfl)
theorem dX4_planNow_36 : decode cX4_planNow 36 = .ok (.if_icmp .ne 5, 3) := dk_160 0 5 (dk_at dksX4_planNow_1 12 rfl rfl)
theorem dX4_planNow_39 : decode cX4_planNow 39 = .ok (.iconst (-1), 1) := dk_2 (dk_at dksX4_planNow_1 15 rfl rfl)
theorem dX4_planNow_40 : decode cX4_planNow 40 = .ok (.ireturn, 1) := dk_172 (dk_at dksX4_planNow_1 16 rfl rfl)
theorem dX4_planNow_41 : decode cX4_planNow 41 = .ok (.iload_n 2, 1) := dk_28 (dk_at dksX4_planNow_1 17 rfl rfl)
theorem dX4_planNow_42 : decode cX4_planNow 42 = .ok (.iconst (-1), 1) := dk_2 (dk_at dksX4_planNow_1 18 rfl rfl)
theorem dX4_planNow_43 : decode cX4_planNow 43 = .ok (.if_icmp .ne 6, 3) := dk_160 0 6 (dk_at dksX4_planNow_1 19 rfl rfl)
theorem dX4_planNow_46 : decode cX4_planNow 46 = .ok (.iload 5, 2) := dk_21 5 (dk_at dksX4_planNow_1 22 rfl rfl)
theorem dX4_planNow_48 : decode cX4_planNow 48 = .ok (.ireturn, 1) := dk_172 (dk_at dksX4_planNow_2 0 rfl rfl)
theorem dX4_planNow_49 : decode cX4_planNow 49 = .ok (.iload_n 1, 1) := dk_27 (dk_at dksX4_planNow_2 1 rfl rfl)
theorem dX4_planNow_50 : decode cX4_planNow 50 = .ok (.istore 6, 2) := dk_54 6 (dk_at dksX4_planNow_2 2 rfl rfl)
theorem dX4_planNow_52 : decode cX4_planNow 52 = .ok (.iconst 0, 1) := dk_3 (dk_at dksX4_planNow_2 4 rfl rfl)
theorem dX4_planNow_53 : decode cX4_planNow 53 = .ok (.istore 7, 2) := dk_54 7 (dk_at dksX4_planNow_2 5 rfl rfl)
theorem dX4_planNow_55 : decode cX4_planNow 55 = .ok (.iload 7, 2) := dk_21 7 (dk_at dksX4_planNow_2 7 rfl rfl)
theorem dX4_planNow_57 : decode cX4_planNow 57 = .ok (.aload_n 0, 1) := dk_42 (dk_at dksX4_planNow_2 9 rfl rfl)
theorem dX4_planNow_58 : decode cX4_planNow 58 = .ok (.getfield 22, 3) := dk_180 0 22 (dk_at dksX4_planNow_2 10 rfl rfl)
theorem dX4_planNow_61 : decode cX4_planNow 61 = .ok (.invokevirtual 47, 3) := dk_182 0 47 (dk_at dksX4_planNow_2 13 rfl rfl)
theorem dX4_planNow_64 : decode cX4_planNow 64 = .ok (.if_icmp .ge 94, 3) := dk_162 0 94 (dk_at dksX4_planNow_2 16 rfl rfl)
theorem dX4_planNow_67 : decode cX4_planNow 67 = .ok (.aload_n 0, 1) := dk_42 (dk_at dksX4_planNow_2 19 rfl rfl)
theorem dX4_planNow_68 : decode cX4_planNow 68 = .ok (.aload_n 0, 1) := dk_42 (dk_at dksX4_planNow_2 20 rfl rfl)
theorem dX4_planNow_69 : decode cX4_planNow 69 = .ok (.getfield 22, 3) := dk_180 0 22 (dk_at dksX4_planNow_2 21 rfl rfl)
theorem dX4_planNow_72 : decode cX4_planNow 72 = .ok (.iload 7, 2) := dk_21 7 (dk_at dksX4_planNow_3 0 rfl rfl)
theorem dX4_planNow_74 : decode cX4_planNow 74 = .ok (.invokevirtual 90, 3) := dk_182 0 90 (dk_at dksX4_planNow_3 2 rfl rfl)
theorem dX4_planNow_77 : decode cX4_planNow 77 = .ok (.checkcast 68, 3) := dk_192 0 68 (dk_at dksX4_planNow_3 5 rfl rfl)
theorem dX4_planNow_80 : decode cX4_planNow 80 = .ok (.invokevirtual 286, 3) := dk_182 1 30 (dk_at dksX4_planNow_3 8 rfl rfl)
theorem dX4_planNow_83 : decode cX4_planNow 83 = .ok (.istore 8, 2) := dk_54 8 (dk_at dksX4_planNow_3 11 rfl rfl)
theorem dX4_planNow_85 : decode cX4_planNow 85 = .ok (.iconst 0, 1) := dk_3 (dk_at dksX4_planNow_3 13 rfl rfl)
theorem dX4_planNow_86 : decode cX4_planNow 86 = .ok (.istore 9, 2) := dk_54 9 (dk_at dksX4_planNow_3 14 rfl rfl)
theorem dX4_planNow_88 : decode cX4_planNow 88 = .ok (.iload 8, 2) := dk_21 8 (dk_at dksX4_planNow_3 16 rfl rfl)
theorem dX4_planNow_90 : decode cX4_planNow 90 = .ok (.iload 9, 2) := dk_21 9 (dk_at dksX4_planNow_3 18 rfl rfl)
theorem dX4_planNow_92 : decode cX4_planNow 92 = .ok (.imul, 1) := dk_104 (dk_at dksX4_planNow_3 20 rfl rfl)
theorem dX4_planNow_93 : decode cX4_planNow 93 = .ok (.bipush 10, 2) := dk_16 10 (dk_at dksX4_planNow_3 21 rfl rfl)
theorem dX4_planNow_95 : decode cX4_planNow 95 = .ok (.idiv, 1) := dk_108 (dk_at dksX4_planNow_3 23 rfl rfl)
theorem dX4_planNow_96 : decode cX4_planNow 96 = .ok (.aload 4, 2) := dk_25 4 (dk_at dksX4_planNow_4 0 rfl rfl)
theorem dX4_planNow_98 : decode cX4_planNow 98 = .ok (.iload 7, 2) := dk_21 7 (dk_at dksX4_planNow_4 2 rfl rfl)
theorem dX4_planNow_100 : decode cX4_planNow 100 = .ok (.iconst 1, 1) := dk_4 (dk_at dksX4_planNow_4 4 rfl rfl)
theorem dX4_planNow_101 : decode cX4_planNow 101 = .ok (.iadd, 1) := dk_96 (dk_at dksX4_planNow_4 5 rfl rfl)
theorem dX4_planNow_102 : decode cX4_planNow 102 = .ok (.iload_n 3, 1) := dk_29 (dk_at dksX4_planNow_4 6 rfl rfl)
theorem dX4_planNow_103 : decode cX4_planNow 103 = .ok (.imul, 1) := dk_104 (dk_at dksX4_planNow_4 7 rfl rfl)
theorem dX4_planNow_104 : decode cX4_planNow 104 = .ok (.iload 5, 2) := dk_21 5 (dk_at dksX4_planNow_4 8 rfl rfl)
theorem dX4_planNow_106 : decode cX4_planNow 106 = .ok (.iadd, 1) := dk_96 (dk_at dksX4_planNow_4 10 rfl rfl)
theorem dX4_planNow_107 : decode cX4_planNow 107 = .ok (.iload 9, 2) := dk_21 9 (dk_at dksX4_planNow_4 11 rfl rfl)
theorem dX4_planNow_109 : decode cX4_planNow 109 = .ok (.isub, 1) := dk_100 (dk_at dksX4_planNow_4 13 rfl rfl)
theorem dX4_planNow_110 : decode cX4_planNow 110 = .ok (.iaload, 1) := dk_46 (dk_at dksX4_planNow_4 14 rfl rfl)
theorem dX4_planNow_111 : decode cX4_planNow 111 = .ok (.iadd, 1) := dk_96 (dk_at dksX4_planNow_4 15 rfl rfl)
theorem dX4_planNow_112 : decode cX4_planNow 112 = .ok (.iload 6, 2) := dk_21 6 (dk_at dksX4_planNow_4 16 rfl rfl)
theorem dX4_planNow_114 : decode cX4_planNow 114 = .ok (.if_icmp .ge 9, 3) := dk_162 0 9 (dk_at dksX4_planNow_4 18 rfl rfl)
theorem dX4_planNow_117 : decode cX4_planNow 117 = .ok (.iinc 9 1, 3) := dk_132 9 1 (dk_at dksX4_planNow_4 21 rfl rfl)
theorem dX4_planNow_120 : decode cX4_planNow 120 = .ok (.goto (-32), 3) := dk_167 255 224 (dk_at dksX4_planNow_5 0 rfl rfl)
theorem dX4_planNow_123 : decode cX4_planNow 123 = .ok (.iload 7, 2) := dk_21 7 (dk_at dksX4_planNow_5 3 rfl rfl)
theorem dX4_planNow_125 : decode cX4_planNow 125 = .ok (.iload_n 2, 1) := dk_28 (dk_at dksX4_planNow_5 5 rfl rfl)
theorem dX4_planNow_126 : decode cX4_planNow 126 = .ok (.if_icmp .ne 6, 3) := dk_160 0 6 (dk_at dksX4_planNow_5 6 rfl rfl)
theorem dX4_planNow_129 : decode cX4_planNow 129 = .ok (.iload 9, 2) := dk_21 9 (dk_at dksX4_planNow_5 9 rfl rfl)
theorem dX4_planNow_131 : decode cX4_planNow 131 = .ok (.ireturn, 1) := dk_172 (dk_at dksX4_planNow_5 11 rfl rfl)
theorem dX4_planNow_132 : decode cX4_planNow 132 = .ok (.iload 5, 2) := dk_21 5 (dk_at dksX4_planNow_5 12 rfl rfl)
theorem dX4_planNow_134 : decode cX4_planNow 134 = .ok (.iload 9, 2) := dk_21 9 (dk_at dksX4_planNow_5 14 rfl rfl)
theorem dX4_planNow_136 : decode cX4_planNow 136 = .ok (.isub, 1) := dk_100 (dk_at dksX4_planNow_5 16 rfl rfl)
theorem dX4_planNow_137 : decode cX4_planNow 137 = .ok (.istore 5, 2) := dk_54 5 (dk_at dksX4_planNow_5 17 rfl rfl)
theorem dX4_planNow_139 : decode cX4_planNow 139 = .ok (.iload 6, 2) := dk_21 6 (dk_at dksX4_planNow_5 19 rfl rfl)
theorem dX4_planNow_141 : decode cX4_planNow 141 = .ok (.iload 8, 2) := dk_21 8 (dk_at dksX4_planNow_5 21 rfl rfl)
theorem dX4_planNow_143 : decode cX4_planNow 143 = .ok (.iload 9, 2) := dk_21 9 (dk_at dksX4_planNow_6 0 rfl rfl)
theorem dX4_planNow_145 : decode cX4_planNow 145 = .ok (.imul, 1) := dk_104 (dk_at dksX4_planNow_6 2 rfl rfl)
theorem dX4_planNow_146 : decode cX4_planNow 146 = .ok (.bipush 10, 2) := dk_16 10 (dk_at dksX4_planNow_6 3 rfl rfl)
theorem dX4_planNow_148 : decode cX4_planNow 148 = .ok (.idiv, 1) := dk_108 (dk_at dksX4_planNow_6 5 rfl rfl)
theorem dX4_planNow_149 : decode cX4_planNow 149 = .ok (.isub, 1) := dk_100 (dk_at dksX4_planNow_6 6 rfl rfl)
theorem dX4_planNow_150 : decode cX4_planNow 150 = .ok (.istore 6, 2) := dk_54 6 (dk_at dksX4_planNow_6 7 rfl rfl)
theorem dX4_planNow_152 : decode cX4_planNow 152 = .ok (.iinc 7 1, 3) := dk_132 7 1 (dk_at dksX4_planNow_6 9 rfl rfl)
theorem dX4_planNow_155 : decode cX4_planNow 155 = .ok (.goto (-100), 3) := dk_167 255 156 (dk_at dksX4_planNow_6 12 rfl rfl)
theorem dX4_planNow_158 : decode cX4_planNow 158 = .ok (.iconst (-1), 1) := dk_2 (dk_at dksX4_planNow_6 15 rfl rfl)
theorem dX4_planNow_159 : decode cX4_planNow 159 = .ok (.ireturn, 1) := dk_172 (dk_at dksX4_planNow_6 16 rfl rfl)
abbrev cX4_catches : ByteArray := prog_14_method_51_code
def yX4_catches : MethodName := ⟨RX4, "catches", "()[I"⟩
def dkwX4_catches_5 : List UInt8 := [132, 5, 1, 167, 255, 185, 132, 3, 255, 167, 255, 155, 44, 176]
abbrev dktX4_catches_5 : List UInt8 := dkwX4_catches_5 ++ []
def dkwX4_catches_4 : List UInt8 := [29, 4, 96, 27, 104, 21, 5, 96, 21, 6, 100, 46, 96, 184, 0, 211, 79, 132, 6, 1, 167, 255, 200]
abbrev dktX4_catches_4 : List UInt8 := dkwX4_catches_4 ++ dktX4_catches_5
def dkwX4_catches_3 : List UInt8 := [44, 29, 27, 104, 21, 5, 96, 44, 29, 27, 104, 21, 5, 96, 46, 21, 4, 21, 6, 104, 16, 10, 108, 44]
abbrev dktX4_catches_3 : List UInt8 := dkwX4_catches_3 ++ dktX4_catches_4
def dkwX4_catches_2 : List UInt8 := [3, 54, 5, 21, 5, 27, 162, 0, 71, 3, 54, 6, 21, 6, 16, 10, 21, 5, 184, 1, 74, 163, 0, 50]
abbrev dktX4_catches_2 : List UInt8 := dkwX4_catches_2 ++ dktX4_catches_3
def dkwX4_catches_1 : List UInt8 := [4, 100, 62, 29, 155, 0, 103, 42, 42, 180, 0, 22, 29, 182, 0, 90, 192, 0, 68, 182, 1, 30, 54, 4]
abbrev dktX4_catches_1 : List UInt8 := dkwX4_catches_1 ++ dktX4_catches_2
def dkwX4_catches_0 : List UInt8 := [16, 81, 60, 42, 180, 0, 22, 182, 0, 47, 4, 96, 27, 104, 188, 10, 77, 42, 180, 0, 22, 182, 0, 47]
abbrev dktX4_catches_0 : List UInt8 := dkwX4_catches_0 ++ dktX4_catches_1
theorem dksX4_catches_0 : cX4_catches.data.toList.drop 0 = dktX4_catches_0 := by decide +kernel
theorem dksX4_catches_1 : cX4_catches.data.toList.drop 24 = dktX4_catches_1 := dk_seg dksX4_catches_0 24 rfl rfl
theorem dksX4_catches_2 : cX4_catches.data.toList.drop 48 = dktX4_catches_2 := dk_seg dksX4_catches_1 24 rfl rfl
theorem dksX4_catches_3 : cX4_catches.data.toList.drop 72 = dktX4_catches_3 := dk_seg dksX4_catches_2 24 rfl rfl
theorem dksX4_catches_4 : cX4_catches.data.toList.drop 96 = dktX4_catches_4 := dk_seg dksX4_catches_3 24 rfl rfl
theorem dksX4_catches_5 : cX4_catches.data.toList.drop 119 = dktX4_catches_5 := dk_seg dksX4_catches_4 23 rfl rfl
theorem dX4_catches_0 : decode cX4_catches 0 = .ok (.bipush 81, 2) := dk_16 81 (dk_at dksX4_catches_0 0 rfl rfl)
theorem dX4_catches_2 : decode cX4_catches 2 = .ok (.istore_n 1, 1) := dk_60 (dk_at dksX4_catches_0 2 rfl rfl)
theorem dX4_catches_3 : decode cX4_catches 3 = .ok (.aload_n 0, 1) := dk_42 (dk_at dksX4_catches_0 3 rfl rfl)
theorem dX4_catches_4 : decode cX4_catches 4 = .ok (.getfield 22, 3) := dk_180 0 22 (dk_at dksX4_catches_0 4 rfl rfl)
theorem dX4_catches_7 : decode cX4_catches 7 = .ok (.invokevirtual 47, 3) := dk_182 0 47 (dk_at dksX4_catches_0 7 rfl rfl)
theorem dX4_catches_10 : decode cX4_catches 10 = .ok (.iconst 1, 1) := dk_4 (dk_at dksX4_catches_0 10 rfl rfl)
theorem dX4_catches_11 : decode cX4_catches 11 = .ok (.iadd, 1) := dk_96 (dk_at dksX4_catches_0 11 rfl rfl)
theorem dX4_catches_12 : decode cX4_catches 12 = .ok (.iload_n 1, 1) := dk_27 (dk_at dksX4_catches_0 12 rfl rfl)
theorem dX4_catches_13 : decode cX4_catches 13 = .ok (.imul, 1) := dk_104 (dk_at dksX4_catches_0 13 rfl rfl)
theorem dX4_catches_14 : decode cX4_catches 14 = .ok (.newarray .int, 2) := dk_188_10 (dk_at dksX4_catches_0 14 rfl rfl)
theorem dX4_catches_16 : decode cX4_catches 16 = .ok (.astore_n 2, 1) := dk_77 (dk_at dksX4_catches_0 16 rfl rfl)
theorem dX4_catches_17 : decode cX4_catches 17 = .ok (.aload_n 0, 1) := dk_42 (dk_at dksX4_catches_0 17 rfl rfl)
theorem dX4_catches_18 : decode cX4_catches 18 = .ok (.getfield 22, 3) := dk_180 0 22 (dk_at dksX4_catches_0 18 rfl rfl)
theorem dX4_catches_21 : decode cX4_catches 21 = .ok (.invokevirtual 47, 3) := dk_182 0 47 (dk_at dksX4_catches_0 21 rfl rfl)
theorem dX4_catches_24 : decode cX4_catches 24 = .ok (.iconst 1, 1) := dk_4 (dk_at dksX4_catches_1 0 rfl rfl)
theorem dX4_catches_25 : decode cX4_catches 25 = .ok (.isub, 1) := dk_100 (dk_at dksX4_catches_1 1 rfl rfl)
theorem dX4_catches_26 : decode cX4_catches 26 = .ok (.istore_n 3, 1) := dk_62 (dk_at dksX4_catches_1 2 rfl rfl)
theorem dX4_catches_27 : decode cX4_catches 27 = .ok (.iload_n 3, 1) := dk_29 (dk_at dksX4_catches_1 3 rfl rfl)
theorem dX4_catches_28 : decode cX4_catches 28 = .ok (.ifCond .lt 103, 3) := dk_155 0 103 (dk_at dksX4_catches_1 4 rfl rfl)
theorem dX4_catches_31 : decode cX4_catches 31 = .ok (.aload_n 0, 1) := dk_42 (dk_at dksX4_catches_1 7 rfl rfl)
theorem dX4_catches_32 : decode cX4_catches 32 = .ok (.aload_n 0, 1) := dk_42 (dk_at dksX4_catches_1 8 rfl rfl)
theorem dX4_catches_33 : decode cX4_catches 33 = .ok (.getfield 22, 3) := dk_180 0 22 (dk_at dksX4_catches_1 9 rfl rfl)
theorem dX4_catches_36 : decode cX4_catches 36 = .ok (.iload_n 3, 1) := dk_29 (dk_at dksX4_catches_1 12 rfl rfl)
theorem dX4_catches_37 : decode cX4_catches 37 = .ok (.invokevirtual 90, 3) := dk_182 0 90 (dk_at dksX4_catches_1 13 rfl rfl)
theorem dX4_catches_40 : decode cX4_catches 40 = .ok (.checkcast 68, 3) := dk_192 0 68 (dk_at dksX4_catches_1 16 rfl rfl)
theorem dX4_catches_43 : decode cX4_catches 43 = .ok (.invokevirtual 286, 3) := dk_182 1 30 (dk_at dksX4_catches_1 19 rfl rfl)
theorem dX4_catches_46 : decode cX4_catches 46 = .ok (.istore 4, 2) := dk_54 4 (dk_at dksX4_catches_1 22 rfl rfl)
theorem dX4_catches_48 : decode cX4_catches 48 = .ok (.iconst 0, 1) := dk_3 (dk_at dksX4_catches_2 0 rfl rfl)
theorem dX4_catches_49 : decode cX4_catches 49 = .ok (.istore 5, 2) := dk_54 5 (dk_at dksX4_catches_2 1 rfl rfl)
theorem dX4_catches_51 : decode cX4_catches 51 = .ok (.iload 5, 2) := dk_21 5 (dk_at dksX4_catches_2 3 rfl rfl)
theorem dX4_catches_53 : decode cX4_catches 53 = .ok (.iload_n 1, 1) := dk_27 (dk_at dksX4_catches_2 5 rfl rfl)
theorem dX4_catches_54 : decode cX4_catches 54 = .ok (.if_icmp .ge 71, 3) := dk_162 0 71 (dk_at dksX4_catches_2 6 rfl rfl)
theorem dX4_catches_57 : decode cX4_catches 57 = .ok (.iconst 0, 1) := dk_3 (dk_at dksX4_catches_2 9 rfl rfl)
theorem dX4_catches_58 : decode cX4_catches 58 = .ok (.istore 6, 2) := dk_54 6 (dk_at dksX4_catches_2 10 rfl rfl)
theorem dX4_catches_60 : decode cX4_catches 60 = .ok (.iload 6, 2) := dk_21 6 (dk_at dksX4_catches_2 12 rfl rfl)
theorem dX4_catches_62 : decode cX4_catches 62 = .ok (.bipush 10, 2) := dk_16 10 (dk_at dksX4_catches_2 14 rfl rfl)
theorem dX4_catches_64 : decode cX4_catches 64 = .ok (.iload 5, 2) := dk_21 5 (dk_at dksX4_catches_2 16 rfl rfl)
theorem dX4_catches_66 : decode cX4_catches 66 = .ok (.invokestatic 330, 3) := dk_184 1 74 (dk_at dksX4_catches_2 18 rfl rfl)
theorem dX4_catches_69 : decode cX4_catches 69 = .ok (.if_icmp .gt 50, 3) := dk_163 0 50 (dk_at dksX4_catches_2 21 rfl rfl)
theorem dX4_catches_72 : decode cX4_catches 72 = .ok (.aload_n 2, 1) := dk_44 (dk_at dksX4_catches_3 0 rfl rfl)
theorem dX4_catches_73 : decode cX4_catches 73 = .ok (.iload_n 3, 1) := dk_29 (dk_at dksX4_catches_3 1 rfl rfl)
theorem dX4_catches_74 : decode cX4_catches 74 = .ok (.iload_n 1, 1) := dk_27 (dk_at dksX4_catches_3 2 rfl rfl)
theorem dX4_catches_75 : decode cX4_catches 75 = .ok (.imul, 1) := dk_104 (dk_at dksX4_catches_3 3 rfl rfl)
theorem dX4_catches_76 : decode cX4_catches 76 = .ok (.iload 5, 2) := dk_21 5 (dk_at dksX4_catches_3 4 rfl rfl)
theorem dX4_catches_78 : decode cX4_catches 78 = .ok (.iadd, 1) := dk_96 (dk_at dksX4_catches_3 6 rfl rfl)
theorem dX4_catches_79 : decode cX4_catches 79 = .ok (.aload_n 2, 1) := dk_44 (dk_at dksX4_catches_3 7 rfl rfl)
theorem dX4_catches_80 : decode cX4_catches 80 = .ok (.iload_n 3, 1) := dk_29 (dk_at dksX4_catches_3 8 rfl rfl)
theorem dX4_catches_81 : decode cX4_catches 81 = .ok (.iload_n 1, 1) := dk_27 (dk_at dksX4_catches_3 9 rfl rfl)
theorem dX4_catches_82 : decode cX4_catches 82 = .ok (.imul, 1) := dk_104 (dk_at dksX4_catches_3 10 rfl rfl)
theorem dX4_catches_83 : decode cX4_catches 83 = .ok (.iload 5, 2) := dk_21 5 (dk_at dksX4_catches_3 11 rfl rfl)
theorem dX4_catches_85 : decode cX4_catches 85 = .ok (.iadd, 1) := dk_96 (dk_at dksX4_catches_3 13 rfl rfl)
theorem dX4_catches_86 : decode cX4_catches 86 = .ok (.iaload, 1) := dk_46 (dk_at dksX4_catches_3 14 rfl rfl)
theorem dX4_catches_87 : decode cX4_catches 87 = .ok (.iload 4, 2) := dk_21 4 (dk_at dksX4_catches_3 15 rfl rfl)
theorem dX4_catches_89 : decode cX4_catches 89 = .ok (.iload 6, 2) := dk_21 6 (dk_at dksX4_catches_3 17 rfl rfl)
theorem dX4_catches_91 : decode cX4_catches 91 = .ok (.imul, 1) := dk_104 (dk_at dksX4_catches_3 19 rfl rfl)
theorem dX4_catches_92 : decode cX4_catches 92 = .ok (.bipush 10, 2) := dk_16 10 (dk_at dksX4_catches_3 20 rfl rfl)
theorem dX4_catches_94 : decode cX4_catches 94 = .ok (.idiv, 1) := dk_108 (dk_at dksX4_catches_3 22 rfl rfl)
theorem dX4_catches_95 : decode cX4_catches 95 = .ok (.aload_n 2, 1) := dk_44 (dk_at dksX4_catches_3 23 rfl rfl)
theorem dX4_catches_96 : decode cX4_catches 96 = .ok (.iload_n 3, 1) := dk_29 (dk_at dksX4_catches_4 0 rfl rfl)
theorem dX4_catches_97 : decode cX4_catches 97 = .ok (.iconst 1, 1) := dk_4 (dk_at dksX4_catches_4 1 rfl rfl)
theorem dX4_catches_98 : decode cX4_catches 98 = .ok (.iadd, 1) := dk_96 (dk_at dksX4_catches_4 2 rfl rfl)
theorem dX4_catches_99 : decode cX4_catches 99 = .ok (.iload_n 1, 1) := dk_27 (dk_at dksX4_catches_4 3 rfl rfl)
theorem dX4_catches_100 : decode cX4_catches 100 = .ok (.imul, 1) := dk_104 (dk_at dksX4_catches_4 4 rfl rfl)
theorem dX4_catches_101 : decode cX4_catches 101 = .ok (.iload 5, 2) := dk_21 5 (dk_at dksX4_catches_4 5 rfl rfl)
theorem dX4_catches_103 : decode cX4_catches 103 = .ok (.iadd, 1) := dk_96 (dk_at dksX4_catches_4 7 rfl rfl)
theorem dX4_catches_104 : decode cX4_catches 104 = .ok (.iload 6, 2) := dk_21 6 (dk_at dksX4_catches_4 8 rfl rfl)
theorem dX4_catches_106 : decode cX4_catches 106 = .ok (.isub, 1) := dk_100 (dk_at dksX4_catches_4 10 rfl rfl)
theorem dX4_catches_107 : decode cX4_catches 107 = .ok (.iaload, 1) := dk_46 (dk_at dksX4_catches_4 11 rfl rfl)
theorem dX4_catches_108 : decode cX4_catches 108 = .ok (.iadd, 1) := dk_96 (dk_at dksX4_catches_4 12 rfl rfl)
theorem dX4_catches_109 : decode cX4_catches 109 = .ok (.invokestatic 211, 3) := dk_184 0 211 (dk_at dksX4_catches_4 13 rfl rfl)
theorem dX4_catches_112 : decode cX4_catches 112 = .ok (.iastore, 1) := dk_79 (dk_at dksX4_catches_4 16 rfl rfl)
theorem dX4_catches_113 : decode cX4_catches 113 = .ok (.iinc 6 1, 3) := dk_132 6 1 (dk_at dksX4_catches_4 17 rfl rfl)
theorem dX4_catches_116 : decode cX4_catches 116 = .ok (.goto (-56), 3) := dk_167 255 200 (dk_at dksX4_catches_4 20 rfl rfl)
theorem dX4_catches_119 : decode cX4_catches 119 = .ok (.iinc 5 1, 3) := dk_132 5 1 (dk_at dksX4_catches_5 0 rfl rfl)
theorem dX4_catches_122 : decode cX4_catches 122 = .ok (.goto (-71), 3) := dk_167 255 185 (dk_at dksX4_catches_5 3 rfl rfl)
theorem dX4_catches_125 : decode cX4_catches 125 = .ok (.iinc 3 (-1), 3) := dk_132 3 255 (dk_at dksX4_catches_5 6 rfl rfl)
theorem dX4_catches_128 : decode cX4_catches 128 = .ok (.goto (-101), 3) := dk_167 255 155 (dk_at dksX4_catches_5 9 rfl rfl)
theorem dX4_catches_131 : decode cX4_catches 131 = .ok (.aload_n 2, 1) := dk_44 (dk_at dksX4_catches_5 12 rfl rfl)
theorem dX4_catches_132 : decode cX4_catches 132 = .ok (.areturn, 1) := dk_176 (dk_at dksX4_catches_5 13 rfl rfl)
abbrev cX4_wouldPay : ByteArray := prog_14_method_55_code
def yX4_wouldPay : MethodName := ⟨RX4, "wouldPay", "(I)I"⟩
def dkwX4_wouldPay_1 : List UInt8 := [182, 0, 55, 172]
abbrev dktX4_wouldPay_1 : List UInt8 := dkwX4_wouldPay_1 ++ []
def dkwX4_wouldPay_0 : List UInt8 := [42, 3, 181, 0, 40, 42, 27, 182, 0, 87, 153, 0, 11, 42, 27, 182, 1, 84, 167, 0, 8, 42, 4]
abbrev dktX4_wouldPay_0 : List UInt8 := dkwX4_wouldPay_0 ++ dktX4_wouldPay_1
theorem dksX4_wouldPay_0 : cX4_wouldPay.data.toList.drop 0 = dktX4_wouldPay_0 := by decide +kernel
theorem dksX4_wouldPay_1 : cX4_wouldPay.data.toList.drop 23 = dktX4_wouldPay_1 := dk_seg dksX4_wouldPay_0 23 rfl rfl
theorem dX4_wouldPay_0 : decode cX4_wouldPay 0 = .ok (.aload_n 0, 1) := dk_42 (dk_at dksX4_wouldPay_0 0 rfl rfl)
theorem dX4_wouldPay_1 : decode cX4_wouldPay 1 = .ok (.iconst 0, 1) := dk_3 (dk_at dksX4_wouldPay_0 1 rfl rfl)
theorem dX4_wouldPay_2 : decode cX4_wouldPay 2 = .ok (.putfield 40, 3) := dk_181 0 40 (dk_at dksX4_wouldPay_0 2 rfl rfl)
theorem dX4_wouldPay_5 : decode cX4_wouldPay 5 = .ok (.aload_n 0, 1) := dk_42 (dk_at dksX4_wouldPay_0 5 rfl rfl)
theorem dX4_wouldPay_6 : decode cX4_wouldPay 6 = .ok (.iload_n 1, 1) := dk_27 (dk_at dksX4_wouldPay_0 6 rfl rfl)
theorem dX4_wouldPay_7 : decode cX4_wouldPay 7 = .ok (.invokevirtual 87, 3) := dk_182 0 87 (dk_at dksX4_wouldPay_0 7 rfl rfl)
theorem dX4_wouldPay_10 : decode cX4_wouldPay 10 = .ok (.ifCond .eq 11, 3) := dk_153 0 11 (dk_at dksX4_wouldPay_0 10 rfl rfl)
theorem dX4_wouldPay_13 : decode cX4_wouldPay 13 = .ok (.aload_n 0, 1) := dk_42 (dk_at dksX4_wouldPay_0 13 rfl rfl)
theorem dX4_wouldPay_14 : decode cX4_wouldPay 14 = .ok (.iload_n 1, 1) := dk_27 (dk_at dksX4_wouldPay_0 14 rfl rfl)
theorem dX4_wouldPay_15 : decode cX4_wouldPay 15 = .ok (.invokevirtual 340, 3) := dk_182 1 84 (dk_at dksX4_wouldPay_0 15 rfl rfl)
theorem dX4_wouldPay_18 : decode cX4_wouldPay 18 = .ok (.goto 8, 3) := dk_167 0 8 (dk_at dksX4_wouldPay_0 18 rfl rfl)
theorem dX4_wouldPay_21 : decode cX4_wouldPay 21 = .ok (.aload_n 0, 1) := dk_42 (dk_at dksX4_wouldPay_0 21 rfl rfl)
theorem dX4_wouldPay_22 : decode cX4_wouldPay 22 = .ok (.iconst 1, 1) := dk_4 (dk_at dksX4_wouldPay_0 22 rfl rfl)
theorem dX4_wouldPay_23 : decode cX4_wouldPay 23 = .ok (.invokevirtual 55, 3) := dk_182 0 55 (dk_at dksX4_wouldPay_1 0 rfl rfl)
theorem dX4_wouldPay_26 : decode cX4_wouldPay 26 = .ok (.ireturn, 1) := dk_172 (dk_at dksX4_wouldPay_1 3 rfl rfl)
abbrev cX4_wouldPayNow : ByteArray := prog_14_method_54_code
def yX4_wouldPayNow : MethodName := ⟨RX4, "wouldPayNow", "(I)I"⟩
def dkwX4_wouldPayNow_4 : List UInt8 := [21, 4, 50, 182, 0, 237, 172]
abbrev dktX4_wouldPayNow_4 : List UInt8 := dkwX4_wouldPayNow_4 ++ []
def dkwX4_wouldPayNow_3 : List UInt8 := [192, 0, 100, 180, 0, 103, 182, 0, 215, 54, 4, 42, 42, 29, 21, 4, 3, 182, 0, 230, 42, 180, 0, 15]
abbrev dktX4_wouldPayNow_3 : List UInt8 := dkwX4_wouldPayNow_3 ++ dktX4_wouldPayNow_4
def dkwX4_wouldPayNow_2 : List UInt8 := [180, 0, 162, 3, 182, 0, 90, 192, 0, 165, 182, 0, 167, 62, 44, 42, 180, 0, 26, 29, 182, 0, 90]
abbrev dktX4_wouldPayNow_2 : List UInt8 := dkwX4_wouldPayNow_2 ++ dktX4_wouldPayNow_3
def dkwX4_wouldPayNow_1 : List UInt8 := [180, 0, 162, 3, 182, 0, 90, 192, 0, 165, 182, 0, 167, 27, 182, 0, 253, 154, 0, 5, 3, 172, 44]
abbrev dktX4_wouldPayNow_1 : List UInt8 := dkwX4_wouldPayNow_1 ++ dktX4_wouldPayNow_2
def dkwX4_wouldPayNow_0 : List UInt8 := [42, 180, 0, 22, 27, 182, 0, 90, 192, 0, 68, 77, 44, 180, 0, 162, 182, 0, 247, 154, 0, 25, 42, 44]
abbrev dktX4_wouldPayNow_0 : List UInt8 := dkwX4_wouldPayNow_0 ++ dktX4_wouldPayNow_1
theorem dksX4_wouldPayNow_0 : cX4_wouldPayNow.data.toList.drop 0 = dktX4_wouldPayNow_0 := by decide +kernel
theorem dksX4_wouldPayNow_1 : cX4_wouldPayNow.data.toList.drop 24 = dktX4_wouldPayNow_1 := dk_seg dksX4_wouldPayNow_0 24 rfl rfl
theorem dksX4_wouldPayNow_2 : cX4_wouldPayNow.data.toList.drop 47 = dktX4_wouldPayNow_2 := dk_seg dksX4_wouldPayNow_1 23 rfl rfl
theorem dksX4_wouldPayNow_3 : cX4_wouldPayNow.data.toList.drop 70 = dktX4_wouldPayNow_3 := dk_seg dksX4_wouldPayNow_2 23 rfl rfl
theorem dksX4_wouldPayNow_4 : cX4_wouldPayNow.data.toList.drop 94 = dktX4_wouldPayNow_4 := dk_seg dksX4_wouldPayNow_3 24 rfl rfl
theorem dX4_wouldPayNow_0 : decode cX4_wouldPayNow 0 = .ok (.aload_n 0, 1) := dk_42 (dk_at dksX4_wouldPayNow_0 0 rfl rfl)
theorem dX4_wouldPayNow_1 : decode cX4_wouldPayNow 1 = .ok (.getfield 22, 3) := dk_180 0 22 (dk_at dksX4_wouldPayNow_0 1 rfl rfl)
theorem dX4_wouldPayNow_4 : decode cX4_wouldPayNow 4 = .ok (.iload_n 1, 1) := dk_27 (dk_at dksX4_wouldPayNow_0 4 rfl rfl)
theorem dX4_wouldPayNow_5 : decode cX4_wouldPayNow 5 = .ok (.invokevirtual 90, 3) := dk_182 0 90 (dk_at dksX4_wouldPayNow_0 5 rfl rfl)
theorem dX4_wouldPayNow_8 : decode cX4_wouldPayNow 8 = .ok (.checkcast 68, 3) := dk_192 0 68 (dk_at dksX4_wouldPayNow_0 8 rfl rfl)
theorem dX4_wouldPayNow_11 : decode cX4_wouldPayNow 11 = .ok (.astore_n 2, 1) := dk_77 (dk_at dksX4_wouldPayNow_0 11 rfl rfl)
theorem dX4_wouldPayNow_12 : decode cX4_wouldPayNow 12 = .ok (.aload_n 2, 1) := dk_44 (dk_at dksX4_wouldPayNow_0 12 rfl rfl)
theorem dX4_wouldPayNow_13 : decode cX4_wouldPayNow 13 = .ok (.getfield 162, 3) := dk_180 0 162 (dk_at dksX4_wouldPayNow_0 13 rfl rfl)
theorem dX4_wouldPayNow_16 : decode cX4_wouldPayNow 16 = .ok (.invokevirtual 247, 3) := dk_182 0 247 (dk_at dksX4_wouldPayNow_0 16 rfl rfl)
theorem dX4_wouldPayNow_19 : decode cX4_wouldPayNow 19 = .ok (.ifCond .ne 25, 3) := dk_154 0 25 (dk_at dksX4_wouldPayNow_0 19 rfl rfl)
theorem dX4_wouldPayNow_22 : decode cX4_wouldPayNow 22 = .ok (.aload_n 0, 1) := dk_42 (dk_at dksX4_wouldPayNow_0 22 rfl rfl)
theorem dX4_wouldPayNow_23 : decode cX4_wouldPayNow 23 = .ok (.aload_n 2, 1) := dk_44 (dk_at dksX4_wouldPayNow_0 23 rfl rfl)
theorem dX4_wouldPayNow_24 : decode cX4_wouldPayNow 24 = .ok (.getfield 162, 3) := dk_180 0 162 (dk_at dksX4_wouldPayNow_1 0 rfl rfl)
theorem dX4_wouldPayNow_27 : decode cX4_wouldPayNow 27 = .ok (.iconst 0, 1) := dk_3 (dk_at dksX4_wouldPayNow_1 3 rfl rfl)
theorem dX4_wouldPayNow_28 : decode cX4_wouldPayNow 28 = .ok (.invokevirtual 90, 3) := dk_182 0 90 (dk_at dksX4_wouldPayNow_1 4 rfl rfl)
theorem dX4_wouldPayNow_31 : decode cX4_wouldPayNow 31 = .ok (.checkcast 165, 3) := dk_192 0 165 (dk_at dksX4_wouldPayNow_1 7 rfl rfl)
theorem dX4_wouldPayNow_34 : decode cX4_wouldPayNow 34 = .ok (.invokevirtual 167, 3) := dk_182 0 167 (dk_at dksX4_wouldPayNow_1 10 rfl rfl)
theorem dX4_wouldPayNow_37 : decode cX4_wouldPayNow 37 = .ok (.iload_n 1, 1) := dk_27 (dk_at dksX4_wouldPayNow_1 13 rfl rfl)
theorem dX4_wouldPayNow_38 : decode cX4_wouldPayNow 38 = .ok (.invokevirtual 253, 3) := dk_182 0 253 (dk_at dksX4_wouldPayNow_1 14 rfl rfl)
theorem dX4_wouldPayNow_41 : decode cX4_wouldPayNow 41 = .ok (.ifCond .ne 5, 3) := dk_154 0 5 (dk_at dksX4_wouldPayNow_1 17 rfl rfl)
theorem dX4_wouldPayNow_44 : decode cX4_wouldPayNow 44 = .ok (.iconst 0, 1) := dk_3 (dk_at dksX4_wouldPayNow_1 20 rfl rfl)
theorem dX4_wouldPayNow_45 : decode cX4_wouldPayNow 45 = .ok (.ireturn, 1) := dk_172 (dk_at dksX4_wouldPayNow_1 21 rfl rfl)
theorem dX4_wouldPayNow_46 : decode cX4_wouldPayNow 46 = .ok (.aload_n 2, 1) := dk_44 (dk_at dksX4_wouldPayNow_1 22 rfl rfl)
theorem dX4_wouldPayNow_47 : decode cX4_wouldPayNow 47 = .ok (.getfield 162, 3) := dk_180 0 162 (dk_at dksX4_wouldPayNow_2 0 rfl rfl)
theorem dX4_wouldPayNow_50 : decode cX4_wouldPayNow 50 = .ok (.iconst 0, 1) := dk_3 (dk_at dksX4_wouldPayNow_2 3 rfl rfl)
theorem dX4_wouldPayNow_51 : decode cX4_wouldPayNow 51 = .ok (.invokevirtual 90, 3) := dk_182 0 90 (dk_at dksX4_wouldPayNow_2 4 rfl rfl)
theorem dX4_wouldPayNow_54 : decode cX4_wouldPayNow 54 = .ok (.checkcast 165, 3) := dk_192 0 165 (dk_at dksX4_wouldPayNow_2 7 rfl rfl)
theorem dX4_wouldPayNow_57 : decode cX4_wouldPayNow 57 = .ok (.invokevirtual 167, 3) := dk_182 0 167 (dk_at dksX4_wouldPayNow_2 10 rfl rfl)
theorem dX4_wouldPayNow_60 : decode cX4_wouldPayNow 60 = .ok (.istore_n 3, 1) := dk_62 (dk_at dksX4_wouldPayNow_2 13 rfl rfl)
theorem dX4_wouldPayNow_61 : decode cX4_wouldPayNow 61 = .ok (.aload_n 2, 1) := dk_44 (dk_at dksX4_wouldPayNow_2 14 rfl rfl)
theorem dX4_wouldPayNow_62 : decode cX4_wouldPayNow 62 = .ok (.aload_n 0, 1) := dk_42 (dk_at dksX4_wouldPayNow_2 15 rfl rfl)
theorem dX4_wouldPayNow_63 : decode cX4_wouldPayNow 63 = .ok (.getfield 26, 3) := dk_180 0 26 (dk_at dksX4_wouldPayNow_2 16 rfl rfl)
theorem dX4_wouldPayNow_66 : decode cX4_wouldPayNow 66 = .ok (.iload_n 3, 1) := dk_29 (dk_at dksX4_wouldPayNow_2 19 rfl rfl)
theorem dX4_wouldPayNow_67 : decode cX4_wouldPayNow 67 = .ok (.invokevirtual 90, 3) := dk_182 0 90 (dk_at dksX4_wouldPayNow_2 20 rfl rfl)
theorem dX4_wouldPayNow_70 : decode cX4_wouldPayNow 70 = .ok (.checkcast 100, 3) := dk_192 0 100 (dk_at dksX4_wouldPayNow_3 0 rfl rfl)
theorem dX4_wouldPayNow_73 : decode cX4_wouldPayNow 73 = .ok (.getfield 103, 3) := dk_180 0 103 (dk_at dksX4_wouldPayNow_3 3 rfl rfl)
theorem dX4_wouldPayNow_76 : decode cX4_wouldPayNow 76 = .ok (.invokevirtual 215, 3) := dk_182 0 215 (dk_at dksX4_wouldPayNow_3 6 rfl rfl)
theorem dX4_wouldPayNow_79 : decode cX4_wouldPayNow 79 = .ok (.istore 4, 2) := dk_54 4 (dk_at dksX4_wouldPayNow_3 9 rfl rfl)
theorem dX4_wouldPayNow_81 : decode cX4_wouldPayNow 81 = .ok (.aload_n 0, 1) := dk_42 (dk_at dksX4_wouldPayNow_3 11 rfl rfl)
theorem dX4_wouldPayNow_82 : decode cX4_wouldPayNow 82 = .ok (.aload_n 0, 1) := dk_42 (dk_at dksX4_wouldPayNow_3 12 rfl rfl)
theorem dX4_wouldPayNow_83 : decode cX4_wouldPayNow 83 = .ok (.iload_n 3, 1) := dk_29 (dk_at dksX4_wouldPayNow_3 13 rfl rfl)
theorem dX4_wouldPayNow_84 : decode cX4_wouldPayNow 84 = .ok (.iload 4, 2) := dk_21 4 (dk_at dksX4_wouldPayNow_3 14 rfl rfl)
theorem dX4_wouldPayNow_86 : decode cX4_wouldPayNow 86 = .ok (.iconst 0, 1) := dk_3 (dk_at dksX4_wouldPayNow_3 16 rfl rfl)
theorem dX4_wouldPayNow_87 : decode cX4_wouldPayNow 87 = .ok (.invokevirtual 230, 3) := dk_182 0 230 (dk_at dksX4_wouldPayNow_3 17 rfl rfl)
theorem dX4_wouldPayNow_90 : decode cX4_wouldPayNow 90 = .ok (.aload_n 0, 1) := dk_42 (dk_at dksX4_wouldPayNow_3 20 rfl rfl)
theorem dX4_wouldPayNow_91 : decode cX4_wouldPayNow 91 = .ok (.getfield 15, 3) := dk_180 0 15 (dk_at dksX4_wouldPayNow_3 21 rfl rfl)
theorem dX4_wouldPayNow_94 : decode cX4_wouldPayNow 94 = .ok (.iload 4, 2) := dk_21 4 (dk_at dksX4_wouldPayNow_4 0 rfl rfl)
theorem dX4_wouldPayNow_96 : decode cX4_wouldPayNow 96 = .ok (.aaload, 1) := dk_50 (dk_at dksX4_wouldPayNow_4 2 rfl rfl)
theorem dX4_wouldPayNow_97 : decode cX4_wouldPayNow 97 = .ok (.invokevirtual 237, 3) := dk_182 0 237 (dk_at dksX4_wouldPayNow_4 3 rfl rfl)
theorem dX4_wouldPayNow_100 : decode cX4_wouldPayNow 100 = .ok (.ireturn, 1) := dk_172 (dk_at dksX4_wouldPayNow_4 6 rfl rfl)
abbrev cX4_isSound : ByteArray := prog_14_method_57_code
def yX4_isSound : MethodName := ⟨RX4, "isSound", "()Z"⟩
def dkwX4_isSound_0 : List UInt8 := [42, 3, 181, 0, 40, 42, 182, 1, 87, 172]
abbrev dktX4_isSound_0 : List UInt8 := dkwX4_isSound_0 ++ []
theorem dksX4_isSound_0 : cX4_isSound.data.toList.drop 0 = dktX4_isSound_0 := by decide +kernel
theorem dX4_isSound_0 : decode cX4_isSound 0 = .ok (.aload_n 0, 1) := dk_42 (dk_at dksX4_isSound_0 0 rfl rfl)
theorem dX4_isSound_1 : decode cX4_isSound 1 = .ok (.iconst 0, 1) := dk_3 (dk_at dksX4_isSound_0 1 rfl rfl)
theorem dX4_isSound_2 : decode cX4_isSound 2 = .ok (.putfield 40, 3) := dk_181 0 40 (dk_at dksX4_isSound_0 2 rfl rfl)
theorem dX4_isSound_5 : decode cX4_isSound 5 = .ok (.aload_n 0, 1) := dk_42 (dk_at dksX4_isSound_0 5 rfl rfl)
theorem dX4_isSound_6 : decode cX4_isSound 6 = .ok (.invokevirtual 343, 3) := dk_182 1 87 (dk_at dksX4_isSound_0 6 rfl rfl)
theorem dX4_isSound_9 : decode cX4_isSound 9 = .ok (.ireturn, 1) := dk_172 (dk_at dksX4_isSound_0 9 rfl rfl)
abbrev cX4_isSoundNow : ByteArray := prog_14_method_56_code
def yX4_isSoundNow : MethodName := ⟨RX4, "isSoundNow", "()Z"⟩
def dkwX4_isSoundNow_13 : List UInt8 := [4, 167, 0, 4, 3, 172]
abbrev dktX4_isSoundNow_13 : List UInt8 := dkwX4_isSoundNow_13 ++ []
def dkwX4_isSoundNow_12 : List UInt8 := [132, 3, 1, 167, 255, 176, 28, 16, 30, 160, 0, 19, 42, 180, 0, 32, 182, 0, 47, 16, 120, 163, 0, 7]
abbrev dktX4_isSoundNow_12 : List UInt8 := dkwX4_isSoundNow_12 ++ dktX4_isSoundNow_13
def dkwX4_isSoundNow_11 : List UInt8 := [153, 0, 20, 25, 4, 180, 0, 116, 5, 160, 0, 13, 42, 29, 182, 0, 156, 153, 0, 5, 3, 172]
abbrev dktX4_isSoundNow_11 : List UInt8 := dkwX4_isSoundNow_11 ++ dktX4_isSoundNow_12
def dkwX4_isSoundNow_10 : List UInt8 := [4, 160, 0, 7, 4, 167, 0, 4, 3, 160, 0, 34, 25, 4, 180, 0, 110, 3, 16, 9, 184, 0, 43]
abbrev dktX4_isSoundNow_10 : List UInt8 := dkwX4_isSoundNow_10 ++ dktX4_isSoundNow_11
def dkwX4_isSoundNow_9 : List UInt8 := [162, 0, 75, 42, 180, 0, 26, 29, 182, 0, 90, 192, 0, 100, 58, 4, 43, 29, 46, 25, 4, 180, 0, 116]
abbrev dktX4_isSoundNow_9 : List UInt8 := dkwX4_isSoundNow_9 ++ dktX4_isSoundNow_10
def dkwX4_isSoundNow_8 : List UInt8 := [28, 25, 6, 180, 0, 65, 96, 61, 132, 5, 1, 167, 255, 232, 3, 62, 29, 42, 180, 0, 26, 182, 0, 47]
abbrev dktX4_isSoundNow_8 : List UInt8 := dkwX4_isSoundNow_8 ++ dktX4_isSoundNow_9
def dkwX4_isSoundNow_7 : List UInt8 := [180, 0, 15, 78, 45, 190, 54, 4, 3, 54, 5, 21, 5, 21, 4, 162, 0, 23, 45, 21, 5, 50, 58, 6]
abbrev dktX4_isSoundNow_7 : List UInt8 := dkwX4_isSoundNow_7 ++ dktX4_isSoundNow_8
def dkwX4_isSoundNow_6 : List UInt8 := [154, 0, 7, 4, 167, 0, 4, 3, 128, 54, 4, 132, 5, 1, 167, 255, 141, 167, 255, 113, 3, 61, 42]
abbrev dktX4_isSoundNow_6 : List UInt8 := dkwX4_isSoundNow_6 ++ dktX4_isSoundNow_7
def dkwX4_isSoundNow_5 : List UInt8 := [153, 0, 5, 3, 172, 21, 4, 42, 180, 0, 26, 21, 6, 182, 0, 90, 192, 0, 100, 180, 0, 106]
abbrev dktX4_isSoundNow_5 : List UInt8 := dkwX4_isSoundNow_5 ++ dktX4_isSoundNow_6
def dkwX4_isSoundNow_4 : List UInt8 := [153, 0, 26, 21, 4, 153, 0, 23, 42, 180, 0, 26, 21, 6, 182, 0, 90, 192, 0, 100, 180, 0, 106]
abbrev dktX4_isSoundNow_4 : List UInt8 := dkwX4_isSoundNow_4 ++ dktX4_isSoundNow_5
def dkwX4_isSoundNow_3 : List UInt8 := [46, 4, 96, 79, 45, 42, 180, 0, 26, 21, 6, 182, 0, 90, 192, 0, 100, 180, 0, 103, 182, 0, 159]
abbrev dktX4_isSoundNow_3 : List UInt8 := dkwX4_isSoundNow_3 ++ dktX4_isSoundNow_4
def dkwX4_isSoundNow_2 : List UInt8 := [162, 0, 109, 45, 180, 0, 162, 21, 5, 182, 0, 90, 192, 0, 165, 182, 0, 167, 54, 6, 43, 21, 6, 92]
abbrev dktX4_isSoundNow_2 : List UInt8 := dkwX4_isSoundNow_2 ++ dktX4_isSoundNow_3
def dkwX4_isSoundNow_1 : List UInt8 := [185, 1, 17, 1, 0, 192, 0, 68, 78, 3, 54, 4, 3, 54, 5, 21, 5, 45, 180, 0, 162, 182, 0, 47]
abbrev dktX4_isSoundNow_1 : List UInt8 := dkwX4_isSoundNow_1 ++ dktX4_isSoundNow_2
def dkwX4_isSoundNow_0 : List UInt8 := [16, 12, 188, 10, 76, 42, 180, 0, 22, 182, 1, 8, 77, 44, 185, 1, 12, 1, 0, 153, 0, 140, 44]
abbrev dktX4_isSoundNow_0 : List UInt8 := dkwX4_isSoundNow_0 ++ dktX4_isSoundNow_1
theorem dksX4_isSoundNow_0 : cX4_isSoundNow.data.toList.drop 0 = dktX4_isSoundNow_0 := by decide +kernel
theorem dksX4_isSoundNow_1 : cX4_isSoundNow.data.toList.drop 23 = dktX4_isSoundNow_1 := dk_seg dksX4_isSoundNow_0 23 rfl rfl
theorem dksX4_isSoundNow_2 : cX4_isSoundNow.data.toList.drop 47 = dktX4_isSoundNow_2 := dk_seg dksX4_isSoundNow_1 24 rfl rfl
theorem dksX4_isSoundNow_3 : cX4_isSoundNow.data.toList.drop 71 = dktX4_isSoundNow_3 := dk_seg dksX4_isSoundNow_2 24 rfl rfl
theorem dksX4_isSoundNow_4 : cX4_isSoundNow.data.toList.drop 94 = dktX4_isSoundNow_4 := dk_seg dksX4_isSoundNow_3 23 rfl rfl
theorem dksX4_isSoundNow_5 : cX4_isSoundNow.data.toList.drop 117 = dktX4_isSoundNow_5 := dk_seg dksX4_isSoundNow_4 23 rfl rfl
theorem dksX4_isSoundNow_6 : cX4_isSoundNow.data.toList.drop 139 = dktX4_isSoundNow_6 := dk_seg dksX4_isSoundNow_5 22 rfl rfl
theorem dksX4_isSoundNow_7 : cX4_isSoundNow.data.toList.drop 162 = dktX4_isSoundNow_7 := dk_seg dksX4_isSoundNow_6 23 rfl rfl
theorem dksX4_isSoundNow_8 : cX4_isSoundNow.data.toList.drop 186 = dktX4_isSoundNow_8 := dk_seg dksX4_isSoundNow_7 24 rfl rfl
theorem dksX4_isSoundNow_9 : cX4_isSoundNow.data.toList.drop 210 = dktX4_isSoundNow_9 := dk_seg dksX4_isSoundNow_8 24 rfl rfl
theorem dksX4_isSoundNow_10 : cX4_isSoundNow.data.toList.drop 234 = dktX4_isSoundNow_10 := dk_seg dksX4_isSoundNow_9 24 rfl rfl
theorem dksX4_isSoundNow_11 : cX4_isSoundNow.data.toList.drop 257 = dktX4_isSoundNow_11 := dk_seg dksX4_isSoundNow_10 23 rfl rfl
theorem dksX4_isSoundNow_12 : cX4_isSoundNow.data.toList.drop 279 = dktX4_isSoundNow_12 := dk_seg dksX4_isSoundNow_11 22 rfl rfl
theorem dksX4_isSoundNow_13 : cX4_isSoundNow.data.toList.drop 303 = dktX4_isSoundNow_13 := dk_seg dksX4_isSoundNow_12 24 rfl rfl
theorem dX4_isSoundNow_0 : decode cX4_isSoundNow 0 = .ok (.bipush 12, 2) := dk_16 12 (dk_at dksX4_isSoundNow_0 0 rfl rfl)
theorem dX4_isSoundNow_2 : decode cX4_isSoundNow 2 = .ok (.newarray .int, 2) := dk_188_10 (dk_at dksX4_isSoundNow_0 2 rfl rfl)
theorem dX4_isSoundNow_4 : decode cX4_isSoundNow 4 = .ok (.astore_n 1, 1) := dk_76 (dk_at dksX4_isSoundNow_0 4 rfl rfl)
theorem dX4_isSoundNow_5 : decode cX4_isSoundNow 5 = .ok (.aload_n 0, 1) := dk_42 (dk_at dksX4_isSoundNow_0 5 rfl rfl)
theorem dX4_isSoundNow_6 : decode cX4_isSoundNow 6 = .ok (.getfield 22, 3) := dk_180 0 22 (dk_at dksX4_isSoundNow_0 6 rfl rfl)
theorem dX4_isSoundNow_9 : decode cX4_isSoundNow 9 = .ok (.invokevirtual 264, 3) := dk_182 1 8 (dk_at dksX4_isSoundNow_0 9 rfl rfl)
theorem dX4_isSoundNow_12 : decode cX4_isSoundNow 12 = .ok (.astore_n 2, 1) := dk_77 (dk_at dksX4_isSoundNow_0 12 rfl rfl)
theorem dX4_isSoundNow_13 : decode cX4_isSoundNow 13 = .ok (.aload_n 2, 1) := dk_44 (dk_at dksX4_isSoundNow_0 13 rfl rfl)
theorem dX4_isSoundNow_14 : decode cX4_isSoundNow 14 = .ok (.invokeinterface 268 1, 5) := by decide +kernel
theorem dX4_isSoundNow_19 : decode cX4_isSoundNow 19 = .ok (.ifCond .eq 140, 3) := dk_153 0 140 (dk_at dksX4_isSoundNow_0 19 rfl rfl)
theorem dX4_isSoundNow_22 : decode cX4_isSoundNow 22 = .ok (.aload_n 2, 1) := dk_44 (dk_at dksX4_isSoundNow_0 22 rfl rfl)
theorem dX4_isSoundNow_23 : decode cX4_isSoundNow 23 = .ok (.invokeinterface 273 1, 5) := by decide +kernel
theorem dX4_isSoundNow_28 : decode cX4_isSoundNow 28 = .ok (.checkcast 68, 3) := dk_192 0 68 (dk_at dksX4_isSoundNow_1 5 rfl rfl)
theorem dX4_isSoundNow_31 : decode cX4_isSoundNow 31 = .ok (.astore_n 3, 1) := dk_78 (dk_at dksX4_isSoundNow_1 8 rfl rfl)
theorem dX4_isSoundNow_32 : decode cX4_isSoundNow 32 = .ok (.iconst 0, 1) := dk_3 (dk_at dksX4_isSoundNow_1 9 rfl rfl)
theorem dX4_isSoundNow_33 : decode cX4_isSoundNow 33 = .ok (.istore 4, 2) := dk_54 4 (dk_at dksX4_isSoundNow_1 10 rfl rfl)
theorem dX4_isSoundNow_35 : decode cX4_isSoundNow 35 = .ok (.iconst 0, 1) := dk_3 (dk_at dksX4_isSoundNow_1 12 rfl rfl)
theorem dX4_isSoundNow_36 : decode cX4_isSoundNow 36 = .ok (.istore 5, 2) := dk_54 5 (dk_at dksX4_isSoundNow_1 13 rfl rfl)
theorem dX4_isSoundNow_38 : decode cX4_isSoundNow 38 = .ok (.iload 5, 2) := dk_21 5 (dk_at dksX4_isSoundNow_1 15 rfl rfl)
theorem dX4_isSoundNow_40 : decode cX4_isSoundNow 40 = .ok (.aload_n 3, 1) := dk_45 (dk_at dksX4_isSoundNow_1 17 rfl rfl)
theorem dX4_isSoundNow_41 : decode cX4_isSoundNow 41 = .ok (.getfield 162, 3) := dk_180 0 162 (dk_at dksX4_isSoundNow_1 18 rfl rfl)
theorem dX4_isSoundNow_44 : decode cX4_isSoundNow 44 = .ok (.invokevirtual 47, 3) := dk_182 0 47 (dk_at dksX4_isSoundNow_1 21 rfl rfl)
theorem dX4_isSoundNow_47 : decode cX4_isSoundNow 47 = .ok (.if_icmp .ge 109, 3) := dk_162 0 109 (dk_at dksX4_isSoundNow_2 0 rfl rfl)
theorem dX4_isSoundNow_50 : decode cX4_isSoundNow 50 = .ok (.aload_n 3, 1) := dk_45 (dk_at dksX4_isSoundNow_2 3 rfl rfl)
theorem dX4_isSoundNow_51 : decode cX4_isSoundNow 51 = .ok (.getfield 162, 3) := dk_180 0 162 (dk_at dksX4_isSoundNow_2 4 rfl rfl)
theorem dX4_isSoundNow_54 : decode cX4_isSoundNow 54 = .ok (.iload 5, 2) := dk_21 5 (dk_at dksX4_isSoundNow_2 7 rfl rfl)
theorem dX4_isSoundNow_56 : decode cX4_isSoundNow 56 = .ok (.invokevirtual 90, 3) := dk_182 0 90 (dk_at dksX4_isSoundNow_2 9 rfl rfl)
theorem dX4_isSoundNow_59 : decode cX4_isSoundNow 59 = .ok (.checkcast 165, 3) := dk_192 0 165 (dk_at dksX4_isSoundNow_2 12 rfl rfl)
theorem dX4_isSoundNow_62 : decode cX4_isSoundNow 62 = .ok (.invokevirtual 167, 3) := dk_182 0 167 (dk_at dksX4_isSoundNow_2 15 rfl rfl)
theorem dX4_isSoundNow_65 : decode cX4_isSoundNow 65 = .ok (.istore 6, 2) := dk_54 6 (dk_at dksX4_isSoundNow_2 18 rfl rfl)
theorem dX4_isSoundNow_67 : decode cX4_isSoundNow 67 = .ok (.aload_n 1, 1) := dk_43 (dk_at dksX4_isSoundNow_2 20 rfl rfl)
theorem dX4_isSoundNow_68 : decode cX4_isSoundNow 68 = .ok (.iload 6, 2) := dk_21 6 (dk_at dksX4_isSoundNow_2 21 rfl rfl)
theorem dX4_isSoundNow_70 : decode cX4_isSoundNow 70 = .ok (.dup2, 1) := dk_92 (dk_at dksX4_isSoundNow_2 23 rfl rfl)
theorem dX4_isSoundNow_71 : decode cX4_isSoundNow 71 = .ok (.iaload, 1) := dk_46 (dk_at dksX4_isSoundNow_3 0 rfl rfl)
theorem dX4_isSoundNow_72 : decode cX4_isSoundNow 72 = .ok (.iconst 1, 1) := dk_4 (dk_at dksX4_isSoundNow_3 1 rfl rfl)
theorem dX4_isSoundNow_73 : decode cX4_isSoundNow 73 = .ok (.iadd, 1) := dk_96 (dk_at dksX4_isSoundNow_3 2 rfl rfl)
theorem dX4_isSoundNow_74 : decode cX4_isSoundNow 74 = .ok (.iastore, 1) := dk_79 (dk_at dksX4_isSoundNow_3 3 rfl rfl)
theorem dX4_isSoundNow_75 : decode cX4_isSoundNow 75 = .ok (.aload_n 3, 1) := dk_45 (dk_at dksX4_isSoundNow_3 4 rfl rfl)
theorem dX4_isSoundNow_76 : decode cX4_isSoundNow 76 = .ok (.aload_n 0, 1) := dk_42 (dk_at dksX4_isSoundNow_3 5 rfl rfl)
theorem dX4_isSoundNow_77 : decode cX4_isSoundNow 77 = .ok (.getfield 26, 3) := dk_180 0 26 (dk_at dksX4_isSoundNow_3 6 rfl rfl)
theorem dX4_isSoundNow_80 : decode cX4_isSoundNow 80 = .ok (.iload 6, 2) := dk_21 6 (dk_at dksX4_isSoundNow_3 9 rfl rfl)
theorem dX4_isSoundNow_82 : decode cX4_isSoundNow 82 = .ok (.invokevirtual 90, 3) := dk_182 0 90 (dk_at dksX4_isSoundNow_3 11 rfl rfl)
theorem dX4_isSoundNow_85 : decode cX4_isSoundNow 85 = .ok (.checkcast 100, 3) := dk_192 0 100 (dk_at dksX4_isSoundNow_3 14 rfl rfl)
theorem dX4_isSoundNow_88 : decode cX4_isSoundNow 88 = .ok (.getfield 103, 3) := dk_180 0 103 (dk_at dksX4_isSoundNow_3 17 rfl rfl)
theorem dX4_isSoundNow_91 : decode cX4_isSoundNow 91 = .ok (.invokevirtual 159, 3) := dk_182 0 159 (dk_at dksX4_isSoundNow_3 20 rfl rfl)
theorem dX4_isSoundNow_94 : decode cX4_isSoundNow 94 = .ok (.ifCond .eq 26, 3) := dk_153 0 26 (dk_at dksX4_isSoundNow_4 0 rfl rfl)
theorem dX4_isSoundNow_97 : decode cX4_isSoundNow 97 = .ok (.iload 4, 2) := dk_21 4 (dk_at dksX4_isSoundNow_4 3 rfl rfl)
theorem dX4_isSoundNow_99 : decode cX4_isSoundNow 99 = .ok (.ifCond .eq 23, 3) := dk_153 0 23 (dk_at dksX4_isSoundNow_4 5 rfl rfl)
theorem dX4_isSoundNow_102 : decode cX4_isSoundNow 102 = .ok (.aload_n 0, 1) := dk_42 (dk_at dksX4_isSoundNow_4 8 rfl rfl)
theorem dX4_isSoundNow_103 : decode cX4_isSoundNow 103 = .ok (.getfield 26, 3) := dk_180 0 26 (dk_at dksX4_isSoundNow_4 9 rfl rfl)
theorem dX4_isSoundNow_106 : decode cX4_isSoundNow 106 = .ok (.iload 6, 2) := dk_21 6 (dk_at dksX4_isSoundNow_4 12 rfl rfl)
theorem dX4_isSoundNow_108 : decode cX4_isSoundNow 108 = .ok (.invokevirtual 90, 3) := dk_182 0 90 (dk_at dksX4_isSoundNow_4 14 rfl rfl)
theorem dX4_isSoundNow_111 : decode cX4_isSoundNow 111 = .ok (.checkcast 100, 3) := dk_192 0 100 (dk_at dksX4_isSoundNow_4 17 rfl rfl)
theorem dX4_isSoundNow_114 : decode cX4_isSoundNow 114 = .ok (.getfield 106, 3) := dk_180 0 106 (dk_at dksX4_isSoundNow_4 20 rfl rfl)
theorem dX4_isSoundNow_117 : decode cX4_isSoundNow 117 = .ok (.ifCond .eq 5, 3) := dk_153 0 5 (dk_at dksX4_isSoundNow_5 0 rfl rfl)
theorem dX4_isSoundNow_120 : decode cX4_isSoundNow 120 = .ok (.iconst 0, 1) := dk_3 (dk_at dksX4_isSoundNow_5 3 rfl rfl)
theorem dX4_isSoundNow_121 : decode cX4_isSoundNow 121 = .ok (.ireturn, 1) := dk_172 (dk_at dksX4_isSoundNow_5 4 rfl rfl)
theorem dX4_isSoundNow_122 : decode cX4_isSoundNow 122 = .ok (.iload 4, 2) := dk_21 4 (dk_at dksX4_isSoundNow_5 5 rfl rfl)
theorem dX4_isSoundNow_124 : decode cX4_isSoundNow 124 = .ok (.aload_n 0, 1) := dk_42 (dk_at dksX4_isSoundNow_5 7 rfl rfl)
theorem dX4_isSoundNow_125 : decode cX4_isSoundNow 125 = .ok (.getfield 26, 3) := dk_180 0 26 (dk_at dksX4_isSoundNow_5 8 rfl rfl)
theorem dX4_isSoundNow_128 : decode cX4_isSoundNow 128 = .ok (.iload 6, 2) := dk_21 6 (dk_at dksX4_isSoundNow_5 11 rfl rfl)
theorem dX4_isSoundNow_130 : decode cX4_isSoundNow 130 = .ok (.invokevirtual 90, 3) := dk_182 0 90 (dk_at dksX4_isSoundNow_5 13 rfl rfl)
theorem dX4_isSoundNow_133 : decode cX4_isSoundNow 133 = .ok (.checkcast 100, 3) := dk_192 0 100 (dk_at dksX4_isSoundNow_5 16 rfl rfl)
theorem dX4_isSoundNow_136 : decode cX4_isSoundNow 136 = .ok (.getfield 106, 3) := dk_180 0 106 (dk_at dksX4_isSoundNow_5 19 rfl rfl)
theorem dX4_isSoundNow_139 : decode cX4_isSoundNow 139 = .ok (.ifCond .ne 7, 3) := dk_154 0 7 (dk_at dksX4_isSoundNow_6 0 rfl rfl)
theorem dX4_isSoundNow_142 : decode cX4_isSoundNow 142 = .ok (.iconst 1, 1) := dk_4 (dk_at dksX4_isSoundNow_6 3 rfl rfl)
theorem dX4_isSoundNow_143 : decode cX4_isSoundNow 143 = .ok (.goto 4, 3) := dk_167 0 4 (dk_at dksX4_isSoundNow_6 4 rfl rfl)
theorem dX4_isSoundNow_146 : decode cX4_isSoundNow 146 = .ok (.iconst 0, 1) := dk_3 (dk_at dksX4_isSoundNow_6 7 rfl rfl)
theorem dX4_isSoundNow_147 : decode cX4_isSoundNow 147 = .ok (.ior, 1) := dk_128 (dk_at dksX4_isSoundNow_6 8 rfl rfl)
theorem dX4_isSoundNow_148 : decode cX4_isSoundNow 148 = .ok (.istore 4, 2) := dk_54 4 (dk_at dksX4_isSoundNow_6 9 rfl rfl)
theorem dX4_isSoundNow_150 : decode cX4_isSoundNow 150 = .ok (.iinc 5 1, 3) := dk_132 5 1 (dk_at dksX4_isSoundNow_6 11 rfl rfl)
theorem dX4_isSoundNow_153 : decode cX4_isSoundNow 153 = .ok (.goto (-115), 3) := dk_167 255 141 (dk_at dksX4_isSoundNow_6 14 rfl rfl)
theorem dX4_isSoundNow_156 : decode cX4_isSoundNow 156 = .ok (.goto (-143), 3) := dk_167 255 113 (dk_at dksX4_isSoundNow_6 17 rfl rfl)
theorem dX4_isSoundNow_159 : decode cX4_isSoundNow 159 = .ok (.iconst 0, 1) := dk_3 (dk_at dksX4_isSoundNow_6 20 rfl rfl)
theorem dX4_isSoundNow_160 : decode cX4_isSoundNow 160 = .ok (.istore_n 2, 1) := dk_61 (dk_at dksX4_isSoundNow_6 21 rfl rfl)
theorem dX4_isSoundNow_161 : decode cX4_isSoundNow 161 = .ok (.aload_n 0, 1) := dk_42 (dk_at dksX4_isSoundNow_6 22 rfl rfl)
theorem dX4_isSoundNow_162 : decode cX4_isSoundNow 162 = .ok (.getfield 15, 3) := dk_180 0 15 (dk_at dksX4_isSoundNow_7 0 rfl rfl)
theorem dX4_isSoundNow_165 : decode cX4_isSoundNow 165 = .ok (.astore_n 3, 1) := dk_78 (dk_at dksX4_isSoundNow_7 3 rfl rfl)
theorem dX4_isSoundNow_166 : decode cX4_isSoundNow 166 = .ok (.aload_n 3, 1) := dk_45 (dk_at dksX4_isSoundNow_7 4 rfl rfl)
theorem dX4_isSoundNow_167 : decode cX4_isSoundNow 167 = .ok (.arraylength, 1) := dk_190 (dk_at dksX4_isSoundNow_7 5 rfl rfl)
theorem dX4_isSoundNow_168 : decode cX4_isSoundNow 168 = .ok (.istore 4, 2) := dk_54 4 (dk_at dksX4_isSoundNow_7 6 rfl rfl)
theorem dX4_isSoundNow_170 : decode cX4_isSoundNow 170 = .ok (.iconst 0, 1) := dk_3 (dk_at dksX4_isSoundNow_7 8 rfl rfl)
theorem dX4_isSoundNow_171 : decode cX4_isSoundNow 171 = .ok (.istore 5, 2) := dk_54 5 (dk_at dksX4_isSoundNow_7 9 rfl rfl)
theorem dX4_isSoundNow_173 : decode cX4_isSoundNow 173 = .ok (.iload 5, 2) := dk_21 5 (dk_at dksX4_isSoundNow_7 11 rfl rfl)
theorem dX4_isSoundNow_175 : decode cX4_isSoundNow 175 = .ok (.iload 4, 2) := dk_21 4 (dk_at dksX4_isSoundNow_7 13 rfl rfl)
theorem dX4_isSoundNow_177 : decode cX4_isSoundNow 177 = .ok (.if_icmp .ge 23, 3) := dk_162 0 23 (dk_at dksX4_isSoundNow_7 15 rfl rfl)
theorem dX4_isSoundNow_180 : decode cX4_isSoundNow 180 = .ok (.aload_n 3, 1) := dk_45 (dk_at dksX4_isSoundNow_7 18 rfl rfl)
theorem dX4_isSoundNow_181 : decode cX4_isSoundNow 181 = .ok (.iload 5, 2) := dk_21 5 (dk_at dksX4_isSoundNow_7 19 rfl rfl)
theorem dX4_isSoundNow_183 : decode cX4_isSoundNow 183 = .ok (.aaload, 1) := dk_50 (dk_at dksX4_isSoundNow_7 21 rfl rfl)
theorem dX4_isSoundNow_184 : decode cX4_isSoundNow 184 = .ok (.astore 6, 2) := dk_58 6 (dk_at dksX4_isSoundNow_7 22 rfl rfl)
theorem dX4_isSoundNow_186 : decode cX4_isSoundNow 186 = .ok (.iload_n 2, 1) := dk_28 (dk_at dksX4_isSoundNow_8 0 rfl rfl)
theorem dX4_isSoundNow_187 : decode cX4_isSoundNow 187 = .ok (.aload 6, 2) := dk_25 6 (dk_at dksX4_isSoundNow_8 1 rfl rfl)
theorem dX4_isSoundNow_189 : decode cX4_isSoundNow 189 = .ok (.getfield 65, 3) := dk_180 0 65 (dk_at dksX4_isSoundNow_8 3 rfl rfl)
theorem dX4_isSoundNow_192 : decode cX4_isSoundNow 192 = .ok (.iadd, 1) := dk_96 (dk_at dksX4_isSoundNow_8 6 rfl rfl)
theorem dX4_isSoundNow_193 : decode cX4_isSoundNow 193 = .ok (.istore_n 2, 1) := dk_61 (dk_at dksX4_isSoundNow_8 7 rfl rfl)
theorem dX4_isSoundNow_194 : decode cX4_isSoundNow 194 = .ok (.iinc 5 1, 3) := dk_132 5 1 (dk_at dksX4_isSoundNow_8 8 rfl rfl)
theorem dX4_isSoundNow_197 : decode cX4_isSoundNow 197 = .ok (.goto (-24), 3) := dk_167 255 232 (dk_at dksX4_isSoundNow_8 11 rfl rfl)
theorem dX4_isSoundNow_200 : decode cX4_isSoundNow 200 = .ok (.iconst 0, 1) := dk_3 (dk_at dksX4_isSoundNow_8 14 rfl rfl)
theorem dX4_isSoundNow_201 : decode cX4_isSoundNow 201 = .ok (.istore_n 3, 1) := dk_62 (dk_at dksX4_isSoundNow_8 15 rfl rfl)
theorem dX4_isSoundNow_202 : decode cX4_isSoundNow 202 = .ok (.iload_n 3, 1) := dk_29 (dk_at dksX4_isSoundNow_8 16 rfl rfl)
theorem dX4_isSoundNow_203 : decode cX4_isSoundNow 203 = .ok (.aload_n 0, 1) := dk_42 (dk_at dksX4_isSoundNow_8 17 rfl rfl)
theorem dX4_isSoundNow_204 : decode cX4_isSoundNow 204 = .ok (.getfield 26, 3) := dk_180 0 26 (dk_at dksX4_isSoundNow_8 18 rfl rfl)
theorem dX4_isSoundNow_207 : decode cX4_isSoundNow 207 = .ok (.invokevirtual 47, 3) := dk_182 0 47 (dk_at dksX4_isSoundNow_8 21 rfl rfl)
theorem dX4_isSoundNow_210 : decode cX4_isSoundNow 210 = .ok (.if_icmp .ge 75, 3) := dk_162 0 75 (dk_at dksX4_isSoundNow_9 0 rfl rfl)
theorem dX4_isSoundNow_213 : decode cX4_isSoundNow 213 = .ok (.aload_n 0, 1) := dk_42 (dk_at dksX4_isSoundNow_9 3 rfl rfl)
theorem dX4_isSoundNow_214 : decode cX4_isSoundNow 214 = .ok (.getfield 26, 3) := dk_180 0 26 (dk_at dksX4_isSoundNow_9 4 rfl rfl)
theorem dX4_isSoundNow_217 : decode cX4_isSoundNow 217 = .ok (.iload_n 3, 1) := dk_29 (dk_at dksX4_isSoundNow_9 7 rfl rfl)
theorem dX4_isSoundNow_218 : decode cX4_isSoundNow 218 = .ok (.invokevirtual 90, 3) := dk_182 0 90 (dk_at dksX4_isSoundNow_9 8 rfl rfl)
theorem dX4_isSoundNow_221 : decode cX4_isSoundNow 221 = .ok (.checkcast 100, 3) := dk_192 0 100 (dk_at dksX4_isSoundNow_9 11 rfl rfl)
theorem dX4_isSoundNow_224 : decode cX4_isSoundNow 224 = .ok (.astore 4, 2) := dk_58 4 (dk_at dksX4_isSoundNow_9 14 rfl rfl)
theorem dX4_isSoundNow_226 : decode cX4_isSoundNow 226 = .ok (.aload_n 1, 1) := dk_43 (dk_at dksX4_isSoundNow_9 16 rfl rfl)
theorem dX4_isSoundNow_227 : decode cX4_isSoundNow 227 = .ok (.iload_n 3, 1) := dk_29 (dk_at dksX4_isSoundNow_9 17 rfl rfl)
theorem dX4_isSoundNow_228 : decode cX4_isSoundNow 228 = .ok (.iaload, 1) := dk_46 (dk_at dksX4_isSoundNow_9 18 rfl rfl)
theorem dX4_isSoundNow_229 : decode cX4_isSoundNow 229 = .ok (.aload 4, 2) := dk_25 4 (dk_at dksX4_isSoundNow_9 19 rfl rfl)
theorem dX4_isSoundNow_231 : decode cX4_isSoundNow 231 = .ok (.getfield 116, 3) := dk_180 0 116 (dk_at dksX4_isSoundNow_9 21 rfl rfl)
theorem dX4_isSoundNow_234 : decode cX4_isSoundNow 234 = .ok (.iconst 1, 1) := dk_4 (dk_at dksX4_isSoundNow_10 0 rfl rfl)
theorem dX4_isSoundNow_235 : decode cX4_isSoundNow 235 = .ok (.if_icmp .ne 7, 3) := dk_160 0 7 (dk_at dksX4_isSoundNow_10 1 rfl rfl)
theorem dX4_isSoundNow_238 : decode cX4_isSoundNow 238 = .ok (.iconst 1, 1) := dk_4 (dk_at dksX4_isSoundNow_10 4 rfl rfl)
theorem dX4_isSoundNow_239 : decode cX4_isSoundNow 239 = .ok (.goto 4, 3) := dk_167 0 4 (dk_at dksX4_isSoundNow_10 5 rfl rfl)
theorem dX4_isSoundNow_242 : decode cX4_isSoundNow 242 = .ok (.iconst 0, 1) := dk_3 (dk_at dksX4_isSoundNow_10 8 rfl rfl)
theorem dX4_isSoundNow_243 : decode cX4_isSoundNow 243 = .ok (.if_icmp .ne 34, 3) := dk_160 0 34 (dk_at dksX4_isSoundNow_10 9 rfl rfl)
theorem dX4_isSoundNow_246 : decode cX4_isSoundNow 246 = .ok (.aload 4, 2) := dk_25 4 (dk_at dksX4_isSoundNow_10 12 rfl rfl)
theorem dX4_isSoundNow_248 : decode cX4_isSoundNow 248 = .ok (.getfield 110, 3) := dk_180 0 110 (dk_at dksX4_isSoundNow_10 14 rfl rfl)
theorem dX4_isSoundNow_251 : decode cX4_isSoundNow 251 = .ok (.iconst 0, 1) := dk_3 (dk_at dksX4_isSoundNow_10 17 rfl rfl)
theorem dX4_isSoundNow_252 : decode cX4_isSoundNow 252 = .ok (.bipush 9, 2) := dk_16 9 (dk_at dksX4_isSoundNow_10 18 rfl rfl)
theorem dX4_isSoundNow_254 : decode cX4_isSoundNow 254 = .ok (.invokestatic 43, 3) := dk_184 0 43 (dk_at dksX4_isSoundNow_10 20 rfl rfl)
theorem dX4_isSoundNow_257 : decode cX4_isSoundNow 257 = .ok (.ifCond .eq 20, 3) := dk_153 0 20 (dk_at dksX4_isSoundNow_11 0 rfl rfl)
theorem dX4_isSoundNow_260 : decode cX4_isSoundNow 260 = .ok (.aload 4, 2) := dk_25 4 (dk_at dksX4_isSoundNow_11 3 rfl rfl)
theorem dX4_isSoundNow_262 : decode cX4_isSoundNow 262 = .ok (.getfield 116, 3) := dk_180 0 116 (dk_at dksX4_isSoundNow_11 5 rfl rfl)
theorem dX4_isSoundNow_265 : decode cX4_isSoundNow 265 = .ok (.iconst 2, 1) := dk_5 (dk_at dksX4_isSoundNow_11 8 rfl rfl)
theorem dX4_isSoundNow_266 : decode cX4_isSoundNow 266 = .ok (.if_icmp .ne 13, 3) := dk_160 0 13 (dk_at dksX4_isSoundNow_11 9 rfl rfl)
theorem dX4_isSoundNow_269 : decode cX4_isSoundNow 269 = .ok (.aload_n 0, 1) := dk_42 (dk_at dksX4_isSoundNow_11 12 rfl rfl)
theorem dX4_isSoundNow_270 : decode cX4_isSoundNow 270 = .ok (.iload_n 3, 1) := dk_29 (dk_at dksX4_isSoundNow_11 13 rfl rfl)
theorem dX4_isSoundNow_271 : decode cX4_isSoundNow 271 = .ok (.invokevirtual 156, 3) := dk_182 0 156 (dk_at dksX4_isSoundNow_11 14 rfl rfl)
theorem dX4_isSoundNow_274 : decode cX4_isSoundNow 274 = .ok (.ifCond .eq 5, 3) := dk_153 0 5 (dk_at dksX4_isSoundNow_11 17 rfl rfl)
theorem dX4_isSoundNow_277 : decode cX4_isSoundNow 277 = .ok (.iconst 0, 1) := dk_3 (dk_at dksX4_isSoundNow_11 20 rfl rfl)
theorem dX4_isSoundNow_278 : decode cX4_isSoundNow 278 = .ok (.ireturn, 1) := dk_172 (dk_at dksX4_isSoundNow_11 21 rfl rfl)
theorem dX4_isSoundNow_279 : decode cX4_isSoundNow 279 = .ok (.iinc 3 1, 3) := dk_132 3 1 (dk_at dksX4_isSoundNow_12 0 rfl rfl)
theorem dX4_isSoundNow_282 : decode cX4_isSoundNow 282 = .ok (.goto (-80), 3) := dk_167 255 176 (dk_at dksX4_isSoundNow_12 3 rfl rfl)
theorem dX4_isSoundNow_285 : decode cX4_isSoundNow 285 = .ok (.iload_n 2, 1) := dk_28 (dk_at dksX4_isSoundNow_12 6 rfl rfl)
theorem dX4_isSoundNow_286 : decode cX4_isSoundNow 286 = .ok (.bipush 30, 2) := dk_16 30 (dk_at dksX4_isSoundNow_12 7 rfl rfl)
theorem dX4_isSoundNow_288 : decode cX4_isSoundNow 288 = .ok (.if_icmp .ne 19, 3) := dk_160 0 19 (dk_at dksX4_isSoundNow_12 9 rfl rfl)
theorem dX4_isSoundNow_291 : decode cX4_isSoundNow 291 = .ok (.aload_n 0, 1) := dk_42 (dk_at dksX4_isSoundNow_12 12 rfl rfl)
theorem dX4_isSoundNow_292 : decode cX4_isSoundNow 292 = .ok (.getfield 32, 3) := dk_180 0 32 (dk_at dksX4_isSoundNow_12 13 rfl rfl)
theorem dX4_isSoundNow_295 : decode cX4_isSoundNow 295 = .ok (.invokevirtual 47, 3) := dk_182 0 47 (dk_at dksX4_isSoundNow_12 16 rfl rfl)
theorem dX4_isSoundNow_298 : decode cX4_isSoundNow 298 = .ok (.bipush 120, 2) := dk_16 120 (dk_at dksX4_isSoundNow_12 19 rfl rfl)
theorem dX4_isSoundNow_300 : decode cX4_isSoundNow 300 = .ok (.if_icmp .gt 7, 3) := dk_163 0 7 (dk_at dksX4_isSoundNow_12 21 rfl rfl)
theorem dX4_isSoundNow_303 : decode cX4_isSoundNow 303 = .ok (.iconst 1, 1) := dk_4 (dk_at dksX4_isSoundNow_13 0 rfl rfl)
theorem dX4_isSoundNow_304 : decode cX4_isSoundNow 304 = .ok (.goto 4, 3) := dk_167 0 4 (dk_at dksX4_isSoundNow_13 1 rfl rfl)
theorem dX4_isSoundNow_307 : decode cX4_isSoundNow 307 = .ok (.iconst 0, 1) := dk_3 (dk_at dksX4_isSoundNow_13 4 rfl rfl)
theorem dX4_isSoundNow_308 : decode cX4_isSoundNow 308 = .ok (.ireturn, 1) := dk_172 (dk_at dksX4_isSoundNow_13 5 rfl rfl)
abbrev cX4_digest : ByteArray := prog_14_method_59_code
def yX4_digest : MethodName := ⟨RX4, "digest", "()J"⟩
def dkwX4_digest_11 : List UInt8 := [182, 1, 98, 42, 42, 182, 1, 87, 153, 0, 7, 10, 167, 0, 4, 9, 182, 1, 98, 42, 180, 1, 90, 173]
abbrev dktX4_digest_11 : List UInt8 := dkwX4_digest_11 ++ []
def dkwX4_digest_10 : List UInt8 := [182, 1, 71, 133, 182, 1, 98, 132, 1, 1, 167, 255, 236, 42, 42, 16, 20, 2, 182, 1, 81, 133]
abbrev dktX4_digest_10 : List UInt8 := dkwX4_digest_10 ++ dktX4_digest_11
def dkwX4_digest_9 : List UInt8 := [132, 2, 1, 167, 255, 236, 132, 1, 1, 167, 255, 217, 3, 60, 27, 16, 6, 162, 0, 20, 42, 42, 3, 27]
abbrev dktX4_digest_9 : List UInt8 := dkwX4_digest_9 ++ dktX4_digest_10
def dkwX4_digest_8 : List UInt8 := [162, 0, 34, 6, 61, 28, 16, 6, 162, 0, 20, 42, 42, 27, 28, 182, 1, 43, 133, 182, 1, 98]
abbrev dktX4_digest_8 : List UInt8 := dkwX4_digest_8 ++ dktX4_digest_9
def dkwX4_digest_7 : List UInt8 := [132, 2, 1, 167, 255, 236, 132, 1, 1, 167, 255, 217, 3, 60, 27, 42, 180, 0, 29, 182, 0, 47]
abbrev dktX4_digest_7 : List UInt8 := dkwX4_digest_7 ++ dktX4_digest_8
def dkwX4_digest_6 : List UInt8 := [162, 0, 34, 3, 61, 28, 16, 9, 162, 0, 20, 42, 42, 27, 28, 182, 1, 40, 133, 182, 1, 98]
abbrev dktX4_digest_6 : List UInt8 := dkwX4_digest_6 ++ dktX4_digest_7
def dkwX4_digest_5 : List UInt8 := [182, 1, 84, 133, 182, 1, 98, 132, 1, 1, 167, 255, 207, 3, 60, 27, 42, 180, 0, 26, 182, 0, 47]
abbrev dktX4_digest_5 : List UInt8 := dkwX4_digest_5 ++ dktX4_digest_6
def dkwX4_digest_4 : List UInt8 := [162, 0, 20, 42, 42, 27, 28, 182, 1, 34, 133, 182, 1, 98, 132, 2, 1, 167, 255, 236, 42, 42, 27]
abbrev dktX4_digest_4 : List UInt8 := dkwX4_digest_4 ++ dktX4_digest_5
def dkwX4_digest_3 : List UInt8 := [132, 1, 1, 167, 255, 222, 3, 60, 27, 42, 180, 0, 22, 182, 0, 47, 162, 0, 44, 5, 61, 28, 16, 10]
abbrev dktX4_digest_3 : List UInt8 := dkwX4_digest_3 ++ dktX4_digest_4
def dkwX4_digest_2 : List UInt8 := [16, 9, 162, 0, 20, 42, 42, 27, 28, 182, 1, 27, 133, 182, 1, 98, 132, 2, 1, 167, 255, 236]
abbrev dktX4_digest_2 : List UInt8 := dkwX4_digest_2 ++ dktX4_digest_3
def dkwX4_digest_1 : List UInt8 := [182, 1, 68, 133, 182, 1, 98, 132, 1, 1, 167, 255, 237, 3, 60, 27, 16, 6, 162, 0, 34, 3, 61, 28]
abbrev dktX4_digest_1 : List UInt8 := dkwX4_digest_1 ++ dktX4_digest_2
def dkwX4_digest_0 : List UInt8 := [42, 3, 181, 0, 40, 42, 20, 1, 96, 181, 1, 90, 3, 60, 27, 16, 17, 162, 0, 19, 42, 42, 27]
abbrev dktX4_digest_0 : List UInt8 := dkwX4_digest_0 ++ dktX4_digest_1
theorem dksX4_digest_0 : cX4_digest.data.toList.drop 0 = dktX4_digest_0 := by decide +kernel
theorem dksX4_digest_1 : cX4_digest.data.toList.drop 23 = dktX4_digest_1 := dk_seg dksX4_digest_0 23 rfl rfl
theorem dksX4_digest_2 : cX4_digest.data.toList.drop 47 = dktX4_digest_2 := dk_seg dksX4_digest_1 24 rfl rfl
theorem dksX4_digest_3 : cX4_digest.data.toList.drop 69 = dktX4_digest_3 := dk_seg dksX4_digest_2 22 rfl rfl
theorem dksX4_digest_4 : cX4_digest.data.toList.drop 93 = dktX4_digest_4 := dk_seg dksX4_digest_3 24 rfl rfl
theorem dksX4_digest_5 : cX4_digest.data.toList.drop 116 = dktX4_digest_5 := dk_seg dksX4_digest_4 23 rfl rfl
theorem dksX4_digest_6 : cX4_digest.data.toList.drop 139 = dktX4_digest_6 := dk_seg dksX4_digest_5 23 rfl rfl
theorem dksX4_digest_7 : cX4_digest.data.toList.drop 161 = dktX4_digest_7 := dk_seg dksX4_digest_6 22 rfl rfl
theorem dksX4_digest_8 : cX4_digest.data.toList.drop 183 = dktX4_digest_8 := dk_seg dksX4_digest_7 22 rfl rfl
theorem dksX4_digest_9 : cX4_digest.data.toList.drop 205 = dktX4_digest_9 := dk_seg dksX4_digest_8 22 rfl rfl
theorem dksX4_digest_10 : cX4_digest.data.toList.drop 229 = dktX4_digest_10 := dk_seg dksX4_digest_9 24 rfl rfl
theorem dksX4_digest_11 : cX4_digest.data.toList.drop 251 = dktX4_digest_11 := dk_seg dksX4_digest_10 22 rfl rfl
theorem dX4_digest_0 : decode cX4_digest 0 = .ok (.aload_n 0, 1) := dk_42 (dk_at dksX4_digest_0 0 rfl rfl)
theorem dX4_digest_1 : decode cX4_digest 1 = .ok (.iconst 0, 1) := dk_3 (dk_at dksX4_digest_0 1 rfl rfl)
theorem dX4_digest_2 : decode cX4_digest 2 = .ok (.putfield 40, 3) := dk_181 0 40 (dk_at dksX4_digest_0 2 rfl rfl)
theorem dX4_digest_5 : decode cX4_digest 5 = .ok (.aload_n 0, 1) := dk_42 (dk_at dksX4_digest_0 5 rfl rfl)
theorem dX4_digest_6 : decode cX4_digest 6 = .ok (.ldc2_w 352, 3) := dk_20 1 96 (dk_at dksX4_digest_0 6 rfl rfl)
theorem dX4_digest_9 : decode cX4_digest 9 = .ok (.putfield 346, 3) := dk_181 1 90 (dk_at dksX4_digest_0 9 rfl rfl)
theorem dX4_digest_12 : decode cX4_digest 12 = .ok (.iconst 0, 1) := dk_3 (dk_at dksX4_digest_0 12 rfl rfl)
theorem dX4_digest_13 : decode cX4_digest 13 = .ok (.istore_n 1, 1) := dk_60 (dk_at dksX4_digest_0 13 rfl rfl)
theorem dX4_digest_14 : decode cX4_digest 14 = .ok (.iload_n 1, 1) := dk_27 (dk_at dksX4_digest_0 14 rfl rfl)
theorem dX4_digest_15 : decode cX4_digest 15 = .ok (.bipush 17, 2) := dk_16 17 (dk_at dksX4_digest_0 15 rfl rfl)
theorem dX4_digest_17 : decode cX4_digest 17 = .ok (.if_icmp .ge 19, 3) := dk_162 0 19 (dk_at dksX4_digest_0 17 rfl rfl)
theorem dX4_digest_20 : decode cX4_digest 20 = .ok (.aload_n 0, 1) := dk_42 (dk_at dksX4_digest_0 20 rfl rfl)
theorem dX4_digest_21 : decode cX4_digest 21 = .ok (.aload_n 0, 1) := dk_42 (dk_at dksX4_digest_0 21 rfl rfl)
theorem dX4_digest_22 : decode cX4_digest 22 = .ok (.iload_n 1, 1) := dk_27 (dk_at dksX4_digest_0 22 rfl rfl)
theorem dX4_digest_23 : decode cX4_digest 23 = .ok (.invokevirtual 324, 3) := dk_182 1 68 (dk_at dksX4_digest_1 0 rfl rfl)
theorem dX4_digest_26 : decode cX4_digest 26 = .ok (.i2l, 1) := dk_133 (dk_at dksX4_digest_1 3 rfl rfl)
theorem dX4_digest_27 : decode cX4_digest 27 = .ok (.invokevirtual 354, 3) := dk_182 1 98 (dk_at dksX4_digest_1 4 rfl rfl)
theorem dX4_digest_30 : decode cX4_digest 30 = .ok (.iinc 1 1, 3) := dk_132 1 1 (dk_at dksX4_digest_1 7 rfl rfl)
theorem dX4_digest_33 : decode cX4_digest 33 = .ok (.goto (-19), 3) := dk_167 255 237 (dk_at dksX4_digest_1 10 rfl rfl)
theorem dX4_digest_36 : decode cX4_digest 36 = .ok (.iconst 0, 1) := dk_3 (dk_at dksX4_digest_1 13 rfl rfl)
theorem dX4_digest_37 : decode cX4_digest 37 = .ok (.istore_n 1, 1) := dk_60 (dk_at dksX4_digest_1 14 rfl rfl)
theorem dX4_digest_38 : decode cX4_digest 38 = .ok (.iload_n 1, 1) := dk_27 (dk_at dksX4_digest_1 15 rfl rfl)
theorem dX4_digest_39 : decode cX4_digest 39 = .ok (.bipush 6, 2) := dk_16 6 (dk_at dksX4_digest_1 16 rfl rfl)
theorem dX4_digest_41 : decode cX4_digest 41 = .ok (.if_icmp .ge 34, 3) := dk_162 0 34 (dk_at dksX4_digest_1 18 rfl rfl)
theorem dX4_digest_44 : decode cX4_digest 44 = .ok (.iconst 0, 1) := dk_3 (dk_at dksX4_digest_1 21 rfl rfl)
theorem dX4_digest_45 : decode cX4_digest 45 = .ok (.istore_n 2, 1) := dk_61 (dk_at dksX4_digest_1 22 rfl rfl)
theorem dX4_digest_46 : decode cX4_digest 46 = .ok (.iload_n 2, 1) := dk_28 (dk_at dksX4_digest_1 23 rfl rfl)
theorem dX4_digest_47 : decode cX4_digest 47 = .ok (.bipush 9, 2) := dk_16 9 (dk_at dksX4_digest_2 0 rfl rfl)
theorem dX4_digest_49 : decode cX4_digest 49 = .ok (.if_icmp .ge 20, 3) := dk_162 0 20 (dk_at dksX4_digest_2 2 rfl rfl)
theorem dX4_digest_52 : decode cX4_digest 52 = .ok (.aload_n 0, 1) := dk_42 (dk_at dksX4_digest_2 5 rfl rfl)
theorem dX4_digest_53 : decode cX4_digest 53 = .ok (.aload_n 0, 1) := dk_42 (dk_at dksX4_digest_2 6 rfl rfl)
theorem dX4_digest_54 : decode cX4_digest 54 = .ok (.iload_n 1, 1) := dk_27 (dk_at dksX4_digest_2 7 rfl rfl)
theorem dX4_digest_55 : decode cX4_digest 55 = .ok (.iload_n 2, 1) := dk_28 (dk_at dksX4_digest_2 8 rfl rfl)
theorem dX4_digest_56 : decode cX4_digest 56 = .ok (.invokevirtual 283, 3) := dk_182 1 27 (dk_at dksX4_digest_2 9 rfl rfl)
theorem dX4_digest_59 : decode cX4_digest 59 = .ok (.i2l, 1) := dk_133 (dk_at dksX4_digest_2 12 rfl rfl)
theorem dX4_digest_60 : decode cX4_digest 60 = .ok (.invokevirtual 354, 3) := dk_182 1 98 (dk_at dksX4_digest_2 13 rfl rfl)
theorem dX4_digest_63 : decode cX4_digest 63 = .ok (.iinc 2 1, 3) := dk_132 2 1 (dk_at dksX4_digest_2 16 rfl rfl)
theorem dX4_digest_66 : decode cX4_digest 66 = .ok (.goto (-20), 3) := dk_167 255 236 (dk_at dksX4_digest_2 19 rfl rfl)
theorem dX4_digest_69 : decode cX4_digest 69 = .ok (.iinc 1 1, 3) := dk_132 1 1 (dk_at dksX4_digest_3 0 rfl rfl)
theorem dX4_digest_72 : decode cX4_digest 72 = .ok (.goto (-34), 3) := dk_167 255 222 (dk_at dksX4_digest_3 3 rfl rfl)
theorem dX4_digest_75 : decode cX4_digest 75 = .ok (.iconst 0, 1) := dk_3 (dk_at dksX4_digest_3 6 rfl rfl)
theorem dX4_digest_76 : decode cX4_digest 76 = .ok (.istore_n 1, 1) := dk_60 (dk_at dksX4_digest_3 7 rfl rfl)
theorem dX4_digest_77 : decode cX4_digest 77 = .ok (.iload_n 1, 1) := dk_27 (dk_at dksX4_digest_3 8 rfl rfl)
theorem dX4_digest_78 : decode cX4_digest 78 = .ok (.aload_n 0, 1) := dk_42 (dk_at dksX4_digest_3 9 rfl rfl)
theorem dX4_digest_79 : decode cX4_digest 79 = .ok (.getfield 22, 3) := dk_180 0 22 (dk_at dksX4_digest_3 10 rfl rfl)
theorem dX4_digest_82 : decode cX4_digest 82 = .ok (.invokevirtual 47, 3) := dk_182 0 47 (dk_at dksX4_digest_3 13 rfl rfl)
theorem dX4_digest_85 : decode cX4_digest 85 = .ok (.if_icmp .ge 44, 3) := dk_162 0 44 (dk_at dksX4_digest_3 16 rfl rfl)
theorem dX4_digest_88 : decode cX4_digest 88 = .ok (.iconst 2, 1) := dk_5 (dk_at dksX4_digest_3 19 rfl rfl)
theorem dX4_digest_89 : decode cX4_digest 89 = .ok (.istore_n 2, 1) := dk_61 (dk_at dksX4_digest_3 20 rfl rfl)
theorem dX4_digest_90 : decode cX4_digest 90 = .ok (.iload_n 2, 1) := dk_28 (dk_at dksX4_digest_3 21 rfl rfl)
theorem dX4_digest_91 : decode cX4_digest 91 = .ok (.bipush 10, 2) := dk_16 10 (dk_at dksX4_digest_3 22 rfl rfl)
theorem dX4_digest_93 : decode cX4_digest 93 = .ok (.if_icmp .ge 20, 3) := dk_162 0 20 (dk_at dksX4_digest_4 0 rfl rfl)
theorem dX4_digest_96 : decode cX4_digest 96 = .ok (.aload_n 0, 1) := dk_42 (dk_at dksX4_digest_4 3 rfl rfl)
theorem dX4_digest_97 : decode cX4_digest 97 = .ok (.aload_n 0, 1) := dk_42 (dk_at dksX4_digest_4 4 rfl rfl)
theorem dX4_digest_98 : decode cX4_digest 98 = .ok (.iload_n 1, 1) := dk_27 (dk_at dksX4_digest_4 5 rfl rfl)
theorem dX4_digest_99 : decode cX4_digest 99 = .ok (.iload_n 2, 1) := dk_28 (dk_at dksX4_digest_4 6 rfl rfl)
theorem dX4_digest_100 : decode cX4_digest 100 = .ok (.invokevirtual 290, 3) := dk_182 1 34 (dk_at dksX4_digest_4 7 rfl rfl)
theorem dX4_digest_103 : decode cX4_digest 103 = .ok (.i2l, 1) := dk_133 (dk_at dksX4_digest_4 10 rfl rfl)
theorem dX4_digest_104 : decode cX4_digest 104 = .ok (.invokevirtual 354, 3) := dk_182 1 98 (dk_at dksX4_digest_4 11 rfl rfl)
theorem dX4_digest_107 : decode cX4_digest 107 = .ok (.iinc 2 1, 3) := dk_132 2 1 (dk_at dksX4_digest_4 14 rfl rfl)
theorem dX4_digest_110 : decode cX4_digest 110 = .ok (.goto (-20), 3) := dk_167 255 236 (dk_at dksX4_digest_4 17 rfl rfl)
theorem dX4_digest_113 : decode cX4_digest 113 = .ok (.aload_n 0, 1) := dk_42 (dk_at dksX4_digest_4 20 rfl rfl)
theorem dX4_digest_114 : decode cX4_digest 114 = .ok (.aload_n 0, 1) := dk_42 (dk_at dksX4_digest_4 21 rfl rfl)
theorem dX4_digest_115 : decode cX4_digest 115 = .ok (.iload_n 1, 1) := dk_27 (dk_at dksX4_digest_4 22 rfl rfl)
theorem dX4_digest_116 : decode cX4_digest 116 = .ok (.invokevirtual 340, 3) := dk_182 1 84 (dk_at dksX4_digest_5 0 rfl rfl)
theorem dX4_digest_119 : decode cX4_digest 119 = .ok (.i2l, 1) := dk_133 (dk_at dksX4_digest_5 3 rfl rfl)
theorem dX4_digest_120 : decode cX4_digest 120 = .ok (.invokevirtual 354, 3) := dk_182 1 98 (dk_at dksX4_digest_5 4 rfl rfl)
theorem dX4_digest_123 : decode cX4_digest 123 = .ok (.iinc 1 1, 3) := dk_132 1 1 (dk_at dksX4_digest_5 7 rfl rfl)
theorem dX4_digest_126 : decode cX4_digest 126 = .ok (.goto (-49), 3) := dk_167 255 207 (dk_at dksX4_digest_5 10 rfl rfl)
theorem dX4_digest_129 : decode cX4_digest 129 = .ok (.iconst 0, 1) := dk_3 (dk_at dksX4_digest_5 13 rfl rfl)
theorem dX4_digest_130 : decode cX4_digest 130 = .ok (.istore_n 1, 1) := dk_60 (dk_at dksX4_digest_5 14 rfl rfl)
theorem dX4_digest_131 : decode cX4_digest 131 = .ok (.iload_n 1, 1) := dk_27 (dk_at dksX4_digest_5 15 rfl rfl)
theorem dX4_digest_132 : decode cX4_digest 132 = .ok (.aload_n 0, 1) := dk_42 (dk_at dksX4_digest_5 16 rfl rfl)
theorem dX4_digest_133 : decode cX4_digest 133 = .ok (.getfield 26, 3) := dk_180 0 26 (dk_at dksX4_digest_5 17 rfl rfl)
theorem dX4_digest_136 : decode cX4_digest 136 = .ok (.invokevirtual 47, 3) := dk_182 0 47 (dk_at dksX4_digest_5 20 rfl rfl)
theorem dX4_digest_139 : decode cX4_digest 139 = .ok (.if_icmp .ge 34, 3) := dk_162 0 34 (dk_at dksX4_digest_6 0 rfl rfl)
theorem dX4_digest_142 : decode cX4_digest 142 = .ok (.iconst 0, 1) := dk_3 (dk_at dksX4_digest_6 3 rfl rfl)
theorem dX4_digest_143 : decode cX4_digest 143 = .ok (.istore_n 2, 1) := dk_61 (dk_at dksX4_digest_6 4 rfl rfl)
theorem dX4_digest_144 : decode cX4_digest 144 = .ok (.iload_n 2, 1) := dk_28 (dk_at dksX4_digest_6 5 rfl rfl)
theorem dX4_digest_145 : decode cX4_digest 145 = .ok (.bipush 9, 2) := dk_16 9 (dk_at dksX4_digest_6 6 rfl rfl)
theorem dX4_digest_147 : decode cX4_digest 147 = .ok (.if_icmp .ge 20, 3) := dk_162 0 20 (dk_at dksX4_digest_6 8 rfl rfl)
theorem dX4_digest_150 : decode cX4_digest 150 = .ok (.aload_n 0, 1) := dk_42 (dk_at dksX4_digest_6 11 rfl rfl)
theorem dX4_digest_151 : decode cX4_digest 151 = .ok (.aload_n 0, 1) := dk_42 (dk_at dksX4_digest_6 12 rfl rfl)
theorem dX4_digest_152 : decode cX4_digest 152 = .ok (.iload_n 1, 1) := dk_27 (dk_at dksX4_digest_6 13 rfl rfl)
theorem dX4_digest_153 : decode cX4_digest 153 = .ok (.iload_n 2, 1) := dk_28 (dk_at dksX4_digest_6 14 rfl rfl)
theorem dX4_digest_154 : decode cX4_digest 154 = .ok (.invokevirtual 296, 3) := dk_182 1 40 (dk_at dksX4_digest_6 15 rfl rfl)
theorem dX4_digest_157 : decode cX4_digest 157 = .ok (.i2l, 1) := dk_133 (dk_at dksX4_digest_6 18 rfl rfl)
theorem dX4_digest_158 : decode cX4_digest 158 = .ok (.invokevirtual 354, 3) := dk_182 1 98 (dk_at dksX4_digest_6 19 rfl rfl)
theorem dX4_digest_161 : decode cX4_digest 161 = .ok (.iinc 2 1, 3) := dk_132 2 1 (dk_at dksX4_digest_7 0 rfl rfl)
theorem dX4_digest_164 : decode cX4_digest 164 = .ok (.goto (-20), 3) := dk_167 255 236 (dk_at dksX4_digest_7 3 rfl rfl)
theorem dX4_digest_167 : decode cX4_digest 167 = .ok (.iinc 1 1, 3) := dk_132 1 1 (dk_at dksX4_digest_7 6 rfl rfl)
theorem dX4_digest_170 : decode cX4_digest 170 = .ok (.goto (-39), 3) := dk_167 255 217 (dk_at dksX4_digest_7 9 rfl rfl)
theorem dX4_digest_173 : decode cX4_digest 173 = .ok (.iconst 0, 1) := dk_3 (dk_at dksX4_digest_7 12 rfl rfl)
theorem dX4_digest_174 : decode cX4_digest 174 = .ok (.istore_n 1, 1) := dk_60 (dk_at dksX4_digest_7 13 rfl rfl)
theorem dX4_digest_175 : decode cX4_digest 175 = .ok (.iload_n 1, 1) := dk_27 (dk_at dksX4_digest_7 14 rfl rfl)
theorem dX4_digest_176 : decode cX4_digest 176 = .ok (.aload_n 0, 1) := dk_42 (dk_at dksX4_digest_7 15 rfl rfl)
theorem dX4_digest_177 : decode cX4_digest 177 = .ok (.getfield 29, 3) := dk_180 0 29 (dk_at dksX4_digest_7 16 rfl rfl)
theorem dX4_digest_180 : decode cX4_digest 180 = .ok (.invokevirtual 47, 3) := dk_182 0 47 (dk_at dksX4_digest_7 19 rfl rfl)
theorem dX4_digest_183 : decode cX4_digest 183 = .ok (.if_icmp .ge 34, 3) := dk_162 0 34 (dk_at dksX4_digest_8 0 rfl rfl)
theorem dX4_digest_186 : decode cX4_digest 186 = .ok (.iconst 3, 1) := dk_6 (dk_at dksX4_digest_8 3 rfl rfl)
theorem dX4_digest_187 : decode cX4_digest 187 = .ok (.istore_n 2, 1) := dk_61 (dk_at dksX4_digest_8 4 rfl rfl)
theorem dX4_digest_188 : decode cX4_digest 188 = .ok (.iload_n 2, 1) := dk_28 (dk_at dksX4_digest_8 5 rfl rfl)
theorem dX4_digest_189 : decode cX4_digest 189 = .ok (.bipush 6, 2) := dk_16 6 (dk_at dksX4_digest_8 6 rfl rfl)
theorem dX4_digest_191 : decode cX4_digest 191 = .ok (.if_icmp .ge 20, 3) := dk_162 0 20 (dk_at dksX4_digest_8 8 rfl rfl)
theorem dX4_digest_194 : decode cX4_digest 194 = .ok (.aload_n 0, 1) := dk_42 (dk_at dksX4_digest_8 11 rfl rfl)
theorem dX4_digest_195 : decode cX4_digest 195 = .ok (.aload_n 0, 1) := dk_42 (dk_at dksX4_digest_8 12 rfl rfl)
theorem dX4_digest_196 : decode cX4_digest 196 = .ok (.iload_n 1, 1) := dk_27 (dk_at dksX4_digest_8 13 rfl rfl)
theorem dX4_digest_197 : decode cX4_digest 197 = .ok (.iload_n 2, 1) := dk_28 (dk_at dksX4_digest_8 14 rfl rfl)
theorem dX4_digest_198 : decode cX4_digest 198 = .ok (.invokevirtual 299, 3) := dk_182 1 43 (dk_at dksX4_digest_8 15 rfl rfl)
theorem dX4_digest_201 : decode cX4_digest 201 = .ok (.i2l, 1) := dk_133 (dk_at dksX4_digest_8 18 rfl rfl)
theorem dX4_digest_202 : decode cX4_digest 202 = .ok (.invokevirtual 354, 3) := dk_182 1 98 (dk_at dksX4_digest_8 19 rfl rfl)
theorem dX4_digest_205 : decode cX4_digest 205 = .ok (.iinc 2 1, 3) := dk_132 2 1 (dk_at dksX4_digest_9 0 rfl rfl)
theorem dX4_digest_208 : decode cX4_digest 208 = .ok (.goto (-20), 3) := dk_167 255 236 (dk_at dksX4_digest_9 3 rfl rfl)
theorem dX4_digest_211 : decode cX4_digest 211 = .ok (.iinc 1 1, 3) := dk_132 1 1 (dk_at dksX4_digest_9 6 rfl rfl)
theorem dX4_digest_214 : decode cX4_digest 214 = .ok (.goto (-39), 3) := dk_167 255 217 (dk_at dksX4_digest_9 9 rfl rfl)
theorem dX4_digest_217 : decode cX4_digest 217 = .ok (.iconst 0, 1) := dk_3 (dk_at dksX4_digest_9 12 rfl rfl)
theorem dX4_digest_218 : decode cX4_digest 218 = .ok (.istore_n 1, 1) := dk_60 (dk_at dksX4_digest_9 13 rfl rfl)
theorem dX4_digest_219 : decode cX4_digest 219 = .ok (.iload_n 1, 1) := dk_27 (dk_at dksX4_digest_9 14 rfl rfl)
theorem dX4_digest_220 : decode cX4_digest 220 = .ok (.bipush 6, 2) := dk_16 6 (dk_at dksX4_digest_9 15 rfl rfl)
theorem dX4_digest_222 : decode cX4_digest 222 = .ok (.if_icmp .ge 20, 3) := dk_162 0 20 (dk_at dksX4_digest_9 17 rfl rfl)
theorem dX4_digest_225 : decode cX4_digest 225 = .ok (.aload_n 0, 1) := dk_42 (dk_at dksX4_digest_9 20 rfl rfl)
theorem dX4_digest_226 : decode cX4_digest 226 = .ok (.aload_n 0, 1) := dk_42 (dk_at dksX4_digest_9 21 rfl rfl)
theorem dX4_digest_227 : decode cX4_digest 227 = .ok (.iconst 0, 1) := dk_3 (dk_at dksX4_digest_9 22 rfl rfl)
theorem dX4_digest_228 : decode cX4_digest 228 = .ok (.iload_n 1, 1) := dk_27 (dk_at dksX4_digest_9 23 rfl rfl)
theorem dX4_digest_229 : decode cX4_digest 229 = .ok (.invokevirtual 327, 3) := dk_182 1 71 (dk_at dksX4_digest_10 0 rfl rfl)
theorem dX4_digest_232 : decode cX4_digest 232 = .ok (.i2l, 1) := dk_133 (dk_at dksX4_digest_10 3 rfl rfl)
theorem dX4_digest_233 : decode cX4_digest 233 = .ok (.invokevirtual 354, 3) := dk_182 1 98 (dk_at dksX4_digest_10 4 rfl rfl)
theorem dX4_digest_236 : decode cX4_digest 236 = .ok (.iinc 1 1, 3) := dk_132 1 1 (dk_at dksX4_digest_10 7 rfl rfl)
theorem dX4_digest_239 : decode cX4_digest 239 = .ok (.goto (-20), 3) := dk_167 255 236 (dk_at dksX4_digest_10 10 rfl rfl)
theorem dX4_digest_242 : decode cX4_digest 242 = .ok (.aload_n 0, 1) := dk_42 (dk_at dksX4_digest_10 13 rfl rfl)
theorem dX4_digest_243 : decode cX4_digest 243 = .ok (.aload_n 0, 1) := dk_42 (dk_at dksX4_digest_10 14 rfl rfl)
theorem dX4_digest_244 : decode cX4_digest 244 = .ok (.bipush 20, 2) := dk_16 20 (dk_at dksX4_digest_10 15 rfl rfl)
theorem dX4_digest_246 : decode cX4_digest 246 = .ok (.iconst (-1), 1) := dk_2 (dk_at dksX4_digest_10 17 rfl rfl)
theorem dX4_digest_247 : decode cX4_digest 247 = .ok (.invokevirtual 337, 3) := dk_182 1 81 (dk_at dksX4_digest_10 18 rfl rfl)
theorem dX4_digest_250 : decode cX4_digest 250 = .ok (.i2l, 1) := dk_133 (dk_at dksX4_digest_10 21 rfl rfl)
theorem dX4_digest_251 : decode cX4_digest 251 = .ok (.invokevirtual 354, 3) := dk_182 1 98 (dk_at dksX4_digest_11 0 rfl rfl)
theorem dX4_digest_254 : decode cX4_digest 254 = .ok (.aload_n 0, 1) := dk_42 (dk_at dksX4_digest_11 3 rfl rfl)
theorem dX4_digest_255 : decode cX4_digest 255 = .ok (.aload_n 0, 1) := dk_42 (dk_at dksX4_digest_11 4 rfl rfl)
theorem dX4_digest_256 : decode cX4_digest 256 = .ok (.invokevirtual 343, 3) := dk_182 1 87 (dk_at dksX4_digest_11 5 rfl rfl)
theorem dX4_digest_259 : decode cX4_digest 259 = .ok (.ifCond .eq 7, 3) := dk_153 0 7 (dk_at dksX4_digest_11 8 rfl rfl)
theorem dX4_digest_262 : decode cX4_digest 262 = .ok (.lconst 1, 1) := dk_10 (dk_at dksX4_digest_11 11 rfl rfl)
theorem dX4_digest_263 : decode cX4_digest 263 = .ok (.goto 4, 3) := dk_167 0 4 (dk_at dksX4_digest_11 12 rfl rfl)
theorem dX4_digest_266 : decode cX4_digest 266 = .ok (.lconst 0, 1) := dk_9 (dk_at dksX4_digest_11 15 rfl rfl)
theorem dX4_digest_267 : decode cX4_digest 267 = .ok (.invokevirtual 354, 3) := dk_182 1 98 (dk_at dksX4_digest_11 16 rfl rfl)
theorem dX4_digest_270 : decode cX4_digest 270 = .ok (.aload_n 0, 1) := dk_42 (dk_at dksX4_digest_11 19 rfl rfl)
theorem dX4_digest_271 : decode cX4_digest 271 = .ok (.getfield 346, 3) := dk_180 1 90 (dk_at dksX4_digest_11 20 rfl rfl)
theorem dX4_digest_274 : decode cX4_digest 274 = .ok (.lreturn, 1) := dk_173 (dk_at dksX4_digest_11 23 rfl rfl)
abbrev cX4_add : ByteArray := prog_14_method_58_code
def yX4_add : MethodName := ⟨RX4, "add", "(J)V"⟩
def dkwX4_add_0 : List UInt8 := [42, 42, 180, 1, 90, 20, 1, 94, 105, 31, 97, 181, 1, 90, 177]
abbrev dktX4_add_0 : List UInt8 := dkwX4_add_0 ++ []
theorem dksX4_add_0 : cX4_add.data.toList.drop 0 = dktX4_add_0 := by decide +kernel
theorem dX4_add_0 : decode cX4_add 0 = .ok (.aload_n 0, 1) := dk_42 (dk_at dksX4_add_0 0 rfl rfl)
theorem dX4_add_1 : decode cX4_add 1 = .ok (.aload_n 0, 1) := dk_42 (dk_at dksX4_add_0 1 rfl rfl)
theorem dX4_add_2 : decode cX4_add 2 = .ok (.getfield 346, 3) := dk_180 1 90 (dk_at dksX4_add_0 2 rfl rfl)
theorem dX4_add_5 : decode cX4_add 5 = .ok (.ldc2_w 350, 3) := dk_20 1 94 (dk_at dksX4_add_0 5 rfl rfl)
theorem dX4_add_8 : decode cX4_add 8 = .ok (.lmul, 1) := dk_105 (dk_at dksX4_add_0 8 rfl rfl)
theorem dX4_add_9 : decode cX4_add 9 = .ok (.lload_n 1, 1) := dk_31 (dk_at dksX4_add_0 9 rfl rfl)
theorem dX4_add_10 : decode cX4_add 10 = .ok (.ladd, 1) := dk_97 (dk_at dksX4_add_0 10 rfl rfl)
theorem dX4_add_11 : decode cX4_add 11 = .ok (.putfield 346, 3) := dk_181 1 90 (dk_at dksX4_add_0 11 rfl rfl)
theorem dX4_add_14 : decode cX4_add 14 = .ok (.return_, 1) := dk_177 (dk_at dksX4_add_0 14 rfl rfl)
theorem q90 : (Jvm.Cond.initialized "LullabygateModel") ∈ lw_all := lw_g (lw_at lw_m1 11 rfl) rfl
theorem q253 : (Jvm.Cond.selects "LullabygateModel" ({ cls := "java/lang/Object", name := "getClass", desc := "()Ljava/lang/Class;" } : Jvm.MethodName) ({ cls := "java/lang/Object", name := "getClass", desc := "()Ljava/lang/Class;" } : Jvm.MethodName)) ∈ lw_all := lw_g (lw_at lw_m1 174 rfl) rfl
theorem q1430 : (Jvm.Cond.instantiable "LullabygateModel" (13 : Nat)) ∈ lw_all := lw_g (lw_at lw_m6 151 rfl) rfl
theorem q1432 : (Jvm.Cond.instanceMethod ({ cls := "LullabygateModel", name := "<init>", desc := "()V" } : Jvm.MethodName)) ∈ lw_all := lw_g (lw_at lw_m6 153 rfl) rfl
theorem q1433 : (Jvm.Cond.code ({ cls := "LullabygateModel", name := "<init>", desc := "()V" } : Jvm.MethodName) prog_14_method_1_code (2 : Nat) (Option.none : Option Jvm.ClassFile.FieldType)) ∈ lw_all := lw_g (lw_at lw_m6 154 rfl) rfl
theorem q1434 : (Jvm.Cond.methodLink "LullabygateModel" (1 : Nat) ({ cls := "java/lang/Object", name := "<init>", desc := "()V" } : Jvm.MethodName)) ∈ lw_all := lw_g (lw_at lw_m6 155 rfl) rfl
theorem q1435 : (Jvm.Cond.classLink "LullabygateModel" (13 : Nat) "LullabygateModel$Land") ∈ lw_all := lw_g (lw_at lw_m6 156 rfl) rfl
theorem q1437 : (Jvm.Cond.classLink "LullabygateModel" (19 : Nat) "java/util/ArrayList") ∈ lw_all := lw_g (lw_at lw_m6 158 rfl) rfl
theorem q1438 : (Jvm.Cond.methodLink "LullabygateModel" (21 : Nat) ({ cls := "java/util/ArrayList", name := "<init>", desc := "()V" } : Jvm.MethodName)) ∈ lw_all := lw_g (lw_at lw_m6 159 rfl) rfl
theorem q1440 : (Jvm.Cond.methodLinkNest "LullabygateModel" (39 : Nat) ({ cls := "LullabygateModel$Land", name := "<init>", desc := "()V" } : Jvm.MethodName) "LullabygateModel") ∈ lw_tbl := lw_at lw_m6 161 rfl
theorem q1445 : (Jvm.Cond.fieldLinkNest "LullabygateModel" (59 : Nat) "LullabygateModel$Land" "rate" "I" "LullabygateModel") ∈ lw_tbl := lw_at lw_m6 166 rfl
theorem q1447 : (Jvm.Cond.fieldLinkNest "LullabygateModel" (62 : Nat) "LullabygateModel$Land" "allowance" "I" "LullabygateModel") ∈ lw_tbl := lw_at lw_m6 168 rfl
theorem q1449 : (Jvm.Cond.fieldLinkNest "LullabygateModel" (65 : Nat) "LullabygateModel$Land" "quota" "I" "LullabygateModel") ∈ lw_tbl := lw_at lw_m6 170 rfl
theorem q1450 : (Jvm.Cond.fieldLinkNest "LullabygateModel" (202 : Nat) "LullabygateModel$Land" "came" "I" "LullabygateModel") ∈ lw_tbl := lw_at lw_m6 171 rfl
theorem q1451 : (Jvm.Cond.fieldLinkNest "LullabygateModel" (234 : Nat) "LullabygateModel$Land" "duties" "I" "LullabygateModel") ∈ lw_tbl := lw_at lw_m6 172 rfl
theorem q1452 : (Jvm.Cond.fieldLinkNest "LullabygateModel" (227 : Nat) "LullabygateModel$Land" "fines" "I" "LullabygateModel") ∈ lw_tbl := lw_at lw_m6 173 rfl
theorem q1466 : (Jvm.Cond.fieldLink "LullabygateModel" (40 : Nat) "LullabygateModel" "thrown" "I") ∈ lw_all := lw_g (lw_at lw_m6 187 rfl) rfl
theorem q1467 : (Jvm.Cond.fieldLink "LullabygateModel" (137 : Nat) "LullabygateModel" "night" "I") ∈ lw_all := lw_g (lw_at lw_m6 188 rfl) rfl
theorem q1468 : (Jvm.Cond.fieldLink "LullabygateModel" (241 : Nat) "LullabygateModel" "hour" "I") ∈ lw_all := lw_g (lw_at lw_m6 189 rfl) rfl
theorem q1469 : (Jvm.Cond.fieldLink "LullabygateModel" (7 : Nat) "LullabygateModel" "next" "I") ∈ lw_all := lw_g (lw_at lw_m6 190 rfl) rfl
theorem q1470 : (Jvm.Cond.fieldLink "LullabygateModel" (218 : Nat) "LullabygateModel" "drawn" "I") ∈ lw_all := lw_g (lw_at lw_m6 191 rfl) rfl
theorem q1471 : (Jvm.Cond.fieldLink "LullabygateModel" (250 : Nat) "LullabygateModel" "yawns" "I") ∈ lw_all := lw_g (lw_at lw_m6 192 rfl) rfl
theorem q1472 : (Jvm.Cond.fieldLink "LullabygateModel" (15 : Nat) "LullabygateModel" "lands" "[LLullabygateModel$Land;") ∈ lw_all := lw_g (lw_at lw_m6 193 rfl) rfl
theorem q1473 : (Jvm.Cond.fieldLink "LullabygateModel" (22 : Nat) "LullabygateModel" "gates" "Ljava/util/ArrayList;") ∈ lw_all := lw_g (lw_at lw_m6 194 rfl) rfl
theorem q1474 : (Jvm.Cond.fieldLink "LullabygateModel" (26 : Nat) "LullabygateModel" "sleepers" "Ljava/util/ArrayList;") ∈ lw_all := lw_g (lw_at lw_m6 195 rfl) rfl
theorem q1475 : (Jvm.Cond.fieldLink "LullabygateModel" (29 : Nat) "LullabygateModel" "parts" "Ljava/util/ArrayList;") ∈ lw_all := lw_g (lw_at lw_m6 196 rfl) rfl
theorem q1476 : (Jvm.Cond.fieldLink "LullabygateModel" (32 : Nat) "LullabygateModel" "hidings" "Ljava/util/ArrayList;") ∈ lw_all := lw_g (lw_at lw_m6 197 rfl) rfl
theorem q1477 : (Jvm.Cond.fieldLink "LullabygateModel" (35 : Nat) "LullabygateModel" "isMore" "[Z") ∈ lw_all := lw_g (lw_at lw_m6 198 rfl) rfl
theorem q1478 : (Jvm.Cond.fieldLink "LullabygateModel" (346 : Nat) "LullabygateModel" "sum" "J") ∈ lw_all := lw_g (lw_at lw_m6 199 rfl) rfl
theorem q1479 : (Jvm.Cond.lays "LullabygateModel" "LullabygateModel" "thrown" "I") ∈ lw_all := lw_g (lw_at lw_m6 200 rfl) rfl
theorem q1480 : (Jvm.Cond.soleField "LullabygateModel" "thrown") ∈ lw_all := lw_g (lw_at lw_m6 201 rfl) rfl
theorem q1481 : (Jvm.Cond.lays "LullabygateModel" "LullabygateModel" "night" "I") ∈ lw_all := lw_g (lw_at lw_m6 202 rfl) rfl
theorem q1482 : (Jvm.Cond.soleField "LullabygateModel" "night") ∈ lw_all := lw_g (lw_at lw_m6 203 rfl) rfl
theorem q1483 : (Jvm.Cond.lays "LullabygateModel" "LullabygateModel" "hour" "I") ∈ lw_all := lw_g (lw_at lw_m6 204 rfl) rfl
theorem q1484 : (Jvm.Cond.soleField "LullabygateModel" "hour") ∈ lw_all := lw_g (lw_at lw_m6 205 rfl) rfl
theorem q1485 : (Jvm.Cond.lays "LullabygateModel" "LullabygateModel" "next" "I") ∈ lw_all := lw_g (lw_at lw_m6 206 rfl) rfl
theorem q1486 : (Jvm.Cond.soleField "LullabygateModel" "next") ∈ lw_all := lw_g (lw_at lw_m6 207 rfl) rfl
theorem q1487 : (Jvm.Cond.lays "LullabygateModel" "LullabygateModel" "drawn" "I") ∈ lw_all := lw_g (lw_at lw_m6 208 rfl) rfl
theorem q1488 : (Jvm.Cond.soleField "LullabygateModel" "drawn") ∈ lw_all := lw_g (lw_at lw_m6 209 rfl) rfl
theorem q1489 : (Jvm.Cond.lays "LullabygateModel" "LullabygateModel" "yawns" "I") ∈ lw_all := lw_g (lw_at lw_m6 210 rfl) rfl
theorem q1490 : (Jvm.Cond.soleField "LullabygateModel" "yawns") ∈ lw_all := lw_g (lw_at lw_m6 211 rfl) rfl
theorem q1491 : (Jvm.Cond.laysFinal "LullabygateModel" "LullabygateModel" "lands" "[LLullabygateModel$Land;") ∈ lw_all := lw_g (lw_at lw_m6 212 rfl) rfl
theorem q1492 : (Jvm.Cond.soleField "LullabygateModel" "lands") ∈ lw_all := lw_g (lw_at lw_m6 213 rfl) rfl
theorem q1493 : (Jvm.Cond.laysFinal "LullabygateModel" "LullabygateModel" "gates" "Ljava/util/ArrayList;") ∈ lw_all := lw_g (lw_at lw_m6 214 rfl) rfl
theorem q1494 : (Jvm.Cond.soleField "LullabygateModel" "gates") ∈ lw_all := lw_g (lw_at lw_m6 215 rfl) rfl
theorem q1495 : (Jvm.Cond.laysFinal "LullabygateModel" "LullabygateModel" "sleepers" "Ljava/util/ArrayList;") ∈ lw_all := lw_g (lw_at lw_m6 216 rfl) rfl
theorem q1496 : (Jvm.Cond.soleField "LullabygateModel" "sleepers") ∈ lw_all := lw_g (lw_at lw_m6 217 rfl) rfl
theorem q1497 : (Jvm.Cond.laysFinal "LullabygateModel" "LullabygateModel" "parts" "Ljava/util/ArrayList;") ∈ lw_all := lw_g (lw_at lw_m6 218 rfl) rfl
theorem q1498 : (Jvm.Cond.soleField "LullabygateModel" "parts") ∈ lw_all := lw_g (lw_at lw_m6 219 rfl) rfl
theorem q1499 : (Jvm.Cond.laysFinal "LullabygateModel" "LullabygateModel" "hidings" "Ljava/util/ArrayList;") ∈ lw_all := lw_g (lw_at lw_m6 220 rfl) rfl
theorem q1500 : (Jvm.Cond.soleField "LullabygateModel" "hidings") ∈ lw_all := lw_g (lw_at lw_m6 221 rfl) rfl
theorem q1501 : (Jvm.Cond.laysFinal "LullabygateModel" "LullabygateModel" "isMore" "[Z") ∈ lw_all := lw_g (lw_at lw_m6 222 rfl) rfl
theorem q1502 : (Jvm.Cond.soleField "LullabygateModel" "isMore") ∈ lw_all := lw_g (lw_at lw_m6 223 rfl) rfl
theorem q1503 : (Jvm.Cond.lays "LullabygateModel" "LullabygateModel" "sum" "J") ∈ lw_all := lw_g (lw_at lw_m6 224 rfl) rfl
theorem q1504 : (Jvm.Cond.soleField "LullabygateModel" "sum") ∈ lw_all := lw_g (lw_at lw_m6 225 rfl) rfl
theorem q1505 : (Jvm.Cond.superclass "LullabygateModel" "java/lang/Object") ∈ lw_all := lw_g (lw_at lw_m6 226 rfl) rfl
theorem q1507 : (Jvm.Cond.instanceMethod ({ cls := "LullabygateModel", name := "thrown", desc := "()I" } : Jvm.MethodName)) ∈ lw_all := lw_g (lw_at lw_m6 228 rfl) rfl
theorem q1508 : (Jvm.Cond.selects "LullabygateModel" ({ cls := "LullabygateModel", name := "thrown", desc := "()I" } : Jvm.MethodName) ({ cls := "LullabygateModel", name := "thrown", desc := "()I" } : Jvm.MethodName)) ∈ lw_all := lw_g (lw_at lw_m6 229 rfl) rfl
theorem q1509 : (Jvm.Cond.code ({ cls := "LullabygateModel", name := "thrown", desc := "()I" } : Jvm.MethodName) prog_14_method_2_code (1 : Nat) (Option.some Jvm.ClassFile.FieldType.int)) ∈ lw_all := lw_g (lw_at lw_m6 230 rfl) rfl
theorem q1511 : (Jvm.Cond.instanceMethod ({ cls := "LullabygateModel", name := "land", desc := "(III)I" } : Jvm.MethodName)) ∈ lw_all := lw_g (lw_at lw_m6 232 rfl) rfl
theorem q1512 : (Jvm.Cond.selects "LullabygateModel" ({ cls := "LullabygateModel", name := "land", desc := "(III)I" } : Jvm.MethodName) ({ cls := "LullabygateModel", name := "land", desc := "(III)I" } : Jvm.MethodName)) ∈ lw_all := lw_g (lw_at lw_m6 233 rfl) rfl
theorem q1513 : (Jvm.Cond.code ({ cls := "LullabygateModel", name := "land", desc := "(III)I" } : Jvm.MethodName) prog_14_method_9_code (5 : Nat) (Option.some Jvm.ClassFile.FieldType.int)) ∈ lw_all := lw_g (lw_at lw_m6 234 rfl) rfl
theorem q1514 : (Jvm.Cond.methodLink "LullabygateModel" (51 : Nat) ({ cls := "LullabygateModel", name := "isLand", desc := "(I)Z" } : Jvm.MethodName)) ∈ lw_all := lw_g (lw_at lw_m6 235 rfl) rfl
theorem q1515 : (Jvm.Cond.privateMethod ({ cls := "LullabygateModel", name := "isLand", desc := "(I)Z" } : Jvm.MethodName)) ∈ lw_tbl := lw_at lw_m6 236 rfl
theorem q1516 : (Jvm.Cond.instanceMethod ({ cls := "LullabygateModel", name := "isLand", desc := "(I)Z" } : Jvm.MethodName)) ∈ lw_all := lw_g (lw_at lw_m6 237 rfl) rfl
theorem q1517 : (Jvm.Cond.code ({ cls := "LullabygateModel", name := "isLand", desc := "(I)Z" } : Jvm.MethodName) prog_14_method_5_code (2 : Nat) (Option.some Jvm.ClassFile.FieldType.boolean)) ∈ lw_all := lw_g (lw_at lw_m6 238 rfl) rfl
theorem q1518 : (Jvm.Cond.methodLink "LullabygateModel" (43 : Nat) ({ cls := "LullabygateModel", name := "is", desc := "(III)Z" } : Jvm.MethodName)) ∈ lw_all := lw_g (lw_at lw_m6 239 rfl) rfl
theorem q1519 : (Jvm.Cond.static ({ cls := "LullabygateModel", name := "is", desc := "(III)Z" } : Jvm.MethodName)) ∈ lw_all := lw_g (lw_at lw_m7 0 rfl) rfl
theorem q1520 : (Jvm.Cond.code ({ cls := "LullabygateModel", name := "is", desc := "(III)Z" } : Jvm.MethodName) prog_14_method_4_code (3 : Nat) (Option.some Jvm.ClassFile.FieldType.boolean)) ∈ lw_all := lw_g (lw_at lw_m7 1 rfl) rfl
theorem q1521 : (Jvm.Cond.methodLink "LullabygateModel" (55 : Nat) ({ cls := "LullabygateModel", name := "refuse", desc := "(I)I" } : Jvm.MethodName)) ∈ lw_all := lw_g (lw_at lw_m7 2 rfl) rfl
theorem q1522 : (Jvm.Cond.privateMethod ({ cls := "LullabygateModel", name := "refuse", desc := "(I)I" } : Jvm.MethodName)) ∈ lw_tbl := lw_at lw_m7 3 rfl
theorem q1523 : (Jvm.Cond.instanceMethod ({ cls := "LullabygateModel", name := "refuse", desc := "(I)I" } : Jvm.MethodName)) ∈ lw_all := lw_g (lw_at lw_m7 4 rfl) rfl
theorem q1524 : (Jvm.Cond.code ({ cls := "LullabygateModel", name := "refuse", desc := "(I)I" } : Jvm.MethodName) prog_14_method_3_code (2 : Nat) (Option.some Jvm.ClassFile.FieldType.int)) ∈ lw_all := lw_g (lw_at lw_m7 5 rfl) rfl
theorem q1526 : (Jvm.Cond.instanceMethod ({ cls := "LullabygateModel", name := "trade", desc := "(III)I" } : Jvm.MethodName)) ∈ lw_all := lw_g (lw_at lw_m7 7 rfl) rfl
theorem q1527 : (Jvm.Cond.selects "LullabygateModel" ({ cls := "LullabygateModel", name := "trade", desc := "(III)I" } : Jvm.MethodName) ({ cls := "LullabygateModel", name := "trade", desc := "(III)I" } : Jvm.MethodName)) ∈ lw_all := lw_g (lw_at lw_m7 8 rfl) rfl
theorem q1528 : (Jvm.Cond.code ({ cls := "LullabygateModel", name := "trade", desc := "(III)I" } : Jvm.MethodName) prog_14_method_10_code (4 : Nat) (Option.some Jvm.ClassFile.FieldType.int)) ∈ lw_all := lw_g (lw_at lw_m7 9 rfl) rfl
theorem q1530 : (Jvm.Cond.instanceMethod ({ cls := "LullabygateModel", name := "gate", desc := "(IIII)I" } : Jvm.MethodName)) ∈ lw_all := lw_g (lw_at lw_m7 11 rfl) rfl
theorem q1531 : (Jvm.Cond.selects "LullabygateModel" ({ cls := "LullabygateModel", name := "gate", desc := "(IIII)I" } : Jvm.MethodName) ({ cls := "LullabygateModel", name := "gate", desc := "(IIII)I" } : Jvm.MethodName)) ∈ lw_all := lw_g (lw_at lw_m7 12 rfl) rfl
theorem q1532 : (Jvm.Cond.code ({ cls := "LullabygateModel", name := "gate", desc := "(IIII)I" } : Jvm.MethodName) prog_14_method_11_code (6 : Nat) (Option.some Jvm.ClassFile.FieldType.int)) ∈ lw_all := lw_g (lw_at lw_m7 13 rfl) rfl
theorem q1533 : (Jvm.Cond.methodLink "LullabygateModel" (47 : Nat) ({ cls := "java/util/ArrayList", name := "size", desc := "()I" } : Jvm.MethodName)) ∈ lw_all := lw_g (lw_at lw_m7 14 rfl) rfl
theorem q1534 : (Jvm.Cond.classLink "LullabygateModel" (68 : Nat) "LullabygateModel$Gate") ∈ lw_all := lw_g (lw_at lw_m7 15 rfl) rfl
theorem q1536 : (Jvm.Cond.methodLinkNest "LullabygateModel" (70 : Nat) ({ cls := "LullabygateModel$Gate", name := "<init>", desc := "()V" } : Jvm.MethodName) "LullabygateModel") ∈ lw_tbl := lw_at lw_m7 17 rfl
theorem q1543 : (Jvm.Cond.fieldLinkNest "LullabygateModel" (71 : Nat) "LullabygateModel$Gate" "one" "I" "LullabygateModel") ∈ lw_tbl := lw_at lw_m7 24 rfl
theorem q1545 : (Jvm.Cond.fieldLinkNest "LullabygateModel" (74 : Nat) "LullabygateModel$Gate" "other" "I" "LullabygateModel") ∈ lw_tbl := lw_at lw_m7 26 rfl
theorem q1547 : (Jvm.Cond.fieldLinkNest "LullabygateModel" (77 : Nat) "LullabygateModel$Gate" "from" "I" "LullabygateModel") ∈ lw_tbl := lw_at lw_m7 28 rfl
theorem q1549 : (Jvm.Cond.fieldLinkNest "LullabygateModel" (80 : Nat) "LullabygateModel$Gate" "hours" "I" "LullabygateModel") ∈ lw_tbl := lw_at lw_m7 30 rfl
theorem q1551 : (Jvm.Cond.fieldLinkNest "LullabygateModel" (94 : Nat) "LullabygateModel$Gate" "odds" "I" "LullabygateModel") ∈ lw_tbl := lw_at lw_m7 32 rfl
theorem q1553 : (Jvm.Cond.fieldLinkNest "LullabygateModel" (97 : Nat) "LullabygateModel$Gate" "watch" "I" "LullabygateModel") ∈ lw_tbl := lw_at lw_m7 34 rfl
theorem q1555 : (Jvm.Cond.fieldLinkNest "LullabygateModel" (162 : Nat) "LullabygateModel$Gate" "queue" "Ljava/util/ArrayList;" "LullabygateModel") ∈ lw_tbl := lw_at lw_m7 36 rfl
theorem q1557 : (Jvm.Cond.fieldLinkNest "LullabygateModel" (153 : Nat) "LullabygateModel$Gate" "isRevoked" "[Z" "LullabygateModel") ∈ lw_tbl := lw_at lw_m7 38 rfl
theorem q1575 : (Jvm.Cond.methodLink "LullabygateModel" (83 : Nat) ({ cls := "java/util/ArrayList", name := "add", desc := "(Ljava/lang/Object;)Z" } : Jvm.MethodName)) ∈ lw_all := lw_g (lw_at lw_m7 56 rfl) rfl
theorem q1577 : (Jvm.Cond.instanceMethod ({ cls := "LullabygateModel", name := "odds", desc := "(II)I" } : Jvm.MethodName)) ∈ lw_all := lw_g (lw_at lw_m7 58 rfl) rfl
theorem q1578 : (Jvm.Cond.selects "LullabygateModel" ({ cls := "LullabygateModel", name := "odds", desc := "(II)I" } : Jvm.MethodName) ({ cls := "LullabygateModel", name := "odds", desc := "(II)I" } : Jvm.MethodName)) ∈ lw_all := lw_g (lw_at lw_m7 59 rfl) rfl
theorem q1579 : (Jvm.Cond.code ({ cls := "LullabygateModel", name := "odds", desc := "(II)I" } : Jvm.MethodName) prog_14_method_12_code (4 : Nat) (Option.some Jvm.ClassFile.FieldType.int)) ∈ lw_all := lw_g (lw_at lw_m7 60 rfl) rfl
theorem q1580 : (Jvm.Cond.methodLink "LullabygateModel" (87 : Nat) ({ cls := "LullabygateModel", name := "isGate", desc := "(I)Z" } : Jvm.MethodName)) ∈ lw_all := lw_g (lw_at lw_m7 61 rfl) rfl
theorem q1581 : (Jvm.Cond.privateMethod ({ cls := "LullabygateModel", name := "isGate", desc := "(I)Z" } : Jvm.MethodName)) ∈ lw_tbl := lw_at lw_m7 62 rfl
theorem q1582 : (Jvm.Cond.instanceMethod ({ cls := "LullabygateModel", name := "isGate", desc := "(I)Z" } : Jvm.MethodName)) ∈ lw_all := lw_g (lw_at lw_m7 63 rfl) rfl
theorem q1583 : (Jvm.Cond.code ({ cls := "LullabygateModel", name := "isGate", desc := "(I)Z" } : Jvm.MethodName) prog_14_method_6_code (2 : Nat) (Option.some Jvm.ClassFile.FieldType.boolean)) ∈ lw_all := lw_g (lw_at lw_m7 64 rfl) rfl
theorem q1584 : (Jvm.Cond.methodLink "LullabygateModel" (90 : Nat) ({ cls := "java/util/ArrayList", name := "get", desc := "(I)Ljava/lang/Object;" } : Jvm.MethodName)) ∈ lw_all := lw_g (lw_at lw_m7 65 rfl) rfl
theorem q1586 : (Jvm.Cond.instanceMethod ({ cls := "LullabygateModel", name := "relieve", desc := "(I)I" } : Jvm.MethodName)) ∈ lw_all := lw_g (lw_at lw_m7 67 rfl) rfl
theorem q1587 : (Jvm.Cond.selects "LullabygateModel" ({ cls := "LullabygateModel", name := "relieve", desc := "(I)I" } : Jvm.MethodName) ({ cls := "LullabygateModel", name := "relieve", desc := "(I)I" } : Jvm.MethodName)) ∈ lw_all := lw_g (lw_at lw_m7 68 rfl) rfl
theorem q1588 : (Jvm.Cond.code ({ cls := "LullabygateModel", name := "relieve", desc := "(I)I" } : Jvm.MethodName) prog_14_method_13_code (3 : Nat) (Option.some Jvm.ClassFile.FieldType.int)) ∈ lw_all := lw_g (lw_at lw_m7 69 rfl) rfl
theorem q1590 : (Jvm.Cond.instanceMethod ({ cls := "LullabygateModel", name := "sleeper", desc := "(IZI)I" } : Jvm.MethodName)) ∈ lw_all := lw_g (lw_at lw_m7 71 rfl) rfl
theorem q1591 : (Jvm.Cond.selects "LullabygateModel" ({ cls := "LullabygateModel", name := "sleeper", desc := "(IZI)I" } : Jvm.MethodName) ({ cls := "LullabygateModel", name := "sleeper", desc := "(IZI)I" } : Jvm.MethodName)) ∈ lw_all := lw_g (lw_at lw_m7 72 rfl) rfl
theorem q1592 : (Jvm.Cond.code ({ cls := "LullabygateModel", name := "sleeper", desc := "(IZI)I" } : Jvm.MethodName) prog_14_method_14_code (5 : Nat) (Option.some Jvm.ClassFile.FieldType.int)) ∈ lw_all := lw_g (lw_at lw_m7 73 rfl) rfl
theorem q1593 : (Jvm.Cond.classLink "LullabygateModel" (100 : Nat) "LullabygateModel$Sleeper") ∈ lw_all := lw_g (lw_at lw_m7 74 rfl) rfl
theorem q1595 : (Jvm.Cond.methodLinkNest "LullabygateModel" (102 : Nat) ({ cls := "LullabygateModel$Sleeper", name := "<init>", desc := "()V" } : Jvm.MethodName) "LullabygateModel") ∈ lw_tbl := lw_at lw_m7 76 rfl
theorem q1599 : (Jvm.Cond.fieldLinkNest "LullabygateModel" (103 : Nat) "LullabygateModel$Sleeper" "land" "I" "LullabygateModel") ∈ lw_tbl := lw_at lw_m7 80 rfl
theorem q1600 : (Jvm.Cond.fieldLinkNest "LullabygateModel" (106 : Nat) "LullabygateModel$Sleeper" "isBaby" "Z" "LullabygateModel") ∈ lw_tbl := lw_at lw_m7 81 rfl
theorem q1601 : (Jvm.Cond.fieldLinkNest "LullabygateModel" (110 : Nat) "LullabygateModel$Sleeper" "patience" "I" "LullabygateModel") ∈ lw_tbl := lw_at lw_m7 82 rfl
theorem q1602 : (Jvm.Cond.fieldLinkNest "LullabygateModel" (116 : Nat) "LullabygateModel$Sleeper" "state" "I" "LullabygateModel") ∈ lw_tbl := lw_at lw_m7 83 rfl
theorem q1604 : (Jvm.Cond.fieldLinkNest "LullabygateModel" (177 : Nat) "LullabygateModel$Sleeper" "gate" "I" "LullabygateModel") ∈ lw_tbl := lw_at lw_m7 85 rfl
theorem q1605 : (Jvm.Cond.fieldLinkNest "LullabygateModel" (180 : Nat) "LullabygateModel$Sleeper" "declares" "I" "LullabygateModel") ∈ lw_tbl := lw_at lw_m7 86 rfl
theorem q1607 : (Jvm.Cond.fieldLinkNest "LullabygateModel" (140 : Nat) "LullabygateModel$Sleeper" "passGate" "I" "LullabygateModel") ∈ lw_tbl := lw_at lw_m7 88 rfl
theorem q1608 : (Jvm.Cond.fieldLinkNest "LullabygateModel" (143 : Nat) "LullabygateModel$Sleeper" "passNight" "I" "LullabygateModel") ∈ lw_tbl := lw_at lw_m7 89 rfl
theorem q1610 : (Jvm.Cond.fieldLinkNest "LullabygateModel" (146 : Nat) "LullabygateModel$Sleeper" "verse" "I" "LullabygateModel") ∈ lw_tbl := lw_at lw_m7 91 rfl
theorem q1631 : (Jvm.Cond.instanceMethod ({ cls := "LullabygateModel", name := "part", desc := "(IIII)I" } : Jvm.MethodName)) ∈ lw_all := lw_g (lw_at lw_m7 112 rfl) rfl
theorem q1632 : (Jvm.Cond.selects "LullabygateModel" ({ cls := "LullabygateModel", name := "part", desc := "(IIII)I" } : Jvm.MethodName) ({ cls := "LullabygateModel", name := "part", desc := "(IIII)I" } : Jvm.MethodName)) ∈ lw_all := lw_g (lw_at lw_m7 113 rfl) rfl
theorem q1633 : (Jvm.Cond.code ({ cls := "LullabygateModel", name := "part", desc := "(IIII)I" } : Jvm.MethodName) prog_14_method_15_code (6 : Nat) (Option.some Jvm.ClassFile.FieldType.int)) ∈ lw_all := lw_g (lw_at lw_m7 114 rfl) rfl
theorem q1634 : (Jvm.Cond.methodLink "LullabygateModel" (113 : Nat) ({ cls := "LullabygateModel", name := "isSleeper", desc := "(I)Z" } : Jvm.MethodName)) ∈ lw_all := lw_g (lw_at lw_m7 115 rfl) rfl
theorem q1635 : (Jvm.Cond.privateMethod ({ cls := "LullabygateModel", name := "isSleeper", desc := "(I)Z" } : Jvm.MethodName)) ∈ lw_tbl := lw_at lw_m7 116 rfl
theorem q1636 : (Jvm.Cond.instanceMethod ({ cls := "LullabygateModel", name := "isSleeper", desc := "(I)Z" } : Jvm.MethodName)) ∈ lw_all := lw_g (lw_at lw_m7 117 rfl) rfl
theorem q1637 : (Jvm.Cond.code ({ cls := "LullabygateModel", name := "isSleeper", desc := "(I)Z" } : Jvm.MethodName) prog_14_method_7_code (2 : Nat) (Option.some Jvm.ClassFile.FieldType.boolean)) ∈ lw_all := lw_g (lw_at lw_m7 118 rfl) rfl
theorem q1638 : (Jvm.Cond.classLink "LullabygateModel" (119 : Nat) "LullabygateModel$Part") ∈ lw_all := lw_g (lw_at lw_m7 119 rfl) rfl
theorem q1640 : (Jvm.Cond.methodLinkNest "LullabygateModel" (121 : Nat) ({ cls := "LullabygateModel$Part", name := "<init>", desc := "()V" } : Jvm.MethodName) "LullabygateModel") ∈ lw_tbl := lw_at lw_m7 121 rfl
theorem q1644 : (Jvm.Cond.fieldLinkNest "LullabygateModel" (122 : Nat) "LullabygateModel$Part" "dream" "I" "LullabygateModel") ∈ lw_tbl := lw_at lw_m7 125 rfl
theorem q1645 : (Jvm.Cond.fieldLinkNest "LullabygateModel" (125 : Nat) "LullabygateModel$Part" "worth" "I" "LullabygateModel") ∈ lw_tbl := lw_at lw_m7 126 rfl
theorem q1647 : (Jvm.Cond.fieldLinkNest "LullabygateModel" (128 : Nat) "LullabygateModel$Part" "dread" "I" "LullabygateModel") ∈ lw_tbl := lw_at lw_m7 128 rfl
theorem q1648 : (Jvm.Cond.fieldLinkNest "LullabygateModel" (208 : Nat) "LullabygateModel$Part" "fate" "I" "LullabygateModel") ∈ lw_tbl := lw_at lw_m7 129 rfl
theorem q1649 : (Jvm.Cond.fieldLinkNest "LullabygateModel" (131 : Nat) "LullabygateModel$Part" "at" "I" "LullabygateModel") ∈ lw_tbl := lw_at lw_m7 130 rfl
theorem q1651 : (Jvm.Cond.fieldLinkNest "LullabygateModel" (224 : Nat) "LullabygateModel$Part" "brought" "I" "LullabygateModel") ∈ lw_tbl := lw_at lw_m7 132 rfl
theorem q1666 : (Jvm.Cond.instanceMethod ({ cls := "LullabygateModel", name := "give", desc := "(II)I" } : Jvm.MethodName)) ∈ lw_all := lw_g (lw_at lw_m7 147 rfl) rfl
theorem q1667 : (Jvm.Cond.selects "LullabygateModel" ({ cls := "LullabygateModel", name := "give", desc := "(II)I" } : Jvm.MethodName) ({ cls := "LullabygateModel", name := "give", desc := "(II)I" } : Jvm.MethodName)) ∈ lw_all := lw_g (lw_at lw_m7 148 rfl) rfl
theorem q1668 : (Jvm.Cond.code ({ cls := "LullabygateModel", name := "give", desc := "(II)I" } : Jvm.MethodName) prog_14_method_16_code (6 : Nat) (Option.some Jvm.ClassFile.FieldType.int)) ∈ lw_all := lw_g (lw_at lw_m7 149 rfl) rfl
theorem q1669 : (Jvm.Cond.methodLink "LullabygateModel" (134 : Nat) ({ cls := "LullabygateModel", name := "isPart", desc := "(I)Z" } : Jvm.MethodName)) ∈ lw_all := lw_g (lw_at lw_m7 150 rfl) rfl
theorem q1670 : (Jvm.Cond.privateMethod ({ cls := "LullabygateModel", name := "isPart", desc := "(I)Z" } : Jvm.MethodName)) ∈ lw_tbl := lw_at lw_m7 151 rfl
theorem q1671 : (Jvm.Cond.instanceMethod ({ cls := "LullabygateModel", name := "isPart", desc := "(I)Z" } : Jvm.MethodName)) ∈ lw_all := lw_g (lw_at lw_m7 152 rfl) rfl
theorem q1672 : (Jvm.Cond.code ({ cls := "LullabygateModel", name := "isPart", desc := "(I)Z" } : Jvm.MethodName) prog_14_method_8_code (2 : Nat) (Option.some Jvm.ClassFile.FieldType.boolean)) ∈ lw_all := lw_g (lw_at lw_m7 153 rfl) rfl
theorem q1674 : (Jvm.Cond.instanceMethod ({ cls := "LullabygateModel", name := "sing", desc := "(IIII)I" } : Jvm.MethodName)) ∈ lw_all := lw_g (lw_at lw_m7 155 rfl) rfl
theorem q1675 : (Jvm.Cond.selects "LullabygateModel" ({ cls := "LullabygateModel", name := "sing", desc := "(IIII)I" } : Jvm.MethodName) ({ cls := "LullabygateModel", name := "sing", desc := "(IIII)I" } : Jvm.MethodName)) ∈ lw_all := lw_g (lw_at lw_m7 156 rfl) rfl
theorem q1676 : (Jvm.Cond.code ({ cls := "LullabygateModel", name := "sing", desc := "(IIII)I" } : Jvm.MethodName) prog_14_method_18_code (6 : Nat) (Option.some Jvm.ClassFile.FieldType.int)) ∈ lw_all := lw_g (lw_at lw_m7 157 rfl) rfl
theorem q1677 : (Jvm.Cond.methodLink "LullabygateModel" (149 : Nat) ({ cls := "LullabygateModel", name := "right", desc := "(III)I" } : Jvm.MethodName)) ∈ lw_all := lw_g (lw_at lw_m7 158 rfl) rfl
theorem q1678 : (Jvm.Cond.static ({ cls := "LullabygateModel", name := "right", desc := "(III)I" } : Jvm.MethodName)) ∈ lw_all := lw_g (lw_at lw_m7 159 rfl) rfl
theorem q1679 : (Jvm.Cond.code ({ cls := "LullabygateModel", name := "right", desc := "(III)I" } : Jvm.MethodName) prog_14_method_17_code (3 : Nat) (Option.some Jvm.ClassFile.FieldType.int)) ∈ lw_all := lw_g (lw_at lw_m7 160 rfl) rfl
theorem q1681 : (Jvm.Cond.instanceMethod ({ cls := "LullabygateModel", name := "revoke", desc := "(II)Z" } : Jvm.MethodName)) ∈ lw_all := lw_g (lw_at lw_m7 162 rfl) rfl
theorem q1682 : (Jvm.Cond.selects "LullabygateModel" ({ cls := "LullabygateModel", name := "revoke", desc := "(II)Z" } : Jvm.MethodName) ({ cls := "LullabygateModel", name := "revoke", desc := "(II)Z" } : Jvm.MethodName)) ∈ lw_all := lw_g (lw_at lw_m7 163 rfl) rfl
theorem q1683 : (Jvm.Cond.code ({ cls := "LullabygateModel", name := "revoke", desc := "(II)Z" } : Jvm.MethodName) prog_14_method_19_code (4 : Nat) (Option.some Jvm.ClassFile.FieldType.boolean)) ∈ lw_all := lw_g (lw_at lw_m7 164 rfl) rfl
theorem q1685 : (Jvm.Cond.instanceMethod ({ cls := "LullabygateModel", name := "join", desc := "(III)I" } : Jvm.MethodName)) ∈ lw_all := lw_g (lw_at lw_m7 166 rfl) rfl
theorem q1686 : (Jvm.Cond.selects "LullabygateModel" ({ cls := "LullabygateModel", name := "join", desc := "(III)I" } : Jvm.MethodName) ({ cls := "LullabygateModel", name := "join", desc := "(III)I" } : Jvm.MethodName)) ∈ lw_all := lw_g (lw_at lw_m7 167 rfl) rfl
theorem q1687 : (Jvm.Cond.code ({ cls := "LullabygateModel", name := "join", desc := "(III)I" } : Jvm.MethodName) prog_14_method_21_code (7 : Nat) (Option.some Jvm.ClassFile.FieldType.int)) ∈ lw_all := lw_g (lw_at lw_m7 168 rfl) rfl
theorem q1688 : (Jvm.Cond.methodLink "LullabygateModel" (156 : Nat) ({ cls := "LullabygateModel", name := "head", desc := "(I)I" } : Jvm.MethodName)) ∈ lw_all := lw_g (lw_at lw_m7 169 rfl) rfl
theorem q1689 : (Jvm.Cond.privateMethod ({ cls := "LullabygateModel", name := "head", desc := "(I)I" } : Jvm.MethodName)) ∈ lw_tbl := lw_at lw_m7 170 rfl
theorem q1690 : (Jvm.Cond.instanceMethod ({ cls := "LullabygateModel", name := "head", desc := "(I)I" } : Jvm.MethodName)) ∈ lw_all := lw_g (lw_at lw_m7 171 rfl) rfl
theorem q1691 : (Jvm.Cond.code ({ cls := "LullabygateModel", name := "head", desc := "(I)I" } : Jvm.MethodName) prog_14_method_20_code (4 : Nat) (Option.some Jvm.ClassFile.FieldType.int)) ∈ lw_all := lw_g (lw_at lw_m7 172 rfl) rfl
theorem q1692 : (Jvm.Cond.methodLink "LullabygateModel" (159 : Nat) ({ cls := "LullabygateModel$Gate", name := "has", desc := "(I)Z" } : Jvm.MethodName)) ∈ lw_all := lw_g (lw_at lw_m7 173 rfl) rfl
theorem q1696 : (Jvm.Cond.classLink "LullabygateModel" (165 : Nat) "java/lang/Integer") ∈ lw_all := lw_g (lw_at lw_m7 177 rfl) rfl
theorem q1697 : (Jvm.Cond.methodLink "LullabygateModel" (167 : Nat) ({ cls := "java/lang/Integer", name := "intValue", desc := "()I" } : Jvm.MethodName)) ∈ lw_all := lw_g (lw_at lw_m7 178 rfl) rfl
theorem q1701 : (Jvm.Cond.methodLink "LullabygateModel" (170 : Nat) ({ cls := "java/lang/Integer", name := "valueOf", desc := "(I)Ljava/lang/Integer;" } : Jvm.MethodName)) ∈ lw_all := lw_g (lw_at lw_m7 182 rfl) rfl
theorem q1721 : (Jvm.Cond.methodLink "LullabygateModel" (174 : Nat) ({ cls := "java/util/ArrayList", name := "add", desc := "(ILjava/lang/Object;)V" } : Jvm.MethodName)) ∈ lw_all := lw_g (lw_at lw_m7 202 rfl) rfl
theorem q1743 : (Jvm.Cond.instanceMethod ({ cls := "LullabygateModel", name := "leave", desc := "(I)I" } : Jvm.MethodName)) ∈ lw_all := lw_g (lw_at lw_m7 224 rfl) rfl
theorem q1744 : (Jvm.Cond.selects "LullabygateModel" ({ cls := "LullabygateModel", name := "leave", desc := "(I)I" } : Jvm.MethodName) ({ cls := "LullabygateModel", name := "leave", desc := "(I)I" } : Jvm.MethodName)) ∈ lw_all := lw_g (lw_at lw_m7 225 rfl) rfl
theorem q1745 : (Jvm.Cond.code ({ cls := "LullabygateModel", name := "leave", desc := "(I)I" } : Jvm.MethodName) prog_14_method_23_code (4 : Nat) (Option.some Jvm.ClassFile.FieldType.int)) ∈ lw_all := lw_g (lw_at lw_m7 226 rfl) rfl
theorem q1746 : (Jvm.Cond.methodLink "LullabygateModel" (183 : Nat) ({ cls := "LullabygateModel$Gate", name := "place", desc := "(I)I" } : Jvm.MethodName)) ∈ lw_all := lw_g (lw_at lw_m7 227 rfl) rfl
theorem q1754 : (Jvm.Cond.methodLink "LullabygateModel" (189 : Nat) ({ cls := "LullabygateModel", name := "stepOut", desc := "(II)V" } : Jvm.MethodName)) ∈ lw_all := lw_g (lw_at lw_m7 235 rfl) rfl
theorem q1755 : (Jvm.Cond.privateMethod ({ cls := "LullabygateModel", name := "stepOut", desc := "(II)V" } : Jvm.MethodName)) ∈ lw_tbl := lw_at lw_m7 236 rfl
theorem q1756 : (Jvm.Cond.instanceMethod ({ cls := "LullabygateModel", name := "stepOut", desc := "(II)V" } : Jvm.MethodName)) ∈ lw_all := lw_g (lw_at lw_m7 237 rfl) rfl
theorem q1757 : (Jvm.Cond.code ({ cls := "LullabygateModel", name := "stepOut", desc := "(II)V" } : Jvm.MethodName) prog_14_method_22_code (6 : Nat) (Option.none : Option Jvm.ClassFile.FieldType)) ∈ lw_all := lw_g (lw_at lw_m7 238 rfl) rfl
theorem q1758 : (Jvm.Cond.methodLink "LullabygateModel" (186 : Nat) ({ cls := "java/util/ArrayList", name := "remove", desc := "(I)Ljava/lang/Object;" } : Jvm.MethodName)) ∈ lw_all := lw_g (lw_at lw_m7 239 rfl) rfl
theorem q1760 : (Jvm.Cond.instanceMethod ({ cls := "LullabygateModel", name := "yawn", desc := "(I)I" } : Jvm.MethodName)) ∈ lw_all := lw_g (lw_at lw_m8 1 rfl) rfl
theorem q1761 : (Jvm.Cond.selects "LullabygateModel" ({ cls := "LullabygateModel", name := "yawn", desc := "(I)I" } : Jvm.MethodName) ({ cls := "LullabygateModel", name := "yawn", desc := "(I)I" } : Jvm.MethodName)) ∈ lw_all := lw_g (lw_at lw_m8 2 rfl) rfl
theorem q1762 : (Jvm.Cond.code ({ cls := "LullabygateModel", name := "yawn", desc := "(I)I" } : Jvm.MethodName) prog_14_method_29_code (7 : Nat) (Option.some Jvm.ClassFile.FieldType.int)) ∈ lw_all := lw_g (lw_at lw_m8 3 rfl) rfl
theorem q1763 : (Jvm.Cond.methodLink "LullabygateModel" (244 : Nat) ({ cls := "LullabygateModel$Gate", name := "isOpen", desc := "(I)Z" } : Jvm.MethodName)) ∈ lw_all := lw_g (lw_at lw_m8 4 rfl) rfl
theorem q1767 : (Jvm.Cond.methodLink "LullabygateModel" (247 : Nat) ({ cls := "java/util/ArrayList", name := "isEmpty", desc := "()Z" } : Jvm.MethodName)) ∈ lw_all := lw_g (lw_at lw_m8 8 rfl) rfl
theorem q1768 : (Jvm.Cond.methodLink "LullabygateModel" (253 : Nat) ({ cls := "LullabygateModel", name := "isGoodNow", desc := "(II)Z" } : Jvm.MethodName)) ∈ lw_all := lw_g (lw_at lw_m8 9 rfl) rfl
theorem q1769 : (Jvm.Cond.privateMethod ({ cls := "LullabygateModel", name := "isGoodNow", desc := "(II)Z" } : Jvm.MethodName)) ∈ lw_tbl := lw_at lw_m8 10 rfl
theorem q1770 : (Jvm.Cond.instanceMethod ({ cls := "LullabygateModel", name := "isGoodNow", desc := "(II)Z" } : Jvm.MethodName)) ∈ lw_all := lw_g (lw_at lw_m8 11 rfl) rfl
theorem q1771 : (Jvm.Cond.code ({ cls := "LullabygateModel", name := "isGoodNow", desc := "(II)Z" } : Jvm.MethodName) prog_14_method_24_code (6 : Nat) (Option.some Jvm.ClassFile.FieldType.boolean)) ∈ lw_all := lw_g (lw_at lw_m8 12 rfl) rfl
theorem q1772 : (Jvm.Cond.methodLink "LullabygateModel" (193 : Nat) ({ cls := "java/lang/Math", name := "abs", desc := "(I)I" } : Jvm.MethodName)) ∈ lw_all := lw_g (lw_at lw_m8 13 rfl) rfl
theorem q1773 : (Jvm.Cond.methodLink "LullabygateModel" (198 : Nat) ({ cls := "LullabygateModel$Gate", name := "dozes", desc := "()Z" } : Jvm.MethodName)) ∈ lw_all := lw_g (lw_at lw_m8 14 rfl) rfl
theorem q1777 : (Jvm.Cond.methodLink "LullabygateModel" (257 : Nat) ({ cls := "LullabygateModel", name := "comeThrough", desc := "(ILLullabygateModel$Gate;)I" } : Jvm.MethodName)) ∈ lw_all := lw_g (lw_at lw_m8 18 rfl) rfl
theorem q1778 : (Jvm.Cond.privateMethod ({ cls := "LullabygateModel", name := "comeThrough", desc := "(ILLullabygateModel$Gate;)I" } : Jvm.MethodName)) ∈ lw_tbl := lw_at lw_m8 19 rfl
theorem q1779 : (Jvm.Cond.instanceMethod ({ cls := "LullabygateModel", name := "comeThrough", desc := "(ILLullabygateModel$Gate;)I" } : Jvm.MethodName)) ∈ lw_all := lw_g (lw_at lw_m8 20 rfl) rfl
theorem q1780 : (Jvm.Cond.code ({ cls := "LullabygateModel", name := "comeThrough", desc := "(ILLullabygateModel$Gate;)I" } : Jvm.MethodName) prog_14_method_27_code (10 : Nat) (Option.some Jvm.ClassFile.FieldType.int)) ∈ lw_all := lw_g (lw_at lw_m8 21 rfl) rfl
theorem q1781 : (Jvm.Cond.methodLink "LullabygateModel" (215 : Nat) ({ cls := "LullabygateModel$Gate", name := "beyond", desc := "(I)I" } : Jvm.MethodName)) ∈ lw_all := lw_g (lw_at lw_m8 22 rfl) rfl
theorem q1785 : (Jvm.Cond.methodLink "LullabygateModel" (221 : Nat) ({ cls := "LullabygateModel", name := "hide", desc := "(II)V" } : Jvm.MethodName)) ∈ lw_all := lw_g (lw_at lw_m8 26 rfl) rfl
theorem q1786 : (Jvm.Cond.privateMethod ({ cls := "LullabygateModel", name := "hide", desc := "(II)V" } : Jvm.MethodName)) ∈ lw_tbl := lw_at lw_m8 27 rfl
theorem q1787 : (Jvm.Cond.instanceMethod ({ cls := "LullabygateModel", name := "hide", desc := "(II)V" } : Jvm.MethodName)) ∈ lw_all := lw_g (lw_at lw_m8 28 rfl) rfl
theorem q1788 : (Jvm.Cond.code ({ cls := "LullabygateModel", name := "hide", desc := "(II)V" } : Jvm.MethodName) prog_14_method_28_code (3 : Nat) (Option.none : Option Jvm.ClassFile.FieldType)) ∈ lw_all := lw_g (lw_at lw_m8 29 rfl) rfl
theorem q1789 : (Jvm.Cond.methodLink "LullabygateModel" (230 : Nat) ({ cls := "LullabygateModel", name := "comeIn", desc := "(IIZ)I" } : Jvm.MethodName)) ∈ lw_all := lw_g (lw_at lw_m8 30 rfl) rfl
theorem q1790 : (Jvm.Cond.privateMethod ({ cls := "LullabygateModel", name := "comeIn", desc := "(IIZ)I" } : Jvm.MethodName)) ∈ lw_tbl := lw_at lw_m8 31 rfl
theorem q1791 : (Jvm.Cond.instanceMethod ({ cls := "LullabygateModel", name := "comeIn", desc := "(IIZ)I" } : Jvm.MethodName)) ∈ lw_all := lw_g (lw_at lw_m8 32 rfl) rfl
theorem q1792 : (Jvm.Cond.code ({ cls := "LullabygateModel", name := "comeIn", desc := "(IIZ)I" } : Jvm.MethodName) prog_14_method_25_code (11 : Nat) (Option.some Jvm.ClassFile.FieldType.int)) ∈ lw_all := lw_g (lw_at lw_m8 33 rfl) rfl
theorem q1793 : (Jvm.Cond.methodLink "LullabygateModel" (205 : Nat) ({ cls := "LullabygateModel$Part", name := "isNightmare", desc := "()Z" } : Jvm.MethodName)) ∈ lw_all := lw_g (lw_at lw_m8 34 rfl) rfl
theorem q1797 : (Jvm.Cond.methodLink "LullabygateModel" (237 : Nat) ({ cls := "LullabygateModel", name := "duty", desc := "(ILLullabygateModel$Land;)I" } : Jvm.MethodName)) ∈ lw_all := lw_g (lw_at lw_m8 38 rfl) rfl
theorem q1798 : (Jvm.Cond.privateMethod ({ cls := "LullabygateModel", name := "duty", desc := "(ILLullabygateModel$Land;)I" } : Jvm.MethodName)) ∈ lw_tbl := lw_at lw_m8 39 rfl
theorem q1799 : (Jvm.Cond.instanceMethod ({ cls := "LullabygateModel", name := "duty", desc := "(ILLullabygateModel$Land;)I" } : Jvm.MethodName)) ∈ lw_all := lw_g (lw_at lw_m8 40 rfl) rfl
theorem q1800 : (Jvm.Cond.code ({ cls := "LullabygateModel", name := "duty", desc := "(ILLullabygateModel$Land;)I" } : Jvm.MethodName) prog_14_method_26_code (3 : Nat) (Option.some Jvm.ClassFile.FieldType.int)) ∈ lw_all := lw_g (lw_at lw_m8 41 rfl) rfl
theorem q1801 : (Jvm.Cond.methodLink "LullabygateModel" (211 : Nat) ({ cls := "java/lang/Math", name := "max", desc := "(II)I" } : Jvm.MethodName)) ∈ lw_all := lw_g (lw_at lw_m8 42 rfl) rfl
theorem q1803 : (Jvm.Cond.instanceMethod ({ cls := "LullabygateModel", name := "appeal", desc := "(I)Z" } : Jvm.MethodName)) ∈ lw_all := lw_g (lw_at lw_m8 44 rfl) rfl
theorem q1804 : (Jvm.Cond.selects "LullabygateModel" ({ cls := "LullabygateModel", name := "appeal", desc := "(I)Z" } : Jvm.MethodName) ({ cls := "LullabygateModel", name := "appeal", desc := "(I)Z" } : Jvm.MethodName)) ∈ lw_all := lw_g (lw_at lw_m8 45 rfl) rfl
theorem q1805 : (Jvm.Cond.code ({ cls := "LullabygateModel", name := "appeal", desc := "(I)Z" } : Jvm.MethodName) prog_14_method_30_code (5 : Nat) (Option.some Jvm.ClassFile.FieldType.boolean)) ∈ lw_all := lw_g (lw_at lw_m8 46 rfl) rfl
theorem q1807 : (Jvm.Cond.instanceMethod ({ cls := "LullabygateModel", name := "pass", desc := "(I)I" } : Jvm.MethodName)) ∈ lw_all := lw_g (lw_at lw_m8 48 rfl) rfl
theorem q1808 : (Jvm.Cond.selects "LullabygateModel" ({ cls := "LullabygateModel", name := "pass", desc := "(I)I" } : Jvm.MethodName) ({ cls := "LullabygateModel", name := "pass", desc := "(I)I" } : Jvm.MethodName)) ∈ lw_all := lw_g (lw_at lw_m8 49 rfl) rfl
theorem q1809 : (Jvm.Cond.code ({ cls := "LullabygateModel", name := "pass", desc := "(I)I" } : Jvm.MethodName) prog_14_method_31_code (3 : Nat) (Option.some Jvm.ClassFile.FieldType.int)) ∈ lw_all := lw_g (lw_at lw_m8 50 rfl) rfl
theorem q1810 : (Jvm.Cond.methodLink "LullabygateModel" (261 : Nat) ({ cls := "LullabygateModel", name := "begin", desc := "()V" } : Jvm.MethodName)) ∈ lw_all := lw_g (lw_at lw_m8 51 rfl) rfl
theorem q1811 : (Jvm.Cond.privateMethod ({ cls := "LullabygateModel", name := "begin", desc := "()V" } : Jvm.MethodName)) ∈ lw_tbl := lw_at lw_m8 52 rfl
theorem q1812 : (Jvm.Cond.instanceMethod ({ cls := "LullabygateModel", name := "begin", desc := "()V" } : Jvm.MethodName)) ∈ lw_all := lw_g (lw_at lw_m8 53 rfl) rfl
theorem q1813 : (Jvm.Cond.code ({ cls := "LullabygateModel", name := "begin", desc := "()V" } : Jvm.MethodName) prog_14_method_32_code (6 : Nat) (Option.none : Option Jvm.ClassFile.FieldType)) ∈ lw_all := lw_g (lw_at lw_m8 54 rfl) rfl
theorem q1814 : (Jvm.Cond.methodLink "LullabygateModel" (264 : Nat) ({ cls := "java/util/ArrayList", name := "iterator", desc := "()Ljava/util/Iterator;" } : Jvm.MethodName)) ∈ lw_all := lw_g (lw_at lw_m8 55 rfl) rfl
theorem q1837 : (Jvm.Cond.interfaceEntry "LullabygateModel" (268 : Nat)) ∈ lw_tbl := lw_at lw_m8 78 rfl
theorem q1838 : (Jvm.Cond.methodLink "LullabygateModel" (268 : Nat) ({ cls := "java/util/Iterator", name := "hasNext", desc := "()Z" } : Jvm.MethodName)) ∈ lw_all := lw_g (lw_at lw_m8 79 rfl) rfl
theorem q1847 : (Jvm.Cond.interfaceEntry "LullabygateModel" (273 : Nat)) ∈ lw_tbl := lw_at lw_m8 88 rfl
theorem q1848 : (Jvm.Cond.methodLink "LullabygateModel" (273 : Nat) ({ cls := "java/util/Iterator", name := "next", desc := "()Ljava/lang/Object;" } : Jvm.MethodName)) ∈ lw_all := lw_g (lw_at lw_m8 89 rfl) rfl
theorem q1861 : (Jvm.Cond.instanceMethod ({ cls := "LullabygateModel", name := "ofLand", desc := "(II)I" } : Jvm.MethodName)) ∈ lw_all := lw_g (lw_at lw_m8 102 rfl) rfl
theorem q1862 : (Jvm.Cond.selects "LullabygateModel" ({ cls := "LullabygateModel", name := "ofLand", desc := "(II)I" } : Jvm.MethodName) ({ cls := "LullabygateModel", name := "ofLand", desc := "(II)I" } : Jvm.MethodName)) ∈ lw_all := lw_g (lw_at lw_m8 103 rfl) rfl
theorem q1863 : (Jvm.Cond.code ({ cls := "LullabygateModel", name := "ofLand", desc := "(II)I" } : Jvm.MethodName) prog_14_method_36_code (3 : Nat) (Option.some Jvm.ClassFile.FieldType.int)) ∈ lw_all := lw_g (lw_at lw_m8 104 rfl) rfl
theorem q1864 : (Jvm.Cond.methodLink "LullabygateModel" (283 : Nat) ({ cls := "LullabygateModel", name := "ofLandNow", desc := "(II)I" } : Jvm.MethodName)) ∈ lw_all := lw_g (lw_at lw_m8 105 rfl) rfl
theorem q1865 : (Jvm.Cond.privateMethod ({ cls := "LullabygateModel", name := "ofLandNow", desc := "(II)I" } : Jvm.MethodName)) ∈ lw_tbl := lw_at lw_m8 106 rfl
theorem q1866 : (Jvm.Cond.instanceMethod ({ cls := "LullabygateModel", name := "ofLandNow", desc := "(II)I" } : Jvm.MethodName)) ∈ lw_all := lw_g (lw_at lw_m8 107 rfl) rfl
theorem q1867 : (Jvm.Cond.code ({ cls := "LullabygateModel", name := "ofLandNow", desc := "(II)I" } : Jvm.MethodName) prog_14_method_35_code (6 : Nat) (Option.some Jvm.ClassFile.FieldType.int)) ∈ lw_all := lw_g (lw_at lw_m8 108 rfl) rfl
theorem q1868 : (Jvm.Cond.methodLink "LullabygateModel" (280 : Nat) ({ cls := "LullabygateModel", name := "wholes", desc := "(I)I" } : Jvm.MethodName)) ∈ lw_all := lw_g (lw_at lw_m8 109 rfl) rfl
theorem q1869 : (Jvm.Cond.privateMethod ({ cls := "LullabygateModel", name := "wholes", desc := "(I)I" } : Jvm.MethodName)) ∈ lw_tbl := lw_at lw_m8 110 rfl
theorem q1870 : (Jvm.Cond.instanceMethod ({ cls := "LullabygateModel", name := "wholes", desc := "(I)I" } : Jvm.MethodName)) ∈ lw_all := lw_g (lw_at lw_m8 111 rfl) rfl
theorem q1871 : (Jvm.Cond.code ({ cls := "LullabygateModel", name := "wholes", desc := "(I)I" } : Jvm.MethodName) prog_14_method_34_code (7 : Nat) (Option.some Jvm.ClassFile.FieldType.int)) ∈ lw_all := lw_g (lw_at lw_m8 112 rfl) rfl
theorem q1872 : (Jvm.Cond.methodLink "LullabygateModel" (276 : Nat) ({ cls := "LullabygateModel", name := "landOf", desc := "(LLullabygateModel$Part;)I" } : Jvm.MethodName)) ∈ lw_all := lw_g (lw_at lw_m8 113 rfl) rfl
theorem q1873 : (Jvm.Cond.privateMethod ({ cls := "LullabygateModel", name := "landOf", desc := "(LLullabygateModel$Part;)I" } : Jvm.MethodName)) ∈ lw_tbl := lw_at lw_m8 114 rfl
theorem q1874 : (Jvm.Cond.instanceMethod ({ cls := "LullabygateModel", name := "landOf", desc := "(LLullabygateModel$Part;)I" } : Jvm.MethodName)) ∈ lw_all := lw_g (lw_at lw_m8 115 rfl) rfl
theorem q1875 : (Jvm.Cond.code ({ cls := "LullabygateModel", name := "landOf", desc := "(LLullabygateModel$Part;)I" } : Jvm.MethodName) prog_14_method_33_code (2 : Nat) (Option.some Jvm.ClassFile.FieldType.int)) ∈ lw_all := lw_g (lw_at lw_m8 116 rfl) rfl
theorem q1877 : (Jvm.Cond.instanceMethod ({ cls := "LullabygateModel", name := "ofGate", desc := "(II)I" } : Jvm.MethodName)) ∈ lw_all := lw_g (lw_at lw_m8 118 rfl) rfl
theorem q1878 : (Jvm.Cond.selects "LullabygateModel" ({ cls := "LullabygateModel", name := "ofGate", desc := "(II)I" } : Jvm.MethodName) ({ cls := "LullabygateModel", name := "ofGate", desc := "(II)I" } : Jvm.MethodName)) ∈ lw_all := lw_g (lw_at lw_m8 119 rfl) rfl
theorem q1879 : (Jvm.Cond.code ({ cls := "LullabygateModel", name := "ofGate", desc := "(II)I" } : Jvm.MethodName) prog_14_method_39_code (3 : Nat) (Option.some Jvm.ClassFile.FieldType.int)) ∈ lw_all := lw_g (lw_at lw_m8 120 rfl) rfl
theorem q1880 : (Jvm.Cond.methodLink "LullabygateModel" (290 : Nat) ({ cls := "LullabygateModel", name := "ofGateNow", desc := "(II)I" } : Jvm.MethodName)) ∈ lw_all := lw_g (lw_at lw_m8 121 rfl) rfl
theorem q1881 : (Jvm.Cond.privateMethod ({ cls := "LullabygateModel", name := "ofGateNow", desc := "(II)I" } : Jvm.MethodName)) ∈ lw_tbl := lw_at lw_m8 122 rfl
theorem q1882 : (Jvm.Cond.instanceMethod ({ cls := "LullabygateModel", name := "ofGateNow", desc := "(II)I" } : Jvm.MethodName)) ∈ lw_all := lw_g (lw_at lw_m8 123 rfl) rfl
theorem q1883 : (Jvm.Cond.code ({ cls := "LullabygateModel", name := "ofGateNow", desc := "(II)I" } : Jvm.MethodName) prog_14_method_38_code (9 : Nat) (Option.some Jvm.ClassFile.FieldType.int)) ∈ lw_all := lw_g (lw_at lw_m8 124 rfl) rfl
theorem q1884 : (Jvm.Cond.methodLink "LullabygateModel" (286 : Nat) ({ cls := "LullabygateModel", name := "hiddenWorth", desc := "(LLullabygateModel$Gate;)I" } : Jvm.MethodName)) ∈ lw_all := lw_g (lw_at lw_m8 125 rfl) rfl
theorem q1885 : (Jvm.Cond.privateMethod ({ cls := "LullabygateModel", name := "hiddenWorth", desc := "(LLullabygateModel$Gate;)I" } : Jvm.MethodName)) ∈ lw_tbl := lw_at lw_m8 126 rfl
theorem q1886 : (Jvm.Cond.instanceMethod ({ cls := "LullabygateModel", name := "hiddenWorth", desc := "(LLullabygateModel$Gate;)I" } : Jvm.MethodName)) ∈ lw_all := lw_g (lw_at lw_m8 127 rfl) rfl
theorem q1887 : (Jvm.Cond.code ({ cls := "LullabygateModel", name := "hiddenWorth", desc := "(LLullabygateModel$Gate;)I" } : Jvm.MethodName) prog_14_method_37_code (5 : Nat) (Option.some Jvm.ClassFile.FieldType.int)) ∈ lw_all := lw_g (lw_at lw_m8 128 rfl) rfl
theorem q1889 : (Jvm.Cond.instanceMethod ({ cls := "LullabygateModel", name := "ofSleeper", desc := "(II)I" } : Jvm.MethodName)) ∈ lw_all := lw_g (lw_at lw_m8 130 rfl) rfl
theorem q1890 : (Jvm.Cond.selects "LullabygateModel" ({ cls := "LullabygateModel", name := "ofSleeper", desc := "(II)I" } : Jvm.MethodName) ({ cls := "LullabygateModel", name := "ofSleeper", desc := "(II)I" } : Jvm.MethodName)) ∈ lw_all := lw_g (lw_at lw_m8 131 rfl) rfl
theorem q1891 : (Jvm.Cond.code ({ cls := "LullabygateModel", name := "ofSleeper", desc := "(II)I" } : Jvm.MethodName) prog_14_method_42_code (3 : Nat) (Option.some Jvm.ClassFile.FieldType.int)) ∈ lw_all := lw_g (lw_at lw_m8 132 rfl) rfl
theorem q1892 : (Jvm.Cond.methodLink "LullabygateModel" (296 : Nat) ({ cls := "LullabygateModel", name := "ofSleeperNow", desc := "(II)I" } : Jvm.MethodName)) ∈ lw_all := lw_g (lw_at lw_m8 133 rfl) rfl
theorem q1893 : (Jvm.Cond.privateMethod ({ cls := "LullabygateModel", name := "ofSleeperNow", desc := "(II)I" } : Jvm.MethodName)) ∈ lw_tbl := lw_at lw_m8 134 rfl
theorem q1894 : (Jvm.Cond.instanceMethod ({ cls := "LullabygateModel", name := "ofSleeperNow", desc := "(II)I" } : Jvm.MethodName)) ∈ lw_all := lw_g (lw_at lw_m8 135 rfl) rfl
theorem q1895 : (Jvm.Cond.code ({ cls := "LullabygateModel", name := "ofSleeperNow", desc := "(II)I" } : Jvm.MethodName) prog_14_method_41_code (6 : Nat) (Option.some Jvm.ClassFile.FieldType.int)) ∈ lw_all := lw_g (lw_at lw_m8 136 rfl) rfl
theorem q1896 : (Jvm.Cond.methodLink "LullabygateModel" (293 : Nat) ({ cls := "LullabygateModel", name := "ring", desc := "(I)I" } : Jvm.MethodName)) ∈ lw_all := lw_g (lw_at lw_m8 137 rfl) rfl
theorem q1897 : (Jvm.Cond.privateMethod ({ cls := "LullabygateModel", name := "ring", desc := "(I)I" } : Jvm.MethodName)) ∈ lw_tbl := lw_at lw_m8 138 rfl
theorem q1898 : (Jvm.Cond.instanceMethod ({ cls := "LullabygateModel", name := "ring", desc := "(I)I" } : Jvm.MethodName)) ∈ lw_all := lw_g (lw_at lw_m8 139 rfl) rfl
theorem q1899 : (Jvm.Cond.code ({ cls := "LullabygateModel", name := "ring", desc := "(I)I" } : Jvm.MethodName) prog_14_method_40_code (9 : Nat) (Option.some Jvm.ClassFile.FieldType.int)) ∈ lw_all := lw_g (lw_at lw_m8 140 rfl) rfl
theorem q1901 : (Jvm.Cond.instanceMethod ({ cls := "LullabygateModel", name := "ofPart", desc := "(II)I" } : Jvm.MethodName)) ∈ lw_all := lw_g (lw_at lw_m8 142 rfl) rfl
theorem q1902 : (Jvm.Cond.selects "LullabygateModel" ({ cls := "LullabygateModel", name := "ofPart", desc := "(II)I" } : Jvm.MethodName) ({ cls := "LullabygateModel", name := "ofPart", desc := "(II)I" } : Jvm.MethodName)) ∈ lw_all := lw_g (lw_at lw_m8 143 rfl) rfl
theorem q1903 : (Jvm.Cond.code ({ cls := "LullabygateModel", name := "ofPart", desc := "(II)I" } : Jvm.MethodName) prog_14_method_44_code (3 : Nat) (Option.some Jvm.ClassFile.FieldType.int)) ∈ lw_all := lw_g (lw_at lw_m8 144 rfl) rfl
theorem q1904 : (Jvm.Cond.methodLink "LullabygateModel" (299 : Nat) ({ cls := "LullabygateModel", name := "ofPartNow", desc := "(II)I" } : Jvm.MethodName)) ∈ lw_all := lw_g (lw_at lw_m8 145 rfl) rfl
theorem q1905 : (Jvm.Cond.privateMethod ({ cls := "LullabygateModel", name := "ofPartNow", desc := "(II)I" } : Jvm.MethodName)) ∈ lw_tbl := lw_at lw_m8 146 rfl
theorem q1906 : (Jvm.Cond.instanceMethod ({ cls := "LullabygateModel", name := "ofPartNow", desc := "(II)I" } : Jvm.MethodName)) ∈ lw_all := lw_g (lw_at lw_m8 147 rfl) rfl
theorem q1907 : (Jvm.Cond.code ({ cls := "LullabygateModel", name := "ofPartNow", desc := "(II)I" } : Jvm.MethodName) prog_14_method_43_code (4 : Nat) (Option.some Jvm.ClassFile.FieldType.int)) ∈ lw_all := lw_g (lw_at lw_m8 148 rfl) rfl
theorem q1909 : (Jvm.Cond.instanceMethod ({ cls := "LullabygateModel", name := "isGood", desc := "(II)Z" } : Jvm.MethodName)) ∈ lw_all := lw_g (lw_at lw_m8 150 rfl) rfl
theorem q1910 : (Jvm.Cond.selects "LullabygateModel" ({ cls := "LullabygateModel", name := "isGood", desc := "(II)Z" } : Jvm.MethodName) ({ cls := "LullabygateModel", name := "isGood", desc := "(II)Z" } : Jvm.MethodName)) ∈ lw_all := lw_g (lw_at lw_m8 151 rfl) rfl
theorem q1911 : (Jvm.Cond.code ({ cls := "LullabygateModel", name := "isGood", desc := "(II)Z" } : Jvm.MethodName) prog_14_method_45_code (3 : Nat) (Option.some Jvm.ClassFile.FieldType.boolean)) ∈ lw_all := lw_g (lw_at lw_m8 152 rfl) rfl
theorem q1913 : (Jvm.Cond.instanceMethod ({ cls := "LullabygateModel", name := "queue", desc := "(I)Ljava/lang/String;" } : Jvm.MethodName)) ∈ lw_all := lw_g (lw_at lw_m8 154 rfl) rfl
theorem q1914 : (Jvm.Cond.selects "LullabygateModel" ({ cls := "LullabygateModel", name := "queue", desc := "(I)Ljava/lang/String;" } : Jvm.MethodName) ({ cls := "LullabygateModel", name := "queue", desc := "(I)Ljava/lang/String;" } : Jvm.MethodName)) ∈ lw_all := lw_g (lw_at lw_m8 155 rfl) rfl
theorem q1915 : (Jvm.Cond.code ({ cls := "LullabygateModel", name := "queue", desc := "(I)Ljava/lang/String;" } : Jvm.MethodName) prog_14_method_46_code (6 : Nat) (Option.some (Jvm.ClassFile.FieldType.object "java/lang/String"))) ∈ lw_all := lw_g (lw_at lw_m8 156 rfl) rfl
theorem q1916 : (Jvm.Cond.stringRef "LullabygateModel" (302 : Nat) "") ∈ lw_tbl := lw_at lw_m8 157 rfl
theorem q1917 : (Jvm.Cond.classLink "LullabygateModel" (304 : Nat) "java/lang/StringBuilder") ∈ lw_all := lw_g (lw_at lw_m8 158 rfl) rfl
theorem q1918 : (Jvm.Cond.methodLink "LullabygateModel" (306 : Nat) ({ cls := "java/lang/StringBuilder", name := "<init>", desc := "()V" } : Jvm.MethodName)) ∈ lw_all := lw_g (lw_at lw_m8 159 rfl) rfl
theorem q1919 : (Jvm.Cond.stringRef "LullabygateModel" (307 : Nat) " ") ∈ lw_tbl := lw_at lw_m8 160 rfl
theorem q1920 : (Jvm.Cond.methodLink "LullabygateModel" (309 : Nat) ({ cls := "java/lang/StringBuilder", name := "append", desc := "(Ljava/lang/String;)Ljava/lang/StringBuilder;" } : Jvm.MethodName)) ∈ lw_all := lw_g (lw_at lw_m8 161 rfl) rfl
theorem q1921 : (Jvm.Cond.methodLink "LullabygateModel" (313 : Nat) ({ cls := "java/lang/StringBuilder", name := "append", desc := "(I)Ljava/lang/StringBuilder;" } : Jvm.MethodName)) ∈ lw_all := lw_g (lw_at lw_m8 162 rfl) rfl
theorem q1922 : (Jvm.Cond.stringRef "LullabygateModel" (316 : Nat) "b") ∈ lw_tbl := lw_at lw_m8 163 rfl
theorem q1923 : (Jvm.Cond.stringRef "LullabygateModel" (318 : Nat) "-") ∈ lw_tbl := lw_at lw_m8 164 rfl
theorem q1924 : (Jvm.Cond.methodLink "LullabygateModel" (320 : Nat) ({ cls := "java/lang/StringBuilder", name := "toString", desc := "()Ljava/lang/String;" } : Jvm.MethodName)) ∈ lw_all := lw_g (lw_at lw_m8 165 rfl) rfl
theorem q1926 : (Jvm.Cond.instanceMethod ({ cls := "LullabygateModel", name := "night", desc := "(I)I" } : Jvm.MethodName)) ∈ lw_all := lw_g (lw_at lw_m8 167 rfl) rfl
theorem q1927 : (Jvm.Cond.selects "LullabygateModel" ({ cls := "LullabygateModel", name := "night", desc := "(I)I" } : Jvm.MethodName) ({ cls := "LullabygateModel", name := "night", desc := "(I)I" } : Jvm.MethodName)) ∈ lw_all := lw_g (lw_at lw_m8 168 rfl) rfl
theorem q1928 : (Jvm.Cond.code ({ cls := "LullabygateModel", name := "night", desc := "(I)I" } : Jvm.MethodName) prog_14_method_48_code (2 : Nat) (Option.some Jvm.ClassFile.FieldType.int)) ∈ lw_all := lw_g (lw_at lw_m8 169 rfl) rfl
theorem q1929 : (Jvm.Cond.methodLink "LullabygateModel" (324 : Nat) ({ cls := "LullabygateModel", name := "nightNow", desc := "(I)I" } : Jvm.MethodName)) ∈ lw_all := lw_g (lw_at lw_m8 170 rfl) rfl
theorem q1930 : (Jvm.Cond.privateMethod ({ cls := "LullabygateModel", name := "nightNow", desc := "(I)I" } : Jvm.MethodName)) ∈ lw_tbl := lw_at lw_m8 171 rfl
theorem q1931 : (Jvm.Cond.instanceMethod ({ cls := "LullabygateModel", name := "nightNow", desc := "(I)I" } : Jvm.MethodName)) ∈ lw_all := lw_g (lw_at lw_m8 172 rfl) rfl
theorem q1932 : (Jvm.Cond.code ({ cls := "LullabygateModel", name := "nightNow", desc := "(I)I" } : Jvm.MethodName) prog_14_method_47_code (7 : Nat) (Option.some Jvm.ClassFile.FieldType.int)) ∈ lw_all := lw_g (lw_at lw_m8 173 rfl) rfl
theorem q1934 : (Jvm.Cond.instanceMethod ({ cls := "LullabygateModel", name := "way", desc := "(II)I" } : Jvm.MethodName)) ∈ lw_all := lw_g (lw_at lw_m8 175 rfl) rfl
theorem q1935 : (Jvm.Cond.selects "LullabygateModel" ({ cls := "LullabygateModel", name := "way", desc := "(II)I" } : Jvm.MethodName) ({ cls := "LullabygateModel", name := "way", desc := "(II)I" } : Jvm.MethodName)) ∈ lw_all := lw_g (lw_at lw_m8 176 rfl) rfl
theorem q1936 : (Jvm.Cond.code ({ cls := "LullabygateModel", name := "way", desc := "(II)I" } : Jvm.MethodName) prog_14_method_50_code (3 : Nat) (Option.some Jvm.ClassFile.FieldType.int)) ∈ lw_all := lw_g (lw_at lw_m8 177 rfl) rfl
theorem q1937 : (Jvm.Cond.methodLink "LullabygateModel" (327 : Nat) ({ cls := "LullabygateModel", name := "wayNow", desc := "(II)I" } : Jvm.MethodName)) ∈ lw_all := lw_g (lw_at lw_m8 178 rfl) rfl
theorem q1938 : (Jvm.Cond.privateMethod ({ cls := "LullabygateModel", name := "wayNow", desc := "(II)I" } : Jvm.MethodName)) ∈ lw_tbl := lw_at lw_m8 179 rfl
theorem q1939 : (Jvm.Cond.instanceMethod ({ cls := "LullabygateModel", name := "wayNow", desc := "(II)I" } : Jvm.MethodName)) ∈ lw_all := lw_g (lw_at lw_m8 180 rfl) rfl
theorem q1940 : (Jvm.Cond.code ({ cls := "LullabygateModel", name := "wayNow", desc := "(II)I" } : Jvm.MethodName) prog_14_method_49_code (8 : Nat) (Option.some Jvm.ClassFile.FieldType.int)) ∈ lw_all := lw_g (lw_at lw_m8 181 rfl) rfl
theorem q1942 : (Jvm.Cond.instanceMethod ({ cls := "LullabygateModel", name := "plan", desc := "(II)I" } : Jvm.MethodName)) ∈ lw_all := lw_g (lw_at lw_m8 183 rfl) rfl
theorem q1943 : (Jvm.Cond.selects "LullabygateModel" ({ cls := "LullabygateModel", name := "plan", desc := "(II)I" } : Jvm.MethodName) ({ cls := "LullabygateModel", name := "plan", desc := "(II)I" } : Jvm.MethodName)) ∈ lw_all := lw_g (lw_at lw_m8 184 rfl) rfl
theorem q1944 : (Jvm.Cond.code ({ cls := "LullabygateModel", name := "plan", desc := "(II)I" } : Jvm.MethodName) prog_14_method_53_code (3 : Nat) (Option.some Jvm.ClassFile.FieldType.int)) ∈ lw_all := lw_g (lw_at lw_m8 185 rfl) rfl
theorem q1945 : (Jvm.Cond.methodLink "LullabygateModel" (337 : Nat) ({ cls := "LullabygateModel", name := "planNow", desc := "(II)I" } : Jvm.MethodName)) ∈ lw_all := lw_g (lw_at lw_m8 186 rfl) rfl
theorem q1946 : (Jvm.Cond.privateMethod ({ cls := "LullabygateModel", name := "planNow", desc := "(II)I" } : Jvm.MethodName)) ∈ lw_tbl := lw_at lw_m8 187 rfl
theorem q1947 : (Jvm.Cond.instanceMethod ({ cls := "LullabygateModel", name := "planNow", desc := "(II)I" } : Jvm.MethodName)) ∈ lw_all := lw_g (lw_at lw_m8 188 rfl) rfl
theorem q1948 : (Jvm.Cond.code ({ cls := "LullabygateModel", name := "planNow", desc := "(II)I" } : Jvm.MethodName) prog_14_method_52_code (10 : Nat) (Option.some Jvm.ClassFile.FieldType.int)) ∈ lw_all := lw_g (lw_at lw_m8 189 rfl) rfl
theorem q1949 : (Jvm.Cond.methodLink "LullabygateModel" (333 : Nat) ({ cls := "LullabygateModel", name := "catches", desc := "()[I" } : Jvm.MethodName)) ∈ lw_all := lw_g (lw_at lw_m8 190 rfl) rfl
theorem q1950 : (Jvm.Cond.privateMethod ({ cls := "LullabygateModel", name := "catches", desc := "()[I" } : Jvm.MethodName)) ∈ lw_tbl := lw_at lw_m8 191 rfl
theorem q1951 : (Jvm.Cond.instanceMethod ({ cls := "LullabygateModel", name := "catches", desc := "()[I" } : Jvm.MethodName)) ∈ lw_all := lw_g (lw_at lw_m8 192 rfl) rfl
theorem q1952 : (Jvm.Cond.code ({ cls := "LullabygateModel", name := "catches", desc := "()[I" } : Jvm.MethodName) prog_14_method_51_code (7 : Nat) (Option.some (Jvm.ClassFile.FieldType.array Jvm.ClassFile.FieldType.int))) ∈ lw_all := lw_g (lw_at lw_m8 193 rfl) rfl
theorem q1953 : (Jvm.Cond.methodLink "LullabygateModel" (330 : Nat) ({ cls := "java/lang/Math", name := "min", desc := "(II)I" } : Jvm.MethodName)) ∈ lw_all := lw_g (lw_at lw_m8 194 rfl) rfl
theorem q1955 : (Jvm.Cond.instanceMethod ({ cls := "LullabygateModel", name := "wouldPay", desc := "(I)I" } : Jvm.MethodName)) ∈ lw_all := lw_g (lw_at lw_m8 196 rfl) rfl
theorem q1956 : (Jvm.Cond.selects "LullabygateModel" ({ cls := "LullabygateModel", name := "wouldPay", desc := "(I)I" } : Jvm.MethodName) ({ cls := "LullabygateModel", name := "wouldPay", desc := "(I)I" } : Jvm.MethodName)) ∈ lw_all := lw_g (lw_at lw_m8 197 rfl) rfl
theorem q1957 : (Jvm.Cond.code ({ cls := "LullabygateModel", name := "wouldPay", desc := "(I)I" } : Jvm.MethodName) prog_14_method_55_code (2 : Nat) (Option.some Jvm.ClassFile.FieldType.int)) ∈ lw_all := lw_g (lw_at lw_m8 198 rfl) rfl
theorem q1958 : (Jvm.Cond.methodLink "LullabygateModel" (340 : Nat) ({ cls := "LullabygateModel", name := "wouldPayNow", desc := "(I)I" } : Jvm.MethodName)) ∈ lw_all := lw_g (lw_at lw_m8 199 rfl) rfl
theorem q1959 : (Jvm.Cond.privateMethod ({ cls := "LullabygateModel", name := "wouldPayNow", desc := "(I)I" } : Jvm.MethodName)) ∈ lw_tbl := lw_at lw_m8 200 rfl
theorem q1960 : (Jvm.Cond.instanceMethod ({ cls := "LullabygateModel", name := "wouldPayNow", desc := "(I)I" } : Jvm.MethodName)) ∈ lw_all := lw_g (lw_at lw_m8 201 rfl) rfl
theorem q1961 : (Jvm.Cond.code ({ cls := "LullabygateModel", name := "wouldPayNow", desc := "(I)I" } : Jvm.MethodName) prog_14_method_54_code (5 : Nat) (Option.some Jvm.ClassFile.FieldType.int)) ∈ lw_all := lw_g (lw_at lw_m8 202 rfl) rfl
theorem q1963 : (Jvm.Cond.instanceMethod ({ cls := "LullabygateModel", name := "isSound", desc := "()Z" } : Jvm.MethodName)) ∈ lw_all := lw_g (lw_at lw_m8 204 rfl) rfl
theorem q1964 : (Jvm.Cond.selects "LullabygateModel" ({ cls := "LullabygateModel", name := "isSound", desc := "()Z" } : Jvm.MethodName) ({ cls := "LullabygateModel", name := "isSound", desc := "()Z" } : Jvm.MethodName)) ∈ lw_all := lw_g (lw_at lw_m8 205 rfl) rfl
theorem q1965 : (Jvm.Cond.code ({ cls := "LullabygateModel", name := "isSound", desc := "()Z" } : Jvm.MethodName) prog_14_method_57_code (1 : Nat) (Option.some Jvm.ClassFile.FieldType.boolean)) ∈ lw_all := lw_g (lw_at lw_m8 206 rfl) rfl
theorem q1966 : (Jvm.Cond.methodLink "LullabygateModel" (343 : Nat) ({ cls := "LullabygateModel", name := "isSoundNow", desc := "()Z" } : Jvm.MethodName)) ∈ lw_all := lw_g (lw_at lw_m8 207 rfl) rfl
theorem q1967 : (Jvm.Cond.privateMethod ({ cls := "LullabygateModel", name := "isSoundNow", desc := "()Z" } : Jvm.MethodName)) ∈ lw_tbl := lw_at lw_m8 208 rfl
theorem q1968 : (Jvm.Cond.instanceMethod ({ cls := "LullabygateModel", name := "isSoundNow", desc := "()Z" } : Jvm.MethodName)) ∈ lw_all := lw_g (lw_at lw_m8 209 rfl) rfl
theorem q1969 : (Jvm.Cond.code ({ cls := "LullabygateModel", name := "isSoundNow", desc := "()Z" } : Jvm.MethodName) prog_14_method_56_code (7 : Nat) (Option.some Jvm.ClassFile.FieldType.boolean)) ∈ lw_all := lw_g (lw_at lw_m8 210 rfl) rfl
theorem q1971 : (Jvm.Cond.instanceMethod ({ cls := "LullabygateModel", name := "digest", desc := "()J" } : Jvm.MethodName)) ∈ lw_all := lw_g (lw_at lw_m8 212 rfl) rfl
theorem q1972 : (Jvm.Cond.selects "LullabygateModel" ({ cls := "LullabygateModel", name := "digest", desc := "()J" } : Jvm.MethodName) ({ cls := "LullabygateModel", name := "digest", desc := "()J" } : Jvm.MethodName)) ∈ lw_all := lw_g (lw_at lw_m8 213 rfl) rfl
theorem q1973 : (Jvm.Cond.code ({ cls := "LullabygateModel", name := "digest", desc := "()J" } : Jvm.MethodName) prog_14_method_59_code (3 : Nat) (Option.some Jvm.ClassFile.FieldType.long)) ∈ lw_all := lw_g (lw_at lw_m8 214 rfl) rfl
theorem q1974 : (Jvm.Cond.constantLong "LullabygateModel" (352 : Nat) (6007 : Int64)) ∈ lw_all := lw_g (lw_at lw_m8 215 rfl) rfl
theorem q1975 : (Jvm.Cond.methodLink "LullabygateModel" (354 : Nat) ({ cls := "LullabygateModel", name := "add", desc := "(J)V" } : Jvm.MethodName)) ∈ lw_all := lw_g (lw_at lw_m8 216 rfl) rfl
theorem q1976 : (Jvm.Cond.privateMethod ({ cls := "LullabygateModel", name := "add", desc := "(J)V" } : Jvm.MethodName)) ∈ lw_tbl := lw_at lw_m8 217 rfl
theorem q1977 : (Jvm.Cond.instanceMethod ({ cls := "LullabygateModel", name := "add", desc := "(J)V" } : Jvm.MethodName)) ∈ lw_all := lw_g (lw_at lw_m8 218 rfl) rfl
theorem q1978 : (Jvm.Cond.code ({ cls := "LullabygateModel", name := "add", desc := "(J)V" } : Jvm.MethodName) prog_14_method_58_code (3 : Nat) (Option.none : Option Jvm.ClassFile.FieldType)) ∈ lw_all := lw_g (lw_at lw_m8 219 rfl) rfl
theorem q1979 : (Jvm.Cond.constantLong "LullabygateModel" (350 : Nat) (31 : Int64)) ∈ lw_all := lw_g (lw_at lw_m8 220 rfl) rfl
theorem q2011 : (Jvm.Cond.castable "LullabygateModel" "java/lang/Object") ∈ lw_tbl := lw_at lw_m9 12 rfl
theorem in_X4 : ∀ w ∈ wsX40, w ∈ lw_all := lw_in wsX40 [1479, 1481, 1483, 1485, 1487, 1489, 1491, 1493, 1495, 1497, 1499, 1501, 1503] (by decide +kernel) (by decide +kernel)
