/-! Lullabygate -/
set_option maxRecDepth 100000
def RX1 : String := "Lullabygate"
def TX1 : u_T := fun k => match k with
  | 0 => ("Lullabygate", "lands", "Ljava/util/List;", true)
  | 1 => ("Lullabygate", "gates", "Ljava/util/List;", true)
  | 2 => ("Lullabygate", "sleepers", "Ljava/util/List;", true)
  | 3 => ("Lullabygate", "parts", "Ljava/util/List;", true)
  | 4 => ("Lullabygate", "hidings", "Ljava/util/List;", true)
  | 5 => ("Lullabygate", "row", "LLullabygate$Row;", true)
  | 6 => ("Lullabygate", "night", "I", false)
  | 7 => ("Lullabygate", "hour", "I", false)
  | _ => ("Lullabygate", "yawns", "I", false)
def tyX1 : Nat → FieldType := fun k => match k with
  | 0 => .object "java/util/List"
  | 1 => .object "java/util/List"
  | 2 => .object "java/util/List"
  | 3 => .object "java/util/List"
  | 4 => .object "java/util/List"
  | 5 => .object "Lullabygate$Row"
  | 6 => .int
  | 7 => .int
  | _ => .int
abbrev wsX10 : List Cond := u_ws RX1 TX1 9
theorem nmX1 : ∀ a, a < 9 → ∀ b, b < 9 → a ≠ b → (TX1 a).2.1 ≠ (TX1 b).2.1 := by decide +kernel
theorem tyX1_ok : ∀ k, k < 9 → parseFieldDescriptor (TX1 k).2.2.1 = some (tyX1 k) := by decide +kernel
abbrev cX1_init : ByteArray := prog_1_method_2_code
def yX1_init : MethodName := ⟨RX1, "<init>", "()V"⟩
def dkwX1_init_4 : List UInt8 := [185, 0, 38, 2, 0, 87, 132, 1, 1, 167, 255, 230, 177]
abbrev dktX1_init_4 : List UInt8 := dkwX1_init_4 ++ []
def dkwX1_init_3 : List UInt8 := [181, 0, 31, 3, 60, 27, 16, 6, 162, 0, 26, 42, 180, 0, 10, 187, 0, 35, 89, 183, 0, 37]
abbrev dktX1_init_3 : List UInt8 := dkwX1_init_3 ++ dktX1_init_4
def dkwX1_init_2 : List UInt8 := [181, 0, 22, 42, 187, 0, 7, 89, 183, 0, 9, 181, 0, 25, 42, 187, 0, 28, 89, 183, 0, 30]
abbrev dktX1_init_2 : List UInt8 := dkwX1_init_2 ++ dktX1_init_3
def dkwX1_init_1 : List UInt8 := [181, 0, 16, 42, 187, 0, 7, 89, 183, 0, 9, 181, 0, 19, 42, 187, 0, 7, 89, 183, 0, 9]
abbrev dktX1_init_1 : List UInt8 := dkwX1_init_1 ++ dktX1_init_2
def dkwX1_init_0 : List UInt8 := [42, 183, 0, 1, 42, 187, 0, 7, 89, 183, 0, 9, 181, 0, 10, 42, 187, 0, 7, 89, 183, 0, 9]
abbrev dktX1_init_0 : List UInt8 := dkwX1_init_0 ++ dktX1_init_1
theorem dksX1_init_0 : cX1_init.data.toList.drop 0 = dktX1_init_0 := by decide +kernel
theorem dksX1_init_1 : cX1_init.data.toList.drop 23 = dktX1_init_1 := dk_seg dksX1_init_0 23 rfl rfl
theorem dksX1_init_2 : cX1_init.data.toList.drop 45 = dktX1_init_2 := dk_seg dksX1_init_1 22 rfl rfl
theorem dksX1_init_3 : cX1_init.data.toList.drop 67 = dktX1_init_3 := dk_seg dksX1_init_2 22 rfl rfl
theorem dksX1_init_4 : cX1_init.data.toList.drop 89 = dktX1_init_4 := dk_seg dksX1_init_3 22 rfl rfl
theorem dX1_init_0 : decode cX1_init 0 = .ok (.aload_n 0, 1) := dk_42 (dk_at dksX1_init_0 0 rfl rfl)
theorem dX1_init_1 : decode cX1_init 1 = .ok (.invokespecial 1, 3) := dk_183 0 1 (dk_at dksX1_init_0 1 rfl rfl)
theorem dX1_init_4 : decode cX1_init 4 = .ok (.aload_n 0, 1) := dk_42 (dk_at dksX1_init_0 4 rfl rfl)
theorem dX1_init_5 : decode cX1_init 5 = .ok (.new 7, 3) := dk_187 0 7 (dk_at dksX1_init_0 5 rfl rfl)
theorem dX1_init_8 : decode cX1_init 8 = .ok (.dup, 1) := dk_89 (dk_at dksX1_init_0 8 rfl rfl)
theorem dX1_init_9 : decode cX1_init 9 = .ok (.invokespecial 9, 3) := dk_183 0 9 (dk_at dksX1_init_0 9 rfl rfl)
theorem dX1_init_12 : decode cX1_init 12 = .ok (.putfield 10, 3) := dk_181 0 10 (dk_at dksX1_init_0 12 rfl rfl)
theorem dX1_init_15 : decode cX1_init 15 = .ok (.aload_n 0, 1) := dk_42 (dk_at dksX1_init_0 15 rfl rfl)
theorem dX1_init_16 : decode cX1_init 16 = .ok (.new 7, 3) := dk_187 0 7 (dk_at dksX1_init_0 16 rfl rfl)
theorem dX1_init_19 : decode cX1_init 19 = .ok (.dup, 1) := dk_89 (dk_at dksX1_init_0 19 rfl rfl)
theorem dX1_init_20 : decode cX1_init 20 = .ok (.invokespecial 9, 3) := dk_183 0 9 (dk_at dksX1_init_0 20 rfl rfl)
theorem dX1_init_23 : decode cX1_init 23 = .ok (.putfield 16, 3) := dk_181 0 16 (dk_at dksX1_init_1 0 rfl rfl)
theorem dX1_init_26 : decode cX1_init 26 = .ok (.aload_n 0, 1) := dk_42 (dk_at dksX1_init_1 3 rfl rfl)
theorem dX1_init_27 : decode cX1_init 27 = .ok (.new 7, 3) := dk_187 0 7 (dk_at dksX1_init_1 4 rfl rfl)
theorem dX1_init_30 : decode cX1_init 30 = .ok (.dup, 1) := dk_89 (dk_at dksX1_init_1 7 rfl rfl)
theorem dX1_init_31 : decode cX1_init 31 = .ok (.invokespecial 9, 3) := dk_183 0 9 (dk_at dksX1_init_1 8 rfl rfl)
theorem dX1_init_34 : decode cX1_init 34 = .ok (.putfield 19, 3) := dk_181 0 19 (dk_at dksX1_init_1 11 rfl rfl)
theorem dX1_init_37 : decode cX1_init 37 = .ok (.aload_n 0, 1) := dk_42 (dk_at dksX1_init_1 14 rfl rfl)
theorem dX1_init_38 : decode cX1_init 38 = .ok (.new 7, 3) := dk_187 0 7 (dk_at dksX1_init_1 15 rfl rfl)
theorem dX1_init_41 : decode cX1_init 41 = .ok (.dup, 1) := dk_89 (dk_at dksX1_init_1 18 rfl rfl)
theorem dX1_init_42 : decode cX1_init 42 = .ok (.invokespecial 9, 3) := dk_183 0 9 (dk_at dksX1_init_1 19 rfl rfl)
theorem dX1_init_45 : decode cX1_init 45 = .ok (.putfield 22, 3) := dk_181 0 22 (dk_at dksX1_init_2 0 rfl rfl)
theorem dX1_init_48 : decode cX1_init 48 = .ok (.aload_n 0, 1) := dk_42 (dk_at dksX1_init_2 3 rfl rfl)
theorem dX1_init_49 : decode cX1_init 49 = .ok (.new 7, 3) := dk_187 0 7 (dk_at dksX1_init_2 4 rfl rfl)
theorem dX1_init_52 : decode cX1_init 52 = .ok (.dup, 1) := dk_89 (dk_at dksX1_init_2 7 rfl rfl)
theorem dX1_init_53 : decode cX1_init 53 = .ok (.invokespecial 9, 3) := dk_183 0 9 (dk_at dksX1_init_2 8 rfl rfl)
theorem dX1_init_56 : decode cX1_init 56 = .ok (.putfield 25, 3) := dk_181 0 25 (dk_at dksX1_init_2 11 rfl rfl)
theorem dX1_init_59 : decode cX1_init 59 = .ok (.aload_n 0, 1) := dk_42 (dk_at dksX1_init_2 14 rfl rfl)
theorem dX1_init_60 : decode cX1_init 60 = .ok (.new 28, 3) := dk_187 0 28 (dk_at dksX1_init_2 15 rfl rfl)
theorem dX1_init_63 : decode cX1_init 63 = .ok (.dup, 1) := dk_89 (dk_at dksX1_init_2 18 rfl rfl)
theorem dX1_init_64 : decode cX1_init 64 = .ok (.invokespecial 30, 3) := dk_183 0 30 (dk_at dksX1_init_2 19 rfl rfl)
theorem dX1_init_67 : decode cX1_init 67 = .ok (.putfield 31, 3) := dk_181 0 31 (dk_at dksX1_init_3 0 rfl rfl)
theorem dX1_init_70 : decode cX1_init 70 = .ok (.iconst 0, 1) := dk_3 (dk_at dksX1_init_3 3 rfl rfl)
theorem dX1_init_71 : decode cX1_init 71 = .ok (.istore_n 1, 1) := dk_60 (dk_at dksX1_init_3 4 rfl rfl)
theorem dX1_init_72 : decode cX1_init 72 = .ok (.iload_n 1, 1) := dk_27 (dk_at dksX1_init_3 5 rfl rfl)
theorem dX1_init_73 : decode cX1_init 73 = .ok (.bipush 6, 2) := dk_16 6 (dk_at dksX1_init_3 6 rfl rfl)
theorem dX1_init_75 : decode cX1_init 75 = .ok (.if_icmp .ge 26, 3) := dk_162 0 26 (dk_at dksX1_init_3 8 rfl rfl)
theorem dX1_init_78 : decode cX1_init 78 = .ok (.aload_n 0, 1) := dk_42 (dk_at dksX1_init_3 11 rfl rfl)
theorem dX1_init_79 : decode cX1_init 79 = .ok (.getfield 10, 3) := dk_180 0 10 (dk_at dksX1_init_3 12 rfl rfl)
theorem dX1_init_82 : decode cX1_init 82 = .ok (.new 35, 3) := dk_187 0 35 (dk_at dksX1_init_3 15 rfl rfl)
theorem dX1_init_85 : decode cX1_init 85 = .ok (.dup, 1) := dk_89 (dk_at dksX1_init_3 18 rfl rfl)
theorem dX1_init_86 : decode cX1_init 86 = .ok (.invokespecial 37, 3) := dk_183 0 37 (dk_at dksX1_init_3 19 rfl rfl)
theorem dX1_init_89 : decode cX1_init 89 = .ok (.invokeinterface 38 2, 5) := by decide +kernel
theorem dX1_init_94 : decode cX1_init 94 = .ok (.pop, 1) := dk_87 (dk_at dksX1_init_4 5 rfl rfl)
theorem dX1_init_95 : decode cX1_init 95 = .ok (.iinc 1 1, 3) := dk_132 1 1 (dk_at dksX1_init_4 6 rfl rfl)
theorem dX1_init_98 : decode cX1_init 98 = .ok (.goto (-26), 3) := dk_167 255 230 (dk_at dksX1_init_4 9 rfl rfl)
theorem dX1_init_101 : decode cX1_init 101 = .ok (.return_, 1) := dk_177 (dk_at dksX1_init_4 12 rfl rfl)
abbrev cX1_isSound : ByteArray := prog_1_method_76_code
def yX1_isSound : MethodName := ⟨RX1, "isSound", "()Z"⟩
theorem dX1_isSound_0 : decode cX1_isSound 0 = .ok (.aload_n 0, 1) := by decide +kernel
theorem dX1_isSound_1 : decode cX1_isSound 1 = .ok (.invokevirtual 506, 3) := by decide +kernel
theorem dX1_isSound_4 : decode cX1_isSound 4 = .ok (.ireturn, 1) := by decide +kernel
abbrev cX1_isSoundNow : ByteArray := prog_1_method_75_code
def yX1_isSoundNow : MethodName := ⟨RX1, "isSoundNow", "()Z"⟩
def dkwX1_isSoundNow_7 : List UInt8 := [42, 29, 182, 0, 185, 154, 0, 7, 4, 167, 0, 4, 3, 126, 61, 132, 3, 1, 167, 255, 180, 28, 172]
abbrev dktX1_isSoundNow_7 : List UInt8 := dkwX1_isSoundNow_7 ++ []
def dkwX1_isSoundNow_6 : List UInt8 := [155, 0, 36, 25, 4, 180, 1, 53, 16, 9, 163, 0, 26, 25, 4, 178, 1, 50, 182, 0, 122, 153, 0, 11]
abbrev dktX1_isSoundNow_6 : List UInt8 := dkwX1_isSoundNow_6 ++ dktX1_isSoundNow_7
def dkwX1_isSoundNow_5 : List UInt8 := [162, 0, 69, 42, 180, 0, 19, 29, 185, 0, 61, 2, 0, 192, 0, 71, 58, 4, 28, 25, 4, 180, 1, 53]
abbrev dktX1_isSoundNow_5 : List UInt8 := dkwX1_isSoundNow_5 ++ dktX1_isSoundNow_6
def dkwX1_isSoundNow_4 : List UInt8 := [182, 1, 247, 126, 61, 132, 3, 1, 167, 255, 220, 3, 62, 29, 42, 180, 0, 19, 185, 0, 65, 1, 0]
abbrev dktX1_isSoundNow_4 : List UInt8 := dkwX1_isSoundNow_4 ++ dktX1_isSoundNow_5
def dkwX1_isSoundNow_3 : List UInt8 := [185, 0, 65, 1, 0, 162, 0, 29, 28, 42, 42, 180, 0, 16, 29, 185, 0, 61, 2, 0, 192, 0, 69]
abbrev dktX1_isSoundNow_3 : List UInt8 := dkwX1_isSoundNow_3 ++ dktX1_isSoundNow_4
def dkwX1_isSoundNow_2 : List UInt8 := [185, 0, 65, 1, 0, 16, 40, 163, 0, 7, 4, 167, 0, 4, 3, 61, 3, 62, 29, 42, 180, 0, 16]
abbrev dktX1_isSoundNow_2 : List UInt8 := dkwX1_isSoundNow_2 ++ dktX1_isSoundNow_3
def dkwX1_isSoundNow_1 : List UInt8 := [180, 0, 90, 96, 60, 132, 2, 1, 167, 255, 228, 27, 16, 30, 160, 0, 21, 42, 180, 0, 25]
abbrev dktX1_isSoundNow_1 : List UInt8 := dkwX1_isSoundNow_1 ++ dktX1_isSoundNow_2
def dkwX1_isSoundNow_0 : List UInt8 := [3, 60, 3, 61, 28, 16, 6, 162, 0, 28, 27, 42, 180, 0, 10, 28, 185, 0, 61, 2, 0, 192, 0, 35]
abbrev dktX1_isSoundNow_0 : List UInt8 := dkwX1_isSoundNow_0 ++ dktX1_isSoundNow_1
theorem dksX1_isSoundNow_0 : cX1_isSoundNow.data.toList.drop 0 = dktX1_isSoundNow_0 := by decide +kernel
theorem dksX1_isSoundNow_1 : cX1_isSoundNow.data.toList.drop 24 = dktX1_isSoundNow_1 := dk_seg dksX1_isSoundNow_0 24 rfl rfl
theorem dksX1_isSoundNow_2 : cX1_isSoundNow.data.toList.drop 45 = dktX1_isSoundNow_2 := dk_seg dksX1_isSoundNow_1 21 rfl rfl
theorem dksX1_isSoundNow_3 : cX1_isSoundNow.data.toList.drop 68 = dktX1_isSoundNow_3 := dk_seg dksX1_isSoundNow_2 23 rfl rfl
theorem dksX1_isSoundNow_4 : cX1_isSoundNow.data.toList.drop 91 = dktX1_isSoundNow_4 := dk_seg dksX1_isSoundNow_3 23 rfl rfl
theorem dksX1_isSoundNow_5 : cX1_isSoundNow.data.toList.drop 114 = dktX1_isSoundNow_5 := dk_seg dksX1_isSoundNow_4 23 rfl rfl
theorem dksX1_isSoundNow_6 : cX1_isSoundNow.data.toList.drop 138 = dktX1_isSoundNow_6 := dk_seg dksX1_isSoundNow_5 24 rfl rfl
theorem dksX1_isSoundNow_7 : cX1_isSoundNow.data.toList.drop 162 = dktX1_isSoundNow_7 := dk_seg dksX1_isSoundNow_6 24 rfl rfl
theorem dX1_isSoundNow_0 : decode cX1_isSoundNow 0 = .ok (.iconst 0, 1) := dk_3 (dk_at dksX1_isSoundNow_0 0 rfl rfl)
theorem dX1_isSoundNow_1 : decode cX1_isSoundNow 1 = .ok (.istore_n 1, 1) := dk_60 (dk_at dksX1_isSoundNow_0 1 rfl rfl)
theorem dX1_isSoundNow_2 : decode cX1_isSoundNow 2 = .ok (.iconst 0, 1) := dk_3 (dk_at dksX1_isSoundNow_0 2 rfl rfl)
theorem dX1_isSoundNow_3 : decode cX1_isSoundNow 3 = .ok (.istore_n 2, 1) := dk_61 (dk_at dksX1_isSoundNow_0 3 rfl rfl)
theorem dX1_isSoundNow_4 : decode cX1_isSoundNow 4 = .ok (.iload_n 2, 1) := dk_28 (dk_at dksX1_isSoundNow_0 4 rfl rfl)
theorem dX1_isSoundNow_5 : decode cX1_isSoundNow 5 = .ok (.bipush 6, 2) := dk_16 6 (dk_at dksX1_isSoundNow_0 5 rfl rfl)
theorem dX1_isSoundNow_7 : decode cX1_isSoundNow 7 = .ok (.if_icmp .ge 28, 3) := dk_162 0 28 (dk_at dksX1_isSoundNow_0 7 rfl rfl)
theorem dX1_isSoundNow_10 : decode cX1_isSoundNow 10 = .ok (.iload_n 1, 1) := dk_27 (dk_at dksX1_isSoundNow_0 10 rfl rfl)
theorem dX1_isSoundNow_11 : decode cX1_isSoundNow 11 = .ok (.aload_n 0, 1) := dk_42 (dk_at dksX1_isSoundNow_0 11 rfl rfl)
theorem dX1_isSoundNow_12 : decode cX1_isSoundNow 12 = .ok (.getfield 10, 3) := dk_180 0 10 (dk_at dksX1_isSoundNow_0 12 rfl rfl)
theorem dX1_isSoundNow_15 : decode cX1_isSoundNow 15 = .ok (.iload_n 2, 1) := dk_28 (dk_at dksX1_isSoundNow_0 15 rfl rfl)
theorem dX1_isSoundNow_16 : decode cX1_isSoundNow 16 = .ok (.invokeinterface 61 2, 5) := by decide +kernel
theorem dX1_isSoundNow_21 : decode cX1_isSoundNow 21 = .ok (.checkcast 35, 3) := dk_192 0 35 (dk_at dksX1_isSoundNow_0 21 rfl rfl)
theorem dX1_isSoundNow_24 : decode cX1_isSoundNow 24 = .ok (.getfield 90, 3) := dk_180 0 90 (dk_at dksX1_isSoundNow_1 0 rfl rfl)
theorem dX1_isSoundNow_27 : decode cX1_isSoundNow 27 = .ok (.iadd, 1) := dk_96 (dk_at dksX1_isSoundNow_1 3 rfl rfl)
theorem dX1_isSoundNow_28 : decode cX1_isSoundNow 28 = .ok (.istore_n 1, 1) := dk_60 (dk_at dksX1_isSoundNow_1 4 rfl rfl)
theorem dX1_isSoundNow_29 : decode cX1_isSoundNow 29 = .ok (.iinc 2 1, 3) := dk_132 2 1 (dk_at dksX1_isSoundNow_1 5 rfl rfl)
theorem dX1_isSoundNow_32 : decode cX1_isSoundNow 32 = .ok (.goto (-28), 3) := dk_167 255 228 (dk_at dksX1_isSoundNow_1 8 rfl rfl)
theorem dX1_isSoundNow_35 : decode cX1_isSoundNow 35 = .ok (.iload_n 1, 1) := dk_27 (dk_at dksX1_isSoundNow_1 11 rfl rfl)
theorem dX1_isSoundNow_36 : decode cX1_isSoundNow 36 = .ok (.bipush 30, 2) := dk_16 30 (dk_at dksX1_isSoundNow_1 12 rfl rfl)
theorem dX1_isSoundNow_38 : decode cX1_isSoundNow 38 = .ok (.if_icmp .ne 21, 3) := dk_160 0 21 (dk_at dksX1_isSoundNow_1 14 rfl rfl)
theorem dX1_isSoundNow_41 : decode cX1_isSoundNow 41 = .ok (.aload_n 0, 1) := dk_42 (dk_at dksX1_isSoundNow_1 17 rfl rfl)
theorem dX1_isSoundNow_42 : decode cX1_isSoundNow 42 = .ok (.getfield 25, 3) := dk_180 0 25 (dk_at dksX1_isSoundNow_1 18 rfl rfl)
theorem dX1_isSoundNow_45 : decode cX1_isSoundNow 45 = .ok (.invokeinterface 65 1, 5) := by decide +kernel
theorem dX1_isSoundNow_50 : decode cX1_isSoundNow 50 = .ok (.bipush 40, 2) := dk_16 40 (dk_at dksX1_isSoundNow_2 5 rfl rfl)
theorem dX1_isSoundNow_52 : decode cX1_isSoundNow 52 = .ok (.if_icmp .gt 7, 3) := dk_163 0 7 (dk_at dksX1_isSoundNow_2 7 rfl rfl)
theorem dX1_isSoundNow_55 : decode cX1_isSoundNow 55 = .ok (.iconst 1, 1) := dk_4 (dk_at dksX1_isSoundNow_2 10 rfl rfl)
theorem dX1_isSoundNow_56 : decode cX1_isSoundNow 56 = .ok (.goto 4, 3) := dk_167 0 4 (dk_at dksX1_isSoundNow_2 11 rfl rfl)
theorem dX1_isSoundNow_59 : decode cX1_isSoundNow 59 = .ok (.iconst 0, 1) := dk_3 (dk_at dksX1_isSoundNow_2 14 rfl rfl)
theorem dX1_isSoundNow_60 : decode cX1_isSoundNow 60 = .ok (.istore_n 2, 1) := dk_61 (dk_at dksX1_isSoundNow_2 15 rfl rfl)
theorem dX1_isSoundNow_61 : decode cX1_isSoundNow 61 = .ok (.iconst 0, 1) := dk_3 (dk_at dksX1_isSoundNow_2 16 rfl rfl)
theorem dX1_isSoundNow_62 : decode cX1_isSoundNow 62 = .ok (.istore_n 3, 1) := dk_62 (dk_at dksX1_isSoundNow_2 17 rfl rfl)
theorem dX1_isSoundNow_63 : decode cX1_isSoundNow 63 = .ok (.iload_n 3, 1) := dk_29 (dk_at dksX1_isSoundNow_2 18 rfl rfl)
theorem dX1_isSoundNow_64 : decode cX1_isSoundNow 64 = .ok (.aload_n 0, 1) := dk_42 (dk_at dksX1_isSoundNow_2 19 rfl rfl)
theorem dX1_isSoundNow_65 : decode cX1_isSoundNow 65 = .ok (.getfield 16, 3) := dk_180 0 16 (dk_at dksX1_isSoundNow_2 20 rfl rfl)
theorem dX1_isSoundNow_68 : decode cX1_isSoundNow 68 = .ok (.invokeinterface 65 1, 5) := by decide +kernel
theorem dX1_isSoundNow_73 : decode cX1_isSoundNow 73 = .ok (.if_icmp .ge 29, 3) := dk_162 0 29 (dk_at dksX1_isSoundNow_3 5 rfl rfl)
theorem dX1_isSoundNow_76 : decode cX1_isSoundNow 76 = .ok (.iload_n 2, 1) := dk_28 (dk_at dksX1_isSoundNow_3 8 rfl rfl)
theorem dX1_isSoundNow_77 : decode cX1_isSoundNow 77 = .ok (.aload_n 0, 1) := dk_42 (dk_at dksX1_isSoundNow_3 9 rfl rfl)
theorem dX1_isSoundNow_78 : decode cX1_isSoundNow 78 = .ok (.aload_n 0, 1) := dk_42 (dk_at dksX1_isSoundNow_3 10 rfl rfl)
theorem dX1_isSoundNow_79 : decode cX1_isSoundNow 79 = .ok (.getfield 16, 3) := dk_180 0 16 (dk_at dksX1_isSoundNow_3 11 rfl rfl)
theorem dX1_isSoundNow_82 : decode cX1_isSoundNow 82 = .ok (.iload_n 3, 1) := dk_29 (dk_at dksX1_isSoundNow_3 14 rfl rfl)
theorem dX1_isSoundNow_83 : decode cX1_isSoundNow 83 = .ok (.invokeinterface 61 2, 5) := by decide +kernel
theorem dX1_isSoundNow_88 : decode cX1_isSoundNow 88 = .ok (.checkcast 69, 3) := dk_192 0 69 (dk_at dksX1_isSoundNow_3 20 rfl rfl)
theorem dX1_isSoundNow_91 : decode cX1_isSoundNow 91 = .ok (.invokevirtual 503, 3) := dk_182 1 247 (dk_at dksX1_isSoundNow_4 0 rfl rfl)
theorem dX1_isSoundNow_94 : decode cX1_isSoundNow 94 = .ok (.iand, 1) := dk_126 (dk_at dksX1_isSoundNow_4 3 rfl rfl)
theorem dX1_isSoundNow_95 : decode cX1_isSoundNow 95 = .ok (.istore_n 2, 1) := dk_61 (dk_at dksX1_isSoundNow_4 4 rfl rfl)
theorem dX1_isSoundNow_96 : decode cX1_isSoundNow 96 = .ok (.iinc 3 1, 3) := dk_132 3 1 (dk_at dksX1_isSoundNow_4 5 rfl rfl)
theorem dX1_isSoundNow_99 : decode cX1_isSoundNow 99 = .ok (.goto (-36), 3) := dk_167 255 220 (dk_at dksX1_isSoundNow_4 8 rfl rfl)
theorem dX1_isSoundNow_102 : decode cX1_isSoundNow 102 = .ok (.iconst 0, 1) := dk_3 (dk_at dksX1_isSoundNow_4 11 rfl rfl)
theorem dX1_isSoundNow_103 : decode cX1_isSoundNow 103 = .ok (.istore_n 3, 1) := dk_62 (dk_at dksX1_isSoundNow_4 12 rfl rfl)
theorem dX1_isSoundNow_104 : decode cX1_isSoundNow 104 = .ok (.iload_n 3, 1) := dk_29 (dk_at dksX1_isSoundNow_4 13 rfl rfl)
theorem dX1_isSoundNow_105 : decode cX1_isSoundNow 105 = .ok (.aload_n 0, 1) := dk_42 (dk_at dksX1_isSoundNow_4 14 rfl rfl)
theorem dX1_isSoundNow_106 : decode cX1_isSoundNow 106 = .ok (.getfield 19, 3) := dk_180 0 19 (dk_at dksX1_isSoundNow_4 15 rfl rfl)
theorem dX1_isSoundNow_109 : decode cX1_isSoundNow 109 = .ok (.invokeinterface 65 1, 5) := by decide +kernel
theorem dX1_isSoundNow_114 : decode cX1_isSoundNow 114 = .ok (.if_icmp .ge 69, 3) := dk_162 0 69 (dk_at dksX1_isSoundNow_5 0 rfl rfl)
theorem dX1_isSoundNow_117 : decode cX1_isSoundNow 117 = .ok (.aload_n 0, 1) := dk_42 (dk_at dksX1_isSoundNow_5 3 rfl rfl)
theorem dX1_isSoundNow_118 : decode cX1_isSoundNow 118 = .ok (.getfield 19, 3) := dk_180 0 19 (dk_at dksX1_isSoundNow_5 4 rfl rfl)
theorem dX1_isSoundNow_121 : decode cX1_isSoundNow 121 = .ok (.iload_n 3, 1) := dk_29 (dk_at dksX1_isSoundNow_5 7 rfl rfl)
theorem dX1_isSoundNow_122 : decode cX1_isSoundNow 122 = .ok (.invokeinterface 61 2, 5) := by decide +kernel
theorem dX1_isSoundNow_127 : decode cX1_isSoundNow 127 = .ok (.checkcast 71, 3) := dk_192 0 71 (dk_at dksX1_isSoundNow_5 13 rfl rfl)
theorem dX1_isSoundNow_130 : decode cX1_isSoundNow 130 = .ok (.astore 4, 2) := dk_58 4 (dk_at dksX1_isSoundNow_5 16 rfl rfl)
theorem dX1_isSoundNow_132 : decode cX1_isSoundNow 132 = .ok (.iload_n 2, 1) := dk_28 (dk_at dksX1_isSoundNow_5 18 rfl rfl)
theorem dX1_isSoundNow_133 : decode cX1_isSoundNow 133 = .ok (.aload 4, 2) := dk_25 4 (dk_at dksX1_isSoundNow_5 19 rfl rfl)
theorem dX1_isSoundNow_135 : decode cX1_isSoundNow 135 = .ok (.getfield 309, 3) := dk_180 1 53 (dk_at dksX1_isSoundNow_5 21 rfl rfl)
theorem dX1_isSoundNow_138 : decode cX1_isSoundNow 138 = .ok (.ifCond .lt 36, 3) := dk_155 0 36 (dk_at dksX1_isSoundNow_6 0 rfl rfl)
theorem dX1_isSoundNow_141 : decode cX1_isSoundNow 141 = .ok (.aload 4, 2) := dk_25 4 (dk_at dksX1_isSoundNow_6 3 rfl rfl)
theorem dX1_isSoundNow_143 : decode cX1_isSoundNow 143 = .ok (.getfield 309, 3) := dk_180 1 53 (dk_at dksX1_isSoundNow_6 5 rfl rfl)
theorem dX1_isSoundNow_146 : decode cX1_isSoundNow 146 = .ok (.bipush 9, 2) := dk_16 9 (dk_at dksX1_isSoundNow_6 8 rfl rfl)
theorem dX1_isSoundNow_148 : decode cX1_isSoundNow 148 = .ok (.if_icmp .gt 26, 3) := dk_163 0 26 (dk_at dksX1_isSoundNow_6 10 rfl rfl)
theorem dX1_isSoundNow_151 : decode cX1_isSoundNow 151 = .ok (.aload 4, 2) := dk_25 4 (dk_at dksX1_isSoundNow_6 13 rfl rfl)
theorem dX1_isSoundNow_153 : decode cX1_isSoundNow 153 = .ok (.getstatic 306, 3) := dk_178 1 50 (dk_at dksX1_isSoundNow_6 15 rfl rfl)
theorem dX1_isSoundNow_156 : decode cX1_isSoundNow 156 = .ok (.invokevirtual 122, 3) := dk_182 0 122 (dk_at dksX1_isSoundNow_6 18 rfl rfl)
theorem dX1_isSoundNow_159 : decode cX1_isSoundNow 159 = .ok (.ifCond .eq 11, 3) := dk_153 0 11 (dk_at dksX1_isSoundNow_6 21 rfl rfl)
theorem dX1_isSoundNow_162 : decode cX1_isSoundNow 162 = .ok (.aload_n 0, 1) := dk_42 (dk_at dksX1_isSoundNow_7 0 rfl rfl)
theorem dX1_isSoundNow_163 : decode cX1_isSoundNow 163 = .ok (.iload_n 3, 1) := dk_29 (dk_at dksX1_isSoundNow_7 1 rfl rfl)
theorem dX1_isSoundNow_164 : decode cX1_isSoundNow 164 = .ok (.invokevirtual 185, 3) := dk_182 0 185 (dk_at dksX1_isSoundNow_7 2 rfl rfl)
theorem dX1_isSoundNow_167 : decode cX1_isSoundNow 167 = .ok (.ifCond .ne 7, 3) := dk_154 0 7 (dk_at dksX1_isSoundNow_7 5 rfl rfl)
theorem dX1_isSoundNow_170 : decode cX1_isSoundNow 170 = .ok (.iconst 1, 1) := dk_4 (dk_at dksX1_isSoundNow_7 8 rfl rfl)
theorem dX1_isSoundNow_171 : decode cX1_isSoundNow 171 = .ok (.goto 4, 3) := dk_167 0 4 (dk_at dksX1_isSoundNow_7 9 rfl rfl)
theorem dX1_isSoundNow_174 : decode cX1_isSoundNow 174 = .ok (.iconst 0, 1) := dk_3 (dk_at dksX1_isSoundNow_7 12 rfl rfl)
theorem dX1_isSoundNow_175 : decode cX1_isSoundNow 175 = .ok (.iand, 1) := dk_126 (dk_at dksX1_isSoundNow_7 13 rfl rfl)
theorem dX1_isSoundNow_176 : decode cX1_isSoundNow 176 = .ok (.istore_n 2, 1) := dk_61 (dk_at dksX1_isSoundNow_7 14 rfl rfl)
theorem dX1_isSoundNow_177 : decode cX1_isSoundNow 177 = .ok (.iinc 3 1, 3) := dk_132 3 1 (dk_at dksX1_isSoundNow_7 15 rfl rfl)
theorem dX1_isSoundNow_180 : decode cX1_isSoundNow 180 = .ok (.goto (-76), 3) := dk_167 255 180 (dk_at dksX1_isSoundNow_7 18 rfl rfl)
theorem dX1_isSoundNow_183 : decode cX1_isSoundNow 183 = .ok (.iload_n 2, 1) := dk_28 (dk_at dksX1_isSoundNow_7 21 rfl rfl)
theorem dX1_isSoundNow_184 : decode cX1_isSoundNow 184 = .ok (.ireturn, 1) := dk_172 (dk_at dksX1_isSoundNow_7 22 rfl rfl)
abbrev cX1_isQueueSound : ByteArray := prog_1_method_74_code
def yX1_isQueueSound : MethodName := ⟨RX1, "isQueueSound", "(LLullabygate$Gate;)Z"⟩
def dkwX1_isQueueSound_5 : List UInt8 := [182, 0, 206, 28, 159, 0, 5, 3, 172, 132, 2, 1, 167, 255, 133, 4, 172]
abbrev dktX1_isQueueSound_5 : List UInt8 := dkwX1_isQueueSound_5 ++ []
def dkwX1_isQueueSound_4 : List UInt8 := [185, 0, 61, 2, 0, 43, 166, 0, 23, 43, 45, 180, 0, 134, 182, 0, 188, 153, 0, 12, 43, 45]
abbrev dktX1_isQueueSound_4 : List UInt8 := dkwX1_isQueueSound_4 ++ dktX1_isQueueSound_5
def dkwX1_isQueueSound_3 : List UInt8 := [21, 4, 154, 0, 50, 45, 178, 0, 192, 182, 0, 122, 153, 0, 40, 42, 180, 0, 16, 45, 180, 0, 198]
abbrev dktX1_isQueueSound_3 : List UInt8 := dkwX1_isQueueSound_3 ++ dktX1_isQueueSound_4
def dkwX1_isQueueSound_2 : List UInt8 := [28, 4, 100, 185, 0, 61, 2, 0, 192, 0, 71, 180, 1, 210, 154, 0, 7, 4, 167, 0, 4, 3, 54, 4]
abbrev dktX1_isQueueSound_2 : List UInt8 := dkwX1_isQueueSound_2 ++ dktX1_isQueueSound_3
def dkwX1_isQueueSound_1 : List UInt8 := [185, 0, 61, 2, 0, 192, 0, 71, 78, 28, 158, 0, 35, 45, 180, 1, 210, 153, 0, 28, 43, 180, 0, 209]
abbrev dktX1_isQueueSound_1 : List UInt8 := dkwX1_isQueueSound_1 ++ dktX1_isQueueSound_2
def dkwX1_isQueueSound_0 : List UInt8 := [3, 61, 28, 43, 180, 0, 209, 185, 0, 65, 1, 0, 162, 0, 116, 43, 180, 0, 209, 28]
abbrev dktX1_isQueueSound_0 : List UInt8 := dkwX1_isQueueSound_0 ++ dktX1_isQueueSound_1
theorem dksX1_isQueueSound_0 : cX1_isQueueSound.data.toList.drop 0 = dktX1_isQueueSound_0 := by decide +kernel
theorem dksX1_isQueueSound_1 : cX1_isQueueSound.data.toList.drop 20 = dktX1_isQueueSound_1 := dk_seg dksX1_isQueueSound_0 20 rfl rfl
theorem dksX1_isQueueSound_2 : cX1_isQueueSound.data.toList.drop 44 = dktX1_isQueueSound_2 := dk_seg dksX1_isQueueSound_1 24 rfl rfl
theorem dksX1_isQueueSound_3 : cX1_isQueueSound.data.toList.drop 68 = dktX1_isQueueSound_3 := dk_seg dksX1_isQueueSound_2 24 rfl rfl
theorem dksX1_isQueueSound_4 : cX1_isQueueSound.data.toList.drop 91 = dktX1_isQueueSound_4 := dk_seg dksX1_isQueueSound_3 23 rfl rfl
theorem dksX1_isQueueSound_5 : cX1_isQueueSound.data.toList.drop 113 = dktX1_isQueueSound_5 := dk_seg dksX1_isQueueSound_4 22 rfl rfl
theorem dX1_isQueueSound_0 : decode cX1_isQueueSound 0 = .ok (.iconst 0, 1) := dk_3 (dk_at dksX1_isQueueSound_0 0 rfl rfl)
theorem dX1_isQueueSound_1 : decode cX1_isQueueSound 1 = .ok (.istore_n 2, 1) := dk_61 (dk_at dksX1_isQueueSound_0 1 rfl rfl)
theorem dX1_isQueueSound_2 : decode cX1_isQueueSound 2 = .ok (.iload_n 2, 1) := dk_28 (dk_at dksX1_isQueueSound_0 2 rfl rfl)
theorem dX1_isQueueSound_3 : decode cX1_isQueueSound 3 = .ok (.aload_n 1, 1) := dk_43 (dk_at dksX1_isQueueSound_0 3 rfl rfl)
theorem dX1_isQueueSound_4 : decode cX1_isQueueSound 4 = .ok (.getfield 209, 3) := dk_180 0 209 (dk_at dksX1_isQueueSound_0 4 rfl rfl)
theorem dX1_isQueueSound_7 : decode cX1_isQueueSound 7 = .ok (.invokeinterface 65 1, 5) := by decide +kernel
theorem dX1_isQueueSound_12 : decode cX1_isQueueSound 12 = .ok (.if_icmp .ge 116, 3) := dk_162 0 116 (dk_at dksX1_isQueueSound_0 12 rfl rfl)
theorem dX1_isQueueSound_15 : decode cX1_isQueueSound 15 = .ok (.aload_n 1, 1) := dk_43 (dk_at dksX1_isQueueSound_0 15 rfl rfl)
theorem dX1_isQueueSound_16 : decode cX1_isQueueSound 16 = .ok (.getfield 209, 3) := dk_180 0 209 (dk_at dksX1_isQueueSound_0 16 rfl rfl)
theorem dX1_isQueueSound_19 : decode cX1_isQueueSound 19 = .ok (.iload_n 2, 1) := dk_28 (dk_at dksX1_isQueueSound_0 19 rfl rfl)
theorem dX1_isQueueSound_20 : decode cX1_isQueueSound 20 = .ok (.invokeinterface 61 2, 5) := by decide +kernel
theorem dX1_isQueueSound_25 : decode cX1_isQueueSound 25 = .ok (.checkcast 71, 3) := dk_192 0 71 (dk_at dksX1_isQueueSound_1 5 rfl rfl)
theorem dX1_isQueueSound_28 : decode cX1_isQueueSound 28 = .ok (.astore_n 3, 1) := dk_78 (dk_at dksX1_isQueueSound_1 8 rfl rfl)
theorem dX1_isQueueSound_29 : decode cX1_isQueueSound 29 = .ok (.iload_n 2, 1) := dk_28 (dk_at dksX1_isQueueSound_1 9 rfl rfl)
theorem dX1_isQueueSound_30 : decode cX1_isQueueSound 30 = .ok (.ifCond .le 35, 3) := dk_158 0 35 (dk_at dksX1_isQueueSound_1 10 rfl rfl)
theorem dX1_isQueueSound_33 : decode cX1_isQueueSound 33 = .ok (.aload_n 3, 1) := dk_45 (dk_at dksX1_isQueueSound_1 13 rfl rfl)
theorem dX1_isQueueSound_34 : decode cX1_isQueueSound 34 = .ok (.getfield 466, 3) := dk_180 1 210 (dk_at dksX1_isQueueSound_1 14 rfl rfl)
theorem dX1_isQueueSound_37 : decode cX1_isQueueSound 37 = .ok (.ifCond .eq 28, 3) := dk_153 0 28 (dk_at dksX1_isQueueSound_1 17 rfl rfl)
theorem dX1_isQueueSound_40 : decode cX1_isQueueSound 40 = .ok (.aload_n 1, 1) := dk_43 (dk_at dksX1_isQueueSound_1 20 rfl rfl)
theorem dX1_isQueueSound_41 : decode cX1_isQueueSound 41 = .ok (.getfield 209, 3) := dk_180 0 209 (dk_at dksX1_isQueueSound_1 21 rfl rfl)
theorem dX1_isQueueSound_44 : decode cX1_isQueueSound 44 = .ok (.iload_n 2, 1) := dk_28 (dk_at dksX1_isQueueSound_2 0 rfl rfl)
theorem dX1_isQueueSound_45 : decode cX1_isQueueSound 45 = .ok (.iconst 1, 1) := dk_4 (dk_at dksX1_isQueueSound_2 1 rfl rfl)
theorem dX1_isQueueSound_46 : decode cX1_isQueueSound 46 = .ok (.isub, 1) := dk_100 (dk_at dksX1_isQueueSound_2 2 rfl rfl)
theorem dX1_isQueueSound_47 : decode cX1_isQueueSound 47 = .ok (.invokeinterface 61 2, 5) := by decide +kernel
theorem dX1_isQueueSound_52 : decode cX1_isQueueSound 52 = .ok (.checkcast 71, 3) := dk_192 0 71 (dk_at dksX1_isQueueSound_2 8 rfl rfl)
theorem dX1_isQueueSound_55 : decode cX1_isQueueSound 55 = .ok (.getfield 466, 3) := dk_180 1 210 (dk_at dksX1_isQueueSound_2 11 rfl rfl)
theorem dX1_isQueueSound_58 : decode cX1_isQueueSound 58 = .ok (.ifCond .ne 7, 3) := dk_154 0 7 (dk_at dksX1_isQueueSound_2 14 rfl rfl)
theorem dX1_isQueueSound_61 : decode cX1_isQueueSound 61 = .ok (.iconst 1, 1) := dk_4 (dk_at dksX1_isQueueSound_2 17 rfl rfl)
theorem dX1_isQueueSound_62 : decode cX1_isQueueSound 62 = .ok (.goto 4, 3) := dk_167 0 4 (dk_at dksX1_isQueueSound_2 18 rfl rfl)
theorem dX1_isQueueSound_65 : decode cX1_isQueueSound 65 = .ok (.iconst 0, 1) := dk_3 (dk_at dksX1_isQueueSound_2 21 rfl rfl)
theorem dX1_isQueueSound_66 : decode cX1_isQueueSound 66 = .ok (.istore 4, 2) := dk_54 4 (dk_at dksX1_isQueueSound_2 22 rfl rfl)
theorem dX1_isQueueSound_68 : decode cX1_isQueueSound 68 = .ok (.iload 4, 2) := dk_21 4 (dk_at dksX1_isQueueSound_3 0 rfl rfl)
theorem dX1_isQueueSound_70 : decode cX1_isQueueSound 70 = .ok (.ifCond .ne 50, 3) := dk_154 0 50 (dk_at dksX1_isQueueSound_3 2 rfl rfl)
theorem dX1_isQueueSound_73 : decode cX1_isQueueSound 73 = .ok (.aload_n 3, 1) := dk_45 (dk_at dksX1_isQueueSound_3 5 rfl rfl)
theorem dX1_isQueueSound_74 : decode cX1_isQueueSound 74 = .ok (.getstatic 192, 3) := dk_178 0 192 (dk_at dksX1_isQueueSound_3 6 rfl rfl)
theorem dX1_isQueueSound_77 : decode cX1_isQueueSound 77 = .ok (.invokevirtual 122, 3) := dk_182 0 122 (dk_at dksX1_isQueueSound_3 9 rfl rfl)
theorem dX1_isQueueSound_80 : decode cX1_isQueueSound 80 = .ok (.ifCond .eq 40, 3) := dk_153 0 40 (dk_at dksX1_isQueueSound_3 12 rfl rfl)
theorem dX1_isQueueSound_83 : decode cX1_isQueueSound 83 = .ok (.aload_n 0, 1) := dk_42 (dk_at dksX1_isQueueSound_3 15 rfl rfl)
theorem dX1_isQueueSound_84 : decode cX1_isQueueSound 84 = .ok (.getfield 16, 3) := dk_180 0 16 (dk_at dksX1_isQueueSound_3 16 rfl rfl)
theorem dX1_isQueueSound_87 : decode cX1_isQueueSound 87 = .ok (.aload_n 3, 1) := dk_45 (dk_at dksX1_isQueueSound_3 19 rfl rfl)
theorem dX1_isQueueSound_88 : decode cX1_isQueueSound 88 = .ok (.getfield 198, 3) := dk_180 0 198 (dk_at dksX1_isQueueSound_3 20 rfl rfl)
theorem dX1_isQueueSound_91 : decode cX1_isQueueSound 91 = .ok (.invokeinterface 61 2, 5) := by decide +kernel
theorem dX1_isQueueSound_96 : decode cX1_isQueueSound 96 = .ok (.aload_n 1, 1) := dk_43 (dk_at dksX1_isQueueSound_4 5 rfl rfl)
theorem dX1_isQueueSound_97 : decode cX1_isQueueSound 97 = .ok (.if_acmp .ne 23, 3) := dk_166 0 23 (dk_at dksX1_isQueueSound_4 6 rfl rfl)
theorem dX1_isQueueSound_100 : decode cX1_isQueueSound 100 = .ok (.aload_n 1, 1) := dk_43 (dk_at dksX1_isQueueSound_4 9 rfl rfl)
theorem dX1_isQueueSound_101 : decode cX1_isQueueSound 101 = .ok (.aload_n 3, 1) := dk_45 (dk_at dksX1_isQueueSound_4 10 rfl rfl)
theorem dX1_isQueueSound_102 : decode cX1_isQueueSound 102 = .ok (.getfield 134, 3) := dk_180 0 134 (dk_at dksX1_isQueueSound_4 11 rfl rfl)
theorem dX1_isQueueSound_105 : decode cX1_isQueueSound 105 = .ok (.invokevirtual 188, 3) := dk_182 0 188 (dk_at dksX1_isQueueSound_4 14 rfl rfl)
theorem dX1_isQueueSound_108 : decode cX1_isQueueSound 108 = .ok (.ifCond .eq 12, 3) := dk_153 0 12 (dk_at dksX1_isQueueSound_4 17 rfl rfl)
theorem dX1_isQueueSound_111 : decode cX1_isQueueSound 111 = .ok (.aload_n 1, 1) := dk_43 (dk_at dksX1_isQueueSound_4 20 rfl rfl)
theorem dX1_isQueueSound_112 : decode cX1_isQueueSound 112 = .ok (.aload_n 3, 1) := dk_45 (dk_at dksX1_isQueueSound_4 21 rfl rfl)
theorem dX1_isQueueSound_113 : decode cX1_isQueueSound 113 = .ok (.invokevirtual 206, 3) := dk_182 0 206 (dk_at dksX1_isQueueSound_5 0 rfl rfl)
theorem dX1_isQueueSound_116 : decode cX1_isQueueSound 116 = .ok (.iload_n 2, 1) := dk_28 (dk_at dksX1_isQueueSound_5 3 rfl rfl)
theorem dX1_isQueueSound_117 : decode cX1_isQueueSound 117 = .ok (.if_icmp .eq 5, 3) := dk_159 0 5 (dk_at dksX1_isQueueSound_5 4 rfl rfl)
theorem dX1_isQueueSound_120 : decode cX1_isQueueSound 120 = .ok (.iconst 0, 1) := dk_3 (dk_at dksX1_isQueueSound_5 7 rfl rfl)
theorem dX1_isQueueSound_121 : decode cX1_isQueueSound 121 = .ok (.ireturn, 1) := dk_172 (dk_at dksX1_isQueueSound_5 8 rfl rfl)
theorem dX1_isQueueSound_122 : decode cX1_isQueueSound 122 = .ok (.iinc 2 1, 3) := dk_132 2 1 (dk_at dksX1_isQueueSound_5 9 rfl rfl)
theorem dX1_isQueueSound_125 : decode cX1_isQueueSound 125 = .ok (.goto (-123), 3) := dk_167 255 133 (dk_at dksX1_isQueueSound_5 12 rfl rfl)
theorem dX1_isQueueSound_128 : decode cX1_isQueueSound 128 = .ok (.iconst 1, 1) := dk_4 (dk_at dksX1_isQueueSound_5 15 rfl rfl)
theorem dX1_isQueueSound_129 : decode cX1_isQueueSound 129 = .ok (.ireturn, 1) := dk_172 (dk_at dksX1_isQueueSound_5 16 rfl rfl)
abbrev cX1_headOf : ByteArray := prog_1_method_22_code
def yX1_headOf : MethodName := ⟨RX1, "headOf", "(I)I"⟩
def dkwX1_headOf_2 : List UInt8 := [132, 3, 1, 167, 255, 210, 28, 172]
abbrev dktX1_headOf_2 : List UInt8 := dkwX1_headOf_2 ++ []
def dkwX1_headOf_1 : List UInt8 := [185, 0, 61, 2, 0, 192, 0, 73, 180, 0, 131, 27, 160, 0, 9, 4, 29, 120, 167, 0, 4, 3, 128, 61]
abbrev dktX1_headOf_1 : List UInt8 := dkwX1_headOf_1 ++ dktX1_headOf_2
def dkwX1_headOf_0 : List UInt8 := [3, 61, 3, 62, 29, 42, 180, 0, 22, 185, 0, 65, 1, 0, 162, 0, 39, 28, 42, 180, 0, 22, 29]
abbrev dktX1_headOf_0 : List UInt8 := dkwX1_headOf_0 ++ dktX1_headOf_1
theorem dksX1_headOf_0 : cX1_headOf.data.toList.drop 0 = dktX1_headOf_0 := by decide +kernel
theorem dksX1_headOf_1 : cX1_headOf.data.toList.drop 23 = dktX1_headOf_1 := dk_seg dksX1_headOf_0 23 rfl rfl
theorem dksX1_headOf_2 : cX1_headOf.data.toList.drop 47 = dktX1_headOf_2 := dk_seg dksX1_headOf_1 24 rfl rfl
theorem dX1_headOf_0 : decode cX1_headOf 0 = .ok (.iconst 0, 1) := dk_3 (dk_at dksX1_headOf_0 0 rfl rfl)
theorem dX1_headOf_1 : decode cX1_headOf 1 = .ok (.istore_n 2, 1) := dk_61 (dk_at dksX1_headOf_0 1 rfl rfl)
theorem dX1_headOf_2 : decode cX1_headOf 2 = .ok (.iconst 0, 1) := dk_3 (dk_at dksX1_headOf_0 2 rfl rfl)
theorem dX1_headOf_3 : decode cX1_headOf 3 = .ok (.istore_n 3, 1) := dk_62 (dk_at dksX1_headOf_0 3 rfl rfl)
theorem dX1_headOf_4 : decode cX1_headOf 4 = .ok (.iload_n 3, 1) := dk_29 (dk_at dksX1_headOf_0 4 rfl rfl)
theorem dX1_headOf_5 : decode cX1_headOf 5 = .ok (.aload_n 0, 1) := dk_42 (dk_at dksX1_headOf_0 5 rfl rfl)
theorem dX1_headOf_6 : decode cX1_headOf 6 = .ok (.getfield 22, 3) := dk_180 0 22 (dk_at dksX1_headOf_0 6 rfl rfl)
theorem dX1_headOf_9 : decode cX1_headOf 9 = .ok (.invokeinterface 65 1, 5) := by decide +kernel
theorem dX1_headOf_14 : decode cX1_headOf 14 = .ok (.if_icmp .ge 39, 3) := dk_162 0 39 (dk_at dksX1_headOf_0 14 rfl rfl)
theorem dX1_headOf_17 : decode cX1_headOf 17 = .ok (.iload_n 2, 1) := dk_28 (dk_at dksX1_headOf_0 17 rfl rfl)
theorem dX1_headOf_18 : decode cX1_headOf 18 = .ok (.aload_n 0, 1) := dk_42 (dk_at dksX1_headOf_0 18 rfl rfl)
theorem dX1_headOf_19 : decode cX1_headOf 19 = .ok (.getfield 22, 3) := dk_180 0 22 (dk_at dksX1_headOf_0 19 rfl rfl)
theorem dX1_headOf_22 : decode cX1_headOf 22 = .ok (.iload_n 3, 1) := dk_29 (dk_at dksX1_headOf_0 22 rfl rfl)
theorem dX1_headOf_23 : decode cX1_headOf 23 = .ok (.invokeinterface 61 2, 5) := by decide +kernel
theorem dX1_headOf_28 : decode cX1_headOf 28 = .ok (.checkcast 73, 3) := dk_192 0 73 (dk_at dksX1_headOf_1 5 rfl rfl)
theorem dX1_headOf_31 : decode cX1_headOf 31 = .ok (.getfield 131, 3) := dk_180 0 131 (dk_at dksX1_headOf_1 8 rfl rfl)
theorem dX1_headOf_34 : decode cX1_headOf 34 = .ok (.iload_n 1, 1) := dk_27 (dk_at dksX1_headOf_1 11 rfl rfl)
theorem dX1_headOf_35 : decode cX1_headOf 35 = .ok (.if_icmp .ne 9, 3) := dk_160 0 9 (dk_at dksX1_headOf_1 12 rfl rfl)
theorem dX1_headOf_38 : decode cX1_headOf 38 = .ok (.iconst 1, 1) := dk_4 (dk_at dksX1_headOf_1 15 rfl rfl)
theorem dX1_headOf_39 : decode cX1_headOf 39 = .ok (.iload_n 3, 1) := dk_29 (dk_at dksX1_headOf_1 16 rfl rfl)
theorem dX1_headOf_40 : decode cX1_headOf 40 = .ok (.ishl, 1) := dk_120 (dk_at dksX1_headOf_1 17 rfl rfl)
theorem dX1_headOf_41 : decode cX1_headOf 41 = .ok (.goto 4, 3) := dk_167 0 4 (dk_at dksX1_headOf_1 18 rfl rfl)
theorem dX1_headOf_44 : decode cX1_headOf 44 = .ok (.iconst 0, 1) := dk_3 (dk_at dksX1_headOf_1 21 rfl rfl)
theorem dX1_headOf_45 : decode cX1_headOf 45 = .ok (.ior, 1) := dk_128 (dk_at dksX1_headOf_1 22 rfl rfl)
theorem dX1_headOf_46 : decode cX1_headOf 46 = .ok (.istore_n 2, 1) := dk_61 (dk_at dksX1_headOf_1 23 rfl rfl)
theorem dX1_headOf_47 : decode cX1_headOf 47 = .ok (.iinc 3 1, 3) := dk_132 3 1 (dk_at dksX1_headOf_2 0 rfl rfl)
theorem dX1_headOf_50 : decode cX1_headOf 50 = .ok (.goto (-46), 3) := dk_167 255 210 (dk_at dksX1_headOf_2 3 rfl rfl)
theorem dX1_headOf_53 : decode cX1_headOf 53 = .ok (.iload_n 2, 1) := dk_28 (dk_at dksX1_headOf_2 6 rfl rfl)
theorem dX1_headOf_54 : decode cX1_headOf 54 = .ok (.ireturn, 1) := dk_172 (dk_at dksX1_headOf_2 7 rfl rfl)
abbrev cX1_digest : ByteArray := prog_1_method_79_code
def yX1_digest : MethodName := ⟨RX1, "digest", "()J"⟩
def dkwX1_digest_6 : List UInt8 := [180, 2, 10, 173]
abbrev dktX1_digest_6 : List UInt8 := dkwX1_digest_6 ++ []
def dkwX1_digest_5 : List UInt8 := [182, 1, 153, 133, 182, 1, 253, 43, 42, 182, 1, 250, 153, 0, 7, 10, 167, 0, 4, 9, 182, 1, 253, 43]
abbrev dktX1_digest_5 : List UInt8 := dkwX1_digest_5 ++ dktX1_digest_6
def dkwX1_digest_4 : List UInt8 := [162, 0, 17, 43, 44, 29, 46, 133, 182, 1, 253, 132, 3, 1, 167, 255, 239, 43, 42, 16, 20, 2]
abbrev dktX1_digest_4 : List UInt8 := dkwX1_digest_4 ++ dktX1_digest_5
def dkwX1_digest_3 : List UInt8 := [167, 255, 222, 42, 43, 182, 2, 3, 42, 43, 182, 2, 7, 42, 3, 182, 1, 124, 77, 3, 62, 29, 16, 6]
abbrev dktX1_digest_3 : List UInt8 := dkwX1_digest_3 ++ dktX1_digest_4
def dkwX1_digest_2 : List UInt8 := [163, 0, 20, 43, 42, 28, 29, 182, 1, 168, 133, 182, 1, 253, 132, 3, 1, 167, 255, 236, 132, 2, 1]
abbrev dktX1_digest_2 : List UInt8 := dkwX1_digest_2 ++ dktX1_digest_3
def dkwX1_digest_1 : List UInt8 := [182, 1, 253, 132, 2, 1, 167, 255, 237, 3, 61, 28, 16, 6, 162, 0, 34, 3, 62, 29, 16, 8]
abbrev dktX1_digest_1 : List UInt8 := dkwX1_digest_1 ++ dktX1_digest_2
def dkwX1_digest_0 : List UInt8 := [187, 1, 254, 89, 183, 2, 2, 76, 3, 61, 28, 16, 16, 163, 0, 19, 43, 42, 28, 182, 1, 244, 133]
abbrev dktX1_digest_0 : List UInt8 := dkwX1_digest_0 ++ dktX1_digest_1
theorem dksX1_digest_0 : cX1_digest.data.toList.drop 0 = dktX1_digest_0 := by decide +kernel
theorem dksX1_digest_1 : cX1_digest.data.toList.drop 23 = dktX1_digest_1 := dk_seg dksX1_digest_0 23 rfl rfl
theorem dksX1_digest_2 : cX1_digest.data.toList.drop 45 = dktX1_digest_2 := dk_seg dksX1_digest_1 22 rfl rfl
theorem dksX1_digest_3 : cX1_digest.data.toList.drop 68 = dktX1_digest_3 := dk_seg dksX1_digest_2 23 rfl rfl
theorem dksX1_digest_4 : cX1_digest.data.toList.drop 92 = dktX1_digest_4 := dk_seg dksX1_digest_3 24 rfl rfl
theorem dksX1_digest_5 : cX1_digest.data.toList.drop 114 = dktX1_digest_5 := dk_seg dksX1_digest_4 22 rfl rfl
theorem dksX1_digest_6 : cX1_digest.data.toList.drop 138 = dktX1_digest_6 := dk_seg dksX1_digest_5 24 rfl rfl
theorem dX1_digest_0 : decode cX1_digest 0 = .ok (.new 510, 3) := dk_187 1 254 (dk_at dksX1_digest_0 0 rfl rfl)
theorem dX1_digest_3 : decode cX1_digest 3 = .ok (.dup, 1) := dk_89 (dk_at dksX1_digest_0 3 rfl rfl)
theorem dX1_digest_4 : decode cX1_digest 4 = .ok (.invokespecial 514, 3) := dk_183 2 2 (dk_at dksX1_digest_0 4 rfl rfl)
theorem dX1_digest_7 : decode cX1_digest 7 = .ok (.astore_n 1, 1) := dk_76 (dk_at dksX1_digest_0 7 rfl rfl)
theorem dX1_digest_8 : decode cX1_digest 8 = .ok (.iconst 0, 1) := dk_3 (dk_at dksX1_digest_0 8 rfl rfl)
theorem dX1_digest_9 : decode cX1_digest 9 = .ok (.istore_n 2, 1) := dk_61 (dk_at dksX1_digest_0 9 rfl rfl)
theorem dX1_digest_10 : decode cX1_digest 10 = .ok (.iload_n 2, 1) := dk_28 (dk_at dksX1_digest_0 10 rfl rfl)
theorem dX1_digest_11 : decode cX1_digest 11 = .ok (.bipush 16, 2) := dk_16 16 (dk_at dksX1_digest_0 11 rfl rfl)
theorem dX1_digest_13 : decode cX1_digest 13 = .ok (.if_icmp .gt 19, 3) := dk_163 0 19 (dk_at dksX1_digest_0 13 rfl rfl)
theorem dX1_digest_16 : decode cX1_digest 16 = .ok (.aload_n 1, 1) := dk_43 (dk_at dksX1_digest_0 16 rfl rfl)
theorem dX1_digest_17 : decode cX1_digest 17 = .ok (.aload_n 0, 1) := dk_42 (dk_at dksX1_digest_0 17 rfl rfl)
theorem dX1_digest_18 : decode cX1_digest 18 = .ok (.iload_n 2, 1) := dk_28 (dk_at dksX1_digest_0 18 rfl rfl)
theorem dX1_digest_19 : decode cX1_digest 19 = .ok (.invokevirtual 500, 3) := dk_182 1 244 (dk_at dksX1_digest_0 19 rfl rfl)
theorem dX1_digest_22 : decode cX1_digest 22 = .ok (.i2l, 1) := dk_133 (dk_at dksX1_digest_0 22 rfl rfl)
theorem dX1_digest_23 : decode cX1_digest 23 = .ok (.invokevirtual 509, 3) := dk_182 1 253 (dk_at dksX1_digest_1 0 rfl rfl)
theorem dX1_digest_26 : decode cX1_digest 26 = .ok (.iinc 2 1, 3) := dk_132 2 1 (dk_at dksX1_digest_1 3 rfl rfl)
theorem dX1_digest_29 : decode cX1_digest 29 = .ok (.goto (-19), 3) := dk_167 255 237 (dk_at dksX1_digest_1 6 rfl rfl)
theorem dX1_digest_32 : decode cX1_digest 32 = .ok (.iconst 0, 1) := dk_3 (dk_at dksX1_digest_1 9 rfl rfl)
theorem dX1_digest_33 : decode cX1_digest 33 = .ok (.istore_n 2, 1) := dk_61 (dk_at dksX1_digest_1 10 rfl rfl)
theorem dX1_digest_34 : decode cX1_digest 34 = .ok (.iload_n 2, 1) := dk_28 (dk_at dksX1_digest_1 11 rfl rfl)
theorem dX1_digest_35 : decode cX1_digest 35 = .ok (.bipush 6, 2) := dk_16 6 (dk_at dksX1_digest_1 12 rfl rfl)
theorem dX1_digest_37 : decode cX1_digest 37 = .ok (.if_icmp .ge 34, 3) := dk_162 0 34 (dk_at dksX1_digest_1 14 rfl rfl)
theorem dX1_digest_40 : decode cX1_digest 40 = .ok (.iconst 0, 1) := dk_3 (dk_at dksX1_digest_1 17 rfl rfl)
theorem dX1_digest_41 : decode cX1_digest 41 = .ok (.istore_n 3, 1) := dk_62 (dk_at dksX1_digest_1 18 rfl rfl)
theorem dX1_digest_42 : decode cX1_digest 42 = .ok (.iload_n 3, 1) := dk_29 (dk_at dksX1_digest_1 19 rfl rfl)
theorem dX1_digest_43 : decode cX1_digest 43 = .ok (.bipush 8, 2) := dk_16 8 (dk_at dksX1_digest_1 20 rfl rfl)
theorem dX1_digest_45 : decode cX1_digest 45 = .ok (.if_icmp .gt 20, 3) := dk_163 0 20 (dk_at dksX1_digest_2 0 rfl rfl)
theorem dX1_digest_48 : decode cX1_digest 48 = .ok (.aload_n 1, 1) := dk_43 (dk_at dksX1_digest_2 3 rfl rfl)
theorem dX1_digest_49 : decode cX1_digest 49 = .ok (.aload_n 0, 1) := dk_42 (dk_at dksX1_digest_2 4 rfl rfl)
theorem dX1_digest_50 : decode cX1_digest 50 = .ok (.iload_n 2, 1) := dk_28 (dk_at dksX1_digest_2 5 rfl rfl)
theorem dX1_digest_51 : decode cX1_digest 51 = .ok (.iload_n 3, 1) := dk_29 (dk_at dksX1_digest_2 6 rfl rfl)
theorem dX1_digest_52 : decode cX1_digest 52 = .ok (.invokevirtual 424, 3) := dk_182 1 168 (dk_at dksX1_digest_2 7 rfl rfl)
theorem dX1_digest_55 : decode cX1_digest 55 = .ok (.i2l, 1) := dk_133 (dk_at dksX1_digest_2 10 rfl rfl)
theorem dX1_digest_56 : decode cX1_digest 56 = .ok (.invokevirtual 509, 3) := dk_182 1 253 (dk_at dksX1_digest_2 11 rfl rfl)
theorem dX1_digest_59 : decode cX1_digest 59 = .ok (.iinc 3 1, 3) := dk_132 3 1 (dk_at dksX1_digest_2 14 rfl rfl)
theorem dX1_digest_62 : decode cX1_digest 62 = .ok (.goto (-20), 3) := dk_167 255 236 (dk_at dksX1_digest_2 17 rfl rfl)
theorem dX1_digest_65 : decode cX1_digest 65 = .ok (.iinc 2 1, 3) := dk_132 2 1 (dk_at dksX1_digest_2 20 rfl rfl)
theorem dX1_digest_68 : decode cX1_digest 68 = .ok (.goto (-34), 3) := dk_167 255 222 (dk_at dksX1_digest_3 0 rfl rfl)
theorem dX1_digest_71 : decode cX1_digest 71 = .ok (.aload_n 0, 1) := dk_42 (dk_at dksX1_digest_3 3 rfl rfl)
theorem dX1_digest_72 : decode cX1_digest 72 = .ok (.aload_n 1, 1) := dk_43 (dk_at dksX1_digest_3 4 rfl rfl)
theorem dX1_digest_73 : decode cX1_digest 73 = .ok (.invokevirtual 515, 3) := dk_182 2 3 (dk_at dksX1_digest_3 5 rfl rfl)
theorem dX1_digest_76 : decode cX1_digest 76 = .ok (.aload_n 0, 1) := dk_42 (dk_at dksX1_digest_3 8 rfl rfl)
theorem dX1_digest_77 : decode cX1_digest 77 = .ok (.aload_n 1, 1) := dk_43 (dk_at dksX1_digest_3 9 rfl rfl)
theorem dX1_digest_78 : decode cX1_digest 78 = .ok (.invokevirtual 519, 3) := dk_182 2 7 (dk_at dksX1_digest_3 10 rfl rfl)
theorem dX1_digest_81 : decode cX1_digest 81 = .ok (.aload_n 0, 1) := dk_42 (dk_at dksX1_digest_3 13 rfl rfl)
theorem dX1_digest_82 : decode cX1_digest 82 = .ok (.iconst 0, 1) := dk_3 (dk_at dksX1_digest_3 14 rfl rfl)
theorem dX1_digest_83 : decode cX1_digest 83 = .ok (.invokevirtual 380, 3) := dk_182 1 124 (dk_at dksX1_digest_3 15 rfl rfl)
theorem dX1_digest_86 : decode cX1_digest 86 = .ok (.astore_n 2, 1) := dk_77 (dk_at dksX1_digest_3 18 rfl rfl)
theorem dX1_digest_87 : decode cX1_digest 87 = .ok (.iconst 0, 1) := dk_3 (dk_at dksX1_digest_3 19 rfl rfl)
theorem dX1_digest_88 : decode cX1_digest 88 = .ok (.istore_n 3, 1) := dk_62 (dk_at dksX1_digest_3 20 rfl rfl)
theorem dX1_digest_89 : decode cX1_digest 89 = .ok (.iload_n 3, 1) := dk_29 (dk_at dksX1_digest_3 21 rfl rfl)
theorem dX1_digest_90 : decode cX1_digest 90 = .ok (.bipush 6, 2) := dk_16 6 (dk_at dksX1_digest_3 22 rfl rfl)
theorem dX1_digest_92 : decode cX1_digest 92 = .ok (.if_icmp .ge 17, 3) := dk_162 0 17 (dk_at dksX1_digest_4 0 rfl rfl)
theorem dX1_digest_95 : decode cX1_digest 95 = .ok (.aload_n 1, 1) := dk_43 (dk_at dksX1_digest_4 3 rfl rfl)
theorem dX1_digest_96 : decode cX1_digest 96 = .ok (.aload_n 2, 1) := dk_44 (dk_at dksX1_digest_4 4 rfl rfl)
theorem dX1_digest_97 : decode cX1_digest 97 = .ok (.iload_n 3, 1) := dk_29 (dk_at dksX1_digest_4 5 rfl rfl)
theorem dX1_digest_98 : decode cX1_digest 98 = .ok (.iaload, 1) := dk_46 (dk_at dksX1_digest_4 6 rfl rfl)
theorem dX1_digest_99 : decode cX1_digest 99 = .ok (.i2l, 1) := dk_133 (dk_at dksX1_digest_4 7 rfl rfl)
theorem dX1_digest_100 : decode cX1_digest 100 = .ok (.invokevirtual 509, 3) := dk_182 1 253 (dk_at dksX1_digest_4 8 rfl rfl)
theorem dX1_digest_103 : decode cX1_digest 103 = .ok (.iinc 3 1, 3) := dk_132 3 1 (dk_at dksX1_digest_4 11 rfl rfl)
theorem dX1_digest_106 : decode cX1_digest 106 = .ok (.goto (-17), 3) := dk_167 255 239 (dk_at dksX1_digest_4 14 rfl rfl)
theorem dX1_digest_109 : decode cX1_digest 109 = .ok (.aload_n 1, 1) := dk_43 (dk_at dksX1_digest_4 17 rfl rfl)
theorem dX1_digest_110 : decode cX1_digest 110 = .ok (.aload_n 0, 1) := dk_42 (dk_at dksX1_digest_4 18 rfl rfl)
theorem dX1_digest_111 : decode cX1_digest 111 = .ok (.bipush 20, 2) := dk_16 20 (dk_at dksX1_digest_4 19 rfl rfl)
theorem dX1_digest_113 : decode cX1_digest 113 = .ok (.iconst (-1), 1) := dk_2 (dk_at dksX1_digest_4 21 rfl rfl)
theorem dX1_digest_114 : decode cX1_digest 114 = .ok (.invokevirtual 409, 3) := dk_182 1 153 (dk_at dksX1_digest_5 0 rfl rfl)
theorem dX1_digest_117 : decode cX1_digest 117 = .ok (.i2l, 1) := dk_133 (dk_at dksX1_digest_5 3 rfl rfl)
theorem dX1_digest_118 : decode cX1_digest 118 = .ok (.invokevirtual 509, 3) := dk_182 1 253 (dk_at dksX1_digest_5 4 rfl rfl)
theorem dX1_digest_121 : decode cX1_digest 121 = .ok (.aload_n 1, 1) := dk_43 (dk_at dksX1_digest_5 7 rfl rfl)
theorem dX1_digest_122 : decode cX1_digest 122 = .ok (.aload_n 0, 1) := dk_42 (dk_at dksX1_digest_5 8 rfl rfl)
theorem dX1_digest_123 : decode cX1_digest 123 = .ok (.invokevirtual 506, 3) := dk_182 1 250 (dk_at dksX1_digest_5 9 rfl rfl)
theorem dX1_digest_126 : decode cX1_digest 126 = .ok (.ifCond .eq 7, 3) := dk_153 0 7 (dk_at dksX1_digest_5 12 rfl rfl)
theorem dX1_digest_129 : decode cX1_digest 129 = .ok (.lconst 1, 1) := dk_10 (dk_at dksX1_digest_5 15 rfl rfl)
theorem dX1_digest_130 : decode cX1_digest 130 = .ok (.goto 4, 3) := dk_167 0 4 (dk_at dksX1_digest_5 16 rfl rfl)
theorem dX1_digest_133 : decode cX1_digest 133 = .ok (.lconst 0, 1) := dk_9 (dk_at dksX1_digest_5 19 rfl rfl)
theorem dX1_digest_134 : decode cX1_digest 134 = .ok (.invokevirtual 509, 3) := dk_182 1 253 (dk_at dksX1_digest_5 20 rfl rfl)
theorem dX1_digest_137 : decode cX1_digest 137 = .ok (.aload_n 1, 1) := dk_43 (dk_at dksX1_digest_5 23 rfl rfl)
theorem dX1_digest_138 : decode cX1_digest 138 = .ok (.getfield 522, 3) := dk_180 2 10 (dk_at dksX1_digest_6 0 rfl rfl)
theorem dX1_digest_141 : decode cX1_digest 141 = .ok (.lreturn, 1) := dk_173 (dk_at dksX1_digest_6 3 rfl rfl)
abbrev cX1_nightNow : ByteArray := prog_1_method_72_code
def yX1_nightNow : MethodName := ⟨RX1, "nightNow", "(I)I"⟩
def dkwX1_nightNow_6 : List UInt8 := [182, 1, 241, 172]
abbrev dktX1_nightNow_6 : List UInt8 := dkwX1_nightNow_6 ++ []
def dkwX1_nightNow_5 : List UInt8 := [180, 1, 69, 172, 42, 27, 16, 16, 160, 0, 7, 4, 167, 0, 4, 3, 182, 1, 237, 172, 42, 27, 8, 100]
abbrev dktX1_nightNow_5 : List UInt8 := dkwX1_nightNow_5 ++ dktX1_nightNow_6
def dkwX1_nightNow_4 : List UInt8 := [182, 1, 231, 172, 42, 180, 0, 25, 185, 0, 65, 1, 0, 172, 42, 180, 0, 31, 180, 1, 234, 172, 42]
abbrev dktX1_nightNow_4 : List UInt8 := dkwX1_nightNow_4 ++ dktX1_nightNow_5
def dkwX1_nightNow_3 : List UInt8 := [185, 0, 65, 1, 0, 172, 42, 182, 1, 228, 172, 42, 180, 0, 22, 185, 0, 65, 1, 0, 172, 42]
abbrev dktX1_nightNow_3 : List UInt8 := dkwX1_nightNow_3 ++ dktX1_nightNow_4
def dkwX1_nightNow_2 : List UInt8 := [42, 180, 0, 137, 172, 42, 180, 1, 60, 172, 42, 180, 0, 16, 185, 0, 65, 1, 0, 172, 42, 180, 0, 19]
abbrev dktX1_nightNow_2 : List UInt8 := dkwX1_nightNow_2 ++ dktX1_nightNow_3
def dkwX1_nightNow_1 : List UInt8 := [170, 0, 0, 0, 0, 0, 172, 0, 0, 0, 0, 0, 0, 0, 16, 0, 0, 0, 83, 0, 0, 0, 88, 0, 0, 0, 93, 0, 0, 0, 103, 0, 0, 0, 113, 0, 0, 0, 118, 0, 0, 0, 172, 0, 0, 0, 172, 0, 0, 0, 172, 0, 0, 0, 172, 0, 0, 0, 172, 0, 0, 0, 128, 0, 0, 0, 133, 0, 0, 0, 143, 0, 0, 0, 151, 0, 0, 0, 156, 0, 0, 0, 156]
abbrev dktX1_nightNow_1 : List UInt8 := dkwX1_nightNow_1 ++ dktX1_nightNow_2
def dkwX1_nightNow_0 : List UInt8 := [27]
abbrev dktX1_nightNow_0 : List UInt8 := dkwX1_nightNow_0 ++ dktX1_nightNow_1
theorem dksX1_nightNow_0 : cX1_nightNow.data.toList.drop 0 = dktX1_nightNow_0 := by decide +kernel
theorem dksX1_nightNow_1 : cX1_nightNow.data.toList.drop 1 = dktX1_nightNow_1 := dk_seg dksX1_nightNow_0 1 rfl rfl
theorem dksX1_nightNow_2 : cX1_nightNow.data.toList.drop 84 = dktX1_nightNow_2 := dk_seg dksX1_nightNow_1 83 rfl rfl
theorem dksX1_nightNow_3 : cX1_nightNow.data.toList.drop 108 = dktX1_nightNow_3 := dk_seg dksX1_nightNow_2 24 rfl rfl
theorem dksX1_nightNow_4 : cX1_nightNow.data.toList.drop 130 = dktX1_nightNow_4 := dk_seg dksX1_nightNow_3 22 rfl rfl
theorem dksX1_nightNow_5 : cX1_nightNow.data.toList.drop 153 = dktX1_nightNow_5 := dk_seg dksX1_nightNow_4 23 rfl rfl
theorem dksX1_nightNow_6 : cX1_nightNow.data.toList.drop 177 = dktX1_nightNow_6 := dk_seg dksX1_nightNow_5 24 rfl rfl
theorem dX1_nightNow_0 : decode cX1_nightNow 0 = .ok (.iload_n 1, 1) := dk_27 (dk_at dksX1_nightNow_0 0 rfl rfl)
theorem dX1_nightNow_1 : decode cX1_nightNow 1 = .ok (.tableswitch 172 0 16 #[83, 88, 93, 103, 113, 118, 172, 172, 172, 172, 172, 128, 133, 143, 151, 156, 156], 83) := by decide +kernel
theorem dX1_nightNow_84 : decode cX1_nightNow 84 = .ok (.aload_n 0, 1) := dk_42 (dk_at dksX1_nightNow_2 0 rfl rfl)
theorem dX1_nightNow_85 : decode cX1_nightNow 85 = .ok (.getfield 137, 3) := dk_180 0 137 (dk_at dksX1_nightNow_2 1 rfl rfl)
theorem dX1_nightNow_88 : decode cX1_nightNow 88 = .ok (.ireturn, 1) := dk_172 (dk_at dksX1_nightNow_2 4 rfl rfl)
theorem dX1_nightNow_89 : decode cX1_nightNow 89 = .ok (.aload_n 0, 1) := dk_42 (dk_at dksX1_nightNow_2 5 rfl rfl)
theorem dX1_nightNow_90 : decode cX1_nightNow 90 = .ok (.getfield 316, 3) := dk_180 1 60 (dk_at dksX1_nightNow_2 6 rfl rfl)
theorem dX1_nightNow_93 : decode cX1_nightNow 93 = .ok (.ireturn, 1) := dk_172 (dk_at dksX1_nightNow_2 9 rfl rfl)
theorem dX1_nightNow_94 : decode cX1_nightNow 94 = .ok (.aload_n 0, 1) := dk_42 (dk_at dksX1_nightNow_2 10 rfl rfl)
theorem dX1_nightNow_95 : decode cX1_nightNow 95 = .ok (.getfield 16, 3) := dk_180 0 16 (dk_at dksX1_nightNow_2 11 rfl rfl)
theorem dX1_nightNow_98 : decode cX1_nightNow 98 = .ok (.invokeinterface 65 1, 5) := by decide +kernel
theorem dX1_nightNow_103 : decode cX1_nightNow 103 = .ok (.ireturn, 1) := dk_172 (dk_at dksX1_nightNow_2 19 rfl rfl)
theorem dX1_nightNow_104 : decode cX1_nightNow 104 = .ok (.aload_n 0, 1) := dk_42 (dk_at dksX1_nightNow_2 20 rfl rfl)
theorem dX1_nightNow_105 : decode cX1_nightNow 105 = .ok (.getfield 19, 3) := dk_180 0 19 (dk_at dksX1_nightNow_2 21 rfl rfl)
theorem dX1_nightNow_108 : decode cX1_nightNow 108 = .ok (.invokeinterface 65 1, 5) := by decide +kernel
theorem dX1_nightNow_113 : decode cX1_nightNow 113 = .ok (.ireturn, 1) := dk_172 (dk_at dksX1_nightNow_3 5 rfl rfl)
theorem dX1_nightNow_114 : decode cX1_nightNow 114 = .ok (.aload_n 0, 1) := dk_42 (dk_at dksX1_nightNow_3 6 rfl rfl)
theorem dX1_nightNow_115 : decode cX1_nightNow 115 = .ok (.invokevirtual 484, 3) := dk_182 1 228 (dk_at dksX1_nightNow_3 7 rfl rfl)
theorem dX1_nightNow_118 : decode cX1_nightNow 118 = .ok (.ireturn, 1) := dk_172 (dk_at dksX1_nightNow_3 10 rfl rfl)
theorem dX1_nightNow_119 : decode cX1_nightNow 119 = .ok (.aload_n 0, 1) := dk_42 (dk_at dksX1_nightNow_3 11 rfl rfl)
theorem dX1_nightNow_120 : decode cX1_nightNow 120 = .ok (.getfield 22, 3) := dk_180 0 22 (dk_at dksX1_nightNow_3 12 rfl rfl)
theorem dX1_nightNow_123 : decode cX1_nightNow 123 = .ok (.invokeinterface 65 1, 5) := by decide +kernel
theorem dX1_nightNow_128 : decode cX1_nightNow 128 = .ok (.ireturn, 1) := dk_172 (dk_at dksX1_nightNow_3 20 rfl rfl)
theorem dX1_nightNow_129 : decode cX1_nightNow 129 = .ok (.aload_n 0, 1) := dk_42 (dk_at dksX1_nightNow_3 21 rfl rfl)
theorem dX1_nightNow_130 : decode cX1_nightNow 130 = .ok (.invokevirtual 487, 3) := dk_182 1 231 (dk_at dksX1_nightNow_4 0 rfl rfl)
theorem dX1_nightNow_133 : decode cX1_nightNow 133 = .ok (.ireturn, 1) := dk_172 (dk_at dksX1_nightNow_4 3 rfl rfl)
theorem dX1_nightNow_134 : decode cX1_nightNow 134 = .ok (.aload_n 0, 1) := dk_42 (dk_at dksX1_nightNow_4 4 rfl rfl)
theorem dX1_nightNow_135 : decode cX1_nightNow 135 = .ok (.getfield 25, 3) := dk_180 0 25 (dk_at dksX1_nightNow_4 5 rfl rfl)
theorem dX1_nightNow_138 : decode cX1_nightNow 138 = .ok (.invokeinterface 65 1, 5) := by decide +kernel
theorem dX1_nightNow_143 : decode cX1_nightNow 143 = .ok (.ireturn, 1) := dk_172 (dk_at dksX1_nightNow_4 13 rfl rfl)
theorem dX1_nightNow_144 : decode cX1_nightNow 144 = .ok (.aload_n 0, 1) := dk_42 (dk_at dksX1_nightNow_4 14 rfl rfl)
theorem dX1_nightNow_145 : decode cX1_nightNow 145 = .ok (.getfield 31, 3) := dk_180 0 31 (dk_at dksX1_nightNow_4 15 rfl rfl)
theorem dX1_nightNow_148 : decode cX1_nightNow 148 = .ok (.getfield 490, 3) := dk_180 1 234 (dk_at dksX1_nightNow_4 18 rfl rfl)
theorem dX1_nightNow_151 : decode cX1_nightNow 151 = .ok (.ireturn, 1) := dk_172 (dk_at dksX1_nightNow_4 21 rfl rfl)
theorem dX1_nightNow_152 : decode cX1_nightNow 152 = .ok (.aload_n 0, 1) := dk_42 (dk_at dksX1_nightNow_4 22 rfl rfl)
theorem dX1_nightNow_153 : decode cX1_nightNow 153 = .ok (.getfield 325, 3) := dk_180 1 69 (dk_at dksX1_nightNow_5 0 rfl rfl)
theorem dX1_nightNow_156 : decode cX1_nightNow 156 = .ok (.ireturn, 1) := dk_172 (dk_at dksX1_nightNow_5 3 rfl rfl)
theorem dX1_nightNow_157 : decode cX1_nightNow 157 = .ok (.aload_n 0, 1) := dk_42 (dk_at dksX1_nightNow_5 4 rfl rfl)
theorem dX1_nightNow_158 : decode cX1_nightNow 158 = .ok (.iload_n 1, 1) := dk_27 (dk_at dksX1_nightNow_5 5 rfl rfl)
theorem dX1_nightNow_159 : decode cX1_nightNow 159 = .ok (.bipush 16, 2) := dk_16 16 (dk_at dksX1_nightNow_5 6 rfl rfl)
theorem dX1_nightNow_161 : decode cX1_nightNow 161 = .ok (.if_icmp .ne 7, 3) := dk_160 0 7 (dk_at dksX1_nightNow_5 8 rfl rfl)
theorem dX1_nightNow_164 : decode cX1_nightNow 164 = .ok (.iconst 1, 1) := dk_4 (dk_at dksX1_nightNow_5 11 rfl rfl)
theorem dX1_nightNow_165 : decode cX1_nightNow 165 = .ok (.goto 4, 3) := dk_167 0 4 (dk_at dksX1_nightNow_5 12 rfl rfl)
theorem dX1_nightNow_168 : decode cX1_nightNow 168 = .ok (.iconst 0, 1) := dk_3 (dk_at dksX1_nightNow_5 15 rfl rfl)
theorem dX1_nightNow_169 : decode cX1_nightNow 169 = .ok (.invokevirtual 493, 3) := dk_182 1 237 (dk_at dksX1_nightNow_5 16 rfl rfl)
theorem dX1_nightNow_172 : decode cX1_nightNow 172 = .ok (.ireturn, 1) := dk_172 (dk_at dksX1_nightNow_5 19 rfl rfl)
theorem dX1_nightNow_173 : decode cX1_nightNow 173 = .ok (.aload_n 0, 1) := dk_42 (dk_at dksX1_nightNow_5 20 rfl rfl)
theorem dX1_nightNow_174 : decode cX1_nightNow 174 = .ok (.iload_n 1, 1) := dk_27 (dk_at dksX1_nightNow_5 21 rfl rfl)
theorem dX1_nightNow_175 : decode cX1_nightNow 175 = .ok (.iconst 5, 1) := dk_8 (dk_at dksX1_nightNow_5 22 rfl rfl)
theorem dX1_nightNow_176 : decode cX1_nightNow 176 = .ok (.isub, 1) := dk_100 (dk_at dksX1_nightNow_5 23 rfl rfl)
theorem dX1_nightNow_177 : decode cX1_nightNow 177 = .ok (.invokevirtual 497, 3) := dk_182 1 241 (dk_at dksX1_nightNow_6 0 rfl rfl)
theorem dX1_nightNow_180 : decode cX1_nightNow 180 = .ok (.ireturn, 1) := dk_172 (dk_at dksX1_nightNow_6 3 rfl rfl)
abbrev cX1_awake : ByteArray := prog_1_method_68_code
def yX1_awake : MethodName := ⟨RX1, "awake", "()I"⟩
def dkwX1_awake_2 : List UInt8 := [132, 2, 1, 167, 255, 210, 27, 172]
abbrev dktX1_awake_2 : List UInt8 := dkwX1_awake_2 ++ []
def dkwX1_awake_1 : List UInt8 := [185, 0, 61, 2, 0, 192, 0, 71, 178, 1, 50, 182, 0, 122, 153, 0, 7, 4, 167, 0, 4, 3, 96, 60]
abbrev dktX1_awake_1 : List UInt8 := dkwX1_awake_1 ++ dktX1_awake_2
def dkwX1_awake_0 : List UInt8 := [3, 60, 3, 61, 28, 42, 180, 0, 19, 185, 0, 65, 1, 0, 162, 0, 39, 27, 42, 180, 0, 19, 28]
abbrev dktX1_awake_0 : List UInt8 := dkwX1_awake_0 ++ dktX1_awake_1
theorem dksX1_awake_0 : cX1_awake.data.toList.drop 0 = dktX1_awake_0 := by decide +kernel
theorem dksX1_awake_1 : cX1_awake.data.toList.drop 23 = dktX1_awake_1 := dk_seg dksX1_awake_0 23 rfl rfl
theorem dksX1_awake_2 : cX1_awake.data.toList.drop 47 = dktX1_awake_2 := dk_seg dksX1_awake_1 24 rfl rfl
theorem dX1_awake_0 : decode cX1_awake 0 = .ok (.iconst 0, 1) := dk_3 (dk_at dksX1_awake_0 0 rfl rfl)
theorem dX1_awake_1 : decode cX1_awake 1 = .ok (.istore_n 1, 1) := dk_60 (dk_at dksX1_awake_0 1 rfl rfl)
theorem dX1_awake_2 : decode cX1_awake 2 = .ok (.iconst 0, 1) := dk_3 (dk_at dksX1_awake_0 2 rfl rfl)
theorem dX1_awake_3 : decode cX1_awake 3 = .ok (.istore_n 2, 1) := dk_61 (dk_at dksX1_awake_0 3 rfl rfl)
theorem dX1_awake_4 : decode cX1_awake 4 = .ok (.iload_n 2, 1) := dk_28 (dk_at dksX1_awake_0 4 rfl rfl)
theorem dX1_awake_5 : decode cX1_awake 5 = .ok (.aload_n 0, 1) := dk_42 (dk_at dksX1_awake_0 5 rfl rfl)
theorem dX1_awake_6 : decode cX1_awake 6 = .ok (.getfield 19, 3) := dk_180 0 19 (dk_at dksX1_awake_0 6 rfl rfl)
theorem dX1_awake_9 : decode cX1_awake 9 = .ok (.invokeinterface 65 1, 5) := by decide +kernel
theorem dX1_awake_14 : decode cX1_awake 14 = .ok (.if_icmp .ge 39, 3) := dk_162 0 39 (dk_at dksX1_awake_0 14 rfl rfl)
theorem dX1_awake_17 : decode cX1_awake 17 = .ok (.iload_n 1, 1) := dk_27 (dk_at dksX1_awake_0 17 rfl rfl)
theorem dX1_awake_18 : decode cX1_awake 18 = .ok (.aload_n 0, 1) := dk_42 (dk_at dksX1_awake_0 18 rfl rfl)
theorem dX1_awake_19 : decode cX1_awake 19 = .ok (.getfield 19, 3) := dk_180 0 19 (dk_at dksX1_awake_0 19 rfl rfl)
theorem dX1_awake_22 : decode cX1_awake 22 = .ok (.iload_n 2, 1) := dk_28 (dk_at dksX1_awake_0 22 rfl rfl)
theorem dX1_awake_23 : decode cX1_awake 23 = .ok (.invokeinterface 61 2, 5) := by decide +kernel
theorem dX1_awake_28 : decode cX1_awake 28 = .ok (.checkcast 71, 3) := dk_192 0 71 (dk_at dksX1_awake_1 5 rfl rfl)
theorem dX1_awake_31 : decode cX1_awake 31 = .ok (.getstatic 306, 3) := dk_178 1 50 (dk_at dksX1_awake_1 8 rfl rfl)
theorem dX1_awake_34 : decode cX1_awake 34 = .ok (.invokevirtual 122, 3) := dk_182 0 122 (dk_at dksX1_awake_1 11 rfl rfl)
theorem dX1_awake_37 : decode cX1_awake 37 = .ok (.ifCond .eq 7, 3) := dk_153 0 7 (dk_at dksX1_awake_1 14 rfl rfl)
theorem dX1_awake_40 : decode cX1_awake 40 = .ok (.iconst 1, 1) := dk_4 (dk_at dksX1_awake_1 17 rfl rfl)
theorem dX1_awake_41 : decode cX1_awake 41 = .ok (.goto 4, 3) := dk_167 0 4 (dk_at dksX1_awake_1 18 rfl rfl)
theorem dX1_awake_44 : decode cX1_awake 44 = .ok (.iconst 0, 1) := dk_3 (dk_at dksX1_awake_1 21 rfl rfl)
theorem dX1_awake_45 : decode cX1_awake 45 = .ok (.iadd, 1) := dk_96 (dk_at dksX1_awake_1 22 rfl rfl)
theorem dX1_awake_46 : decode cX1_awake 46 = .ok (.istore_n 1, 1) := dk_60 (dk_at dksX1_awake_1 23 rfl rfl)
theorem dX1_awake_47 : decode cX1_awake 47 = .ok (.iinc 2 1, 3) := dk_132 2 1 (dk_at dksX1_awake_2 0 rfl rfl)
theorem dX1_awake_50 : decode cX1_awake 50 = .ok (.goto (-46), 3) := dk_167 255 210 (dk_at dksX1_awake_2 3 rfl rfl)
theorem dX1_awake_53 : decode cX1_awake 53 = .ok (.iload_n 1, 1) := dk_27 (dk_at dksX1_awake_2 6 rfl rfl)
theorem dX1_awake_54 : decode cX1_awake 54 = .ok (.ireturn, 1) := dk_172 (dk_at dksX1_awake_2 7 rfl rfl)
abbrev cX1_gone : ByteArray := prog_1_method_69_code
def yX1_gone : MethodName := ⟨RX1, "gone", "()I"⟩
def dkwX1_gone_2 : List UInt8 := [167, 255, 213, 27, 172]
abbrev dktX1_gone_2 : List UInt8 := dkwX1_gone_2 ++ []
def dkwX1_gone_1 : List UInt8 := [185, 0, 61, 2, 0, 192, 0, 73, 182, 1, 225, 153, 0, 7, 4, 167, 0, 4, 3, 96, 60, 132, 2, 1]
abbrev dktX1_gone_1 : List UInt8 := dkwX1_gone_1 ++ dktX1_gone_2
def dkwX1_gone_0 : List UInt8 := [3, 60, 3, 61, 28, 42, 180, 0, 22, 185, 0, 65, 1, 0, 162, 0, 36, 27, 42, 180, 0, 22, 28]
abbrev dktX1_gone_0 : List UInt8 := dkwX1_gone_0 ++ dktX1_gone_1
theorem dksX1_gone_0 : cX1_gone.data.toList.drop 0 = dktX1_gone_0 := by decide +kernel
theorem dksX1_gone_1 : cX1_gone.data.toList.drop 23 = dktX1_gone_1 := dk_seg dksX1_gone_0 23 rfl rfl
theorem dksX1_gone_2 : cX1_gone.data.toList.drop 47 = dktX1_gone_2 := dk_seg dksX1_gone_1 24 rfl rfl
theorem dX1_gone_0 : decode cX1_gone 0 = .ok (.iconst 0, 1) := dk_3 (dk_at dksX1_gone_0 0 rfl rfl)
theorem dX1_gone_1 : decode cX1_gone 1 = .ok (.istore_n 1, 1) := dk_60 (dk_at dksX1_gone_0 1 rfl rfl)
theorem dX1_gone_2 : decode cX1_gone 2 = .ok (.iconst 0, 1) := dk_3 (dk_at dksX1_gone_0 2 rfl rfl)
theorem dX1_gone_3 : decode cX1_gone 3 = .ok (.istore_n 2, 1) := dk_61 (dk_at dksX1_gone_0 3 rfl rfl)
theorem dX1_gone_4 : decode cX1_gone 4 = .ok (.iload_n 2, 1) := dk_28 (dk_at dksX1_gone_0 4 rfl rfl)
theorem dX1_gone_5 : decode cX1_gone 5 = .ok (.aload_n 0, 1) := dk_42 (dk_at dksX1_gone_0 5 rfl rfl)
theorem dX1_gone_6 : decode cX1_gone 6 = .ok (.getfield 22, 3) := dk_180 0 22 (dk_at dksX1_gone_0 6 rfl rfl)
theorem dX1_gone_9 : decode cX1_gone 9 = .ok (.invokeinterface 65 1, 5) := by decide +kernel
theorem dX1_gone_14 : decode cX1_gone 14 = .ok (.if_icmp .ge 36, 3) := dk_162 0 36 (dk_at dksX1_gone_0 14 rfl rfl)
theorem dX1_gone_17 : decode cX1_gone 17 = .ok (.iload_n 1, 1) := dk_27 (dk_at dksX1_gone_0 17 rfl rfl)
theorem dX1_gone_18 : decode cX1_gone 18 = .ok (.aload_n 0, 1) := dk_42 (dk_at dksX1_gone_0 18 rfl rfl)
theorem dX1_gone_19 : decode cX1_gone 19 = .ok (.getfield 22, 3) := dk_180 0 22 (dk_at dksX1_gone_0 19 rfl rfl)
theorem dX1_gone_22 : decode cX1_gone 22 = .ok (.iload_n 2, 1) := dk_28 (dk_at dksX1_gone_0 22 rfl rfl)
theorem dX1_gone_23 : decode cX1_gone 23 = .ok (.invokeinterface 61 2, 5) := by decide +kernel
theorem dX1_gone_28 : decode cX1_gone 28 = .ok (.checkcast 73, 3) := dk_192 0 73 (dk_at dksX1_gone_1 5 rfl rfl)
theorem dX1_gone_31 : decode cX1_gone 31 = .ok (.invokevirtual 481, 3) := dk_182 1 225 (dk_at dksX1_gone_1 8 rfl rfl)
theorem dX1_gone_34 : decode cX1_gone 34 = .ok (.ifCond .eq 7, 3) := dk_153 0 7 (dk_at dksX1_gone_1 11 rfl rfl)
theorem dX1_gone_37 : decode cX1_gone 37 = .ok (.iconst 1, 1) := dk_4 (dk_at dksX1_gone_1 14 rfl rfl)
theorem dX1_gone_38 : decode cX1_gone 38 = .ok (.goto 4, 3) := dk_167 0 4 (dk_at dksX1_gone_1 15 rfl rfl)
theorem dX1_gone_41 : decode cX1_gone 41 = .ok (.iconst 0, 1) := dk_3 (dk_at dksX1_gone_1 18 rfl rfl)
theorem dX1_gone_42 : decode cX1_gone 42 = .ok (.iadd, 1) := dk_96 (dk_at dksX1_gone_1 19 rfl rfl)
theorem dX1_gone_43 : decode cX1_gone 43 = .ok (.istore_n 1, 1) := dk_60 (dk_at dksX1_gone_1 20 rfl rfl)
theorem dX1_gone_44 : decode cX1_gone 44 = .ok (.iinc 2 1, 3) := dk_132 2 1 (dk_at dksX1_gone_1 21 rfl rfl)
theorem dX1_gone_47 : decode cX1_gone 47 = .ok (.goto (-43), 3) := dk_167 255 213 (dk_at dksX1_gone_2 0 rfl rfl)
theorem dX1_gone_50 : decode cX1_gone 50 = .ok (.iload_n 1, 1) := dk_27 (dk_at dksX1_gone_2 3 rfl rfl)
theorem dX1_gone_51 : decode cX1_gone 51 = .ok (.ireturn, 1) := dk_172 (dk_at dksX1_gone_2 4 rfl rfl)
abbrev cX1_ofAllLands : ByteArray := prog_1_method_71_code
def yX1_ofAllLands : MethodName := ⟨RX1, "ofAllLands", "(Z)I"⟩
def dkwX1_ofAllLands_2 : List UInt8 := [192, 0, 35, 180, 1, 26, 96, 61, 132, 3, 1, 167, 255, 205, 28, 172]
abbrev dktX1_ofAllLands_2 : List UInt8 := dkwX1_ofAllLands_2 ++ []
def dkwX1_ofAllLands_1 : List UInt8 := [185, 0, 61, 2, 0, 192, 0, 35, 180, 0, 248, 167, 0, 19, 42, 180, 0, 10, 29, 185, 0, 61, 2, 0]
abbrev dktX1_ofAllLands_1 : List UInt8 := dkwX1_ofAllLands_1 ++ dktX1_ofAllLands_2
def dkwX1_ofAllLands_0 : List UInt8 := [3, 61, 3, 62, 29, 16, 6, 162, 0, 51, 28, 27, 153, 0, 22, 42, 180, 0, 10, 29]
abbrev dktX1_ofAllLands_0 : List UInt8 := dkwX1_ofAllLands_0 ++ dktX1_ofAllLands_1
theorem dksX1_ofAllLands_0 : cX1_ofAllLands.data.toList.drop 0 = dktX1_ofAllLands_0 := by decide +kernel
theorem dksX1_ofAllLands_1 : cX1_ofAllLands.data.toList.drop 20 = dktX1_ofAllLands_1 := dk_seg dksX1_ofAllLands_0 20 rfl rfl
theorem dksX1_ofAllLands_2 : cX1_ofAllLands.data.toList.drop 44 = dktX1_ofAllLands_2 := dk_seg dksX1_ofAllLands_1 24 rfl rfl
theorem dX1_ofAllLands_0 : decode cX1_ofAllLands 0 = .ok (.iconst 0, 1) := dk_3 (dk_at dksX1_ofAllLands_0 0 rfl rfl)
theorem dX1_ofAllLands_1 : decode cX1_ofAllLands 1 = .ok (.istore_n 2, 1) := dk_61 (dk_at dksX1_ofAllLands_0 1 rfl rfl)
theorem dX1_ofAllLands_2 : decode cX1_ofAllLands 2 = .ok (.iconst 0, 1) := dk_3 (dk_at dksX1_ofAllLands_0 2 rfl rfl)
theorem dX1_ofAllLands_3 : decode cX1_ofAllLands 3 = .ok (.istore_n 3, 1) := dk_62 (dk_at dksX1_ofAllLands_0 3 rfl rfl)
theorem dX1_ofAllLands_4 : decode cX1_ofAllLands 4 = .ok (.iload_n 3, 1) := dk_29 (dk_at dksX1_ofAllLands_0 4 rfl rfl)
theorem dX1_ofAllLands_5 : decode cX1_ofAllLands 5 = .ok (.bipush 6, 2) := dk_16 6 (dk_at dksX1_ofAllLands_0 5 rfl rfl)
theorem dX1_ofAllLands_7 : decode cX1_ofAllLands 7 = .ok (.if_icmp .ge 51, 3) := dk_162 0 51 (dk_at dksX1_ofAllLands_0 7 rfl rfl)
theorem dX1_ofAllLands_10 : decode cX1_ofAllLands 10 = .ok (.iload_n 2, 1) := dk_28 (dk_at dksX1_ofAllLands_0 10 rfl rfl)
theorem dX1_ofAllLands_11 : decode cX1_ofAllLands 11 = .ok (.iload_n 1, 1) := dk_27 (dk_at dksX1_ofAllLands_0 11 rfl rfl)
theorem dX1_ofAllLands_12 : decode cX1_ofAllLands 12 = .ok (.ifCond .eq 22, 3) := dk_153 0 22 (dk_at dksX1_ofAllLands_0 12 rfl rfl)
theorem dX1_ofAllLands_15 : decode cX1_ofAllLands 15 = .ok (.aload_n 0, 1) := dk_42 (dk_at dksX1_ofAllLands_0 15 rfl rfl)
theorem dX1_ofAllLands_16 : decode cX1_ofAllLands 16 = .ok (.getfield 10, 3) := dk_180 0 10 (dk_at dksX1_ofAllLands_0 16 rfl rfl)
theorem dX1_ofAllLands_19 : decode cX1_ofAllLands 19 = .ok (.iload_n 3, 1) := dk_29 (dk_at dksX1_ofAllLands_0 19 rfl rfl)
theorem dX1_ofAllLands_20 : decode cX1_ofAllLands 20 = .ok (.invokeinterface 61 2, 5) := by decide +kernel
theorem dX1_ofAllLands_25 : decode cX1_ofAllLands 25 = .ok (.checkcast 35, 3) := dk_192 0 35 (dk_at dksX1_ofAllLands_1 5 rfl rfl)
theorem dX1_ofAllLands_28 : decode cX1_ofAllLands 28 = .ok (.getfield 248, 3) := dk_180 0 248 (dk_at dksX1_ofAllLands_1 8 rfl rfl)
theorem dX1_ofAllLands_31 : decode cX1_ofAllLands 31 = .ok (.goto 19, 3) := dk_167 0 19 (dk_at dksX1_ofAllLands_1 11 rfl rfl)
theorem dX1_ofAllLands_34 : decode cX1_ofAllLands 34 = .ok (.aload_n 0, 1) := dk_42 (dk_at dksX1_ofAllLands_1 14 rfl rfl)
theorem dX1_ofAllLands_35 : decode cX1_ofAllLands 35 = .ok (.getfield 10, 3) := dk_180 0 10 (dk_at dksX1_ofAllLands_1 15 rfl rfl)
theorem dX1_ofAllLands_38 : decode cX1_ofAllLands 38 = .ok (.iload_n 3, 1) := dk_29 (dk_at dksX1_ofAllLands_1 18 rfl rfl)
theorem dX1_ofAllLands_39 : decode cX1_ofAllLands 39 = .ok (.invokeinterface 61 2, 5) := by decide +kernel
theorem dX1_ofAllLands_44 : decode cX1_ofAllLands 44 = .ok (.checkcast 35, 3) := dk_192 0 35 (dk_at dksX1_ofAllLands_2 0 rfl rfl)
theorem dX1_ofAllLands_47 : decode cX1_ofAllLands 47 = .ok (.getfield 282, 3) := dk_180 1 26 (dk_at dksX1_ofAllLands_2 3 rfl rfl)
theorem dX1_ofAllLands_50 : decode cX1_ofAllLands 50 = .ok (.iadd, 1) := dk_96 (dk_at dksX1_ofAllLands_2 6 rfl rfl)
theorem dX1_ofAllLands_51 : decode cX1_ofAllLands 51 = .ok (.istore_n 2, 1) := dk_61 (dk_at dksX1_ofAllLands_2 7 rfl rfl)
theorem dX1_ofAllLands_52 : decode cX1_ofAllLands 52 = .ok (.iinc 3 1, 3) := dk_132 3 1 (dk_at dksX1_ofAllLands_2 8 rfl rfl)
theorem dX1_ofAllLands_55 : decode cX1_ofAllLands 55 = .ok (.goto (-51), 3) := dk_167 255 205 (dk_at dksX1_ofAllLands_2 11 rfl rfl)
theorem dX1_ofAllLands_58 : decode cX1_ofAllLands 58 = .ok (.iload_n 2, 1) := dk_28 (dk_at dksX1_ofAllLands_2 14 rfl rfl)
theorem dX1_ofAllLands_59 : decode cX1_ofAllLands 59 = .ok (.ireturn, 1) := dk_172 (dk_at dksX1_ofAllLands_2 15 rfl rfl)
abbrev cX1_withFate : ByteArray := prog_1_method_70_code
def yX1_withFate : MethodName := ⟨RX1, "withFate", "(I)I"⟩
def dkwX1_withFate_2 : List UInt8 := [61, 132, 3, 1, 167, 255, 209, 28, 172]
abbrev dktX1_withFate_2 : List UInt8 := dkwX1_withFate_2 ++ []
def dkwX1_withFate_1 : List UInt8 := [185, 0, 61, 2, 0, 192, 0, 73, 180, 1, 1, 182, 1, 192, 27, 160, 0, 7, 4, 167, 0, 4, 3, 96]
abbrev dktX1_withFate_1 : List UInt8 := dkwX1_withFate_1 ++ dktX1_withFate_2
def dkwX1_withFate_0 : List UInt8 := [3, 61, 3, 62, 29, 42, 180, 0, 22, 185, 0, 65, 1, 0, 162, 0, 40, 28, 42, 180, 0, 22, 29]
abbrev dktX1_withFate_0 : List UInt8 := dkwX1_withFate_0 ++ dktX1_withFate_1
theorem dksX1_withFate_0 : cX1_withFate.data.toList.drop 0 = dktX1_withFate_0 := by decide +kernel
theorem dksX1_withFate_1 : cX1_withFate.data.toList.drop 23 = dktX1_withFate_1 := dk_seg dksX1_withFate_0 23 rfl rfl
theorem dksX1_withFate_2 : cX1_withFate.data.toList.drop 47 = dktX1_withFate_2 := dk_seg dksX1_withFate_1 24 rfl rfl
theorem dX1_withFate_0 : decode cX1_withFate 0 = .ok (.iconst 0, 1) := dk_3 (dk_at dksX1_withFate_0 0 rfl rfl)
theorem dX1_withFate_1 : decode cX1_withFate 1 = .ok (.istore_n 2, 1) := dk_61 (dk_at dksX1_withFate_0 1 rfl rfl)
theorem dX1_withFate_2 : decode cX1_withFate 2 = .ok (.iconst 0, 1) := dk_3 (dk_at dksX1_withFate_0 2 rfl rfl)
theorem dX1_withFate_3 : decode cX1_withFate 3 = .ok (.istore_n 3, 1) := dk_62 (dk_at dksX1_withFate_0 3 rfl rfl)
theorem dX1_withFate_4 : decode cX1_withFate 4 = .ok (.iload_n 3, 1) := dk_29 (dk_at dksX1_withFate_0 4 rfl rfl)
theorem dX1_withFate_5 : decode cX1_withFate 5 = .ok (.aload_n 0, 1) := dk_42 (dk_at dksX1_withFate_0 5 rfl rfl)
theorem dX1_withFate_6 : decode cX1_withFate 6 = .ok (.getfield 22, 3) := dk_180 0 22 (dk_at dksX1_withFate_0 6 rfl rfl)
theorem dX1_withFate_9 : decode cX1_withFate 9 = .ok (.invokeinterface 65 1, 5) := by decide +kernel
theorem dX1_withFate_14 : decode cX1_withFate 14 = .ok (.if_icmp .ge 40, 3) := dk_162 0 40 (dk_at dksX1_withFate_0 14 rfl rfl)
theorem dX1_withFate_17 : decode cX1_withFate 17 = .ok (.iload_n 2, 1) := dk_28 (dk_at dksX1_withFate_0 17 rfl rfl)
theorem dX1_withFate_18 : decode cX1_withFate 18 = .ok (.aload_n 0, 1) := dk_42 (dk_at dksX1_withFate_0 18 rfl rfl)
theorem dX1_withFate_19 : decode cX1_withFate 19 = .ok (.getfield 22, 3) := dk_180 0 22 (dk_at dksX1_withFate_0 19 rfl rfl)
theorem dX1_withFate_22 : decode cX1_withFate 22 = .ok (.iload_n 3, 1) := dk_29 (dk_at dksX1_withFate_0 22 rfl rfl)
theorem dX1_withFate_23 : decode cX1_withFate 23 = .ok (.invokeinterface 61 2, 5) := by decide +kernel
theorem dX1_withFate_28 : decode cX1_withFate 28 = .ok (.checkcast 73, 3) := dk_192 0 73 (dk_at dksX1_withFate_1 5 rfl rfl)
theorem dX1_withFate_31 : decode cX1_withFate 31 = .ok (.getfield 257, 3) := dk_180 1 1 (dk_at dksX1_withFate_1 8 rfl rfl)
theorem dX1_withFate_34 : decode cX1_withFate 34 = .ok (.invokevirtual 448, 3) := dk_182 1 192 (dk_at dksX1_withFate_1 11 rfl rfl)
theorem dX1_withFate_37 : decode cX1_withFate 37 = .ok (.iload_n 1, 1) := dk_27 (dk_at dksX1_withFate_1 14 rfl rfl)
theorem dX1_withFate_38 : decode cX1_withFate 38 = .ok (.if_icmp .ne 7, 3) := dk_160 0 7 (dk_at dksX1_withFate_1 15 rfl rfl)
theorem dX1_withFate_41 : decode cX1_withFate 41 = .ok (.iconst 1, 1) := dk_4 (dk_at dksX1_withFate_1 18 rfl rfl)
theorem dX1_withFate_42 : decode cX1_withFate 42 = .ok (.goto 4, 3) := dk_167 0 4 (dk_at dksX1_withFate_1 19 rfl rfl)
theorem dX1_withFate_45 : decode cX1_withFate 45 = .ok (.iconst 0, 1) := dk_3 (dk_at dksX1_withFate_1 22 rfl rfl)
theorem dX1_withFate_46 : decode cX1_withFate 46 = .ok (.iadd, 1) := dk_96 (dk_at dksX1_withFate_1 23 rfl rfl)
theorem dX1_withFate_47 : decode cX1_withFate 47 = .ok (.istore_n 2, 1) := dk_61 (dk_at dksX1_withFate_2 0 rfl rfl)
theorem dX1_withFate_48 : decode cX1_withFate 48 = .ok (.iinc 3 1, 3) := dk_132 3 1 (dk_at dksX1_withFate_2 1 rfl rfl)
theorem dX1_withFate_51 : decode cX1_withFate 51 = .ok (.goto (-47), 3) := dk_167 255 209 (dk_at dksX1_withFate_2 4 rfl rfl)
theorem dX1_withFate_54 : decode cX1_withFate 54 = .ok (.iload_n 2, 1) := dk_28 (dk_at dksX1_withFate_2 7 rfl rfl)
theorem dX1_withFate_55 : decode cX1_withFate 55 = .ok (.ireturn, 1) := dk_172 (dk_at dksX1_withFate_2 8 rfl rfl)
abbrev cX1_landNow : ByteArray := prog_1_method_58_code
def yX1_landNow : MethodName := ⟨RX1, "landNow", "(II)I"⟩
def dkwX1_landNow_3 : List UInt8 := [172, 45, 180, 0, 248, 172, 42, 27, 182, 1, 159, 172, 42, 27, 182, 1, 162, 172, 42, 27, 182, 1, 165, 172]
abbrev dktX1_landNow_3 : List UInt8 := dkwX1_landNow_3 ++ []
def dkwX1_landNow_2 : List UInt8 := [45, 180, 0, 83, 172, 45, 180, 0, 87, 172, 45, 180, 0, 90, 172, 45, 180, 1, 4, 172, 45, 180, 1, 26]
abbrev dktX1_landNow_2 : List UInt8 := dkwX1_landNow_2 ++ dktX1_landNow_3
def dkwX1_landNow_1 : List UInt8 := [170, 0, 0, 0, 87, 0, 0, 0, 0, 0, 0, 0, 7, 0, 0, 0, 45, 0, 0, 0, 50, 0, 0, 0, 55, 0, 0, 0, 60, 0, 0, 0, 65, 0, 0, 0, 70, 0, 0, 0, 75, 0, 0, 0, 81]
abbrev dktX1_landNow_1 : List UInt8 := dkwX1_landNow_1 ++ dktX1_landNow_2
def dkwX1_landNow_0 : List UInt8 := [42, 180, 0, 10, 27, 185, 0, 61, 2, 0, 192, 0, 35, 78, 28]
abbrev dktX1_landNow_0 : List UInt8 := dkwX1_landNow_0 ++ dktX1_landNow_1
theorem dksX1_landNow_0 : cX1_landNow.data.toList.drop 0 = dktX1_landNow_0 := by decide +kernel
theorem dksX1_landNow_1 : cX1_landNow.data.toList.drop 15 = dktX1_landNow_1 := dk_seg dksX1_landNow_0 15 rfl rfl
theorem dksX1_landNow_2 : cX1_landNow.data.toList.drop 60 = dktX1_landNow_2 := dk_seg dksX1_landNow_1 45 rfl rfl
theorem dksX1_landNow_3 : cX1_landNow.data.toList.drop 84 = dktX1_landNow_3 := dk_seg dksX1_landNow_2 24 rfl rfl
theorem dX1_landNow_0 : decode cX1_landNow 0 = .ok (.aload_n 0, 1) := dk_42 (dk_at dksX1_landNow_0 0 rfl rfl)
theorem dX1_landNow_1 : decode cX1_landNow 1 = .ok (.getfield 10, 3) := dk_180 0 10 (dk_at dksX1_landNow_0 1 rfl rfl)
theorem dX1_landNow_4 : decode cX1_landNow 4 = .ok (.iload_n 1, 1) := dk_27 (dk_at dksX1_landNow_0 4 rfl rfl)
theorem dX1_landNow_5 : decode cX1_landNow 5 = .ok (.invokeinterface 61 2, 5) := by decide +kernel
theorem dX1_landNow_10 : decode cX1_landNow 10 = .ok (.checkcast 35, 3) := dk_192 0 35 (dk_at dksX1_landNow_0 10 rfl rfl)
theorem dX1_landNow_13 : decode cX1_landNow 13 = .ok (.astore_n 3, 1) := dk_78 (dk_at dksX1_landNow_0 13 rfl rfl)
theorem dX1_landNow_14 : decode cX1_landNow 14 = .ok (.iload_n 2, 1) := dk_28 (dk_at dksX1_landNow_0 14 rfl rfl)
theorem dX1_landNow_15 : decode cX1_landNow 15 = .ok (.tableswitch 87 0 7 #[45, 50, 55, 60, 65, 70, 75, 81], 45) := by decide +kernel
theorem dX1_landNow_60 : decode cX1_landNow 60 = .ok (.aload_n 3, 1) := dk_45 (dk_at dksX1_landNow_2 0 rfl rfl)
theorem dX1_landNow_61 : decode cX1_landNow 61 = .ok (.getfield 83, 3) := dk_180 0 83 (dk_at dksX1_landNow_2 1 rfl rfl)
theorem dX1_landNow_64 : decode cX1_landNow 64 = .ok (.ireturn, 1) := dk_172 (dk_at dksX1_landNow_2 4 rfl rfl)
theorem dX1_landNow_65 : decode cX1_landNow 65 = .ok (.aload_n 3, 1) := dk_45 (dk_at dksX1_landNow_2 5 rfl rfl)
theorem dX1_landNow_66 : decode cX1_landNow 66 = .ok (.getfield 87, 3) := dk_180 0 87 (dk_at dksX1_landNow_2 6 rfl rfl)
theorem dX1_landNow_69 : decode cX1_landNow 69 = .ok (.ireturn, 1) := dk_172 (dk_at dksX1_landNow_2 9 rfl rfl)
theorem dX1_landNow_70 : decode cX1_landNow 70 = .ok (.aload_n 3, 1) := dk_45 (dk_at dksX1_landNow_2 10 rfl rfl)
theorem dX1_landNow_71 : decode cX1_landNow 71 = .ok (.getfield 90, 3) := dk_180 0 90 (dk_at dksX1_landNow_2 11 rfl rfl)
theorem dX1_landNow_74 : decode cX1_landNow 74 = .ok (.ireturn, 1) := dk_172 (dk_at dksX1_landNow_2 14 rfl rfl)
theorem dX1_landNow_75 : decode cX1_landNow 75 = .ok (.aload_n 3, 1) := dk_45 (dk_at dksX1_landNow_2 15 rfl rfl)
theorem dX1_landNow_76 : decode cX1_landNow 76 = .ok (.getfield 260, 3) := dk_180 1 4 (dk_at dksX1_landNow_2 16 rfl rfl)
theorem dX1_landNow_79 : decode cX1_landNow 79 = .ok (.ireturn, 1) := dk_172 (dk_at dksX1_landNow_2 19 rfl rfl)
theorem dX1_landNow_80 : decode cX1_landNow 80 = .ok (.aload_n 3, 1) := dk_45 (dk_at dksX1_landNow_2 20 rfl rfl)
theorem dX1_landNow_81 : decode cX1_landNow 81 = .ok (.getfield 282, 3) := dk_180 1 26 (dk_at dksX1_landNow_2 21 rfl rfl)
theorem dX1_landNow_84 : decode cX1_landNow 84 = .ok (.ireturn, 1) := dk_172 (dk_at dksX1_landNow_3 0 rfl rfl)
theorem dX1_landNow_85 : decode cX1_landNow 85 = .ok (.aload_n 3, 1) := dk_45 (dk_at dksX1_landNow_3 1 rfl rfl)
theorem dX1_landNow_86 : decode cX1_landNow 86 = .ok (.getfield 248, 3) := dk_180 0 248 (dk_at dksX1_landNow_3 2 rfl rfl)
theorem dX1_landNow_89 : decode cX1_landNow 89 = .ok (.ireturn, 1) := dk_172 (dk_at dksX1_landNow_3 5 rfl rfl)
theorem dX1_landNow_90 : decode cX1_landNow 90 = .ok (.aload_n 0, 1) := dk_42 (dk_at dksX1_landNow_3 6 rfl rfl)
theorem dX1_landNow_91 : decode cX1_landNow 91 = .ok (.iload_n 1, 1) := dk_27 (dk_at dksX1_landNow_3 7 rfl rfl)
theorem dX1_landNow_92 : decode cX1_landNow 92 = .ok (.invokevirtual 415, 3) := dk_182 1 159 (dk_at dksX1_landNow_3 8 rfl rfl)
theorem dX1_landNow_95 : decode cX1_landNow 95 = .ok (.ireturn, 1) := dk_172 (dk_at dksX1_landNow_3 11 rfl rfl)
theorem dX1_landNow_96 : decode cX1_landNow 96 = .ok (.aload_n 0, 1) := dk_42 (dk_at dksX1_landNow_3 12 rfl rfl)
theorem dX1_landNow_97 : decode cX1_landNow 97 = .ok (.iload_n 1, 1) := dk_27 (dk_at dksX1_landNow_3 13 rfl rfl)
theorem dX1_landNow_98 : decode cX1_landNow 98 = .ok (.invokevirtual 418, 3) := dk_182 1 162 (dk_at dksX1_landNow_3 14 rfl rfl)
theorem dX1_landNow_101 : decode cX1_landNow 101 = .ok (.ireturn, 1) := dk_172 (dk_at dksX1_landNow_3 17 rfl rfl)
theorem dX1_landNow_102 : decode cX1_landNow 102 = .ok (.aload_n 0, 1) := dk_42 (dk_at dksX1_landNow_3 18 rfl rfl)
theorem dX1_landNow_103 : decode cX1_landNow 103 = .ok (.iload_n 1, 1) := dk_27 (dk_at dksX1_landNow_3 19 rfl rfl)
theorem dX1_landNow_104 : decode cX1_landNow 104 = .ok (.invokevirtual 421, 3) := dk_182 1 165 (dk_at dksX1_landNow_3 20 rfl rfl)
theorem dX1_landNow_107 : decode cX1_landNow 107 = .ok (.ireturn, 1) := dk_172 (dk_at dksX1_landNow_3 23 rfl rfl)
abbrev cX1_storeOf : ByteArray := prog_1_method_56_code
def yX1_storeOf : MethodName := ⟨RX1, "storeOf", "(I)I"⟩
def dkwX1_storeOf_2 : List UInt8 := [132, 3, 1, 167, 255, 212, 28, 172]
abbrev dktX1_storeOf_2 : List UInt8 := dkwX1_storeOf_2 ++ []
def dkwX1_storeOf_1 : List UInt8 := [185, 0, 61, 2, 0, 192, 0, 73, 180, 1, 84, 27, 160, 0, 7, 4, 167, 0, 4, 3, 96, 61]
abbrev dktX1_storeOf_1 : List UInt8 := dkwX1_storeOf_1 ++ dktX1_storeOf_2
def dkwX1_storeOf_0 : List UInt8 := [3, 61, 3, 62, 29, 42, 180, 0, 22, 185, 0, 65, 1, 0, 162, 0, 37, 28, 42, 180, 0, 22, 29]
abbrev dktX1_storeOf_0 : List UInt8 := dkwX1_storeOf_0 ++ dktX1_storeOf_1
theorem dksX1_storeOf_0 : cX1_storeOf.data.toList.drop 0 = dktX1_storeOf_0 := by decide +kernel
theorem dksX1_storeOf_1 : cX1_storeOf.data.toList.drop 23 = dktX1_storeOf_1 := dk_seg dksX1_storeOf_0 23 rfl rfl
theorem dksX1_storeOf_2 : cX1_storeOf.data.toList.drop 45 = dktX1_storeOf_2 := dk_seg dksX1_storeOf_1 22 rfl rfl
theorem dX1_storeOf_0 : decode cX1_storeOf 0 = .ok (.iconst 0, 1) := dk_3 (dk_at dksX1_storeOf_0 0 rfl rfl)
theorem dX1_storeOf_1 : decode cX1_storeOf 1 = .ok (.istore_n 2, 1) := dk_61 (dk_at dksX1_storeOf_0 1 rfl rfl)
theorem dX1_storeOf_2 : decode cX1_storeOf 2 = .ok (.iconst 0, 1) := dk_3 (dk_at dksX1_storeOf_0 2 rfl rfl)
theorem dX1_storeOf_3 : decode cX1_storeOf 3 = .ok (.istore_n 3, 1) := dk_62 (dk_at dksX1_storeOf_0 3 rfl rfl)
theorem dX1_storeOf_4 : decode cX1_storeOf 4 = .ok (.iload_n 3, 1) := dk_29 (dk_at dksX1_storeOf_0 4 rfl rfl)
theorem dX1_storeOf_5 : decode cX1_storeOf 5 = .ok (.aload_n 0, 1) := dk_42 (dk_at dksX1_storeOf_0 5 rfl rfl)
theorem dX1_storeOf_6 : decode cX1_storeOf 6 = .ok (.getfield 22, 3) := dk_180 0 22 (dk_at dksX1_storeOf_0 6 rfl rfl)
theorem dX1_storeOf_9 : decode cX1_storeOf 9 = .ok (.invokeinterface 65 1, 5) := by decide +kernel
theorem dX1_storeOf_14 : decode cX1_storeOf 14 = .ok (.if_icmp .ge 37, 3) := dk_162 0 37 (dk_at dksX1_storeOf_0 14 rfl rfl)
theorem dX1_storeOf_17 : decode cX1_storeOf 17 = .ok (.iload_n 2, 1) := dk_28 (dk_at dksX1_storeOf_0 17 rfl rfl)
theorem dX1_storeOf_18 : decode cX1_storeOf 18 = .ok (.aload_n 0, 1) := dk_42 (dk_at dksX1_storeOf_0 18 rfl rfl)
theorem dX1_storeOf_19 : decode cX1_storeOf 19 = .ok (.getfield 22, 3) := dk_180 0 22 (dk_at dksX1_storeOf_0 19 rfl rfl)
theorem dX1_storeOf_22 : decode cX1_storeOf 22 = .ok (.iload_n 3, 1) := dk_29 (dk_at dksX1_storeOf_0 22 rfl rfl)
theorem dX1_storeOf_23 : decode cX1_storeOf 23 = .ok (.invokeinterface 61 2, 5) := by decide +kernel
theorem dX1_storeOf_28 : decode cX1_storeOf 28 = .ok (.checkcast 73, 3) := dk_192 0 73 (dk_at dksX1_storeOf_1 5 rfl rfl)
theorem dX1_storeOf_31 : decode cX1_storeOf 31 = .ok (.getfield 340, 3) := dk_180 1 84 (dk_at dksX1_storeOf_1 8 rfl rfl)
theorem dX1_storeOf_34 : decode cX1_storeOf 34 = .ok (.iload_n 1, 1) := dk_27 (dk_at dksX1_storeOf_1 11 rfl rfl)
theorem dX1_storeOf_35 : decode cX1_storeOf 35 = .ok (.if_icmp .ne 7, 3) := dk_160 0 7 (dk_at dksX1_storeOf_1 12 rfl rfl)
theorem dX1_storeOf_38 : decode cX1_storeOf 38 = .ok (.iconst 1, 1) := dk_4 (dk_at dksX1_storeOf_1 15 rfl rfl)
theorem dX1_storeOf_39 : decode cX1_storeOf 39 = .ok (.goto 4, 3) := dk_167 0 4 (dk_at dksX1_storeOf_1 16 rfl rfl)
theorem dX1_storeOf_42 : decode cX1_storeOf 42 = .ok (.iconst 0, 1) := dk_3 (dk_at dksX1_storeOf_1 19 rfl rfl)
theorem dX1_storeOf_43 : decode cX1_storeOf 43 = .ok (.iadd, 1) := dk_96 (dk_at dksX1_storeOf_1 20 rfl rfl)
theorem dX1_storeOf_44 : decode cX1_storeOf 44 = .ok (.istore_n 2, 1) := dk_61 (dk_at dksX1_storeOf_1 21 rfl rfl)
theorem dX1_storeOf_45 : decode cX1_storeOf 45 = .ok (.iinc 3 1, 3) := dk_132 3 1 (dk_at dksX1_storeOf_2 0 rfl rfl)
theorem dX1_storeOf_48 : decode cX1_storeOf 48 = .ok (.goto (-44), 3) := dk_167 255 212 (dk_at dksX1_storeOf_2 3 rfl rfl)
theorem dX1_storeOf_51 : decode cX1_storeOf 51 = .ok (.iload_n 2, 1) := dk_28 (dk_at dksX1_storeOf_2 6 rfl rfl)
theorem dX1_storeOf_52 : decode cX1_storeOf 52 = .ok (.ireturn, 1) := dk_172 (dk_at dksX1_storeOf_2 7 rfl rfl)
abbrev cX1_sleepersIn : ByteArray := prog_1_method_57_code
def yX1_sleepersIn : MethodName := ⟨RX1, "sleepersIn", "(I)I"⟩
def dkwX1_sleepersIn_3 : List UInt8 := [132, 3, 1, 167, 255, 190, 28, 172]
abbrev dktX1_sleepersIn_3 : List UInt8 := dkwX1_sleepersIn_3 ++ []
def dkwX1_sleepersIn_2 : List UInt8 := [185, 0, 61, 2, 0, 192, 0, 71, 178, 1, 50, 182, 0, 122, 154, 0, 7, 4, 167, 0, 4, 3, 96, 61]
abbrev dktX1_sleepersIn_2 : List UInt8 := dkwX1_sleepersIn_2 ++ dktX1_sleepersIn_3
def dkwX1_sleepersIn_1 : List UInt8 := [185, 0, 61, 2, 0, 192, 0, 71, 180, 0, 134, 27, 160, 0, 29, 42, 180, 0, 19, 29]
abbrev dktX1_sleepersIn_1 : List UInt8 := dkwX1_sleepersIn_1 ++ dktX1_sleepersIn_2
def dkwX1_sleepersIn_0 : List UInt8 := [3, 61, 3, 62, 29, 42, 180, 0, 19, 185, 0, 65, 1, 0, 162, 0, 59, 28, 42, 180, 0, 19, 29]
abbrev dktX1_sleepersIn_0 : List UInt8 := dkwX1_sleepersIn_0 ++ dktX1_sleepersIn_1
theorem dksX1_sleepersIn_0 : cX1_sleepersIn.data.toList.drop 0 = dktX1_sleepersIn_0 := by decide +kernel
theorem dksX1_sleepersIn_1 : cX1_sleepersIn.data.toList.drop 23 = dktX1_sleepersIn_1 := dk_seg dksX1_sleepersIn_0 23 rfl rfl
theorem dksX1_sleepersIn_2 : cX1_sleepersIn.data.toList.drop 43 = dktX1_sleepersIn_2 := dk_seg dksX1_sleepersIn_1 20 rfl rfl
theorem dksX1_sleepersIn_3 : cX1_sleepersIn.data.toList.drop 67 = dktX1_sleepersIn_3 := dk_seg dksX1_sleepersIn_2 24 rfl rfl
theorem dX1_sleepersIn_0 : decode cX1_sleepersIn 0 = .ok (.iconst 0, 1) := dk_3 (dk_at dksX1_sleepersIn_0 0 rfl rfl)
theorem dX1_sleepersIn_1 : decode cX1_sleepersIn 1 = .ok (.istore_n 2, 1) := dk_61 (dk_at dksX1_sleepersIn_0 1 rfl rfl)
theorem dX1_sleepersIn_2 : decode cX1_sleepersIn 2 = .ok (.iconst 0, 1) := dk_3 (dk_at dksX1_sleepersIn_0 2 rfl rfl)
theorem dX1_sleepersIn_3 : decode cX1_sleepersIn 3 = .ok (.istore_n 3, 1) := dk_62 (dk_at dksX1_sleepersIn_0 3 rfl rfl)
theorem dX1_sleepersIn_4 : decode cX1_sleepersIn 4 = .ok (.iload_n 3, 1) := dk_29 (dk_at dksX1_sleepersIn_0 4 rfl rfl)
theorem dX1_sleepersIn_5 : decode cX1_sleepersIn 5 = .ok (.aload_n 0, 1) := dk_42 (dk_at dksX1_sleepersIn_0 5 rfl rfl)
theorem dX1_sleepersIn_6 : decode cX1_sleepersIn 6 = .ok (.getfield 19, 3) := dk_180 0 19 (dk_at dksX1_sleepersIn_0 6 rfl rfl)
theorem dX1_sleepersIn_9 : decode cX1_sleepersIn 9 = .ok (.invokeinterface 65 1, 5) := by decide +kernel
theorem dX1_sleepersIn_14 : decode cX1_sleepersIn 14 = .ok (.if_icmp .ge 59, 3) := dk_162 0 59 (dk_at dksX1_sleepersIn_0 14 rfl rfl)
theorem dX1_sleepersIn_17 : decode cX1_sleepersIn 17 = .ok (.iload_n 2, 1) := dk_28 (dk_at dksX1_sleepersIn_0 17 rfl rfl)
theorem dX1_sleepersIn_18 : decode cX1_sleepersIn 18 = .ok (.aload_n 0, 1) := dk_42 (dk_at dksX1_sleepersIn_0 18 rfl rfl)
theorem dX1_sleepersIn_19 : decode cX1_sleepersIn 19 = .ok (.getfield 19, 3) := dk_180 0 19 (dk_at dksX1_sleepersIn_0 19 rfl rfl)
theorem dX1_sleepersIn_22 : decode cX1_sleepersIn 22 = .ok (.iload_n 3, 1) := dk_29 (dk_at dksX1_sleepersIn_0 22 rfl rfl)
theorem dX1_sleepersIn_23 : decode cX1_sleepersIn 23 = .ok (.invokeinterface 61 2, 5) := by decide +kernel
theorem dX1_sleepersIn_28 : decode cX1_sleepersIn 28 = .ok (.checkcast 71, 3) := dk_192 0 71 (dk_at dksX1_sleepersIn_1 5 rfl rfl)
theorem dX1_sleepersIn_31 : decode cX1_sleepersIn 31 = .ok (.getfield 134, 3) := dk_180 0 134 (dk_at dksX1_sleepersIn_1 8 rfl rfl)
theorem dX1_sleepersIn_34 : decode cX1_sleepersIn 34 = .ok (.iload_n 1, 1) := dk_27 (dk_at dksX1_sleepersIn_1 11 rfl rfl)
theorem dX1_sleepersIn_35 : decode cX1_sleepersIn 35 = .ok (.if_icmp .ne 29, 3) := dk_160 0 29 (dk_at dksX1_sleepersIn_1 12 rfl rfl)
theorem dX1_sleepersIn_38 : decode cX1_sleepersIn 38 = .ok (.aload_n 0, 1) := dk_42 (dk_at dksX1_sleepersIn_1 15 rfl rfl)
theorem dX1_sleepersIn_39 : decode cX1_sleepersIn 39 = .ok (.getfield 19, 3) := dk_180 0 19 (dk_at dksX1_sleepersIn_1 16 rfl rfl)
theorem dX1_sleepersIn_42 : decode cX1_sleepersIn 42 = .ok (.iload_n 3, 1) := dk_29 (dk_at dksX1_sleepersIn_1 19 rfl rfl)
theorem dX1_sleepersIn_43 : decode cX1_sleepersIn 43 = .ok (.invokeinterface 61 2, 5) := by decide +kernel
theorem dX1_sleepersIn_48 : decode cX1_sleepersIn 48 = .ok (.checkcast 71, 3) := dk_192 0 71 (dk_at dksX1_sleepersIn_2 5 rfl rfl)
theorem dX1_sleepersIn_51 : decode cX1_sleepersIn 51 = .ok (.getstatic 306, 3) := dk_178 1 50 (dk_at dksX1_sleepersIn_2 8 rfl rfl)
theorem dX1_sleepersIn_54 : decode cX1_sleepersIn 54 = .ok (.invokevirtual 122, 3) := dk_182 0 122 (dk_at dksX1_sleepersIn_2 11 rfl rfl)
theorem dX1_sleepersIn_57 : decode cX1_sleepersIn 57 = .ok (.ifCond .ne 7, 3) := dk_154 0 7 (dk_at dksX1_sleepersIn_2 14 rfl rfl)
theorem dX1_sleepersIn_60 : decode cX1_sleepersIn 60 = .ok (.iconst 1, 1) := dk_4 (dk_at dksX1_sleepersIn_2 17 rfl rfl)
theorem dX1_sleepersIn_61 : decode cX1_sleepersIn 61 = .ok (.goto 4, 3) := dk_167 0 4 (dk_at dksX1_sleepersIn_2 18 rfl rfl)
theorem dX1_sleepersIn_64 : decode cX1_sleepersIn 64 = .ok (.iconst 0, 1) := dk_3 (dk_at dksX1_sleepersIn_2 21 rfl rfl)
theorem dX1_sleepersIn_65 : decode cX1_sleepersIn 65 = .ok (.iadd, 1) := dk_96 (dk_at dksX1_sleepersIn_2 22 rfl rfl)
theorem dX1_sleepersIn_66 : decode cX1_sleepersIn 66 = .ok (.istore_n 2, 1) := dk_61 (dk_at dksX1_sleepersIn_2 23 rfl rfl)
theorem dX1_sleepersIn_67 : decode cX1_sleepersIn 67 = .ok (.iinc 3 1, 3) := dk_132 3 1 (dk_at dksX1_sleepersIn_3 0 rfl rfl)
theorem dX1_sleepersIn_70 : decode cX1_sleepersIn 70 = .ok (.goto (-66), 3) := dk_167 255 190 (dk_at dksX1_sleepersIn_3 3 rfl rfl)
theorem dX1_sleepersIn_73 : decode cX1_sleepersIn 73 = .ok (.iload_n 2, 1) := dk_28 (dk_at dksX1_sleepersIn_3 6 rfl rfl)
theorem dX1_sleepersIn_74 : decode cX1_sleepersIn 74 = .ok (.ireturn, 1) := dk_172 (dk_at dksX1_sleepersIn_3 7 rfl rfl)
abbrev cX1_whole : ByteArray := prog_1_method_43_code
def yX1_whole : MethodName := ⟨RX1, "whole", "(I)I"⟩
def dkwX1_whole_6 : List UInt8 := [167, 0, 4, 3, 128, 61, 132, 3, 1, 167, 255, 116, 28, 172]
abbrev dktX1_whole_6 : List UInt8 := dkwX1_whole_6 ++ []
def dkwX1_whole_5 : List UInt8 := [132, 6, 1, 167, 255, 159, 28, 21, 4, 158, 0, 16, 21, 4, 21, 5, 160, 0, 9, 4, 29, 120]
abbrev dktX1_whole_5 : List UInt8 := dkwX1_whole_5 ++ dktX1_whole_6
def dkwX1_whole_4 : List UInt8 := [185, 0, 61, 2, 0, 192, 0, 73, 182, 1, 111, 27, 160, 0, 7, 4, 167, 0, 4, 3, 96, 54, 5]
abbrev dktX1_whole_4 : List UInt8 := dkwX1_whole_4 ++ dktX1_whole_5
def dkwX1_whole_3 : List UInt8 := [4, 167, 0, 4, 3, 96, 54, 4, 21, 5, 21, 7, 153, 0, 29, 42, 42, 180, 0, 22, 21, 6]
abbrev dktX1_whole_3 : List UInt8 := dkwX1_whole_3 ++ dktX1_whole_4
def dkwX1_whole_2 : List UInt8 := [192, 0, 73, 180, 0, 226, 29, 160, 0, 7, 4, 167, 0, 4, 3, 54, 7, 21, 4, 21, 7, 153, 0, 7]
abbrev dktX1_whole_2 : List UInt8 := dkwX1_whole_2 ++ dktX1_whole_3
def dkwX1_whole_1 : List UInt8 := [180, 0, 22, 185, 0, 65, 1, 0, 162, 0, 89, 42, 180, 0, 22, 21, 6, 185, 0, 61, 2, 0]
abbrev dktX1_whole_1 : List UInt8 := dkwX1_whole_1 ++ dktX1_whole_2
def dkwX1_whole_0 : List UInt8 := [3, 61, 3, 62, 29, 16, 8, 162, 0, 140, 3, 54, 4, 3, 54, 5, 3, 54, 6, 21, 6, 42]
abbrev dktX1_whole_0 : List UInt8 := dkwX1_whole_0 ++ dktX1_whole_1
theorem dksX1_whole_0 : cX1_whole.data.toList.drop 0 = dktX1_whole_0 := by decide +kernel
theorem dksX1_whole_1 : cX1_whole.data.toList.drop 22 = dktX1_whole_1 := dk_seg dksX1_whole_0 22 rfl rfl
theorem dksX1_whole_2 : cX1_whole.data.toList.drop 44 = dktX1_whole_2 := dk_seg dksX1_whole_1 22 rfl rfl
theorem dksX1_whole_3 : cX1_whole.data.toList.drop 68 = dktX1_whole_3 := dk_seg dksX1_whole_2 24 rfl rfl
theorem dksX1_whole_4 : cX1_whole.data.toList.drop 90 = dktX1_whole_4 := dk_seg dksX1_whole_3 22 rfl rfl
theorem dksX1_whole_5 : cX1_whole.data.toList.drop 113 = dktX1_whole_5 := dk_seg dksX1_whole_4 23 rfl rfl
theorem dksX1_whole_6 : cX1_whole.data.toList.drop 135 = dktX1_whole_6 := dk_seg dksX1_whole_5 22 rfl rfl
theorem dX1_whole_0 : decode cX1_whole 0 = .ok (.iconst 0, 1) := dk_3 (dk_at dksX1_whole_0 0 rfl rfl)
theorem dX1_whole_1 : decode cX1_whole 1 = .ok (.istore_n 2, 1) := dk_61 (dk_at dksX1_whole_0 1 rfl rfl)
theorem dX1_whole_2 : decode cX1_whole 2 = .ok (.iconst 0, 1) := dk_3 (dk_at dksX1_whole_0 2 rfl rfl)
theorem dX1_whole_3 : decode cX1_whole 3 = .ok (.istore_n 3, 1) := dk_62 (dk_at dksX1_whole_0 3 rfl rfl)
theorem dX1_whole_4 : decode cX1_whole 4 = .ok (.iload_n 3, 1) := dk_29 (dk_at dksX1_whole_0 4 rfl rfl)
theorem dX1_whole_5 : decode cX1_whole 5 = .ok (.bipush 8, 2) := dk_16 8 (dk_at dksX1_whole_0 5 rfl rfl)
theorem dX1_whole_7 : decode cX1_whole 7 = .ok (.if_icmp .ge 140, 3) := dk_162 0 140 (dk_at dksX1_whole_0 7 rfl rfl)
theorem dX1_whole_10 : decode cX1_whole 10 = .ok (.iconst 0, 1) := dk_3 (dk_at dksX1_whole_0 10 rfl rfl)
theorem dX1_whole_11 : decode cX1_whole 11 = .ok (.istore 4, 2) := dk_54 4 (dk_at dksX1_whole_0 11 rfl rfl)
theorem dX1_whole_13 : decode cX1_whole 13 = .ok (.iconst 0, 1) := dk_3 (dk_at dksX1_whole_0 13 rfl rfl)
theorem dX1_whole_14 : decode cX1_whole 14 = .ok (.istore 5, 2) := dk_54 5 (dk_at dksX1_whole_0 14 rfl rfl)
theorem dX1_whole_16 : decode cX1_whole 16 = .ok (.iconst 0, 1) := dk_3 (dk_at dksX1_whole_0 16 rfl rfl)
theorem dX1_whole_17 : decode cX1_whole 17 = .ok (.istore 6, 2) := dk_54 6 (dk_at dksX1_whole_0 17 rfl rfl)
theorem dX1_whole_19 : decode cX1_whole 19 = .ok (.iload 6, 2) := dk_21 6 (dk_at dksX1_whole_0 19 rfl rfl)
theorem dX1_whole_21 : decode cX1_whole 21 = .ok (.aload_n 0, 1) := dk_42 (dk_at dksX1_whole_0 21 rfl rfl)
theorem dX1_whole_22 : decode cX1_whole 22 = .ok (.getfield 22, 3) := dk_180 0 22 (dk_at dksX1_whole_1 0 rfl rfl)
theorem dX1_whole_25 : decode cX1_whole 25 = .ok (.invokeinterface 65 1, 5) := by decide +kernel
theorem dX1_whole_30 : decode cX1_whole 30 = .ok (.if_icmp .ge 89, 3) := dk_162 0 89 (dk_at dksX1_whole_1 8 rfl rfl)
theorem dX1_whole_33 : decode cX1_whole 33 = .ok (.aload_n 0, 1) := dk_42 (dk_at dksX1_whole_1 11 rfl rfl)
theorem dX1_whole_34 : decode cX1_whole 34 = .ok (.getfield 22, 3) := dk_180 0 22 (dk_at dksX1_whole_1 12 rfl rfl)
theorem dX1_whole_37 : decode cX1_whole 37 = .ok (.iload 6, 2) := dk_21 6 (dk_at dksX1_whole_1 15 rfl rfl)
theorem dX1_whole_39 : decode cX1_whole 39 = .ok (.invokeinterface 61 2, 5) := by decide +kernel
theorem dX1_whole_44 : decode cX1_whole 44 = .ok (.checkcast 73, 3) := dk_192 0 73 (dk_at dksX1_whole_2 0 rfl rfl)
theorem dX1_whole_47 : decode cX1_whole 47 = .ok (.getfield 226, 3) := dk_180 0 226 (dk_at dksX1_whole_2 3 rfl rfl)
theorem dX1_whole_50 : decode cX1_whole 50 = .ok (.iload_n 3, 1) := dk_29 (dk_at dksX1_whole_2 6 rfl rfl)
theorem dX1_whole_51 : decode cX1_whole 51 = .ok (.if_icmp .ne 7, 3) := dk_160 0 7 (dk_at dksX1_whole_2 7 rfl rfl)
theorem dX1_whole_54 : decode cX1_whole 54 = .ok (.iconst 1, 1) := dk_4 (dk_at dksX1_whole_2 10 rfl rfl)
theorem dX1_whole_55 : decode cX1_whole 55 = .ok (.goto 4, 3) := dk_167 0 4 (dk_at dksX1_whole_2 11 rfl rfl)
theorem dX1_whole_58 : decode cX1_whole 58 = .ok (.iconst 0, 1) := dk_3 (dk_at dksX1_whole_2 14 rfl rfl)
theorem dX1_whole_59 : decode cX1_whole 59 = .ok (.istore 7, 2) := dk_54 7 (dk_at dksX1_whole_2 15 rfl rfl)
theorem dX1_whole_61 : decode cX1_whole 61 = .ok (.iload 4, 2) := dk_21 4 (dk_at dksX1_whole_2 17 rfl rfl)
theorem dX1_whole_63 : decode cX1_whole 63 = .ok (.iload 7, 2) := dk_21 7 (dk_at dksX1_whole_2 19 rfl rfl)
theorem dX1_whole_65 : decode cX1_whole 65 = .ok (.ifCond .eq 7, 3) := dk_153 0 7 (dk_at dksX1_whole_2 21 rfl rfl)
theorem dX1_whole_68 : decode cX1_whole 68 = .ok (.iconst 1, 1) := dk_4 (dk_at dksX1_whole_3 0 rfl rfl)
theorem dX1_whole_69 : decode cX1_whole 69 = .ok (.goto 4, 3) := dk_167 0 4 (dk_at dksX1_whole_3 1 rfl rfl)
theorem dX1_whole_72 : decode cX1_whole 72 = .ok (.iconst 0, 1) := dk_3 (dk_at dksX1_whole_3 4 rfl rfl)
theorem dX1_whole_73 : decode cX1_whole 73 = .ok (.iadd, 1) := dk_96 (dk_at dksX1_whole_3 5 rfl rfl)
theorem dX1_whole_74 : decode cX1_whole 74 = .ok (.istore 4, 2) := dk_54 4 (dk_at dksX1_whole_3 6 rfl rfl)
theorem dX1_whole_76 : decode cX1_whole 76 = .ok (.iload 5, 2) := dk_21 5 (dk_at dksX1_whole_3 8 rfl rfl)
theorem dX1_whole_78 : decode cX1_whole 78 = .ok (.iload 7, 2) := dk_21 7 (dk_at dksX1_whole_3 10 rfl rfl)
theorem dX1_whole_80 : decode cX1_whole 80 = .ok (.ifCond .eq 29, 3) := dk_153 0 29 (dk_at dksX1_whole_3 12 rfl rfl)
theorem dX1_whole_83 : decode cX1_whole 83 = .ok (.aload_n 0, 1) := dk_42 (dk_at dksX1_whole_3 15 rfl rfl)
theorem dX1_whole_84 : decode cX1_whole 84 = .ok (.aload_n 0, 1) := dk_42 (dk_at dksX1_whole_3 16 rfl rfl)
theorem dX1_whole_85 : decode cX1_whole 85 = .ok (.getfield 22, 3) := dk_180 0 22 (dk_at dksX1_whole_3 17 rfl rfl)
theorem dX1_whole_88 : decode cX1_whole 88 = .ok (.iload 6, 2) := dk_21 6 (dk_at dksX1_whole_3 20 rfl rfl)
theorem dX1_whole_90 : decode cX1_whole 90 = .ok (.invokeinterface 61 2, 5) := by decide +kernel
theorem dX1_whole_95 : decode cX1_whole 95 = .ok (.checkcast 73, 3) := dk_192 0 73 (dk_at dksX1_whole_4 5 rfl rfl)
theorem dX1_whole_98 : decode cX1_whole 98 = .ok (.invokevirtual 367, 3) := dk_182 1 111 (dk_at dksX1_whole_4 8 rfl rfl)
theorem dX1_whole_101 : decode cX1_whole 101 = .ok (.iload_n 1, 1) := dk_27 (dk_at dksX1_whole_4 11 rfl rfl)
theorem dX1_whole_102 : decode cX1_whole 102 = .ok (.if_icmp .ne 7, 3) := dk_160 0 7 (dk_at dksX1_whole_4 12 rfl rfl)
theorem dX1_whole_105 : decode cX1_whole 105 = .ok (.iconst 1, 1) := dk_4 (dk_at dksX1_whole_4 15 rfl rfl)
theorem dX1_whole_106 : decode cX1_whole 106 = .ok (.goto 4, 3) := dk_167 0 4 (dk_at dksX1_whole_4 16 rfl rfl)
theorem dX1_whole_109 : decode cX1_whole 109 = .ok (.iconst 0, 1) := dk_3 (dk_at dksX1_whole_4 19 rfl rfl)
theorem dX1_whole_110 : decode cX1_whole 110 = .ok (.iadd, 1) := dk_96 (dk_at dksX1_whole_4 20 rfl rfl)
theorem dX1_whole_111 : decode cX1_whole 111 = .ok (.istore 5, 2) := dk_54 5 (dk_at dksX1_whole_4 21 rfl rfl)
theorem dX1_whole_113 : decode cX1_whole 113 = .ok (.iinc 6 1, 3) := dk_132 6 1 (dk_at dksX1_whole_5 0 rfl rfl)
theorem dX1_whole_116 : decode cX1_whole 116 = .ok (.goto (-97), 3) := dk_167 255 159 (dk_at dksX1_whole_5 3 rfl rfl)
theorem dX1_whole_119 : decode cX1_whole 119 = .ok (.iload_n 2, 1) := dk_28 (dk_at dksX1_whole_5 6 rfl rfl)
theorem dX1_whole_120 : decode cX1_whole 120 = .ok (.iload 4, 2) := dk_21 4 (dk_at dksX1_whole_5 7 rfl rfl)
theorem dX1_whole_122 : decode cX1_whole 122 = .ok (.ifCond .le 16, 3) := dk_158 0 16 (dk_at dksX1_whole_5 9 rfl rfl)
theorem dX1_whole_125 : decode cX1_whole 125 = .ok (.iload 4, 2) := dk_21 4 (dk_at dksX1_whole_5 12 rfl rfl)
theorem dX1_whole_127 : decode cX1_whole 127 = .ok (.iload 5, 2) := dk_21 5 (dk_at dksX1_whole_5 14 rfl rfl)
theorem dX1_whole_129 : decode cX1_whole 129 = .ok (.if_icmp .ne 9, 3) := dk_160 0 9 (dk_at dksX1_whole_5 16 rfl rfl)
theorem dX1_whole_132 : decode cX1_whole 132 = .ok (.iconst 1, 1) := dk_4 (dk_at dksX1_whole_5 19 rfl rfl)
theorem dX1_whole_133 : decode cX1_whole 133 = .ok (.iload_n 3, 1) := dk_29 (dk_at dksX1_whole_5 20 rfl rfl)
theorem dX1_whole_134 : decode cX1_whole 134 = .ok (.ishl, 1) := dk_120 (dk_at dksX1_whole_5 21 rfl rfl)
theorem dX1_whole_135 : decode cX1_whole 135 = .ok (.goto 4, 3) := dk_167 0 4 (dk_at dksX1_whole_6 0 rfl rfl)
theorem dX1_whole_138 : decode cX1_whole 138 = .ok (.iconst 0, 1) := dk_3 (dk_at dksX1_whole_6 3 rfl rfl)
theorem dX1_whole_139 : decode cX1_whole 139 = .ok (.ior, 1) := dk_128 (dk_at dksX1_whole_6 4 rfl rfl)
theorem dX1_whole_140 : decode cX1_whole 140 = .ok (.istore_n 2, 1) := dk_61 (dk_at dksX1_whole_6 5 rfl rfl)
theorem dX1_whole_141 : decode cX1_whole 141 = .ok (.iinc 3 1, 3) := dk_132 3 1 (dk_at dksX1_whole_6 6 rfl rfl)
theorem dX1_whole_144 : decode cX1_whole 144 = .ok (.goto (-140), 3) := dk_167 255 116 (dk_at dksX1_whole_6 9 rfl rfl)
theorem dX1_whole_147 : decode cX1_whole 147 = .ok (.iload_n 2, 1) := dk_28 (dk_at dksX1_whole_6 12 rfl rfl)
theorem dX1_whole_148 : decode cX1_whole 148 = .ok (.ireturn, 1) := dk_172 (dk_at dksX1_whole_6 13 rfl rfl)
abbrev cX1_landOf : ByteArray := prog_1_method_42_code
def yX1_landOf : MethodName := ⟨RX1, "landOf", "(LLullabygate$Part;)I"⟩
def dkwX1_landOf_1 : List UInt8 := [180, 0, 19, 43, 180, 0, 131, 185, 0, 61, 2, 0, 192, 0, 71, 180, 0, 134, 167, 0, 4, 2, 172]
abbrev dktX1_landOf_1 : List UInt8 := dkwX1_landOf_1 ++ []
def dkwX1_landOf_0 : List UInt8 := [43, 180, 1, 84, 2, 159, 0, 10, 43, 180, 1, 84, 167, 0, 34, 43, 180, 0, 131, 2, 159, 0, 25, 42]
abbrev dktX1_landOf_0 : List UInt8 := dkwX1_landOf_0 ++ dktX1_landOf_1
theorem dksX1_landOf_0 : cX1_landOf.data.toList.drop 0 = dktX1_landOf_0 := by decide +kernel
theorem dksX1_landOf_1 : cX1_landOf.data.toList.drop 24 = dktX1_landOf_1 := dk_seg dksX1_landOf_0 24 rfl rfl
theorem dX1_landOf_0 : decode cX1_landOf 0 = .ok (.aload_n 1, 1) := dk_43 (dk_at dksX1_landOf_0 0 rfl rfl)
theorem dX1_landOf_1 : decode cX1_landOf 1 = .ok (.getfield 340, 3) := dk_180 1 84 (dk_at dksX1_landOf_0 1 rfl rfl)
theorem dX1_landOf_4 : decode cX1_landOf 4 = .ok (.iconst (-1), 1) := dk_2 (dk_at dksX1_landOf_0 4 rfl rfl)
theorem dX1_landOf_5 : decode cX1_landOf 5 = .ok (.if_icmp .eq 10, 3) := dk_159 0 10 (dk_at dksX1_landOf_0 5 rfl rfl)
theorem dX1_landOf_8 : decode cX1_landOf 8 = .ok (.aload_n 1, 1) := dk_43 (dk_at dksX1_landOf_0 8 rfl rfl)
theorem dX1_landOf_9 : decode cX1_landOf 9 = .ok (.getfield 340, 3) := dk_180 1 84 (dk_at dksX1_landOf_0 9 rfl rfl)
theorem dX1_landOf_12 : decode cX1_landOf 12 = .ok (.goto 34, 3) := dk_167 0 34 (dk_at dksX1_landOf_0 12 rfl rfl)
theorem dX1_landOf_15 : decode cX1_landOf 15 = .ok (.aload_n 1, 1) := dk_43 (dk_at dksX1_landOf_0 15 rfl rfl)
theorem dX1_landOf_16 : decode cX1_landOf 16 = .ok (.getfield 131, 3) := dk_180 0 131 (dk_at dksX1_landOf_0 16 rfl rfl)
theorem dX1_landOf_19 : decode cX1_landOf 19 = .ok (.iconst (-1), 1) := dk_2 (dk_at dksX1_landOf_0 19 rfl rfl)
theorem dX1_landOf_20 : decode cX1_landOf 20 = .ok (.if_icmp .eq 25, 3) := dk_159 0 25 (dk_at dksX1_landOf_0 20 rfl rfl)
theorem dX1_landOf_23 : decode cX1_landOf 23 = .ok (.aload_n 0, 1) := dk_42 (dk_at dksX1_landOf_0 23 rfl rfl)
theorem dX1_landOf_24 : decode cX1_landOf 24 = .ok (.getfield 19, 3) := dk_180 0 19 (dk_at dksX1_landOf_1 0 rfl rfl)
theorem dX1_landOf_27 : decode cX1_landOf 27 = .ok (.aload_n 1, 1) := dk_43 (dk_at dksX1_landOf_1 3 rfl rfl)
theorem dX1_landOf_28 : decode cX1_landOf 28 = .ok (.getfield 131, 3) := dk_180 0 131 (dk_at dksX1_landOf_1 4 rfl rfl)
theorem dX1_landOf_31 : decode cX1_landOf 31 = .ok (.invokeinterface 61 2, 5) := by decide +kernel
theorem dX1_landOf_36 : decode cX1_landOf 36 = .ok (.checkcast 71, 3) := dk_192 0 71 (dk_at dksX1_landOf_1 12 rfl rfl)
theorem dX1_landOf_39 : decode cX1_landOf 39 = .ok (.getfield 134, 3) := dk_180 0 134 (dk_at dksX1_landOf_1 15 rfl rfl)
theorem dX1_landOf_42 : decode cX1_landOf 42 = .ok (.goto 4, 3) := dk_167 0 4 (dk_at dksX1_landOf_1 18 rfl rfl)
theorem dX1_landOf_45 : decode cX1_landOf 45 = .ok (.iconst (-1), 1) := dk_2 (dk_at dksX1_landOf_1 21 rfl rfl)
theorem dX1_landOf_46 : decode cX1_landOf 46 = .ok (.ireturn, 1) := dk_172 (dk_at dksX1_landOf_1 22 rfl rfl)
abbrev cX1_sumGates : ByteArray := prog_1_method_77_code
def yX1_sumGates : MethodName := ⟨RX1, "sumGates", "(LLullabygate$Sum;)V"⟩
def dkwX1_sumGates_2 : List UInt8 := [182, 1, 253, 132, 2, 1, 167, 255, 205, 177]
abbrev dktX1_sumGates_2 : List UInt8 := dkwX1_sumGates_2 ++ []
def dkwX1_sumGates_1 : List UInt8 := [42, 28, 29, 182, 1, 174, 133, 182, 1, 253, 132, 3, 1, 167, 255, 236, 43, 42, 28, 182, 1, 156, 133]
abbrev dktX1_sumGates_1 : List UInt8 := dkwX1_sumGates_1 ++ dktX1_sumGates_2
def dkwX1_sumGates_0 : List UInt8 := [3, 61, 28, 42, 180, 0, 16, 185, 0, 65, 1, 0, 162, 0, 44, 5, 62, 29, 16, 9, 163, 0, 20, 43]
abbrev dktX1_sumGates_0 : List UInt8 := dkwX1_sumGates_0 ++ dktX1_sumGates_1
theorem dksX1_sumGates_0 : cX1_sumGates.data.toList.drop 0 = dktX1_sumGates_0 := by decide +kernel
theorem dksX1_sumGates_1 : cX1_sumGates.data.toList.drop 24 = dktX1_sumGates_1 := dk_seg dksX1_sumGates_0 24 rfl rfl
theorem dksX1_sumGates_2 : cX1_sumGates.data.toList.drop 47 = dktX1_sumGates_2 := dk_seg dksX1_sumGates_1 23 rfl rfl
theorem dX1_sumGates_0 : decode cX1_sumGates 0 = .ok (.iconst 0, 1) := dk_3 (dk_at dksX1_sumGates_0 0 rfl rfl)
theorem dX1_sumGates_1 : decode cX1_sumGates 1 = .ok (.istore_n 2, 1) := dk_61 (dk_at dksX1_sumGates_0 1 rfl rfl)
theorem dX1_sumGates_2 : decode cX1_sumGates 2 = .ok (.iload_n 2, 1) := dk_28 (dk_at dksX1_sumGates_0 2 rfl rfl)
theorem dX1_sumGates_3 : decode cX1_sumGates 3 = .ok (.aload_n 0, 1) := dk_42 (dk_at dksX1_sumGates_0 3 rfl rfl)
theorem dX1_sumGates_4 : decode cX1_sumGates 4 = .ok (.getfield 16, 3) := dk_180 0 16 (dk_at dksX1_sumGates_0 4 rfl rfl)
theorem dX1_sumGates_7 : decode cX1_sumGates 7 = .ok (.invokeinterface 65 1, 5) := by decide +kernel
theorem dX1_sumGates_12 : decode cX1_sumGates 12 = .ok (.if_icmp .ge 44, 3) := dk_162 0 44 (dk_at dksX1_sumGates_0 12 rfl rfl)
theorem dX1_sumGates_15 : decode cX1_sumGates 15 = .ok (.iconst 2, 1) := dk_5 (dk_at dksX1_sumGates_0 15 rfl rfl)
theorem dX1_sumGates_16 : decode cX1_sumGates 16 = .ok (.istore_n 3, 1) := dk_62 (dk_at dksX1_sumGates_0 16 rfl rfl)
theorem dX1_sumGates_17 : decode cX1_sumGates 17 = .ok (.iload_n 3, 1) := dk_29 (dk_at dksX1_sumGates_0 17 rfl rfl)
theorem dX1_sumGates_18 : decode cX1_sumGates 18 = .ok (.bipush 9, 2) := dk_16 9 (dk_at dksX1_sumGates_0 18 rfl rfl)
theorem dX1_sumGates_20 : decode cX1_sumGates 20 = .ok (.if_icmp .gt 20, 3) := dk_163 0 20 (dk_at dksX1_sumGates_0 20 rfl rfl)
theorem dX1_sumGates_23 : decode cX1_sumGates 23 = .ok (.aload_n 1, 1) := dk_43 (dk_at dksX1_sumGates_0 23 rfl rfl)
theorem dX1_sumGates_24 : decode cX1_sumGates 24 = .ok (.aload_n 0, 1) := dk_42 (dk_at dksX1_sumGates_1 0 rfl rfl)
theorem dX1_sumGates_25 : decode cX1_sumGates 25 = .ok (.iload_n 2, 1) := dk_28 (dk_at dksX1_sumGates_1 1 rfl rfl)
theorem dX1_sumGates_26 : decode cX1_sumGates 26 = .ok (.iload_n 3, 1) := dk_29 (dk_at dksX1_sumGates_1 2 rfl rfl)
theorem dX1_sumGates_27 : decode cX1_sumGates 27 = .ok (.invokevirtual 430, 3) := dk_182 1 174 (dk_at dksX1_sumGates_1 3 rfl rfl)
theorem dX1_sumGates_30 : decode cX1_sumGates 30 = .ok (.i2l, 1) := dk_133 (dk_at dksX1_sumGates_1 6 rfl rfl)
theorem dX1_sumGates_31 : decode cX1_sumGates 31 = .ok (.invokevirtual 509, 3) := dk_182 1 253 (dk_at dksX1_sumGates_1 7 rfl rfl)
theorem dX1_sumGates_34 : decode cX1_sumGates 34 = .ok (.iinc 3 1, 3) := dk_132 3 1 (dk_at dksX1_sumGates_1 10 rfl rfl)
theorem dX1_sumGates_37 : decode cX1_sumGates 37 = .ok (.goto (-20), 3) := dk_167 255 236 (dk_at dksX1_sumGates_1 13 rfl rfl)
theorem dX1_sumGates_40 : decode cX1_sumGates 40 = .ok (.aload_n 1, 1) := dk_43 (dk_at dksX1_sumGates_1 16 rfl rfl)
theorem dX1_sumGates_41 : decode cX1_sumGates 41 = .ok (.aload_n 0, 1) := dk_42 (dk_at dksX1_sumGates_1 17 rfl rfl)
theorem dX1_sumGates_42 : decode cX1_sumGates 42 = .ok (.iload_n 2, 1) := dk_28 (dk_at dksX1_sumGates_1 18 rfl rfl)
theorem dX1_sumGates_43 : decode cX1_sumGates 43 = .ok (.invokevirtual 412, 3) := dk_182 1 156 (dk_at dksX1_sumGates_1 19 rfl rfl)
theorem dX1_sumGates_46 : decode cX1_sumGates 46 = .ok (.i2l, 1) := dk_133 (dk_at dksX1_sumGates_1 22 rfl rfl)
theorem dX1_sumGates_47 : decode cX1_sumGates 47 = .ok (.invokevirtual 509, 3) := dk_182 1 253 (dk_at dksX1_sumGates_2 0 rfl rfl)
theorem dX1_sumGates_50 : decode cX1_sumGates 50 = .ok (.iinc 2 1, 3) := dk_132 2 1 (dk_at dksX1_sumGates_2 3 rfl rfl)
theorem dX1_sumGates_53 : decode cX1_sumGates 53 = .ok (.goto (-51), 3) := dk_167 255 205 (dk_at dksX1_sumGates_2 6 rfl rfl)
theorem dX1_sumGates_56 : decode cX1_sumGates 56 = .ok (.return_, 1) := dk_177 (dk_at dksX1_sumGates_2 9 rfl rfl)
abbrev cX1_gateNow : ByteArray := prog_1_method_60_code
def yX1_gateNow : MethodName := ⟨RX1, "gateNow", "(II)I"⟩
def dkwX1_gateNow_6 : List UInt8 := [42, 45, 182, 1, 130, 172, 45, 182, 1, 171, 172]
abbrev dktX1_gateNow_6 : List UInt8 := dkwX1_gateNow_6 ++ []
def dkwX1_gateNow_5 : List UInt8 := [153, 0, 7, 2, 167, 0, 19, 45, 180, 0, 209, 3, 185, 0, 61, 2, 0, 192, 0, 71, 180, 0, 218, 172]
abbrev dktX1_gateNow_5 : List UInt8 := dkwX1_gateNow_5 ++ dktX1_gateNow_6
def dkwX1_gateNow_4 : List UInt8 := [167, 0, 4, 3, 172, 45, 180, 0, 209, 185, 0, 65, 1, 0, 172, 45, 180, 0, 209, 185, 1, 66, 1, 0]
abbrev dktX1_gateNow_4 : List UInt8 := dkwX1_gateNow_4 ++ dktX1_gateNow_5
def dkwX1_gateNow_3 : List UInt8 := [167, 0, 4, 3, 172, 45, 180, 0, 103, 172, 45, 180, 0, 106, 172, 45, 182, 0, 178, 153, 0, 7, 4]
abbrev dktX1_gateNow_3 : List UInt8 := dkwX1_gateNow_3 ++ dktX1_gateNow_4
def dkwX1_gateNow_2 : List UInt8 := [45, 180, 1, 115, 172, 45, 180, 1, 118, 172, 45, 42, 180, 1, 60, 182, 1, 63, 153, 0, 7, 4]
abbrev dktX1_gateNow_2 : List UInt8 := dkwX1_gateNow_2 ++ dktX1_gateNow_3
def dkwX1_gateNow_1 : List UInt8 := [170, 0, 0, 0, 148, 0, 0, 0, 0, 0, 0, 0, 8, 0, 0, 0, 49, 0, 0, 0, 54, 0, 0, 0, 59, 0, 0, 0, 76, 0, 0, 0, 81, 0, 0, 0, 86, 0, 0, 0, 99, 0, 0, 0, 109, 0, 0, 0, 142]
abbrev dktX1_gateNow_1 : List UInt8 := dkwX1_gateNow_1 ++ dktX1_gateNow_2
def dkwX1_gateNow_0 : List UInt8 := [42, 180, 0, 16, 27, 185, 0, 61, 2, 0, 192, 0, 69, 78, 28]
abbrev dktX1_gateNow_0 : List UInt8 := dkwX1_gateNow_0 ++ dktX1_gateNow_1
theorem dksX1_gateNow_0 : cX1_gateNow.data.toList.drop 0 = dktX1_gateNow_0 := by decide +kernel
theorem dksX1_gateNow_1 : cX1_gateNow.data.toList.drop 15 = dktX1_gateNow_1 := dk_seg dksX1_gateNow_0 15 rfl rfl
theorem dksX1_gateNow_2 : cX1_gateNow.data.toList.drop 64 = dktX1_gateNow_2 := dk_seg dksX1_gateNow_1 49 rfl rfl
theorem dksX1_gateNow_3 : cX1_gateNow.data.toList.drop 86 = dktX1_gateNow_3 := dk_seg dksX1_gateNow_2 22 rfl rfl
theorem dksX1_gateNow_4 : cX1_gateNow.data.toList.drop 109 = dktX1_gateNow_4 := dk_seg dksX1_gateNow_3 23 rfl rfl
theorem dksX1_gateNow_5 : cX1_gateNow.data.toList.drop 133 = dktX1_gateNow_5 := dk_seg dksX1_gateNow_4 24 rfl rfl
theorem dksX1_gateNow_6 : cX1_gateNow.data.toList.drop 157 = dktX1_gateNow_6 := dk_seg dksX1_gateNow_5 24 rfl rfl
theorem dX1_gateNow_0 : decode cX1_gateNow 0 = .ok (.aload_n 0, 1) := dk_42 (dk_at dksX1_gateNow_0 0 rfl rfl)
theorem dX1_gateNow_1 : decode cX1_gateNow 1 = .ok (.getfield 16, 3) := dk_180 0 16 (dk_at dksX1_gateNow_0 1 rfl rfl)
theorem dX1_gateNow_4 : decode cX1_gateNow 4 = .ok (.iload_n 1, 1) := dk_27 (dk_at dksX1_gateNow_0 4 rfl rfl)
theorem dX1_gateNow_5 : decode cX1_gateNow 5 = .ok (.invokeinterface 61 2, 5) := by decide +kernel
theorem dX1_gateNow_10 : decode cX1_gateNow 10 = .ok (.checkcast 69, 3) := dk_192 0 69 (dk_at dksX1_gateNow_0 10 rfl rfl)
theorem dX1_gateNow_13 : decode cX1_gateNow 13 = .ok (.astore_n 3, 1) := dk_78 (dk_at dksX1_gateNow_0 13 rfl rfl)
theorem dX1_gateNow_14 : decode cX1_gateNow 14 = .ok (.iload_n 2, 1) := dk_28 (dk_at dksX1_gateNow_0 14 rfl rfl)
theorem dX1_gateNow_15 : decode cX1_gateNow 15 = .ok (.tableswitch 148 0 8 #[49, 54, 59, 76, 81, 86, 99, 109, 142], 49) := by decide +kernel
theorem dX1_gateNow_64 : decode cX1_gateNow 64 = .ok (.aload_n 3, 1) := dk_45 (dk_at dksX1_gateNow_2 0 rfl rfl)
theorem dX1_gateNow_65 : decode cX1_gateNow 65 = .ok (.getfield 371, 3) := dk_180 1 115 (dk_at dksX1_gateNow_2 1 rfl rfl)
theorem dX1_gateNow_68 : decode cX1_gateNow 68 = .ok (.ireturn, 1) := dk_172 (dk_at dksX1_gateNow_2 4 rfl rfl)
theorem dX1_gateNow_69 : decode cX1_gateNow 69 = .ok (.aload_n 3, 1) := dk_45 (dk_at dksX1_gateNow_2 5 rfl rfl)
theorem dX1_gateNow_70 : decode cX1_gateNow 70 = .ok (.getfield 374, 3) := dk_180 1 118 (dk_at dksX1_gateNow_2 6 rfl rfl)
theorem dX1_gateNow_73 : decode cX1_gateNow 73 = .ok (.ireturn, 1) := dk_172 (dk_at dksX1_gateNow_2 9 rfl rfl)
theorem dX1_gateNow_74 : decode cX1_gateNow 74 = .ok (.aload_n 3, 1) := dk_45 (dk_at dksX1_gateNow_2 10 rfl rfl)
theorem dX1_gateNow_75 : decode cX1_gateNow 75 = .ok (.aload_n 0, 1) := dk_42 (dk_at dksX1_gateNow_2 11 rfl rfl)
theorem dX1_gateNow_76 : decode cX1_gateNow 76 = .ok (.getfield 316, 3) := dk_180 1 60 (dk_at dksX1_gateNow_2 12 rfl rfl)
theorem dX1_gateNow_79 : decode cX1_gateNow 79 = .ok (.invokevirtual 319, 3) := dk_182 1 63 (dk_at dksX1_gateNow_2 15 rfl rfl)
theorem dX1_gateNow_82 : decode cX1_gateNow 82 = .ok (.ifCond .eq 7, 3) := dk_153 0 7 (dk_at dksX1_gateNow_2 18 rfl rfl)
theorem dX1_gateNow_85 : decode cX1_gateNow 85 = .ok (.iconst 1, 1) := dk_4 (dk_at dksX1_gateNow_2 21 rfl rfl)
theorem dX1_gateNow_86 : decode cX1_gateNow 86 = .ok (.goto 4, 3) := dk_167 0 4 (dk_at dksX1_gateNow_3 0 rfl rfl)
theorem dX1_gateNow_89 : decode cX1_gateNow 89 = .ok (.iconst 0, 1) := dk_3 (dk_at dksX1_gateNow_3 3 rfl rfl)
theorem dX1_gateNow_90 : decode cX1_gateNow 90 = .ok (.ireturn, 1) := dk_172 (dk_at dksX1_gateNow_3 4 rfl rfl)
theorem dX1_gateNow_91 : decode cX1_gateNow 91 = .ok (.aload_n 3, 1) := dk_45 (dk_at dksX1_gateNow_3 5 rfl rfl)
theorem dX1_gateNow_92 : decode cX1_gateNow 92 = .ok (.getfield 103, 3) := dk_180 0 103 (dk_at dksX1_gateNow_3 6 rfl rfl)
theorem dX1_gateNow_95 : decode cX1_gateNow 95 = .ok (.ireturn, 1) := dk_172 (dk_at dksX1_gateNow_3 9 rfl rfl)
theorem dX1_gateNow_96 : decode cX1_gateNow 96 = .ok (.aload_n 3, 1) := dk_45 (dk_at dksX1_gateNow_3 10 rfl rfl)
theorem dX1_gateNow_97 : decode cX1_gateNow 97 = .ok (.getfield 106, 3) := dk_180 0 106 (dk_at dksX1_gateNow_3 11 rfl rfl)
theorem dX1_gateNow_100 : decode cX1_gateNow 100 = .ok (.ireturn, 1) := dk_172 (dk_at dksX1_gateNow_3 14 rfl rfl)
theorem dX1_gateNow_101 : decode cX1_gateNow 101 = .ok (.aload_n 3, 1) := dk_45 (dk_at dksX1_gateNow_3 15 rfl rfl)
theorem dX1_gateNow_102 : decode cX1_gateNow 102 = .ok (.invokevirtual 178, 3) := dk_182 0 178 (dk_at dksX1_gateNow_3 16 rfl rfl)
theorem dX1_gateNow_105 : decode cX1_gateNow 105 = .ok (.ifCond .eq 7, 3) := dk_153 0 7 (dk_at dksX1_gateNow_3 19 rfl rfl)
theorem dX1_gateNow_108 : decode cX1_gateNow 108 = .ok (.iconst 1, 1) := dk_4 (dk_at dksX1_gateNow_3 22 rfl rfl)
theorem dX1_gateNow_109 : decode cX1_gateNow 109 = .ok (.goto 4, 3) := dk_167 0 4 (dk_at dksX1_gateNow_4 0 rfl rfl)
theorem dX1_gateNow_112 : decode cX1_gateNow 112 = .ok (.iconst 0, 1) := dk_3 (dk_at dksX1_gateNow_4 3 rfl rfl)
theorem dX1_gateNow_113 : decode cX1_gateNow 113 = .ok (.ireturn, 1) := dk_172 (dk_at dksX1_gateNow_4 4 rfl rfl)
theorem dX1_gateNow_114 : decode cX1_gateNow 114 = .ok (.aload_n 3, 1) := dk_45 (dk_at dksX1_gateNow_4 5 rfl rfl)
theorem dX1_gateNow_115 : decode cX1_gateNow 115 = .ok (.getfield 209, 3) := dk_180 0 209 (dk_at dksX1_gateNow_4 6 rfl rfl)
theorem dX1_gateNow_118 : decode cX1_gateNow 118 = .ok (.invokeinterface 65 1, 5) := by decide +kernel
theorem dX1_gateNow_123 : decode cX1_gateNow 123 = .ok (.ireturn, 1) := dk_172 (dk_at dksX1_gateNow_4 14 rfl rfl)
theorem dX1_gateNow_124 : decode cX1_gateNow 124 = .ok (.aload_n 3, 1) := dk_45 (dk_at dksX1_gateNow_4 15 rfl rfl)
theorem dX1_gateNow_125 : decode cX1_gateNow 125 = .ok (.getfield 209, 3) := dk_180 0 209 (dk_at dksX1_gateNow_4 16 rfl rfl)
theorem dX1_gateNow_128 : decode cX1_gateNow 128 = .ok (.invokeinterface 322 1, 5) := by decide +kernel
theorem dX1_gateNow_133 : decode cX1_gateNow 133 = .ok (.ifCond .eq 7, 3) := dk_153 0 7 (dk_at dksX1_gateNow_5 0 rfl rfl)
theorem dX1_gateNow_136 : decode cX1_gateNow 136 = .ok (.iconst (-1), 1) := dk_2 (dk_at dksX1_gateNow_5 3 rfl rfl)
theorem dX1_gateNow_137 : decode cX1_gateNow 137 = .ok (.goto 19, 3) := dk_167 0 19 (dk_at dksX1_gateNow_5 4 rfl rfl)
theorem dX1_gateNow_140 : decode cX1_gateNow 140 = .ok (.aload_n 3, 1) := dk_45 (dk_at dksX1_gateNow_5 7 rfl rfl)
theorem dX1_gateNow_141 : decode cX1_gateNow 141 = .ok (.getfield 209, 3) := dk_180 0 209 (dk_at dksX1_gateNow_5 8 rfl rfl)
theorem dX1_gateNow_144 : decode cX1_gateNow 144 = .ok (.iconst 0, 1) := dk_3 (dk_at dksX1_gateNow_5 11 rfl rfl)
theorem dX1_gateNow_145 : decode cX1_gateNow 145 = .ok (.invokeinterface 61 2, 5) := by decide +kernel
theorem dX1_gateNow_150 : decode cX1_gateNow 150 = .ok (.checkcast 71, 3) := dk_192 0 71 (dk_at dksX1_gateNow_5 17 rfl rfl)
theorem dX1_gateNow_153 : decode cX1_gateNow 153 = .ok (.getfield 218, 3) := dk_180 0 218 (dk_at dksX1_gateNow_5 20 rfl rfl)
theorem dX1_gateNow_156 : decode cX1_gateNow 156 = .ok (.ireturn, 1) := dk_172 (dk_at dksX1_gateNow_5 23 rfl rfl)
theorem dX1_gateNow_157 : decode cX1_gateNow 157 = .ok (.aload_n 0, 1) := dk_42 (dk_at dksX1_gateNow_6 0 rfl rfl)
theorem dX1_gateNow_158 : decode cX1_gateNow 158 = .ok (.aload_n 3, 1) := dk_45 (dk_at dksX1_gateNow_6 1 rfl rfl)
theorem dX1_gateNow_159 : decode cX1_gateNow 159 = .ok (.invokevirtual 386, 3) := dk_182 1 130 (dk_at dksX1_gateNow_6 2 rfl rfl)
theorem dX1_gateNow_162 : decode cX1_gateNow 162 = .ok (.ireturn, 1) := dk_172 (dk_at dksX1_gateNow_6 5 rfl rfl)
theorem dX1_gateNow_163 : decode cX1_gateNow 163 = .ok (.aload_n 3, 1) := dk_45 (dk_at dksX1_gateNow_6 6 rfl rfl)
theorem dX1_gateNow_164 : decode cX1_gateNow 164 = .ok (.invokevirtual 427, 3) := dk_182 1 171 (dk_at dksX1_gateNow_6 7 rfl rfl)
theorem dX1_gateNow_167 : decode cX1_gateNow 167 = .ok (.ireturn, 1) := dk_172 (dk_at dksX1_gateNow_6 10 rfl rfl)
abbrev cX1_hiddenWorth : ByteArray := prog_1_method_47_code
def yX1_hiddenWorth : MethodName := ⟨RX1, "hiddenWorth", "(LLullabygate$Gate;)I"⟩
def dkwX1_hiddenWorth_2 : List UInt8 := [180, 0, 199, 2, 130, 126, 182, 1, 14, 96, 61, 132, 3, 1, 167, 255, 201, 28, 172]
abbrev dktX1_hiddenWorth_2 : List UInt8 := dkwX1_hiddenWorth_2 ++ []
def dkwX1_hiddenWorth_1 : List UInt8 := [185, 0, 61, 2, 0, 192, 0, 71, 58, 4, 28, 42, 42, 25, 4, 180, 0, 218, 182, 0, 185, 25, 4]
abbrev dktX1_hiddenWorth_1 : List UInt8 := dkwX1_hiddenWorth_1 ++ dktX1_hiddenWorth_2
def dkwX1_hiddenWorth_0 : List UInt8 := [3, 61, 3, 62, 29, 43, 180, 0, 209, 185, 0, 65, 1, 0, 162, 0, 48, 43, 180, 0, 209, 29]
abbrev dktX1_hiddenWorth_0 : List UInt8 := dkwX1_hiddenWorth_0 ++ dktX1_hiddenWorth_1
theorem dksX1_hiddenWorth_0 : cX1_hiddenWorth.data.toList.drop 0 = dktX1_hiddenWorth_0 := by decide +kernel
theorem dksX1_hiddenWorth_1 : cX1_hiddenWorth.data.toList.drop 22 = dktX1_hiddenWorth_1 := dk_seg dksX1_hiddenWorth_0 22 rfl rfl
theorem dksX1_hiddenWorth_2 : cX1_hiddenWorth.data.toList.drop 45 = dktX1_hiddenWorth_2 := dk_seg dksX1_hiddenWorth_1 23 rfl rfl
theorem dX1_hiddenWorth_0 : decode cX1_hiddenWorth 0 = .ok (.iconst 0, 1) := dk_3 (dk_at dksX1_hiddenWorth_0 0 rfl rfl)
theorem dX1_hiddenWorth_1 : decode cX1_hiddenWorth 1 = .ok (.istore_n 2, 1) := dk_61 (dk_at dksX1_hiddenWorth_0 1 rfl rfl)
theorem dX1_hiddenWorth_2 : decode cX1_hiddenWorth 2 = .ok (.iconst 0, 1) := dk_3 (dk_at dksX1_hiddenWorth_0 2 rfl rfl)
theorem dX1_hiddenWorth_3 : decode cX1_hiddenWorth 3 = .ok (.istore_n 3, 1) := dk_62 (dk_at dksX1_hiddenWorth_0 3 rfl rfl)
theorem dX1_hiddenWorth_4 : decode cX1_hiddenWorth 4 = .ok (.iload_n 3, 1) := dk_29 (dk_at dksX1_hiddenWorth_0 4 rfl rfl)
theorem dX1_hiddenWorth_5 : decode cX1_hiddenWorth 5 = .ok (.aload_n 1, 1) := dk_43 (dk_at dksX1_hiddenWorth_0 5 rfl rfl)
theorem dX1_hiddenWorth_6 : decode cX1_hiddenWorth 6 = .ok (.getfield 209, 3) := dk_180 0 209 (dk_at dksX1_hiddenWorth_0 6 rfl rfl)
theorem dX1_hiddenWorth_9 : decode cX1_hiddenWorth 9 = .ok (.invokeinterface 65 1, 5) := by decide +kernel
theorem dX1_hiddenWorth_14 : decode cX1_hiddenWorth 14 = .ok (.if_icmp .ge 48, 3) := dk_162 0 48 (dk_at dksX1_hiddenWorth_0 14 rfl rfl)
theorem dX1_hiddenWorth_17 : decode cX1_hiddenWorth 17 = .ok (.aload_n 1, 1) := dk_43 (dk_at dksX1_hiddenWorth_0 17 rfl rfl)
theorem dX1_hiddenWorth_18 : decode cX1_hiddenWorth 18 = .ok (.getfield 209, 3) := dk_180 0 209 (dk_at dksX1_hiddenWorth_0 18 rfl rfl)
theorem dX1_hiddenWorth_21 : decode cX1_hiddenWorth 21 = .ok (.iload_n 3, 1) := dk_29 (dk_at dksX1_hiddenWorth_0 21 rfl rfl)
theorem dX1_hiddenWorth_22 : decode cX1_hiddenWorth 22 = .ok (.invokeinterface 61 2, 5) := by decide +kernel
theorem dX1_hiddenWorth_27 : decode cX1_hiddenWorth 27 = .ok (.checkcast 71, 3) := dk_192 0 71 (dk_at dksX1_hiddenWorth_1 5 rfl rfl)
theorem dX1_hiddenWorth_30 : decode cX1_hiddenWorth 30 = .ok (.astore 4, 2) := dk_58 4 (dk_at dksX1_hiddenWorth_1 8 rfl rfl)
theorem dX1_hiddenWorth_32 : decode cX1_hiddenWorth 32 = .ok (.iload_n 2, 1) := dk_28 (dk_at dksX1_hiddenWorth_1 10 rfl rfl)
theorem dX1_hiddenWorth_33 : decode cX1_hiddenWorth 33 = .ok (.aload_n 0, 1) := dk_42 (dk_at dksX1_hiddenWorth_1 11 rfl rfl)
theorem dX1_hiddenWorth_34 : decode cX1_hiddenWorth 34 = .ok (.aload_n 0, 1) := dk_42 (dk_at dksX1_hiddenWorth_1 12 rfl rfl)
theorem dX1_hiddenWorth_35 : decode cX1_hiddenWorth 35 = .ok (.aload 4, 2) := dk_25 4 (dk_at dksX1_hiddenWorth_1 13 rfl rfl)
theorem dX1_hiddenWorth_37 : decode cX1_hiddenWorth 37 = .ok (.getfield 218, 3) := dk_180 0 218 (dk_at dksX1_hiddenWorth_1 15 rfl rfl)
theorem dX1_hiddenWorth_40 : decode cX1_hiddenWorth 40 = .ok (.invokevirtual 185, 3) := dk_182 0 185 (dk_at dksX1_hiddenWorth_1 18 rfl rfl)
theorem dX1_hiddenWorth_43 : decode cX1_hiddenWorth 43 = .ok (.aload 4, 2) := dk_25 4 (dk_at dksX1_hiddenWorth_1 21 rfl rfl)
theorem dX1_hiddenWorth_45 : decode cX1_hiddenWorth 45 = .ok (.getfield 199, 3) := dk_180 0 199 (dk_at dksX1_hiddenWorth_2 0 rfl rfl)
theorem dX1_hiddenWorth_48 : decode cX1_hiddenWorth 48 = .ok (.iconst (-1), 1) := dk_2 (dk_at dksX1_hiddenWorth_2 3 rfl rfl)
theorem dX1_hiddenWorth_49 : decode cX1_hiddenWorth 49 = .ok (.ixor, 1) := dk_130 (dk_at dksX1_hiddenWorth_2 4 rfl rfl)
theorem dX1_hiddenWorth_50 : decode cX1_hiddenWorth 50 = .ok (.iand, 1) := dk_126 (dk_at dksX1_hiddenWorth_2 5 rfl rfl)
theorem dX1_hiddenWorth_51 : decode cX1_hiddenWorth 51 = .ok (.invokevirtual 270, 3) := dk_182 1 14 (dk_at dksX1_hiddenWorth_2 6 rfl rfl)
theorem dX1_hiddenWorth_54 : decode cX1_hiddenWorth 54 = .ok (.iadd, 1) := dk_96 (dk_at dksX1_hiddenWorth_2 9 rfl rfl)
theorem dX1_hiddenWorth_55 : decode cX1_hiddenWorth 55 = .ok (.istore_n 2, 1) := dk_61 (dk_at dksX1_hiddenWorth_2 10 rfl rfl)
theorem dX1_hiddenWorth_56 : decode cX1_hiddenWorth 56 = .ok (.iinc 3 1, 3) := dk_132 3 1 (dk_at dksX1_hiddenWorth_2 11 rfl rfl)
theorem dX1_hiddenWorth_59 : decode cX1_hiddenWorth 59 = .ok (.goto (-55), 3) := dk_167 255 201 (dk_at dksX1_hiddenWorth_2 14 rfl rfl)
theorem dX1_hiddenWorth_62 : decode cX1_hiddenWorth 62 = .ok (.iload_n 2, 1) := dk_28 (dk_at dksX1_hiddenWorth_2 17 rfl rfl)
theorem dX1_hiddenWorth_63 : decode cX1_hiddenWorth 63 = .ok (.ireturn, 1) := dk_172 (dk_at dksX1_hiddenWorth_2 18 rfl rfl)
abbrev cX1_worthOf : ByteArray := prog_1_method_28_code
def yX1_worthOf : MethodName := ⟨RX1, "worthOf", "(I)I"⟩
def dkwX1_worthOf_2 : List UInt8 := [61, 132, 3, 1, 167, 255, 209, 28, 172]
abbrev dktX1_worthOf_2 : List UInt8 := dkwX1_worthOf_2 ++ []
def dkwX1_worthOf_1 : List UInt8 := [153, 0, 22, 42, 180, 0, 22, 29, 185, 0, 61, 2, 0, 192, 0, 73, 180, 0, 251, 167, 0, 4, 3, 96]
abbrev dktX1_worthOf_1 : List UInt8 := dkwX1_worthOf_1 ++ dktX1_worthOf_2
def dkwX1_worthOf_0 : List UInt8 := [3, 61, 3, 62, 29, 42, 180, 0, 22, 185, 0, 65, 1, 0, 162, 0, 40, 28, 27, 29, 184, 0, 230]
abbrev dktX1_worthOf_0 : List UInt8 := dkwX1_worthOf_0 ++ dktX1_worthOf_1
theorem dksX1_worthOf_0 : cX1_worthOf.data.toList.drop 0 = dktX1_worthOf_0 := by decide +kernel
theorem dksX1_worthOf_1 : cX1_worthOf.data.toList.drop 23 = dktX1_worthOf_1 := dk_seg dksX1_worthOf_0 23 rfl rfl
theorem dksX1_worthOf_2 : cX1_worthOf.data.toList.drop 47 = dktX1_worthOf_2 := dk_seg dksX1_worthOf_1 24 rfl rfl
theorem dX1_worthOf_0 : decode cX1_worthOf 0 = .ok (.iconst 0, 1) := dk_3 (dk_at dksX1_worthOf_0 0 rfl rfl)
theorem dX1_worthOf_1 : decode cX1_worthOf 1 = .ok (.istore_n 2, 1) := dk_61 (dk_at dksX1_worthOf_0 1 rfl rfl)
theorem dX1_worthOf_2 : decode cX1_worthOf 2 = .ok (.iconst 0, 1) := dk_3 (dk_at dksX1_worthOf_0 2 rfl rfl)
theorem dX1_worthOf_3 : decode cX1_worthOf 3 = .ok (.istore_n 3, 1) := dk_62 (dk_at dksX1_worthOf_0 3 rfl rfl)
theorem dX1_worthOf_4 : decode cX1_worthOf 4 = .ok (.iload_n 3, 1) := dk_29 (dk_at dksX1_worthOf_0 4 rfl rfl)
theorem dX1_worthOf_5 : decode cX1_worthOf 5 = .ok (.aload_n 0, 1) := dk_42 (dk_at dksX1_worthOf_0 5 rfl rfl)
theorem dX1_worthOf_6 : decode cX1_worthOf 6 = .ok (.getfield 22, 3) := dk_180 0 22 (dk_at dksX1_worthOf_0 6 rfl rfl)
theorem dX1_worthOf_9 : decode cX1_worthOf 9 = .ok (.invokeinterface 65 1, 5) := by decide +kernel
theorem dX1_worthOf_14 : decode cX1_worthOf 14 = .ok (.if_icmp .ge 40, 3) := dk_162 0 40 (dk_at dksX1_worthOf_0 14 rfl rfl)
theorem dX1_worthOf_17 : decode cX1_worthOf 17 = .ok (.iload_n 2, 1) := dk_28 (dk_at dksX1_worthOf_0 17 rfl rfl)
theorem dX1_worthOf_18 : decode cX1_worthOf 18 = .ok (.iload_n 1, 1) := dk_27 (dk_at dksX1_worthOf_0 18 rfl rfl)
theorem dX1_worthOf_19 : decode cX1_worthOf 19 = .ok (.iload_n 3, 1) := dk_29 (dk_at dksX1_worthOf_0 19 rfl rfl)
theorem dX1_worthOf_20 : decode cX1_worthOf 20 = .ok (.invokestatic 230, 3) := dk_184 0 230 (dk_at dksX1_worthOf_0 20 rfl rfl)
theorem dX1_worthOf_23 : decode cX1_worthOf 23 = .ok (.ifCond .eq 22, 3) := dk_153 0 22 (dk_at dksX1_worthOf_1 0 rfl rfl)
theorem dX1_worthOf_26 : decode cX1_worthOf 26 = .ok (.aload_n 0, 1) := dk_42 (dk_at dksX1_worthOf_1 3 rfl rfl)
theorem dX1_worthOf_27 : decode cX1_worthOf 27 = .ok (.getfield 22, 3) := dk_180 0 22 (dk_at dksX1_worthOf_1 4 rfl rfl)
theorem dX1_worthOf_30 : decode cX1_worthOf 30 = .ok (.iload_n 3, 1) := dk_29 (dk_at dksX1_worthOf_1 7 rfl rfl)
theorem dX1_worthOf_31 : decode cX1_worthOf 31 = .ok (.invokeinterface 61 2, 5) := by decide +kernel
theorem dX1_worthOf_36 : decode cX1_worthOf 36 = .ok (.checkcast 73, 3) := dk_192 0 73 (dk_at dksX1_worthOf_1 13 rfl rfl)
theorem dX1_worthOf_39 : decode cX1_worthOf 39 = .ok (.getfield 251, 3) := dk_180 0 251 (dk_at dksX1_worthOf_1 16 rfl rfl)
theorem dX1_worthOf_42 : decode cX1_worthOf 42 = .ok (.goto 4, 3) := dk_167 0 4 (dk_at dksX1_worthOf_1 19 rfl rfl)
theorem dX1_worthOf_45 : decode cX1_worthOf 45 = .ok (.iconst 0, 1) := dk_3 (dk_at dksX1_worthOf_1 22 rfl rfl)
theorem dX1_worthOf_46 : decode cX1_worthOf 46 = .ok (.iadd, 1) := dk_96 (dk_at dksX1_worthOf_1 23 rfl rfl)
theorem dX1_worthOf_47 : decode cX1_worthOf 47 = .ok (.istore_n 2, 1) := dk_61 (dk_at dksX1_worthOf_2 0 rfl rfl)
theorem dX1_worthOf_48 : decode cX1_worthOf 48 = .ok (.iinc 3 1, 3) := dk_132 3 1 (dk_at dksX1_worthOf_2 1 rfl rfl)
theorem dX1_worthOf_51 : decode cX1_worthOf 51 = .ok (.goto (-47), 3) := dk_167 255 209 (dk_at dksX1_worthOf_2 4 rfl rfl)
theorem dX1_worthOf_54 : decode cX1_worthOf 54 = .ok (.iload_n 2, 1) := dk_28 (dk_at dksX1_worthOf_2 7 rfl rfl)
theorem dX1_worthOf_55 : decode cX1_worthOf 55 = .ok (.ireturn, 1) := dk_172 (dk_at dksX1_worthOf_2 8 rfl rfl)
abbrev cX1_has : ByteArray := prog_1_method_1_code
def yX1_has : MethodName := ⟨RX1, "has", "(II)Z"⟩
def dkwX1_has_0 : List UInt8 := [26, 27, 122, 4, 126, 4, 160, 0, 7, 4, 167, 0, 4, 3, 172]
abbrev dktX1_has_0 : List UInt8 := dkwX1_has_0 ++ []
theorem dksX1_has_0 : cX1_has.data.toList.drop 0 = dktX1_has_0 := by decide +kernel
theorem dX1_has_0 : decode cX1_has 0 = .ok (.iload_n 0, 1) := dk_26 (dk_at dksX1_has_0 0 rfl rfl)
theorem dX1_has_1 : decode cX1_has 1 = .ok (.iload_n 1, 1) := dk_27 (dk_at dksX1_has_0 1 rfl rfl)
theorem dX1_has_2 : decode cX1_has 2 = .ok (.ishr, 1) := dk_122 (dk_at dksX1_has_0 2 rfl rfl)
theorem dX1_has_3 : decode cX1_has 3 = .ok (.iconst 1, 1) := dk_4 (dk_at dksX1_has_0 3 rfl rfl)
theorem dX1_has_4 : decode cX1_has 4 = .ok (.iand, 1) := dk_126 (dk_at dksX1_has_0 4 rfl rfl)
theorem dX1_has_5 : decode cX1_has 5 = .ok (.iconst 1, 1) := dk_4 (dk_at dksX1_has_0 5 rfl rfl)
theorem dX1_has_6 : decode cX1_has 6 = .ok (.if_icmp .ne 7, 3) := dk_160 0 7 (dk_at dksX1_has_0 6 rfl rfl)
theorem dX1_has_9 : decode cX1_has 9 = .ok (.iconst 1, 1) := dk_4 (dk_at dksX1_has_0 9 rfl rfl)
theorem dX1_has_10 : decode cX1_has 10 = .ok (.goto 4, 3) := dk_167 0 4 (dk_at dksX1_has_0 10 rfl rfl)
theorem dX1_has_13 : decode cX1_has 13 = .ok (.iconst 0, 1) := dk_3 (dk_at dksX1_has_0 13 rfl rfl)
theorem dX1_has_14 : decode cX1_has 14 = .ok (.ireturn, 1) := dk_172 (dk_at dksX1_has_0 14 rfl rfl)
abbrev cX1_wouldPayNow : ByteArray := prog_1_method_54_code
def yX1_wouldPayNow : MethodName := ⟨RX1, "wouldPayNow", "(I)I"⟩
def dkwX1_wouldPayNow_4 : List UInt8 := [25, 4, 182, 1, 10, 182, 1, 14, 182, 1, 29, 172]
abbrev dktX1_wouldPayNow_4 : List UInt8 := dkwX1_wouldPayNow_4 ++ []
def dkwX1_wouldPayNow_3 : List UInt8 := [180, 0, 134, 182, 1, 32, 185, 0, 61, 2, 0, 192, 0, 35, 58, 4, 25, 4, 42, 42, 45, 180, 0, 199]
abbrev dktX1_wouldPayNow_3 : List UInt8 := dkwX1_wouldPayNow_3 ++ dktX1_wouldPayNow_4
def dkwX1_wouldPayNow_2 : List UInt8 := [3, 172, 44, 180, 0, 209, 3, 185, 0, 61, 2, 0, 192, 0, 71, 78, 42, 180, 0, 10, 44, 45]
abbrev dktX1_wouldPayNow_2 : List UInt8 := dkwX1_wouldPayNow_2 ++ dktX1_wouldPayNow_3
def dkwX1_wouldPayNow_1 : List UInt8 := [154, 0, 24, 42, 44, 180, 0, 209, 3, 185, 0, 61, 2, 0, 192, 0, 71, 27, 182, 1, 72, 154, 0, 5]
abbrev dktX1_wouldPayNow_1 : List UInt8 := dkwX1_wouldPayNow_1 ++ dktX1_wouldPayNow_2
def dkwX1_wouldPayNow_0 : List UInt8 := [42, 180, 0, 16, 27, 185, 0, 61, 2, 0, 192, 0, 69, 77, 44, 180, 0, 209, 185, 1, 66, 1, 0]
abbrev dktX1_wouldPayNow_0 : List UInt8 := dkwX1_wouldPayNow_0 ++ dktX1_wouldPayNow_1
theorem dksX1_wouldPayNow_0 : cX1_wouldPayNow.data.toList.drop 0 = dktX1_wouldPayNow_0 := by decide +kernel
theorem dksX1_wouldPayNow_1 : cX1_wouldPayNow.data.toList.drop 23 = dktX1_wouldPayNow_1 := dk_seg dksX1_wouldPayNow_0 23 rfl rfl
theorem dksX1_wouldPayNow_2 : cX1_wouldPayNow.data.toList.drop 47 = dktX1_wouldPayNow_2 := dk_seg dksX1_wouldPayNow_1 24 rfl rfl
theorem dksX1_wouldPayNow_3 : cX1_wouldPayNow.data.toList.drop 69 = dktX1_wouldPayNow_3 := dk_seg dksX1_wouldPayNow_2 22 rfl rfl
theorem dksX1_wouldPayNow_4 : cX1_wouldPayNow.data.toList.drop 93 = dktX1_wouldPayNow_4 := dk_seg dksX1_wouldPayNow_3 24 rfl rfl
theorem dX1_wouldPayNow_0 : decode cX1_wouldPayNow 0 = .ok (.aload_n 0, 1) := dk_42 (dk_at dksX1_wouldPayNow_0 0 rfl rfl)
theorem dX1_wouldPayNow_1 : decode cX1_wouldPayNow 1 = .ok (.getfield 16, 3) := dk_180 0 16 (dk_at dksX1_wouldPayNow_0 1 rfl rfl)
theorem dX1_wouldPayNow_4 : decode cX1_wouldPayNow 4 = .ok (.iload_n 1, 1) := dk_27 (dk_at dksX1_wouldPayNow_0 4 rfl rfl)
theorem dX1_wouldPayNow_5 : decode cX1_wouldPayNow 5 = .ok (.invokeinterface 61 2, 5) := by decide +kernel
theorem dX1_wouldPayNow_10 : decode cX1_wouldPayNow 10 = .ok (.checkcast 69, 3) := dk_192 0 69 (dk_at dksX1_wouldPayNow_0 10 rfl rfl)
theorem dX1_wouldPayNow_13 : decode cX1_wouldPayNow 13 = .ok (.astore_n 2, 1) := dk_77 (dk_at dksX1_wouldPayNow_0 13 rfl rfl)
theorem dX1_wouldPayNow_14 : decode cX1_wouldPayNow 14 = .ok (.aload_n 2, 1) := dk_44 (dk_at dksX1_wouldPayNow_0 14 rfl rfl)
theorem dX1_wouldPayNow_15 : decode cX1_wouldPayNow 15 = .ok (.getfield 209, 3) := dk_180 0 209 (dk_at dksX1_wouldPayNow_0 15 rfl rfl)
theorem dX1_wouldPayNow_18 : decode cX1_wouldPayNow 18 = .ok (.invokeinterface 322 1, 5) := by decide +kernel
theorem dX1_wouldPayNow_23 : decode cX1_wouldPayNow 23 = .ok (.ifCond .ne 24, 3) := dk_154 0 24 (dk_at dksX1_wouldPayNow_1 0 rfl rfl)
theorem dX1_wouldPayNow_26 : decode cX1_wouldPayNow 26 = .ok (.aload_n 0, 1) := dk_42 (dk_at dksX1_wouldPayNow_1 3 rfl rfl)
theorem dX1_wouldPayNow_27 : decode cX1_wouldPayNow 27 = .ok (.aload_n 2, 1) := dk_44 (dk_at dksX1_wouldPayNow_1 4 rfl rfl)
theorem dX1_wouldPayNow_28 : decode cX1_wouldPayNow 28 = .ok (.getfield 209, 3) := dk_180 0 209 (dk_at dksX1_wouldPayNow_1 5 rfl rfl)
theorem dX1_wouldPayNow_31 : decode cX1_wouldPayNow 31 = .ok (.iconst 0, 1) := dk_3 (dk_at dksX1_wouldPayNow_1 8 rfl rfl)
theorem dX1_wouldPayNow_32 : decode cX1_wouldPayNow 32 = .ok (.invokeinterface 61 2, 5) := by decide +kernel
theorem dX1_wouldPayNow_37 : decode cX1_wouldPayNow 37 = .ok (.checkcast 71, 3) := dk_192 0 71 (dk_at dksX1_wouldPayNow_1 14 rfl rfl)
theorem dX1_wouldPayNow_40 : decode cX1_wouldPayNow 40 = .ok (.iload_n 1, 1) := dk_27 (dk_at dksX1_wouldPayNow_1 17 rfl rfl)
theorem dX1_wouldPayNow_41 : decode cX1_wouldPayNow 41 = .ok (.invokevirtual 328, 3) := dk_182 1 72 (dk_at dksX1_wouldPayNow_1 18 rfl rfl)
theorem dX1_wouldPayNow_44 : decode cX1_wouldPayNow 44 = .ok (.ifCond .ne 5, 3) := dk_154 0 5 (dk_at dksX1_wouldPayNow_1 21 rfl rfl)
theorem dX1_wouldPayNow_47 : decode cX1_wouldPayNow 47 = .ok (.iconst 0, 1) := dk_3 (dk_at dksX1_wouldPayNow_2 0 rfl rfl)
theorem dX1_wouldPayNow_48 : decode cX1_wouldPayNow 48 = .ok (.ireturn, 1) := dk_172 (dk_at dksX1_wouldPayNow_2 1 rfl rfl)
theorem dX1_wouldPayNow_49 : decode cX1_wouldPayNow 49 = .ok (.aload_n 2, 1) := dk_44 (dk_at dksX1_wouldPayNow_2 2 rfl rfl)
theorem dX1_wouldPayNow_50 : decode cX1_wouldPayNow 50 = .ok (.getfield 209, 3) := dk_180 0 209 (dk_at dksX1_wouldPayNow_2 3 rfl rfl)
theorem dX1_wouldPayNow_53 : decode cX1_wouldPayNow 53 = .ok (.iconst 0, 1) := dk_3 (dk_at dksX1_wouldPayNow_2 6 rfl rfl)
theorem dX1_wouldPayNow_54 : decode cX1_wouldPayNow 54 = .ok (.invokeinterface 61 2, 5) := by decide +kernel
theorem dX1_wouldPayNow_59 : decode cX1_wouldPayNow 59 = .ok (.checkcast 71, 3) := dk_192 0 71 (dk_at dksX1_wouldPayNow_2 12 rfl rfl)
theorem dX1_wouldPayNow_62 : decode cX1_wouldPayNow 62 = .ok (.astore_n 3, 1) := dk_78 (dk_at dksX1_wouldPayNow_2 15 rfl rfl)
theorem dX1_wouldPayNow_63 : decode cX1_wouldPayNow 63 = .ok (.aload_n 0, 1) := dk_42 (dk_at dksX1_wouldPayNow_2 16 rfl rfl)
theorem dX1_wouldPayNow_64 : decode cX1_wouldPayNow 64 = .ok (.getfield 10, 3) := dk_180 0 10 (dk_at dksX1_wouldPayNow_2 17 rfl rfl)
theorem dX1_wouldPayNow_67 : decode cX1_wouldPayNow 67 = .ok (.aload_n 2, 1) := dk_44 (dk_at dksX1_wouldPayNow_2 20 rfl rfl)
theorem dX1_wouldPayNow_68 : decode cX1_wouldPayNow 68 = .ok (.aload_n 3, 1) := dk_45 (dk_at dksX1_wouldPayNow_2 21 rfl rfl)
theorem dX1_wouldPayNow_69 : decode cX1_wouldPayNow 69 = .ok (.getfield 134, 3) := dk_180 0 134 (dk_at dksX1_wouldPayNow_3 0 rfl rfl)
theorem dX1_wouldPayNow_72 : decode cX1_wouldPayNow 72 = .ok (.invokevirtual 288, 3) := dk_182 1 32 (dk_at dksX1_wouldPayNow_3 3 rfl rfl)
theorem dX1_wouldPayNow_75 : decode cX1_wouldPayNow 75 = .ok (.invokeinterface 61 2, 5) := by decide +kernel
theorem dX1_wouldPayNow_80 : decode cX1_wouldPayNow 80 = .ok (.checkcast 35, 3) := dk_192 0 35 (dk_at dksX1_wouldPayNow_3 11 rfl rfl)
theorem dX1_wouldPayNow_83 : decode cX1_wouldPayNow 83 = .ok (.astore 4, 2) := dk_58 4 (dk_at dksX1_wouldPayNow_3 14 rfl rfl)
theorem dX1_wouldPayNow_85 : decode cX1_wouldPayNow 85 = .ok (.aload 4, 2) := dk_25 4 (dk_at dksX1_wouldPayNow_3 16 rfl rfl)
theorem dX1_wouldPayNow_87 : decode cX1_wouldPayNow 87 = .ok (.aload_n 0, 1) := dk_42 (dk_at dksX1_wouldPayNow_3 18 rfl rfl)
theorem dX1_wouldPayNow_88 : decode cX1_wouldPayNow 88 = .ok (.aload_n 0, 1) := dk_42 (dk_at dksX1_wouldPayNow_3 19 rfl rfl)
theorem dX1_wouldPayNow_89 : decode cX1_wouldPayNow 89 = .ok (.aload_n 3, 1) := dk_45 (dk_at dksX1_wouldPayNow_3 20 rfl rfl)
theorem dX1_wouldPayNow_90 : decode cX1_wouldPayNow 90 = .ok (.getfield 199, 3) := dk_180 0 199 (dk_at dksX1_wouldPayNow_3 21 rfl rfl)
theorem dX1_wouldPayNow_93 : decode cX1_wouldPayNow 93 = .ok (.aload 4, 2) := dk_25 4 (dk_at dksX1_wouldPayNow_4 0 rfl rfl)
theorem dX1_wouldPayNow_95 : decode cX1_wouldPayNow 95 = .ok (.invokevirtual 266, 3) := dk_182 1 10 (dk_at dksX1_wouldPayNow_4 2 rfl rfl)
theorem dX1_wouldPayNow_98 : decode cX1_wouldPayNow 98 = .ok (.invokevirtual 270, 3) := dk_182 1 14 (dk_at dksX1_wouldPayNow_4 5 rfl rfl)
theorem dX1_wouldPayNow_101 : decode cX1_wouldPayNow 101 = .ok (.invokevirtual 285, 3) := dk_182 1 29 (dk_at dksX1_wouldPayNow_4 8 rfl rfl)
theorem dX1_wouldPayNow_104 : decode cX1_wouldPayNow 104 = .ok (.ireturn, 1) := dk_172 (dk_at dksX1_wouldPayNow_4 11 rfl rfl)
abbrev cX1_isGoodNow : ByteArray := prog_1_method_21_code
def yX1_isGoodNow : MethodName := ⟨RX1, "isGoodNow", "(LLullabygate$Sleeper;I)Z"⟩
def dkwX1_isGoodNow_5 : List UInt8 := [180, 0, 137, 160, 0, 12, 21, 6, 153, 0, 7, 4, 167, 0, 4, 3, 172]
abbrev dktX1_isGoodNow_5 : List UInt8 := dkwX1_isGoodNow_5 ++ []
def dkwX1_isGoodNow_4 : List UInt8 := [154, 0, 7, 4, 167, 0, 4, 3, 54, 6, 45, 180, 0, 181, 28, 160, 0, 23, 45, 180, 0, 184, 42]
abbrev dktX1_isGoodNow_4 : List UInt8 := dkwX1_isGoodNow_4 ++ dktX1_isGoodNow_5
def dkwX1_isGoodNow_3 : List UInt8 := [167, 0, 30, 3, 167, 0, 26, 21, 5, 154, 0, 20, 25, 4, 180, 0, 158, 45, 180, 0, 169, 51]
abbrev dktX1_isGoodNow_3 : List UInt8 := dkwX1_isGoodNow_3 ++ dktX1_isGoodNow_4
def dkwX1_isGoodNow_2 : List UInt8 := [182, 0, 154, 100, 184, 0, 172, 54, 5, 25, 4, 182, 0, 178, 153, 0, 17, 21, 5, 4, 163, 0, 7, 4]
abbrev dktX1_isGoodNow_2 : List UInt8 := dkwX1_isGoodNow_2 ++ dktX1_isGoodNow_3
def dkwX1_isGoodNow_1 : List UInt8 := [180, 0, 16, 28, 185, 0, 61, 2, 0, 192, 0, 69, 58, 4, 45, 180, 0, 169, 43, 28, 42, 180, 0, 137]
abbrev dktX1_isGoodNow_1 : List UInt8 := dkwX1_isGoodNow_1 ++ dktX1_isGoodNow_2
def dkwX1_isGoodNow_0 : List UInt8 := [43, 180, 0, 150, 182, 0, 162, 154, 0, 5, 3, 172, 43, 180, 0, 150, 182, 0, 166, 192, 0, 140, 78, 42]
abbrev dktX1_isGoodNow_0 : List UInt8 := dkwX1_isGoodNow_0 ++ dktX1_isGoodNow_1
theorem dksX1_isGoodNow_0 : cX1_isGoodNow.data.toList.drop 0 = dktX1_isGoodNow_0 := by decide +kernel
theorem dksX1_isGoodNow_1 : cX1_isGoodNow.data.toList.drop 24 = dktX1_isGoodNow_1 := dk_seg dksX1_isGoodNow_0 24 rfl rfl
theorem dksX1_isGoodNow_2 : cX1_isGoodNow.data.toList.drop 48 = dktX1_isGoodNow_2 := dk_seg dksX1_isGoodNow_1 24 rfl rfl
theorem dksX1_isGoodNow_3 : cX1_isGoodNow.data.toList.drop 72 = dktX1_isGoodNow_3 := dk_seg dksX1_isGoodNow_2 24 rfl rfl
theorem dksX1_isGoodNow_4 : cX1_isGoodNow.data.toList.drop 94 = dktX1_isGoodNow_4 := dk_seg dksX1_isGoodNow_3 22 rfl rfl
theorem dksX1_isGoodNow_5 : cX1_isGoodNow.data.toList.drop 117 = dktX1_isGoodNow_5 := dk_seg dksX1_isGoodNow_4 23 rfl rfl
theorem dX1_isGoodNow_0 : decode cX1_isGoodNow 0 = .ok (.aload_n 1, 1) := dk_43 (dk_at dksX1_isGoodNow_0 0 rfl rfl)
theorem dX1_isGoodNow_1 : decode cX1_isGoodNow 1 = .ok (.getfield 150, 3) := dk_180 0 150 (dk_at dksX1_isGoodNow_0 1 rfl rfl)
theorem dX1_isGoodNow_4 : decode cX1_isGoodNow 4 = .ok (.invokevirtual 162, 3) := dk_182 0 162 (dk_at dksX1_isGoodNow_0 4 rfl rfl)
theorem dX1_isGoodNow_7 : decode cX1_isGoodNow 7 = .ok (.ifCond .ne 5, 3) := dk_154 0 5 (dk_at dksX1_isGoodNow_0 7 rfl rfl)
theorem dX1_isGoodNow_10 : decode cX1_isGoodNow 10 = .ok (.iconst 0, 1) := dk_3 (dk_at dksX1_isGoodNow_0 10 rfl rfl)
theorem dX1_isGoodNow_11 : decode cX1_isGoodNow 11 = .ok (.ireturn, 1) := dk_172 (dk_at dksX1_isGoodNow_0 11 rfl rfl)
theorem dX1_isGoodNow_12 : decode cX1_isGoodNow 12 = .ok (.aload_n 1, 1) := dk_43 (dk_at dksX1_isGoodNow_0 12 rfl rfl)
theorem dX1_isGoodNow_13 : decode cX1_isGoodNow 13 = .ok (.getfield 150, 3) := dk_180 0 150 (dk_at dksX1_isGoodNow_0 13 rfl rfl)
theorem dX1_isGoodNow_16 : decode cX1_isGoodNow 16 = .ok (.invokevirtual 166, 3) := dk_182 0 166 (dk_at dksX1_isGoodNow_0 16 rfl rfl)
theorem dX1_isGoodNow_19 : decode cX1_isGoodNow 19 = .ok (.checkcast 140, 3) := dk_192 0 140 (dk_at dksX1_isGoodNow_0 19 rfl rfl)
theorem dX1_isGoodNow_22 : decode cX1_isGoodNow 22 = .ok (.astore_n 3, 1) := dk_78 (dk_at dksX1_isGoodNow_0 22 rfl rfl)
theorem dX1_isGoodNow_23 : decode cX1_isGoodNow 23 = .ok (.aload_n 0, 1) := dk_42 (dk_at dksX1_isGoodNow_0 23 rfl rfl)
theorem dX1_isGoodNow_24 : decode cX1_isGoodNow 24 = .ok (.getfield 16, 3) := dk_180 0 16 (dk_at dksX1_isGoodNow_1 0 rfl rfl)
theorem dX1_isGoodNow_27 : decode cX1_isGoodNow 27 = .ok (.iload_n 2, 1) := dk_28 (dk_at dksX1_isGoodNow_1 3 rfl rfl)
theorem dX1_isGoodNow_28 : decode cX1_isGoodNow 28 = .ok (.invokeinterface 61 2, 5) := by decide +kernel
theorem dX1_isGoodNow_33 : decode cX1_isGoodNow 33 = .ok (.checkcast 69, 3) := dk_192 0 69 (dk_at dksX1_isGoodNow_1 9 rfl rfl)
theorem dX1_isGoodNow_36 : decode cX1_isGoodNow 36 = .ok (.astore 4, 2) := dk_58 4 (dk_at dksX1_isGoodNow_1 12 rfl rfl)
theorem dX1_isGoodNow_38 : decode cX1_isGoodNow 38 = .ok (.aload_n 3, 1) := dk_45 (dk_at dksX1_isGoodNow_1 14 rfl rfl)
theorem dX1_isGoodNow_39 : decode cX1_isGoodNow 39 = .ok (.getfield 169, 3) := dk_180 0 169 (dk_at dksX1_isGoodNow_1 15 rfl rfl)
theorem dX1_isGoodNow_42 : decode cX1_isGoodNow 42 = .ok (.aload_n 1, 1) := dk_43 (dk_at dksX1_isGoodNow_1 18 rfl rfl)
theorem dX1_isGoodNow_43 : decode cX1_isGoodNow 43 = .ok (.iload_n 2, 1) := dk_28 (dk_at dksX1_isGoodNow_1 19 rfl rfl)
theorem dX1_isGoodNow_44 : decode cX1_isGoodNow 44 = .ok (.aload_n 0, 1) := dk_42 (dk_at dksX1_isGoodNow_1 20 rfl rfl)
theorem dX1_isGoodNow_45 : decode cX1_isGoodNow 45 = .ok (.getfield 137, 3) := dk_180 0 137 (dk_at dksX1_isGoodNow_1 21 rfl rfl)
theorem dX1_isGoodNow_48 : decode cX1_isGoodNow 48 = .ok (.invokevirtual 154, 3) := dk_182 0 154 (dk_at dksX1_isGoodNow_2 0 rfl rfl)
theorem dX1_isGoodNow_51 : decode cX1_isGoodNow 51 = .ok (.isub, 1) := dk_100 (dk_at dksX1_isGoodNow_2 3 rfl rfl)
theorem dX1_isGoodNow_52 : decode cX1_isGoodNow 52 = .ok (.invokestatic 172, 3) := dk_184 0 172 (dk_at dksX1_isGoodNow_2 4 rfl rfl)
theorem dX1_isGoodNow_55 : decode cX1_isGoodNow 55 = .ok (.istore 5, 2) := dk_54 5 (dk_at dksX1_isGoodNow_2 7 rfl rfl)
theorem dX1_isGoodNow_57 : decode cX1_isGoodNow 57 = .ok (.aload 4, 2) := dk_25 4 (dk_at dksX1_isGoodNow_2 9 rfl rfl)
theorem dX1_isGoodNow_59 : decode cX1_isGoodNow 59 = .ok (.invokevirtual 178, 3) := dk_182 0 178 (dk_at dksX1_isGoodNow_2 11 rfl rfl)
theorem dX1_isGoodNow_62 : decode cX1_isGoodNow 62 = .ok (.ifCond .eq 17, 3) := dk_153 0 17 (dk_at dksX1_isGoodNow_2 14 rfl rfl)
theorem dX1_isGoodNow_65 : decode cX1_isGoodNow 65 = .ok (.iload 5, 2) := dk_21 5 (dk_at dksX1_isGoodNow_2 17 rfl rfl)
theorem dX1_isGoodNow_67 : decode cX1_isGoodNow 67 = .ok (.iconst 1, 1) := dk_4 (dk_at dksX1_isGoodNow_2 19 rfl rfl)
theorem dX1_isGoodNow_68 : decode cX1_isGoodNow 68 = .ok (.if_icmp .gt 7, 3) := dk_163 0 7 (dk_at dksX1_isGoodNow_2 20 rfl rfl)
theorem dX1_isGoodNow_71 : decode cX1_isGoodNow 71 = .ok (.iconst 1, 1) := dk_4 (dk_at dksX1_isGoodNow_2 23 rfl rfl)
theorem dX1_isGoodNow_72 : decode cX1_isGoodNow 72 = .ok (.goto 30, 3) := dk_167 0 30 (dk_at dksX1_isGoodNow_3 0 rfl rfl)
theorem dX1_isGoodNow_75 : decode cX1_isGoodNow 75 = .ok (.iconst 0, 1) := dk_3 (dk_at dksX1_isGoodNow_3 3 rfl rfl)
theorem dX1_isGoodNow_76 : decode cX1_isGoodNow 76 = .ok (.goto 26, 3) := dk_167 0 26 (dk_at dksX1_isGoodNow_3 4 rfl rfl)
theorem dX1_isGoodNow_79 : decode cX1_isGoodNow 79 = .ok (.iload 5, 2) := dk_21 5 (dk_at dksX1_isGoodNow_3 7 rfl rfl)
theorem dX1_isGoodNow_81 : decode cX1_isGoodNow 81 = .ok (.ifCond .ne 20, 3) := dk_154 0 20 (dk_at dksX1_isGoodNow_3 9 rfl rfl)
theorem dX1_isGoodNow_84 : decode cX1_isGoodNow 84 = .ok (.aload 4, 2) := dk_25 4 (dk_at dksX1_isGoodNow_3 12 rfl rfl)
theorem dX1_isGoodNow_86 : decode cX1_isGoodNow 86 = .ok (.getfield 158, 3) := dk_180 0 158 (dk_at dksX1_isGoodNow_3 14 rfl rfl)
theorem dX1_isGoodNow_89 : decode cX1_isGoodNow 89 = .ok (.aload_n 3, 1) := dk_45 (dk_at dksX1_isGoodNow_3 17 rfl rfl)
theorem dX1_isGoodNow_90 : decode cX1_isGoodNow 90 = .ok (.getfield 169, 3) := dk_180 0 169 (dk_at dksX1_isGoodNow_3 18 rfl rfl)
theorem dX1_isGoodNow_93 : decode cX1_isGoodNow 93 = .ok (.baload, 1) := dk_51 (dk_at dksX1_isGoodNow_3 21 rfl rfl)
theorem dX1_isGoodNow_94 : decode cX1_isGoodNow 94 = .ok (.ifCond .ne 7, 3) := dk_154 0 7 (dk_at dksX1_isGoodNow_4 0 rfl rfl)
theorem dX1_isGoodNow_97 : decode cX1_isGoodNow 97 = .ok (.iconst 1, 1) := dk_4 (dk_at dksX1_isGoodNow_4 3 rfl rfl)
theorem dX1_isGoodNow_98 : decode cX1_isGoodNow 98 = .ok (.goto 4, 3) := dk_167 0 4 (dk_at dksX1_isGoodNow_4 4 rfl rfl)
theorem dX1_isGoodNow_101 : decode cX1_isGoodNow 101 = .ok (.iconst 0, 1) := dk_3 (dk_at dksX1_isGoodNow_4 7 rfl rfl)
theorem dX1_isGoodNow_102 : decode cX1_isGoodNow 102 = .ok (.istore 6, 2) := dk_54 6 (dk_at dksX1_isGoodNow_4 8 rfl rfl)
theorem dX1_isGoodNow_104 : decode cX1_isGoodNow 104 = .ok (.aload_n 3, 1) := dk_45 (dk_at dksX1_isGoodNow_4 10 rfl rfl)
theorem dX1_isGoodNow_105 : decode cX1_isGoodNow 105 = .ok (.getfield 181, 3) := dk_180 0 181 (dk_at dksX1_isGoodNow_4 11 rfl rfl)
theorem dX1_isGoodNow_108 : decode cX1_isGoodNow 108 = .ok (.iload_n 2, 1) := dk_28 (dk_at dksX1_isGoodNow_4 14 rfl rfl)
theorem dX1_isGoodNow_109 : decode cX1_isGoodNow 109 = .ok (.if_icmp .ne 23, 3) := dk_160 0 23 (dk_at dksX1_isGoodNow_4 15 rfl rfl)
theorem dX1_isGoodNow_112 : decode cX1_isGoodNow 112 = .ok (.aload_n 3, 1) := dk_45 (dk_at dksX1_isGoodNow_4 18 rfl rfl)
theorem dX1_isGoodNow_113 : decode cX1_isGoodNow 113 = .ok (.getfield 184, 3) := dk_180 0 184 (dk_at dksX1_isGoodNow_4 19 rfl rfl)
theorem dX1_isGoodNow_116 : decode cX1_isGoodNow 116 = .ok (.aload_n 0, 1) := dk_42 (dk_at dksX1_isGoodNow_4 22 rfl rfl)
theorem dX1_isGoodNow_117 : decode cX1_isGoodNow 117 = .ok (.getfield 137, 3) := dk_180 0 137 (dk_at dksX1_isGoodNow_5 0 rfl rfl)
theorem dX1_isGoodNow_120 : decode cX1_isGoodNow 120 = .ok (.if_icmp .ne 12, 3) := dk_160 0 12 (dk_at dksX1_isGoodNow_5 3 rfl rfl)
theorem dX1_isGoodNow_123 : decode cX1_isGoodNow 123 = .ok (.iload 6, 2) := dk_21 6 (dk_at dksX1_isGoodNow_5 6 rfl rfl)
theorem dX1_isGoodNow_125 : decode cX1_isGoodNow 125 = .ok (.ifCond .eq 7, 3) := dk_153 0 7 (dk_at dksX1_isGoodNow_5 8 rfl rfl)
theorem dX1_isGoodNow_128 : decode cX1_isGoodNow 128 = .ok (.iconst 1, 1) := dk_4 (dk_at dksX1_isGoodNow_5 11 rfl rfl)
theorem dX1_isGoodNow_129 : decode cX1_isGoodNow 129 = .ok (.goto 4, 3) := dk_167 0 4 (dk_at dksX1_isGoodNow_5 12 rfl rfl)
theorem dX1_isGoodNow_132 : decode cX1_isGoodNow 132 = .ok (.iconst 0, 1) := dk_3 (dk_at dksX1_isGoodNow_5 15 rfl rfl)
theorem dX1_isGoodNow_133 : decode cX1_isGoodNow 133 = .ok (.ireturn, 1) := dk_172 (dk_at dksX1_isGoodNow_5 16 rfl rfl)
abbrev cX1_allowed : ByteArray := prog_1_method_27_code
def yX1_allowed : MethodName := ⟨RX1, "allowed", "(ILLullabygate$Land;)I"⟩
def dkwX1_allowed_5 : List UInt8 := [153, 0, 10, 4, 21, 5, 120, 167, 0, 4, 3, 128, 62, 132, 5, 1, 167, 255, 137, 29, 172]
abbrev dktX1_allowed_5 : List UInt8 := dkwX1_allowed_5 ++ []
def dkwX1_allowed_4 : List UInt8 := [21, 4, 21, 6, 153, 0, 12, 21, 7, 153, 0, 7, 4, 167, 0, 4, 3, 96, 54, 4, 29, 21, 7]
abbrev dktX1_allowed_4 : List UInt8 := dkwX1_allowed_4 ++ dktX1_allowed_5
def dkwX1_allowed_3 : List UInt8 := [153, 0, 21, 21, 6, 153, 0, 12, 21, 4, 44, 180, 0, 90, 162, 0, 7, 4, 167, 0, 4, 3, 54, 7]
abbrev dktX1_allowed_3 : List UInt8 := dkwX1_allowed_3 ++ dktX1_allowed_4
def dkwX1_allowed_2 : List UInt8 := [192, 0, 73, 182, 1, 7, 153, 0, 7, 4, 167, 0, 4, 3, 54, 6, 27, 21, 5, 184, 0, 230]
abbrev dktX1_allowed_2 : List UInt8 := dkwX1_allowed_2 ++ dktX1_allowed_3
def dkwX1_allowed_1 : List UInt8 := [162, 0, 111, 27, 21, 5, 184, 0, 230, 153, 0, 27, 42, 180, 0, 22, 21, 5, 185, 0, 61, 2, 0]
abbrev dktX1_allowed_1 : List UInt8 := dkwX1_allowed_1 ++ dktX1_allowed_2
def dkwX1_allowed_0 : List UInt8 := [3, 62, 44, 180, 1, 4, 54, 4, 3, 54, 5, 21, 5, 42, 180, 0, 22, 185, 0, 65, 1, 0]
abbrev dktX1_allowed_0 : List UInt8 := dkwX1_allowed_0 ++ dktX1_allowed_1
theorem dksX1_allowed_0 : cX1_allowed.data.toList.drop 0 = dktX1_allowed_0 := by decide +kernel
theorem dksX1_allowed_1 : cX1_allowed.data.toList.drop 22 = dktX1_allowed_1 := dk_seg dksX1_allowed_0 22 rfl rfl
theorem dksX1_allowed_2 : cX1_allowed.data.toList.drop 45 = dktX1_allowed_2 := dk_seg dksX1_allowed_1 23 rfl rfl
theorem dksX1_allowed_3 : cX1_allowed.data.toList.drop 67 = dktX1_allowed_3 := dk_seg dksX1_allowed_2 22 rfl rfl
theorem dksX1_allowed_4 : cX1_allowed.data.toList.drop 91 = dktX1_allowed_4 := dk_seg dksX1_allowed_3 24 rfl rfl
theorem dksX1_allowed_5 : cX1_allowed.data.toList.drop 114 = dktX1_allowed_5 := dk_seg dksX1_allowed_4 23 rfl rfl
theorem dX1_allowed_0 : decode cX1_allowed 0 = .ok (.iconst 0, 1) := dk_3 (dk_at dksX1_allowed_0 0 rfl rfl)
theorem dX1_allowed_1 : decode cX1_allowed 1 = .ok (.istore_n 3, 1) := dk_62 (dk_at dksX1_allowed_0 1 rfl rfl)
theorem dX1_allowed_2 : decode cX1_allowed 2 = .ok (.aload_n 2, 1) := dk_44 (dk_at dksX1_allowed_0 2 rfl rfl)
theorem dX1_allowed_3 : decode cX1_allowed 3 = .ok (.getfield 260, 3) := dk_180 1 4 (dk_at dksX1_allowed_0 3 rfl rfl)
theorem dX1_allowed_6 : decode cX1_allowed 6 = .ok (.istore 4, 2) := dk_54 4 (dk_at dksX1_allowed_0 6 rfl rfl)
theorem dX1_allowed_8 : decode cX1_allowed 8 = .ok (.iconst 0, 1) := dk_3 (dk_at dksX1_allowed_0 8 rfl rfl)
theorem dX1_allowed_9 : decode cX1_allowed 9 = .ok (.istore 5, 2) := dk_54 5 (dk_at dksX1_allowed_0 9 rfl rfl)
theorem dX1_allowed_11 : decode cX1_allowed 11 = .ok (.iload 5, 2) := dk_21 5 (dk_at dksX1_allowed_0 11 rfl rfl)
theorem dX1_allowed_13 : decode cX1_allowed 13 = .ok (.aload_n 0, 1) := dk_42 (dk_at dksX1_allowed_0 13 rfl rfl)
theorem dX1_allowed_14 : decode cX1_allowed 14 = .ok (.getfield 22, 3) := dk_180 0 22 (dk_at dksX1_allowed_0 14 rfl rfl)
theorem dX1_allowed_17 : decode cX1_allowed 17 = .ok (.invokeinterface 65 1, 5) := by decide +kernel
theorem dX1_allowed_22 : decode cX1_allowed 22 = .ok (.if_icmp .ge 111, 3) := dk_162 0 111 (dk_at dksX1_allowed_1 0 rfl rfl)
theorem dX1_allowed_25 : decode cX1_allowed 25 = .ok (.iload_n 1, 1) := dk_27 (dk_at dksX1_allowed_1 3 rfl rfl)
theorem dX1_allowed_26 : decode cX1_allowed 26 = .ok (.iload 5, 2) := dk_21 5 (dk_at dksX1_allowed_1 4 rfl rfl)
theorem dX1_allowed_28 : decode cX1_allowed 28 = .ok (.invokestatic 230, 3) := dk_184 0 230 (dk_at dksX1_allowed_1 6 rfl rfl)
theorem dX1_allowed_31 : decode cX1_allowed 31 = .ok (.ifCond .eq 27, 3) := dk_153 0 27 (dk_at dksX1_allowed_1 9 rfl rfl)
theorem dX1_allowed_34 : decode cX1_allowed 34 = .ok (.aload_n 0, 1) := dk_42 (dk_at dksX1_allowed_1 12 rfl rfl)
theorem dX1_allowed_35 : decode cX1_allowed 35 = .ok (.getfield 22, 3) := dk_180 0 22 (dk_at dksX1_allowed_1 13 rfl rfl)
theorem dX1_allowed_38 : decode cX1_allowed 38 = .ok (.iload 5, 2) := dk_21 5 (dk_at dksX1_allowed_1 16 rfl rfl)
theorem dX1_allowed_40 : decode cX1_allowed 40 = .ok (.invokeinterface 61 2, 5) := by decide +kernel
theorem dX1_allowed_45 : decode cX1_allowed 45 = .ok (.checkcast 73, 3) := dk_192 0 73 (dk_at dksX1_allowed_2 0 rfl rfl)
theorem dX1_allowed_48 : decode cX1_allowed 48 = .ok (.invokevirtual 263, 3) := dk_182 1 7 (dk_at dksX1_allowed_2 3 rfl rfl)
theorem dX1_allowed_51 : decode cX1_allowed 51 = .ok (.ifCond .eq 7, 3) := dk_153 0 7 (dk_at dksX1_allowed_2 6 rfl rfl)
theorem dX1_allowed_54 : decode cX1_allowed 54 = .ok (.iconst 1, 1) := dk_4 (dk_at dksX1_allowed_2 9 rfl rfl)
theorem dX1_allowed_55 : decode cX1_allowed 55 = .ok (.goto 4, 3) := dk_167 0 4 (dk_at dksX1_allowed_2 10 rfl rfl)
theorem dX1_allowed_58 : decode cX1_allowed 58 = .ok (.iconst 0, 1) := dk_3 (dk_at dksX1_allowed_2 13 rfl rfl)
theorem dX1_allowed_59 : decode cX1_allowed 59 = .ok (.istore 6, 2) := dk_54 6 (dk_at dksX1_allowed_2 14 rfl rfl)
theorem dX1_allowed_61 : decode cX1_allowed 61 = .ok (.iload_n 1, 1) := dk_27 (dk_at dksX1_allowed_2 16 rfl rfl)
theorem dX1_allowed_62 : decode cX1_allowed 62 = .ok (.iload 5, 2) := dk_21 5 (dk_at dksX1_allowed_2 17 rfl rfl)
theorem dX1_allowed_64 : decode cX1_allowed 64 = .ok (.invokestatic 230, 3) := dk_184 0 230 (dk_at dksX1_allowed_2 19 rfl rfl)
theorem dX1_allowed_67 : decode cX1_allowed 67 = .ok (.ifCond .eq 21, 3) := dk_153 0 21 (dk_at dksX1_allowed_3 0 rfl rfl)
theorem dX1_allowed_70 : decode cX1_allowed 70 = .ok (.iload 6, 2) := dk_21 6 (dk_at dksX1_allowed_3 3 rfl rfl)
theorem dX1_allowed_72 : decode cX1_allowed 72 = .ok (.ifCond .eq 12, 3) := dk_153 0 12 (dk_at dksX1_allowed_3 5 rfl rfl)
theorem dX1_allowed_75 : decode cX1_allowed 75 = .ok (.iload 4, 2) := dk_21 4 (dk_at dksX1_allowed_3 8 rfl rfl)
theorem dX1_allowed_77 : decode cX1_allowed 77 = .ok (.aload_n 2, 1) := dk_44 (dk_at dksX1_allowed_3 10 rfl rfl)
theorem dX1_allowed_78 : decode cX1_allowed 78 = .ok (.getfield 90, 3) := dk_180 0 90 (dk_at dksX1_allowed_3 11 rfl rfl)
theorem dX1_allowed_81 : decode cX1_allowed 81 = .ok (.if_icmp .ge 7, 3) := dk_162 0 7 (dk_at dksX1_allowed_3 14 rfl rfl)
theorem dX1_allowed_84 : decode cX1_allowed 84 = .ok (.iconst 1, 1) := dk_4 (dk_at dksX1_allowed_3 17 rfl rfl)
theorem dX1_allowed_85 : decode cX1_allowed 85 = .ok (.goto 4, 3) := dk_167 0 4 (dk_at dksX1_allowed_3 18 rfl rfl)
theorem dX1_allowed_88 : decode cX1_allowed 88 = .ok (.iconst 0, 1) := dk_3 (dk_at dksX1_allowed_3 21 rfl rfl)
theorem dX1_allowed_89 : decode cX1_allowed 89 = .ok (.istore 7, 2) := dk_54 7 (dk_at dksX1_allowed_3 22 rfl rfl)
theorem dX1_allowed_91 : decode cX1_allowed 91 = .ok (.iload 4, 2) := dk_21 4 (dk_at dksX1_allowed_4 0 rfl rfl)
theorem dX1_allowed_93 : decode cX1_allowed 93 = .ok (.iload 6, 2) := dk_21 6 (dk_at dksX1_allowed_4 2 rfl rfl)
theorem dX1_allowed_95 : decode cX1_allowed 95 = .ok (.ifCond .eq 12, 3) := dk_153 0 12 (dk_at dksX1_allowed_4 4 rfl rfl)
theorem dX1_allowed_98 : decode cX1_allowed 98 = .ok (.iload 7, 2) := dk_21 7 (dk_at dksX1_allowed_4 7 rfl rfl)
theorem dX1_allowed_100 : decode cX1_allowed 100 = .ok (.ifCond .eq 7, 3) := dk_153 0 7 (dk_at dksX1_allowed_4 9 rfl rfl)
theorem dX1_allowed_103 : decode cX1_allowed 103 = .ok (.iconst 1, 1) := dk_4 (dk_at dksX1_allowed_4 12 rfl rfl)
theorem dX1_allowed_104 : decode cX1_allowed 104 = .ok (.goto 4, 3) := dk_167 0 4 (dk_at dksX1_allowed_4 13 rfl rfl)
theorem dX1_allowed_107 : decode cX1_allowed 107 = .ok (.iconst 0, 1) := dk_3 (dk_at dksX1_allowed_4 16 rfl rfl)
theorem dX1_allowed_108 : decode cX1_allowed 108 = .ok (.iadd, 1) := dk_96 (dk_at dksX1_allowed_4 17 rfl rfl)
theorem dX1_allowed_109 : decode cX1_allowed 109 = .ok (.istore 4, 2) := dk_54 4 (dk_at dksX1_allowed_4 18 rfl rfl)
theorem dX1_allowed_111 : decode cX1_allowed 111 = .ok (.iload_n 3, 1) := dk_29 (dk_at dksX1_allowed_4 20 rfl rfl)
theorem dX1_allowed_112 : decode cX1_allowed 112 = .ok (.iload 7, 2) := dk_21 7 (dk_at dksX1_allowed_4 21 rfl rfl)
theorem dX1_allowed_114 : decode cX1_allowed 114 = .ok (.ifCond .eq 10, 3) := dk_153 0 10 (dk_at dksX1_allowed_5 0 rfl rfl)
theorem dX1_allowed_117 : decode cX1_allowed 117 = .ok (.iconst 1, 1) := dk_4 (dk_at dksX1_allowed_5 3 rfl rfl)
theorem dX1_allowed_118 : decode cX1_allowed 118 = .ok (.iload 5, 2) := dk_21 5 (dk_at dksX1_allowed_5 4 rfl rfl)
theorem dX1_allowed_120 : decode cX1_allowed 120 = .ok (.ishl, 1) := dk_120 (dk_at dksX1_allowed_5 6 rfl rfl)
theorem dX1_allowed_121 : decode cX1_allowed 121 = .ok (.goto 4, 3) := dk_167 0 4 (dk_at dksX1_allowed_5 7 rfl rfl)
theorem dX1_allowed_124 : decode cX1_allowed 124 = .ok (.iconst 0, 1) := dk_3 (dk_at dksX1_allowed_5 10 rfl rfl)
theorem dX1_allowed_125 : decode cX1_allowed 125 = .ok (.ior, 1) := dk_128 (dk_at dksX1_allowed_5 11 rfl rfl)
theorem dX1_allowed_126 : decode cX1_allowed 126 = .ok (.istore_n 3, 1) := dk_62 (dk_at dksX1_allowed_5 12 rfl rfl)
theorem dX1_allowed_127 : decode cX1_allowed 127 = .ok (.iinc 5 1, 3) := dk_132 5 1 (dk_at dksX1_allowed_5 13 rfl rfl)
theorem dX1_allowed_130 : decode cX1_allowed 130 = .ok (.goto (-119), 3) := dk_167 255 137 (dk_at dksX1_allowed_5 16 rfl rfl)
theorem dX1_allowed_133 : decode cX1_allowed 133 = .ok (.iload_n 3, 1) := dk_29 (dk_at dksX1_allowed_5 19 rfl rfl)
theorem dX1_allowed_134 : decode cX1_allowed 134 = .ok (.ireturn, 1) := dk_172 (dk_at dksX1_allowed_5 20 rfl rfl)
abbrev cX1_sumSleepers : ByteArray := prog_1_method_78_code
def yX1_sumSleepers : MethodName := ⟨RX1, "sumSleepers", "(LLullabygate$Sum;)V"⟩
def dkwX1_sumSleepers_3 : List UInt8 := [182, 1, 193, 133, 182, 1, 253, 132, 3, 1, 167, 255, 237, 132, 2, 1, 167, 255, 216, 177]
abbrev dktX1_sumSleepers_3 : List UInt8 := dkwX1_sumSleepers_3 ++ []
def dkwX1_sumSleepers_2 : List UInt8 := [28, 42, 180, 0, 22, 185, 0, 65, 1, 0, 162, 0, 33, 6, 62, 29, 8, 163, 0, 20, 43, 42, 28, 29]
abbrev dktX1_sumSleepers_2 : List UInt8 := dkwX1_sumSleepers_2 ++ dktX1_sumSleepers_3
def dkwX1_sumSleepers_1 : List UInt8 := [42, 28, 29, 182, 1, 186, 133, 182, 1, 253, 132, 3, 1, 167, 255, 236, 132, 2, 1, 167, 255, 215, 3, 61]
abbrev dktX1_sumSleepers_1 : List UInt8 := dkwX1_sumSleepers_1 ++ dktX1_sumSleepers_2
def dkwX1_sumSleepers_0 : List UInt8 := [3, 61, 28, 42, 180, 0, 19, 185, 0, 65, 1, 0, 162, 0, 34, 3, 62, 29, 16, 8, 163, 0, 20, 43]
abbrev dktX1_sumSleepers_0 : List UInt8 := dkwX1_sumSleepers_0 ++ dktX1_sumSleepers_1
theorem dksX1_sumSleepers_0 : cX1_sumSleepers.data.toList.drop 0 = dktX1_sumSleepers_0 := by decide +kernel
theorem dksX1_sumSleepers_1 : cX1_sumSleepers.data.toList.drop 24 = dktX1_sumSleepers_1 := dk_seg dksX1_sumSleepers_0 24 rfl rfl
theorem dksX1_sumSleepers_2 : cX1_sumSleepers.data.toList.drop 48 = dktX1_sumSleepers_2 := dk_seg dksX1_sumSleepers_1 24 rfl rfl
theorem dksX1_sumSleepers_3 : cX1_sumSleepers.data.toList.drop 72 = dktX1_sumSleepers_3 := dk_seg dksX1_sumSleepers_2 24 rfl rfl
theorem dX1_sumSleepers_0 : decode cX1_sumSleepers 0 = .ok (.iconst 0, 1) := dk_3 (dk_at dksX1_sumSleepers_0 0 rfl rfl)
theorem dX1_sumSleepers_1 : decode cX1_sumSleepers 1 = .ok (.istore_n 2, 1) := dk_61 (dk_at dksX1_sumSleepers_0 1 rfl rfl)
theorem dX1_sumSleepers_2 : decode cX1_sumSleepers 2 = .ok (.iload_n 2, 1) := dk_28 (dk_at dksX1_sumSleepers_0 2 rfl rfl)
theorem dX1_sumSleepers_3 : decode cX1_sumSleepers 3 = .ok (.aload_n 0, 1) := dk_42 (dk_at dksX1_sumSleepers_0 3 rfl rfl)
theorem dX1_sumSleepers_4 : decode cX1_sumSleepers 4 = .ok (.getfield 19, 3) := dk_180 0 19 (dk_at dksX1_sumSleepers_0 4 rfl rfl)
theorem dX1_sumSleepers_7 : decode cX1_sumSleepers 7 = .ok (.invokeinterface 65 1, 5) := by decide +kernel
theorem dX1_sumSleepers_12 : decode cX1_sumSleepers 12 = .ok (.if_icmp .ge 34, 3) := dk_162 0 34 (dk_at dksX1_sumSleepers_0 12 rfl rfl)
theorem dX1_sumSleepers_15 : decode cX1_sumSleepers 15 = .ok (.iconst 0, 1) := dk_3 (dk_at dksX1_sumSleepers_0 15 rfl rfl)
theorem dX1_sumSleepers_16 : decode cX1_sumSleepers 16 = .ok (.istore_n 3, 1) := dk_62 (dk_at dksX1_sumSleepers_0 16 rfl rfl)
theorem dX1_sumSleepers_17 : decode cX1_sumSleepers 17 = .ok (.iload_n 3, 1) := dk_29 (dk_at dksX1_sumSleepers_0 17 rfl rfl)
theorem dX1_sumSleepers_18 : decode cX1_sumSleepers 18 = .ok (.bipush 8, 2) := dk_16 8 (dk_at dksX1_sumSleepers_0 18 rfl rfl)
theorem dX1_sumSleepers_20 : decode cX1_sumSleepers 20 = .ok (.if_icmp .gt 20, 3) := dk_163 0 20 (dk_at dksX1_sumSleepers_0 20 rfl rfl)
theorem dX1_sumSleepers_23 : decode cX1_sumSleepers 23 = .ok (.aload_n 1, 1) := dk_43 (dk_at dksX1_sumSleepers_0 23 rfl rfl)
theorem dX1_sumSleepers_24 : decode cX1_sumSleepers 24 = .ok (.aload_n 0, 1) := dk_42 (dk_at dksX1_sumSleepers_1 0 rfl rfl)
theorem dX1_sumSleepers_25 : decode cX1_sumSleepers 25 = .ok (.iload_n 2, 1) := dk_28 (dk_at dksX1_sumSleepers_1 1 rfl rfl)
theorem dX1_sumSleepers_26 : decode cX1_sumSleepers 26 = .ok (.iload_n 3, 1) := dk_29 (dk_at dksX1_sumSleepers_1 2 rfl rfl)
theorem dX1_sumSleepers_27 : decode cX1_sumSleepers 27 = .ok (.invokevirtual 442, 3) := dk_182 1 186 (dk_at dksX1_sumSleepers_1 3 rfl rfl)
theorem dX1_sumSleepers_30 : decode cX1_sumSleepers 30 = .ok (.i2l, 1) := dk_133 (dk_at dksX1_sumSleepers_1 6 rfl rfl)
theorem dX1_sumSleepers_31 : decode cX1_sumSleepers 31 = .ok (.invokevirtual 509, 3) := dk_182 1 253 (dk_at dksX1_sumSleepers_1 7 rfl rfl)
theorem dX1_sumSleepers_34 : decode cX1_sumSleepers 34 = .ok (.iinc 3 1, 3) := dk_132 3 1 (dk_at dksX1_sumSleepers_1 10 rfl rfl)
theorem dX1_sumSleepers_37 : decode cX1_sumSleepers 37 = .ok (.goto (-20), 3) := dk_167 255 236 (dk_at dksX1_sumSleepers_1 13 rfl rfl)
theorem dX1_sumSleepers_40 : decode cX1_sumSleepers 40 = .ok (.iinc 2 1, 3) := dk_132 2 1 (dk_at dksX1_sumSleepers_1 16 rfl rfl)
theorem dX1_sumSleepers_43 : decode cX1_sumSleepers 43 = .ok (.goto (-41), 3) := dk_167 255 215 (dk_at dksX1_sumSleepers_1 19 rfl rfl)
theorem dX1_sumSleepers_46 : decode cX1_sumSleepers 46 = .ok (.iconst 0, 1) := dk_3 (dk_at dksX1_sumSleepers_1 22 rfl rfl)
theorem dX1_sumSleepers_47 : decode cX1_sumSleepers 47 = .ok (.istore_n 2, 1) := dk_61 (dk_at dksX1_sumSleepers_1 23 rfl rfl)
theorem dX1_sumSleepers_48 : decode cX1_sumSleepers 48 = .ok (.iload_n 2, 1) := dk_28 (dk_at dksX1_sumSleepers_2 0 rfl rfl)
theorem dX1_sumSleepers_49 : decode cX1_sumSleepers 49 = .ok (.aload_n 0, 1) := dk_42 (dk_at dksX1_sumSleepers_2 1 rfl rfl)
theorem dX1_sumSleepers_50 : decode cX1_sumSleepers 50 = .ok (.getfield 22, 3) := dk_180 0 22 (dk_at dksX1_sumSleepers_2 2 rfl rfl)
theorem dX1_sumSleepers_53 : decode cX1_sumSleepers 53 = .ok (.invokeinterface 65 1, 5) := by decide +kernel
theorem dX1_sumSleepers_58 : decode cX1_sumSleepers 58 = .ok (.if_icmp .ge 33, 3) := dk_162 0 33 (dk_at dksX1_sumSleepers_2 10 rfl rfl)
theorem dX1_sumSleepers_61 : decode cX1_sumSleepers 61 = .ok (.iconst 3, 1) := dk_6 (dk_at dksX1_sumSleepers_2 13 rfl rfl)
theorem dX1_sumSleepers_62 : decode cX1_sumSleepers 62 = .ok (.istore_n 3, 1) := dk_62 (dk_at dksX1_sumSleepers_2 14 rfl rfl)
theorem dX1_sumSleepers_63 : decode cX1_sumSleepers 63 = .ok (.iload_n 3, 1) := dk_29 (dk_at dksX1_sumSleepers_2 15 rfl rfl)
theorem dX1_sumSleepers_64 : decode cX1_sumSleepers 64 = .ok (.iconst 5, 1) := dk_8 (dk_at dksX1_sumSleepers_2 16 rfl rfl)
theorem dX1_sumSleepers_65 : decode cX1_sumSleepers 65 = .ok (.if_icmp .gt 20, 3) := dk_163 0 20 (dk_at dksX1_sumSleepers_2 17 rfl rfl)
theorem dX1_sumSleepers_68 : decode cX1_sumSleepers 68 = .ok (.aload_n 1, 1) := dk_43 (dk_at dksX1_sumSleepers_2 20 rfl rfl)
theorem dX1_sumSleepers_69 : decode cX1_sumSleepers 69 = .ok (.aload_n 0, 1) := dk_42 (dk_at dksX1_sumSleepers_2 21 rfl rfl)
theorem dX1_sumSleepers_70 : decode cX1_sumSleepers 70 = .ok (.iload_n 2, 1) := dk_28 (dk_at dksX1_sumSleepers_2 22 rfl rfl)
theorem dX1_sumSleepers_71 : decode cX1_sumSleepers 71 = .ok (.iload_n 3, 1) := dk_29 (dk_at dksX1_sumSleepers_2 23 rfl rfl)
theorem dX1_sumSleepers_72 : decode cX1_sumSleepers 72 = .ok (.invokevirtual 449, 3) := dk_182 1 193 (dk_at dksX1_sumSleepers_3 0 rfl rfl)
theorem dX1_sumSleepers_75 : decode cX1_sumSleepers 75 = .ok (.i2l, 1) := dk_133 (dk_at dksX1_sumSleepers_3 3 rfl rfl)
theorem dX1_sumSleepers_76 : decode cX1_sumSleepers 76 = .ok (.invokevirtual 509, 3) := dk_182 1 253 (dk_at dksX1_sumSleepers_3 4 rfl rfl)
theorem dX1_sumSleepers_79 : decode cX1_sumSleepers 79 = .ok (.iinc 3 1, 3) := dk_132 3 1 (dk_at dksX1_sumSleepers_3 7 rfl rfl)
theorem dX1_sumSleepers_82 : decode cX1_sumSleepers 82 = .ok (.goto (-19), 3) := dk_167 255 237 (dk_at dksX1_sumSleepers_3 10 rfl rfl)
theorem dX1_sumSleepers_85 : decode cX1_sumSleepers 85 = .ok (.iinc 2 1, 3) := dk_132 2 1 (dk_at dksX1_sumSleepers_3 13 rfl rfl)
theorem dX1_sumSleepers_88 : decode cX1_sumSleepers 88 = .ok (.goto (-40), 3) := dk_167 255 216 (dk_at dksX1_sumSleepers_3 16 rfl rfl)
theorem dX1_sumSleepers_91 : decode cX1_sumSleepers 91 = .ok (.return_, 1) := dk_177 (dk_at dksX1_sumSleepers_3 19 rfl rfl)
abbrev cX1_sleeperNow : ByteArray := prog_1_method_62_code
def yX1_sleeperNow : MethodName := ⟨RX1, "sleeperNow", "(II)I"⟩
def dkwX1_sleeperNow_6 : List UInt8 := [42, 27, 182, 1, 180, 172, 42, 27, 182, 1, 183, 172]
abbrev dktX1_sleeperNow_6 : List UInt8 := dkwX1_sleeperNow_6 ++ []
def dkwX1_sleeperNow_5 : List UInt8 := [182, 0, 162, 153, 0, 19, 45, 180, 0, 150, 182, 0, 166, 192, 0, 140, 180, 0, 169, 167, 0, 4, 2, 172]
abbrev dktX1_sleeperNow_5 : List UInt8 := dkwX1_sleeperNow_5 ++ dktX1_sleeperNow_6
def dkwX1_sleeperNow_4 : List UInt8 := [192, 0, 69, 45, 182, 0, 206, 167, 0, 4, 2, 172, 42, 27, 182, 0, 185, 172, 45, 180, 0, 150]
abbrev dktX1_sleeperNow_4 : List UInt8 := dkwX1_sleeperNow_4 ++ dktX1_sleeperNow_5
def dkwX1_sleeperNow_3 : List UInt8 := [178, 0, 192, 182, 0, 122, 153, 0, 26, 42, 180, 0, 16, 45, 180, 0, 198, 185, 0, 61, 2, 0]
abbrev dktX1_sleeperNow_3 : List UInt8 := dkwX1_sleeperNow_3 ++ dktX1_sleeperNow_4
def dkwX1_sleeperNow_2 : List UInt8 := [45, 180, 0, 134, 172, 45, 180, 1, 53, 172, 45, 180, 0, 195, 182, 1, 177, 172, 45, 180, 0, 198, 172, 45]
abbrev dktX1_sleeperNow_2 : List UInt8 := dkwX1_sleeperNow_2 ++ dktX1_sleeperNow_3
def dkwX1_sleeperNow_1 : List UInt8 := [170, 0, 0, 0, 143, 0, 0, 0, 0, 0, 0, 0, 7, 0, 0, 0, 45, 0, 0, 0, 50, 0, 0, 0, 55, 0, 0, 0, 63, 0, 0, 0, 68, 0, 0, 0, 103, 0, 0, 0, 109, 0, 0, 0, 137]
abbrev dktX1_sleeperNow_1 : List UInt8 := dkwX1_sleeperNow_1 ++ dktX1_sleeperNow_2
def dkwX1_sleeperNow_0 : List UInt8 := [42, 180, 0, 19, 27, 185, 0, 61, 2, 0, 192, 0, 71, 78, 28]
abbrev dktX1_sleeperNow_0 : List UInt8 := dkwX1_sleeperNow_0 ++ dktX1_sleeperNow_1
theorem dksX1_sleeperNow_0 : cX1_sleeperNow.data.toList.drop 0 = dktX1_sleeperNow_0 := by decide +kernel
theorem dksX1_sleeperNow_1 : cX1_sleeperNow.data.toList.drop 15 = dktX1_sleeperNow_1 := dk_seg dksX1_sleeperNow_0 15 rfl rfl
theorem dksX1_sleeperNow_2 : cX1_sleeperNow.data.toList.drop 60 = dktX1_sleeperNow_2 := dk_seg dksX1_sleeperNow_1 45 rfl rfl
theorem dksX1_sleeperNow_3 : cX1_sleeperNow.data.toList.drop 84 = dktX1_sleeperNow_3 := dk_seg dksX1_sleeperNow_2 24 rfl rfl
theorem dksX1_sleeperNow_4 : cX1_sleeperNow.data.toList.drop 106 = dktX1_sleeperNow_4 := dk_seg dksX1_sleeperNow_3 22 rfl rfl
theorem dksX1_sleeperNow_5 : cX1_sleeperNow.data.toList.drop 128 = dktX1_sleeperNow_5 := dk_seg dksX1_sleeperNow_4 22 rfl rfl
theorem dksX1_sleeperNow_6 : cX1_sleeperNow.data.toList.drop 152 = dktX1_sleeperNow_6 := dk_seg dksX1_sleeperNow_5 24 rfl rfl
theorem dX1_sleeperNow_0 : decode cX1_sleeperNow 0 = .ok (.aload_n 0, 1) := dk_42 (dk_at dksX1_sleeperNow_0 0 rfl rfl)
theorem dX1_sleeperNow_1 : decode cX1_sleeperNow 1 = .ok (.getfield 19, 3) := dk_180 0 19 (dk_at dksX1_sleeperNow_0 1 rfl rfl)
theorem dX1_sleeperNow_4 : decode cX1_sleeperNow 4 = .ok (.iload_n 1, 1) := dk_27 (dk_at dksX1_sleeperNow_0 4 rfl rfl)
theorem dX1_sleeperNow_5 : decode cX1_sleeperNow 5 = .ok (.invokeinterface 61 2, 5) := by decide +kernel
theorem dX1_sleeperNow_10 : decode cX1_sleeperNow 10 = .ok (.checkcast 71, 3) := dk_192 0 71 (dk_at dksX1_sleeperNow_0 10 rfl rfl)
theorem dX1_sleeperNow_13 : decode cX1_sleeperNow 13 = .ok (.astore_n 3, 1) := dk_78 (dk_at dksX1_sleeperNow_0 13 rfl rfl)
theorem dX1_sleeperNow_14 : decode cX1_sleeperNow 14 = .ok (.iload_n 2, 1) := dk_28 (dk_at dksX1_sleeperNow_0 14 rfl rfl)
theorem dX1_sleeperNow_15 : decode cX1_sleeperNow 15 = .ok (.tableswitch 143 0 7 #[45, 50, 55, 63, 68, 103, 109, 137], 45) := by decide +kernel
theorem dX1_sleeperNow_60 : decode cX1_sleeperNow 60 = .ok (.aload_n 3, 1) := dk_45 (dk_at dksX1_sleeperNow_2 0 rfl rfl)
theorem dX1_sleeperNow_61 : decode cX1_sleeperNow 61 = .ok (.getfield 134, 3) := dk_180 0 134 (dk_at dksX1_sleeperNow_2 1 rfl rfl)
theorem dX1_sleeperNow_64 : decode cX1_sleeperNow 64 = .ok (.ireturn, 1) := dk_172 (dk_at dksX1_sleeperNow_2 4 rfl rfl)
theorem dX1_sleeperNow_65 : decode cX1_sleeperNow 65 = .ok (.aload_n 3, 1) := dk_45 (dk_at dksX1_sleeperNow_2 5 rfl rfl)
theorem dX1_sleeperNow_66 : decode cX1_sleeperNow 66 = .ok (.getfield 309, 3) := dk_180 1 53 (dk_at dksX1_sleeperNow_2 6 rfl rfl)
theorem dX1_sleeperNow_69 : decode cX1_sleeperNow 69 = .ok (.ireturn, 1) := dk_172 (dk_at dksX1_sleeperNow_2 9 rfl rfl)
theorem dX1_sleeperNow_70 : decode cX1_sleeperNow 70 = .ok (.aload_n 3, 1) := dk_45 (dk_at dksX1_sleeperNow_2 10 rfl rfl)
theorem dX1_sleeperNow_71 : decode cX1_sleeperNow 71 = .ok (.getfield 195, 3) := dk_180 0 195 (dk_at dksX1_sleeperNow_2 11 rfl rfl)
theorem dX1_sleeperNow_74 : decode cX1_sleeperNow 74 = .ok (.invokevirtual 433, 3) := dk_182 1 177 (dk_at dksX1_sleeperNow_2 14 rfl rfl)
theorem dX1_sleeperNow_77 : decode cX1_sleeperNow 77 = .ok (.ireturn, 1) := dk_172 (dk_at dksX1_sleeperNow_2 17 rfl rfl)
theorem dX1_sleeperNow_78 : decode cX1_sleeperNow 78 = .ok (.aload_n 3, 1) := dk_45 (dk_at dksX1_sleeperNow_2 18 rfl rfl)
theorem dX1_sleeperNow_79 : decode cX1_sleeperNow 79 = .ok (.getfield 198, 3) := dk_180 0 198 (dk_at dksX1_sleeperNow_2 19 rfl rfl)
theorem dX1_sleeperNow_82 : decode cX1_sleeperNow 82 = .ok (.ireturn, 1) := dk_172 (dk_at dksX1_sleeperNow_2 22 rfl rfl)
theorem dX1_sleeperNow_83 : decode cX1_sleeperNow 83 = .ok (.aload_n 3, 1) := dk_45 (dk_at dksX1_sleeperNow_2 23 rfl rfl)
theorem dX1_sleeperNow_84 : decode cX1_sleeperNow 84 = .ok (.getstatic 192, 3) := dk_178 0 192 (dk_at dksX1_sleeperNow_3 0 rfl rfl)
theorem dX1_sleeperNow_87 : decode cX1_sleeperNow 87 = .ok (.invokevirtual 122, 3) := dk_182 0 122 (dk_at dksX1_sleeperNow_3 3 rfl rfl)
theorem dX1_sleeperNow_90 : decode cX1_sleeperNow 90 = .ok (.ifCond .eq 26, 3) := dk_153 0 26 (dk_at dksX1_sleeperNow_3 6 rfl rfl)
theorem dX1_sleeperNow_93 : decode cX1_sleeperNow 93 = .ok (.aload_n 0, 1) := dk_42 (dk_at dksX1_sleeperNow_3 9 rfl rfl)
theorem dX1_sleeperNow_94 : decode cX1_sleeperNow 94 = .ok (.getfield 16, 3) := dk_180 0 16 (dk_at dksX1_sleeperNow_3 10 rfl rfl)
theorem dX1_sleeperNow_97 : decode cX1_sleeperNow 97 = .ok (.aload_n 3, 1) := dk_45 (dk_at dksX1_sleeperNow_3 13 rfl rfl)
theorem dX1_sleeperNow_98 : decode cX1_sleeperNow 98 = .ok (.getfield 198, 3) := dk_180 0 198 (dk_at dksX1_sleeperNow_3 14 rfl rfl)
theorem dX1_sleeperNow_101 : decode cX1_sleeperNow 101 = .ok (.invokeinterface 61 2, 5) := by decide +kernel
theorem dX1_sleeperNow_106 : decode cX1_sleeperNow 106 = .ok (.checkcast 69, 3) := dk_192 0 69 (dk_at dksX1_sleeperNow_4 0 rfl rfl)
theorem dX1_sleeperNow_109 : decode cX1_sleeperNow 109 = .ok (.aload_n 3, 1) := dk_45 (dk_at dksX1_sleeperNow_4 3 rfl rfl)
theorem dX1_sleeperNow_110 : decode cX1_sleeperNow 110 = .ok (.invokevirtual 206, 3) := dk_182 0 206 (dk_at dksX1_sleeperNow_4 4 rfl rfl)
theorem dX1_sleeperNow_113 : decode cX1_sleeperNow 113 = .ok (.goto 4, 3) := dk_167 0 4 (dk_at dksX1_sleeperNow_4 7 rfl rfl)
theorem dX1_sleeperNow_116 : decode cX1_sleeperNow 116 = .ok (.iconst (-1), 1) := dk_2 (dk_at dksX1_sleeperNow_4 10 rfl rfl)
theorem dX1_sleeperNow_117 : decode cX1_sleeperNow 117 = .ok (.ireturn, 1) := dk_172 (dk_at dksX1_sleeperNow_4 11 rfl rfl)
theorem dX1_sleeperNow_118 : decode cX1_sleeperNow 118 = .ok (.aload_n 0, 1) := dk_42 (dk_at dksX1_sleeperNow_4 12 rfl rfl)
theorem dX1_sleeperNow_119 : decode cX1_sleeperNow 119 = .ok (.iload_n 1, 1) := dk_27 (dk_at dksX1_sleeperNow_4 13 rfl rfl)
theorem dX1_sleeperNow_120 : decode cX1_sleeperNow 120 = .ok (.invokevirtual 185, 3) := dk_182 0 185 (dk_at dksX1_sleeperNow_4 14 rfl rfl)
theorem dX1_sleeperNow_123 : decode cX1_sleeperNow 123 = .ok (.ireturn, 1) := dk_172 (dk_at dksX1_sleeperNow_4 17 rfl rfl)
theorem dX1_sleeperNow_124 : decode cX1_sleeperNow 124 = .ok (.aload_n 3, 1) := dk_45 (dk_at dksX1_sleeperNow_4 18 rfl rfl)
theorem dX1_sleeperNow_125 : decode cX1_sleeperNow 125 = .ok (.getfield 150, 3) := dk_180 0 150 (dk_at dksX1_sleeperNow_4 19 rfl rfl)
theorem dX1_sleeperNow_128 : decode cX1_sleeperNow 128 = .ok (.invokevirtual 162, 3) := dk_182 0 162 (dk_at dksX1_sleeperNow_5 0 rfl rfl)
theorem dX1_sleeperNow_131 : decode cX1_sleeperNow 131 = .ok (.ifCond .eq 19, 3) := dk_153 0 19 (dk_at dksX1_sleeperNow_5 3 rfl rfl)
theorem dX1_sleeperNow_134 : decode cX1_sleeperNow 134 = .ok (.aload_n 3, 1) := dk_45 (dk_at dksX1_sleeperNow_5 6 rfl rfl)
theorem dX1_sleeperNow_135 : decode cX1_sleeperNow 135 = .ok (.getfield 150, 3) := dk_180 0 150 (dk_at dksX1_sleeperNow_5 7 rfl rfl)
theorem dX1_sleeperNow_138 : decode cX1_sleeperNow 138 = .ok (.invokevirtual 166, 3) := dk_182 0 166 (dk_at dksX1_sleeperNow_5 10 rfl rfl)
theorem dX1_sleeperNow_141 : decode cX1_sleeperNow 141 = .ok (.checkcast 140, 3) := dk_192 0 140 (dk_at dksX1_sleeperNow_5 13 rfl rfl)
theorem dX1_sleeperNow_144 : decode cX1_sleeperNow 144 = .ok (.getfield 169, 3) := dk_180 0 169 (dk_at dksX1_sleeperNow_5 16 rfl rfl)
theorem dX1_sleeperNow_147 : decode cX1_sleeperNow 147 = .ok (.goto 4, 3) := dk_167 0 4 (dk_at dksX1_sleeperNow_5 19 rfl rfl)
theorem dX1_sleeperNow_150 : decode cX1_sleeperNow 150 = .ok (.iconst (-1), 1) := dk_2 (dk_at dksX1_sleeperNow_5 22 rfl rfl)
theorem dX1_sleeperNow_151 : decode cX1_sleeperNow 151 = .ok (.ireturn, 1) := dk_172 (dk_at dksX1_sleeperNow_5 23 rfl rfl)
theorem dX1_sleeperNow_152 : decode cX1_sleeperNow 152 = .ok (.aload_n 0, 1) := dk_42 (dk_at dksX1_sleeperNow_6 0 rfl rfl)
theorem dX1_sleeperNow_153 : decode cX1_sleeperNow 153 = .ok (.iload_n 1, 1) := dk_27 (dk_at dksX1_sleeperNow_6 1 rfl rfl)
theorem dX1_sleeperNow_154 : decode cX1_sleeperNow 154 = .ok (.invokevirtual 436, 3) := dk_182 1 180 (dk_at dksX1_sleeperNow_6 2 rfl rfl)
theorem dX1_sleeperNow_157 : decode cX1_sleeperNow 157 = .ok (.ireturn, 1) := dk_172 (dk_at dksX1_sleeperNow_6 5 rfl rfl)
theorem dX1_sleeperNow_158 : decode cX1_sleeperNow 158 = .ok (.aload_n 0, 1) := dk_42 (dk_at dksX1_sleeperNow_6 6 rfl rfl)
theorem dX1_sleeperNow_159 : decode cX1_sleeperNow 159 = .ok (.iload_n 1, 1) := dk_27 (dk_at dksX1_sleeperNow_6 7 rfl rfl)
theorem dX1_sleeperNow_160 : decode cX1_sleeperNow 160 = .ok (.invokevirtual 439, 3) := dk_182 1 183 (dk_at dksX1_sleeperNow_6 8 rfl rfl)
theorem dX1_sleeperNow_163 : decode cX1_sleeperNow 163 = .ok (.ireturn, 1) := dk_172 (dk_at dksX1_sleeperNow_6 11 rfl rfl)
abbrev cX1_ringOf : ByteArray := prog_1_method_40_code
def yX1_ringOf : MethodName := ⟨RX1, "ringOf", "(I)I"⟩
def dkwX1_ringOf_4 : List UInt8 := [167, 255, 199, 132, 4, 1, 167, 255, 176, 167, 255, 163, 28, 172]
abbrev dktX1_ringOf_4 : List UInt8 := dkwX1_ringOf_4 ++ []
def dkwX1_ringOf_3 : List UInt8 := [21, 4, 21, 5, 182, 1, 108, 153, 0, 10, 4, 21, 5, 120, 167, 0, 4, 3, 128, 61, 132, 5, 1]
abbrev dktX1_ringOf_3 : List UInt8 := dkwX1_ringOf_3 ++ dktX1_ringOf_4
def dkwX1_ringOf_2 : List UInt8 := [162, 0, 49, 28, 21, 4, 184, 0, 230, 153, 0, 40, 28, 28, 21, 5, 184, 0, 230, 154, 0, 21, 42]
abbrev dktX1_ringOf_2 : List UInt8 := dkwX1_ringOf_2 ++ dktX1_ringOf_3
def dkwX1_ringOf_1 : List UInt8 := [185, 0, 65, 1, 0, 162, 0, 72, 3, 54, 5, 21, 5, 42, 180, 0, 19, 185, 0, 65, 1, 0]
abbrev dktX1_ringOf_1 : List UInt8 := dkwX1_ringOf_1 ++ dktX1_ringOf_2
def dkwX1_ringOf_0 : List UInt8 := [4, 27, 120, 61, 3, 62, 28, 29, 159, 0, 94, 28, 62, 3, 54, 4, 21, 4, 42, 180, 0, 19]
abbrev dktX1_ringOf_0 : List UInt8 := dkwX1_ringOf_0 ++ dktX1_ringOf_1
theorem dksX1_ringOf_0 : cX1_ringOf.data.toList.drop 0 = dktX1_ringOf_0 := by decide +kernel
theorem dksX1_ringOf_1 : cX1_ringOf.data.toList.drop 22 = dktX1_ringOf_1 := dk_seg dksX1_ringOf_0 22 rfl rfl
theorem dksX1_ringOf_2 : cX1_ringOf.data.toList.drop 44 = dktX1_ringOf_2 := dk_seg dksX1_ringOf_1 22 rfl rfl
theorem dksX1_ringOf_3 : cX1_ringOf.data.toList.drop 67 = dktX1_ringOf_3 := dk_seg dksX1_ringOf_2 23 rfl rfl
theorem dksX1_ringOf_4 : cX1_ringOf.data.toList.drop 90 = dktX1_ringOf_4 := dk_seg dksX1_ringOf_3 23 rfl rfl
theorem dX1_ringOf_0 : decode cX1_ringOf 0 = .ok (.iconst 1, 1) := dk_4 (dk_at dksX1_ringOf_0 0 rfl rfl)
theorem dX1_ringOf_1 : decode cX1_ringOf 1 = .ok (.iload_n 1, 1) := dk_27 (dk_at dksX1_ringOf_0 1 rfl rfl)
theorem dX1_ringOf_2 : decode cX1_ringOf 2 = .ok (.ishl, 1) := dk_120 (dk_at dksX1_ringOf_0 2 rfl rfl)
theorem dX1_ringOf_3 : decode cX1_ringOf 3 = .ok (.istore_n 2, 1) := dk_61 (dk_at dksX1_ringOf_0 3 rfl rfl)
theorem dX1_ringOf_4 : decode cX1_ringOf 4 = .ok (.iconst 0, 1) := dk_3 (dk_at dksX1_ringOf_0 4 rfl rfl)
theorem dX1_ringOf_5 : decode cX1_ringOf 5 = .ok (.istore_n 3, 1) := dk_62 (dk_at dksX1_ringOf_0 5 rfl rfl)
theorem dX1_ringOf_6 : decode cX1_ringOf 6 = .ok (.iload_n 2, 1) := dk_28 (dk_at dksX1_ringOf_0 6 rfl rfl)
theorem dX1_ringOf_7 : decode cX1_ringOf 7 = .ok (.iload_n 3, 1) := dk_29 (dk_at dksX1_ringOf_0 7 rfl rfl)
theorem dX1_ringOf_8 : decode cX1_ringOf 8 = .ok (.if_icmp .eq 94, 3) := dk_159 0 94 (dk_at dksX1_ringOf_0 8 rfl rfl)
theorem dX1_ringOf_11 : decode cX1_ringOf 11 = .ok (.iload_n 2, 1) := dk_28 (dk_at dksX1_ringOf_0 11 rfl rfl)
theorem dX1_ringOf_12 : decode cX1_ringOf 12 = .ok (.istore_n 3, 1) := dk_62 (dk_at dksX1_ringOf_0 12 rfl rfl)
theorem dX1_ringOf_13 : decode cX1_ringOf 13 = .ok (.iconst 0, 1) := dk_3 (dk_at dksX1_ringOf_0 13 rfl rfl)
theorem dX1_ringOf_14 : decode cX1_ringOf 14 = .ok (.istore 4, 2) := dk_54 4 (dk_at dksX1_ringOf_0 14 rfl rfl)
theorem dX1_ringOf_16 : decode cX1_ringOf 16 = .ok (.iload 4, 2) := dk_21 4 (dk_at dksX1_ringOf_0 16 rfl rfl)
theorem dX1_ringOf_18 : decode cX1_ringOf 18 = .ok (.aload_n 0, 1) := dk_42 (dk_at dksX1_ringOf_0 18 rfl rfl)
theorem dX1_ringOf_19 : decode cX1_ringOf 19 = .ok (.getfield 19, 3) := dk_180 0 19 (dk_at dksX1_ringOf_0 19 rfl rfl)
theorem dX1_ringOf_22 : decode cX1_ringOf 22 = .ok (.invokeinterface 65 1, 5) := by decide +kernel
theorem dX1_ringOf_27 : decode cX1_ringOf 27 = .ok (.if_icmp .ge 72, 3) := dk_162 0 72 (dk_at dksX1_ringOf_1 5 rfl rfl)
theorem dX1_ringOf_30 : decode cX1_ringOf 30 = .ok (.iconst 0, 1) := dk_3 (dk_at dksX1_ringOf_1 8 rfl rfl)
theorem dX1_ringOf_31 : decode cX1_ringOf 31 = .ok (.istore 5, 2) := dk_54 5 (dk_at dksX1_ringOf_1 9 rfl rfl)
theorem dX1_ringOf_33 : decode cX1_ringOf 33 = .ok (.iload 5, 2) := dk_21 5 (dk_at dksX1_ringOf_1 11 rfl rfl)
theorem dX1_ringOf_35 : decode cX1_ringOf 35 = .ok (.aload_n 0, 1) := dk_42 (dk_at dksX1_ringOf_1 13 rfl rfl)
theorem dX1_ringOf_36 : decode cX1_ringOf 36 = .ok (.getfield 19, 3) := dk_180 0 19 (dk_at dksX1_ringOf_1 14 rfl rfl)
theorem dX1_ringOf_39 : decode cX1_ringOf 39 = .ok (.invokeinterface 65 1, 5) := by decide +kernel
theorem dX1_ringOf_44 : decode cX1_ringOf 44 = .ok (.if_icmp .ge 49, 3) := dk_162 0 49 (dk_at dksX1_ringOf_2 0 rfl rfl)
theorem dX1_ringOf_47 : decode cX1_ringOf 47 = .ok (.iload_n 2, 1) := dk_28 (dk_at dksX1_ringOf_2 3 rfl rfl)
theorem dX1_ringOf_48 : decode cX1_ringOf 48 = .ok (.iload 4, 2) := dk_21 4 (dk_at dksX1_ringOf_2 4 rfl rfl)
theorem dX1_ringOf_50 : decode cX1_ringOf 50 = .ok (.invokestatic 230, 3) := dk_184 0 230 (dk_at dksX1_ringOf_2 6 rfl rfl)
theorem dX1_ringOf_53 : decode cX1_ringOf 53 = .ok (.ifCond .eq 40, 3) := dk_153 0 40 (dk_at dksX1_ringOf_2 9 rfl rfl)
theorem dX1_ringOf_56 : decode cX1_ringOf 56 = .ok (.iload_n 2, 1) := dk_28 (dk_at dksX1_ringOf_2 12 rfl rfl)
theorem dX1_ringOf_57 : decode cX1_ringOf 57 = .ok (.iload_n 2, 1) := dk_28 (dk_at dksX1_ringOf_2 13 rfl rfl)
theorem dX1_ringOf_58 : decode cX1_ringOf 58 = .ok (.iload 5, 2) := dk_21 5 (dk_at dksX1_ringOf_2 14 rfl rfl)
theorem dX1_ringOf_60 : decode cX1_ringOf 60 = .ok (.invokestatic 230, 3) := dk_184 0 230 (dk_at dksX1_ringOf_2 16 rfl rfl)
theorem dX1_ringOf_63 : decode cX1_ringOf 63 = .ok (.ifCond .ne 21, 3) := dk_154 0 21 (dk_at dksX1_ringOf_2 19 rfl rfl)
theorem dX1_ringOf_66 : decode cX1_ringOf 66 = .ok (.aload_n 0, 1) := dk_42 (dk_at dksX1_ringOf_2 22 rfl rfl)
theorem dX1_ringOf_67 : decode cX1_ringOf 67 = .ok (.iload 4, 2) := dk_21 4 (dk_at dksX1_ringOf_3 0 rfl rfl)
theorem dX1_ringOf_69 : decode cX1_ringOf 69 = .ok (.iload 5, 2) := dk_21 5 (dk_at dksX1_ringOf_3 2 rfl rfl)
theorem dX1_ringOf_71 : decode cX1_ringOf 71 = .ok (.invokevirtual 364, 3) := dk_182 1 108 (dk_at dksX1_ringOf_3 4 rfl rfl)
theorem dX1_ringOf_74 : decode cX1_ringOf 74 = .ok (.ifCond .eq 10, 3) := dk_153 0 10 (dk_at dksX1_ringOf_3 7 rfl rfl)
theorem dX1_ringOf_77 : decode cX1_ringOf 77 = .ok (.iconst 1, 1) := dk_4 (dk_at dksX1_ringOf_3 10 rfl rfl)
theorem dX1_ringOf_78 : decode cX1_ringOf 78 = .ok (.iload 5, 2) := dk_21 5 (dk_at dksX1_ringOf_3 11 rfl rfl)
theorem dX1_ringOf_80 : decode cX1_ringOf 80 = .ok (.ishl, 1) := dk_120 (dk_at dksX1_ringOf_3 13 rfl rfl)
theorem dX1_ringOf_81 : decode cX1_ringOf 81 = .ok (.goto 4, 3) := dk_167 0 4 (dk_at dksX1_ringOf_3 14 rfl rfl)
theorem dX1_ringOf_84 : decode cX1_ringOf 84 = .ok (.iconst 0, 1) := dk_3 (dk_at dksX1_ringOf_3 17 rfl rfl)
theorem dX1_ringOf_85 : decode cX1_ringOf 85 = .ok (.ior, 1) := dk_128 (dk_at dksX1_ringOf_3 18 rfl rfl)
theorem dX1_ringOf_86 : decode cX1_ringOf 86 = .ok (.istore_n 2, 1) := dk_61 (dk_at dksX1_ringOf_3 19 rfl rfl)
theorem dX1_ringOf_87 : decode cX1_ringOf 87 = .ok (.iinc 5 1, 3) := dk_132 5 1 (dk_at dksX1_ringOf_3 20 rfl rfl)
theorem dX1_ringOf_90 : decode cX1_ringOf 90 = .ok (.goto (-57), 3) := dk_167 255 199 (dk_at dksX1_ringOf_4 0 rfl rfl)
theorem dX1_ringOf_93 : decode cX1_ringOf 93 = .ok (.iinc 4 1, 3) := dk_132 4 1 (dk_at dksX1_ringOf_4 3 rfl rfl)
theorem dX1_ringOf_96 : decode cX1_ringOf 96 = .ok (.goto (-80), 3) := dk_167 255 176 (dk_at dksX1_ringOf_4 6 rfl rfl)
theorem dX1_ringOf_99 : decode cX1_ringOf 99 = .ok (.goto (-93), 3) := dk_167 255 163 (dk_at dksX1_ringOf_4 9 rfl rfl)
theorem dX1_ringOf_102 : decode cX1_ringOf 102 = .ok (.iload_n 2, 1) := dk_28 (dk_at dksX1_ringOf_4 12 rfl rfl)
theorem dX1_ringOf_103 : decode cX1_ringOf 103 = .ok (.ireturn, 1) := dk_172 (dk_at dksX1_ringOf_4 13 rfl rfl)
abbrev cX1_areLinked : ByteArray := prog_1_method_39_code
def yX1_areLinked : MethodName := ⟨RX1, "areLinked", "(II)Z"⟩
def dkwX1_areLinked_5 : List UInt8 := [132, 3, 1, 167, 255, 141, 3, 172]
abbrev dktX1_areLinked_5 : List UInt8 := dkwX1_areLinked_5 ++ []
def dkwX1_areLinked_4 : List UInt8 := [185, 0, 61, 2, 0, 192, 0, 224, 182, 1, 104, 153, 0, 5, 4, 172, 132, 4, 1, 167, 255, 163]
abbrev dktX1_areLinked_4 : List UInt8 := dkwX1_areLinked_4 ++ dktX1_areLinked_5
def dkwX1_areLinked_3 : List UInt8 := [160, 0, 38, 42, 180, 0, 25, 29, 185, 0, 61, 2, 0, 192, 0, 224, 42, 180, 0, 25, 21, 4]
abbrev dktX1_areLinked_3 : List UInt8 := dkwX1_areLinked_3 ++ dktX1_areLinked_4
def dkwX1_areLinked_2 : List UInt8 := [27, 160, 0, 65, 42, 180, 0, 25, 21, 4, 185, 0, 61, 2, 0, 192, 0, 224, 180, 1, 101, 28]
abbrev dktX1_areLinked_2 : List UInt8 := dkwX1_areLinked_2 ++ dktX1_areLinked_3
def dkwX1_areLinked_1 : List UInt8 := [185, 0, 65, 1, 0, 162, 0, 85, 42, 180, 0, 25, 29, 185, 0, 61, 2, 0, 192, 0, 224, 180, 1, 101]
abbrev dktX1_areLinked_1 : List UInt8 := dkwX1_areLinked_1 ++ dktX1_areLinked_2
def dkwX1_areLinked_0 : List UInt8 := [3, 62, 29, 42, 180, 0, 25, 185, 0, 65, 1, 0, 162, 0, 108, 3, 54, 4, 21, 4, 42, 180, 0, 25]
abbrev dktX1_areLinked_0 : List UInt8 := dkwX1_areLinked_0 ++ dktX1_areLinked_1
theorem dksX1_areLinked_0 : cX1_areLinked.data.toList.drop 0 = dktX1_areLinked_0 := by decide +kernel
theorem dksX1_areLinked_1 : cX1_areLinked.data.toList.drop 24 = dktX1_areLinked_1 := dk_seg dksX1_areLinked_0 24 rfl rfl
theorem dksX1_areLinked_2 : cX1_areLinked.data.toList.drop 48 = dktX1_areLinked_2 := dk_seg dksX1_areLinked_1 24 rfl rfl
theorem dksX1_areLinked_3 : cX1_areLinked.data.toList.drop 70 = dktX1_areLinked_3 := dk_seg dksX1_areLinked_2 22 rfl rfl
theorem dksX1_areLinked_4 : cX1_areLinked.data.toList.drop 92 = dktX1_areLinked_4 := dk_seg dksX1_areLinked_3 22 rfl rfl
theorem dksX1_areLinked_5 : cX1_areLinked.data.toList.drop 114 = dktX1_areLinked_5 := dk_seg dksX1_areLinked_4 22 rfl rfl
theorem dX1_areLinked_0 : decode cX1_areLinked 0 = .ok (.iconst 0, 1) := dk_3 (dk_at dksX1_areLinked_0 0 rfl rfl)
theorem dX1_areLinked_1 : decode cX1_areLinked 1 = .ok (.istore_n 3, 1) := dk_62 (dk_at dksX1_areLinked_0 1 rfl rfl)
theorem dX1_areLinked_2 : decode cX1_areLinked 2 = .ok (.iload_n 3, 1) := dk_29 (dk_at dksX1_areLinked_0 2 rfl rfl)
theorem dX1_areLinked_3 : decode cX1_areLinked 3 = .ok (.aload_n 0, 1) := dk_42 (dk_at dksX1_areLinked_0 3 rfl rfl)
theorem dX1_areLinked_4 : decode cX1_areLinked 4 = .ok (.getfield 25, 3) := dk_180 0 25 (dk_at dksX1_areLinked_0 4 rfl rfl)
theorem dX1_areLinked_7 : decode cX1_areLinked 7 = .ok (.invokeinterface 65 1, 5) := by decide +kernel
theorem dX1_areLinked_12 : decode cX1_areLinked 12 = .ok (.if_icmp .ge 108, 3) := dk_162 0 108 (dk_at dksX1_areLinked_0 12 rfl rfl)
theorem dX1_areLinked_15 : decode cX1_areLinked 15 = .ok (.iconst 0, 1) := dk_3 (dk_at dksX1_areLinked_0 15 rfl rfl)
theorem dX1_areLinked_16 : decode cX1_areLinked 16 = .ok (.istore 4, 2) := dk_54 4 (dk_at dksX1_areLinked_0 16 rfl rfl)
theorem dX1_areLinked_18 : decode cX1_areLinked 18 = .ok (.iload 4, 2) := dk_21 4 (dk_at dksX1_areLinked_0 18 rfl rfl)
theorem dX1_areLinked_20 : decode cX1_areLinked 20 = .ok (.aload_n 0, 1) := dk_42 (dk_at dksX1_areLinked_0 20 rfl rfl)
theorem dX1_areLinked_21 : decode cX1_areLinked 21 = .ok (.getfield 25, 3) := dk_180 0 25 (dk_at dksX1_areLinked_0 21 rfl rfl)
theorem dX1_areLinked_24 : decode cX1_areLinked 24 = .ok (.invokeinterface 65 1, 5) := by decide +kernel
theorem dX1_areLinked_29 : decode cX1_areLinked 29 = .ok (.if_icmp .ge 85, 3) := dk_162 0 85 (dk_at dksX1_areLinked_1 5 rfl rfl)
theorem dX1_areLinked_32 : decode cX1_areLinked 32 = .ok (.aload_n 0, 1) := dk_42 (dk_at dksX1_areLinked_1 8 rfl rfl)
theorem dX1_areLinked_33 : decode cX1_areLinked 33 = .ok (.getfield 25, 3) := dk_180 0 25 (dk_at dksX1_areLinked_1 9 rfl rfl)
theorem dX1_areLinked_36 : decode cX1_areLinked 36 = .ok (.iload_n 3, 1) := dk_29 (dk_at dksX1_areLinked_1 12 rfl rfl)
theorem dX1_areLinked_37 : decode cX1_areLinked 37 = .ok (.invokeinterface 61 2, 5) := by decide +kernel
theorem dX1_areLinked_42 : decode cX1_areLinked 42 = .ok (.checkcast 224, 3) := dk_192 0 224 (dk_at dksX1_areLinked_1 18 rfl rfl)
theorem dX1_areLinked_45 : decode cX1_areLinked 45 = .ok (.getfield 357, 3) := dk_180 1 101 (dk_at dksX1_areLinked_1 21 rfl rfl)
theorem dX1_areLinked_48 : decode cX1_areLinked 48 = .ok (.iload_n 1, 1) := dk_27 (dk_at dksX1_areLinked_2 0 rfl rfl)
theorem dX1_areLinked_49 : decode cX1_areLinked 49 = .ok (.if_icmp .ne 65, 3) := dk_160 0 65 (dk_at dksX1_areLinked_2 1 rfl rfl)
theorem dX1_areLinked_52 : decode cX1_areLinked 52 = .ok (.aload_n 0, 1) := dk_42 (dk_at dksX1_areLinked_2 4 rfl rfl)
theorem dX1_areLinked_53 : decode cX1_areLinked 53 = .ok (.getfield 25, 3) := dk_180 0 25 (dk_at dksX1_areLinked_2 5 rfl rfl)
theorem dX1_areLinked_56 : decode cX1_areLinked 56 = .ok (.iload 4, 2) := dk_21 4 (dk_at dksX1_areLinked_2 8 rfl rfl)
theorem dX1_areLinked_58 : decode cX1_areLinked 58 = .ok (.invokeinterface 61 2, 5) := by decide +kernel
theorem dX1_areLinked_63 : decode cX1_areLinked 63 = .ok (.checkcast 224, 3) := dk_192 0 224 (dk_at dksX1_areLinked_2 15 rfl rfl)
theorem dX1_areLinked_66 : decode cX1_areLinked 66 = .ok (.getfield 357, 3) := dk_180 1 101 (dk_at dksX1_areLinked_2 18 rfl rfl)
theorem dX1_areLinked_69 : decode cX1_areLinked 69 = .ok (.iload_n 2, 1) := dk_28 (dk_at dksX1_areLinked_2 21 rfl rfl)
theorem dX1_areLinked_70 : decode cX1_areLinked 70 = .ok (.if_icmp .ne 38, 3) := dk_160 0 38 (dk_at dksX1_areLinked_3 0 rfl rfl)
theorem dX1_areLinked_73 : decode cX1_areLinked 73 = .ok (.aload_n 0, 1) := dk_42 (dk_at dksX1_areLinked_3 3 rfl rfl)
theorem dX1_areLinked_74 : decode cX1_areLinked 74 = .ok (.getfield 25, 3) := dk_180 0 25 (dk_at dksX1_areLinked_3 4 rfl rfl)
theorem dX1_areLinked_77 : decode cX1_areLinked 77 = .ok (.iload_n 3, 1) := dk_29 (dk_at dksX1_areLinked_3 7 rfl rfl)
theorem dX1_areLinked_78 : decode cX1_areLinked 78 = .ok (.invokeinterface 61 2, 5) := by decide +kernel
theorem dX1_areLinked_83 : decode cX1_areLinked 83 = .ok (.checkcast 224, 3) := dk_192 0 224 (dk_at dksX1_areLinked_3 13 rfl rfl)
theorem dX1_areLinked_86 : decode cX1_areLinked 86 = .ok (.aload_n 0, 1) := dk_42 (dk_at dksX1_areLinked_3 16 rfl rfl)
theorem dX1_areLinked_87 : decode cX1_areLinked 87 = .ok (.getfield 25, 3) := dk_180 0 25 (dk_at dksX1_areLinked_3 17 rfl rfl)
theorem dX1_areLinked_90 : decode cX1_areLinked 90 = .ok (.iload 4, 2) := dk_21 4 (dk_at dksX1_areLinked_3 20 rfl rfl)
theorem dX1_areLinked_92 : decode cX1_areLinked 92 = .ok (.invokeinterface 61 2, 5) := by decide +kernel
theorem dX1_areLinked_97 : decode cX1_areLinked 97 = .ok (.checkcast 224, 3) := dk_192 0 224 (dk_at dksX1_areLinked_4 5 rfl rfl)
theorem dX1_areLinked_100 : decode cX1_areLinked 100 = .ok (.invokevirtual 360, 3) := dk_182 1 104 (dk_at dksX1_areLinked_4 8 rfl rfl)
theorem dX1_areLinked_103 : decode cX1_areLinked 103 = .ok (.ifCond .eq 5, 3) := dk_153 0 5 (dk_at dksX1_areLinked_4 11 rfl rfl)
theorem dX1_areLinked_106 : decode cX1_areLinked 106 = .ok (.iconst 1, 1) := dk_4 (dk_at dksX1_areLinked_4 14 rfl rfl)
theorem dX1_areLinked_107 : decode cX1_areLinked 107 = .ok (.ireturn, 1) := dk_172 (dk_at dksX1_areLinked_4 15 rfl rfl)
theorem dX1_areLinked_108 : decode cX1_areLinked 108 = .ok (.iinc 4 1, 3) := dk_132 4 1 (dk_at dksX1_areLinked_4 16 rfl rfl)
theorem dX1_areLinked_111 : decode cX1_areLinked 111 = .ok (.goto (-93), 3) := dk_167 255 163 (dk_at dksX1_areLinked_4 19 rfl rfl)
theorem dX1_areLinked_114 : decode cX1_areLinked 114 = .ok (.iinc 3 1, 3) := dk_132 3 1 (dk_at dksX1_areLinked_5 0 rfl rfl)
theorem dX1_areLinked_117 : decode cX1_areLinked 117 = .ok (.goto (-115), 3) := dk_167 255 141 (dk_at dksX1_areLinked_5 3 rfl rfl)
theorem dX1_areLinked_120 : decode cX1_areLinked 120 = .ok (.iconst 0, 1) := dk_3 (dk_at dksX1_areLinked_5 6 rfl rfl)
theorem dX1_areLinked_121 : decode cX1_areLinked 121 = .ok (.ireturn, 1) := dk_172 (dk_at dksX1_areLinked_5 7 rfl rfl)
abbrev cX1_hidingsOf : ByteArray := prog_1_method_41_code
def yX1_hidingsOf : MethodName := ⟨RX1, "hidingsOf", "(I)I"⟩
def dkwX1_hidingsOf_2 : List UInt8 := [132, 3, 1, 167, 255, 212, 28, 172]
abbrev dktX1_hidingsOf_2 : List UInt8 := dkwX1_hidingsOf_2 ++ []
def dkwX1_hidingsOf_1 : List UInt8 := [185, 0, 61, 2, 0, 192, 0, 224, 180, 1, 101, 27, 160, 0, 7, 4, 167, 0, 4, 3, 96, 61]
abbrev dktX1_hidingsOf_1 : List UInt8 := dkwX1_hidingsOf_1 ++ dktX1_hidingsOf_2
def dkwX1_hidingsOf_0 : List UInt8 := [3, 61, 3, 62, 29, 42, 180, 0, 25, 185, 0, 65, 1, 0, 162, 0, 37, 28, 42, 180, 0, 25, 29]
abbrev dktX1_hidingsOf_0 : List UInt8 := dkwX1_hidingsOf_0 ++ dktX1_hidingsOf_1
theorem dksX1_hidingsOf_0 : cX1_hidingsOf.data.toList.drop 0 = dktX1_hidingsOf_0 := by decide +kernel
theorem dksX1_hidingsOf_1 : cX1_hidingsOf.data.toList.drop 23 = dktX1_hidingsOf_1 := dk_seg dksX1_hidingsOf_0 23 rfl rfl
theorem dksX1_hidingsOf_2 : cX1_hidingsOf.data.toList.drop 45 = dktX1_hidingsOf_2 := dk_seg dksX1_hidingsOf_1 22 rfl rfl
theorem dX1_hidingsOf_0 : decode cX1_hidingsOf 0 = .ok (.iconst 0, 1) := dk_3 (dk_at dksX1_hidingsOf_0 0 rfl rfl)
theorem dX1_hidingsOf_1 : decode cX1_hidingsOf 1 = .ok (.istore_n 2, 1) := dk_61 (dk_at dksX1_hidingsOf_0 1 rfl rfl)
theorem dX1_hidingsOf_2 : decode cX1_hidingsOf 2 = .ok (.iconst 0, 1) := dk_3 (dk_at dksX1_hidingsOf_0 2 rfl rfl)
theorem dX1_hidingsOf_3 : decode cX1_hidingsOf 3 = .ok (.istore_n 3, 1) := dk_62 (dk_at dksX1_hidingsOf_0 3 rfl rfl)
theorem dX1_hidingsOf_4 : decode cX1_hidingsOf 4 = .ok (.iload_n 3, 1) := dk_29 (dk_at dksX1_hidingsOf_0 4 rfl rfl)
theorem dX1_hidingsOf_5 : decode cX1_hidingsOf 5 = .ok (.aload_n 0, 1) := dk_42 (dk_at dksX1_hidingsOf_0 5 rfl rfl)
theorem dX1_hidingsOf_6 : decode cX1_hidingsOf 6 = .ok (.getfield 25, 3) := dk_180 0 25 (dk_at dksX1_hidingsOf_0 6 rfl rfl)
theorem dX1_hidingsOf_9 : decode cX1_hidingsOf 9 = .ok (.invokeinterface 65 1, 5) := by decide +kernel
theorem dX1_hidingsOf_14 : decode cX1_hidingsOf 14 = .ok (.if_icmp .ge 37, 3) := dk_162 0 37 (dk_at dksX1_hidingsOf_0 14 rfl rfl)
theorem dX1_hidingsOf_17 : decode cX1_hidingsOf 17 = .ok (.iload_n 2, 1) := dk_28 (dk_at dksX1_hidingsOf_0 17 rfl rfl)
theorem dX1_hidingsOf_18 : decode cX1_hidingsOf 18 = .ok (.aload_n 0, 1) := dk_42 (dk_at dksX1_hidingsOf_0 18 rfl rfl)
theorem dX1_hidingsOf_19 : decode cX1_hidingsOf 19 = .ok (.getfield 25, 3) := dk_180 0 25 (dk_at dksX1_hidingsOf_0 19 rfl rfl)
theorem dX1_hidingsOf_22 : decode cX1_hidingsOf 22 = .ok (.iload_n 3, 1) := dk_29 (dk_at dksX1_hidingsOf_0 22 rfl rfl)
theorem dX1_hidingsOf_23 : decode cX1_hidingsOf 23 = .ok (.invokeinterface 61 2, 5) := by decide +kernel
theorem dX1_hidingsOf_28 : decode cX1_hidingsOf 28 = .ok (.checkcast 224, 3) := dk_192 0 224 (dk_at dksX1_hidingsOf_1 5 rfl rfl)
theorem dX1_hidingsOf_31 : decode cX1_hidingsOf 31 = .ok (.getfield 357, 3) := dk_180 1 101 (dk_at dksX1_hidingsOf_1 8 rfl rfl)
theorem dX1_hidingsOf_34 : decode cX1_hidingsOf 34 = .ok (.iload_n 1, 1) := dk_27 (dk_at dksX1_hidingsOf_1 11 rfl rfl)
theorem dX1_hidingsOf_35 : decode cX1_hidingsOf 35 = .ok (.if_icmp .ne 7, 3) := dk_160 0 7 (dk_at dksX1_hidingsOf_1 12 rfl rfl)
theorem dX1_hidingsOf_38 : decode cX1_hidingsOf 38 = .ok (.iconst 1, 1) := dk_4 (dk_at dksX1_hidingsOf_1 15 rfl rfl)
theorem dX1_hidingsOf_39 : decode cX1_hidingsOf 39 = .ok (.goto 4, 3) := dk_167 0 4 (dk_at dksX1_hidingsOf_1 16 rfl rfl)
theorem dX1_hidingsOf_42 : decode cX1_hidingsOf 42 = .ok (.iconst 0, 1) := dk_3 (dk_at dksX1_hidingsOf_1 19 rfl rfl)
theorem dX1_hidingsOf_43 : decode cX1_hidingsOf 43 = .ok (.iadd, 1) := dk_96 (dk_at dksX1_hidingsOf_1 20 rfl rfl)
theorem dX1_hidingsOf_44 : decode cX1_hidingsOf 44 = .ok (.istore_n 2, 1) := dk_61 (dk_at dksX1_hidingsOf_1 21 rfl rfl)
theorem dX1_hidingsOf_45 : decode cX1_hidingsOf 45 = .ok (.iinc 3 1, 3) := dk_132 3 1 (dk_at dksX1_hidingsOf_2 0 rfl rfl)
theorem dX1_hidingsOf_48 : decode cX1_hidingsOf 48 = .ok (.goto (-44), 3) := dk_167 255 212 (dk_at dksX1_hidingsOf_2 3 rfl rfl)
theorem dX1_hidingsOf_51 : decode cX1_hidingsOf 51 = .ok (.iload_n 2, 1) := dk_28 (dk_at dksX1_hidingsOf_2 6 rfl rfl)
theorem dX1_hidingsOf_52 : decode cX1_hidingsOf 52 = .ok (.ireturn, 1) := dk_172 (dk_at dksX1_hidingsOf_2 7 rfl rfl)
abbrev cX1_partNow : ByteArray := prog_1_method_64_code
def yX1_partNow : MethodName := ⟨RX1, "partNow", "(II)I"⟩
def dkwX1_partNow_3 : List UInt8 := [45, 182, 1, 111, 172, 45, 180, 0, 131, 172]
abbrev dktX1_partNow_3 : List UInt8 := dkwX1_partNow_3 ++ []
def dkwX1_partNow_2 : List UInt8 := [45, 180, 0, 226, 172, 45, 180, 0, 251, 172, 45, 180, 1, 189, 172, 45, 180, 1, 1, 182, 1, 192, 172, 42]
abbrev dktX1_partNow_2 : List UInt8 := dkwX1_partNow_2 ++ dktX1_partNow_3
def dkwX1_partNow_1 : List UInt8 := [170, 0, 0, 0, 62, 0, 0, 0, 0, 0, 0, 0, 4, 0, 0, 0, 33, 0, 0, 0, 38, 0, 0, 0, 43, 0, 0, 0, 48, 0, 0, 0, 56]
abbrev dktX1_partNow_1 : List UInt8 := dkwX1_partNow_1 ++ dktX1_partNow_2
def dkwX1_partNow_0 : List UInt8 := [42, 180, 0, 22, 27, 185, 0, 61, 2, 0, 192, 0, 73, 78, 28]
abbrev dktX1_partNow_0 : List UInt8 := dkwX1_partNow_0 ++ dktX1_partNow_1
theorem dksX1_partNow_0 : cX1_partNow.data.toList.drop 0 = dktX1_partNow_0 := by decide +kernel
theorem dksX1_partNow_1 : cX1_partNow.data.toList.drop 15 = dktX1_partNow_1 := dk_seg dksX1_partNow_0 15 rfl rfl
theorem dksX1_partNow_2 : cX1_partNow.data.toList.drop 48 = dktX1_partNow_2 := dk_seg dksX1_partNow_1 33 rfl rfl
theorem dksX1_partNow_3 : cX1_partNow.data.toList.drop 72 = dktX1_partNow_3 := dk_seg dksX1_partNow_2 24 rfl rfl
theorem dX1_partNow_0 : decode cX1_partNow 0 = .ok (.aload_n 0, 1) := dk_42 (dk_at dksX1_partNow_0 0 rfl rfl)
theorem dX1_partNow_1 : decode cX1_partNow 1 = .ok (.getfield 22, 3) := dk_180 0 22 (dk_at dksX1_partNow_0 1 rfl rfl)
theorem dX1_partNow_4 : decode cX1_partNow 4 = .ok (.iload_n 1, 1) := dk_27 (dk_at dksX1_partNow_0 4 rfl rfl)
theorem dX1_partNow_5 : decode cX1_partNow 5 = .ok (.invokeinterface 61 2, 5) := by decide +kernel
theorem dX1_partNow_10 : decode cX1_partNow 10 = .ok (.checkcast 73, 3) := dk_192 0 73 (dk_at dksX1_partNow_0 10 rfl rfl)
theorem dX1_partNow_13 : decode cX1_partNow 13 = .ok (.astore_n 3, 1) := dk_78 (dk_at dksX1_partNow_0 13 rfl rfl)
theorem dX1_partNow_14 : decode cX1_partNow 14 = .ok (.iload_n 2, 1) := dk_28 (dk_at dksX1_partNow_0 14 rfl rfl)
theorem dX1_partNow_15 : decode cX1_partNow 15 = .ok (.tableswitch 62 0 4 #[33, 38, 43, 48, 56], 33) := by decide +kernel
theorem dX1_partNow_48 : decode cX1_partNow 48 = .ok (.aload_n 3, 1) := dk_45 (dk_at dksX1_partNow_2 0 rfl rfl)
theorem dX1_partNow_49 : decode cX1_partNow 49 = .ok (.getfield 226, 3) := dk_180 0 226 (dk_at dksX1_partNow_2 1 rfl rfl)
theorem dX1_partNow_52 : decode cX1_partNow 52 = .ok (.ireturn, 1) := dk_172 (dk_at dksX1_partNow_2 4 rfl rfl)
theorem dX1_partNow_53 : decode cX1_partNow 53 = .ok (.aload_n 3, 1) := dk_45 (dk_at dksX1_partNow_2 5 rfl rfl)
theorem dX1_partNow_54 : decode cX1_partNow 54 = .ok (.getfield 251, 3) := dk_180 0 251 (dk_at dksX1_partNow_2 6 rfl rfl)
theorem dX1_partNow_57 : decode cX1_partNow 57 = .ok (.ireturn, 1) := dk_172 (dk_at dksX1_partNow_2 9 rfl rfl)
theorem dX1_partNow_58 : decode cX1_partNow 58 = .ok (.aload_n 3, 1) := dk_45 (dk_at dksX1_partNow_2 10 rfl rfl)
theorem dX1_partNow_59 : decode cX1_partNow 59 = .ok (.getfield 445, 3) := dk_180 1 189 (dk_at dksX1_partNow_2 11 rfl rfl)
theorem dX1_partNow_62 : decode cX1_partNow 62 = .ok (.ireturn, 1) := dk_172 (dk_at dksX1_partNow_2 14 rfl rfl)
theorem dX1_partNow_63 : decode cX1_partNow 63 = .ok (.aload_n 3, 1) := dk_45 (dk_at dksX1_partNow_2 15 rfl rfl)
theorem dX1_partNow_64 : decode cX1_partNow 64 = .ok (.getfield 257, 3) := dk_180 1 1 (dk_at dksX1_partNow_2 16 rfl rfl)
theorem dX1_partNow_67 : decode cX1_partNow 67 = .ok (.invokevirtual 448, 3) := dk_182 1 192 (dk_at dksX1_partNow_2 19 rfl rfl)
theorem dX1_partNow_70 : decode cX1_partNow 70 = .ok (.ireturn, 1) := dk_172 (dk_at dksX1_partNow_2 22 rfl rfl)
theorem dX1_partNow_71 : decode cX1_partNow 71 = .ok (.aload_n 0, 1) := dk_42 (dk_at dksX1_partNow_2 23 rfl rfl)
theorem dX1_partNow_72 : decode cX1_partNow 72 = .ok (.aload_n 3, 1) := dk_45 (dk_at dksX1_partNow_3 0 rfl rfl)
theorem dX1_partNow_73 : decode cX1_partNow 73 = .ok (.invokevirtual 367, 3) := dk_182 1 111 (dk_at dksX1_partNow_3 1 rfl rfl)
theorem dX1_partNow_76 : decode cX1_partNow 76 = .ok (.ireturn, 1) := dk_172 (dk_at dksX1_partNow_3 4 rfl rfl)
theorem dX1_partNow_77 : decode cX1_partNow 77 = .ok (.aload_n 3, 1) := dk_45 (dk_at dksX1_partNow_3 5 rfl rfl)
theorem dX1_partNow_78 : decode cX1_partNow 78 = .ok (.getfield 131, 3) := dk_180 0 131 (dk_at dksX1_partNow_3 6 rfl rfl)
theorem dX1_partNow_81 : decode cX1_partNow 81 = .ok (.ireturn, 1) := dk_172 (dk_at dksX1_partNow_3 9 rfl rfl)
abbrev cX1_ways : ByteArray := prog_1_method_44_code
def yX1_ways : MethodName := ⟨RX1, "ways", "(I)[I"⟩
def dkwX1_ways_5 : List UInt8 := [180, 1, 115, 29, 184, 1, 121, 132, 4, 1, 167, 255, 176, 132, 3, 1, 167, 255, 161, 44, 176]
abbrev dktX1_ways_5 : List UInt8 := dkwX1_ways_5 ++ []
def dkwX1_ways_4 : List UInt8 := [25, 5, 180, 1, 115, 25, 5, 180, 1, 118, 29, 184, 1, 121, 44, 25, 5, 180, 1, 118, 25, 5]
abbrev dktX1_ways_4 : List UInt8 := dkwX1_ways_4 ++ dktX1_ways_5
def dkwX1_ways_3 : List UInt8 := [192, 0, 69, 58, 5, 25, 5, 42, 180, 1, 60, 29, 96, 16, 24, 112, 182, 1, 63, 153, 0, 33, 44]
abbrev dktX1_ways_3 : List UInt8 := dkwX1_ways_3 ++ dktX1_ways_4
def dkwX1_ways_2 : List UInt8 := [180, 0, 16, 185, 0, 65, 1, 0, 162, 0, 72, 42, 180, 0, 16, 21, 4, 185, 0, 61, 2, 0]
abbrev dktX1_ways_2 : List UInt8 := dkwX1_ways_2 ++ dktX1_ways_3
def dkwX1_ways_1 : List UInt8 := [2, 79, 132, 3, 1, 167, 255, 234, 3, 62, 29, 16, 72, 162, 0, 95, 3, 54, 4, 21, 4, 42]
abbrev dktX1_ways_1 : List UInt8 := dkwX1_ways_1 ++ dktX1_ways_2
def dkwX1_ways_0 : List UInt8 := [16, 6, 188, 10, 77, 3, 62, 29, 16, 6, 162, 0, 22, 44, 29, 29, 27, 160, 0, 7, 3, 167, 0, 4]
abbrev dktX1_ways_0 : List UInt8 := dkwX1_ways_0 ++ dktX1_ways_1
theorem dksX1_ways_0 : cX1_ways.data.toList.drop 0 = dktX1_ways_0 := by decide +kernel
theorem dksX1_ways_1 : cX1_ways.data.toList.drop 24 = dktX1_ways_1 := dk_seg dksX1_ways_0 24 rfl rfl
theorem dksX1_ways_2 : cX1_ways.data.toList.drop 46 = dktX1_ways_2 := dk_seg dksX1_ways_1 22 rfl rfl
theorem dksX1_ways_3 : cX1_ways.data.toList.drop 68 = dktX1_ways_3 := dk_seg dksX1_ways_2 22 rfl rfl
theorem dksX1_ways_4 : cX1_ways.data.toList.drop 91 = dktX1_ways_4 := dk_seg dksX1_ways_3 23 rfl rfl
theorem dksX1_ways_5 : cX1_ways.data.toList.drop 113 = dktX1_ways_5 := dk_seg dksX1_ways_4 22 rfl rfl
theorem dX1_ways_0 : decode cX1_ways 0 = .ok (.bipush 6, 2) := dk_16 6 (dk_at dksX1_ways_0 0 rfl rfl)
theorem dX1_ways_2 : decode cX1_ways 2 = .ok (.newarray .int, 2) := dk_188_10 (dk_at dksX1_ways_0 2 rfl rfl)
theorem dX1_ways_4 : decode cX1_ways 4 = .ok (.astore_n 2, 1) := dk_77 (dk_at dksX1_ways_0 4 rfl rfl)
theorem dX1_ways_5 : decode cX1_ways 5 = .ok (.iconst 0, 1) := dk_3 (dk_at dksX1_ways_0 5 rfl rfl)
theorem dX1_ways_6 : decode cX1_ways 6 = .ok (.istore_n 3, 1) := dk_62 (dk_at dksX1_ways_0 6 rfl rfl)
theorem dX1_ways_7 : decode cX1_ways 7 = .ok (.iload_n 3, 1) := dk_29 (dk_at dksX1_ways_0 7 rfl rfl)
theorem dX1_ways_8 : decode cX1_ways 8 = .ok (.bipush 6, 2) := dk_16 6 (dk_at dksX1_ways_0 8 rfl rfl)
theorem dX1_ways_10 : decode cX1_ways 10 = .ok (.if_icmp .ge 22, 3) := dk_162 0 22 (dk_at dksX1_ways_0 10 rfl rfl)
theorem dX1_ways_13 : decode cX1_ways 13 = .ok (.aload_n 2, 1) := dk_44 (dk_at dksX1_ways_0 13 rfl rfl)
theorem dX1_ways_14 : decode cX1_ways 14 = .ok (.iload_n 3, 1) := dk_29 (dk_at dksX1_ways_0 14 rfl rfl)
theorem dX1_ways_15 : decode cX1_ways 15 = .ok (.iload_n 3, 1) := dk_29 (dk_at dksX1_ways_0 15 rfl rfl)
theorem dX1_ways_16 : decode cX1_ways 16 = .ok (.iload_n 1, 1) := dk_27 (dk_at dksX1_ways_0 16 rfl rfl)
theorem dX1_ways_17 : decode cX1_ways 17 = .ok (.if_icmp .ne 7, 3) := dk_160 0 7 (dk_at dksX1_ways_0 17 rfl rfl)
theorem dX1_ways_20 : decode cX1_ways 20 = .ok (.iconst 0, 1) := dk_3 (dk_at dksX1_ways_0 20 rfl rfl)
theorem dX1_ways_21 : decode cX1_ways 21 = .ok (.goto 4, 3) := dk_167 0 4 (dk_at dksX1_ways_0 21 rfl rfl)
theorem dX1_ways_24 : decode cX1_ways 24 = .ok (.iconst (-1), 1) := dk_2 (dk_at dksX1_ways_1 0 rfl rfl)
theorem dX1_ways_25 : decode cX1_ways 25 = .ok (.iastore, 1) := dk_79 (dk_at dksX1_ways_1 1 rfl rfl)
theorem dX1_ways_26 : decode cX1_ways 26 = .ok (.iinc 3 1, 3) := dk_132 3 1 (dk_at dksX1_ways_1 2 rfl rfl)
theorem dX1_ways_29 : decode cX1_ways 29 = .ok (.goto (-22), 3) := dk_167 255 234 (dk_at dksX1_ways_1 5 rfl rfl)
theorem dX1_ways_32 : decode cX1_ways 32 = .ok (.iconst 0, 1) := dk_3 (dk_at dksX1_ways_1 8 rfl rfl)
theorem dX1_ways_33 : decode cX1_ways 33 = .ok (.istore_n 3, 1) := dk_62 (dk_at dksX1_ways_1 9 rfl rfl)
theorem dX1_ways_34 : decode cX1_ways 34 = .ok (.iload_n 3, 1) := dk_29 (dk_at dksX1_ways_1 10 rfl rfl)
theorem dX1_ways_35 : decode cX1_ways 35 = .ok (.bipush 72, 2) := dk_16 72 (dk_at dksX1_ways_1 11 rfl rfl)
theorem dX1_ways_37 : decode cX1_ways 37 = .ok (.if_icmp .ge 95, 3) := dk_162 0 95 (dk_at dksX1_ways_1 13 rfl rfl)
theorem dX1_ways_40 : decode cX1_ways 40 = .ok (.iconst 0, 1) := dk_3 (dk_at dksX1_ways_1 16 rfl rfl)
theorem dX1_ways_41 : decode cX1_ways 41 = .ok (.istore 4, 2) := dk_54 4 (dk_at dksX1_ways_1 17 rfl rfl)
theorem dX1_ways_43 : decode cX1_ways 43 = .ok (.iload 4, 2) := dk_21 4 (dk_at dksX1_ways_1 19 rfl rfl)
theorem dX1_ways_45 : decode cX1_ways 45 = .ok (.aload_n 0, 1) := dk_42 (dk_at dksX1_ways_1 21 rfl rfl)
theorem dX1_ways_46 : decode cX1_ways 46 = .ok (.getfield 16, 3) := dk_180 0 16 (dk_at dksX1_ways_2 0 rfl rfl)
theorem dX1_ways_49 : decode cX1_ways 49 = .ok (.invokeinterface 65 1, 5) := by decide +kernel
theorem dX1_ways_54 : decode cX1_ways 54 = .ok (.if_icmp .ge 72, 3) := dk_162 0 72 (dk_at dksX1_ways_2 8 rfl rfl)
theorem dX1_ways_57 : decode cX1_ways 57 = .ok (.aload_n 0, 1) := dk_42 (dk_at dksX1_ways_2 11 rfl rfl)
theorem dX1_ways_58 : decode cX1_ways 58 = .ok (.getfield 16, 3) := dk_180 0 16 (dk_at dksX1_ways_2 12 rfl rfl)
theorem dX1_ways_61 : decode cX1_ways 61 = .ok (.iload 4, 2) := dk_21 4 (dk_at dksX1_ways_2 15 rfl rfl)
theorem dX1_ways_63 : decode cX1_ways 63 = .ok (.invokeinterface 61 2, 5) := by decide +kernel
theorem dX1_ways_68 : decode cX1_ways 68 = .ok (.checkcast 69, 3) := dk_192 0 69 (dk_at dksX1_ways_3 0 rfl rfl)
theorem dX1_ways_71 : decode cX1_ways 71 = .ok (.astore 5, 2) := dk_58 5 (dk_at dksX1_ways_3 3 rfl rfl)
theorem dX1_ways_73 : decode cX1_ways 73 = .ok (.aload 5, 2) := dk_25 5 (dk_at dksX1_ways_3 5 rfl rfl)
theorem dX1_ways_75 : decode cX1_ways 75 = .ok (.aload_n 0, 1) := dk_42 (dk_at dksX1_ways_3 7 rfl rfl)
theorem dX1_ways_76 : decode cX1_ways 76 = .ok (.getfield 316, 3) := dk_180 1 60 (dk_at dksX1_ways_3 8 rfl rfl)
theorem dX1_ways_79 : decode cX1_ways 79 = .ok (.iload_n 3, 1) := dk_29 (dk_at dksX1_ways_3 11 rfl rfl)
theorem dX1_ways_80 : decode cX1_ways 80 = .ok (.iadd, 1) := dk_96 (dk_at dksX1_ways_3 12 rfl rfl)
theorem dX1_ways_81 : decode cX1_ways 81 = .ok (.bipush 24, 2) := dk_16 24 (dk_at dksX1_ways_3 13 rfl rfl)
theorem dX1_ways_83 : decode cX1_ways 83 = .ok (.irem, 1) := dk_112 (dk_at dksX1_ways_3 15 rfl rfl)
theorem dX1_ways_84 : decode cX1_ways 84 = .ok (.invokevirtual 319, 3) := dk_182 1 63 (dk_at dksX1_ways_3 16 rfl rfl)
theorem dX1_ways_87 : decode cX1_ways 87 = .ok (.ifCond .eq 33, 3) := dk_153 0 33 (dk_at dksX1_ways_3 19 rfl rfl)
theorem dX1_ways_90 : decode cX1_ways 90 = .ok (.aload_n 2, 1) := dk_44 (dk_at dksX1_ways_3 22 rfl rfl)
theorem dX1_ways_91 : decode cX1_ways 91 = .ok (.aload 5, 2) := dk_25 5 (dk_at dksX1_ways_4 0 rfl rfl)
theorem dX1_ways_93 : decode cX1_ways 93 = .ok (.getfield 371, 3) := dk_180 1 115 (dk_at dksX1_ways_4 2 rfl rfl)
theorem dX1_ways_96 : decode cX1_ways 96 = .ok (.aload 5, 2) := dk_25 5 (dk_at dksX1_ways_4 5 rfl rfl)
theorem dX1_ways_98 : decode cX1_ways 98 = .ok (.getfield 374, 3) := dk_180 1 118 (dk_at dksX1_ways_4 7 rfl rfl)
theorem dX1_ways_101 : decode cX1_ways 101 = .ok (.iload_n 3, 1) := dk_29 (dk_at dksX1_ways_4 10 rfl rfl)
theorem dX1_ways_102 : decode cX1_ways 102 = .ok (.invokestatic 377, 3) := dk_184 1 121 (dk_at dksX1_ways_4 11 rfl rfl)
theorem dX1_ways_105 : decode cX1_ways 105 = .ok (.aload_n 2, 1) := dk_44 (dk_at dksX1_ways_4 14 rfl rfl)
theorem dX1_ways_106 : decode cX1_ways 106 = .ok (.aload 5, 2) := dk_25 5 (dk_at dksX1_ways_4 15 rfl rfl)
theorem dX1_ways_108 : decode cX1_ways 108 = .ok (.getfield 374, 3) := dk_180 1 118 (dk_at dksX1_ways_4 17 rfl rfl)
theorem dX1_ways_111 : decode cX1_ways 111 = .ok (.aload 5, 2) := dk_25 5 (dk_at dksX1_ways_4 20 rfl rfl)
theorem dX1_ways_113 : decode cX1_ways 113 = .ok (.getfield 371, 3) := dk_180 1 115 (dk_at dksX1_ways_5 0 rfl rfl)
theorem dX1_ways_116 : decode cX1_ways 116 = .ok (.iload_n 3, 1) := dk_29 (dk_at dksX1_ways_5 3 rfl rfl)
theorem dX1_ways_117 : decode cX1_ways 117 = .ok (.invokestatic 377, 3) := dk_184 1 121 (dk_at dksX1_ways_5 4 rfl rfl)
theorem dX1_ways_120 : decode cX1_ways 120 = .ok (.iinc 4 1, 3) := dk_132 4 1 (dk_at dksX1_ways_5 7 rfl rfl)
theorem dX1_ways_123 : decode cX1_ways 123 = .ok (.goto (-80), 3) := dk_167 255 176 (dk_at dksX1_ways_5 10 rfl rfl)
theorem dX1_ways_126 : decode cX1_ways 126 = .ok (.iinc 3 1, 3) := dk_132 3 1 (dk_at dksX1_ways_5 13 rfl rfl)
theorem dX1_ways_129 : decode cX1_ways 129 = .ok (.goto (-95), 3) := dk_167 255 161 (dk_at dksX1_ways_5 16 rfl rfl)
theorem dX1_ways_132 : decode cX1_ways 132 = .ok (.aload_n 2, 1) := dk_44 (dk_at dksX1_ways_5 19 rfl rfl)
theorem dX1_ways_133 : decode cX1_ways 133 = .ok (.areturn, 1) := dk_176 (dk_at dksX1_ways_5 20 rfl rfl)
abbrev cX1_go : ByteArray := prog_1_method_45_code
def yX1_go : MethodName := ⟨RX1, "go", "([IIII)V"⟩
def dkwX1_go_1 : List UInt8 := [4, 96, 79, 177]
abbrev dktX1_go_1 : List UInt8 := dkwX1_go_1 ++ []
def dkwX1_go_0 : List UInt8 := [42, 27, 46, 2, 159, 0, 23, 42, 27, 46, 29, 163, 0, 16, 42, 28, 46, 2, 160, 0, 9, 42, 28, 29]
abbrev dktX1_go_0 : List UInt8 := dkwX1_go_0 ++ dktX1_go_1
theorem dksX1_go_0 : cX1_go.data.toList.drop 0 = dktX1_go_0 := by decide +kernel
theorem dksX1_go_1 : cX1_go.data.toList.drop 24 = dktX1_go_1 := dk_seg dksX1_go_0 24 rfl rfl
theorem dX1_go_0 : decode cX1_go 0 = .ok (.aload_n 0, 1) := dk_42 (dk_at dksX1_go_0 0 rfl rfl)
theorem dX1_go_1 : decode cX1_go 1 = .ok (.iload_n 1, 1) := dk_27 (dk_at dksX1_go_0 1 rfl rfl)
theorem dX1_go_2 : decode cX1_go 2 = .ok (.iaload, 1) := dk_46 (dk_at dksX1_go_0 2 rfl rfl)
theorem dX1_go_3 : decode cX1_go 3 = .ok (.iconst (-1), 1) := dk_2 (dk_at dksX1_go_0 3 rfl rfl)
theorem dX1_go_4 : decode cX1_go 4 = .ok (.if_icmp .eq 23, 3) := dk_159 0 23 (dk_at dksX1_go_0 4 rfl rfl)
theorem dX1_go_7 : decode cX1_go 7 = .ok (.aload_n 0, 1) := dk_42 (dk_at dksX1_go_0 7 rfl rfl)
theorem dX1_go_8 : decode cX1_go 8 = .ok (.iload_n 1, 1) := dk_27 (dk_at dksX1_go_0 8 rfl rfl)
theorem dX1_go_9 : decode cX1_go 9 = .ok (.iaload, 1) := dk_46 (dk_at dksX1_go_0 9 rfl rfl)
theorem dX1_go_10 : decode cX1_go 10 = .ok (.iload_n 3, 1) := dk_29 (dk_at dksX1_go_0 10 rfl rfl)
theorem dX1_go_11 : decode cX1_go 11 = .ok (.if_icmp .gt 16, 3) := dk_163 0 16 (dk_at dksX1_go_0 11 rfl rfl)
theorem dX1_go_14 : decode cX1_go 14 = .ok (.aload_n 0, 1) := dk_42 (dk_at dksX1_go_0 14 rfl rfl)
theorem dX1_go_15 : decode cX1_go 15 = .ok (.iload_n 2, 1) := dk_28 (dk_at dksX1_go_0 15 rfl rfl)
theorem dX1_go_16 : decode cX1_go 16 = .ok (.iaload, 1) := dk_46 (dk_at dksX1_go_0 16 rfl rfl)
theorem dX1_go_17 : decode cX1_go 17 = .ok (.iconst (-1), 1) := dk_2 (dk_at dksX1_go_0 17 rfl rfl)
theorem dX1_go_18 : decode cX1_go 18 = .ok (.if_icmp .ne 9, 3) := dk_160 0 9 (dk_at dksX1_go_0 18 rfl rfl)
theorem dX1_go_21 : decode cX1_go 21 = .ok (.aload_n 0, 1) := dk_42 (dk_at dksX1_go_0 21 rfl rfl)
theorem dX1_go_22 : decode cX1_go 22 = .ok (.iload_n 2, 1) := dk_28 (dk_at dksX1_go_0 22 rfl rfl)
theorem dX1_go_23 : decode cX1_go 23 = .ok (.iload_n 3, 1) := dk_29 (dk_at dksX1_go_0 23 rfl rfl)
theorem dX1_go_24 : decode cX1_go 24 = .ok (.iconst 1, 1) := dk_4 (dk_at dksX1_go_1 0 rfl rfl)
theorem dX1_go_25 : decode cX1_go 25 = .ok (.iadd, 1) := dk_96 (dk_at dksX1_go_1 1 rfl rfl)
theorem dX1_go_26 : decode cX1_go 26 = .ok (.iastore, 1) := dk_79 (dk_at dksX1_go_1 2 rfl rfl)
theorem dX1_go_27 : decode cX1_go 27 = .ok (.return_, 1) := dk_177 (dk_at dksX1_go_1 3 rfl rfl)
abbrev cX1_planNow : ByteArray := prog_1_method_52_code
def yX1_planNow : MethodName := ⟨RX1, "planNow", "(II)I"⟩
def dkwX1_planNow_1 : List UInt8 := [160, 0, 8, 21, 4, 167, 0, 10, 42, 45, 27, 28, 182, 1, 149, 172]
abbrev dktX1_planNow_1 : List UInt8 := dkwX1_planNow_1 ++ []
def dkwX1_planNow_0 : List UInt8 := [42, 182, 1, 145, 78, 45, 3, 50, 27, 184, 1, 137, 54, 4, 21, 4, 2, 159, 0, 8, 28, 2]
abbrev dktX1_planNow_0 : List UInt8 := dkwX1_planNow_0 ++ dktX1_planNow_1
theorem dksX1_planNow_0 : cX1_planNow.data.toList.drop 0 = dktX1_planNow_0 := by decide +kernel
theorem dksX1_planNow_1 : cX1_planNow.data.toList.drop 22 = dktX1_planNow_1 := dk_seg dksX1_planNow_0 22 rfl rfl
theorem dX1_planNow_0 : decode cX1_planNow 0 = .ok (.aload_n 0, 1) := dk_42 (dk_at dksX1_planNow_0 0 rfl rfl)
theorem dX1_planNow_1 : decode cX1_planNow 1 = .ok (.invokevirtual 401, 3) := dk_182 1 145 (dk_at dksX1_planNow_0 1 rfl rfl)
theorem dX1_planNow_4 : decode cX1_planNow 4 = .ok (.astore_n 3, 1) := dk_78 (dk_at dksX1_planNow_0 4 rfl rfl)
theorem dX1_planNow_5 : decode cX1_planNow 5 = .ok (.aload_n 3, 1) := dk_45 (dk_at dksX1_planNow_0 5 rfl rfl)
theorem dX1_planNow_6 : decode cX1_planNow 6 = .ok (.iconst 0, 1) := dk_3 (dk_at dksX1_planNow_0 6 rfl rfl)
theorem dX1_planNow_7 : decode cX1_planNow 7 = .ok (.aaload, 1) := dk_50 (dk_at dksX1_planNow_0 7 rfl rfl)
theorem dX1_planNow_8 : decode cX1_planNow 8 = .ok (.iload_n 1, 1) := dk_27 (dk_at dksX1_planNow_0 8 rfl rfl)
theorem dX1_planNow_9 : decode cX1_planNow 9 = .ok (.invokestatic 393, 3) := dk_184 1 137 (dk_at dksX1_planNow_0 9 rfl rfl)
theorem dX1_planNow_12 : decode cX1_planNow 12 = .ok (.istore 4, 2) := dk_54 4 (dk_at dksX1_planNow_0 12 rfl rfl)
theorem dX1_planNow_14 : decode cX1_planNow 14 = .ok (.iload 4, 2) := dk_21 4 (dk_at dksX1_planNow_0 14 rfl rfl)
theorem dX1_planNow_16 : decode cX1_planNow 16 = .ok (.iconst (-1), 1) := dk_2 (dk_at dksX1_planNow_0 16 rfl rfl)
theorem dX1_planNow_17 : decode cX1_planNow 17 = .ok (.if_icmp .eq 8, 3) := dk_159 0 8 (dk_at dksX1_planNow_0 17 rfl rfl)
theorem dX1_planNow_20 : decode cX1_planNow 20 = .ok (.iload_n 2, 1) := dk_28 (dk_at dksX1_planNow_0 20 rfl rfl)
theorem dX1_planNow_21 : decode cX1_planNow 21 = .ok (.iconst (-1), 1) := dk_2 (dk_at dksX1_planNow_0 21 rfl rfl)
theorem dX1_planNow_22 : decode cX1_planNow 22 = .ok (.if_icmp .ne 8, 3) := dk_160 0 8 (dk_at dksX1_planNow_1 0 rfl rfl)
theorem dX1_planNow_25 : decode cX1_planNow 25 = .ok (.iload 4, 2) := dk_21 4 (dk_at dksX1_planNow_1 3 rfl rfl)
theorem dX1_planNow_27 : decode cX1_planNow 27 = .ok (.goto 10, 3) := dk_167 0 10 (dk_at dksX1_planNow_1 5 rfl rfl)
theorem dX1_planNow_30 : decode cX1_planNow 30 = .ok (.aload_n 0, 1) := dk_42 (dk_at dksX1_planNow_1 8 rfl rfl)
theorem dX1_planNow_31 : decode cX1_planNow 31 = .ok (.aload_n 3, 1) := dk_45 (dk_at dksX1_planNow_1 9 rfl rfl)
theorem dX1_planNow_32 : decode cX1_planNow 32 = .ok (.iload_n 1, 1) := dk_27 (dk_at dksX1_planNow_1 10 rfl rfl)
theorem dX1_planNow_33 : decode cX1_planNow 33 = .ok (.iload_n 2, 1) := dk_28 (dk_at dksX1_planNow_1 11 rfl rfl)
theorem dX1_planNow_34 : decode cX1_planNow 34 = .ok (.invokevirtual 405, 3) := dk_182 1 149 (dk_at dksX1_planNow_1 12 rfl rfl)
theorem dX1_planNow_37 : decode cX1_planNow 37 = .ok (.ireturn, 1) := dk_172 (dk_at dksX1_planNow_1 15 rfl rfl)
abbrev cX1_catches : ByteArray := prog_1_method_48_code
def yX1_catches : MethodName := ⟨RX1, "catches", "()[[I"⟩
def dkwX1_catches_6 : List UInt8 := [167, 255, 157, 44, 176]
abbrev dktX1_catches_6 : List UInt8 := dkwX1_catches_6 ++ []
def dkwX1_catches_5 : List UInt8 := [21, 6, 100, 46, 96, 184, 1, 134, 79, 132, 6, 1, 167, 255, 204, 132, 5, 1, 167, 255, 189, 132, 3, 255]
abbrev dktX1_catches_5 : List UInt8 := dkwX1_catches_5 ++ dktX1_catches_6
def dkwX1_catches_4 : List UInt8 := [21, 5, 44, 29, 50, 21, 5, 46, 21, 4, 21, 6, 104, 16, 10, 108, 44, 29, 4, 96, 50, 21, 5]
abbrev dktX1_catches_4 : List UInt8 := dkwX1_catches_4 ++ dktX1_catches_5
def dkwX1_catches_3 : List UInt8 := [27, 163, 0, 67, 3, 54, 6, 21, 6, 16, 10, 163, 0, 51, 21, 6, 21, 5, 163, 0, 44, 44, 29, 50]
abbrev dktX1_catches_3 : List UInt8 := dkwX1_catches_3 ++ dktX1_catches_4
def dkwX1_catches_2 : List UInt8 := [42, 42, 180, 0, 16, 29, 185, 0, 61, 2, 0, 192, 0, 69, 182, 1, 130, 54, 4, 3, 54, 5, 21, 5]
abbrev dktX1_catches_2 : List UInt8 := dkwX1_catches_2 ++ dktX1_catches_3
def dkwX1_catches_1 : List UInt8 := [27, 4, 96, 197, 1, 128, 2, 77, 42, 180, 0, 16, 185, 0, 65, 1, 0, 4, 100, 62, 29, 155, 0, 101]
abbrev dktX1_catches_1 : List UInt8 := dkwX1_catches_1 ++ dktX1_catches_2
def dkwX1_catches_0 : List UInt8 := [16, 10, 42, 180, 0, 16, 185, 0, 65, 1, 0, 104, 60, 42, 180, 0, 16, 185, 0, 65, 1, 0, 4, 96]
abbrev dktX1_catches_0 : List UInt8 := dkwX1_catches_0 ++ dktX1_catches_1
theorem dksX1_catches_0 : cX1_catches.data.toList.drop 0 = dktX1_catches_0 := by decide +kernel
theorem dksX1_catches_1 : cX1_catches.data.toList.drop 24 = dktX1_catches_1 := dk_seg dksX1_catches_0 24 rfl rfl
theorem dksX1_catches_2 : cX1_catches.data.toList.drop 48 = dktX1_catches_2 := dk_seg dksX1_catches_1 24 rfl rfl
theorem dksX1_catches_3 : cX1_catches.data.toList.drop 72 = dktX1_catches_3 := dk_seg dksX1_catches_2 24 rfl rfl
theorem dksX1_catches_4 : cX1_catches.data.toList.drop 96 = dktX1_catches_4 := dk_seg dksX1_catches_3 24 rfl rfl
theorem dksX1_catches_5 : cX1_catches.data.toList.drop 119 = dktX1_catches_5 := dk_seg dksX1_catches_4 23 rfl rfl
theorem dksX1_catches_6 : cX1_catches.data.toList.drop 143 = dktX1_catches_6 := dk_seg dksX1_catches_5 24 rfl rfl
theorem dX1_catches_0 : decode cX1_catches 0 = .ok (.bipush 10, 2) := dk_16 10 (dk_at dksX1_catches_0 0 rfl rfl)
theorem dX1_catches_2 : decode cX1_catches 2 = .ok (.aload_n 0, 1) := dk_42 (dk_at dksX1_catches_0 2 rfl rfl)
theorem dX1_catches_3 : decode cX1_catches 3 = .ok (.getfield 16, 3) := dk_180 0 16 (dk_at dksX1_catches_0 3 rfl rfl)
theorem dX1_catches_6 : decode cX1_catches 6 = .ok (.invokeinterface 65 1, 5) := by decide +kernel
theorem dX1_catches_11 : decode cX1_catches 11 = .ok (.imul, 1) := dk_104 (dk_at dksX1_catches_0 11 rfl rfl)
theorem dX1_catches_12 : decode cX1_catches 12 = .ok (.istore_n 1, 1) := dk_60 (dk_at dksX1_catches_0 12 rfl rfl)
theorem dX1_catches_13 : decode cX1_catches 13 = .ok (.aload_n 0, 1) := dk_42 (dk_at dksX1_catches_0 13 rfl rfl)
theorem dX1_catches_14 : decode cX1_catches 14 = .ok (.getfield 16, 3) := dk_180 0 16 (dk_at dksX1_catches_0 14 rfl rfl)
theorem dX1_catches_17 : decode cX1_catches 17 = .ok (.invokeinterface 65 1, 5) := by decide +kernel
theorem dX1_catches_22 : decode cX1_catches 22 = .ok (.iconst 1, 1) := dk_4 (dk_at dksX1_catches_0 22 rfl rfl)
theorem dX1_catches_23 : decode cX1_catches 23 = .ok (.iadd, 1) := dk_96 (dk_at dksX1_catches_0 23 rfl rfl)
theorem dX1_catches_24 : decode cX1_catches 24 = .ok (.iload_n 1, 1) := dk_27 (dk_at dksX1_catches_1 0 rfl rfl)
theorem dX1_catches_25 : decode cX1_catches 25 = .ok (.iconst 1, 1) := dk_4 (dk_at dksX1_catches_1 1 rfl rfl)
theorem dX1_catches_26 : decode cX1_catches 26 = .ok (.iadd, 1) := dk_96 (dk_at dksX1_catches_1 2 rfl rfl)
theorem dX1_catches_27 : decode cX1_catches 27 = .ok (.multianewarray 384 2, 4) := by decide +kernel
theorem dX1_catches_31 : decode cX1_catches 31 = .ok (.astore_n 2, 1) := dk_77 (dk_at dksX1_catches_1 7 rfl rfl)
theorem dX1_catches_32 : decode cX1_catches 32 = .ok (.aload_n 0, 1) := dk_42 (dk_at dksX1_catches_1 8 rfl rfl)
theorem dX1_catches_33 : decode cX1_catches 33 = .ok (.getfield 16, 3) := dk_180 0 16 (dk_at dksX1_catches_1 9 rfl rfl)
theorem dX1_catches_36 : decode cX1_catches 36 = .ok (.invokeinterface 65 1, 5) := by decide +kernel
theorem dX1_catches_41 : decode cX1_catches 41 = .ok (.iconst 1, 1) := dk_4 (dk_at dksX1_catches_1 17 rfl rfl)
theorem dX1_catches_42 : decode cX1_catches 42 = .ok (.isub, 1) := dk_100 (dk_at dksX1_catches_1 18 rfl rfl)
theorem dX1_catches_43 : decode cX1_catches 43 = .ok (.istore_n 3, 1) := dk_62 (dk_at dksX1_catches_1 19 rfl rfl)
theorem dX1_catches_44 : decode cX1_catches 44 = .ok (.iload_n 3, 1) := dk_29 (dk_at dksX1_catches_1 20 rfl rfl)
theorem dX1_catches_45 : decode cX1_catches 45 = .ok (.ifCond .lt 101, 3) := dk_155 0 101 (dk_at dksX1_catches_1 21 rfl rfl)
theorem dX1_catches_48 : decode cX1_catches 48 = .ok (.aload_n 0, 1) := dk_42 (dk_at dksX1_catches_2 0 rfl rfl)
theorem dX1_catches_49 : decode cX1_catches 49 = .ok (.aload_n 0, 1) := dk_42 (dk_at dksX1_catches_2 1 rfl rfl)
theorem dX1_catches_50 : decode cX1_catches 50 = .ok (.getfield 16, 3) := dk_180 0 16 (dk_at dksX1_catches_2 2 rfl rfl)
theorem dX1_catches_53 : decode cX1_catches 53 = .ok (.iload_n 3, 1) := dk_29 (dk_at dksX1_catches_2 5 rfl rfl)
theorem dX1_catches_54 : decode cX1_catches 54 = .ok (.invokeinterface 61 2, 5) := by decide +kernel
theorem dX1_catches_59 : decode cX1_catches 59 = .ok (.checkcast 69, 3) := dk_192 0 69 (dk_at dksX1_catches_2 11 rfl rfl)
theorem dX1_catches_62 : decode cX1_catches 62 = .ok (.invokevirtual 386, 3) := dk_182 1 130 (dk_at dksX1_catches_2 14 rfl rfl)
theorem dX1_catches_65 : decode cX1_catches 65 = .ok (.istore 4, 2) := dk_54 4 (dk_at dksX1_catches_2 17 rfl rfl)
theorem dX1_catches_67 : decode cX1_catches 67 = .ok (.iconst 0, 1) := dk_3 (dk_at dksX1_catches_2 19 rfl rfl)
theorem dX1_catches_68 : decode cX1_catches 68 = .ok (.istore 5, 2) := dk_54 5 (dk_at dksX1_catches_2 20 rfl rfl)
theorem dX1_catches_70 : decode cX1_catches 70 = .ok (.iload 5, 2) := dk_21 5 (dk_at dksX1_catches_2 22 rfl rfl)
theorem dX1_catches_72 : decode cX1_catches 72 = .ok (.iload_n 1, 1) := dk_27 (dk_at dksX1_catches_3 0 rfl rfl)
theorem dX1_catches_73 : decode cX1_catches 73 = .ok (.if_icmp .gt 67, 3) := dk_163 0 67 (dk_at dksX1_catches_3 1 rfl rfl)
theorem dX1_catches_76 : decode cX1_catches 76 = .ok (.iconst 0, 1) := dk_3 (dk_at dksX1_catches_3 4 rfl rfl)
theorem dX1_catches_77 : decode cX1_catches 77 = .ok (.istore 6, 2) := dk_54 6 (dk_at dksX1_catches_3 5 rfl rfl)
theorem dX1_catches_79 : decode cX1_catches 79 = .ok (.iload 6, 2) := dk_21 6 (dk_at dksX1_catches_3 7 rfl rfl)
theorem dX1_catches_81 : decode cX1_catches 81 = .ok (.bipush 10, 2) := dk_16 10 (dk_at dksX1_catches_3 9 rfl rfl)
theorem dX1_catches_83 : decode cX1_catches 83 = .ok (.if_icmp .gt 51, 3) := dk_163 0 51 (dk_at dksX1_catches_3 11 rfl rfl)
theorem dX1_catches_86 : decode cX1_catches 86 = .ok (.iload 6, 2) := dk_21 6 (dk_at dksX1_catches_3 14 rfl rfl)
theorem dX1_catches_88 : decode cX1_catches 88 = .ok (.iload 5, 2) := dk_21 5 (dk_at dksX1_catches_3 16 rfl rfl)
theorem dX1_catches_90 : decode cX1_catches 90 = .ok (.if_icmp .gt 44, 3) := dk_163 0 44 (dk_at dksX1_catches_3 18 rfl rfl)
theorem dX1_catches_93 : decode cX1_catches 93 = .ok (.aload_n 2, 1) := dk_44 (dk_at dksX1_catches_3 21 rfl rfl)
theorem dX1_catches_94 : decode cX1_catches 94 = .ok (.iload_n 3, 1) := dk_29 (dk_at dksX1_catches_3 22 rfl rfl)
theorem dX1_catches_95 : decode cX1_catches 95 = .ok (.aaload, 1) := dk_50 (dk_at dksX1_catches_3 23 rfl rfl)
theorem dX1_catches_96 : decode cX1_catches 96 = .ok (.iload 5, 2) := dk_21 5 (dk_at dksX1_catches_4 0 rfl rfl)
theorem dX1_catches_98 : decode cX1_catches 98 = .ok (.aload_n 2, 1) := dk_44 (dk_at dksX1_catches_4 2 rfl rfl)
theorem dX1_catches_99 : decode cX1_catches 99 = .ok (.iload_n 3, 1) := dk_29 (dk_at dksX1_catches_4 3 rfl rfl)
theorem dX1_catches_100 : decode cX1_catches 100 = .ok (.aaload, 1) := dk_50 (dk_at dksX1_catches_4 4 rfl rfl)
theorem dX1_catches_101 : decode cX1_catches 101 = .ok (.iload 5, 2) := dk_21 5 (dk_at dksX1_catches_4 5 rfl rfl)
theorem dX1_catches_103 : decode cX1_catches 103 = .ok (.iaload, 1) := dk_46 (dk_at dksX1_catches_4 7 rfl rfl)
theorem dX1_catches_104 : decode cX1_catches 104 = .ok (.iload 4, 2) := dk_21 4 (dk_at dksX1_catches_4 8 rfl rfl)
theorem dX1_catches_106 : decode cX1_catches 106 = .ok (.iload 6, 2) := dk_21 6 (dk_at dksX1_catches_4 10 rfl rfl)
theorem dX1_catches_108 : decode cX1_catches 108 = .ok (.imul, 1) := dk_104 (dk_at dksX1_catches_4 12 rfl rfl)
theorem dX1_catches_109 : decode cX1_catches 109 = .ok (.bipush 10, 2) := dk_16 10 (dk_at dksX1_catches_4 13 rfl rfl)
theorem dX1_catches_111 : decode cX1_catches 111 = .ok (.idiv, 1) := dk_108 (dk_at dksX1_catches_4 15 rfl rfl)
theorem dX1_catches_112 : decode cX1_catches 112 = .ok (.aload_n 2, 1) := dk_44 (dk_at dksX1_catches_4 16 rfl rfl)
theorem dX1_catches_113 : decode cX1_catches 113 = .ok (.iload_n 3, 1) := dk_29 (dk_at dksX1_catches_4 17 rfl rfl)
theorem dX1_catches_114 : decode cX1_catches 114 = .ok (.iconst 1, 1) := dk_4 (dk_at dksX1_catches_4 18 rfl rfl)
theorem dX1_catches_115 : decode cX1_catches 115 = .ok (.iadd, 1) := dk_96 (dk_at dksX1_catches_4 19 rfl rfl)
theorem dX1_catches_116 : decode cX1_catches 116 = .ok (.aaload, 1) := dk_50 (dk_at dksX1_catches_4 20 rfl rfl)
theorem dX1_catches_117 : decode cX1_catches 117 = .ok (.iload 5, 2) := dk_21 5 (dk_at dksX1_catches_4 21 rfl rfl)
theorem dX1_catches_119 : decode cX1_catches 119 = .ok (.iload 6, 2) := dk_21 6 (dk_at dksX1_catches_5 0 rfl rfl)
theorem dX1_catches_121 : decode cX1_catches 121 = .ok (.isub, 1) := dk_100 (dk_at dksX1_catches_5 2 rfl rfl)
theorem dX1_catches_122 : decode cX1_catches 122 = .ok (.iaload, 1) := dk_46 (dk_at dksX1_catches_5 3 rfl rfl)
theorem dX1_catches_123 : decode cX1_catches 123 = .ok (.iadd, 1) := dk_96 (dk_at dksX1_catches_5 4 rfl rfl)
theorem dX1_catches_124 : decode cX1_catches 124 = .ok (.invokestatic 390, 3) := dk_184 1 134 (dk_at dksX1_catches_5 5 rfl rfl)
theorem dX1_catches_127 : decode cX1_catches 127 = .ok (.iastore, 1) := dk_79 (dk_at dksX1_catches_5 8 rfl rfl)
theorem dX1_catches_128 : decode cX1_catches 128 = .ok (.iinc 6 1, 3) := dk_132 6 1 (dk_at dksX1_catches_5 9 rfl rfl)
theorem dX1_catches_131 : decode cX1_catches 131 = .ok (.goto (-52), 3) := dk_167 255 204 (dk_at dksX1_catches_5 12 rfl rfl)
theorem dX1_catches_134 : decode cX1_catches 134 = .ok (.iinc 5 1, 3) := dk_132 5 1 (dk_at dksX1_catches_5 15 rfl rfl)
theorem dX1_catches_137 : decode cX1_catches 137 = .ok (.goto (-67), 3) := dk_167 255 189 (dk_at dksX1_catches_5 18 rfl rfl)
theorem dX1_catches_140 : decode cX1_catches 140 = .ok (.iinc 3 (-1), 3) := dk_132 3 255 (dk_at dksX1_catches_5 21 rfl rfl)
theorem dX1_catches_143 : decode cX1_catches 143 = .ok (.goto (-99), 3) := dk_167 255 157 (dk_at dksX1_catches_6 0 rfl rfl)
theorem dX1_catches_146 : decode cX1_catches 146 = .ok (.aload_n 2, 1) := dk_44 (dk_at dksX1_catches_6 3 rfl rfl)
theorem dX1_catches_147 : decode cX1_catches 147 = .ok (.areturn, 1) := dk_176 (dk_at dksX1_catches_6 4 rfl rfl)
abbrev cX1_leastSum : ByteArray := prog_1_method_49_code
def yX1_leastSum : MethodName := ⟨RX1, "leastSum", "([II)I"⟩
def dkwX1_leastSum_1 : List UInt8 := [172]
abbrev dktX1_leastSum_1 : List UInt8 := dkwX1_leastSum_1 ++ []
def dkwX1_leastSum_0 : List UInt8 := [3, 61, 28, 42, 190, 162, 0, 18, 42, 28, 46, 27, 161, 0, 5, 28, 172, 132, 2, 1, 167, 255, 238, 2]
abbrev dktX1_leastSum_0 : List UInt8 := dkwX1_leastSum_0 ++ dktX1_leastSum_1
theorem dksX1_leastSum_0 : cX1_leastSum.data.toList.drop 0 = dktX1_leastSum_0 := by decide +kernel
theorem dksX1_leastSum_1 : cX1_leastSum.data.toList.drop 24 = dktX1_leastSum_1 := dk_seg dksX1_leastSum_0 24 rfl rfl
theorem dX1_leastSum_0 : decode cX1_leastSum 0 = .ok (.iconst 0, 1) := dk_3 (dk_at dksX1_leastSum_0 0 rfl rfl)
theorem dX1_leastSum_1 : decode cX1_leastSum 1 = .ok (.istore_n 2, 1) := dk_61 (dk_at dksX1_leastSum_0 1 rfl rfl)
theorem dX1_leastSum_2 : decode cX1_leastSum 2 = .ok (.iload_n 2, 1) := dk_28 (dk_at dksX1_leastSum_0 2 rfl rfl)
theorem dX1_leastSum_3 : decode cX1_leastSum 3 = .ok (.aload_n 0, 1) := dk_42 (dk_at dksX1_leastSum_0 3 rfl rfl)
theorem dX1_leastSum_4 : decode cX1_leastSum 4 = .ok (.arraylength, 1) := dk_190 (dk_at dksX1_leastSum_0 4 rfl rfl)
theorem dX1_leastSum_5 : decode cX1_leastSum 5 = .ok (.if_icmp .ge 18, 3) := dk_162 0 18 (dk_at dksX1_leastSum_0 5 rfl rfl)
theorem dX1_leastSum_8 : decode cX1_leastSum 8 = .ok (.aload_n 0, 1) := dk_42 (dk_at dksX1_leastSum_0 8 rfl rfl)
theorem dX1_leastSum_9 : decode cX1_leastSum 9 = .ok (.iload_n 2, 1) := dk_28 (dk_at dksX1_leastSum_0 9 rfl rfl)
theorem dX1_leastSum_10 : decode cX1_leastSum 10 = .ok (.iaload, 1) := dk_46 (dk_at dksX1_leastSum_0 10 rfl rfl)
theorem dX1_leastSum_11 : decode cX1_leastSum 11 = .ok (.iload_n 1, 1) := dk_27 (dk_at dksX1_leastSum_0 11 rfl rfl)
theorem dX1_leastSum_12 : decode cX1_leastSum 12 = .ok (.if_icmp .lt 5, 3) := dk_161 0 5 (dk_at dksX1_leastSum_0 12 rfl rfl)
theorem dX1_leastSum_15 : decode cX1_leastSum 15 = .ok (.iload_n 2, 1) := dk_28 (dk_at dksX1_leastSum_0 15 rfl rfl)
theorem dX1_leastSum_16 : decode cX1_leastSum 16 = .ok (.ireturn, 1) := dk_172 (dk_at dksX1_leastSum_0 16 rfl rfl)
theorem dX1_leastSum_17 : decode cX1_leastSum 17 = .ok (.iinc 2 1, 3) := dk_132 2 1 (dk_at dksX1_leastSum_0 17 rfl rfl)
theorem dX1_leastSum_20 : decode cX1_leastSum 20 = .ok (.goto (-18), 3) := dk_167 255 238 (dk_at dksX1_leastSum_0 20 rfl rfl)
theorem dX1_leastSum_23 : decode cX1_leastSum 23 = .ok (.iconst (-1), 1) := dk_2 (dk_at dksX1_leastSum_0 23 rfl rfl)
theorem dX1_leastSum_24 : decode cX1_leastSum 24 = .ok (.ireturn, 1) := dk_172 (dk_at dksX1_leastSum_1 0 rfl rfl)
abbrev cX1_planned : ByteArray := prog_1_method_50_code
def yX1_planned : MethodName := ⟨RX1, "planned", "([[III)I"⟩
def dkwX1_planned_3 : List UInt8 := [54, 5, 132, 6, 1, 167, 255, 198, 42, 43, 29, 21, 4, 21, 5, 182, 1, 141, 172]
abbrev dktX1_planned_3 : List UInt8 := dkwX1_planned_3 ++ []
def dkwX1_planned_2 : List UInt8 := [180, 0, 16, 21, 6, 185, 0, 61, 2, 0, 192, 0, 69, 182, 1, 130, 21, 7, 104, 16, 10, 108, 100]
abbrev dktX1_planned_2 : List UInt8 := dkwX1_planned_2 ++ dktX1_planned_3
def dkwX1_planned_1 : List UInt8 := [21, 6, 21, 4, 21, 5, 182, 1, 141, 54, 7, 21, 4, 21, 7, 100, 54, 4, 21, 5, 42, 42]
abbrev dktX1_planned_1 : List UInt8 := dkwX1_planned_1 ++ dktX1_planned_2
def dkwX1_planned_0 : List UInt8 := [43, 3, 50, 28, 184, 1, 137, 54, 4, 28, 54, 5, 3, 54, 6, 21, 6, 29, 162, 0, 58, 42, 43]
abbrev dktX1_planned_0 : List UInt8 := dkwX1_planned_0 ++ dktX1_planned_1
theorem dksX1_planned_0 : cX1_planned.data.toList.drop 0 = dktX1_planned_0 := by decide +kernel
theorem dksX1_planned_1 : cX1_planned.data.toList.drop 23 = dktX1_planned_1 := dk_seg dksX1_planned_0 23 rfl rfl
theorem dksX1_planned_2 : cX1_planned.data.toList.drop 45 = dktX1_planned_2 := dk_seg dksX1_planned_1 22 rfl rfl
theorem dksX1_planned_3 : cX1_planned.data.toList.drop 68 = dktX1_planned_3 := dk_seg dksX1_planned_2 23 rfl rfl
theorem dX1_planned_0 : decode cX1_planned 0 = .ok (.aload_n 1, 1) := dk_43 (dk_at dksX1_planned_0 0 rfl rfl)
theorem dX1_planned_1 : decode cX1_planned 1 = .ok (.iconst 0, 1) := dk_3 (dk_at dksX1_planned_0 1 rfl rfl)
theorem dX1_planned_2 : decode cX1_planned 2 = .ok (.aaload, 1) := dk_50 (dk_at dksX1_planned_0 2 rfl rfl)
theorem dX1_planned_3 : decode cX1_planned 3 = .ok (.iload_n 2, 1) := dk_28 (dk_at dksX1_planned_0 3 rfl rfl)
theorem dX1_planned_4 : decode cX1_planned 4 = .ok (.invokestatic 393, 3) := dk_184 1 137 (dk_at dksX1_planned_0 4 rfl rfl)
theorem dX1_planned_7 : decode cX1_planned 7 = .ok (.istore 4, 2) := dk_54 4 (dk_at dksX1_planned_0 7 rfl rfl)
theorem dX1_planned_9 : decode cX1_planned 9 = .ok (.iload_n 2, 1) := dk_28 (dk_at dksX1_planned_0 9 rfl rfl)
theorem dX1_planned_10 : decode cX1_planned 10 = .ok (.istore 5, 2) := dk_54 5 (dk_at dksX1_planned_0 10 rfl rfl)
theorem dX1_planned_12 : decode cX1_planned 12 = .ok (.iconst 0, 1) := dk_3 (dk_at dksX1_planned_0 12 rfl rfl)
theorem dX1_planned_13 : decode cX1_planned 13 = .ok (.istore 6, 2) := dk_54 6 (dk_at dksX1_planned_0 13 rfl rfl)
theorem dX1_planned_15 : decode cX1_planned 15 = .ok (.iload 6, 2) := dk_21 6 (dk_at dksX1_planned_0 15 rfl rfl)
theorem dX1_planned_17 : decode cX1_planned 17 = .ok (.iload_n 3, 1) := dk_29 (dk_at dksX1_planned_0 17 rfl rfl)
theorem dX1_planned_18 : decode cX1_planned 18 = .ok (.if_icmp .ge 58, 3) := dk_162 0 58 (dk_at dksX1_planned_0 18 rfl rfl)
theorem dX1_planned_21 : decode cX1_planned 21 = .ok (.aload_n 0, 1) := dk_42 (dk_at dksX1_planned_0 21 rfl rfl)
theorem dX1_planned_22 : decode cX1_planned 22 = .ok (.aload_n 1, 1) := dk_43 (dk_at dksX1_planned_0 22 rfl rfl)
theorem dX1_planned_23 : decode cX1_planned 23 = .ok (.iload 6, 2) := dk_21 6 (dk_at dksX1_planned_1 0 rfl rfl)
theorem dX1_planned_25 : decode cX1_planned 25 = .ok (.iload 4, 2) := dk_21 4 (dk_at dksX1_planned_1 2 rfl rfl)
theorem dX1_planned_27 : decode cX1_planned 27 = .ok (.iload 5, 2) := dk_21 5 (dk_at dksX1_planned_1 4 rfl rfl)
theorem dX1_planned_29 : decode cX1_planned 29 = .ok (.invokevirtual 397, 3) := dk_182 1 141 (dk_at dksX1_planned_1 6 rfl rfl)
theorem dX1_planned_32 : decode cX1_planned 32 = .ok (.istore 7, 2) := dk_54 7 (dk_at dksX1_planned_1 9 rfl rfl)
theorem dX1_planned_34 : decode cX1_planned 34 = .ok (.iload 4, 2) := dk_21 4 (dk_at dksX1_planned_1 11 rfl rfl)
theorem dX1_planned_36 : decode cX1_planned 36 = .ok (.iload 7, 2) := dk_21 7 (dk_at dksX1_planned_1 13 rfl rfl)
theorem dX1_planned_38 : decode cX1_planned 38 = .ok (.isub, 1) := dk_100 (dk_at dksX1_planned_1 15 rfl rfl)
theorem dX1_planned_39 : decode cX1_planned 39 = .ok (.istore 4, 2) := dk_54 4 (dk_at dksX1_planned_1 16 rfl rfl)
theorem dX1_planned_41 : decode cX1_planned 41 = .ok (.iload 5, 2) := dk_21 5 (dk_at dksX1_planned_1 18 rfl rfl)
theorem dX1_planned_43 : decode cX1_planned 43 = .ok (.aload_n 0, 1) := dk_42 (dk_at dksX1_planned_1 20 rfl rfl)
theorem dX1_planned_44 : decode cX1_planned 44 = .ok (.aload_n 0, 1) := dk_42 (dk_at dksX1_planned_1 21 rfl rfl)
theorem dX1_planned_45 : decode cX1_planned 45 = .ok (.getfield 16, 3) := dk_180 0 16 (dk_at dksX1_planned_2 0 rfl rfl)
theorem dX1_planned_48 : decode cX1_planned 48 = .ok (.iload 6, 2) := dk_21 6 (dk_at dksX1_planned_2 3 rfl rfl)
theorem dX1_planned_50 : decode cX1_planned 50 = .ok (.invokeinterface 61 2, 5) := by decide +kernel
theorem dX1_planned_55 : decode cX1_planned 55 = .ok (.checkcast 69, 3) := dk_192 0 69 (dk_at dksX1_planned_2 10 rfl rfl)
theorem dX1_planned_58 : decode cX1_planned 58 = .ok (.invokevirtual 386, 3) := dk_182 1 130 (dk_at dksX1_planned_2 13 rfl rfl)
theorem dX1_planned_61 : decode cX1_planned 61 = .ok (.iload 7, 2) := dk_21 7 (dk_at dksX1_planned_2 16 rfl rfl)
theorem dX1_planned_63 : decode cX1_planned 63 = .ok (.imul, 1) := dk_104 (dk_at dksX1_planned_2 18 rfl rfl)
theorem dX1_planned_64 : decode cX1_planned 64 = .ok (.bipush 10, 2) := dk_16 10 (dk_at dksX1_planned_2 19 rfl rfl)
theorem dX1_planned_66 : decode cX1_planned 66 = .ok (.idiv, 1) := dk_108 (dk_at dksX1_planned_2 21 rfl rfl)
theorem dX1_planned_67 : decode cX1_planned 67 = .ok (.isub, 1) := dk_100 (dk_at dksX1_planned_2 22 rfl rfl)
theorem dX1_planned_68 : decode cX1_planned 68 = .ok (.istore 5, 2) := dk_54 5 (dk_at dksX1_planned_3 0 rfl rfl)
theorem dX1_planned_70 : decode cX1_planned 70 = .ok (.iinc 6 1, 3) := dk_132 6 1 (dk_at dksX1_planned_3 2 rfl rfl)
theorem dX1_planned_73 : decode cX1_planned 73 = .ok (.goto (-58), 3) := dk_167 255 198 (dk_at dksX1_planned_3 5 rfl rfl)
theorem dX1_planned_76 : decode cX1_planned 76 = .ok (.aload_n 0, 1) := dk_42 (dk_at dksX1_planned_3 8 rfl rfl)
theorem dX1_planned_77 : decode cX1_planned 77 = .ok (.aload_n 1, 1) := dk_43 (dk_at dksX1_planned_3 9 rfl rfl)
theorem dX1_planned_78 : decode cX1_planned 78 = .ok (.iload_n 3, 1) := dk_29 (dk_at dksX1_planned_3 10 rfl rfl)
theorem dX1_planned_79 : decode cX1_planned 79 = .ok (.iload 4, 2) := dk_21 4 (dk_at dksX1_planned_3 11 rfl rfl)
theorem dX1_planned_81 : decode cX1_planned 81 = .ok (.iload 5, 2) := dk_21 5 (dk_at dksX1_planned_3 13 rfl rfl)
theorem dX1_planned_83 : decode cX1_planned 83 = .ok (.invokevirtual 397, 3) := dk_182 1 141 (dk_at dksX1_planned_3 15 rfl rfl)
theorem dX1_planned_86 : decode cX1_planned 86 = .ok (.ireturn, 1) := dk_172 (dk_at dksX1_planned_3 18 rfl rfl)
abbrev cX1_oddsOf : ByteArray := prog_1_method_51_code
def yX1_oddsOf : MethodName := ⟨RX1, "oddsOf", "([[IIII)I"⟩
def dkwX1_oddsOf_2 : List UInt8 := [132, 6, 1, 167, 255, 229, 21, 6, 172]
abbrev dktX1_oddsOf_2 : List UInt8 := dkwX1_oddsOf_2 ++ []
def dkwX1_oddsOf_1 : List UInt8 := [21, 6, 104, 16, 10, 108, 43, 28, 4, 96, 50, 29, 21, 6, 100, 46, 96, 21, 4, 162, 0, 9]
abbrev dktX1_oddsOf_1 : List UInt8 := dkwX1_oddsOf_1 ++ dktX1_oddsOf_2
def dkwX1_oddsOf_0 : List UInt8 := [42, 42, 180, 0, 16, 28, 185, 0, 61, 2, 0, 192, 0, 69, 182, 1, 130, 54, 5, 3, 54, 6, 21, 5]
abbrev dktX1_oddsOf_0 : List UInt8 := dkwX1_oddsOf_0 ++ dktX1_oddsOf_1
theorem dksX1_oddsOf_0 : cX1_oddsOf.data.toList.drop 0 = dktX1_oddsOf_0 := by decide +kernel
theorem dksX1_oddsOf_1 : cX1_oddsOf.data.toList.drop 24 = dktX1_oddsOf_1 := dk_seg dksX1_oddsOf_0 24 rfl rfl
theorem dksX1_oddsOf_2 : cX1_oddsOf.data.toList.drop 46 = dktX1_oddsOf_2 := dk_seg dksX1_oddsOf_1 22 rfl rfl
theorem dX1_oddsOf_0 : decode cX1_oddsOf 0 = .ok (.aload_n 0, 1) := dk_42 (dk_at dksX1_oddsOf_0 0 rfl rfl)
theorem dX1_oddsOf_1 : decode cX1_oddsOf 1 = .ok (.aload_n 0, 1) := dk_42 (dk_at dksX1_oddsOf_0 1 rfl rfl)
theorem dX1_oddsOf_2 : decode cX1_oddsOf 2 = .ok (.getfield 16, 3) := dk_180 0 16 (dk_at dksX1_oddsOf_0 2 rfl rfl)
theorem dX1_oddsOf_5 : decode cX1_oddsOf 5 = .ok (.iload_n 2, 1) := dk_28 (dk_at dksX1_oddsOf_0 5 rfl rfl)
theorem dX1_oddsOf_6 : decode cX1_oddsOf 6 = .ok (.invokeinterface 61 2, 5) := by decide +kernel
theorem dX1_oddsOf_11 : decode cX1_oddsOf 11 = .ok (.checkcast 69, 3) := dk_192 0 69 (dk_at dksX1_oddsOf_0 11 rfl rfl)
theorem dX1_oddsOf_14 : decode cX1_oddsOf 14 = .ok (.invokevirtual 386, 3) := dk_182 1 130 (dk_at dksX1_oddsOf_0 14 rfl rfl)
theorem dX1_oddsOf_17 : decode cX1_oddsOf 17 = .ok (.istore 5, 2) := dk_54 5 (dk_at dksX1_oddsOf_0 17 rfl rfl)
theorem dX1_oddsOf_19 : decode cX1_oddsOf 19 = .ok (.iconst 0, 1) := dk_3 (dk_at dksX1_oddsOf_0 19 rfl rfl)
theorem dX1_oddsOf_20 : decode cX1_oddsOf 20 = .ok (.istore 6, 2) := dk_54 6 (dk_at dksX1_oddsOf_0 20 rfl rfl)
theorem dX1_oddsOf_22 : decode cX1_oddsOf 22 = .ok (.iload 5, 2) := dk_21 5 (dk_at dksX1_oddsOf_0 22 rfl rfl)
theorem dX1_oddsOf_24 : decode cX1_oddsOf 24 = .ok (.iload 6, 2) := dk_21 6 (dk_at dksX1_oddsOf_1 0 rfl rfl)
theorem dX1_oddsOf_26 : decode cX1_oddsOf 26 = .ok (.imul, 1) := dk_104 (dk_at dksX1_oddsOf_1 2 rfl rfl)
theorem dX1_oddsOf_27 : decode cX1_oddsOf 27 = .ok (.bipush 10, 2) := dk_16 10 (dk_at dksX1_oddsOf_1 3 rfl rfl)
theorem dX1_oddsOf_29 : decode cX1_oddsOf 29 = .ok (.idiv, 1) := dk_108 (dk_at dksX1_oddsOf_1 5 rfl rfl)
theorem dX1_oddsOf_30 : decode cX1_oddsOf 30 = .ok (.aload_n 1, 1) := dk_43 (dk_at dksX1_oddsOf_1 6 rfl rfl)
theorem dX1_oddsOf_31 : decode cX1_oddsOf 31 = .ok (.iload_n 2, 1) := dk_28 (dk_at dksX1_oddsOf_1 7 rfl rfl)
theorem dX1_oddsOf_32 : decode cX1_oddsOf 32 = .ok (.iconst 1, 1) := dk_4 (dk_at dksX1_oddsOf_1 8 rfl rfl)
theorem dX1_oddsOf_33 : decode cX1_oddsOf 33 = .ok (.iadd, 1) := dk_96 (dk_at dksX1_oddsOf_1 9 rfl rfl)
theorem dX1_oddsOf_34 : decode cX1_oddsOf 34 = .ok (.aaload, 1) := dk_50 (dk_at dksX1_oddsOf_1 10 rfl rfl)
theorem dX1_oddsOf_35 : decode cX1_oddsOf 35 = .ok (.iload_n 3, 1) := dk_29 (dk_at dksX1_oddsOf_1 11 rfl rfl)
theorem dX1_oddsOf_36 : decode cX1_oddsOf 36 = .ok (.iload 6, 2) := dk_21 6 (dk_at dksX1_oddsOf_1 12 rfl rfl)
theorem dX1_oddsOf_38 : decode cX1_oddsOf 38 = .ok (.isub, 1) := dk_100 (dk_at dksX1_oddsOf_1 14 rfl rfl)
theorem dX1_oddsOf_39 : decode cX1_oddsOf 39 = .ok (.iaload, 1) := dk_46 (dk_at dksX1_oddsOf_1 15 rfl rfl)
theorem dX1_oddsOf_40 : decode cX1_oddsOf 40 = .ok (.iadd, 1) := dk_96 (dk_at dksX1_oddsOf_1 16 rfl rfl)
theorem dX1_oddsOf_41 : decode cX1_oddsOf 41 = .ok (.iload 4, 2) := dk_21 4 (dk_at dksX1_oddsOf_1 17 rfl rfl)
theorem dX1_oddsOf_43 : decode cX1_oddsOf 43 = .ok (.if_icmp .ge 9, 3) := dk_162 0 9 (dk_at dksX1_oddsOf_1 19 rfl rfl)
theorem dX1_oddsOf_46 : decode cX1_oddsOf 46 = .ok (.iinc 6 1, 3) := dk_132 6 1 (dk_at dksX1_oddsOf_2 0 rfl rfl)
theorem dX1_oddsOf_49 : decode cX1_oddsOf 49 = .ok (.goto (-27), 3) := dk_167 255 229 (dk_at dksX1_oddsOf_2 3 rfl rfl)
theorem dX1_oddsOf_52 : decode cX1_oddsOf 52 = .ok (.iload 6, 2) := dk_21 6 (dk_at dksX1_oddsOf_2 6 rfl rfl)
theorem dX1_oddsOf_54 : decode cX1_oddsOf 54 = .ok (.ireturn, 1) := dk_172 (dk_at dksX1_oddsOf_2 8 rfl rfl)
abbrev cX1_land : ByteArray := prog_1_method_11_code
def yX1_land : MethodName := ⟨RX1, "land", "(III)I"⟩
def dkwX1_land_1 : List UInt8 := [180, 0, 83, 54, 5, 25, 4, 28, 181, 0, 83, 25, 4, 29, 181, 0, 87, 21, 5, 172]
abbrev dktX1_land_1 : List UInt8 := dkwX1_land_1 ++ []
def dkwX1_land_0 : List UInt8 := [42, 27, 182, 0, 75, 58, 4, 28, 3, 16, 50, 184, 0, 79, 29, 3, 16, 99, 184, 0, 79, 25, 4]
abbrev dktX1_land_0 : List UInt8 := dkwX1_land_0 ++ dktX1_land_1
theorem dksX1_land_0 : cX1_land.data.toList.drop 0 = dktX1_land_0 := by decide +kernel
theorem dksX1_land_1 : cX1_land.data.toList.drop 23 = dktX1_land_1 := dk_seg dksX1_land_0 23 rfl rfl
theorem dX1_land_0 : decode cX1_land 0 = .ok (.aload_n 0, 1) := dk_42 (dk_at dksX1_land_0 0 rfl rfl)
theorem dX1_land_1 : decode cX1_land 1 = .ok (.iload_n 1, 1) := dk_27 (dk_at dksX1_land_0 1 rfl rfl)
theorem dX1_land_2 : decode cX1_land 2 = .ok (.invokevirtual 75, 3) := dk_182 0 75 (dk_at dksX1_land_0 2 rfl rfl)
theorem dX1_land_5 : decode cX1_land 5 = .ok (.astore 4, 2) := dk_58 4 (dk_at dksX1_land_0 5 rfl rfl)
theorem dX1_land_7 : decode cX1_land 7 = .ok (.iload_n 2, 1) := dk_28 (dk_at dksX1_land_0 7 rfl rfl)
theorem dX1_land_8 : decode cX1_land 8 = .ok (.iconst 0, 1) := dk_3 (dk_at dksX1_land_0 8 rfl rfl)
theorem dX1_land_9 : decode cX1_land 9 = .ok (.bipush 50, 2) := dk_16 50 (dk_at dksX1_land_0 9 rfl rfl)
theorem dX1_land_11 : decode cX1_land 11 = .ok (.invokestatic 79, 3) := dk_184 0 79 (dk_at dksX1_land_0 11 rfl rfl)
theorem dX1_land_14 : decode cX1_land 14 = .ok (.iload_n 3, 1) := dk_29 (dk_at dksX1_land_0 14 rfl rfl)
theorem dX1_land_15 : decode cX1_land 15 = .ok (.iconst 0, 1) := dk_3 (dk_at dksX1_land_0 15 rfl rfl)
theorem dX1_land_16 : decode cX1_land 16 = .ok (.bipush 99, 2) := dk_16 99 (dk_at dksX1_land_0 16 rfl rfl)
theorem dX1_land_18 : decode cX1_land 18 = .ok (.invokestatic 79, 3) := dk_184 0 79 (dk_at dksX1_land_0 18 rfl rfl)
theorem dX1_land_21 : decode cX1_land 21 = .ok (.aload 4, 2) := dk_25 4 (dk_at dksX1_land_0 21 rfl rfl)
theorem dX1_land_23 : decode cX1_land 23 = .ok (.getfield 83, 3) := dk_180 0 83 (dk_at dksX1_land_1 0 rfl rfl)
theorem dX1_land_26 : decode cX1_land 26 = .ok (.istore 5, 2) := dk_54 5 (dk_at dksX1_land_1 3 rfl rfl)
theorem dX1_land_28 : decode cX1_land 28 = .ok (.aload 4, 2) := dk_25 4 (dk_at dksX1_land_1 5 rfl rfl)
theorem dX1_land_30 : decode cX1_land 30 = .ok (.iload_n 2, 1) := dk_28 (dk_at dksX1_land_1 7 rfl rfl)
theorem dX1_land_31 : decode cX1_land 31 = .ok (.putfield 83, 3) := dk_181 0 83 (dk_at dksX1_land_1 8 rfl rfl)
theorem dX1_land_34 : decode cX1_land 34 = .ok (.aload 4, 2) := dk_25 4 (dk_at dksX1_land_1 11 rfl rfl)
theorem dX1_land_36 : decode cX1_land 36 = .ok (.iload_n 3, 1) := dk_29 (dk_at dksX1_land_1 13 rfl rfl)
theorem dX1_land_37 : decode cX1_land 37 = .ok (.putfield 87, 3) := dk_181 0 87 (dk_at dksX1_land_1 14 rfl rfl)
theorem dX1_land_40 : decode cX1_land 40 = .ok (.iload 5, 2) := dk_21 5 (dk_at dksX1_land_1 17 rfl rfl)
theorem dX1_land_42 : decode cX1_land 42 = .ok (.ireturn, 1) := dk_172 (dk_at dksX1_land_1 19 rfl rfl)
abbrev cX1_landAt : ByteArray := prog_1_method_7_code
def yX1_landAt : MethodName := ⟨RX1, "landAt", "(I)LLullabygate$Land;"⟩
def dkwX1_landAt_0 : List UInt8 := [27, 16, 6, 184, 0, 57, 42, 180, 0, 10, 27, 185, 0, 61, 2, 0, 192, 0, 35, 176]
abbrev dktX1_landAt_0 : List UInt8 := dkwX1_landAt_0 ++ []
theorem dksX1_landAt_0 : cX1_landAt.data.toList.drop 0 = dktX1_landAt_0 := by decide +kernel
theorem dX1_landAt_0 : decode cX1_landAt 0 = .ok (.iload_n 1, 1) := dk_27 (dk_at dksX1_landAt_0 0 rfl rfl)
theorem dX1_landAt_1 : decode cX1_landAt 1 = .ok (.bipush 6, 2) := dk_16 6 (dk_at dksX1_landAt_0 1 rfl rfl)
theorem dX1_landAt_3 : decode cX1_landAt 3 = .ok (.invokestatic 57, 3) := dk_184 0 57 (dk_at dksX1_landAt_0 3 rfl rfl)
theorem dX1_landAt_6 : decode cX1_landAt 6 = .ok (.aload_n 0, 1) := dk_42 (dk_at dksX1_landAt_0 6 rfl rfl)
theorem dX1_landAt_7 : decode cX1_landAt 7 = .ok (.getfield 10, 3) := dk_180 0 10 (dk_at dksX1_landAt_0 7 rfl rfl)
theorem dX1_landAt_10 : decode cX1_landAt 10 = .ok (.iload_n 1, 1) := dk_27 (dk_at dksX1_landAt_0 10 rfl rfl)
theorem dX1_landAt_11 : decode cX1_landAt 11 = .ok (.invokeinterface 61 2, 5) := by decide +kernel
theorem dX1_landAt_16 : decode cX1_landAt 16 = .ok (.checkcast 35, 3) := dk_192 0 35 (dk_at dksX1_landAt_0 16 rfl rfl)
theorem dX1_landAt_19 : decode cX1_landAt 19 = .ok (.areturn, 1) := dk_176 (dk_at dksX1_landAt_0 19 rfl rfl)
abbrev cX1_checkPlace : ByteArray := prog_1_method_6_code
def yX1_checkPlace : MethodName := ⟨RX1, "checkPlace", "(II)V"⟩
def dkwX1_checkPlace_0 : List UInt8 := [26, 155, 0, 8, 26, 27, 161, 0, 11, 187, 0, 54, 89, 183, 0, 56, 191, 177]
abbrev dktX1_checkPlace_0 : List UInt8 := dkwX1_checkPlace_0 ++ []
theorem dksX1_checkPlace_0 : cX1_checkPlace.data.toList.drop 0 = dktX1_checkPlace_0 := by decide +kernel
theorem dX1_checkPlace_0 : decode cX1_checkPlace 0 = .ok (.iload_n 0, 1) := dk_26 (dk_at dksX1_checkPlace_0 0 rfl rfl)
theorem dX1_checkPlace_1 : decode cX1_checkPlace 1 = .ok (.ifCond .lt 8, 3) := dk_155 0 8 (dk_at dksX1_checkPlace_0 1 rfl rfl)
theorem dX1_checkPlace_4 : decode cX1_checkPlace 4 = .ok (.iload_n 0, 1) := dk_26 (dk_at dksX1_checkPlace_0 4 rfl rfl)
theorem dX1_checkPlace_5 : decode cX1_checkPlace 5 = .ok (.iload_n 1, 1) := dk_27 (dk_at dksX1_checkPlace_0 5 rfl rfl)
theorem dX1_checkPlace_6 : decode cX1_checkPlace 6 = .ok (.if_icmp .lt 11, 3) := dk_161 0 11 (dk_at dksX1_checkPlace_0 6 rfl rfl)
theorem dX1_checkPlace_9 : decode cX1_checkPlace 9 = .ok (.new 54, 3) := dk_187 0 54 (dk_at dksX1_checkPlace_0 9 rfl rfl)
theorem dX1_checkPlace_12 : decode cX1_checkPlace 12 = .ok (.dup, 1) := dk_89 (dk_at dksX1_checkPlace_0 12 rfl rfl)
theorem dX1_checkPlace_13 : decode cX1_checkPlace 13 = .ok (.invokespecial 56, 3) := dk_183 0 56 (dk_at dksX1_checkPlace_0 13 rfl rfl)
theorem dX1_checkPlace_16 : decode cX1_checkPlace 16 = .ok (.athrow, 1) := dk_191 (dk_at dksX1_checkPlace_0 16 rfl rfl)
theorem dX1_checkPlace_17 : decode cX1_checkPlace 17 = .ok (.return_, 1) := dk_177 (dk_at dksX1_checkPlace_0 17 rfl rfl)
abbrev cX1_mustBeIn : ByteArray := prog_1_method_4_code
def yX1_mustBeIn : MethodName := ⟨RX1, "mustBeIn", "(III)V"⟩
def dkwX1_mustBeIn_0 : List UInt8 := [26, 27, 161, 0, 12, 26, 28, 163, 0, 7, 4, 167, 0, 4, 3, 184, 0, 47, 177]
abbrev dktX1_mustBeIn_0 : List UInt8 := dkwX1_mustBeIn_0 ++ []
theorem dksX1_mustBeIn_0 : cX1_mustBeIn.data.toList.drop 0 = dktX1_mustBeIn_0 := by decide +kernel
theorem dX1_mustBeIn_0 : decode cX1_mustBeIn 0 = .ok (.iload_n 0, 1) := dk_26 (dk_at dksX1_mustBeIn_0 0 rfl rfl)
theorem dX1_mustBeIn_1 : decode cX1_mustBeIn 1 = .ok (.iload_n 1, 1) := dk_27 (dk_at dksX1_mustBeIn_0 1 rfl rfl)
theorem dX1_mustBeIn_2 : decode cX1_mustBeIn 2 = .ok (.if_icmp .lt 12, 3) := dk_161 0 12 (dk_at dksX1_mustBeIn_0 2 rfl rfl)
theorem dX1_mustBeIn_5 : decode cX1_mustBeIn 5 = .ok (.iload_n 0, 1) := dk_26 (dk_at dksX1_mustBeIn_0 5 rfl rfl)
theorem dX1_mustBeIn_6 : decode cX1_mustBeIn 6 = .ok (.iload_n 2, 1) := dk_28 (dk_at dksX1_mustBeIn_0 6 rfl rfl)
theorem dX1_mustBeIn_7 : decode cX1_mustBeIn 7 = .ok (.if_icmp .gt 7, 3) := dk_163 0 7 (dk_at dksX1_mustBeIn_0 7 rfl rfl)
theorem dX1_mustBeIn_10 : decode cX1_mustBeIn 10 = .ok (.iconst 1, 1) := dk_4 (dk_at dksX1_mustBeIn_0 10 rfl rfl)
theorem dX1_mustBeIn_11 : decode cX1_mustBeIn 11 = .ok (.goto 4, 3) := dk_167 0 4 (dk_at dksX1_mustBeIn_0 11 rfl rfl)
theorem dX1_mustBeIn_14 : decode cX1_mustBeIn 14 = .ok (.iconst 0, 1) := dk_3 (dk_at dksX1_mustBeIn_0 14 rfl rfl)
theorem dX1_mustBeIn_15 : decode cX1_mustBeIn 15 = .ok (.invokestatic 47, 3) := dk_184 0 47 (dk_at dksX1_mustBeIn_0 15 rfl rfl)
theorem dX1_mustBeIn_18 : decode cX1_mustBeIn 18 = .ok (.return_, 1) := dk_177 (dk_at dksX1_mustBeIn_0 18 rfl rfl)
abbrev cX1_must : ByteArray := prog_1_method_3_code
def yX1_must : MethodName := ⟨RX1, "must", "(Z)V"⟩
def dkwX1_must_0 : List UInt8 := [26, 154, 0, 11, 187, 0, 44, 89, 183, 0, 46, 191, 177]
abbrev dktX1_must_0 : List UInt8 := dkwX1_must_0 ++ []
theorem dksX1_must_0 : cX1_must.data.toList.drop 0 = dktX1_must_0 := by decide +kernel
theorem dX1_must_0 : decode cX1_must 0 = .ok (.iload_n 0, 1) := dk_26 (dk_at dksX1_must_0 0 rfl rfl)
theorem dX1_must_1 : decode cX1_must 1 = .ok (.ifCond .ne 11, 3) := dk_154 0 11 (dk_at dksX1_must_0 1 rfl rfl)
theorem dX1_must_4 : decode cX1_must 4 = .ok (.new 44, 3) := dk_187 0 44 (dk_at dksX1_must_0 4 rfl rfl)
theorem dX1_must_7 : decode cX1_must 7 = .ok (.dup, 1) := dk_89 (dk_at dksX1_must_0 7 rfl rfl)
theorem dX1_must_8 : decode cX1_must 8 = .ok (.invokespecial 46, 3) := dk_183 0 46 (dk_at dksX1_must_0 8 rfl rfl)
theorem dX1_must_11 : decode cX1_must 11 = .ok (.athrow, 1) := dk_191 (dk_at dksX1_must_0 11 rfl rfl)
theorem dX1_must_12 : decode cX1_must 12 = .ok (.return_, 1) := dk_177 (dk_at dksX1_must_0 12 rfl rfl)
abbrev cX1_trade : ByteArray := prog_1_method_12_code
def yX1_trade : MethodName := ⟨RX1, "trade", "(III)I"⟩
def dkwX1_trade_3 : List UInt8 := [25, 5, 89, 180, 0, 90, 29, 96, 181, 0, 90, 25, 5, 180, 0, 90, 172]
abbrev dktX1_trade_3 : List UInt8 := dkwX1_trade_3 ++ []
def dkwX1_trade_2 : List UInt8 := [16, 30, 163, 0, 7, 4, 167, 0, 4, 3, 184, 0, 93, 25, 4, 89, 180, 0, 90, 29, 100, 181, 0, 90]
abbrev dktX1_trade_2 : List UInt8 := dkwX1_trade_2 ++ dktX1_trade_3
def dkwX1_trade_1 : List UInt8 := [167, 0, 4, 3, 184, 0, 47, 25, 4, 180, 0, 90, 29, 161, 0, 19, 25, 5, 180, 0, 90, 29, 96]
abbrev dktX1_trade_1 : List UInt8 := dkwX1_trade_1 ++ dktX1_trade_2
def dkwX1_trade_0 : List UInt8 := [42, 27, 182, 0, 75, 58, 4, 42, 28, 182, 0, 75, 58, 5, 27, 28, 159, 0, 11, 29, 155, 0, 7, 4]
abbrev dktX1_trade_0 : List UInt8 := dkwX1_trade_0 ++ dktX1_trade_1
theorem dksX1_trade_0 : cX1_trade.data.toList.drop 0 = dktX1_trade_0 := by decide +kernel
theorem dksX1_trade_1 : cX1_trade.data.toList.drop 24 = dktX1_trade_1 := dk_seg dksX1_trade_0 24 rfl rfl
theorem dksX1_trade_2 : cX1_trade.data.toList.drop 47 = dktX1_trade_2 := dk_seg dksX1_trade_1 23 rfl rfl
theorem dksX1_trade_3 : cX1_trade.data.toList.drop 71 = dktX1_trade_3 := dk_seg dksX1_trade_2 24 rfl rfl
theorem dX1_trade_0 : decode cX1_trade 0 = .ok (.aload_n 0, 1) := dk_42 (dk_at dksX1_trade_0 0 rfl rfl)
theorem dX1_trade_1 : decode cX1_trade 1 = .ok (.iload_n 1, 1) := dk_27 (dk_at dksX1_trade_0 1 rfl rfl)
theorem dX1_trade_2 : decode cX1_trade 2 = .ok (.invokevirtual 75, 3) := dk_182 0 75 (dk_at dksX1_trade_0 2 rfl rfl)
theorem dX1_trade_5 : decode cX1_trade 5 = .ok (.astore 4, 2) := dk_58 4 (dk_at dksX1_trade_0 5 rfl rfl)
theorem dX1_trade_7 : decode cX1_trade 7 = .ok (.aload_n 0, 1) := dk_42 (dk_at dksX1_trade_0 7 rfl rfl)
theorem dX1_trade_8 : decode cX1_trade 8 = .ok (.iload_n 2, 1) := dk_28 (dk_at dksX1_trade_0 8 rfl rfl)
theorem dX1_trade_9 : decode cX1_trade 9 = .ok (.invokevirtual 75, 3) := dk_182 0 75 (dk_at dksX1_trade_0 9 rfl rfl)
theorem dX1_trade_12 : decode cX1_trade 12 = .ok (.astore 5, 2) := dk_58 5 (dk_at dksX1_trade_0 12 rfl rfl)
theorem dX1_trade_14 : decode cX1_trade 14 = .ok (.iload_n 1, 1) := dk_27 (dk_at dksX1_trade_0 14 rfl rfl)
theorem dX1_trade_15 : decode cX1_trade 15 = .ok (.iload_n 2, 1) := dk_28 (dk_at dksX1_trade_0 15 rfl rfl)
theorem dX1_trade_16 : decode cX1_trade 16 = .ok (.if_icmp .eq 11, 3) := dk_159 0 11 (dk_at dksX1_trade_0 16 rfl rfl)
theorem dX1_trade_19 : decode cX1_trade 19 = .ok (.iload_n 3, 1) := dk_29 (dk_at dksX1_trade_0 19 rfl rfl)
theorem dX1_trade_20 : decode cX1_trade 20 = .ok (.ifCond .lt 7, 3) := dk_155 0 7 (dk_at dksX1_trade_0 20 rfl rfl)
theorem dX1_trade_23 : decode cX1_trade 23 = .ok (.iconst 1, 1) := dk_4 (dk_at dksX1_trade_0 23 rfl rfl)
theorem dX1_trade_24 : decode cX1_trade 24 = .ok (.goto 4, 3) := dk_167 0 4 (dk_at dksX1_trade_1 0 rfl rfl)
theorem dX1_trade_27 : decode cX1_trade 27 = .ok (.iconst 0, 1) := dk_3 (dk_at dksX1_trade_1 3 rfl rfl)
theorem dX1_trade_28 : decode cX1_trade 28 = .ok (.invokestatic 47, 3) := dk_184 0 47 (dk_at dksX1_trade_1 4 rfl rfl)
theorem dX1_trade_31 : decode cX1_trade 31 = .ok (.aload 4, 2) := dk_25 4 (dk_at dksX1_trade_1 7 rfl rfl)
theorem dX1_trade_33 : decode cX1_trade 33 = .ok (.getfield 90, 3) := dk_180 0 90 (dk_at dksX1_trade_1 9 rfl rfl)
theorem dX1_trade_36 : decode cX1_trade 36 = .ok (.iload_n 3, 1) := dk_29 (dk_at dksX1_trade_1 12 rfl rfl)
theorem dX1_trade_37 : decode cX1_trade 37 = .ok (.if_icmp .lt 19, 3) := dk_161 0 19 (dk_at dksX1_trade_1 13 rfl rfl)
theorem dX1_trade_40 : decode cX1_trade 40 = .ok (.aload 5, 2) := dk_25 5 (dk_at dksX1_trade_1 16 rfl rfl)
theorem dX1_trade_42 : decode cX1_trade 42 = .ok (.getfield 90, 3) := dk_180 0 90 (dk_at dksX1_trade_1 18 rfl rfl)
theorem dX1_trade_45 : decode cX1_trade 45 = .ok (.iload_n 3, 1) := dk_29 (dk_at dksX1_trade_1 21 rfl rfl)
theorem dX1_trade_46 : decode cX1_trade 46 = .ok (.iadd, 1) := dk_96 (dk_at dksX1_trade_1 22 rfl rfl)
theorem dX1_trade_47 : decode cX1_trade 47 = .ok (.bipush 30, 2) := dk_16 30 (dk_at dksX1_trade_2 0 rfl rfl)
theorem dX1_trade_49 : decode cX1_trade 49 = .ok (.if_icmp .gt 7, 3) := dk_163 0 7 (dk_at dksX1_trade_2 2 rfl rfl)
theorem dX1_trade_52 : decode cX1_trade 52 = .ok (.iconst 1, 1) := dk_4 (dk_at dksX1_trade_2 5 rfl rfl)
theorem dX1_trade_53 : decode cX1_trade 53 = .ok (.goto 4, 3) := dk_167 0 4 (dk_at dksX1_trade_2 6 rfl rfl)
theorem dX1_trade_56 : decode cX1_trade 56 = .ok (.iconst 0, 1) := dk_3 (dk_at dksX1_trade_2 9 rfl rfl)
theorem dX1_trade_57 : decode cX1_trade 57 = .ok (.invokestatic 93, 3) := dk_184 0 93 (dk_at dksX1_trade_2 10 rfl rfl)
theorem dX1_trade_60 : decode cX1_trade 60 = .ok (.aload 4, 2) := dk_25 4 (dk_at dksX1_trade_2 13 rfl rfl)
theorem dX1_trade_62 : decode cX1_trade 62 = .ok (.dup, 1) := dk_89 (dk_at dksX1_trade_2 15 rfl rfl)
theorem dX1_trade_63 : decode cX1_trade 63 = .ok (.getfield 90, 3) := dk_180 0 90 (dk_at dksX1_trade_2 16 rfl rfl)
theorem dX1_trade_66 : decode cX1_trade 66 = .ok (.iload_n 3, 1) := dk_29 (dk_at dksX1_trade_2 19 rfl rfl)
theorem dX1_trade_67 : decode cX1_trade 67 = .ok (.isub, 1) := dk_100 (dk_at dksX1_trade_2 20 rfl rfl)
theorem dX1_trade_68 : decode cX1_trade 68 = .ok (.putfield 90, 3) := dk_181 0 90 (dk_at dksX1_trade_2 21 rfl rfl)
theorem dX1_trade_71 : decode cX1_trade 71 = .ok (.aload 5, 2) := dk_25 5 (dk_at dksX1_trade_3 0 rfl rfl)
theorem dX1_trade_73 : decode cX1_trade 73 = .ok (.dup, 1) := dk_89 (dk_at dksX1_trade_3 2 rfl rfl)
theorem dX1_trade_74 : decode cX1_trade 74 = .ok (.getfield 90, 3) := dk_180 0 90 (dk_at dksX1_trade_3 3 rfl rfl)
theorem dX1_trade_77 : decode cX1_trade 77 = .ok (.iload_n 3, 1) := dk_29 (dk_at dksX1_trade_3 6 rfl rfl)
theorem dX1_trade_78 : decode cX1_trade 78 = .ok (.iadd, 1) := dk_96 (dk_at dksX1_trade_3 7 rfl rfl)
theorem dX1_trade_79 : decode cX1_trade 79 = .ok (.putfield 90, 3) := dk_181 0 90 (dk_at dksX1_trade_3 8 rfl rfl)
theorem dX1_trade_82 : decode cX1_trade 82 = .ok (.aload 5, 2) := dk_25 5 (dk_at dksX1_trade_3 11 rfl rfl)
theorem dX1_trade_84 : decode cX1_trade 84 = .ok (.getfield 90, 3) := dk_180 0 90 (dk_at dksX1_trade_3 13 rfl rfl)
theorem dX1_trade_87 : decode cX1_trade 87 = .ok (.ireturn, 1) := dk_172 (dk_at dksX1_trade_3 16 rfl rfl)
abbrev cX1_checkState : ByteArray := prog_1_method_5_code
def yX1_checkState : MethodName := ⟨RX1, "checkState", "(Z)V"⟩
def dkwX1_checkState_0 : List UInt8 := [26, 154, 0, 11, 187, 0, 51, 89, 183, 0, 53, 191, 177]
abbrev dktX1_checkState_0 : List UInt8 := dkwX1_checkState_0 ++ []
theorem dksX1_checkState_0 : cX1_checkState.data.toList.drop 0 = dktX1_checkState_0 := by decide +kernel
theorem dX1_checkState_0 : decode cX1_checkState 0 = .ok (.iload_n 0, 1) := dk_26 (dk_at dksX1_checkState_0 0 rfl rfl)
theorem dX1_checkState_1 : decode cX1_checkState 1 = .ok (.ifCond .ne 11, 3) := dk_154 0 11 (dk_at dksX1_checkState_0 1 rfl rfl)
theorem dX1_checkState_4 : decode cX1_checkState 4 = .ok (.new 51, 3) := dk_187 0 51 (dk_at dksX1_checkState_0 4 rfl rfl)
theorem dX1_checkState_7 : decode cX1_checkState 7 = .ok (.dup, 1) := dk_89 (dk_at dksX1_checkState_0 7 rfl rfl)
theorem dX1_checkState_8 : decode cX1_checkState 8 = .ok (.invokespecial 53, 3) := dk_183 0 53 (dk_at dksX1_checkState_0 8 rfl rfl)
theorem dX1_checkState_11 : decode cX1_checkState 11 = .ok (.athrow, 1) := dk_191 (dk_at dksX1_checkState_0 11 rfl rfl)
theorem dX1_checkState_12 : decode cX1_checkState 12 = .ok (.return_, 1) := dk_177 (dk_at dksX1_checkState_0 12 rfl rfl)
abbrev cX1_gate : ByteArray := prog_1_method_13_code
def yX1_gate : MethodName := ⟨RX1, "gate", "(IIII)I"⟩
def dkwX1_gate_4 : List UInt8 := [185, 0, 65, 1, 0, 4, 100, 172]
abbrev dktX1_gate_4 : List UInt8 := dkwX1_gate_4 ++ []
def dkwX1_gate_3 : List UInt8 := [187, 0, 69, 89, 27, 28, 29, 21, 4, 183, 0, 96, 185, 0, 38, 2, 0, 87, 42, 180, 0, 16]
abbrev dktX1_gate_3 : List UInt8 := dkwX1_gate_3 ++ dktX1_gate_4
def dkwX1_gate_2 : List UInt8 := [185, 0, 65, 1, 0, 16, 8, 162, 0, 7, 4, 167, 0, 4, 3, 184, 0, 93, 42, 180, 0, 16]
abbrev dktX1_gate_2 : List UInt8 := dkwX1_gate_2 ++ dktX1_gate_3
def dkwX1_gate_1 : List UInt8 := [184, 0, 47, 29, 3, 16, 23, 184, 0, 79, 21, 4, 4, 16, 24, 184, 0, 79, 42, 180, 0, 16]
abbrev dktX1_gate_1 : List UInt8 := dkwX1_gate_1 ++ dktX1_gate_2
def dkwX1_gate_0 : List UInt8 := [27, 16, 6, 184, 0, 57, 28, 16, 6, 184, 0, 57, 27, 28, 159, 0, 7, 4, 167, 0, 4, 3]
abbrev dktX1_gate_0 : List UInt8 := dkwX1_gate_0 ++ dktX1_gate_1
theorem dksX1_gate_0 : cX1_gate.data.toList.drop 0 = dktX1_gate_0 := by decide +kernel
theorem dksX1_gate_1 : cX1_gate.data.toList.drop 22 = dktX1_gate_1 := dk_seg dksX1_gate_0 22 rfl rfl
theorem dksX1_gate_2 : cX1_gate.data.toList.drop 44 = dktX1_gate_2 := dk_seg dksX1_gate_1 22 rfl rfl
theorem dksX1_gate_3 : cX1_gate.data.toList.drop 66 = dktX1_gate_3 := dk_seg dksX1_gate_2 22 rfl rfl
theorem dksX1_gate_4 : cX1_gate.data.toList.drop 88 = dktX1_gate_4 := dk_seg dksX1_gate_3 22 rfl rfl
theorem dX1_gate_0 : decode cX1_gate 0 = .ok (.iload_n 1, 1) := dk_27 (dk_at dksX1_gate_0 0 rfl rfl)
theorem dX1_gate_1 : decode cX1_gate 1 = .ok (.bipush 6, 2) := dk_16 6 (dk_at dksX1_gate_0 1 rfl rfl)
theorem dX1_gate_3 : decode cX1_gate 3 = .ok (.invokestatic 57, 3) := dk_184 0 57 (dk_at dksX1_gate_0 3 rfl rfl)
theorem dX1_gate_6 : decode cX1_gate 6 = .ok (.iload_n 2, 1) := dk_28 (dk_at dksX1_gate_0 6 rfl rfl)
theorem dX1_gate_7 : decode cX1_gate 7 = .ok (.bipush 6, 2) := dk_16 6 (dk_at dksX1_gate_0 7 rfl rfl)
theorem dX1_gate_9 : decode cX1_gate 9 = .ok (.invokestatic 57, 3) := dk_184 0 57 (dk_at dksX1_gate_0 9 rfl rfl)
theorem dX1_gate_12 : decode cX1_gate 12 = .ok (.iload_n 1, 1) := dk_27 (dk_at dksX1_gate_0 12 rfl rfl)
theorem dX1_gate_13 : decode cX1_gate 13 = .ok (.iload_n 2, 1) := dk_28 (dk_at dksX1_gate_0 13 rfl rfl)
theorem dX1_gate_14 : decode cX1_gate 14 = .ok (.if_icmp .eq 7, 3) := dk_159 0 7 (dk_at dksX1_gate_0 14 rfl rfl)
theorem dX1_gate_17 : decode cX1_gate 17 = .ok (.iconst 1, 1) := dk_4 (dk_at dksX1_gate_0 17 rfl rfl)
theorem dX1_gate_18 : decode cX1_gate 18 = .ok (.goto 4, 3) := dk_167 0 4 (dk_at dksX1_gate_0 18 rfl rfl)
theorem dX1_gate_21 : decode cX1_gate 21 = .ok (.iconst 0, 1) := dk_3 (dk_at dksX1_gate_0 21 rfl rfl)
theorem dX1_gate_22 : decode cX1_gate 22 = .ok (.invokestatic 47, 3) := dk_184 0 47 (dk_at dksX1_gate_1 0 rfl rfl)
theorem dX1_gate_25 : decode cX1_gate 25 = .ok (.iload_n 3, 1) := dk_29 (dk_at dksX1_gate_1 3 rfl rfl)
theorem dX1_gate_26 : decode cX1_gate 26 = .ok (.iconst 0, 1) := dk_3 (dk_at dksX1_gate_1 4 rfl rfl)
theorem dX1_gate_27 : decode cX1_gate 27 = .ok (.bipush 23, 2) := dk_16 23 (dk_at dksX1_gate_1 5 rfl rfl)
theorem dX1_gate_29 : decode cX1_gate 29 = .ok (.invokestatic 79, 3) := dk_184 0 79 (dk_at dksX1_gate_1 7 rfl rfl)
theorem dX1_gate_32 : decode cX1_gate 32 = .ok (.iload 4, 2) := dk_21 4 (dk_at dksX1_gate_1 10 rfl rfl)
theorem dX1_gate_34 : decode cX1_gate 34 = .ok (.iconst 1, 1) := dk_4 (dk_at dksX1_gate_1 12 rfl rfl)
theorem dX1_gate_35 : decode cX1_gate 35 = .ok (.bipush 24, 2) := dk_16 24 (dk_at dksX1_gate_1 13 rfl rfl)
theorem dX1_gate_37 : decode cX1_gate 37 = .ok (.invokestatic 79, 3) := dk_184 0 79 (dk_at dksX1_gate_1 15 rfl rfl)
theorem dX1_gate_40 : decode cX1_gate 40 = .ok (.aload_n 0, 1) := dk_42 (dk_at dksX1_gate_1 18 rfl rfl)
theorem dX1_gate_41 : decode cX1_gate 41 = .ok (.getfield 16, 3) := dk_180 0 16 (dk_at dksX1_gate_1 19 rfl rfl)
theorem dX1_gate_44 : decode cX1_gate 44 = .ok (.invokeinterface 65 1, 5) := by decide +kernel
theorem dX1_gate_49 : decode cX1_gate 49 = .ok (.bipush 8, 2) := dk_16 8 (dk_at dksX1_gate_2 5 rfl rfl)
theorem dX1_gate_51 : decode cX1_gate 51 = .ok (.if_icmp .ge 7, 3) := dk_162 0 7 (dk_at dksX1_gate_2 7 rfl rfl)
theorem dX1_gate_54 : decode cX1_gate 54 = .ok (.iconst 1, 1) := dk_4 (dk_at dksX1_gate_2 10 rfl rfl)
theorem dX1_gate_55 : decode cX1_gate 55 = .ok (.goto 4, 3) := dk_167 0 4 (dk_at dksX1_gate_2 11 rfl rfl)
theorem dX1_gate_58 : decode cX1_gate 58 = .ok (.iconst 0, 1) := dk_3 (dk_at dksX1_gate_2 14 rfl rfl)
theorem dX1_gate_59 : decode cX1_gate 59 = .ok (.invokestatic 93, 3) := dk_184 0 93 (dk_at dksX1_gate_2 15 rfl rfl)
theorem dX1_gate_62 : decode cX1_gate 62 = .ok (.aload_n 0, 1) := dk_42 (dk_at dksX1_gate_2 18 rfl rfl)
theorem dX1_gate_63 : decode cX1_gate 63 = .ok (.getfield 16, 3) := dk_180 0 16 (dk_at dksX1_gate_2 19 rfl rfl)
theorem dX1_gate_66 : decode cX1_gate 66 = .ok (.new 69, 3) := dk_187 0 69 (dk_at dksX1_gate_3 0 rfl rfl)
theorem dX1_gate_69 : decode cX1_gate 69 = .ok (.dup, 1) := dk_89 (dk_at dksX1_gate_3 3 rfl rfl)
theorem dX1_gate_70 : decode cX1_gate 70 = .ok (.iload_n 1, 1) := dk_27 (dk_at dksX1_gate_3 4 rfl rfl)
theorem dX1_gate_71 : decode cX1_gate 71 = .ok (.iload_n 2, 1) := dk_28 (dk_at dksX1_gate_3 5 rfl rfl)
theorem dX1_gate_72 : decode cX1_gate 72 = .ok (.iload_n 3, 1) := dk_29 (dk_at dksX1_gate_3 6 rfl rfl)
theorem dX1_gate_73 : decode cX1_gate 73 = .ok (.iload 4, 2) := dk_21 4 (dk_at dksX1_gate_3 7 rfl rfl)
theorem dX1_gate_75 : decode cX1_gate 75 = .ok (.invokespecial 96, 3) := dk_183 0 96 (dk_at dksX1_gate_3 9 rfl rfl)
theorem dX1_gate_78 : decode cX1_gate 78 = .ok (.invokeinterface 38 2, 5) := by decide +kernel
theorem dX1_gate_83 : decode cX1_gate 83 = .ok (.pop, 1) := dk_87 (dk_at dksX1_gate_3 17 rfl rfl)
theorem dX1_gate_84 : decode cX1_gate 84 = .ok (.aload_n 0, 1) := dk_42 (dk_at dksX1_gate_3 18 rfl rfl)
theorem dX1_gate_85 : decode cX1_gate 85 = .ok (.getfield 16, 3) := dk_180 0 16 (dk_at dksX1_gate_3 19 rfl rfl)
theorem dX1_gate_88 : decode cX1_gate 88 = .ok (.invokeinterface 65 1, 5) := by decide +kernel
theorem dX1_gate_93 : decode cX1_gate 93 = .ok (.iconst 1, 1) := dk_4 (dk_at dksX1_gate_4 5 rfl rfl)
theorem dX1_gate_94 : decode cX1_gate 94 = .ok (.isub, 1) := dk_100 (dk_at dksX1_gate_4 6 rfl rfl)
theorem dX1_gate_95 : decode cX1_gate 95 = .ok (.ireturn, 1) := dk_172 (dk_at dksX1_gate_4 7 rfl rfl)
abbrev cX1_odds : ByteArray := prog_1_method_14_code
def yX1_odds : MethodName := ⟨RX1, "odds", "(II)I"⟩
def dkwX1_odds_1 : List UInt8 := [21, 4, 172]
abbrev dktX1_odds_1 : List UInt8 := dkwX1_odds_1 ++ []
def dkwX1_odds_0 : List UInt8 := [42, 27, 182, 0, 99, 78, 28, 3, 16, 10, 184, 0, 79, 45, 180, 0, 103, 54, 4, 45, 28, 181, 0, 103]
abbrev dktX1_odds_0 : List UInt8 := dkwX1_odds_0 ++ dktX1_odds_1
theorem dksX1_odds_0 : cX1_odds.data.toList.drop 0 = dktX1_odds_0 := by decide +kernel
theorem dksX1_odds_1 : cX1_odds.data.toList.drop 24 = dktX1_odds_1 := dk_seg dksX1_odds_0 24 rfl rfl
theorem dX1_odds_0 : decode cX1_odds 0 = .ok (.aload_n 0, 1) := dk_42 (dk_at dksX1_odds_0 0 rfl rfl)
theorem dX1_odds_1 : decode cX1_odds 1 = .ok (.iload_n 1, 1) := dk_27 (dk_at dksX1_odds_0 1 rfl rfl)
theorem dX1_odds_2 : decode cX1_odds 2 = .ok (.invokevirtual 99, 3) := dk_182 0 99 (dk_at dksX1_odds_0 2 rfl rfl)
theorem dX1_odds_5 : decode cX1_odds 5 = .ok (.astore_n 3, 1) := dk_78 (dk_at dksX1_odds_0 5 rfl rfl)
theorem dX1_odds_6 : decode cX1_odds 6 = .ok (.iload_n 2, 1) := dk_28 (dk_at dksX1_odds_0 6 rfl rfl)
theorem dX1_odds_7 : decode cX1_odds 7 = .ok (.iconst 0, 1) := dk_3 (dk_at dksX1_odds_0 7 rfl rfl)
theorem dX1_odds_8 : decode cX1_odds 8 = .ok (.bipush 10, 2) := dk_16 10 (dk_at dksX1_odds_0 8 rfl rfl)
theorem dX1_odds_10 : decode cX1_odds 10 = .ok (.invokestatic 79, 3) := dk_184 0 79 (dk_at dksX1_odds_0 10 rfl rfl)
theorem dX1_odds_13 : decode cX1_odds 13 = .ok (.aload_n 3, 1) := dk_45 (dk_at dksX1_odds_0 13 rfl rfl)
theorem dX1_odds_14 : decode cX1_odds 14 = .ok (.getfield 103, 3) := dk_180 0 103 (dk_at dksX1_odds_0 14 rfl rfl)
theorem dX1_odds_17 : decode cX1_odds 17 = .ok (.istore 4, 2) := dk_54 4 (dk_at dksX1_odds_0 17 rfl rfl)
theorem dX1_odds_19 : decode cX1_odds 19 = .ok (.aload_n 3, 1) := dk_45 (dk_at dksX1_odds_0 19 rfl rfl)
theorem dX1_odds_20 : decode cX1_odds 20 = .ok (.iload_n 2, 1) := dk_28 (dk_at dksX1_odds_0 20 rfl rfl)
theorem dX1_odds_21 : decode cX1_odds 21 = .ok (.putfield 103, 3) := dk_181 0 103 (dk_at dksX1_odds_0 21 rfl rfl)
theorem dX1_odds_24 : decode cX1_odds 24 = .ok (.iload 4, 2) := dk_21 4 (dk_at dksX1_odds_1 0 rfl rfl)
theorem dX1_odds_26 : decode cX1_odds 26 = .ok (.ireturn, 1) := dk_172 (dk_at dksX1_odds_1 2 rfl rfl)
abbrev cX1_gateAt : ByteArray := prog_1_method_8_code
def yX1_gateAt : MethodName := ⟨RX1, "gateAt", "(I)LLullabygate$Gate;"⟩
def dkwX1_gateAt_1 : List UInt8 := [192, 0, 69, 176]
abbrev dktX1_gateAt_1 : List UInt8 := dkwX1_gateAt_1 ++ []
def dkwX1_gateAt_0 : List UInt8 := [27, 42, 180, 0, 16, 185, 0, 65, 1, 0, 184, 0, 57, 42, 180, 0, 16, 27, 185, 0, 61, 2, 0]
abbrev dktX1_gateAt_0 : List UInt8 := dkwX1_gateAt_0 ++ dktX1_gateAt_1
theorem dksX1_gateAt_0 : cX1_gateAt.data.toList.drop 0 = dktX1_gateAt_0 := by decide +kernel
theorem dksX1_gateAt_1 : cX1_gateAt.data.toList.drop 23 = dktX1_gateAt_1 := dk_seg dksX1_gateAt_0 23 rfl rfl
theorem dX1_gateAt_0 : decode cX1_gateAt 0 = .ok (.iload_n 1, 1) := dk_27 (dk_at dksX1_gateAt_0 0 rfl rfl)
theorem dX1_gateAt_1 : decode cX1_gateAt 1 = .ok (.aload_n 0, 1) := dk_42 (dk_at dksX1_gateAt_0 1 rfl rfl)
theorem dX1_gateAt_2 : decode cX1_gateAt 2 = .ok (.getfield 16, 3) := dk_180 0 16 (dk_at dksX1_gateAt_0 2 rfl rfl)
theorem dX1_gateAt_5 : decode cX1_gateAt 5 = .ok (.invokeinterface 65 1, 5) := by decide +kernel
theorem dX1_gateAt_10 : decode cX1_gateAt 10 = .ok (.invokestatic 57, 3) := dk_184 0 57 (dk_at dksX1_gateAt_0 10 rfl rfl)
theorem dX1_gateAt_13 : decode cX1_gateAt 13 = .ok (.aload_n 0, 1) := dk_42 (dk_at dksX1_gateAt_0 13 rfl rfl)
theorem dX1_gateAt_14 : decode cX1_gateAt 14 = .ok (.getfield 16, 3) := dk_180 0 16 (dk_at dksX1_gateAt_0 14 rfl rfl)
theorem dX1_gateAt_17 : decode cX1_gateAt 17 = .ok (.iload_n 1, 1) := dk_27 (dk_at dksX1_gateAt_0 17 rfl rfl)
theorem dX1_gateAt_18 : decode cX1_gateAt 18 = .ok (.invokeinterface 61 2, 5) := by decide +kernel
theorem dX1_gateAt_23 : decode cX1_gateAt 23 = .ok (.checkcast 69, 3) := dk_192 0 69 (dk_at dksX1_gateAt_1 0 rfl rfl)
theorem dX1_gateAt_26 : decode cX1_gateAt 26 = .ok (.areturn, 1) := dk_176 (dk_at dksX1_gateAt_1 3 rfl rfl)
abbrev cX1_relieve : ByteArray := prog_1_method_15_code
def yX1_relieve : MethodName := ⟨RX1, "relieve", "(I)I"⟩
def dkwX1_relieve_0 : List UInt8 := [42, 27, 182, 0, 99, 77, 44, 180, 0, 106, 62, 44, 3, 181, 0, 106, 29, 172]
abbrev dktX1_relieve_0 : List UInt8 := dkwX1_relieve_0 ++ []
theorem dksX1_relieve_0 : cX1_relieve.data.toList.drop 0 = dktX1_relieve_0 := by decide +kernel
theorem dX1_relieve_0 : decode cX1_relieve 0 = .ok (.aload_n 0, 1) := dk_42 (dk_at dksX1_relieve_0 0 rfl rfl)
theorem dX1_relieve_1 : decode cX1_relieve 1 = .ok (.iload_n 1, 1) := dk_27 (dk_at dksX1_relieve_0 1 rfl rfl)
theorem dX1_relieve_2 : decode cX1_relieve 2 = .ok (.invokevirtual 99, 3) := dk_182 0 99 (dk_at dksX1_relieve_0 2 rfl rfl)
theorem dX1_relieve_5 : decode cX1_relieve 5 = .ok (.astore_n 2, 1) := dk_77 (dk_at dksX1_relieve_0 5 rfl rfl)
theorem dX1_relieve_6 : decode cX1_relieve 6 = .ok (.aload_n 2, 1) := dk_44 (dk_at dksX1_relieve_0 6 rfl rfl)
theorem dX1_relieve_7 : decode cX1_relieve 7 = .ok (.getfield 106, 3) := dk_180 0 106 (dk_at dksX1_relieve_0 7 rfl rfl)
theorem dX1_relieve_10 : decode cX1_relieve 10 = .ok (.istore_n 3, 1) := dk_62 (dk_at dksX1_relieve_0 10 rfl rfl)
theorem dX1_relieve_11 : decode cX1_relieve 11 = .ok (.aload_n 2, 1) := dk_44 (dk_at dksX1_relieve_0 11 rfl rfl)
theorem dX1_relieve_12 : decode cX1_relieve 12 = .ok (.iconst 0, 1) := dk_3 (dk_at dksX1_relieve_0 12 rfl rfl)
theorem dX1_relieve_13 : decode cX1_relieve 13 = .ok (.putfield 106, 3) := dk_181 0 106 (dk_at dksX1_relieve_0 13 rfl rfl)
theorem dX1_relieve_16 : decode cX1_relieve 16 = .ok (.iload_n 3, 1) := dk_29 (dk_at dksX1_relieve_0 16 rfl rfl)
theorem dX1_relieve_17 : decode cX1_relieve 17 = .ok (.ireturn, 1) := dk_172 (dk_at dksX1_relieve_0 17 rfl rfl)
abbrev cX1_sleeper : ByteArray := prog_1_method_16_code
def yX1_sleeper : MethodName := ⟨RX1, "sleeper", "(IZI)I"⟩
def dkwX1_sleeper_3 : List UInt8 := [185, 0, 65, 1, 0, 4, 100, 172]
abbrev dktX1_sleeper_3 : List UInt8 := dkwX1_sleeper_3 ++ []
def dkwX1_sleeper_2 : List UInt8 := [185, 0, 65, 1, 0, 27, 28, 29, 183, 0, 109, 185, 0, 38, 2, 0, 87, 42, 180, 0, 19]
abbrev dktX1_sleeper_2 : List UInt8 := dkwX1_sleeper_2 ++ dktX1_sleeper_3
def dkwX1_sleeper_1 : List UInt8 := [162, 0, 7, 4, 167, 0, 4, 3, 184, 0, 93, 42, 180, 0, 19, 187, 0, 71, 89, 42, 180, 0, 19]
abbrev dktX1_sleeper_1 : List UInt8 := dkwX1_sleeper_1 ++ dktX1_sleeper_2
def dkwX1_sleeper_0 : List UInt8 := [27, 16, 6, 184, 0, 57, 29, 4, 16, 9, 184, 0, 79, 42, 180, 0, 19, 185, 0, 65, 1, 0, 16, 12]
abbrev dktX1_sleeper_0 : List UInt8 := dkwX1_sleeper_0 ++ dktX1_sleeper_1
theorem dksX1_sleeper_0 : cX1_sleeper.data.toList.drop 0 = dktX1_sleeper_0 := by decide +kernel
theorem dksX1_sleeper_1 : cX1_sleeper.data.toList.drop 24 = dktX1_sleeper_1 := dk_seg dksX1_sleeper_0 24 rfl rfl
theorem dksX1_sleeper_2 : cX1_sleeper.data.toList.drop 47 = dktX1_sleeper_2 := dk_seg dksX1_sleeper_1 23 rfl rfl
theorem dksX1_sleeper_3 : cX1_sleeper.data.toList.drop 68 = dktX1_sleeper_3 := dk_seg dksX1_sleeper_2 21 rfl rfl
theorem dX1_sleeper_0 : decode cX1_sleeper 0 = .ok (.iload_n 1, 1) := dk_27 (dk_at dksX1_sleeper_0 0 rfl rfl)
theorem dX1_sleeper_1 : decode cX1_sleeper 1 = .ok (.bipush 6, 2) := dk_16 6 (dk_at dksX1_sleeper_0 1 rfl rfl)
theorem dX1_sleeper_3 : decode cX1_sleeper 3 = .ok (.invokestatic 57, 3) := dk_184 0 57 (dk_at dksX1_sleeper_0 3 rfl rfl)
theorem dX1_sleeper_6 : decode cX1_sleeper 6 = .ok (.iload_n 3, 1) := dk_29 (dk_at dksX1_sleeper_0 6 rfl rfl)
theorem dX1_sleeper_7 : decode cX1_sleeper 7 = .ok (.iconst 1, 1) := dk_4 (dk_at dksX1_sleeper_0 7 rfl rfl)
theorem dX1_sleeper_8 : decode cX1_sleeper 8 = .ok (.bipush 9, 2) := dk_16 9 (dk_at dksX1_sleeper_0 8 rfl rfl)
theorem dX1_sleeper_10 : decode cX1_sleeper 10 = .ok (.invokestatic 79, 3) := dk_184 0 79 (dk_at dksX1_sleeper_0 10 rfl rfl)
theorem dX1_sleeper_13 : decode cX1_sleeper 13 = .ok (.aload_n 0, 1) := dk_42 (dk_at dksX1_sleeper_0 13 rfl rfl)
theorem dX1_sleeper_14 : decode cX1_sleeper 14 = .ok (.getfield 19, 3) := dk_180 0 19 (dk_at dksX1_sleeper_0 14 rfl rfl)
theorem dX1_sleeper_17 : decode cX1_sleeper 17 = .ok (.invokeinterface 65 1, 5) := by decide +kernel
theorem dX1_sleeper_22 : decode cX1_sleeper 22 = .ok (.bipush 12, 2) := dk_16 12 (dk_at dksX1_sleeper_0 22 rfl rfl)
theorem dX1_sleeper_24 : decode cX1_sleeper 24 = .ok (.if_icmp .ge 7, 3) := dk_162 0 7 (dk_at dksX1_sleeper_1 0 rfl rfl)
theorem dX1_sleeper_27 : decode cX1_sleeper 27 = .ok (.iconst 1, 1) := dk_4 (dk_at dksX1_sleeper_1 3 rfl rfl)
theorem dX1_sleeper_28 : decode cX1_sleeper 28 = .ok (.goto 4, 3) := dk_167 0 4 (dk_at dksX1_sleeper_1 4 rfl rfl)
theorem dX1_sleeper_31 : decode cX1_sleeper 31 = .ok (.iconst 0, 1) := dk_3 (dk_at dksX1_sleeper_1 7 rfl rfl)
theorem dX1_sleeper_32 : decode cX1_sleeper 32 = .ok (.invokestatic 93, 3) := dk_184 0 93 (dk_at dksX1_sleeper_1 8 rfl rfl)
theorem dX1_sleeper_35 : decode cX1_sleeper 35 = .ok (.aload_n 0, 1) := dk_42 (dk_at dksX1_sleeper_1 11 rfl rfl)
theorem dX1_sleeper_36 : decode cX1_sleeper 36 = .ok (.getfield 19, 3) := dk_180 0 19 (dk_at dksX1_sleeper_1 12 rfl rfl)
theorem dX1_sleeper_39 : decode cX1_sleeper 39 = .ok (.new 71, 3) := dk_187 0 71 (dk_at dksX1_sleeper_1 15 rfl rfl)
theorem dX1_sleeper_42 : decode cX1_sleeper 42 = .ok (.dup, 1) := dk_89 (dk_at dksX1_sleeper_1 18 rfl rfl)
theorem dX1_sleeper_43 : decode cX1_sleeper 43 = .ok (.aload_n 0, 1) := dk_42 (dk_at dksX1_sleeper_1 19 rfl rfl)
theorem dX1_sleeper_44 : decode cX1_sleeper 44 = .ok (.getfield 19, 3) := dk_180 0 19 (dk_at dksX1_sleeper_1 20 rfl rfl)
theorem dX1_sleeper_47 : decode cX1_sleeper 47 = .ok (.invokeinterface 65 1, 5) := by decide +kernel
theorem dX1_sleeper_52 : decode cX1_sleeper 52 = .ok (.iload_n 1, 1) := dk_27 (dk_at dksX1_sleeper_2 5 rfl rfl)
theorem dX1_sleeper_53 : decode cX1_sleeper 53 = .ok (.iload_n 2, 1) := dk_28 (dk_at dksX1_sleeper_2 6 rfl rfl)
theorem dX1_sleeper_54 : decode cX1_sleeper 54 = .ok (.iload_n 3, 1) := dk_29 (dk_at dksX1_sleeper_2 7 rfl rfl)
theorem dX1_sleeper_55 : decode cX1_sleeper 55 = .ok (.invokespecial 109, 3) := dk_183 0 109 (dk_at dksX1_sleeper_2 8 rfl rfl)
theorem dX1_sleeper_58 : decode cX1_sleeper 58 = .ok (.invokeinterface 38 2, 5) := by decide +kernel
theorem dX1_sleeper_63 : decode cX1_sleeper 63 = .ok (.pop, 1) := dk_87 (dk_at dksX1_sleeper_2 16 rfl rfl)
theorem dX1_sleeper_64 : decode cX1_sleeper 64 = .ok (.aload_n 0, 1) := dk_42 (dk_at dksX1_sleeper_2 17 rfl rfl)
theorem dX1_sleeper_65 : decode cX1_sleeper 65 = .ok (.getfield 19, 3) := dk_180 0 19 (dk_at dksX1_sleeper_2 18 rfl rfl)
theorem dX1_sleeper_68 : decode cX1_sleeper 68 = .ok (.invokeinterface 65 1, 5) := by decide +kernel
theorem dX1_sleeper_73 : decode cX1_sleeper 73 = .ok (.iconst 1, 1) := dk_4 (dk_at dksX1_sleeper_3 5 rfl rfl)
theorem dX1_sleeper_74 : decode cX1_sleeper 74 = .ok (.isub, 1) := dk_100 (dk_at dksX1_sleeper_3 6 rfl rfl)
theorem dX1_sleeper_75 : decode cX1_sleeper 75 = .ok (.ireturn, 1) := dk_172 (dk_at dksX1_sleeper_3 7 rfl rfl)
abbrev cX1_part : ByteArray := prog_1_method_17_code
def yX1_part : MethodName := ⟨RX1, "part", "(IIII)I"⟩
def dkwX1_part_3 : List UInt8 := [21, 4, 27, 183, 0, 126, 185, 0, 38, 2, 0, 87, 42, 180, 0, 22, 185, 0, 65, 1, 0, 4, 100, 172]
abbrev dktX1_part_3 : List UInt8 := dkwX1_part_3 ++ []
def dkwX1_part_2 : List UInt8 := [182, 0, 122, 153, 0, 7, 4, 167, 0, 4, 3, 184, 0, 93, 42, 180, 0, 22, 187, 0, 73, 89, 28, 29]
abbrev dktX1_part_2 : List UInt8 := dkwX1_part_2 ++ dktX1_part_3
def dkwX1_part_1 : List UInt8 := [16, 9, 184, 0, 79, 42, 180, 0, 22, 185, 0, 65, 1, 0, 16, 24, 162, 0, 18, 25, 5, 178, 0, 116]
abbrev dktX1_part_1 : List UInt8 := dkwX1_part_1 ++ dktX1_part_2
def dkwX1_part_0 : List UInt8 := [42, 27, 182, 0, 112, 58, 5, 28, 3, 16, 7, 184, 0, 79, 29, 3, 16, 99, 184, 0, 79, 21, 4, 3]
abbrev dktX1_part_0 : List UInt8 := dkwX1_part_0 ++ dktX1_part_1
theorem dksX1_part_0 : cX1_part.data.toList.drop 0 = dktX1_part_0 := by decide +kernel
theorem dksX1_part_1 : cX1_part.data.toList.drop 24 = dktX1_part_1 := dk_seg dksX1_part_0 24 rfl rfl
theorem dksX1_part_2 : cX1_part.data.toList.drop 48 = dktX1_part_2 := dk_seg dksX1_part_1 24 rfl rfl
theorem dksX1_part_3 : cX1_part.data.toList.drop 72 = dktX1_part_3 := dk_seg dksX1_part_2 24 rfl rfl
theorem dX1_part_0 : decode cX1_part 0 = .ok (.aload_n 0, 1) := dk_42 (dk_at dksX1_part_0 0 rfl rfl)
theorem dX1_part_1 : decode cX1_part 1 = .ok (.iload_n 1, 1) := dk_27 (dk_at dksX1_part_0 1 rfl rfl)
theorem dX1_part_2 : decode cX1_part 2 = .ok (.invokevirtual 112, 3) := dk_182 0 112 (dk_at dksX1_part_0 2 rfl rfl)
theorem dX1_part_5 : decode cX1_part 5 = .ok (.astore 5, 2) := dk_58 5 (dk_at dksX1_part_0 5 rfl rfl)
theorem dX1_part_7 : decode cX1_part 7 = .ok (.iload_n 2, 1) := dk_28 (dk_at dksX1_part_0 7 rfl rfl)
theorem dX1_part_8 : decode cX1_part 8 = .ok (.iconst 0, 1) := dk_3 (dk_at dksX1_part_0 8 rfl rfl)
theorem dX1_part_9 : decode cX1_part 9 = .ok (.bipush 7, 2) := dk_16 7 (dk_at dksX1_part_0 9 rfl rfl)
theorem dX1_part_11 : decode cX1_part 11 = .ok (.invokestatic 79, 3) := dk_184 0 79 (dk_at dksX1_part_0 11 rfl rfl)
theorem dX1_part_14 : decode cX1_part 14 = .ok (.iload_n 3, 1) := dk_29 (dk_at dksX1_part_0 14 rfl rfl)
theorem dX1_part_15 : decode cX1_part 15 = .ok (.iconst 0, 1) := dk_3 (dk_at dksX1_part_0 15 rfl rfl)
theorem dX1_part_16 : decode cX1_part 16 = .ok (.bipush 99, 2) := dk_16 99 (dk_at dksX1_part_0 16 rfl rfl)
theorem dX1_part_18 : decode cX1_part 18 = .ok (.invokestatic 79, 3) := dk_184 0 79 (dk_at dksX1_part_0 18 rfl rfl)
theorem dX1_part_21 : decode cX1_part 21 = .ok (.iload 4, 2) := dk_21 4 (dk_at dksX1_part_0 21 rfl rfl)
theorem dX1_part_23 : decode cX1_part 23 = .ok (.iconst 0, 1) := dk_3 (dk_at dksX1_part_0 23 rfl rfl)
theorem dX1_part_24 : decode cX1_part 24 = .ok (.bipush 9, 2) := dk_16 9 (dk_at dksX1_part_1 0 rfl rfl)
theorem dX1_part_26 : decode cX1_part 26 = .ok (.invokestatic 79, 3) := dk_184 0 79 (dk_at dksX1_part_1 2 rfl rfl)
theorem dX1_part_29 : decode cX1_part 29 = .ok (.aload_n 0, 1) := dk_42 (dk_at dksX1_part_1 5 rfl rfl)
theorem dX1_part_30 : decode cX1_part 30 = .ok (.getfield 22, 3) := dk_180 0 22 (dk_at dksX1_part_1 6 rfl rfl)
theorem dX1_part_33 : decode cX1_part 33 = .ok (.invokeinterface 65 1, 5) := by decide +kernel
theorem dX1_part_38 : decode cX1_part 38 = .ok (.bipush 24, 2) := dk_16 24 (dk_at dksX1_part_1 14 rfl rfl)
theorem dX1_part_40 : decode cX1_part 40 = .ok (.if_icmp .ge 18, 3) := dk_162 0 18 (dk_at dksX1_part_1 16 rfl rfl)
theorem dX1_part_43 : decode cX1_part 43 = .ok (.aload 5, 2) := dk_25 5 (dk_at dksX1_part_1 19 rfl rfl)
theorem dX1_part_45 : decode cX1_part 45 = .ok (.getstatic 116, 3) := dk_178 0 116 (dk_at dksX1_part_1 21 rfl rfl)
theorem dX1_part_48 : decode cX1_part 48 = .ok (.invokevirtual 122, 3) := dk_182 0 122 (dk_at dksX1_part_2 0 rfl rfl)
theorem dX1_part_51 : decode cX1_part 51 = .ok (.ifCond .eq 7, 3) := dk_153 0 7 (dk_at dksX1_part_2 3 rfl rfl)
theorem dX1_part_54 : decode cX1_part 54 = .ok (.iconst 1, 1) := dk_4 (dk_at dksX1_part_2 6 rfl rfl)
theorem dX1_part_55 : decode cX1_part 55 = .ok (.goto 4, 3) := dk_167 0 4 (dk_at dksX1_part_2 7 rfl rfl)
theorem dX1_part_58 : decode cX1_part 58 = .ok (.iconst 0, 1) := dk_3 (dk_at dksX1_part_2 10 rfl rfl)
theorem dX1_part_59 : decode cX1_part 59 = .ok (.invokestatic 93, 3) := dk_184 0 93 (dk_at dksX1_part_2 11 rfl rfl)
theorem dX1_part_62 : decode cX1_part 62 = .ok (.aload_n 0, 1) := dk_42 (dk_at dksX1_part_2 14 rfl rfl)
theorem dX1_part_63 : decode cX1_part 63 = .ok (.getfield 22, 3) := dk_180 0 22 (dk_at dksX1_part_2 15 rfl rfl)
theorem dX1_part_66 : decode cX1_part 66 = .ok (.new 73, 3) := dk_187 0 73 (dk_at dksX1_part_2 18 rfl rfl)
theorem dX1_part_69 : decode cX1_part 69 = .ok (.dup, 1) := dk_89 (dk_at dksX1_part_2 21 rfl rfl)
theorem dX1_part_70 : decode cX1_part 70 = .ok (.iload_n 2, 1) := dk_28 (dk_at dksX1_part_2 22 rfl rfl)
theorem dX1_part_71 : decode cX1_part 71 = .ok (.iload_n 3, 1) := dk_29 (dk_at dksX1_part_2 23 rfl rfl)
theorem dX1_part_72 : decode cX1_part 72 = .ok (.iload 4, 2) := dk_21 4 (dk_at dksX1_part_3 0 rfl rfl)
theorem dX1_part_74 : decode cX1_part 74 = .ok (.iload_n 1, 1) := dk_27 (dk_at dksX1_part_3 2 rfl rfl)
theorem dX1_part_75 : decode cX1_part 75 = .ok (.invokespecial 126, 3) := dk_183 0 126 (dk_at dksX1_part_3 3 rfl rfl)
theorem dX1_part_78 : decode cX1_part 78 = .ok (.invokeinterface 38 2, 5) := by decide +kernel
theorem dX1_part_83 : decode cX1_part 83 = .ok (.pop, 1) := dk_87 (dk_at dksX1_part_3 11 rfl rfl)
theorem dX1_part_84 : decode cX1_part 84 = .ok (.aload_n 0, 1) := dk_42 (dk_at dksX1_part_3 12 rfl rfl)
theorem dX1_part_85 : decode cX1_part 85 = .ok (.getfield 22, 3) := dk_180 0 22 (dk_at dksX1_part_3 13 rfl rfl)
theorem dX1_part_88 : decode cX1_part 88 = .ok (.invokeinterface 65 1, 5) := by decide +kernel
theorem dX1_part_93 : decode cX1_part 93 = .ok (.iconst 1, 1) := dk_4 (dk_at dksX1_part_3 21 rfl rfl)
theorem dX1_part_94 : decode cX1_part 94 = .ok (.isub, 1) := dk_100 (dk_at dksX1_part_3 22 rfl rfl)
theorem dX1_part_95 : decode cX1_part 95 = .ok (.ireturn, 1) := dk_172 (dk_at dksX1_part_3 23 rfl rfl)
abbrev cX1_sleeperAt : ByteArray := prog_1_method_9_code
def yX1_sleeperAt : MethodName := ⟨RX1, "sleeperAt", "(I)LLullabygate$Sleeper;"⟩
def dkwX1_sleeperAt_1 : List UInt8 := [192, 0, 71, 176]
abbrev dktX1_sleeperAt_1 : List UInt8 := dkwX1_sleeperAt_1 ++ []
def dkwX1_sleeperAt_0 : List UInt8 := [27, 42, 180, 0, 19, 185, 0, 65, 1, 0, 184, 0, 57, 42, 180, 0, 19, 27, 185, 0, 61, 2, 0]
abbrev dktX1_sleeperAt_0 : List UInt8 := dkwX1_sleeperAt_0 ++ dktX1_sleeperAt_1
theorem dksX1_sleeperAt_0 : cX1_sleeperAt.data.toList.drop 0 = dktX1_sleeperAt_0 := by decide +kernel
theorem dksX1_sleeperAt_1 : cX1_sleeperAt.data.toList.drop 23 = dktX1_sleeperAt_1 := dk_seg dksX1_sleeperAt_0 23 rfl rfl
theorem dX1_sleeperAt_0 : decode cX1_sleeperAt 0 = .ok (.iload_n 1, 1) := dk_27 (dk_at dksX1_sleeperAt_0 0 rfl rfl)
theorem dX1_sleeperAt_1 : decode cX1_sleeperAt 1 = .ok (.aload_n 0, 1) := dk_42 (dk_at dksX1_sleeperAt_0 1 rfl rfl)
theorem dX1_sleeperAt_2 : decode cX1_sleeperAt 2 = .ok (.getfield 19, 3) := dk_180 0 19 (dk_at dksX1_sleeperAt_0 2 rfl rfl)
theorem dX1_sleeperAt_5 : decode cX1_sleeperAt 5 = .ok (.invokeinterface 65 1, 5) := by decide +kernel
theorem dX1_sleeperAt_10 : decode cX1_sleeperAt 10 = .ok (.invokestatic 57, 3) := dk_184 0 57 (dk_at dksX1_sleeperAt_0 10 rfl rfl)
theorem dX1_sleeperAt_13 : decode cX1_sleeperAt 13 = .ok (.aload_n 0, 1) := dk_42 (dk_at dksX1_sleeperAt_0 13 rfl rfl)
theorem dX1_sleeperAt_14 : decode cX1_sleeperAt 14 = .ok (.getfield 19, 3) := dk_180 0 19 (dk_at dksX1_sleeperAt_0 14 rfl rfl)
theorem dX1_sleeperAt_17 : decode cX1_sleeperAt 17 = .ok (.iload_n 1, 1) := dk_27 (dk_at dksX1_sleeperAt_0 17 rfl rfl)
theorem dX1_sleeperAt_18 : decode cX1_sleeperAt 18 = .ok (.invokeinterface 61 2, 5) := by decide +kernel
theorem dX1_sleeperAt_23 : decode cX1_sleeperAt 23 = .ok (.checkcast 71, 3) := dk_192 0 71 (dk_at dksX1_sleeperAt_1 0 rfl rfl)
theorem dX1_sleeperAt_26 : decode cX1_sleeperAt 26 = .ok (.areturn, 1) := dk_176 (dk_at dksX1_sleeperAt_1 3 rfl rfl)
abbrev cX1_give : ByteArray := prog_1_method_18_code
def yX1_give : MethodName := ⟨RX1, "give", "(II)I"⟩
def dkwX1_give_4 : List UInt8 := [167, 0, 4, 3, 184, 0, 93, 45, 28, 181, 0, 131, 21, 5, 172]
abbrev dktX1_give_4 : List UInt8 := dkwX1_give_4 ++ []
def dkwX1_give_3 : List UInt8 := [178, 0, 116, 182, 0, 122, 153, 0, 20, 25, 6, 180, 0, 134, 25, 4, 180, 0, 134, 160, 0, 7, 4]
abbrev dktX1_give_3 : List UInt8 := dkwX1_give_3 ++ dktX1_give_4
def dkwX1_give_2 : List UInt8 := [185, 0, 61, 2, 0, 192, 0, 71, 58, 6, 25, 6, 178, 0, 116, 182, 0, 122, 153, 0, 31, 25, 4]
abbrev dktX1_give_2 : List UInt8 := dkwX1_give_2 ++ dktX1_give_3
def dkwX1_give_1 : List UInt8 := [159, 0, 13, 21, 5, 28, 159, 0, 7, 4, 167, 0, 4, 3, 184, 0, 93, 42, 180, 0, 19, 21, 5]
abbrev dktX1_give_1 : List UInt8 := dkwX1_give_1 ++ dktX1_give_2
def dkwX1_give_0 : List UInt8 := [42, 27, 182, 0, 127, 78, 42, 28, 182, 0, 112, 58, 4, 45, 180, 0, 131, 54, 5, 21, 5, 2]
abbrev dktX1_give_0 : List UInt8 := dkwX1_give_0 ++ dktX1_give_1
theorem dksX1_give_0 : cX1_give.data.toList.drop 0 = dktX1_give_0 := by decide +kernel
theorem dksX1_give_1 : cX1_give.data.toList.drop 22 = dktX1_give_1 := dk_seg dksX1_give_0 22 rfl rfl
theorem dksX1_give_2 : cX1_give.data.toList.drop 45 = dktX1_give_2 := dk_seg dksX1_give_1 23 rfl rfl
theorem dksX1_give_3 : cX1_give.data.toList.drop 68 = dktX1_give_3 := dk_seg dksX1_give_2 23 rfl rfl
theorem dksX1_give_4 : cX1_give.data.toList.drop 91 = dktX1_give_4 := dk_seg dksX1_give_3 23 rfl rfl
theorem dX1_give_0 : decode cX1_give 0 = .ok (.aload_n 0, 1) := dk_42 (dk_at dksX1_give_0 0 rfl rfl)
theorem dX1_give_1 : decode cX1_give 1 = .ok (.iload_n 1, 1) := dk_27 (dk_at dksX1_give_0 1 rfl rfl)
theorem dX1_give_2 : decode cX1_give 2 = .ok (.invokevirtual 127, 3) := dk_182 0 127 (dk_at dksX1_give_0 2 rfl rfl)
theorem dX1_give_5 : decode cX1_give 5 = .ok (.astore_n 3, 1) := dk_78 (dk_at dksX1_give_0 5 rfl rfl)
theorem dX1_give_6 : decode cX1_give 6 = .ok (.aload_n 0, 1) := dk_42 (dk_at dksX1_give_0 6 rfl rfl)
theorem dX1_give_7 : decode cX1_give 7 = .ok (.iload_n 2, 1) := dk_28 (dk_at dksX1_give_0 7 rfl rfl)
theorem dX1_give_8 : decode cX1_give 8 = .ok (.invokevirtual 112, 3) := dk_182 0 112 (dk_at dksX1_give_0 8 rfl rfl)
theorem dX1_give_11 : decode cX1_give 11 = .ok (.astore 4, 2) := dk_58 4 (dk_at dksX1_give_0 11 rfl rfl)
theorem dX1_give_13 : decode cX1_give 13 = .ok (.aload_n 3, 1) := dk_45 (dk_at dksX1_give_0 13 rfl rfl)
theorem dX1_give_14 : decode cX1_give 14 = .ok (.getfield 131, 3) := dk_180 0 131 (dk_at dksX1_give_0 14 rfl rfl)
theorem dX1_give_17 : decode cX1_give 17 = .ok (.istore 5, 2) := dk_54 5 (dk_at dksX1_give_0 17 rfl rfl)
theorem dX1_give_19 : decode cX1_give 19 = .ok (.iload 5, 2) := dk_21 5 (dk_at dksX1_give_0 19 rfl rfl)
theorem dX1_give_21 : decode cX1_give 21 = .ok (.iconst (-1), 1) := dk_2 (dk_at dksX1_give_0 21 rfl rfl)
theorem dX1_give_22 : decode cX1_give 22 = .ok (.if_icmp .eq 13, 3) := dk_159 0 13 (dk_at dksX1_give_1 0 rfl rfl)
theorem dX1_give_25 : decode cX1_give 25 = .ok (.iload 5, 2) := dk_21 5 (dk_at dksX1_give_1 3 rfl rfl)
theorem dX1_give_27 : decode cX1_give 27 = .ok (.iload_n 2, 1) := dk_28 (dk_at dksX1_give_1 5 rfl rfl)
theorem dX1_give_28 : decode cX1_give 28 = .ok (.if_icmp .eq 7, 3) := dk_159 0 7 (dk_at dksX1_give_1 6 rfl rfl)
theorem dX1_give_31 : decode cX1_give 31 = .ok (.iconst 1, 1) := dk_4 (dk_at dksX1_give_1 9 rfl rfl)
theorem dX1_give_32 : decode cX1_give 32 = .ok (.goto 4, 3) := dk_167 0 4 (dk_at dksX1_give_1 10 rfl rfl)
theorem dX1_give_35 : decode cX1_give 35 = .ok (.iconst 0, 1) := dk_3 (dk_at dksX1_give_1 13 rfl rfl)
theorem dX1_give_36 : decode cX1_give 36 = .ok (.invokestatic 93, 3) := dk_184 0 93 (dk_at dksX1_give_1 14 rfl rfl)
theorem dX1_give_39 : decode cX1_give 39 = .ok (.aload_n 0, 1) := dk_42 (dk_at dksX1_give_1 17 rfl rfl)
theorem dX1_give_40 : decode cX1_give 40 = .ok (.getfield 19, 3) := dk_180 0 19 (dk_at dksX1_give_1 18 rfl rfl)
theorem dX1_give_43 : decode cX1_give 43 = .ok (.iload 5, 2) := dk_21 5 (dk_at dksX1_give_1 21 rfl rfl)
theorem dX1_give_45 : decode cX1_give 45 = .ok (.invokeinterface 61 2, 5) := by decide +kernel
theorem dX1_give_50 : decode cX1_give 50 = .ok (.checkcast 71, 3) := dk_192 0 71 (dk_at dksX1_give_2 5 rfl rfl)
theorem dX1_give_53 : decode cX1_give 53 = .ok (.astore 6, 2) := dk_58 6 (dk_at dksX1_give_2 8 rfl rfl)
theorem dX1_give_55 : decode cX1_give 55 = .ok (.aload 6, 2) := dk_25 6 (dk_at dksX1_give_2 10 rfl rfl)
theorem dX1_give_57 : decode cX1_give 57 = .ok (.getstatic 116, 3) := dk_178 0 116 (dk_at dksX1_give_2 12 rfl rfl)
theorem dX1_give_60 : decode cX1_give 60 = .ok (.invokevirtual 122, 3) := dk_182 0 122 (dk_at dksX1_give_2 15 rfl rfl)
theorem dX1_give_63 : decode cX1_give 63 = .ok (.ifCond .eq 31, 3) := dk_153 0 31 (dk_at dksX1_give_2 18 rfl rfl)
theorem dX1_give_66 : decode cX1_give 66 = .ok (.aload 4, 2) := dk_25 4 (dk_at dksX1_give_2 21 rfl rfl)
theorem dX1_give_68 : decode cX1_give 68 = .ok (.getstatic 116, 3) := dk_178 0 116 (dk_at dksX1_give_3 0 rfl rfl)
theorem dX1_give_71 : decode cX1_give 71 = .ok (.invokevirtual 122, 3) := dk_182 0 122 (dk_at dksX1_give_3 3 rfl rfl)
theorem dX1_give_74 : decode cX1_give 74 = .ok (.ifCond .eq 20, 3) := dk_153 0 20 (dk_at dksX1_give_3 6 rfl rfl)
theorem dX1_give_77 : decode cX1_give 77 = .ok (.aload 6, 2) := dk_25 6 (dk_at dksX1_give_3 9 rfl rfl)
theorem dX1_give_79 : decode cX1_give 79 = .ok (.getfield 134, 3) := dk_180 0 134 (dk_at dksX1_give_3 11 rfl rfl)
theorem dX1_give_82 : decode cX1_give 82 = .ok (.aload 4, 2) := dk_25 4 (dk_at dksX1_give_3 14 rfl rfl)
theorem dX1_give_84 : decode cX1_give 84 = .ok (.getfield 134, 3) := dk_180 0 134 (dk_at dksX1_give_3 16 rfl rfl)
theorem dX1_give_87 : decode cX1_give 87 = .ok (.if_icmp .ne 7, 3) := dk_160 0 7 (dk_at dksX1_give_3 19 rfl rfl)
theorem dX1_give_90 : decode cX1_give 90 = .ok (.iconst 1, 1) := dk_4 (dk_at dksX1_give_3 22 rfl rfl)
theorem dX1_give_91 : decode cX1_give 91 = .ok (.goto 4, 3) := dk_167 0 4 (dk_at dksX1_give_4 0 rfl rfl)
theorem dX1_give_94 : decode cX1_give 94 = .ok (.iconst 0, 1) := dk_3 (dk_at dksX1_give_4 3 rfl rfl)
theorem dX1_give_95 : decode cX1_give 95 = .ok (.invokestatic 93, 3) := dk_184 0 93 (dk_at dksX1_give_4 4 rfl rfl)
theorem dX1_give_98 : decode cX1_give 98 = .ok (.aload_n 3, 1) := dk_45 (dk_at dksX1_give_4 7 rfl rfl)
theorem dX1_give_99 : decode cX1_give 99 = .ok (.iload_n 2, 1) := dk_28 (dk_at dksX1_give_4 8 rfl rfl)
theorem dX1_give_100 : decode cX1_give 100 = .ok (.putfield 131, 3) := dk_181 0 131 (dk_at dksX1_give_4 9 rfl rfl)
theorem dX1_give_103 : decode cX1_give 103 = .ok (.iload 5, 2) := dk_21 5 (dk_at dksX1_give_4 12 rfl rfl)
theorem dX1_give_105 : decode cX1_give 105 = .ok (.ireturn, 1) := dk_172 (dk_at dksX1_give_4 14 rfl rfl)
abbrev cX1_partAt : ByteArray := prog_1_method_10_code
def yX1_partAt : MethodName := ⟨RX1, "partAt", "(I)LLullabygate$Part;"⟩
def dkwX1_partAt_1 : List UInt8 := [192, 0, 73, 176]
abbrev dktX1_partAt_1 : List UInt8 := dkwX1_partAt_1 ++ []
def dkwX1_partAt_0 : List UInt8 := [27, 42, 180, 0, 22, 185, 0, 65, 1, 0, 184, 0, 57, 42, 180, 0, 22, 27, 185, 0, 61, 2, 0]
abbrev dktX1_partAt_0 : List UInt8 := dkwX1_partAt_0 ++ dktX1_partAt_1
theorem dksX1_partAt_0 : cX1_partAt.data.toList.drop 0 = dktX1_partAt_0 := by decide +kernel
theorem dksX1_partAt_1 : cX1_partAt.data.toList.drop 23 = dktX1_partAt_1 := dk_seg dksX1_partAt_0 23 rfl rfl
theorem dX1_partAt_0 : decode cX1_partAt 0 = .ok (.iload_n 1, 1) := dk_27 (dk_at dksX1_partAt_0 0 rfl rfl)
theorem dX1_partAt_1 : decode cX1_partAt 1 = .ok (.aload_n 0, 1) := dk_42 (dk_at dksX1_partAt_0 1 rfl rfl)
theorem dX1_partAt_2 : decode cX1_partAt 2 = .ok (.getfield 22, 3) := dk_180 0 22 (dk_at dksX1_partAt_0 2 rfl rfl)
theorem dX1_partAt_5 : decode cX1_partAt 5 = .ok (.invokeinterface 65 1, 5) := by decide +kernel
theorem dX1_partAt_10 : decode cX1_partAt 10 = .ok (.invokestatic 57, 3) := dk_184 0 57 (dk_at dksX1_partAt_0 10 rfl rfl)
theorem dX1_partAt_13 : decode cX1_partAt 13 = .ok (.aload_n 0, 1) := dk_42 (dk_at dksX1_partAt_0 13 rfl rfl)
theorem dX1_partAt_14 : decode cX1_partAt 14 = .ok (.getfield 22, 3) := dk_180 0 22 (dk_at dksX1_partAt_0 14 rfl rfl)
theorem dX1_partAt_17 : decode cX1_partAt 17 = .ok (.iload_n 1, 1) := dk_27 (dk_at dksX1_partAt_0 17 rfl rfl)
theorem dX1_partAt_18 : decode cX1_partAt 18 = .ok (.invokeinterface 61 2, 5) := by decide +kernel
theorem dX1_partAt_23 : decode cX1_partAt 23 = .ok (.checkcast 73, 3) := dk_192 0 73 (dk_at dksX1_partAt_1 0 rfl rfl)
theorem dX1_partAt_26 : decode cX1_partAt 26 = .ok (.areturn, 1) := dk_176 (dk_at dksX1_partAt_1 3 rfl rfl)
abbrev cX1_sing : ByteArray := prog_1_method_19_code
def yX1_sing : MethodName := ⟨RX1, "sing", "(IIII)I"⟩
def dkwX1_sing_2 : List UInt8 := [181, 0, 150, 25, 5, 28, 29, 182, 0, 154, 172]
abbrev dktX1_sing_2 : List UInt8 := dkwX1_sing_2 ++ []
def dkwX1_sing_1 : List UInt8 := [21, 4, 3, 16, 96, 184, 0, 79, 25, 5, 187, 0, 140, 89, 28, 29, 21, 4, 183, 0, 142, 184, 0, 144]
abbrev dktX1_sing_1 : List UInt8 := dkwX1_sing_1 ++ dktX1_sing_2
def dkwX1_sing_0 : List UInt8 := [42, 27, 182, 0, 112, 58, 5, 42, 28, 182, 0, 99, 87, 29, 42, 180, 0, 137, 16, 99, 184, 0, 79]
abbrev dktX1_sing_0 : List UInt8 := dkwX1_sing_0 ++ dktX1_sing_1
theorem dksX1_sing_0 : cX1_sing.data.toList.drop 0 = dktX1_sing_0 := by decide +kernel
theorem dksX1_sing_1 : cX1_sing.data.toList.drop 23 = dktX1_sing_1 := dk_seg dksX1_sing_0 23 rfl rfl
theorem dksX1_sing_2 : cX1_sing.data.toList.drop 47 = dktX1_sing_2 := dk_seg dksX1_sing_1 24 rfl rfl
theorem dX1_sing_0 : decode cX1_sing 0 = .ok (.aload_n 0, 1) := dk_42 (dk_at dksX1_sing_0 0 rfl rfl)
theorem dX1_sing_1 : decode cX1_sing 1 = .ok (.iload_n 1, 1) := dk_27 (dk_at dksX1_sing_0 1 rfl rfl)
theorem dX1_sing_2 : decode cX1_sing 2 = .ok (.invokevirtual 112, 3) := dk_182 0 112 (dk_at dksX1_sing_0 2 rfl rfl)
theorem dX1_sing_5 : decode cX1_sing 5 = .ok (.astore 5, 2) := dk_58 5 (dk_at dksX1_sing_0 5 rfl rfl)
theorem dX1_sing_7 : decode cX1_sing 7 = .ok (.aload_n 0, 1) := dk_42 (dk_at dksX1_sing_0 7 rfl rfl)
theorem dX1_sing_8 : decode cX1_sing 8 = .ok (.iload_n 2, 1) := dk_28 (dk_at dksX1_sing_0 8 rfl rfl)
theorem dX1_sing_9 : decode cX1_sing 9 = .ok (.invokevirtual 99, 3) := dk_182 0 99 (dk_at dksX1_sing_0 9 rfl rfl)
theorem dX1_sing_12 : decode cX1_sing 12 = .ok (.pop, 1) := dk_87 (dk_at dksX1_sing_0 12 rfl rfl)
theorem dX1_sing_13 : decode cX1_sing 13 = .ok (.iload_n 3, 1) := dk_29 (dk_at dksX1_sing_0 13 rfl rfl)
theorem dX1_sing_14 : decode cX1_sing 14 = .ok (.aload_n 0, 1) := dk_42 (dk_at dksX1_sing_0 14 rfl rfl)
theorem dX1_sing_15 : decode cX1_sing 15 = .ok (.getfield 137, 3) := dk_180 0 137 (dk_at dksX1_sing_0 15 rfl rfl)
theorem dX1_sing_18 : decode cX1_sing 18 = .ok (.bipush 99, 2) := dk_16 99 (dk_at dksX1_sing_0 18 rfl rfl)
theorem dX1_sing_20 : decode cX1_sing 20 = .ok (.invokestatic 79, 3) := dk_184 0 79 (dk_at dksX1_sing_0 20 rfl rfl)
theorem dX1_sing_23 : decode cX1_sing 23 = .ok (.iload 4, 2) := dk_21 4 (dk_at dksX1_sing_1 0 rfl rfl)
theorem dX1_sing_25 : decode cX1_sing 25 = .ok (.iconst 0, 1) := dk_3 (dk_at dksX1_sing_1 2 rfl rfl)
theorem dX1_sing_26 : decode cX1_sing 26 = .ok (.bipush 96, 2) := dk_16 96 (dk_at dksX1_sing_1 3 rfl rfl)
theorem dX1_sing_28 : decode cX1_sing 28 = .ok (.invokestatic 79, 3) := dk_184 0 79 (dk_at dksX1_sing_1 5 rfl rfl)
theorem dX1_sing_31 : decode cX1_sing 31 = .ok (.aload 5, 2) := dk_25 5 (dk_at dksX1_sing_1 8 rfl rfl)
theorem dX1_sing_33 : decode cX1_sing 33 = .ok (.new 140, 3) := dk_187 0 140 (dk_at dksX1_sing_1 10 rfl rfl)
theorem dX1_sing_36 : decode cX1_sing 36 = .ok (.dup, 1) := dk_89 (dk_at dksX1_sing_1 13 rfl rfl)
theorem dX1_sing_37 : decode cX1_sing 37 = .ok (.iload_n 2, 1) := dk_28 (dk_at dksX1_sing_1 14 rfl rfl)
theorem dX1_sing_38 : decode cX1_sing 38 = .ok (.iload_n 3, 1) := dk_29 (dk_at dksX1_sing_1 15 rfl rfl)
theorem dX1_sing_39 : decode cX1_sing 39 = .ok (.iload 4, 2) := dk_21 4 (dk_at dksX1_sing_1 16 rfl rfl)
theorem dX1_sing_41 : decode cX1_sing 41 = .ok (.invokespecial 142, 3) := dk_183 0 142 (dk_at dksX1_sing_1 18 rfl rfl)
theorem dX1_sing_44 : decode cX1_sing 44 = .ok (.invokestatic 144, 3) := dk_184 0 144 (dk_at dksX1_sing_1 21 rfl rfl)
theorem dX1_sing_47 : decode cX1_sing 47 = .ok (.putfield 150, 3) := dk_181 0 150 (dk_at dksX1_sing_2 0 rfl rfl)
theorem dX1_sing_50 : decode cX1_sing 50 = .ok (.aload 5, 2) := dk_25 5 (dk_at dksX1_sing_2 3 rfl rfl)
theorem dX1_sing_52 : decode cX1_sing 52 = .ok (.iload_n 2, 1) := dk_28 (dk_at dksX1_sing_2 5 rfl rfl)
theorem dX1_sing_53 : decode cX1_sing 53 = .ok (.iload_n 3, 1) := dk_29 (dk_at dksX1_sing_2 6 rfl rfl)
theorem dX1_sing_54 : decode cX1_sing 54 = .ok (.invokevirtual 154, 3) := dk_182 0 154 (dk_at dksX1_sing_2 7 rfl rfl)
theorem dX1_sing_57 : decode cX1_sing 57 = .ok (.ireturn, 1) := dk_172 (dk_at dksX1_sing_2 10 rfl rfl)
abbrev cX1_revoke : ByteArray := prog_1_method_20_code
def yX1_revoke : MethodName := ⟨RX1, "revoke", "(II)Z"⟩
def dkwX1_revoke_1 : List UInt8 := [180, 0, 158, 28, 4, 84, 21, 4, 154, 0, 7, 4, 167, 0, 4, 3, 172]
abbrev dktX1_revoke_1 : List UInt8 := dkwX1_revoke_1 ++ []
def dkwX1_revoke_0 : List UInt8 := [42, 27, 182, 0, 99, 78, 28, 3, 16, 96, 184, 0, 79, 45, 180, 0, 158, 28, 51, 54, 4, 45]
abbrev dktX1_revoke_0 : List UInt8 := dkwX1_revoke_0 ++ dktX1_revoke_1
theorem dksX1_revoke_0 : cX1_revoke.data.toList.drop 0 = dktX1_revoke_0 := by decide +kernel
theorem dksX1_revoke_1 : cX1_revoke.data.toList.drop 22 = dktX1_revoke_1 := dk_seg dksX1_revoke_0 22 rfl rfl
theorem dX1_revoke_0 : decode cX1_revoke 0 = .ok (.aload_n 0, 1) := dk_42 (dk_at dksX1_revoke_0 0 rfl rfl)
theorem dX1_revoke_1 : decode cX1_revoke 1 = .ok (.iload_n 1, 1) := dk_27 (dk_at dksX1_revoke_0 1 rfl rfl)
theorem dX1_revoke_2 : decode cX1_revoke 2 = .ok (.invokevirtual 99, 3) := dk_182 0 99 (dk_at dksX1_revoke_0 2 rfl rfl)
theorem dX1_revoke_5 : decode cX1_revoke 5 = .ok (.astore_n 3, 1) := dk_78 (dk_at dksX1_revoke_0 5 rfl rfl)
theorem dX1_revoke_6 : decode cX1_revoke 6 = .ok (.iload_n 2, 1) := dk_28 (dk_at dksX1_revoke_0 6 rfl rfl)
theorem dX1_revoke_7 : decode cX1_revoke 7 = .ok (.iconst 0, 1) := dk_3 (dk_at dksX1_revoke_0 7 rfl rfl)
theorem dX1_revoke_8 : decode cX1_revoke 8 = .ok (.bipush 96, 2) := dk_16 96 (dk_at dksX1_revoke_0 8 rfl rfl)
theorem dX1_revoke_10 : decode cX1_revoke 10 = .ok (.invokestatic 79, 3) := dk_184 0 79 (dk_at dksX1_revoke_0 10 rfl rfl)
theorem dX1_revoke_13 : decode cX1_revoke 13 = .ok (.aload_n 3, 1) := dk_45 (dk_at dksX1_revoke_0 13 rfl rfl)
theorem dX1_revoke_14 : decode cX1_revoke 14 = .ok (.getfield 158, 3) := dk_180 0 158 (dk_at dksX1_revoke_0 14 rfl rfl)
theorem dX1_revoke_17 : decode cX1_revoke 17 = .ok (.iload_n 2, 1) := dk_28 (dk_at dksX1_revoke_0 17 rfl rfl)
theorem dX1_revoke_18 : decode cX1_revoke 18 = .ok (.baload, 1) := dk_51 (dk_at dksX1_revoke_0 18 rfl rfl)
theorem dX1_revoke_19 : decode cX1_revoke 19 = .ok (.istore 4, 2) := dk_54 4 (dk_at dksX1_revoke_0 19 rfl rfl)
theorem dX1_revoke_21 : decode cX1_revoke 21 = .ok (.aload_n 3, 1) := dk_45 (dk_at dksX1_revoke_0 21 rfl rfl)
theorem dX1_revoke_22 : decode cX1_revoke 22 = .ok (.getfield 158, 3) := dk_180 0 158 (dk_at dksX1_revoke_1 0 rfl rfl)
theorem dX1_revoke_25 : decode cX1_revoke 25 = .ok (.iload_n 2, 1) := dk_28 (dk_at dksX1_revoke_1 3 rfl rfl)
theorem dX1_revoke_26 : decode cX1_revoke 26 = .ok (.iconst 1, 1) := dk_4 (dk_at dksX1_revoke_1 4 rfl rfl)
theorem dX1_revoke_27 : decode cX1_revoke 27 = .ok (.bastore, 1) := dk_84 (dk_at dksX1_revoke_1 5 rfl rfl)
theorem dX1_revoke_28 : decode cX1_revoke 28 = .ok (.iload 4, 2) := dk_21 4 (dk_at dksX1_revoke_1 6 rfl rfl)
theorem dX1_revoke_30 : decode cX1_revoke 30 = .ok (.ifCond .ne 7, 3) := dk_154 0 7 (dk_at dksX1_revoke_1 8 rfl rfl)
theorem dX1_revoke_33 : decode cX1_revoke 33 = .ok (.iconst 1, 1) := dk_4 (dk_at dksX1_revoke_1 11 rfl rfl)
theorem dX1_revoke_34 : decode cX1_revoke 34 = .ok (.goto 4, 3) := dk_167 0 4 (dk_at dksX1_revoke_1 12 rfl rfl)
theorem dX1_revoke_37 : decode cX1_revoke 37 = .ok (.iconst 0, 1) := dk_3 (dk_at dksX1_revoke_1 15 rfl rfl)
theorem dX1_revoke_38 : decode cX1_revoke 38 = .ok (.ireturn, 1) := dk_172 (dk_at dksX1_revoke_1 16 rfl rfl)
abbrev cX1_join : ByteArray := prog_1_method_23_code
def yX1_join : MethodName := ⟨RX1, "join", "(III)I"⟩
def dkwX1_join_4 : List UInt8 := [182, 0, 202, 172]
abbrev dktX1_join_4 : List UInt8 := dkwX1_join_4 ++ []
def dkwX1_join_3 : List UInt8 := [25, 4, 178, 0, 192, 181, 0, 195, 25, 4, 28, 181, 0, 198, 25, 4, 29, 181, 0, 199, 25, 5, 25, 4]
abbrev dktX1_join_3 : List UInt8 := dkwX1_join_3 ++ dktX1_join_4
def dkwX1_join_2 : List UInt8 := [153, 0, 20, 25, 5, 25, 4, 180, 0, 134, 182, 0, 188, 153, 0, 7, 4, 167, 0, 4, 3, 184, 0, 93]
abbrev dktX1_join_2 : List UInt8 := dkwX1_join_2 ++ dktX1_join_3
def dkwX1_join_1 : List UInt8 := [2, 130, 126, 154, 0, 7, 4, 167, 0, 4, 3, 184, 0, 47, 25, 4, 178, 0, 116, 182, 0, 122]
abbrev dktX1_join_1 : List UInt8 := dkwX1_join_1 ++ dktX1_join_2
def dkwX1_join_0 : List UInt8 := [42, 27, 182, 0, 112, 58, 4, 42, 28, 182, 0, 99, 58, 5, 29, 155, 0, 19, 29, 42, 27, 182, 0, 185]
abbrev dktX1_join_0 : List UInt8 := dkwX1_join_0 ++ dktX1_join_1
theorem dksX1_join_0 : cX1_join.data.toList.drop 0 = dktX1_join_0 := by decide +kernel
theorem dksX1_join_1 : cX1_join.data.toList.drop 24 = dktX1_join_1 := dk_seg dksX1_join_0 24 rfl rfl
theorem dksX1_join_2 : cX1_join.data.toList.drop 46 = dktX1_join_2 := dk_seg dksX1_join_1 22 rfl rfl
theorem dksX1_join_3 : cX1_join.data.toList.drop 70 = dktX1_join_3 := dk_seg dksX1_join_2 24 rfl rfl
theorem dksX1_join_4 : cX1_join.data.toList.drop 94 = dktX1_join_4 := dk_seg dksX1_join_3 24 rfl rfl
theorem dX1_join_0 : decode cX1_join 0 = .ok (.aload_n 0, 1) := dk_42 (dk_at dksX1_join_0 0 rfl rfl)
theorem dX1_join_1 : decode cX1_join 1 = .ok (.iload_n 1, 1) := dk_27 (dk_at dksX1_join_0 1 rfl rfl)
theorem dX1_join_2 : decode cX1_join 2 = .ok (.invokevirtual 112, 3) := dk_182 0 112 (dk_at dksX1_join_0 2 rfl rfl)
theorem dX1_join_5 : decode cX1_join 5 = .ok (.astore 4, 2) := dk_58 4 (dk_at dksX1_join_0 5 rfl rfl)
theorem dX1_join_7 : decode cX1_join 7 = .ok (.aload_n 0, 1) := dk_42 (dk_at dksX1_join_0 7 rfl rfl)
theorem dX1_join_8 : decode cX1_join 8 = .ok (.iload_n 2, 1) := dk_28 (dk_at dksX1_join_0 8 rfl rfl)
theorem dX1_join_9 : decode cX1_join 9 = .ok (.invokevirtual 99, 3) := dk_182 0 99 (dk_at dksX1_join_0 9 rfl rfl)
theorem dX1_join_12 : decode cX1_join 12 = .ok (.astore 5, 2) := dk_58 5 (dk_at dksX1_join_0 12 rfl rfl)
theorem dX1_join_14 : decode cX1_join 14 = .ok (.iload_n 3, 1) := dk_29 (dk_at dksX1_join_0 14 rfl rfl)
theorem dX1_join_15 : decode cX1_join 15 = .ok (.ifCond .lt 19, 3) := dk_155 0 19 (dk_at dksX1_join_0 15 rfl rfl)
theorem dX1_join_18 : decode cX1_join 18 = .ok (.iload_n 3, 1) := dk_29 (dk_at dksX1_join_0 18 rfl rfl)
theorem dX1_join_19 : decode cX1_join 19 = .ok (.aload_n 0, 1) := dk_42 (dk_at dksX1_join_0 19 rfl rfl)
theorem dX1_join_20 : decode cX1_join 20 = .ok (.iload_n 1, 1) := dk_27 (dk_at dksX1_join_0 20 rfl rfl)
theorem dX1_join_21 : decode cX1_join 21 = .ok (.invokevirtual 185, 3) := dk_182 0 185 (dk_at dksX1_join_0 21 rfl rfl)
theorem dX1_join_24 : decode cX1_join 24 = .ok (.iconst (-1), 1) := dk_2 (dk_at dksX1_join_1 0 rfl rfl)
theorem dX1_join_25 : decode cX1_join 25 = .ok (.ixor, 1) := dk_130 (dk_at dksX1_join_1 1 rfl rfl)
theorem dX1_join_26 : decode cX1_join 26 = .ok (.iand, 1) := dk_126 (dk_at dksX1_join_1 2 rfl rfl)
theorem dX1_join_27 : decode cX1_join 27 = .ok (.ifCond .ne 7, 3) := dk_154 0 7 (dk_at dksX1_join_1 3 rfl rfl)
theorem dX1_join_30 : decode cX1_join 30 = .ok (.iconst 1, 1) := dk_4 (dk_at dksX1_join_1 6 rfl rfl)
theorem dX1_join_31 : decode cX1_join 31 = .ok (.goto 4, 3) := dk_167 0 4 (dk_at dksX1_join_1 7 rfl rfl)
theorem dX1_join_34 : decode cX1_join 34 = .ok (.iconst 0, 1) := dk_3 (dk_at dksX1_join_1 10 rfl rfl)
theorem dX1_join_35 : decode cX1_join 35 = .ok (.invokestatic 47, 3) := dk_184 0 47 (dk_at dksX1_join_1 11 rfl rfl)
theorem dX1_join_38 : decode cX1_join 38 = .ok (.aload 4, 2) := dk_25 4 (dk_at dksX1_join_1 14 rfl rfl)
theorem dX1_join_40 : decode cX1_join 40 = .ok (.getstatic 116, 3) := dk_178 0 116 (dk_at dksX1_join_1 16 rfl rfl)
theorem dX1_join_43 : decode cX1_join 43 = .ok (.invokevirtual 122, 3) := dk_182 0 122 (dk_at dksX1_join_1 19 rfl rfl)
theorem dX1_join_46 : decode cX1_join 46 = .ok (.ifCond .eq 20, 3) := dk_153 0 20 (dk_at dksX1_join_2 0 rfl rfl)
theorem dX1_join_49 : decode cX1_join 49 = .ok (.aload 5, 2) := dk_25 5 (dk_at dksX1_join_2 3 rfl rfl)
theorem dX1_join_51 : decode cX1_join 51 = .ok (.aload 4, 2) := dk_25 4 (dk_at dksX1_join_2 5 rfl rfl)
theorem dX1_join_53 : decode cX1_join 53 = .ok (.getfield 134, 3) := dk_180 0 134 (dk_at dksX1_join_2 7 rfl rfl)
theorem dX1_join_56 : decode cX1_join 56 = .ok (.invokevirtual 188, 3) := dk_182 0 188 (dk_at dksX1_join_2 10 rfl rfl)
theorem dX1_join_59 : decode cX1_join 59 = .ok (.ifCond .eq 7, 3) := dk_153 0 7 (dk_at dksX1_join_2 13 rfl rfl)
theorem dX1_join_62 : decode cX1_join 62 = .ok (.iconst 1, 1) := dk_4 (dk_at dksX1_join_2 16 rfl rfl)
theorem dX1_join_63 : decode cX1_join 63 = .ok (.goto 4, 3) := dk_167 0 4 (dk_at dksX1_join_2 17 rfl rfl)
theorem dX1_join_66 : decode cX1_join 66 = .ok (.iconst 0, 1) := dk_3 (dk_at dksX1_join_2 20 rfl rfl)
theorem dX1_join_67 : decode cX1_join 67 = .ok (.invokestatic 93, 3) := dk_184 0 93 (dk_at dksX1_join_2 21 rfl rfl)
theorem dX1_join_70 : decode cX1_join 70 = .ok (.aload 4, 2) := dk_25 4 (dk_at dksX1_join_3 0 rfl rfl)
theorem dX1_join_72 : decode cX1_join 72 = .ok (.getstatic 192, 3) := dk_178 0 192 (dk_at dksX1_join_3 2 rfl rfl)
theorem dX1_join_75 : decode cX1_join 75 = .ok (.putfield 195, 3) := dk_181 0 195 (dk_at dksX1_join_3 5 rfl rfl)
theorem dX1_join_78 : decode cX1_join 78 = .ok (.aload 4, 2) := dk_25 4 (dk_at dksX1_join_3 8 rfl rfl)
theorem dX1_join_80 : decode cX1_join 80 = .ok (.iload_n 2, 1) := dk_28 (dk_at dksX1_join_3 10 rfl rfl)
theorem dX1_join_81 : decode cX1_join 81 = .ok (.putfield 198, 3) := dk_181 0 198 (dk_at dksX1_join_3 11 rfl rfl)
theorem dX1_join_84 : decode cX1_join 84 = .ok (.aload 4, 2) := dk_25 4 (dk_at dksX1_join_3 14 rfl rfl)
theorem dX1_join_86 : decode cX1_join 86 = .ok (.iload_n 3, 1) := dk_29 (dk_at dksX1_join_3 16 rfl rfl)
theorem dX1_join_87 : decode cX1_join 87 = .ok (.putfield 199, 3) := dk_181 0 199 (dk_at dksX1_join_3 17 rfl rfl)
theorem dX1_join_90 : decode cX1_join 90 = .ok (.aload 5, 2) := dk_25 5 (dk_at dksX1_join_3 20 rfl rfl)
theorem dX1_join_92 : decode cX1_join 92 = .ok (.aload 4, 2) := dk_25 4 (dk_at dksX1_join_3 22 rfl rfl)
theorem dX1_join_94 : decode cX1_join 94 = .ok (.invokevirtual 202, 3) := dk_182 0 202 (dk_at dksX1_join_4 0 rfl rfl)
theorem dX1_join_97 : decode cX1_join 97 = .ok (.ireturn, 1) := dk_172 (dk_at dksX1_join_4 3 rfl rfl)
abbrev cX1_leave : ByteArray := prog_1_method_24_code
def yX1_leave : MethodName := ⟨RX1, "leave", "(I)I"⟩
def dkwX1_leave_2 : List UInt8 := [185, 0, 212, 2, 0, 87, 44, 182, 0, 215, 21, 4, 172]
abbrev dktX1_leave_2 : List UInt8 := dkwX1_leave_2 ++ []
def dkwX1_leave_1 : List UInt8 := [185, 0, 61, 2, 0, 192, 0, 69, 78, 45, 44, 182, 0, 206, 54, 4, 45, 180, 0, 209, 21, 4]
abbrev dktX1_leave_1 : List UInt8 := dkwX1_leave_1 ++ dktX1_leave_2
def dkwX1_leave_0 : List UInt8 := [42, 27, 182, 0, 112, 77, 44, 178, 0, 192, 182, 0, 122, 184, 0, 93, 42, 180, 0, 16, 44, 180, 0, 198]
abbrev dktX1_leave_0 : List UInt8 := dkwX1_leave_0 ++ dktX1_leave_1
theorem dksX1_leave_0 : cX1_leave.data.toList.drop 0 = dktX1_leave_0 := by decide +kernel
theorem dksX1_leave_1 : cX1_leave.data.toList.drop 24 = dktX1_leave_1 := dk_seg dksX1_leave_0 24 rfl rfl
theorem dksX1_leave_2 : cX1_leave.data.toList.drop 46 = dktX1_leave_2 := dk_seg dksX1_leave_1 22 rfl rfl
theorem dX1_leave_0 : decode cX1_leave 0 = .ok (.aload_n 0, 1) := dk_42 (dk_at dksX1_leave_0 0 rfl rfl)
theorem dX1_leave_1 : decode cX1_leave 1 = .ok (.iload_n 1, 1) := dk_27 (dk_at dksX1_leave_0 1 rfl rfl)
theorem dX1_leave_2 : decode cX1_leave 2 = .ok (.invokevirtual 112, 3) := dk_182 0 112 (dk_at dksX1_leave_0 2 rfl rfl)
theorem dX1_leave_5 : decode cX1_leave 5 = .ok (.astore_n 2, 1) := dk_77 (dk_at dksX1_leave_0 5 rfl rfl)
theorem dX1_leave_6 : decode cX1_leave 6 = .ok (.aload_n 2, 1) := dk_44 (dk_at dksX1_leave_0 6 rfl rfl)
theorem dX1_leave_7 : decode cX1_leave 7 = .ok (.getstatic 192, 3) := dk_178 0 192 (dk_at dksX1_leave_0 7 rfl rfl)
theorem dX1_leave_10 : decode cX1_leave 10 = .ok (.invokevirtual 122, 3) := dk_182 0 122 (dk_at dksX1_leave_0 10 rfl rfl)
theorem dX1_leave_13 : decode cX1_leave 13 = .ok (.invokestatic 93, 3) := dk_184 0 93 (dk_at dksX1_leave_0 13 rfl rfl)
theorem dX1_leave_16 : decode cX1_leave 16 = .ok (.aload_n 0, 1) := dk_42 (dk_at dksX1_leave_0 16 rfl rfl)
theorem dX1_leave_17 : decode cX1_leave 17 = .ok (.getfield 16, 3) := dk_180 0 16 (dk_at dksX1_leave_0 17 rfl rfl)
theorem dX1_leave_20 : decode cX1_leave 20 = .ok (.aload_n 2, 1) := dk_44 (dk_at dksX1_leave_0 20 rfl rfl)
theorem dX1_leave_21 : decode cX1_leave 21 = .ok (.getfield 198, 3) := dk_180 0 198 (dk_at dksX1_leave_0 21 rfl rfl)
theorem dX1_leave_24 : decode cX1_leave 24 = .ok (.invokeinterface 61 2, 5) := by decide +kernel
theorem dX1_leave_29 : decode cX1_leave 29 = .ok (.checkcast 69, 3) := dk_192 0 69 (dk_at dksX1_leave_1 5 rfl rfl)
theorem dX1_leave_32 : decode cX1_leave 32 = .ok (.astore_n 3, 1) := dk_78 (dk_at dksX1_leave_1 8 rfl rfl)
theorem dX1_leave_33 : decode cX1_leave 33 = .ok (.aload_n 3, 1) := dk_45 (dk_at dksX1_leave_1 9 rfl rfl)
theorem dX1_leave_34 : decode cX1_leave 34 = .ok (.aload_n 2, 1) := dk_44 (dk_at dksX1_leave_1 10 rfl rfl)
theorem dX1_leave_35 : decode cX1_leave 35 = .ok (.invokevirtual 206, 3) := dk_182 0 206 (dk_at dksX1_leave_1 11 rfl rfl)
theorem dX1_leave_38 : decode cX1_leave 38 = .ok (.istore 4, 2) := dk_54 4 (dk_at dksX1_leave_1 14 rfl rfl)
theorem dX1_leave_40 : decode cX1_leave 40 = .ok (.aload_n 3, 1) := dk_45 (dk_at dksX1_leave_1 16 rfl rfl)
theorem dX1_leave_41 : decode cX1_leave 41 = .ok (.getfield 209, 3) := dk_180 0 209 (dk_at dksX1_leave_1 17 rfl rfl)
theorem dX1_leave_44 : decode cX1_leave 44 = .ok (.iload 4, 2) := dk_21 4 (dk_at dksX1_leave_1 20 rfl rfl)
theorem dX1_leave_46 : decode cX1_leave 46 = .ok (.invokeinterface 212 2, 5) := by decide +kernel
theorem dX1_leave_51 : decode cX1_leave 51 = .ok (.pop, 1) := dk_87 (dk_at dksX1_leave_2 5 rfl rfl)
theorem dX1_leave_52 : decode cX1_leave 52 = .ok (.aload_n 2, 1) := dk_44 (dk_at dksX1_leave_2 6 rfl rfl)
theorem dX1_leave_53 : decode cX1_leave 53 = .ok (.invokevirtual 215, 3) := dk_182 0 215 (dk_at dksX1_leave_2 7 rfl rfl)
theorem dX1_leave_56 : decode cX1_leave 56 = .ok (.iload 4, 2) := dk_21 4 (dk_at dksX1_leave_2 10 rfl rfl)
theorem dX1_leave_58 : decode cX1_leave 58 = .ok (.ireturn, 1) := dk_172 (dk_at dksX1_leave_2 12 rfl rfl)
abbrev cX1_yawn : ByteArray := prog_1_method_33_code
def yX1_yawn : MethodName := ⟨RX1, "yawn", "(I)I"⟩
def dkwX1_yawn_4 : List UInt8 := [167, 0, 4, 2, 54, 5, 42, 44, 182, 1, 80, 21, 5, 172]
abbrev dktX1_yawn_4 : List UInt8 := dkwX1_yawn_4 ++ []
def dkwX1_yawn_3 : List UInt8 := [4, 96, 181, 1, 69, 42, 45, 27, 182, 1, 72, 153, 0, 14, 42, 45, 44, 21, 4, 182, 1, 76]
abbrev dktX1_yawn_3 : List UInt8 := dkwX1_yawn_3 ++ dktX1_yawn_4
def dkwX1_yawn_2 : List UInt8 := [185, 0, 212, 2, 0, 192, 0, 71, 78, 45, 180, 0, 199, 54, 4, 45, 182, 0, 215, 42, 89, 180, 1, 69]
abbrev dktX1_yawn_2 : List UInt8 := dkwX1_yawn_2 ++ dktX1_yawn_3
def dkwX1_yawn_1 : List UInt8 := [185, 1, 66, 1, 0, 154, 0, 7, 4, 167, 0, 4, 3, 184, 0, 93, 44, 180, 0, 209, 3]
abbrev dktX1_yawn_1 : List UInt8 := dkwX1_yawn_1 ++ dktX1_yawn_2
def dkwX1_yawn_0 : List UInt8 := [42, 27, 182, 0, 99, 77, 44, 42, 180, 1, 60, 182, 1, 63, 153, 0, 19, 44, 180, 0, 209]
abbrev dktX1_yawn_0 : List UInt8 := dkwX1_yawn_0 ++ dktX1_yawn_1
theorem dksX1_yawn_0 : cX1_yawn.data.toList.drop 0 = dktX1_yawn_0 := by decide +kernel
theorem dksX1_yawn_1 : cX1_yawn.data.toList.drop 21 = dktX1_yawn_1 := dk_seg dksX1_yawn_0 21 rfl rfl
theorem dksX1_yawn_2 : cX1_yawn.data.toList.drop 42 = dktX1_yawn_2 := dk_seg dksX1_yawn_1 21 rfl rfl
theorem dksX1_yawn_3 : cX1_yawn.data.toList.drop 66 = dktX1_yawn_3 := dk_seg dksX1_yawn_2 24 rfl rfl
theorem dksX1_yawn_4 : cX1_yawn.data.toList.drop 88 = dktX1_yawn_4 := dk_seg dksX1_yawn_3 22 rfl rfl
theorem dX1_yawn_0 : decode cX1_yawn 0 = .ok (.aload_n 0, 1) := dk_42 (dk_at dksX1_yawn_0 0 rfl rfl)
theorem dX1_yawn_1 : decode cX1_yawn 1 = .ok (.iload_n 1, 1) := dk_27 (dk_at dksX1_yawn_0 1 rfl rfl)
theorem dX1_yawn_2 : decode cX1_yawn 2 = .ok (.invokevirtual 99, 3) := dk_182 0 99 (dk_at dksX1_yawn_0 2 rfl rfl)
theorem dX1_yawn_5 : decode cX1_yawn 5 = .ok (.astore_n 2, 1) := dk_77 (dk_at dksX1_yawn_0 5 rfl rfl)
theorem dX1_yawn_6 : decode cX1_yawn 6 = .ok (.aload_n 2, 1) := dk_44 (dk_at dksX1_yawn_0 6 rfl rfl)
theorem dX1_yawn_7 : decode cX1_yawn 7 = .ok (.aload_n 0, 1) := dk_42 (dk_at dksX1_yawn_0 7 rfl rfl)
theorem dX1_yawn_8 : decode cX1_yawn 8 = .ok (.getfield 316, 3) := dk_180 1 60 (dk_at dksX1_yawn_0 8 rfl rfl)
theorem dX1_yawn_11 : decode cX1_yawn 11 = .ok (.invokevirtual 319, 3) := dk_182 1 63 (dk_at dksX1_yawn_0 11 rfl rfl)
theorem dX1_yawn_14 : decode cX1_yawn 14 = .ok (.ifCond .eq 19, 3) := dk_153 0 19 (dk_at dksX1_yawn_0 14 rfl rfl)
theorem dX1_yawn_17 : decode cX1_yawn 17 = .ok (.aload_n 2, 1) := dk_44 (dk_at dksX1_yawn_0 17 rfl rfl)
theorem dX1_yawn_18 : decode cX1_yawn 18 = .ok (.getfield 209, 3) := dk_180 0 209 (dk_at dksX1_yawn_0 18 rfl rfl)
theorem dX1_yawn_21 : decode cX1_yawn 21 = .ok (.invokeinterface 322 1, 5) := by decide +kernel
theorem dX1_yawn_26 : decode cX1_yawn 26 = .ok (.ifCond .ne 7, 3) := dk_154 0 7 (dk_at dksX1_yawn_1 5 rfl rfl)
theorem dX1_yawn_29 : decode cX1_yawn 29 = .ok (.iconst 1, 1) := dk_4 (dk_at dksX1_yawn_1 8 rfl rfl)
theorem dX1_yawn_30 : decode cX1_yawn 30 = .ok (.goto 4, 3) := dk_167 0 4 (dk_at dksX1_yawn_1 9 rfl rfl)
theorem dX1_yawn_33 : decode cX1_yawn 33 = .ok (.iconst 0, 1) := dk_3 (dk_at dksX1_yawn_1 12 rfl rfl)
theorem dX1_yawn_34 : decode cX1_yawn 34 = .ok (.invokestatic 93, 3) := dk_184 0 93 (dk_at dksX1_yawn_1 13 rfl rfl)
theorem dX1_yawn_37 : decode cX1_yawn 37 = .ok (.aload_n 2, 1) := dk_44 (dk_at dksX1_yawn_1 16 rfl rfl)
theorem dX1_yawn_38 : decode cX1_yawn 38 = .ok (.getfield 209, 3) := dk_180 0 209 (dk_at dksX1_yawn_1 17 rfl rfl)
theorem dX1_yawn_41 : decode cX1_yawn 41 = .ok (.iconst 0, 1) := dk_3 (dk_at dksX1_yawn_1 20 rfl rfl)
theorem dX1_yawn_42 : decode cX1_yawn 42 = .ok (.invokeinterface 212 2, 5) := by decide +kernel
theorem dX1_yawn_47 : decode cX1_yawn 47 = .ok (.checkcast 71, 3) := dk_192 0 71 (dk_at dksX1_yawn_2 5 rfl rfl)
theorem dX1_yawn_50 : decode cX1_yawn 50 = .ok (.astore_n 3, 1) := dk_78 (dk_at dksX1_yawn_2 8 rfl rfl)
theorem dX1_yawn_51 : decode cX1_yawn 51 = .ok (.aload_n 3, 1) := dk_45 (dk_at dksX1_yawn_2 9 rfl rfl)
theorem dX1_yawn_52 : decode cX1_yawn 52 = .ok (.getfield 199, 3) := dk_180 0 199 (dk_at dksX1_yawn_2 10 rfl rfl)
theorem dX1_yawn_55 : decode cX1_yawn 55 = .ok (.istore 4, 2) := dk_54 4 (dk_at dksX1_yawn_2 13 rfl rfl)
theorem dX1_yawn_57 : decode cX1_yawn 57 = .ok (.aload_n 3, 1) := dk_45 (dk_at dksX1_yawn_2 15 rfl rfl)
theorem dX1_yawn_58 : decode cX1_yawn 58 = .ok (.invokevirtual 215, 3) := dk_182 0 215 (dk_at dksX1_yawn_2 16 rfl rfl)
theorem dX1_yawn_61 : decode cX1_yawn 61 = .ok (.aload_n 0, 1) := dk_42 (dk_at dksX1_yawn_2 19 rfl rfl)
theorem dX1_yawn_62 : decode cX1_yawn 62 = .ok (.dup, 1) := dk_89 (dk_at dksX1_yawn_2 20 rfl rfl)
theorem dX1_yawn_63 : decode cX1_yawn 63 = .ok (.getfield 325, 3) := dk_180 1 69 (dk_at dksX1_yawn_2 21 rfl rfl)
theorem dX1_yawn_66 : decode cX1_yawn 66 = .ok (.iconst 1, 1) := dk_4 (dk_at dksX1_yawn_3 0 rfl rfl)
theorem dX1_yawn_67 : decode cX1_yawn 67 = .ok (.iadd, 1) := dk_96 (dk_at dksX1_yawn_3 1 rfl rfl)
theorem dX1_yawn_68 : decode cX1_yawn 68 = .ok (.putfield 325, 3) := dk_181 1 69 (dk_at dksX1_yawn_3 2 rfl rfl)
theorem dX1_yawn_71 : decode cX1_yawn 71 = .ok (.aload_n 0, 1) := dk_42 (dk_at dksX1_yawn_3 5 rfl rfl)
theorem dX1_yawn_72 : decode cX1_yawn 72 = .ok (.aload_n 3, 1) := dk_45 (dk_at dksX1_yawn_3 6 rfl rfl)
theorem dX1_yawn_73 : decode cX1_yawn 73 = .ok (.iload_n 1, 1) := dk_27 (dk_at dksX1_yawn_3 7 rfl rfl)
theorem dX1_yawn_74 : decode cX1_yawn 74 = .ok (.invokevirtual 328, 3) := dk_182 1 72 (dk_at dksX1_yawn_3 8 rfl rfl)
theorem dX1_yawn_77 : decode cX1_yawn 77 = .ok (.ifCond .eq 14, 3) := dk_153 0 14 (dk_at dksX1_yawn_3 11 rfl rfl)
theorem dX1_yawn_80 : decode cX1_yawn 80 = .ok (.aload_n 0, 1) := dk_42 (dk_at dksX1_yawn_3 14 rfl rfl)
theorem dX1_yawn_81 : decode cX1_yawn 81 = .ok (.aload_n 3, 1) := dk_45 (dk_at dksX1_yawn_3 15 rfl rfl)
theorem dX1_yawn_82 : decode cX1_yawn 82 = .ok (.aload_n 2, 1) := dk_44 (dk_at dksX1_yawn_3 16 rfl rfl)
theorem dX1_yawn_83 : decode cX1_yawn 83 = .ok (.iload 4, 2) := dk_21 4 (dk_at dksX1_yawn_3 17 rfl rfl)
theorem dX1_yawn_85 : decode cX1_yawn 85 = .ok (.invokevirtual 332, 3) := dk_182 1 76 (dk_at dksX1_yawn_3 19 rfl rfl)
theorem dX1_yawn_88 : decode cX1_yawn 88 = .ok (.goto 4, 3) := dk_167 0 4 (dk_at dksX1_yawn_4 0 rfl rfl)
theorem dX1_yawn_91 : decode cX1_yawn 91 = .ok (.iconst (-1), 1) := dk_2 (dk_at dksX1_yawn_4 3 rfl rfl)
theorem dX1_yawn_92 : decode cX1_yawn 92 = .ok (.istore 5, 2) := dk_54 5 (dk_at dksX1_yawn_4 4 rfl rfl)
theorem dX1_yawn_94 : decode cX1_yawn 94 = .ok (.aload_n 0, 1) := dk_42 (dk_at dksX1_yawn_4 6 rfl rfl)
theorem dX1_yawn_95 : decode cX1_yawn 95 = .ok (.aload_n 2, 1) := dk_44 (dk_at dksX1_yawn_4 7 rfl rfl)
theorem dX1_yawn_96 : decode cX1_yawn 96 = .ok (.invokevirtual 336, 3) := dk_182 1 80 (dk_at dksX1_yawn_4 8 rfl rfl)
theorem dX1_yawn_99 : decode cX1_yawn 99 = .ok (.iload 5, 2) := dk_21 5 (dk_at dksX1_yawn_4 11 rfl rfl)
theorem dX1_yawn_101 : decode cX1_yawn 101 = .ok (.ireturn, 1) := dk_172 (dk_at dksX1_yawn_4 13 rfl rfl)
abbrev cX1_cross : ByteArray := prog_1_method_30_code
def yX1_cross : MethodName := ⟨RX1, "cross", "(LLullabygate$Sleeper;LLullabygate$Gate;I)I"⟩
def dkwX1_cross_3 : List UInt8 := [182, 1, 42, 43, 21, 4, 181, 0, 134, 43, 184, 1, 46, 181, 0, 150, 21, 7, 172]
abbrev dktX1_cross_3 : List UInt8 := dkwX1_cross_3 ++ []
def dkwX1_cross_2 : List UInt8 := [167, 0, 4, 3, 54, 6, 42, 43, 21, 5, 21, 4, 21, 6, 182, 1, 38, 54, 7, 42, 43, 29, 21, 4]
abbrev dktX1_cross_2 : List UInt8 := dkwX1_cross_2 ++ dktX1_cross_3
def dkwX1_cross_1 : List UInt8 := [44, 182, 0, 178, 154, 0, 23, 42, 180, 0, 31, 16, 10, 182, 1, 35, 44, 180, 0, 103, 162, 0, 7, 4]
abbrev dktX1_cross_1 : List UInt8 := dkwX1_cross_1 ++ dktX1_cross_2
def dkwX1_cross_0 : List UInt8 := [44, 43, 180, 0, 134, 182, 1, 32, 54, 4, 42, 43, 180, 0, 218, 182, 0, 185, 29, 2, 130, 126, 54, 5]
abbrev dktX1_cross_0 : List UInt8 := dkwX1_cross_0 ++ dktX1_cross_1
theorem dksX1_cross_0 : cX1_cross.data.toList.drop 0 = dktX1_cross_0 := by decide +kernel
theorem dksX1_cross_1 : cX1_cross.data.toList.drop 24 = dktX1_cross_1 := dk_seg dksX1_cross_0 24 rfl rfl
theorem dksX1_cross_2 : cX1_cross.data.toList.drop 48 = dktX1_cross_2 := dk_seg dksX1_cross_1 24 rfl rfl
theorem dksX1_cross_3 : cX1_cross.data.toList.drop 72 = dktX1_cross_3 := dk_seg dksX1_cross_2 24 rfl rfl
theorem dX1_cross_0 : decode cX1_cross 0 = .ok (.aload_n 2, 1) := dk_44 (dk_at dksX1_cross_0 0 rfl rfl)
theorem dX1_cross_1 : decode cX1_cross 1 = .ok (.aload_n 1, 1) := dk_43 (dk_at dksX1_cross_0 1 rfl rfl)
theorem dX1_cross_2 : decode cX1_cross 2 = .ok (.getfield 134, 3) := dk_180 0 134 (dk_at dksX1_cross_0 2 rfl rfl)
theorem dX1_cross_5 : decode cX1_cross 5 = .ok (.invokevirtual 288, 3) := dk_182 1 32 (dk_at dksX1_cross_0 5 rfl rfl)
theorem dX1_cross_8 : decode cX1_cross 8 = .ok (.istore 4, 2) := dk_54 4 (dk_at dksX1_cross_0 8 rfl rfl)
theorem dX1_cross_10 : decode cX1_cross 10 = .ok (.aload_n 0, 1) := dk_42 (dk_at dksX1_cross_0 10 rfl rfl)
theorem dX1_cross_11 : decode cX1_cross 11 = .ok (.aload_n 1, 1) := dk_43 (dk_at dksX1_cross_0 11 rfl rfl)
theorem dX1_cross_12 : decode cX1_cross 12 = .ok (.getfield 218, 3) := dk_180 0 218 (dk_at dksX1_cross_0 12 rfl rfl)
theorem dX1_cross_15 : decode cX1_cross 15 = .ok (.invokevirtual 185, 3) := dk_182 0 185 (dk_at dksX1_cross_0 15 rfl rfl)
theorem dX1_cross_18 : decode cX1_cross 18 = .ok (.iload_n 3, 1) := dk_29 (dk_at dksX1_cross_0 18 rfl rfl)
theorem dX1_cross_19 : decode cX1_cross 19 = .ok (.iconst (-1), 1) := dk_2 (dk_at dksX1_cross_0 19 rfl rfl)
theorem dX1_cross_20 : decode cX1_cross 20 = .ok (.ixor, 1) := dk_130 (dk_at dksX1_cross_0 20 rfl rfl)
theorem dX1_cross_21 : decode cX1_cross 21 = .ok (.iand, 1) := dk_126 (dk_at dksX1_cross_0 21 rfl rfl)
theorem dX1_cross_22 : decode cX1_cross 22 = .ok (.istore 5, 2) := dk_54 5 (dk_at dksX1_cross_0 22 rfl rfl)
theorem dX1_cross_24 : decode cX1_cross 24 = .ok (.aload_n 2, 1) := dk_44 (dk_at dksX1_cross_1 0 rfl rfl)
theorem dX1_cross_25 : decode cX1_cross 25 = .ok (.invokevirtual 178, 3) := dk_182 0 178 (dk_at dksX1_cross_1 1 rfl rfl)
theorem dX1_cross_28 : decode cX1_cross 28 = .ok (.ifCond .ne 23, 3) := dk_154 0 23 (dk_at dksX1_cross_1 4 rfl rfl)
theorem dX1_cross_31 : decode cX1_cross 31 = .ok (.aload_n 0, 1) := dk_42 (dk_at dksX1_cross_1 7 rfl rfl)
theorem dX1_cross_32 : decode cX1_cross 32 = .ok (.getfield 31, 3) := dk_180 0 31 (dk_at dksX1_cross_1 8 rfl rfl)
theorem dX1_cross_35 : decode cX1_cross 35 = .ok (.bipush 10, 2) := dk_16 10 (dk_at dksX1_cross_1 11 rfl rfl)
theorem dX1_cross_37 : decode cX1_cross 37 = .ok (.invokevirtual 291, 3) := dk_182 1 35 (dk_at dksX1_cross_1 13 rfl rfl)
theorem dX1_cross_40 : decode cX1_cross 40 = .ok (.aload_n 2, 1) := dk_44 (dk_at dksX1_cross_1 16 rfl rfl)
theorem dX1_cross_41 : decode cX1_cross 41 = .ok (.getfield 103, 3) := dk_180 0 103 (dk_at dksX1_cross_1 17 rfl rfl)
theorem dX1_cross_44 : decode cX1_cross 44 = .ok (.if_icmp .ge 7, 3) := dk_162 0 7 (dk_at dksX1_cross_1 20 rfl rfl)
theorem dX1_cross_47 : decode cX1_cross 47 = .ok (.iconst 1, 1) := dk_4 (dk_at dksX1_cross_1 23 rfl rfl)
theorem dX1_cross_48 : decode cX1_cross 48 = .ok (.goto 4, 3) := dk_167 0 4 (dk_at dksX1_cross_2 0 rfl rfl)
theorem dX1_cross_51 : decode cX1_cross 51 = .ok (.iconst 0, 1) := dk_3 (dk_at dksX1_cross_2 3 rfl rfl)
theorem dX1_cross_52 : decode cX1_cross 52 = .ok (.istore 6, 2) := dk_54 6 (dk_at dksX1_cross_2 4 rfl rfl)
theorem dX1_cross_54 : decode cX1_cross 54 = .ok (.aload_n 0, 1) := dk_42 (dk_at dksX1_cross_2 6 rfl rfl)
theorem dX1_cross_55 : decode cX1_cross 55 = .ok (.aload_n 1, 1) := dk_43 (dk_at dksX1_cross_2 7 rfl rfl)
theorem dX1_cross_56 : decode cX1_cross 56 = .ok (.iload 5, 2) := dk_21 5 (dk_at dksX1_cross_2 8 rfl rfl)
theorem dX1_cross_58 : decode cX1_cross 58 = .ok (.iload 4, 2) := dk_21 4 (dk_at dksX1_cross_2 10 rfl rfl)
theorem dX1_cross_60 : decode cX1_cross 60 = .ok (.iload 6, 2) := dk_21 6 (dk_at dksX1_cross_2 12 rfl rfl)
theorem dX1_cross_62 : decode cX1_cross 62 = .ok (.invokevirtual 294, 3) := dk_182 1 38 (dk_at dksX1_cross_2 14 rfl rfl)
theorem dX1_cross_65 : decode cX1_cross 65 = .ok (.istore 7, 2) := dk_54 7 (dk_at dksX1_cross_2 17 rfl rfl)
theorem dX1_cross_67 : decode cX1_cross 67 = .ok (.aload_n 0, 1) := dk_42 (dk_at dksX1_cross_2 19 rfl rfl)
theorem dX1_cross_68 : decode cX1_cross 68 = .ok (.aload_n 1, 1) := dk_43 (dk_at dksX1_cross_2 20 rfl rfl)
theorem dX1_cross_69 : decode cX1_cross 69 = .ok (.iload_n 3, 1) := dk_29 (dk_at dksX1_cross_2 21 rfl rfl)
theorem dX1_cross_70 : decode cX1_cross 70 = .ok (.iload 4, 2) := dk_21 4 (dk_at dksX1_cross_2 22 rfl rfl)
theorem dX1_cross_72 : decode cX1_cross 72 = .ok (.invokevirtual 298, 3) := dk_182 1 42 (dk_at dksX1_cross_3 0 rfl rfl)
theorem dX1_cross_75 : decode cX1_cross 75 = .ok (.aload_n 1, 1) := dk_43 (dk_at dksX1_cross_3 3 rfl rfl)
theorem dX1_cross_76 : decode cX1_cross 76 = .ok (.iload 4, 2) := dk_21 4 (dk_at dksX1_cross_3 4 rfl rfl)
theorem dX1_cross_78 : decode cX1_cross 78 = .ok (.putfield 134, 3) := dk_181 0 134 (dk_at dksX1_cross_3 6 rfl rfl)
theorem dX1_cross_81 : decode cX1_cross 81 = .ok (.aload_n 1, 1) := dk_43 (dk_at dksX1_cross_3 9 rfl rfl)
theorem dX1_cross_82 : decode cX1_cross 82 = .ok (.invokestatic 302, 3) := dk_184 1 46 (dk_at dksX1_cross_3 10 rfl rfl)
theorem dX1_cross_85 : decode cX1_cross 85 = .ok (.putfield 150, 3) := dk_181 0 150 (dk_at dksX1_cross_3 13 rfl rfl)
theorem dX1_cross_88 : decode cX1_cross 88 = .ok (.iload 7, 2) := dk_21 7 (dk_at dksX1_cross_3 16 rfl rfl)
theorem dX1_cross_90 : decode cX1_cross 90 = .ok (.ireturn, 1) := dk_172 (dk_at dksX1_cross_3 18 rfl rfl)
abbrev cX1_search : ByteArray := prog_1_method_26_code
def yX1_search : MethodName := ⟨RX1, "search", "(LLullabygate$Sleeper;IIZ)I"⟩
def dkwX1_search_4 : List UInt8 := [167, 0, 11, 25, 7, 178, 0, 254, 181, 1, 1, 132, 6, 1, 167, 255, 153, 21, 5, 172]
abbrev dktX1_search_4 : List UInt8 := dkwX1_search_4 ++ []
def dkwX1_search_3 : List UInt8 := [185, 0, 61, 2, 0, 192, 0, 35, 89, 180, 0, 248, 25, 7, 180, 0, 251, 96, 181, 0, 248, 132, 5, 1]
abbrev dktX1_search_3 : List UInt8 := dkwX1_search_3 ++ dktX1_search_4
def dkwX1_search_2 : List UInt8 := [25, 7, 182, 0, 234, 21, 4, 153, 0, 44, 25, 7, 29, 178, 0, 238, 182, 0, 244, 42, 180, 0, 10, 29]
abbrev dktX1_search_2 : List UInt8 := dkwX1_search_2 ++ dktX1_search_3
def dkwX1_search_1 : List UInt8 := [184, 0, 230, 153, 0, 80, 42, 180, 0, 22, 21, 6, 185, 0, 61, 2, 0, 192, 0, 73, 58, 7, 42, 43]
abbrev dktX1_search_1 : List UInt8 := dkwX1_search_1 ++ dktX1_search_2
def dkwX1_search_0 : List UInt8 := [3, 54, 5, 3, 54, 6, 21, 6, 42, 180, 0, 22, 185, 0, 65, 1, 0, 162, 0, 95, 28, 21, 6]
abbrev dktX1_search_0 : List UInt8 := dkwX1_search_0 ++ dktX1_search_1
theorem dksX1_search_0 : cX1_search.data.toList.drop 0 = dktX1_search_0 := by decide +kernel
theorem dksX1_search_1 : cX1_search.data.toList.drop 23 = dktX1_search_1 := dk_seg dksX1_search_0 23 rfl rfl
theorem dksX1_search_2 : cX1_search.data.toList.drop 47 = dktX1_search_2 := dk_seg dksX1_search_1 24 rfl rfl
theorem dksX1_search_3 : cX1_search.data.toList.drop 71 = dktX1_search_3 := dk_seg dksX1_search_2 24 rfl rfl
theorem dksX1_search_4 : cX1_search.data.toList.drop 95 = dktX1_search_4 := dk_seg dksX1_search_3 24 rfl rfl
theorem dX1_search_0 : decode cX1_search 0 = .ok (.iconst 0, 1) := dk_3 (dk_at dksX1_search_0 0 rfl rfl)
theorem dX1_search_1 : decode cX1_search 1 = .ok (.istore 5, 2) := dk_54 5 (dk_at dksX1_search_0 1 rfl rfl)
theorem dX1_search_3 : decode cX1_search 3 = .ok (.iconst 0, 1) := dk_3 (dk_at dksX1_search_0 3 rfl rfl)
theorem dX1_search_4 : decode cX1_search 4 = .ok (.istore 6, 2) := dk_54 6 (dk_at dksX1_search_0 4 rfl rfl)
theorem dX1_search_6 : decode cX1_search 6 = .ok (.iload 6, 2) := dk_21 6 (dk_at dksX1_search_0 6 rfl rfl)
theorem dX1_search_8 : decode cX1_search 8 = .ok (.aload_n 0, 1) := dk_42 (dk_at dksX1_search_0 8 rfl rfl)
theorem dX1_search_9 : decode cX1_search 9 = .ok (.getfield 22, 3) := dk_180 0 22 (dk_at dksX1_search_0 9 rfl rfl)
theorem dX1_search_12 : decode cX1_search 12 = .ok (.invokeinterface 65 1, 5) := by decide +kernel
theorem dX1_search_17 : decode cX1_search 17 = .ok (.if_icmp .ge 95, 3) := dk_162 0 95 (dk_at dksX1_search_0 17 rfl rfl)
theorem dX1_search_20 : decode cX1_search 20 = .ok (.iload_n 2, 1) := dk_28 (dk_at dksX1_search_0 20 rfl rfl)
theorem dX1_search_21 : decode cX1_search 21 = .ok (.iload 6, 2) := dk_21 6 (dk_at dksX1_search_0 21 rfl rfl)
theorem dX1_search_23 : decode cX1_search 23 = .ok (.invokestatic 230, 3) := dk_184 0 230 (dk_at dksX1_search_1 0 rfl rfl)
theorem dX1_search_26 : decode cX1_search 26 = .ok (.ifCond .eq 80, 3) := dk_153 0 80 (dk_at dksX1_search_1 3 rfl rfl)
theorem dX1_search_29 : decode cX1_search 29 = .ok (.aload_n 0, 1) := dk_42 (dk_at dksX1_search_1 6 rfl rfl)
theorem dX1_search_30 : decode cX1_search 30 = .ok (.getfield 22, 3) := dk_180 0 22 (dk_at dksX1_search_1 7 rfl rfl)
theorem dX1_search_33 : decode cX1_search 33 = .ok (.iload 6, 2) := dk_21 6 (dk_at dksX1_search_1 10 rfl rfl)
theorem dX1_search_35 : decode cX1_search 35 = .ok (.invokeinterface 61 2, 5) := by decide +kernel
theorem dX1_search_40 : decode cX1_search 40 = .ok (.checkcast 73, 3) := dk_192 0 73 (dk_at dksX1_search_1 17 rfl rfl)
theorem dX1_search_43 : decode cX1_search 43 = .ok (.astore 7, 2) := dk_58 7 (dk_at dksX1_search_1 20 rfl rfl)
theorem dX1_search_45 : decode cX1_search 45 = .ok (.aload_n 0, 1) := dk_42 (dk_at dksX1_search_1 22 rfl rfl)
theorem dX1_search_46 : decode cX1_search 46 = .ok (.aload_n 1, 1) := dk_43 (dk_at dksX1_search_1 23 rfl rfl)
theorem dX1_search_47 : decode cX1_search 47 = .ok (.aload 7, 2) := dk_25 7 (dk_at dksX1_search_2 0 rfl rfl)
theorem dX1_search_49 : decode cX1_search 49 = .ok (.invokevirtual 234, 3) := dk_182 0 234 (dk_at dksX1_search_2 2 rfl rfl)
theorem dX1_search_52 : decode cX1_search 52 = .ok (.iload 4, 2) := dk_21 4 (dk_at dksX1_search_2 5 rfl rfl)
theorem dX1_search_54 : decode cX1_search 54 = .ok (.ifCond .eq 44, 3) := dk_153 0 44 (dk_at dksX1_search_2 7 rfl rfl)
theorem dX1_search_57 : decode cX1_search 57 = .ok (.aload 7, 2) := dk_25 7 (dk_at dksX1_search_2 10 rfl rfl)
theorem dX1_search_59 : decode cX1_search 59 = .ok (.iload_n 3, 1) := dk_29 (dk_at dksX1_search_2 12 rfl rfl)
theorem dX1_search_60 : decode cX1_search 60 = .ok (.getstatic 238, 3) := dk_178 0 238 (dk_at dksX1_search_2 13 rfl rfl)
theorem dX1_search_63 : decode cX1_search 63 = .ok (.invokevirtual 244, 3) := dk_182 0 244 (dk_at dksX1_search_2 16 rfl rfl)
theorem dX1_search_66 : decode cX1_search 66 = .ok (.aload_n 0, 1) := dk_42 (dk_at dksX1_search_2 19 rfl rfl)
theorem dX1_search_67 : decode cX1_search 67 = .ok (.getfield 10, 3) := dk_180 0 10 (dk_at dksX1_search_2 20 rfl rfl)
theorem dX1_search_70 : decode cX1_search 70 = .ok (.iload_n 3, 1) := dk_29 (dk_at dksX1_search_2 23 rfl rfl)
theorem dX1_search_71 : decode cX1_search 71 = .ok (.invokeinterface 61 2, 5) := by decide +kernel
theorem dX1_search_76 : decode cX1_search 76 = .ok (.checkcast 35, 3) := dk_192 0 35 (dk_at dksX1_search_3 5 rfl rfl)
theorem dX1_search_79 : decode cX1_search 79 = .ok (.dup, 1) := dk_89 (dk_at dksX1_search_3 8 rfl rfl)
theorem dX1_search_80 : decode cX1_search 80 = .ok (.getfield 248, 3) := dk_180 0 248 (dk_at dksX1_search_3 9 rfl rfl)
theorem dX1_search_83 : decode cX1_search 83 = .ok (.aload 7, 2) := dk_25 7 (dk_at dksX1_search_3 12 rfl rfl)
theorem dX1_search_85 : decode cX1_search 85 = .ok (.getfield 251, 3) := dk_180 0 251 (dk_at dksX1_search_3 14 rfl rfl)
theorem dX1_search_88 : decode cX1_search 88 = .ok (.iadd, 1) := dk_96 (dk_at dksX1_search_3 17 rfl rfl)
theorem dX1_search_89 : decode cX1_search 89 = .ok (.putfield 248, 3) := dk_181 0 248 (dk_at dksX1_search_3 18 rfl rfl)
theorem dX1_search_92 : decode cX1_search 92 = .ok (.iinc 5 1, 3) := dk_132 5 1 (dk_at dksX1_search_3 21 rfl rfl)
theorem dX1_search_95 : decode cX1_search 95 = .ok (.goto 11, 3) := dk_167 0 11 (dk_at dksX1_search_4 0 rfl rfl)
theorem dX1_search_98 : decode cX1_search 98 = .ok (.aload 7, 2) := dk_25 7 (dk_at dksX1_search_4 3 rfl rfl)
theorem dX1_search_100 : decode cX1_search 100 = .ok (.getstatic 254, 3) := dk_178 0 254 (dk_at dksX1_search_4 5 rfl rfl)
theorem dX1_search_103 : decode cX1_search 103 = .ok (.putfield 257, 3) := dk_181 1 1 (dk_at dksX1_search_4 8 rfl rfl)
theorem dX1_search_106 : decode cX1_search 106 = .ok (.iinc 6 1, 3) := dk_132 6 1 (dk_at dksX1_search_4 11 rfl rfl)
theorem dX1_search_109 : decode cX1_search 109 = .ok (.goto (-103), 3) := dk_167 255 153 (dk_at dksX1_search_4 14 rfl rfl)
theorem dX1_search_112 : decode cX1_search 112 = .ok (.iload 5, 2) := dk_21 5 (dk_at dksX1_search_4 17 rfl rfl)
theorem dX1_search_114 : decode cX1_search 114 = .ok (.ireturn, 1) := dk_172 (dk_at dksX1_search_4 19 rfl rfl)
abbrev cX1_hide : ByteArray := prog_1_method_25_code
def yX1_hide : MethodName := ⟨RX1, "hide", "(LLullabygate$Sleeper;LLullabygate$Part;)V"⟩
def dkwX1_hide_2 : List UInt8 := [185, 0, 38, 2, 0, 87, 177]
abbrev dktX1_hide_2 : List UInt8 := dkwX1_hide_2 ++ []
def dkwX1_hide_1 : List UInt8 := [180, 0, 25, 187, 0, 224, 89, 43, 180, 0, 218, 44, 180, 0, 226, 42, 180, 0, 137, 183, 0, 229]
abbrev dktX1_hide_1 : List UInt8 := dkwX1_hide_1 ++ dktX1_hide_2
def dkwX1_hide_0 : List UInt8 := [44, 43, 180, 0, 218, 181, 0, 221, 42, 180, 0, 25, 185, 0, 65, 1, 0, 16, 40, 162, 0, 32, 42]
abbrev dktX1_hide_0 : List UInt8 := dkwX1_hide_0 ++ dktX1_hide_1
theorem dksX1_hide_0 : cX1_hide.data.toList.drop 0 = dktX1_hide_0 := by decide +kernel
theorem dksX1_hide_1 : cX1_hide.data.toList.drop 23 = dktX1_hide_1 := dk_seg dksX1_hide_0 23 rfl rfl
theorem dksX1_hide_2 : cX1_hide.data.toList.drop 45 = dktX1_hide_2 := dk_seg dksX1_hide_1 22 rfl rfl
theorem dX1_hide_0 : decode cX1_hide 0 = .ok (.aload_n 2, 1) := dk_44 (dk_at dksX1_hide_0 0 rfl rfl)
theorem dX1_hide_1 : decode cX1_hide 1 = .ok (.aload_n 1, 1) := dk_43 (dk_at dksX1_hide_0 1 rfl rfl)
theorem dX1_hide_2 : decode cX1_hide 2 = .ok (.getfield 218, 3) := dk_180 0 218 (dk_at dksX1_hide_0 2 rfl rfl)
theorem dX1_hide_5 : decode cX1_hide 5 = .ok (.putfield 221, 3) := dk_181 0 221 (dk_at dksX1_hide_0 5 rfl rfl)
theorem dX1_hide_8 : decode cX1_hide 8 = .ok (.aload_n 0, 1) := dk_42 (dk_at dksX1_hide_0 8 rfl rfl)
theorem dX1_hide_9 : decode cX1_hide 9 = .ok (.getfield 25, 3) := dk_180 0 25 (dk_at dksX1_hide_0 9 rfl rfl)
theorem dX1_hide_12 : decode cX1_hide 12 = .ok (.invokeinterface 65 1, 5) := by decide +kernel
theorem dX1_hide_17 : decode cX1_hide 17 = .ok (.bipush 40, 2) := dk_16 40 (dk_at dksX1_hide_0 17 rfl rfl)
theorem dX1_hide_19 : decode cX1_hide 19 = .ok (.if_icmp .ge 32, 3) := dk_162 0 32 (dk_at dksX1_hide_0 19 rfl rfl)
theorem dX1_hide_22 : decode cX1_hide 22 = .ok (.aload_n 0, 1) := dk_42 (dk_at dksX1_hide_0 22 rfl rfl)
theorem dX1_hide_23 : decode cX1_hide 23 = .ok (.getfield 25, 3) := dk_180 0 25 (dk_at dksX1_hide_1 0 rfl rfl)
theorem dX1_hide_26 : decode cX1_hide 26 = .ok (.new 224, 3) := dk_187 0 224 (dk_at dksX1_hide_1 3 rfl rfl)
theorem dX1_hide_29 : decode cX1_hide 29 = .ok (.dup, 1) := dk_89 (dk_at dksX1_hide_1 6 rfl rfl)
theorem dX1_hide_30 : decode cX1_hide 30 = .ok (.aload_n 1, 1) := dk_43 (dk_at dksX1_hide_1 7 rfl rfl)
theorem dX1_hide_31 : decode cX1_hide 31 = .ok (.getfield 218, 3) := dk_180 0 218 (dk_at dksX1_hide_1 8 rfl rfl)
theorem dX1_hide_34 : decode cX1_hide 34 = .ok (.aload_n 2, 1) := dk_44 (dk_at dksX1_hide_1 11 rfl rfl)
theorem dX1_hide_35 : decode cX1_hide 35 = .ok (.getfield 226, 3) := dk_180 0 226 (dk_at dksX1_hide_1 12 rfl rfl)
theorem dX1_hide_38 : decode cX1_hide 38 = .ok (.aload_n 0, 1) := dk_42 (dk_at dksX1_hide_1 15 rfl rfl)
theorem dX1_hide_39 : decode cX1_hide 39 = .ok (.getfield 137, 3) := dk_180 0 137 (dk_at dksX1_hide_1 16 rfl rfl)
theorem dX1_hide_42 : decode cX1_hide 42 = .ok (.invokespecial 229, 3) := dk_183 0 229 (dk_at dksX1_hide_1 19 rfl rfl)
theorem dX1_hide_45 : decode cX1_hide 45 = .ok (.invokeinterface 38 2, 5) := by decide +kernel
theorem dX1_hide_50 : decode cX1_hide 50 = .ok (.pop, 1) := dk_87 (dk_at dksX1_hide_2 5 rfl rfl)
theorem dX1_hide_51 : decode cX1_hide 51 = .ok (.return_, 1) := dk_177 (dk_at dksX1_hide_2 6 rfl rfl)
abbrev cX1_declare : ByteArray := prog_1_method_29_code
def yX1_declare : MethodName := ⟨RX1, "declare", "(LLullabygate$Sleeper;II)V"⟩
def dkwX1_declare_7 : List UInt8 := [182, 1, 29, 96, 181, 1, 26, 177]
abbrev dktX1_declare_7 : List UInt8 := dkwX1_declare_7 ++ []
def dkwX1_declare_6 : List UInt8 := [178, 1, 23, 182, 0, 244, 132, 7, 1, 167, 255, 142, 25, 4, 89, 180, 1, 26, 25, 4, 21, 6]
abbrev dktX1_declare_6 : List UInt8 := dkwX1_declare_6 ++ dktX1_declare_7
def dkwX1_declare_5 : List UInt8 := [3, 96, 181, 1, 4, 167, 0, 24, 28, 21, 7, 184, 0, 230, 153, 0, 15, 25, 8, 43, 180, 0, 134]
abbrev dktX1_declare_5 : List UInt8 := dkwX1_declare_5 ++ dktX1_declare_6
def dkwX1_declare_4 : List UInt8 := [178, 1, 20, 181, 1, 1, 25, 4, 89, 180, 1, 4, 25, 8, 182, 1, 7, 153, 0, 7, 4, 167, 0, 4]
abbrev dktX1_declare_4 : List UInt8 := dkwX1_declare_4 ++ dktX1_declare_5
def dkwX1_declare_3 : List UInt8 := [184, 0, 230, 153, 0, 53, 25, 8, 21, 6, 25, 4, 180, 0, 87, 163, 0, 9, 178, 1, 17, 167, 0, 6]
abbrev dktX1_declare_3 : List UInt8 := dkwX1_declare_3 ++ dktX1_declare_4
def dkwX1_declare_2 : List UInt8 := [162, 0, 106, 42, 180, 0, 22, 21, 7, 185, 0, 61, 2, 0, 192, 0, 73, 58, 8, 21, 5, 21, 7]
abbrev dktX1_declare_2 : List UInt8 := dkwX1_declare_2 ++ dktX1_declare_3
def dkwX1_declare_1 : List UInt8 := [42, 21, 5, 182, 1, 14, 54, 6, 3, 54, 7, 21, 7, 42, 180, 0, 22, 185, 0, 65, 1, 0]
abbrev dktX1_declare_1 : List UInt8 := dkwX1_declare_1 ++ dktX1_declare_2
def dkwX1_declare_0 : List UInt8 := [42, 180, 0, 10, 29, 185, 0, 61, 2, 0, 192, 0, 35, 58, 4, 42, 28, 25, 4, 182, 1, 10, 54, 5]
abbrev dktX1_declare_0 : List UInt8 := dkwX1_declare_0 ++ dktX1_declare_1
theorem dksX1_declare_0 : cX1_declare.data.toList.drop 0 = dktX1_declare_0 := by decide +kernel
theorem dksX1_declare_1 : cX1_declare.data.toList.drop 24 = dktX1_declare_1 := dk_seg dksX1_declare_0 24 rfl rfl
theorem dksX1_declare_2 : cX1_declare.data.toList.drop 46 = dktX1_declare_2 := dk_seg dksX1_declare_1 22 rfl rfl
theorem dksX1_declare_3 : cX1_declare.data.toList.drop 69 = dktX1_declare_3 := dk_seg dksX1_declare_2 23 rfl rfl
theorem dksX1_declare_4 : cX1_declare.data.toList.drop 93 = dktX1_declare_4 := dk_seg dksX1_declare_3 24 rfl rfl
theorem dksX1_declare_5 : cX1_declare.data.toList.drop 117 = dktX1_declare_5 := dk_seg dksX1_declare_4 24 rfl rfl
theorem dksX1_declare_6 : cX1_declare.data.toList.drop 140 = dktX1_declare_6 := dk_seg dksX1_declare_5 23 rfl rfl
theorem dksX1_declare_7 : cX1_declare.data.toList.drop 162 = dktX1_declare_7 := dk_seg dksX1_declare_6 22 rfl rfl
theorem dX1_declare_0 : decode cX1_declare 0 = .ok (.aload_n 0, 1) := dk_42 (dk_at dksX1_declare_0 0 rfl rfl)
theorem dX1_declare_1 : decode cX1_declare 1 = .ok (.getfield 10, 3) := dk_180 0 10 (dk_at dksX1_declare_0 1 rfl rfl)
theorem dX1_declare_4 : decode cX1_declare 4 = .ok (.iload_n 3, 1) := dk_29 (dk_at dksX1_declare_0 4 rfl rfl)
theorem dX1_declare_5 : decode cX1_declare 5 = .ok (.invokeinterface 61 2, 5) := by decide +kernel
theorem dX1_declare_10 : decode cX1_declare 10 = .ok (.checkcast 35, 3) := dk_192 0 35 (dk_at dksX1_declare_0 10 rfl rfl)
theorem dX1_declare_13 : decode cX1_declare 13 = .ok (.astore 4, 2) := dk_58 4 (dk_at dksX1_declare_0 13 rfl rfl)
theorem dX1_declare_15 : decode cX1_declare 15 = .ok (.aload_n 0, 1) := dk_42 (dk_at dksX1_declare_0 15 rfl rfl)
theorem dX1_declare_16 : decode cX1_declare 16 = .ok (.iload_n 2, 1) := dk_28 (dk_at dksX1_declare_0 16 rfl rfl)
theorem dX1_declare_17 : decode cX1_declare 17 = .ok (.aload 4, 2) := dk_25 4 (dk_at dksX1_declare_0 17 rfl rfl)
theorem dX1_declare_19 : decode cX1_declare 19 = .ok (.invokevirtual 266, 3) := dk_182 1 10 (dk_at dksX1_declare_0 19 rfl rfl)
theorem dX1_declare_22 : decode cX1_declare 22 = .ok (.istore 5, 2) := dk_54 5 (dk_at dksX1_declare_0 22 rfl rfl)
theorem dX1_declare_24 : decode cX1_declare 24 = .ok (.aload_n 0, 1) := dk_42 (dk_at dksX1_declare_1 0 rfl rfl)
theorem dX1_declare_25 : decode cX1_declare 25 = .ok (.iload 5, 2) := dk_21 5 (dk_at dksX1_declare_1 1 rfl rfl)
theorem dX1_declare_27 : decode cX1_declare 27 = .ok (.invokevirtual 270, 3) := dk_182 1 14 (dk_at dksX1_declare_1 3 rfl rfl)
theorem dX1_declare_30 : decode cX1_declare 30 = .ok (.istore 6, 2) := dk_54 6 (dk_at dksX1_declare_1 6 rfl rfl)
theorem dX1_declare_32 : decode cX1_declare 32 = .ok (.iconst 0, 1) := dk_3 (dk_at dksX1_declare_1 8 rfl rfl)
theorem dX1_declare_33 : decode cX1_declare 33 = .ok (.istore 7, 2) := dk_54 7 (dk_at dksX1_declare_1 9 rfl rfl)
theorem dX1_declare_35 : decode cX1_declare 35 = .ok (.iload 7, 2) := dk_21 7 (dk_at dksX1_declare_1 11 rfl rfl)
theorem dX1_declare_37 : decode cX1_declare 37 = .ok (.aload_n 0, 1) := dk_42 (dk_at dksX1_declare_1 13 rfl rfl)
theorem dX1_declare_38 : decode cX1_declare 38 = .ok (.getfield 22, 3) := dk_180 0 22 (dk_at dksX1_declare_1 14 rfl rfl)
theorem dX1_declare_41 : decode cX1_declare 41 = .ok (.invokeinterface 65 1, 5) := by decide +kernel
theorem dX1_declare_46 : decode cX1_declare 46 = .ok (.if_icmp .ge 106, 3) := dk_162 0 106 (dk_at dksX1_declare_2 0 rfl rfl)
theorem dX1_declare_49 : decode cX1_declare 49 = .ok (.aload_n 0, 1) := dk_42 (dk_at dksX1_declare_2 3 rfl rfl)
theorem dX1_declare_50 : decode cX1_declare 50 = .ok (.getfield 22, 3) := dk_180 0 22 (dk_at dksX1_declare_2 4 rfl rfl)
theorem dX1_declare_53 : decode cX1_declare 53 = .ok (.iload 7, 2) := dk_21 7 (dk_at dksX1_declare_2 7 rfl rfl)
theorem dX1_declare_55 : decode cX1_declare 55 = .ok (.invokeinterface 61 2, 5) := by decide +kernel
theorem dX1_declare_60 : decode cX1_declare 60 = .ok (.checkcast 73, 3) := dk_192 0 73 (dk_at dksX1_declare_2 14 rfl rfl)
theorem dX1_declare_63 : decode cX1_declare 63 = .ok (.astore 8, 2) := dk_58 8 (dk_at dksX1_declare_2 17 rfl rfl)
theorem dX1_declare_65 : decode cX1_declare 65 = .ok (.iload 5, 2) := dk_21 5 (dk_at dksX1_declare_2 19 rfl rfl)
theorem dX1_declare_67 : decode cX1_declare 67 = .ok (.iload 7, 2) := dk_21 7 (dk_at dksX1_declare_2 21 rfl rfl)
theorem dX1_declare_69 : decode cX1_declare 69 = .ok (.invokestatic 230, 3) := dk_184 0 230 (dk_at dksX1_declare_3 0 rfl rfl)
theorem dX1_declare_72 : decode cX1_declare 72 = .ok (.ifCond .eq 53, 3) := dk_153 0 53 (dk_at dksX1_declare_3 3 rfl rfl)
theorem dX1_declare_75 : decode cX1_declare 75 = .ok (.aload 8, 2) := dk_25 8 (dk_at dksX1_declare_3 6 rfl rfl)
theorem dX1_declare_77 : decode cX1_declare 77 = .ok (.iload 6, 2) := dk_21 6 (dk_at dksX1_declare_3 8 rfl rfl)
theorem dX1_declare_79 : decode cX1_declare 79 = .ok (.aload 4, 2) := dk_25 4 (dk_at dksX1_declare_3 10 rfl rfl)
theorem dX1_declare_81 : decode cX1_declare 81 = .ok (.getfield 87, 3) := dk_180 0 87 (dk_at dksX1_declare_3 12 rfl rfl)
theorem dX1_declare_84 : decode cX1_declare 84 = .ok (.if_icmp .gt 9, 3) := dk_163 0 9 (dk_at dksX1_declare_3 15 rfl rfl)
theorem dX1_declare_87 : decode cX1_declare 87 = .ok (.getstatic 273, 3) := dk_178 1 17 (dk_at dksX1_declare_3 18 rfl rfl)
theorem dX1_declare_90 : decode cX1_declare 90 = .ok (.goto 6, 3) := dk_167 0 6 (dk_at dksX1_declare_3 21 rfl rfl)
theorem dX1_declare_93 : decode cX1_declare 93 = .ok (.getstatic 276, 3) := dk_178 1 20 (dk_at dksX1_declare_4 0 rfl rfl)
theorem dX1_declare_96 : decode cX1_declare 96 = .ok (.putfield 257, 3) := dk_181 1 1 (dk_at dksX1_declare_4 3 rfl rfl)
theorem dX1_declare_99 : decode cX1_declare 99 = .ok (.aload 4, 2) := dk_25 4 (dk_at dksX1_declare_4 6 rfl rfl)
theorem dX1_declare_101 : decode cX1_declare 101 = .ok (.dup, 1) := dk_89 (dk_at dksX1_declare_4 8 rfl rfl)
theorem dX1_declare_102 : decode cX1_declare 102 = .ok (.getfield 260, 3) := dk_180 1 4 (dk_at dksX1_declare_4 9 rfl rfl)
theorem dX1_declare_105 : decode cX1_declare 105 = .ok (.aload 8, 2) := dk_25 8 (dk_at dksX1_declare_4 12 rfl rfl)
theorem dX1_declare_107 : decode cX1_declare 107 = .ok (.invokevirtual 263, 3) := dk_182 1 7 (dk_at dksX1_declare_4 14 rfl rfl)
theorem dX1_declare_110 : decode cX1_declare 110 = .ok (.ifCond .eq 7, 3) := dk_153 0 7 (dk_at dksX1_declare_4 17 rfl rfl)
theorem dX1_declare_113 : decode cX1_declare 113 = .ok (.iconst 1, 1) := dk_4 (dk_at dksX1_declare_4 20 rfl rfl)
theorem dX1_declare_114 : decode cX1_declare 114 = .ok (.goto 4, 3) := dk_167 0 4 (dk_at dksX1_declare_4 21 rfl rfl)
theorem dX1_declare_117 : decode cX1_declare 117 = .ok (.iconst 0, 1) := dk_3 (dk_at dksX1_declare_5 0 rfl rfl)
theorem dX1_declare_118 : decode cX1_declare 118 = .ok (.iadd, 1) := dk_96 (dk_at dksX1_declare_5 1 rfl rfl)
theorem dX1_declare_119 : decode cX1_declare 119 = .ok (.putfield 260, 3) := dk_181 1 4 (dk_at dksX1_declare_5 2 rfl rfl)
theorem dX1_declare_122 : decode cX1_declare 122 = .ok (.goto 24, 3) := dk_167 0 24 (dk_at dksX1_declare_5 5 rfl rfl)
theorem dX1_declare_125 : decode cX1_declare 125 = .ok (.iload_n 2, 1) := dk_28 (dk_at dksX1_declare_5 8 rfl rfl)
theorem dX1_declare_126 : decode cX1_declare 126 = .ok (.iload 7, 2) := dk_21 7 (dk_at dksX1_declare_5 9 rfl rfl)
theorem dX1_declare_128 : decode cX1_declare 128 = .ok (.invokestatic 230, 3) := dk_184 0 230 (dk_at dksX1_declare_5 11 rfl rfl)
theorem dX1_declare_131 : decode cX1_declare 131 = .ok (.ifCond .eq 15, 3) := dk_153 0 15 (dk_at dksX1_declare_5 14 rfl rfl)
theorem dX1_declare_134 : decode cX1_declare 134 = .ok (.aload 8, 2) := dk_25 8 (dk_at dksX1_declare_5 17 rfl rfl)
theorem dX1_declare_136 : decode cX1_declare 136 = .ok (.aload_n 1, 1) := dk_43 (dk_at dksX1_declare_5 19 rfl rfl)
theorem dX1_declare_137 : decode cX1_declare 137 = .ok (.getfield 134, 3) := dk_180 0 134 (dk_at dksX1_declare_5 20 rfl rfl)
theorem dX1_declare_140 : decode cX1_declare 140 = .ok (.getstatic 279, 3) := dk_178 1 23 (dk_at dksX1_declare_6 0 rfl rfl)
theorem dX1_declare_143 : decode cX1_declare 143 = .ok (.invokevirtual 244, 3) := dk_182 0 244 (dk_at dksX1_declare_6 3 rfl rfl)
theorem dX1_declare_146 : decode cX1_declare 146 = .ok (.iinc 7 1, 3) := dk_132 7 1 (dk_at dksX1_declare_6 6 rfl rfl)
theorem dX1_declare_149 : decode cX1_declare 149 = .ok (.goto (-114), 3) := dk_167 255 142 (dk_at dksX1_declare_6 9 rfl rfl)
theorem dX1_declare_152 : decode cX1_declare 152 = .ok (.aload 4, 2) := dk_25 4 (dk_at dksX1_declare_6 12 rfl rfl)
theorem dX1_declare_154 : decode cX1_declare 154 = .ok (.dup, 1) := dk_89 (dk_at dksX1_declare_6 14 rfl rfl)
theorem dX1_declare_155 : decode cX1_declare 155 = .ok (.getfield 282, 3) := dk_180 1 26 (dk_at dksX1_declare_6 15 rfl rfl)
theorem dX1_declare_158 : decode cX1_declare 158 = .ok (.aload 4, 2) := dk_25 4 (dk_at dksX1_declare_6 18 rfl rfl)
theorem dX1_declare_160 : decode cX1_declare 160 = .ok (.iload 6, 2) := dk_21 6 (dk_at dksX1_declare_6 20 rfl rfl)
theorem dX1_declare_162 : decode cX1_declare 162 = .ok (.invokevirtual 285, 3) := dk_182 1 29 (dk_at dksX1_declare_7 0 rfl rfl)
theorem dX1_declare_165 : decode cX1_declare 165 = .ok (.iadd, 1) := dk_96 (dk_at dksX1_declare_7 3 rfl rfl)
theorem dX1_declare_166 : decode cX1_declare 166 = .ok (.putfield 282, 3) := dk_181 1 26 (dk_at dksX1_declare_7 4 rfl rfl)
theorem dX1_declare_169 : decode cX1_declare 169 = .ok (.return_, 1) := dk_177 (dk_at dksX1_declare_7 7 rfl rfl)
abbrev cX1_wear : ByteArray := prog_1_method_32_code
def yX1_wear : MethodName := ⟨RX1, "wear", "(LLullabygate$Gate;)V"⟩
def dkwX1_wear_3 : List UInt8 := [132, 2, 1, 167, 255, 190, 177]
abbrev dktX1_wear_3 : List UInt8 := dkwX1_wear_3 ++ []
def dkwX1_wear_2 : List UInt8 := [154, 0, 22, 43, 180, 0, 209, 28, 185, 0, 212, 2, 0, 87, 42, 45, 182, 1, 56, 167, 0, 6]
abbrev dktX1_wear_2 : List UInt8 := dkwX1_wear_2 ++ dktX1_wear_3
def dkwX1_wear_1 : List UInt8 := [185, 0, 61, 2, 0, 192, 0, 71, 78, 45, 89, 180, 1, 53, 4, 100, 181, 1, 53, 45, 180, 1, 53]
abbrev dktX1_wear_1 : List UInt8 := dkwX1_wear_1 ++ dktX1_wear_2
def dkwX1_wear_0 : List UInt8 := [3, 61, 28, 43, 180, 0, 209, 185, 0, 65, 1, 0, 162, 0, 59, 43, 180, 0, 209, 28]
abbrev dktX1_wear_0 : List UInt8 := dkwX1_wear_0 ++ dktX1_wear_1
theorem dksX1_wear_0 : cX1_wear.data.toList.drop 0 = dktX1_wear_0 := by decide +kernel
theorem dksX1_wear_1 : cX1_wear.data.toList.drop 20 = dktX1_wear_1 := dk_seg dksX1_wear_0 20 rfl rfl
theorem dksX1_wear_2 : cX1_wear.data.toList.drop 43 = dktX1_wear_2 := dk_seg dksX1_wear_1 23 rfl rfl
theorem dksX1_wear_3 : cX1_wear.data.toList.drop 65 = dktX1_wear_3 := dk_seg dksX1_wear_2 22 rfl rfl
theorem dX1_wear_0 : decode cX1_wear 0 = .ok (.iconst 0, 1) := dk_3 (dk_at dksX1_wear_0 0 rfl rfl)
theorem dX1_wear_1 : decode cX1_wear 1 = .ok (.istore_n 2, 1) := dk_61 (dk_at dksX1_wear_0 1 rfl rfl)
theorem dX1_wear_2 : decode cX1_wear 2 = .ok (.iload_n 2, 1) := dk_28 (dk_at dksX1_wear_0 2 rfl rfl)
theorem dX1_wear_3 : decode cX1_wear 3 = .ok (.aload_n 1, 1) := dk_43 (dk_at dksX1_wear_0 3 rfl rfl)
theorem dX1_wear_4 : decode cX1_wear 4 = .ok (.getfield 209, 3) := dk_180 0 209 (dk_at dksX1_wear_0 4 rfl rfl)
theorem dX1_wear_7 : decode cX1_wear 7 = .ok (.invokeinterface 65 1, 5) := by decide +kernel
theorem dX1_wear_12 : decode cX1_wear 12 = .ok (.if_icmp .ge 59, 3) := dk_162 0 59 (dk_at dksX1_wear_0 12 rfl rfl)
theorem dX1_wear_15 : decode cX1_wear 15 = .ok (.aload_n 1, 1) := dk_43 (dk_at dksX1_wear_0 15 rfl rfl)
theorem dX1_wear_16 : decode cX1_wear 16 = .ok (.getfield 209, 3) := dk_180 0 209 (dk_at dksX1_wear_0 16 rfl rfl)
theorem dX1_wear_19 : decode cX1_wear 19 = .ok (.iload_n 2, 1) := dk_28 (dk_at dksX1_wear_0 19 rfl rfl)
theorem dX1_wear_20 : decode cX1_wear 20 = .ok (.invokeinterface 61 2, 5) := by decide +kernel
theorem dX1_wear_25 : decode cX1_wear 25 = .ok (.checkcast 71, 3) := dk_192 0 71 (dk_at dksX1_wear_1 5 rfl rfl)
theorem dX1_wear_28 : decode cX1_wear 28 = .ok (.astore_n 3, 1) := dk_78 (dk_at dksX1_wear_1 8 rfl rfl)
theorem dX1_wear_29 : decode cX1_wear 29 = .ok (.aload_n 3, 1) := dk_45 (dk_at dksX1_wear_1 9 rfl rfl)
theorem dX1_wear_30 : decode cX1_wear 30 = .ok (.dup, 1) := dk_89 (dk_at dksX1_wear_1 10 rfl rfl)
theorem dX1_wear_31 : decode cX1_wear 31 = .ok (.getfield 309, 3) := dk_180 1 53 (dk_at dksX1_wear_1 11 rfl rfl)
theorem dX1_wear_34 : decode cX1_wear 34 = .ok (.iconst 1, 1) := dk_4 (dk_at dksX1_wear_1 14 rfl rfl)
theorem dX1_wear_35 : decode cX1_wear 35 = .ok (.isub, 1) := dk_100 (dk_at dksX1_wear_1 15 rfl rfl)
theorem dX1_wear_36 : decode cX1_wear 36 = .ok (.putfield 309, 3) := dk_181 1 53 (dk_at dksX1_wear_1 16 rfl rfl)
theorem dX1_wear_39 : decode cX1_wear 39 = .ok (.aload_n 3, 1) := dk_45 (dk_at dksX1_wear_1 19 rfl rfl)
theorem dX1_wear_40 : decode cX1_wear 40 = .ok (.getfield 309, 3) := dk_180 1 53 (dk_at dksX1_wear_1 20 rfl rfl)
theorem dX1_wear_43 : decode cX1_wear 43 = .ok (.ifCond .ne 22, 3) := dk_154 0 22 (dk_at dksX1_wear_2 0 rfl rfl)
theorem dX1_wear_46 : decode cX1_wear 46 = .ok (.aload_n 1, 1) := dk_43 (dk_at dksX1_wear_2 3 rfl rfl)
theorem dX1_wear_47 : decode cX1_wear 47 = .ok (.getfield 209, 3) := dk_180 0 209 (dk_at dksX1_wear_2 4 rfl rfl)
theorem dX1_wear_50 : decode cX1_wear 50 = .ok (.iload_n 2, 1) := dk_28 (dk_at dksX1_wear_2 7 rfl rfl)
theorem dX1_wear_51 : decode cX1_wear 51 = .ok (.invokeinterface 212 2, 5) := by decide +kernel
theorem dX1_wear_56 : decode cX1_wear 56 = .ok (.pop, 1) := dk_87 (dk_at dksX1_wear_2 13 rfl rfl)
theorem dX1_wear_57 : decode cX1_wear 57 = .ok (.aload_n 0, 1) := dk_42 (dk_at dksX1_wear_2 14 rfl rfl)
theorem dX1_wear_58 : decode cX1_wear 58 = .ok (.aload_n 3, 1) := dk_45 (dk_at dksX1_wear_2 15 rfl rfl)
theorem dX1_wear_59 : decode cX1_wear 59 = .ok (.invokevirtual 312, 3) := dk_182 1 56 (dk_at dksX1_wear_2 16 rfl rfl)
theorem dX1_wear_62 : decode cX1_wear 62 = .ok (.goto 6, 3) := dk_167 0 6 (dk_at dksX1_wear_2 19 rfl rfl)
theorem dX1_wear_65 : decode cX1_wear 65 = .ok (.iinc 2 1, 3) := dk_132 2 1 (dk_at dksX1_wear_3 0 rfl rfl)
theorem dX1_wear_68 : decode cX1_wear 68 = .ok (.goto (-66), 3) := dk_167 255 190 (dk_at dksX1_wear_3 3 rfl rfl)
theorem dX1_wear_71 : decode cX1_wear 71 = .ok (.return_, 1) := dk_177 (dk_at dksX1_wear_3 6 rfl rfl)
abbrev cX1_wake : ByteArray := prog_1_method_31_code
def yX1_wake : MethodName := ⟨RX1, "wake", "(LLullabygate$Sleeper;)V"⟩
def dkwX1_wake_2 : List UInt8 := [180, 0, 218, 160, 0, 7, 2, 167, 0, 7, 45, 180, 0, 131, 181, 0, 131, 132, 2, 1, 167, 255, 203, 177]
abbrev dktX1_wake_2 : List UInt8 := dkwX1_wake_2 ++ []
def dkwX1_wake_1 : List UInt8 := [162, 0, 46, 42, 180, 0, 22, 28, 185, 0, 61, 2, 0, 192, 0, 73, 78, 45, 45, 180, 0, 131, 43]
abbrev dktX1_wake_1 : List UInt8 := dkwX1_wake_1 ++ dktX1_wake_2
def dkwX1_wake_0 : List UInt8 := [43, 182, 0, 215, 43, 178, 1, 50, 181, 0, 195, 3, 61, 28, 42, 180, 0, 22, 185, 0, 65, 1, 0]
abbrev dktX1_wake_0 : List UInt8 := dkwX1_wake_0 ++ dktX1_wake_1
theorem dksX1_wake_0 : cX1_wake.data.toList.drop 0 = dktX1_wake_0 := by decide +kernel
theorem dksX1_wake_1 : cX1_wake.data.toList.drop 23 = dktX1_wake_1 := dk_seg dksX1_wake_0 23 rfl rfl
theorem dksX1_wake_2 : cX1_wake.data.toList.drop 46 = dktX1_wake_2 := dk_seg dksX1_wake_1 23 rfl rfl
theorem dX1_wake_0 : decode cX1_wake 0 = .ok (.aload_n 1, 1) := dk_43 (dk_at dksX1_wake_0 0 rfl rfl)
theorem dX1_wake_1 : decode cX1_wake 1 = .ok (.invokevirtual 215, 3) := dk_182 0 215 (dk_at dksX1_wake_0 1 rfl rfl)
theorem dX1_wake_4 : decode cX1_wake 4 = .ok (.aload_n 1, 1) := dk_43 (dk_at dksX1_wake_0 4 rfl rfl)
theorem dX1_wake_5 : decode cX1_wake 5 = .ok (.getstatic 306, 3) := dk_178 1 50 (dk_at dksX1_wake_0 5 rfl rfl)
theorem dX1_wake_8 : decode cX1_wake 8 = .ok (.putfield 195, 3) := dk_181 0 195 (dk_at dksX1_wake_0 8 rfl rfl)
theorem dX1_wake_11 : decode cX1_wake 11 = .ok (.iconst 0, 1) := dk_3 (dk_at dksX1_wake_0 11 rfl rfl)
theorem dX1_wake_12 : decode cX1_wake 12 = .ok (.istore_n 2, 1) := dk_61 (dk_at dksX1_wake_0 12 rfl rfl)
theorem dX1_wake_13 : decode cX1_wake 13 = .ok (.iload_n 2, 1) := dk_28 (dk_at dksX1_wake_0 13 rfl rfl)
theorem dX1_wake_14 : decode cX1_wake 14 = .ok (.aload_n 0, 1) := dk_42 (dk_at dksX1_wake_0 14 rfl rfl)
theorem dX1_wake_15 : decode cX1_wake 15 = .ok (.getfield 22, 3) := dk_180 0 22 (dk_at dksX1_wake_0 15 rfl rfl)
theorem dX1_wake_18 : decode cX1_wake 18 = .ok (.invokeinterface 65 1, 5) := by decide +kernel
theorem dX1_wake_23 : decode cX1_wake 23 = .ok (.if_icmp .ge 46, 3) := dk_162 0 46 (dk_at dksX1_wake_1 0 rfl rfl)
theorem dX1_wake_26 : decode cX1_wake 26 = .ok (.aload_n 0, 1) := dk_42 (dk_at dksX1_wake_1 3 rfl rfl)
theorem dX1_wake_27 : decode cX1_wake 27 = .ok (.getfield 22, 3) := dk_180 0 22 (dk_at dksX1_wake_1 4 rfl rfl)
theorem dX1_wake_30 : decode cX1_wake 30 = .ok (.iload_n 2, 1) := dk_28 (dk_at dksX1_wake_1 7 rfl rfl)
theorem dX1_wake_31 : decode cX1_wake 31 = .ok (.invokeinterface 61 2, 5) := by decide +kernel
theorem dX1_wake_36 : decode cX1_wake 36 = .ok (.checkcast 73, 3) := dk_192 0 73 (dk_at dksX1_wake_1 13 rfl rfl)
theorem dX1_wake_39 : decode cX1_wake 39 = .ok (.astore_n 3, 1) := dk_78 (dk_at dksX1_wake_1 16 rfl rfl)
theorem dX1_wake_40 : decode cX1_wake 40 = .ok (.aload_n 3, 1) := dk_45 (dk_at dksX1_wake_1 17 rfl rfl)
theorem dX1_wake_41 : decode cX1_wake 41 = .ok (.aload_n 3, 1) := dk_45 (dk_at dksX1_wake_1 18 rfl rfl)
theorem dX1_wake_42 : decode cX1_wake 42 = .ok (.getfield 131, 3) := dk_180 0 131 (dk_at dksX1_wake_1 19 rfl rfl)
theorem dX1_wake_45 : decode cX1_wake 45 = .ok (.aload_n 1, 1) := dk_43 (dk_at dksX1_wake_1 22 rfl rfl)
theorem dX1_wake_46 : decode cX1_wake 46 = .ok (.getfield 218, 3) := dk_180 0 218 (dk_at dksX1_wake_2 0 rfl rfl)
theorem dX1_wake_49 : decode cX1_wake 49 = .ok (.if_icmp .ne 7, 3) := dk_160 0 7 (dk_at dksX1_wake_2 3 rfl rfl)
theorem dX1_wake_52 : decode cX1_wake 52 = .ok (.iconst (-1), 1) := dk_2 (dk_at dksX1_wake_2 6 rfl rfl)
theorem dX1_wake_53 : decode cX1_wake 53 = .ok (.goto 7, 3) := dk_167 0 7 (dk_at dksX1_wake_2 7 rfl rfl)
theorem dX1_wake_56 : decode cX1_wake 56 = .ok (.aload_n 3, 1) := dk_45 (dk_at dksX1_wake_2 10 rfl rfl)
theorem dX1_wake_57 : decode cX1_wake 57 = .ok (.getfield 131, 3) := dk_180 0 131 (dk_at dksX1_wake_2 11 rfl rfl)
theorem dX1_wake_60 : decode cX1_wake 60 = .ok (.putfield 131, 3) := dk_181 0 131 (dk_at dksX1_wake_2 14 rfl rfl)
theorem dX1_wake_63 : decode cX1_wake 63 = .ok (.iinc 2 1, 3) := dk_132 2 1 (dk_at dksX1_wake_2 17 rfl rfl)
theorem dX1_wake_66 : decode cX1_wake 66 = .ok (.goto (-53), 3) := dk_167 255 203 (dk_at dksX1_wake_2 20 rfl rfl)
theorem dX1_wake_69 : decode cX1_wake 69 = .ok (.return_, 1) := dk_177 (dk_at dksX1_wake_2 23 rfl rfl)
abbrev cX1_appeal : ByteArray := prog_1_method_34_code
def yX1_appeal : MethodName := ⟨RX1, "appeal", "(I)Z"⟩
def dkwX1_appeal_5 : List UInt8 := [181, 1, 84, 44, 44, 180, 0, 221, 181, 0, 131, 44, 178, 1, 17, 181, 1, 1, 4, 172]
abbrev dktX1_appeal_5 : List UInt8 := dkwX1_appeal_5 ++ []
def dkwX1_appeal_4 : List UInt8 := [182, 0, 122, 154, 0, 5, 3, 172, 45, 89, 180, 0, 248, 44, 180, 0, 251, 100, 181, 0, 248, 44, 2]
abbrev dktX1_appeal_4 : List UInt8 := dkwX1_appeal_4 ++ dktX1_appeal_5
def dkwX1_appeal_3 : List UInt8 := [180, 0, 87, 163, 0, 26, 25, 4, 180, 0, 134, 44, 180, 1, 84, 160, 0, 14, 25, 4, 178, 0, 116]
abbrev dktX1_appeal_3 : List UInt8 := dkwX1_appeal_3 ++ dktX1_appeal_4
def dkwX1_appeal_2 : List UInt8 := [78, 42, 180, 0, 19, 44, 180, 0, 221, 185, 0, 61, 2, 0, 192, 0, 71, 58, 4, 44, 180, 0, 251, 45]
abbrev dktX1_appeal_2 : List UInt8 := dkwX1_appeal_2 ++ dktX1_appeal_3
def dkwX1_appeal_1 : List UInt8 := [4, 167, 0, 4, 3, 184, 0, 93, 42, 180, 0, 10, 44, 180, 1, 84, 185, 0, 61, 2, 0, 192, 0, 35]
abbrev dktX1_appeal_1 : List UInt8 := dkwX1_appeal_1 ++ dktX1_appeal_2
def dkwX1_appeal_0 : List UInt8 := [42, 27, 182, 0, 127, 77, 44, 180, 1, 1, 178, 0, 238, 166, 0, 15, 44, 180, 1, 84, 2, 159, 0, 7]
abbrev dktX1_appeal_0 : List UInt8 := dkwX1_appeal_0 ++ dktX1_appeal_1
theorem dksX1_appeal_0 : cX1_appeal.data.toList.drop 0 = dktX1_appeal_0 := by decide +kernel
theorem dksX1_appeal_1 : cX1_appeal.data.toList.drop 24 = dktX1_appeal_1 := dk_seg dksX1_appeal_0 24 rfl rfl
theorem dksX1_appeal_2 : cX1_appeal.data.toList.drop 48 = dktX1_appeal_2 := dk_seg dksX1_appeal_1 24 rfl rfl
theorem dksX1_appeal_3 : cX1_appeal.data.toList.drop 72 = dktX1_appeal_3 := dk_seg dksX1_appeal_2 24 rfl rfl
theorem dksX1_appeal_4 : cX1_appeal.data.toList.drop 95 = dktX1_appeal_4 := dk_seg dksX1_appeal_3 23 rfl rfl
theorem dksX1_appeal_5 : cX1_appeal.data.toList.drop 118 = dktX1_appeal_5 := dk_seg dksX1_appeal_4 23 rfl rfl
theorem dX1_appeal_0 : decode cX1_appeal 0 = .ok (.aload_n 0, 1) := dk_42 (dk_at dksX1_appeal_0 0 rfl rfl)
theorem dX1_appeal_1 : decode cX1_appeal 1 = .ok (.iload_n 1, 1) := dk_27 (dk_at dksX1_appeal_0 1 rfl rfl)
theorem dX1_appeal_2 : decode cX1_appeal 2 = .ok (.invokevirtual 127, 3) := dk_182 0 127 (dk_at dksX1_appeal_0 2 rfl rfl)
theorem dX1_appeal_5 : decode cX1_appeal 5 = .ok (.astore_n 2, 1) := dk_77 (dk_at dksX1_appeal_0 5 rfl rfl)
theorem dX1_appeal_6 : decode cX1_appeal 6 = .ok (.aload_n 2, 1) := dk_44 (dk_at dksX1_appeal_0 6 rfl rfl)
theorem dX1_appeal_7 : decode cX1_appeal 7 = .ok (.getfield 257, 3) := dk_180 1 1 (dk_at dksX1_appeal_0 7 rfl rfl)
theorem dX1_appeal_10 : decode cX1_appeal 10 = .ok (.getstatic 238, 3) := dk_178 0 238 (dk_at dksX1_appeal_0 10 rfl rfl)
theorem dX1_appeal_13 : decode cX1_appeal 13 = .ok (.if_acmp .ne 15, 3) := dk_166 0 15 (dk_at dksX1_appeal_0 13 rfl rfl)
theorem dX1_appeal_16 : decode cX1_appeal 16 = .ok (.aload_n 2, 1) := dk_44 (dk_at dksX1_appeal_0 16 rfl rfl)
theorem dX1_appeal_17 : decode cX1_appeal 17 = .ok (.getfield 340, 3) := dk_180 1 84 (dk_at dksX1_appeal_0 17 rfl rfl)
theorem dX1_appeal_20 : decode cX1_appeal 20 = .ok (.iconst (-1), 1) := dk_2 (dk_at dksX1_appeal_0 20 rfl rfl)
theorem dX1_appeal_21 : decode cX1_appeal 21 = .ok (.if_icmp .eq 7, 3) := dk_159 0 7 (dk_at dksX1_appeal_0 21 rfl rfl)
theorem dX1_appeal_24 : decode cX1_appeal 24 = .ok (.iconst 1, 1) := dk_4 (dk_at dksX1_appeal_1 0 rfl rfl)
theorem dX1_appeal_25 : decode cX1_appeal 25 = .ok (.goto 4, 3) := dk_167 0 4 (dk_at dksX1_appeal_1 1 rfl rfl)
theorem dX1_appeal_28 : decode cX1_appeal 28 = .ok (.iconst 0, 1) := dk_3 (dk_at dksX1_appeal_1 4 rfl rfl)
theorem dX1_appeal_29 : decode cX1_appeal 29 = .ok (.invokestatic 93, 3) := dk_184 0 93 (dk_at dksX1_appeal_1 5 rfl rfl)
theorem dX1_appeal_32 : decode cX1_appeal 32 = .ok (.aload_n 0, 1) := dk_42 (dk_at dksX1_appeal_1 8 rfl rfl)
theorem dX1_appeal_33 : decode cX1_appeal 33 = .ok (.getfield 10, 3) := dk_180 0 10 (dk_at dksX1_appeal_1 9 rfl rfl)
theorem dX1_appeal_36 : decode cX1_appeal 36 = .ok (.aload_n 2, 1) := dk_44 (dk_at dksX1_appeal_1 12 rfl rfl)
theorem dX1_appeal_37 : decode cX1_appeal 37 = .ok (.getfield 340, 3) := dk_180 1 84 (dk_at dksX1_appeal_1 13 rfl rfl)
theorem dX1_appeal_40 : decode cX1_appeal 40 = .ok (.invokeinterface 61 2, 5) := by decide +kernel
theorem dX1_appeal_45 : decode cX1_appeal 45 = .ok (.checkcast 35, 3) := dk_192 0 35 (dk_at dksX1_appeal_1 21 rfl rfl)
theorem dX1_appeal_48 : decode cX1_appeal 48 = .ok (.astore_n 3, 1) := dk_78 (dk_at dksX1_appeal_2 0 rfl rfl)
theorem dX1_appeal_49 : decode cX1_appeal 49 = .ok (.aload_n 0, 1) := dk_42 (dk_at dksX1_appeal_2 1 rfl rfl)
theorem dX1_appeal_50 : decode cX1_appeal 50 = .ok (.getfield 19, 3) := dk_180 0 19 (dk_at dksX1_appeal_2 2 rfl rfl)
theorem dX1_appeal_53 : decode cX1_appeal 53 = .ok (.aload_n 2, 1) := dk_44 (dk_at dksX1_appeal_2 5 rfl rfl)
theorem dX1_appeal_54 : decode cX1_appeal 54 = .ok (.getfield 221, 3) := dk_180 0 221 (dk_at dksX1_appeal_2 6 rfl rfl)
theorem dX1_appeal_57 : decode cX1_appeal 57 = .ok (.invokeinterface 61 2, 5) := by decide +kernel
theorem dX1_appeal_62 : decode cX1_appeal 62 = .ok (.checkcast 71, 3) := dk_192 0 71 (dk_at dksX1_appeal_2 14 rfl rfl)
theorem dX1_appeal_65 : decode cX1_appeal 65 = .ok (.astore 4, 2) := dk_58 4 (dk_at dksX1_appeal_2 17 rfl rfl)
theorem dX1_appeal_67 : decode cX1_appeal 67 = .ok (.aload_n 2, 1) := dk_44 (dk_at dksX1_appeal_2 19 rfl rfl)
theorem dX1_appeal_68 : decode cX1_appeal 68 = .ok (.getfield 251, 3) := dk_180 0 251 (dk_at dksX1_appeal_2 20 rfl rfl)
theorem dX1_appeal_71 : decode cX1_appeal 71 = .ok (.aload_n 3, 1) := dk_45 (dk_at dksX1_appeal_2 23 rfl rfl)
theorem dX1_appeal_72 : decode cX1_appeal 72 = .ok (.getfield 87, 3) := dk_180 0 87 (dk_at dksX1_appeal_3 0 rfl rfl)
theorem dX1_appeal_75 : decode cX1_appeal 75 = .ok (.if_icmp .gt 26, 3) := dk_163 0 26 (dk_at dksX1_appeal_3 3 rfl rfl)
theorem dX1_appeal_78 : decode cX1_appeal 78 = .ok (.aload 4, 2) := dk_25 4 (dk_at dksX1_appeal_3 6 rfl rfl)
theorem dX1_appeal_80 : decode cX1_appeal 80 = .ok (.getfield 134, 3) := dk_180 0 134 (dk_at dksX1_appeal_3 8 rfl rfl)
theorem dX1_appeal_83 : decode cX1_appeal 83 = .ok (.aload_n 2, 1) := dk_44 (dk_at dksX1_appeal_3 11 rfl rfl)
theorem dX1_appeal_84 : decode cX1_appeal 84 = .ok (.getfield 340, 3) := dk_180 1 84 (dk_at dksX1_appeal_3 12 rfl rfl)
theorem dX1_appeal_87 : decode cX1_appeal 87 = .ok (.if_icmp .ne 14, 3) := dk_160 0 14 (dk_at dksX1_appeal_3 15 rfl rfl)
theorem dX1_appeal_90 : decode cX1_appeal 90 = .ok (.aload 4, 2) := dk_25 4 (dk_at dksX1_appeal_3 18 rfl rfl)
theorem dX1_appeal_92 : decode cX1_appeal 92 = .ok (.getstatic 116, 3) := dk_178 0 116 (dk_at dksX1_appeal_3 20 rfl rfl)
theorem dX1_appeal_95 : decode cX1_appeal 95 = .ok (.invokevirtual 122, 3) := dk_182 0 122 (dk_at dksX1_appeal_4 0 rfl rfl)
theorem dX1_appeal_98 : decode cX1_appeal 98 = .ok (.ifCond .ne 5, 3) := dk_154 0 5 (dk_at dksX1_appeal_4 3 rfl rfl)
theorem dX1_appeal_101 : decode cX1_appeal 101 = .ok (.iconst 0, 1) := dk_3 (dk_at dksX1_appeal_4 6 rfl rfl)
theorem dX1_appeal_102 : decode cX1_appeal 102 = .ok (.ireturn, 1) := dk_172 (dk_at dksX1_appeal_4 7 rfl rfl)
theorem dX1_appeal_103 : decode cX1_appeal 103 = .ok (.aload_n 3, 1) := dk_45 (dk_at dksX1_appeal_4 8 rfl rfl)
theorem dX1_appeal_104 : decode cX1_appeal 104 = .ok (.dup, 1) := dk_89 (dk_at dksX1_appeal_4 9 rfl rfl)
theorem dX1_appeal_105 : decode cX1_appeal 105 = .ok (.getfield 248, 3) := dk_180 0 248 (dk_at dksX1_appeal_4 10 rfl rfl)
theorem dX1_appeal_108 : decode cX1_appeal 108 = .ok (.aload_n 2, 1) := dk_44 (dk_at dksX1_appeal_4 13 rfl rfl)
theorem dX1_appeal_109 : decode cX1_appeal 109 = .ok (.getfield 251, 3) := dk_180 0 251 (dk_at dksX1_appeal_4 14 rfl rfl)
theorem dX1_appeal_112 : decode cX1_appeal 112 = .ok (.isub, 1) := dk_100 (dk_at dksX1_appeal_4 17 rfl rfl)
theorem dX1_appeal_113 : decode cX1_appeal 113 = .ok (.putfield 248, 3) := dk_181 0 248 (dk_at dksX1_appeal_4 18 rfl rfl)
theorem dX1_appeal_116 : decode cX1_appeal 116 = .ok (.aload_n 2, 1) := dk_44 (dk_at dksX1_appeal_4 21 rfl rfl)
theorem dX1_appeal_117 : decode cX1_appeal 117 = .ok (.iconst (-1), 1) := dk_2 (dk_at dksX1_appeal_4 22 rfl rfl)
theorem dX1_appeal_118 : decode cX1_appeal 118 = .ok (.putfield 340, 3) := dk_181 1 84 (dk_at dksX1_appeal_5 0 rfl rfl)
theorem dX1_appeal_121 : decode cX1_appeal 121 = .ok (.aload_n 2, 1) := dk_44 (dk_at dksX1_appeal_5 3 rfl rfl)
theorem dX1_appeal_122 : decode cX1_appeal 122 = .ok (.aload_n 2, 1) := dk_44 (dk_at dksX1_appeal_5 4 rfl rfl)
theorem dX1_appeal_123 : decode cX1_appeal 123 = .ok (.getfield 221, 3) := dk_180 0 221 (dk_at dksX1_appeal_5 5 rfl rfl)
theorem dX1_appeal_126 : decode cX1_appeal 126 = .ok (.putfield 131, 3) := dk_181 0 131 (dk_at dksX1_appeal_5 8 rfl rfl)
theorem dX1_appeal_129 : decode cX1_appeal 129 = .ok (.aload_n 2, 1) := dk_44 (dk_at dksX1_appeal_5 11 rfl rfl)
theorem dX1_appeal_130 : decode cX1_appeal 130 = .ok (.getstatic 273, 3) := dk_178 1 17 (dk_at dksX1_appeal_5 12 rfl rfl)
theorem dX1_appeal_133 : decode cX1_appeal 133 = .ok (.putfield 257, 3) := dk_181 1 1 (dk_at dksX1_appeal_5 15 rfl rfl)
theorem dX1_appeal_136 : decode cX1_appeal 136 = .ok (.iconst 1, 1) := dk_4 (dk_at dksX1_appeal_5 18 rfl rfl)
theorem dX1_appeal_137 : decode cX1_appeal 137 = .ok (.ireturn, 1) := dk_172 (dk_at dksX1_appeal_5 19 rfl rfl)
abbrev cX1_pass : ByteArray := prog_1_method_38_code
def yX1_pass : MethodName := ⟨RX1, "pass", "(I)I"⟩
def dkwX1_pass_2 : List UInt8 := [167, 255, 245, 42, 180, 1, 60, 172]
abbrev dktX1_pass_2 : List UInt8 := dkwX1_pass_2 ++ []
def dkwX1_pass_1 : List UInt8 := [163, 0, 7, 4, 167, 0, 4, 3, 184, 0, 93, 27, 61, 28, 158, 0, 13, 42, 182, 1, 98, 132, 2, 255]
abbrev dktX1_pass_1 : List UInt8 := dkwX1_pass_1 ++ dktX1_pass_2
def dkwX1_pass_0 : List UInt8 := [27, 4, 16, 48, 184, 0, 79, 42, 180, 0, 137, 42, 180, 1, 60, 27, 96, 16, 24, 108, 96, 16, 99]
abbrev dktX1_pass_0 : List UInt8 := dkwX1_pass_0 ++ dktX1_pass_1
theorem dksX1_pass_0 : cX1_pass.data.toList.drop 0 = dktX1_pass_0 := by decide +kernel
theorem dksX1_pass_1 : cX1_pass.data.toList.drop 23 = dktX1_pass_1 := dk_seg dksX1_pass_0 23 rfl rfl
theorem dksX1_pass_2 : cX1_pass.data.toList.drop 47 = dktX1_pass_2 := dk_seg dksX1_pass_1 24 rfl rfl
theorem dX1_pass_0 : decode cX1_pass 0 = .ok (.iload_n 1, 1) := dk_27 (dk_at dksX1_pass_0 0 rfl rfl)
theorem dX1_pass_1 : decode cX1_pass 1 = .ok (.iconst 1, 1) := dk_4 (dk_at dksX1_pass_0 1 rfl rfl)
theorem dX1_pass_2 : decode cX1_pass 2 = .ok (.bipush 48, 2) := dk_16 48 (dk_at dksX1_pass_0 2 rfl rfl)
theorem dX1_pass_4 : decode cX1_pass 4 = .ok (.invokestatic 79, 3) := dk_184 0 79 (dk_at dksX1_pass_0 4 rfl rfl)
theorem dX1_pass_7 : decode cX1_pass 7 = .ok (.aload_n 0, 1) := dk_42 (dk_at dksX1_pass_0 7 rfl rfl)
theorem dX1_pass_8 : decode cX1_pass 8 = .ok (.getfield 137, 3) := dk_180 0 137 (dk_at dksX1_pass_0 8 rfl rfl)
theorem dX1_pass_11 : decode cX1_pass 11 = .ok (.aload_n 0, 1) := dk_42 (dk_at dksX1_pass_0 11 rfl rfl)
theorem dX1_pass_12 : decode cX1_pass 12 = .ok (.getfield 316, 3) := dk_180 1 60 (dk_at dksX1_pass_0 12 rfl rfl)
theorem dX1_pass_15 : decode cX1_pass 15 = .ok (.iload_n 1, 1) := dk_27 (dk_at dksX1_pass_0 15 rfl rfl)
theorem dX1_pass_16 : decode cX1_pass 16 = .ok (.iadd, 1) := dk_96 (dk_at dksX1_pass_0 16 rfl rfl)
theorem dX1_pass_17 : decode cX1_pass 17 = .ok (.bipush 24, 2) := dk_16 24 (dk_at dksX1_pass_0 17 rfl rfl)
theorem dX1_pass_19 : decode cX1_pass 19 = .ok (.idiv, 1) := dk_108 (dk_at dksX1_pass_0 19 rfl rfl)
theorem dX1_pass_20 : decode cX1_pass 20 = .ok (.iadd, 1) := dk_96 (dk_at dksX1_pass_0 20 rfl rfl)
theorem dX1_pass_21 : decode cX1_pass 21 = .ok (.bipush 99, 2) := dk_16 99 (dk_at dksX1_pass_0 21 rfl rfl)
theorem dX1_pass_23 : decode cX1_pass 23 = .ok (.if_icmp .gt 7, 3) := dk_163 0 7 (dk_at dksX1_pass_1 0 rfl rfl)
theorem dX1_pass_26 : decode cX1_pass 26 = .ok (.iconst 1, 1) := dk_4 (dk_at dksX1_pass_1 3 rfl rfl)
theorem dX1_pass_27 : decode cX1_pass 27 = .ok (.goto 4, 3) := dk_167 0 4 (dk_at dksX1_pass_1 4 rfl rfl)
theorem dX1_pass_30 : decode cX1_pass 30 = .ok (.iconst 0, 1) := dk_3 (dk_at dksX1_pass_1 7 rfl rfl)
theorem dX1_pass_31 : decode cX1_pass 31 = .ok (.invokestatic 93, 3) := dk_184 0 93 (dk_at dksX1_pass_1 8 rfl rfl)
theorem dX1_pass_34 : decode cX1_pass 34 = .ok (.iload_n 1, 1) := dk_27 (dk_at dksX1_pass_1 11 rfl rfl)
theorem dX1_pass_35 : decode cX1_pass 35 = .ok (.istore_n 2, 1) := dk_61 (dk_at dksX1_pass_1 12 rfl rfl)
theorem dX1_pass_36 : decode cX1_pass 36 = .ok (.iload_n 2, 1) := dk_28 (dk_at dksX1_pass_1 13 rfl rfl)
theorem dX1_pass_37 : decode cX1_pass 37 = .ok (.ifCond .le 13, 3) := dk_158 0 13 (dk_at dksX1_pass_1 14 rfl rfl)
theorem dX1_pass_40 : decode cX1_pass 40 = .ok (.aload_n 0, 1) := dk_42 (dk_at dksX1_pass_1 17 rfl rfl)
theorem dX1_pass_41 : decode cX1_pass 41 = .ok (.invokevirtual 354, 3) := dk_182 1 98 (dk_at dksX1_pass_1 18 rfl rfl)
theorem dX1_pass_44 : decode cX1_pass 44 = .ok (.iinc 2 (-1), 3) := dk_132 2 255 (dk_at dksX1_pass_1 21 rfl rfl)
theorem dX1_pass_47 : decode cX1_pass 47 = .ok (.goto (-11), 3) := dk_167 255 245 (dk_at dksX1_pass_2 0 rfl rfl)
theorem dX1_pass_50 : decode cX1_pass 50 = .ok (.aload_n 0, 1) := dk_42 (dk_at dksX1_pass_2 3 rfl rfl)
theorem dX1_pass_51 : decode cX1_pass 51 = .ok (.getfield 316, 3) := dk_180 1 60 (dk_at dksX1_pass_2 4 rfl rfl)
theorem dX1_pass_54 : decode cX1_pass 54 = .ok (.ireturn, 1) := dk_172 (dk_at dksX1_pass_2 7 rfl rfl)
abbrev cX1_go_2 : ByteArray := prog_1_method_37_code
def yX1_go_2 : MethodName := ⟨RX1, "go", "()V"⟩
def dkwX1_go_2_3 : List UInt8 := [180, 0, 106, 4, 96, 167, 0, 4, 3, 181, 0, 106, 132, 1, 1, 167, 255, 201, 177]
abbrev dktX1_go_2_3 : List UInt8 := dkwX1_go_2_3 ++ []
def dkwX1_go_2_2 : List UInt8 := [185, 0, 61, 2, 0, 192, 0, 69, 77, 44, 44, 42, 180, 1, 60, 182, 1, 63, 153, 0, 12, 44]
abbrev dktX1_go_2_2 : List UInt8 := dkwX1_go_2_2 ++ dktX1_go_2_3
def dkwX1_go_2_1 : List UInt8 := [182, 1, 95, 3, 60, 27, 42, 180, 0, 16, 185, 0, 65, 1, 0, 162, 0, 48, 42, 180, 0, 16, 27]
abbrev dktX1_go_2_1 : List UInt8 := dkwX1_go_2_1 ++ dktX1_go_2_2
def dkwX1_go_2_0 : List UInt8 := [42, 89, 180, 1, 60, 4, 96, 181, 1, 60, 42, 180, 1, 60, 16, 24, 160, 0, 7, 42, 182, 1, 92, 42]
abbrev dktX1_go_2_0 : List UInt8 := dkwX1_go_2_0 ++ dktX1_go_2_1
theorem dksX1_go_2_0 : cX1_go_2.data.toList.drop 0 = dktX1_go_2_0 := by decide +kernel
theorem dksX1_go_2_1 : cX1_go_2.data.toList.drop 24 = dktX1_go_2_1 := dk_seg dksX1_go_2_0 24 rfl rfl
theorem dksX1_go_2_2 : cX1_go_2.data.toList.drop 47 = dktX1_go_2_2 := dk_seg dksX1_go_2_1 23 rfl rfl
theorem dksX1_go_2_3 : cX1_go_2.data.toList.drop 69 = dktX1_go_2_3 := dk_seg dksX1_go_2_2 22 rfl rfl
theorem dX1_go_2_0 : decode cX1_go_2 0 = .ok (.aload_n 0, 1) := dk_42 (dk_at dksX1_go_2_0 0 rfl rfl)
theorem dX1_go_2_1 : decode cX1_go_2 1 = .ok (.dup, 1) := dk_89 (dk_at dksX1_go_2_0 1 rfl rfl)
theorem dX1_go_2_2 : decode cX1_go_2 2 = .ok (.getfield 316, 3) := dk_180 1 60 (dk_at dksX1_go_2_0 2 rfl rfl)
theorem dX1_go_2_5 : decode cX1_go_2 5 = .ok (.iconst 1, 1) := dk_4 (dk_at dksX1_go_2_0 5 rfl rfl)
theorem dX1_go_2_6 : decode cX1_go_2 6 = .ok (.iadd, 1) := dk_96 (dk_at dksX1_go_2_0 6 rfl rfl)
theorem dX1_go_2_7 : decode cX1_go_2 7 = .ok (.putfield 316, 3) := dk_181 1 60 (dk_at dksX1_go_2_0 7 rfl rfl)
theorem dX1_go_2_10 : decode cX1_go_2 10 = .ok (.aload_n 0, 1) := dk_42 (dk_at dksX1_go_2_0 10 rfl rfl)
theorem dX1_go_2_11 : decode cX1_go_2 11 = .ok (.getfield 316, 3) := dk_180 1 60 (dk_at dksX1_go_2_0 11 rfl rfl)
theorem dX1_go_2_14 : decode cX1_go_2 14 = .ok (.bipush 24, 2) := dk_16 24 (dk_at dksX1_go_2_0 14 rfl rfl)
theorem dX1_go_2_16 : decode cX1_go_2 16 = .ok (.if_icmp .ne 7, 3) := dk_160 0 7 (dk_at dksX1_go_2_0 16 rfl rfl)
theorem dX1_go_2_19 : decode cX1_go_2 19 = .ok (.aload_n 0, 1) := dk_42 (dk_at dksX1_go_2_0 19 rfl rfl)
theorem dX1_go_2_20 : decode cX1_go_2 20 = .ok (.invokevirtual 348, 3) := dk_182 1 92 (dk_at dksX1_go_2_0 20 rfl rfl)
theorem dX1_go_2_23 : decode cX1_go_2 23 = .ok (.aload_n 0, 1) := dk_42 (dk_at dksX1_go_2_0 23 rfl rfl)
theorem dX1_go_2_24 : decode cX1_go_2 24 = .ok (.invokevirtual 351, 3) := dk_182 1 95 (dk_at dksX1_go_2_1 0 rfl rfl)
theorem dX1_go_2_27 : decode cX1_go_2 27 = .ok (.iconst 0, 1) := dk_3 (dk_at dksX1_go_2_1 3 rfl rfl)
theorem dX1_go_2_28 : decode cX1_go_2 28 = .ok (.istore_n 1, 1) := dk_60 (dk_at dksX1_go_2_1 4 rfl rfl)
theorem dX1_go_2_29 : decode cX1_go_2 29 = .ok (.iload_n 1, 1) := dk_27 (dk_at dksX1_go_2_1 5 rfl rfl)
theorem dX1_go_2_30 : decode cX1_go_2 30 = .ok (.aload_n 0, 1) := dk_42 (dk_at dksX1_go_2_1 6 rfl rfl)
theorem dX1_go_2_31 : decode cX1_go_2 31 = .ok (.getfield 16, 3) := dk_180 0 16 (dk_at dksX1_go_2_1 7 rfl rfl)
theorem dX1_go_2_34 : decode cX1_go_2 34 = .ok (.invokeinterface 65 1, 5) := by decide +kernel
theorem dX1_go_2_39 : decode cX1_go_2 39 = .ok (.if_icmp .ge 48, 3) := dk_162 0 48 (dk_at dksX1_go_2_1 15 rfl rfl)
theorem dX1_go_2_42 : decode cX1_go_2 42 = .ok (.aload_n 0, 1) := dk_42 (dk_at dksX1_go_2_1 18 rfl rfl)
theorem dX1_go_2_43 : decode cX1_go_2 43 = .ok (.getfield 16, 3) := dk_180 0 16 (dk_at dksX1_go_2_1 19 rfl rfl)
theorem dX1_go_2_46 : decode cX1_go_2 46 = .ok (.iload_n 1, 1) := dk_27 (dk_at dksX1_go_2_1 22 rfl rfl)
theorem dX1_go_2_47 : decode cX1_go_2 47 = .ok (.invokeinterface 61 2, 5) := by decide +kernel
theorem dX1_go_2_52 : decode cX1_go_2 52 = .ok (.checkcast 69, 3) := dk_192 0 69 (dk_at dksX1_go_2_2 5 rfl rfl)
theorem dX1_go_2_55 : decode cX1_go_2 55 = .ok (.astore_n 2, 1) := dk_77 (dk_at dksX1_go_2_2 8 rfl rfl)
theorem dX1_go_2_56 : decode cX1_go_2 56 = .ok (.aload_n 2, 1) := dk_44 (dk_at dksX1_go_2_2 9 rfl rfl)
theorem dX1_go_2_57 : decode cX1_go_2 57 = .ok (.aload_n 2, 1) := dk_44 (dk_at dksX1_go_2_2 10 rfl rfl)
theorem dX1_go_2_58 : decode cX1_go_2 58 = .ok (.aload_n 0, 1) := dk_42 (dk_at dksX1_go_2_2 11 rfl rfl)
theorem dX1_go_2_59 : decode cX1_go_2 59 = .ok (.getfield 316, 3) := dk_180 1 60 (dk_at dksX1_go_2_2 12 rfl rfl)
theorem dX1_go_2_62 : decode cX1_go_2 62 = .ok (.invokevirtual 319, 3) := dk_182 1 63 (dk_at dksX1_go_2_2 15 rfl rfl)
theorem dX1_go_2_65 : decode cX1_go_2 65 = .ok (.ifCond .eq 12, 3) := dk_153 0 12 (dk_at dksX1_go_2_2 18 rfl rfl)
theorem dX1_go_2_68 : decode cX1_go_2 68 = .ok (.aload_n 2, 1) := dk_44 (dk_at dksX1_go_2_2 21 rfl rfl)
theorem dX1_go_2_69 : decode cX1_go_2 69 = .ok (.getfield 106, 3) := dk_180 0 106 (dk_at dksX1_go_2_3 0 rfl rfl)
theorem dX1_go_2_72 : decode cX1_go_2 72 = .ok (.iconst 1, 1) := dk_4 (dk_at dksX1_go_2_3 3 rfl rfl)
theorem dX1_go_2_73 : decode cX1_go_2 73 = .ok (.iadd, 1) := dk_96 (dk_at dksX1_go_2_3 4 rfl rfl)
theorem dX1_go_2_74 : decode cX1_go_2 74 = .ok (.goto 4, 3) := dk_167 0 4 (dk_at dksX1_go_2_3 5 rfl rfl)
theorem dX1_go_2_77 : decode cX1_go_2 77 = .ok (.iconst 0, 1) := dk_3 (dk_at dksX1_go_2_3 8 rfl rfl)
theorem dX1_go_2_78 : decode cX1_go_2 78 = .ok (.putfield 106, 3) := dk_181 0 106 (dk_at dksX1_go_2_3 9 rfl rfl)
theorem dX1_go_2_81 : decode cX1_go_2 81 = .ok (.iinc 1 1, 3) := dk_132 1 1 (dk_at dksX1_go_2_3 12 rfl rfl)
theorem dX1_go_2_84 : decode cX1_go_2 84 = .ok (.goto (-55), 3) := dk_167 255 201 (dk_at dksX1_go_2_3 15 rfl rfl)
theorem dX1_go_2_87 : decode cX1_go_2 87 = .ok (.return_, 1) := dk_177 (dk_at dksX1_go_2_3 18 rfl rfl)
abbrev cX1_dawn : ByteArray := prog_1_method_36_code
def yX1_dawn : MethodName := ⟨RX1, "dawn", "()V"⟩
def dkwX1_dawn_5 : List UInt8 := [167, 0, 7, 44, 180, 0, 150, 181, 0, 150, 132, 1, 1, 167, 255, 172, 177]
abbrev dktX1_dawn_5 : List UInt8 := dkwX1_dawn_5 ++ []
def dkwX1_dawn_4 : List UInt8 := [180, 0, 184, 42, 180, 0, 137, 162, 0, 7, 4, 167, 0, 4, 3, 62, 44, 29, 153, 0, 9, 184, 1, 46]
abbrev dktX1_dawn_4 : List UInt8 := dkwX1_dawn_4 ++ dktX1_dawn_5
def dkwX1_dawn_3 : List UInt8 := [192, 0, 71, 77, 44, 180, 0, 150, 182, 0, 162, 153, 0, 27, 44, 180, 0, 150, 182, 0, 166, 192, 0, 140]
abbrev dktX1_dawn_3 : List UInt8 := dkwX1_dawn_3 ++ dktX1_dawn_4
def dkwX1_dawn_2 : List UInt8 := [27, 42, 180, 0, 19, 185, 0, 65, 1, 0, 162, 0, 77, 42, 180, 0, 19, 27, 185, 0, 61, 2, 0]
abbrev dktX1_dawn_2 : List UInt8 := dkwX1_dawn_2 ++ dktX1_dawn_3
def dkwX1_dawn_1 : List UInt8 := [180, 0, 10, 27, 185, 0, 61, 2, 0, 192, 0, 35, 3, 181, 1, 4, 132, 1, 1, 167, 255, 230, 3, 60]
abbrev dktX1_dawn_1 : List UInt8 := dkwX1_dawn_1 ++ dktX1_dawn_2
def dkwX1_dawn_0 : List UInt8 := [42, 3, 181, 1, 60, 42, 89, 180, 0, 137, 4, 96, 181, 0, 137, 3, 60, 27, 16, 6, 162, 0, 26, 42]
abbrev dktX1_dawn_0 : List UInt8 := dkwX1_dawn_0 ++ dktX1_dawn_1
theorem dksX1_dawn_0 : cX1_dawn.data.toList.drop 0 = dktX1_dawn_0 := by decide +kernel
theorem dksX1_dawn_1 : cX1_dawn.data.toList.drop 24 = dktX1_dawn_1 := dk_seg dksX1_dawn_0 24 rfl rfl
theorem dksX1_dawn_2 : cX1_dawn.data.toList.drop 48 = dktX1_dawn_2 := dk_seg dksX1_dawn_1 24 rfl rfl
theorem dksX1_dawn_3 : cX1_dawn.data.toList.drop 71 = dktX1_dawn_3 := dk_seg dksX1_dawn_2 23 rfl rfl
theorem dksX1_dawn_4 : cX1_dawn.data.toList.drop 95 = dktX1_dawn_4 := dk_seg dksX1_dawn_3 24 rfl rfl
theorem dksX1_dawn_5 : cX1_dawn.data.toList.drop 119 = dktX1_dawn_5 := dk_seg dksX1_dawn_4 24 rfl rfl
theorem dX1_dawn_0 : decode cX1_dawn 0 = .ok (.aload_n 0, 1) := dk_42 (dk_at dksX1_dawn_0 0 rfl rfl)
theorem dX1_dawn_1 : decode cX1_dawn 1 = .ok (.iconst 0, 1) := dk_3 (dk_at dksX1_dawn_0 1 rfl rfl)
theorem dX1_dawn_2 : decode cX1_dawn 2 = .ok (.putfield 316, 3) := dk_181 1 60 (dk_at dksX1_dawn_0 2 rfl rfl)
theorem dX1_dawn_5 : decode cX1_dawn 5 = .ok (.aload_n 0, 1) := dk_42 (dk_at dksX1_dawn_0 5 rfl rfl)
theorem dX1_dawn_6 : decode cX1_dawn 6 = .ok (.dup, 1) := dk_89 (dk_at dksX1_dawn_0 6 rfl rfl)
theorem dX1_dawn_7 : decode cX1_dawn 7 = .ok (.getfield 137, 3) := dk_180 0 137 (dk_at dksX1_dawn_0 7 rfl rfl)
theorem dX1_dawn_10 : decode cX1_dawn 10 = .ok (.iconst 1, 1) := dk_4 (dk_at dksX1_dawn_0 10 rfl rfl)
theorem dX1_dawn_11 : decode cX1_dawn 11 = .ok (.iadd, 1) := dk_96 (dk_at dksX1_dawn_0 11 rfl rfl)
theorem dX1_dawn_12 : decode cX1_dawn 12 = .ok (.putfield 137, 3) := dk_181 0 137 (dk_at dksX1_dawn_0 12 rfl rfl)
theorem dX1_dawn_15 : decode cX1_dawn 15 = .ok (.iconst 0, 1) := dk_3 (dk_at dksX1_dawn_0 15 rfl rfl)
theorem dX1_dawn_16 : decode cX1_dawn 16 = .ok (.istore_n 1, 1) := dk_60 (dk_at dksX1_dawn_0 16 rfl rfl)
theorem dX1_dawn_17 : decode cX1_dawn 17 = .ok (.iload_n 1, 1) := dk_27 (dk_at dksX1_dawn_0 17 rfl rfl)
theorem dX1_dawn_18 : decode cX1_dawn 18 = .ok (.bipush 6, 2) := dk_16 6 (dk_at dksX1_dawn_0 18 rfl rfl)
theorem dX1_dawn_20 : decode cX1_dawn 20 = .ok (.if_icmp .ge 26, 3) := dk_162 0 26 (dk_at dksX1_dawn_0 20 rfl rfl)
theorem dX1_dawn_23 : decode cX1_dawn 23 = .ok (.aload_n 0, 1) := dk_42 (dk_at dksX1_dawn_0 23 rfl rfl)
theorem dX1_dawn_24 : decode cX1_dawn 24 = .ok (.getfield 10, 3) := dk_180 0 10 (dk_at dksX1_dawn_1 0 rfl rfl)
theorem dX1_dawn_27 : decode cX1_dawn 27 = .ok (.iload_n 1, 1) := dk_27 (dk_at dksX1_dawn_1 3 rfl rfl)
theorem dX1_dawn_28 : decode cX1_dawn 28 = .ok (.invokeinterface 61 2, 5) := by decide +kernel
theorem dX1_dawn_33 : decode cX1_dawn 33 = .ok (.checkcast 35, 3) := dk_192 0 35 (dk_at dksX1_dawn_1 9 rfl rfl)
theorem dX1_dawn_36 : decode cX1_dawn 36 = .ok (.iconst 0, 1) := dk_3 (dk_at dksX1_dawn_1 12 rfl rfl)
theorem dX1_dawn_37 : decode cX1_dawn 37 = .ok (.putfield 260, 3) := dk_181 1 4 (dk_at dksX1_dawn_1 13 rfl rfl)
theorem dX1_dawn_40 : decode cX1_dawn 40 = .ok (.iinc 1 1, 3) := dk_132 1 1 (dk_at dksX1_dawn_1 16 rfl rfl)
theorem dX1_dawn_43 : decode cX1_dawn 43 = .ok (.goto (-26), 3) := dk_167 255 230 (dk_at dksX1_dawn_1 19 rfl rfl)
theorem dX1_dawn_46 : decode cX1_dawn 46 = .ok (.iconst 0, 1) := dk_3 (dk_at dksX1_dawn_1 22 rfl rfl)
theorem dX1_dawn_47 : decode cX1_dawn 47 = .ok (.istore_n 1, 1) := dk_60 (dk_at dksX1_dawn_1 23 rfl rfl)
theorem dX1_dawn_48 : decode cX1_dawn 48 = .ok (.iload_n 1, 1) := dk_27 (dk_at dksX1_dawn_2 0 rfl rfl)
theorem dX1_dawn_49 : decode cX1_dawn 49 = .ok (.aload_n 0, 1) := dk_42 (dk_at dksX1_dawn_2 1 rfl rfl)
theorem dX1_dawn_50 : decode cX1_dawn 50 = .ok (.getfield 19, 3) := dk_180 0 19 (dk_at dksX1_dawn_2 2 rfl rfl)
theorem dX1_dawn_53 : decode cX1_dawn 53 = .ok (.invokeinterface 65 1, 5) := by decide +kernel
theorem dX1_dawn_58 : decode cX1_dawn 58 = .ok (.if_icmp .ge 77, 3) := dk_162 0 77 (dk_at dksX1_dawn_2 10 rfl rfl)
theorem dX1_dawn_61 : decode cX1_dawn 61 = .ok (.aload_n 0, 1) := dk_42 (dk_at dksX1_dawn_2 13 rfl rfl)
theorem dX1_dawn_62 : decode cX1_dawn 62 = .ok (.getfield 19, 3) := dk_180 0 19 (dk_at dksX1_dawn_2 14 rfl rfl)
theorem dX1_dawn_65 : decode cX1_dawn 65 = .ok (.iload_n 1, 1) := dk_27 (dk_at dksX1_dawn_2 17 rfl rfl)
theorem dX1_dawn_66 : decode cX1_dawn 66 = .ok (.invokeinterface 61 2, 5) := by decide +kernel
theorem dX1_dawn_71 : decode cX1_dawn 71 = .ok (.checkcast 71, 3) := dk_192 0 71 (dk_at dksX1_dawn_3 0 rfl rfl)
theorem dX1_dawn_74 : decode cX1_dawn 74 = .ok (.astore_n 2, 1) := dk_77 (dk_at dksX1_dawn_3 3 rfl rfl)
theorem dX1_dawn_75 : decode cX1_dawn 75 = .ok (.aload_n 2, 1) := dk_44 (dk_at dksX1_dawn_3 4 rfl rfl)
theorem dX1_dawn_76 : decode cX1_dawn 76 = .ok (.getfield 150, 3) := dk_180 0 150 (dk_at dksX1_dawn_3 5 rfl rfl)
theorem dX1_dawn_79 : decode cX1_dawn 79 = .ok (.invokevirtual 162, 3) := dk_182 0 162 (dk_at dksX1_dawn_3 8 rfl rfl)
theorem dX1_dawn_82 : decode cX1_dawn 82 = .ok (.ifCond .eq 27, 3) := dk_153 0 27 (dk_at dksX1_dawn_3 11 rfl rfl)
theorem dX1_dawn_85 : decode cX1_dawn 85 = .ok (.aload_n 2, 1) := dk_44 (dk_at dksX1_dawn_3 14 rfl rfl)
theorem dX1_dawn_86 : decode cX1_dawn 86 = .ok (.getfield 150, 3) := dk_180 0 150 (dk_at dksX1_dawn_3 15 rfl rfl)
theorem dX1_dawn_89 : decode cX1_dawn 89 = .ok (.invokevirtual 166, 3) := dk_182 0 166 (dk_at dksX1_dawn_3 18 rfl rfl)
theorem dX1_dawn_92 : decode cX1_dawn 92 = .ok (.checkcast 140, 3) := dk_192 0 140 (dk_at dksX1_dawn_3 21 rfl rfl)
theorem dX1_dawn_95 : decode cX1_dawn 95 = .ok (.getfield 184, 3) := dk_180 0 184 (dk_at dksX1_dawn_4 0 rfl rfl)
theorem dX1_dawn_98 : decode cX1_dawn 98 = .ok (.aload_n 0, 1) := dk_42 (dk_at dksX1_dawn_4 3 rfl rfl)
theorem dX1_dawn_99 : decode cX1_dawn 99 = .ok (.getfield 137, 3) := dk_180 0 137 (dk_at dksX1_dawn_4 4 rfl rfl)
theorem dX1_dawn_102 : decode cX1_dawn 102 = .ok (.if_icmp .ge 7, 3) := dk_162 0 7 (dk_at dksX1_dawn_4 7 rfl rfl)
theorem dX1_dawn_105 : decode cX1_dawn 105 = .ok (.iconst 1, 1) := dk_4 (dk_at dksX1_dawn_4 10 rfl rfl)
theorem dX1_dawn_106 : decode cX1_dawn 106 = .ok (.goto 4, 3) := dk_167 0 4 (dk_at dksX1_dawn_4 11 rfl rfl)
theorem dX1_dawn_109 : decode cX1_dawn 109 = .ok (.iconst 0, 1) := dk_3 (dk_at dksX1_dawn_4 14 rfl rfl)
theorem dX1_dawn_110 : decode cX1_dawn 110 = .ok (.istore_n 3, 1) := dk_62 (dk_at dksX1_dawn_4 15 rfl rfl)
theorem dX1_dawn_111 : decode cX1_dawn 111 = .ok (.aload_n 2, 1) := dk_44 (dk_at dksX1_dawn_4 16 rfl rfl)
theorem dX1_dawn_112 : decode cX1_dawn 112 = .ok (.iload_n 3, 1) := dk_29 (dk_at dksX1_dawn_4 17 rfl rfl)
theorem dX1_dawn_113 : decode cX1_dawn 113 = .ok (.ifCond .eq 9, 3) := dk_153 0 9 (dk_at dksX1_dawn_4 18 rfl rfl)
theorem dX1_dawn_116 : decode cX1_dawn 116 = .ok (.invokestatic 302, 3) := dk_184 1 46 (dk_at dksX1_dawn_4 21 rfl rfl)
theorem dX1_dawn_119 : decode cX1_dawn 119 = .ok (.goto 7, 3) := dk_167 0 7 (dk_at dksX1_dawn_5 0 rfl rfl)
theorem dX1_dawn_122 : decode cX1_dawn 122 = .ok (.aload_n 2, 1) := dk_44 (dk_at dksX1_dawn_5 3 rfl rfl)
theorem dX1_dawn_123 : decode cX1_dawn 123 = .ok (.getfield 150, 3) := dk_180 0 150 (dk_at dksX1_dawn_5 4 rfl rfl)
theorem dX1_dawn_126 : decode cX1_dawn 126 = .ok (.putfield 150, 3) := dk_181 0 150 (dk_at dksX1_dawn_5 7 rfl rfl)
theorem dX1_dawn_129 : decode cX1_dawn 129 = .ok (.iinc 1 1, 3) := dk_132 1 1 (dk_at dksX1_dawn_5 10 rfl rfl)
theorem dX1_dawn_132 : decode cX1_dawn 132 = .ok (.goto (-84), 3) := dk_167 255 172 (dk_at dksX1_dawn_5 13 rfl rfl)
theorem dX1_dawn_135 : decode cX1_dawn 135 = .ok (.return_, 1) := dk_177 (dk_at dksX1_dawn_5 16 rfl rfl)
abbrev cX1_spread : ByteArray := prog_1_method_35_code
def yX1_spread : MethodName := ⟨RX1, "spread", "()V"⟩
def dkwX1_spread_8 : List UInt8 := [43, 28, 185, 0, 61, 2, 0, 192, 1, 91, 181, 0, 158, 132, 2, 1, 167, 255, 214, 177]
abbrev dktX1_spread_8 : List UInt8 := dkwX1_spread_8 ++ []
def dkwX1_spread_7 : List UInt8 := [180, 0, 16, 185, 0, 65, 1, 0, 162, 0, 35, 42, 180, 0, 16, 28, 185, 0, 61, 2, 0, 192, 0, 69]
abbrev dktX1_spread_7 : List UInt8 := dkwX1_spread_7 ++ dktX1_spread_8
def dkwX1_spread_6 : List UInt8 := [132, 4, 1, 167, 255, 145, 43, 45, 185, 0, 38, 2, 0, 87, 132, 2, 1, 167, 255, 110, 3, 61, 28, 42]
abbrev dktX1_spread_6 : List UInt8 := dkwX1_spread_6 ++ dktX1_spread_7
def dkwX1_spread_5 : List UInt8 := [185, 0, 61, 2, 0, 192, 0, 69, 180, 0, 158, 21, 6, 51, 128, 84, 132, 6, 1, 167, 255, 214]
abbrev dktX1_spread_5 : List UInt8 := dkwX1_spread_5 ++ dktX1_spread_6
def dkwX1_spread_4 : List UInt8 := [21, 6, 16, 97, 162, 0, 41, 21, 5, 153, 0, 36, 45, 21, 6, 92, 51, 42, 180, 0, 16, 21, 4]
abbrev dktX1_spread_4 : List UInt8 := dkwX1_spread_4 ++ dktX1_spread_5
def dkwX1_spread_3 : List UInt8 := [185, 0, 61, 2, 0, 192, 0, 69, 182, 1, 87, 153, 0, 7, 4, 167, 0, 4, 3, 54, 5, 3, 54, 6]
abbrev dktX1_spread_3 : List UInt8 := dkwX1_spread_3 ++ dktX1_spread_4
def dkwX1_spread_2 : List UInt8 := [28, 159, 0, 36, 42, 180, 0, 16, 21, 4, 185, 0, 61, 2, 0, 192, 0, 69, 42, 180, 0, 16, 28]
abbrev dktX1_spread_2 : List UInt8 := dkwX1_spread_2 ++ dktX1_spread_3
def dkwX1_spread_1 : List UInt8 := [16, 97, 188, 4, 78, 3, 54, 4, 21, 4, 42, 180, 0, 16, 185, 0, 65, 1, 0, 162, 0, 103, 21, 4]
abbrev dktX1_spread_1 : List UInt8 := dkwX1_spread_1 ++ dktX1_spread_2
def dkwX1_spread_0 : List UInt8 := [187, 0, 7, 89, 183, 0, 9, 76, 3, 61, 28, 42, 180, 0, 16, 185, 0, 65, 1, 0, 162, 0, 139]
abbrev dktX1_spread_0 : List UInt8 := dkwX1_spread_0 ++ dktX1_spread_1
theorem dksX1_spread_0 : cX1_spread.data.toList.drop 0 = dktX1_spread_0 := by decide +kernel
theorem dksX1_spread_1 : cX1_spread.data.toList.drop 23 = dktX1_spread_1 := dk_seg dksX1_spread_0 23 rfl rfl
theorem dksX1_spread_2 : cX1_spread.data.toList.drop 47 = dktX1_spread_2 := dk_seg dksX1_spread_1 24 rfl rfl
theorem dksX1_spread_3 : cX1_spread.data.toList.drop 70 = dktX1_spread_3 := dk_seg dksX1_spread_2 23 rfl rfl
theorem dksX1_spread_4 : cX1_spread.data.toList.drop 94 = dktX1_spread_4 := dk_seg dksX1_spread_3 24 rfl rfl
theorem dksX1_spread_5 : cX1_spread.data.toList.drop 117 = dktX1_spread_5 := dk_seg dksX1_spread_4 23 rfl rfl
theorem dksX1_spread_6 : cX1_spread.data.toList.drop 139 = dktX1_spread_6 := dk_seg dksX1_spread_5 22 rfl rfl
theorem dksX1_spread_7 : cX1_spread.data.toList.drop 163 = dktX1_spread_7 := dk_seg dksX1_spread_6 24 rfl rfl
theorem dksX1_spread_8 : cX1_spread.data.toList.drop 187 = dktX1_spread_8 := dk_seg dksX1_spread_7 24 rfl rfl
theorem dX1_spread_0 : decode cX1_spread 0 = .ok (.new 7, 3) := dk_187 0 7 (dk_at dksX1_spread_0 0 rfl rfl)
theorem dX1_spread_3 : decode cX1_spread 3 = .ok (.dup, 1) := dk_89 (dk_at dksX1_spread_0 3 rfl rfl)
theorem dX1_spread_4 : decode cX1_spread 4 = .ok (.invokespecial 9, 3) := dk_183 0 9 (dk_at dksX1_spread_0 4 rfl rfl)
theorem dX1_spread_7 : decode cX1_spread 7 = .ok (.astore_n 1, 1) := dk_76 (dk_at dksX1_spread_0 7 rfl rfl)
theorem dX1_spread_8 : decode cX1_spread 8 = .ok (.iconst 0, 1) := dk_3 (dk_at dksX1_spread_0 8 rfl rfl)
theorem dX1_spread_9 : decode cX1_spread 9 = .ok (.istore_n 2, 1) := dk_61 (dk_at dksX1_spread_0 9 rfl rfl)
theorem dX1_spread_10 : decode cX1_spread 10 = .ok (.iload_n 2, 1) := dk_28 (dk_at dksX1_spread_0 10 rfl rfl)
theorem dX1_spread_11 : decode cX1_spread 11 = .ok (.aload_n 0, 1) := dk_42 (dk_at dksX1_spread_0 11 rfl rfl)
theorem dX1_spread_12 : decode cX1_spread 12 = .ok (.getfield 16, 3) := dk_180 0 16 (dk_at dksX1_spread_0 12 rfl rfl)
theorem dX1_spread_15 : decode cX1_spread 15 = .ok (.invokeinterface 65 1, 5) := by decide +kernel
theorem dX1_spread_20 : decode cX1_spread 20 = .ok (.if_icmp .ge 139, 3) := dk_162 0 139 (dk_at dksX1_spread_0 20 rfl rfl)
theorem dX1_spread_23 : decode cX1_spread 23 = .ok (.bipush 97, 2) := dk_16 97 (dk_at dksX1_spread_1 0 rfl rfl)
theorem dX1_spread_25 : decode cX1_spread 25 = .ok (.newarray .boolean, 2) := dk_188_4 (dk_at dksX1_spread_1 2 rfl rfl)
theorem dX1_spread_27 : decode cX1_spread 27 = .ok (.astore_n 3, 1) := dk_78 (dk_at dksX1_spread_1 4 rfl rfl)
theorem dX1_spread_28 : decode cX1_spread 28 = .ok (.iconst 0, 1) := dk_3 (dk_at dksX1_spread_1 5 rfl rfl)
theorem dX1_spread_29 : decode cX1_spread 29 = .ok (.istore 4, 2) := dk_54 4 (dk_at dksX1_spread_1 6 rfl rfl)
theorem dX1_spread_31 : decode cX1_spread 31 = .ok (.iload 4, 2) := dk_21 4 (dk_at dksX1_spread_1 8 rfl rfl)
theorem dX1_spread_33 : decode cX1_spread 33 = .ok (.aload_n 0, 1) := dk_42 (dk_at dksX1_spread_1 10 rfl rfl)
theorem dX1_spread_34 : decode cX1_spread 34 = .ok (.getfield 16, 3) := dk_180 0 16 (dk_at dksX1_spread_1 11 rfl rfl)
theorem dX1_spread_37 : decode cX1_spread 37 = .ok (.invokeinterface 65 1, 5) := by decide +kernel
theorem dX1_spread_42 : decode cX1_spread 42 = .ok (.if_icmp .ge 103, 3) := dk_162 0 103 (dk_at dksX1_spread_1 19 rfl rfl)
theorem dX1_spread_45 : decode cX1_spread 45 = .ok (.iload 4, 2) := dk_21 4 (dk_at dksX1_spread_1 22 rfl rfl)
theorem dX1_spread_47 : decode cX1_spread 47 = .ok (.iload_n 2, 1) := dk_28 (dk_at dksX1_spread_2 0 rfl rfl)
theorem dX1_spread_48 : decode cX1_spread 48 = .ok (.if_icmp .eq 36, 3) := dk_159 0 36 (dk_at dksX1_spread_2 1 rfl rfl)
theorem dX1_spread_51 : decode cX1_spread 51 = .ok (.aload_n 0, 1) := dk_42 (dk_at dksX1_spread_2 4 rfl rfl)
theorem dX1_spread_52 : decode cX1_spread 52 = .ok (.getfield 16, 3) := dk_180 0 16 (dk_at dksX1_spread_2 5 rfl rfl)
theorem dX1_spread_55 : decode cX1_spread 55 = .ok (.iload 4, 2) := dk_21 4 (dk_at dksX1_spread_2 8 rfl rfl)
theorem dX1_spread_57 : decode cX1_spread 57 = .ok (.invokeinterface 61 2, 5) := by decide +kernel
theorem dX1_spread_62 : decode cX1_spread 62 = .ok (.checkcast 69, 3) := dk_192 0 69 (dk_at dksX1_spread_2 15 rfl rfl)
theorem dX1_spread_65 : decode cX1_spread 65 = .ok (.aload_n 0, 1) := dk_42 (dk_at dksX1_spread_2 18 rfl rfl)
theorem dX1_spread_66 : decode cX1_spread 66 = .ok (.getfield 16, 3) := dk_180 0 16 (dk_at dksX1_spread_2 19 rfl rfl)
theorem dX1_spread_69 : decode cX1_spread 69 = .ok (.iload_n 2, 1) := dk_28 (dk_at dksX1_spread_2 22 rfl rfl)
theorem dX1_spread_70 : decode cX1_spread 70 = .ok (.invokeinterface 61 2, 5) := by decide +kernel
theorem dX1_spread_75 : decode cX1_spread 75 = .ok (.checkcast 69, 3) := dk_192 0 69 (dk_at dksX1_spread_3 5 rfl rfl)
theorem dX1_spread_78 : decode cX1_spread 78 = .ok (.invokevirtual 343, 3) := dk_182 1 87 (dk_at dksX1_spread_3 8 rfl rfl)
theorem dX1_spread_81 : decode cX1_spread 81 = .ok (.ifCond .eq 7, 3) := dk_153 0 7 (dk_at dksX1_spread_3 11 rfl rfl)
theorem dX1_spread_84 : decode cX1_spread 84 = .ok (.iconst 1, 1) := dk_4 (dk_at dksX1_spread_3 14 rfl rfl)
theorem dX1_spread_85 : decode cX1_spread 85 = .ok (.goto 4, 3) := dk_167 0 4 (dk_at dksX1_spread_3 15 rfl rfl)
theorem dX1_spread_88 : decode cX1_spread 88 = .ok (.iconst 0, 1) := dk_3 (dk_at dksX1_spread_3 18 rfl rfl)
theorem dX1_spread_89 : decode cX1_spread 89 = .ok (.istore 5, 2) := dk_54 5 (dk_at dksX1_spread_3 19 rfl rfl)
theorem dX1_spread_91 : decode cX1_spread 91 = .ok (.iconst 0, 1) := dk_3 (dk_at dksX1_spread_3 21 rfl rfl)
theorem dX1_spread_92 : decode cX1_spread 92 = .ok (.istore 6, 2) := dk_54 6 (dk_at dksX1_spread_3 22 rfl rfl)
theorem dX1_spread_94 : decode cX1_spread 94 = .ok (.iload 6, 2) := dk_21 6 (dk_at dksX1_spread_4 0 rfl rfl)
theorem dX1_spread_96 : decode cX1_spread 96 = .ok (.bipush 97, 2) := dk_16 97 (dk_at dksX1_spread_4 2 rfl rfl)
theorem dX1_spread_98 : decode cX1_spread 98 = .ok (.if_icmp .ge 41, 3) := dk_162 0 41 (dk_at dksX1_spread_4 4 rfl rfl)
theorem dX1_spread_101 : decode cX1_spread 101 = .ok (.iload 5, 2) := dk_21 5 (dk_at dksX1_spread_4 7 rfl rfl)
theorem dX1_spread_103 : decode cX1_spread 103 = .ok (.ifCond .eq 36, 3) := dk_153 0 36 (dk_at dksX1_spread_4 9 rfl rfl)
theorem dX1_spread_106 : decode cX1_spread 106 = .ok (.aload_n 3, 1) := dk_45 (dk_at dksX1_spread_4 12 rfl rfl)
theorem dX1_spread_107 : decode cX1_spread 107 = .ok (.iload 6, 2) := dk_21 6 (dk_at dksX1_spread_4 13 rfl rfl)
theorem dX1_spread_109 : decode cX1_spread 109 = .ok (.dup2, 1) := dk_92 (dk_at dksX1_spread_4 15 rfl rfl)
theorem dX1_spread_110 : decode cX1_spread 110 = .ok (.baload, 1) := dk_51 (dk_at dksX1_spread_4 16 rfl rfl)
theorem dX1_spread_111 : decode cX1_spread 111 = .ok (.aload_n 0, 1) := dk_42 (dk_at dksX1_spread_4 17 rfl rfl)
theorem dX1_spread_112 : decode cX1_spread 112 = .ok (.getfield 16, 3) := dk_180 0 16 (dk_at dksX1_spread_4 18 rfl rfl)
theorem dX1_spread_115 : decode cX1_spread 115 = .ok (.iload 4, 2) := dk_21 4 (dk_at dksX1_spread_4 21 rfl rfl)
theorem dX1_spread_117 : decode cX1_spread 117 = .ok (.invokeinterface 61 2, 5) := by decide +kernel
theorem dX1_spread_122 : decode cX1_spread 122 = .ok (.checkcast 69, 3) := dk_192 0 69 (dk_at dksX1_spread_5 5 rfl rfl)
theorem dX1_spread_125 : decode cX1_spread 125 = .ok (.getfield 158, 3) := dk_180 0 158 (dk_at dksX1_spread_5 8 rfl rfl)
theorem dX1_spread_128 : decode cX1_spread 128 = .ok (.iload 6, 2) := dk_21 6 (dk_at dksX1_spread_5 11 rfl rfl)
theorem dX1_spread_130 : decode cX1_spread 130 = .ok (.baload, 1) := dk_51 (dk_at dksX1_spread_5 13 rfl rfl)
theorem dX1_spread_131 : decode cX1_spread 131 = .ok (.ior, 1) := dk_128 (dk_at dksX1_spread_5 14 rfl rfl)
theorem dX1_spread_132 : decode cX1_spread 132 = .ok (.bastore, 1) := dk_84 (dk_at dksX1_spread_5 15 rfl rfl)
theorem dX1_spread_133 : decode cX1_spread 133 = .ok (.iinc 6 1, 3) := dk_132 6 1 (dk_at dksX1_spread_5 16 rfl rfl)
theorem dX1_spread_136 : decode cX1_spread 136 = .ok (.goto (-42), 3) := dk_167 255 214 (dk_at dksX1_spread_5 19 rfl rfl)
theorem dX1_spread_139 : decode cX1_spread 139 = .ok (.iinc 4 1, 3) := dk_132 4 1 (dk_at dksX1_spread_6 0 rfl rfl)
theorem dX1_spread_142 : decode cX1_spread 142 = .ok (.goto (-111), 3) := dk_167 255 145 (dk_at dksX1_spread_6 3 rfl rfl)
theorem dX1_spread_145 : decode cX1_spread 145 = .ok (.aload_n 1, 1) := dk_43 (dk_at dksX1_spread_6 6 rfl rfl)
theorem dX1_spread_146 : decode cX1_spread 146 = .ok (.aload_n 3, 1) := dk_45 (dk_at dksX1_spread_6 7 rfl rfl)
theorem dX1_spread_147 : decode cX1_spread 147 = .ok (.invokeinterface 38 2, 5) := by decide +kernel
theorem dX1_spread_152 : decode cX1_spread 152 = .ok (.pop, 1) := dk_87 (dk_at dksX1_spread_6 13 rfl rfl)
theorem dX1_spread_153 : decode cX1_spread 153 = .ok (.iinc 2 1, 3) := dk_132 2 1 (dk_at dksX1_spread_6 14 rfl rfl)
theorem dX1_spread_156 : decode cX1_spread 156 = .ok (.goto (-146), 3) := dk_167 255 110 (dk_at dksX1_spread_6 17 rfl rfl)
theorem dX1_spread_159 : decode cX1_spread 159 = .ok (.iconst 0, 1) := dk_3 (dk_at dksX1_spread_6 20 rfl rfl)
theorem dX1_spread_160 : decode cX1_spread 160 = .ok (.istore_n 2, 1) := dk_61 (dk_at dksX1_spread_6 21 rfl rfl)
theorem dX1_spread_161 : decode cX1_spread 161 = .ok (.iload_n 2, 1) := dk_28 (dk_at dksX1_spread_6 22 rfl rfl)
theorem dX1_spread_162 : decode cX1_spread 162 = .ok (.aload_n 0, 1) := dk_42 (dk_at dksX1_spread_6 23 rfl rfl)
theorem dX1_spread_163 : decode cX1_spread 163 = .ok (.getfield 16, 3) := dk_180 0 16 (dk_at dksX1_spread_7 0 rfl rfl)
theorem dX1_spread_166 : decode cX1_spread 166 = .ok (.invokeinterface 65 1, 5) := by decide +kernel
theorem dX1_spread_171 : decode cX1_spread 171 = .ok (.if_icmp .ge 35, 3) := dk_162 0 35 (dk_at dksX1_spread_7 8 rfl rfl)
theorem dX1_spread_174 : decode cX1_spread 174 = .ok (.aload_n 0, 1) := dk_42 (dk_at dksX1_spread_7 11 rfl rfl)
theorem dX1_spread_175 : decode cX1_spread 175 = .ok (.getfield 16, 3) := dk_180 0 16 (dk_at dksX1_spread_7 12 rfl rfl)
theorem dX1_spread_178 : decode cX1_spread 178 = .ok (.iload_n 2, 1) := dk_28 (dk_at dksX1_spread_7 15 rfl rfl)
theorem dX1_spread_179 : decode cX1_spread 179 = .ok (.invokeinterface 61 2, 5) := by decide +kernel
theorem dX1_spread_184 : decode cX1_spread 184 = .ok (.checkcast 69, 3) := dk_192 0 69 (dk_at dksX1_spread_7 21 rfl rfl)
theorem dX1_spread_187 : decode cX1_spread 187 = .ok (.aload_n 1, 1) := dk_43 (dk_at dksX1_spread_8 0 rfl rfl)
theorem dX1_spread_188 : decode cX1_spread 188 = .ok (.iload_n 2, 1) := dk_28 (dk_at dksX1_spread_8 1 rfl rfl)
theorem dX1_spread_189 : decode cX1_spread 189 = .ok (.invokeinterface 61 2, 5) := by decide +kernel
theorem dX1_spread_194 : decode cX1_spread 194 = .ok (.checkcast 347, 3) := dk_192 1 91 (dk_at dksX1_spread_8 7 rfl rfl)
theorem dX1_spread_197 : decode cX1_spread 197 = .ok (.putfield 158, 3) := dk_181 0 158 (dk_at dksX1_spread_8 10 rfl rfl)
theorem dX1_spread_200 : decode cX1_spread 200 = .ok (.iinc 2 1, 3) := dk_132 2 1 (dk_at dksX1_spread_8 13 rfl rfl)
theorem dX1_spread_203 : decode cX1_spread 203 = .ok (.goto (-42), 3) := dk_167 255 214 (dk_at dksX1_spread_8 16 rfl rfl)
theorem dX1_spread_206 : decode cX1_spread 206 = .ok (.return_, 1) := dk_177 (dk_at dksX1_spread_8 19 rfl rfl)
abbrev cX1_ofLand : ByteArray := prog_1_method_59_code
def yX1_ofLand : MethodName := ⟨RX1, "ofLand", "(II)I"⟩
def dkwX1_ofLand_0 : List UInt8 := [42, 27, 182, 0, 75, 87, 28, 3, 16, 8, 184, 0, 79, 42, 27, 28, 182, 1, 168, 172]
abbrev dktX1_ofLand_0 : List UInt8 := dkwX1_ofLand_0 ++ []
theorem dksX1_ofLand_0 : cX1_ofLand.data.toList.drop 0 = dktX1_ofLand_0 := by decide +kernel
theorem dX1_ofLand_0 : decode cX1_ofLand 0 = .ok (.aload_n 0, 1) := dk_42 (dk_at dksX1_ofLand_0 0 rfl rfl)
theorem dX1_ofLand_1 : decode cX1_ofLand 1 = .ok (.iload_n 1, 1) := dk_27 (dk_at dksX1_ofLand_0 1 rfl rfl)
theorem dX1_ofLand_2 : decode cX1_ofLand 2 = .ok (.invokevirtual 75, 3) := dk_182 0 75 (dk_at dksX1_ofLand_0 2 rfl rfl)
theorem dX1_ofLand_5 : decode cX1_ofLand 5 = .ok (.pop, 1) := dk_87 (dk_at dksX1_ofLand_0 5 rfl rfl)
theorem dX1_ofLand_6 : decode cX1_ofLand 6 = .ok (.iload_n 2, 1) := dk_28 (dk_at dksX1_ofLand_0 6 rfl rfl)
theorem dX1_ofLand_7 : decode cX1_ofLand 7 = .ok (.iconst 0, 1) := dk_3 (dk_at dksX1_ofLand_0 7 rfl rfl)
theorem dX1_ofLand_8 : decode cX1_ofLand 8 = .ok (.bipush 8, 2) := dk_16 8 (dk_at dksX1_ofLand_0 8 rfl rfl)
theorem dX1_ofLand_10 : decode cX1_ofLand 10 = .ok (.invokestatic 79, 3) := dk_184 0 79 (dk_at dksX1_ofLand_0 10 rfl rfl)
theorem dX1_ofLand_13 : decode cX1_ofLand 13 = .ok (.aload_n 0, 1) := dk_42 (dk_at dksX1_ofLand_0 13 rfl rfl)
theorem dX1_ofLand_14 : decode cX1_ofLand 14 = .ok (.iload_n 1, 1) := dk_27 (dk_at dksX1_ofLand_0 14 rfl rfl)
theorem dX1_ofLand_15 : decode cX1_ofLand 15 = .ok (.iload_n 2, 1) := dk_28 (dk_at dksX1_ofLand_0 15 rfl rfl)
theorem dX1_ofLand_16 : decode cX1_ofLand 16 = .ok (.invokevirtual 424, 3) := dk_182 1 168 (dk_at dksX1_ofLand_0 16 rfl rfl)
theorem dX1_ofLand_19 : decode cX1_ofLand 19 = .ok (.ireturn, 1) := dk_172 (dk_at dksX1_ofLand_0 19 rfl rfl)
abbrev cX1_ofGate : ByteArray := prog_1_method_61_code
def yX1_ofGate : MethodName := ⟨RX1, "ofGate", "(II)I"⟩
def dkwX1_ofGate_0 : List UInt8 := [42, 27, 182, 0, 99, 87, 28, 3, 16, 9, 184, 0, 79, 42, 27, 28, 182, 1, 174, 172]
abbrev dktX1_ofGate_0 : List UInt8 := dkwX1_ofGate_0 ++ []
theorem dksX1_ofGate_0 : cX1_ofGate.data.toList.drop 0 = dktX1_ofGate_0 := by decide +kernel
theorem dX1_ofGate_0 : decode cX1_ofGate 0 = .ok (.aload_n 0, 1) := dk_42 (dk_at dksX1_ofGate_0 0 rfl rfl)
theorem dX1_ofGate_1 : decode cX1_ofGate 1 = .ok (.iload_n 1, 1) := dk_27 (dk_at dksX1_ofGate_0 1 rfl rfl)
theorem dX1_ofGate_2 : decode cX1_ofGate 2 = .ok (.invokevirtual 99, 3) := dk_182 0 99 (dk_at dksX1_ofGate_0 2 rfl rfl)
theorem dX1_ofGate_5 : decode cX1_ofGate 5 = .ok (.pop, 1) := dk_87 (dk_at dksX1_ofGate_0 5 rfl rfl)
theorem dX1_ofGate_6 : decode cX1_ofGate 6 = .ok (.iload_n 2, 1) := dk_28 (dk_at dksX1_ofGate_0 6 rfl rfl)
theorem dX1_ofGate_7 : decode cX1_ofGate 7 = .ok (.iconst 0, 1) := dk_3 (dk_at dksX1_ofGate_0 7 rfl rfl)
theorem dX1_ofGate_8 : decode cX1_ofGate 8 = .ok (.bipush 9, 2) := dk_16 9 (dk_at dksX1_ofGate_0 8 rfl rfl)
theorem dX1_ofGate_10 : decode cX1_ofGate 10 = .ok (.invokestatic 79, 3) := dk_184 0 79 (dk_at dksX1_ofGate_0 10 rfl rfl)
theorem dX1_ofGate_13 : decode cX1_ofGate 13 = .ok (.aload_n 0, 1) := dk_42 (dk_at dksX1_ofGate_0 13 rfl rfl)
theorem dX1_ofGate_14 : decode cX1_ofGate 14 = .ok (.iload_n 1, 1) := dk_27 (dk_at dksX1_ofGate_0 14 rfl rfl)
theorem dX1_ofGate_15 : decode cX1_ofGate 15 = .ok (.iload_n 2, 1) := dk_28 (dk_at dksX1_ofGate_0 15 rfl rfl)
theorem dX1_ofGate_16 : decode cX1_ofGate 16 = .ok (.invokevirtual 430, 3) := dk_182 1 174 (dk_at dksX1_ofGate_0 16 rfl rfl)
theorem dX1_ofGate_19 : decode cX1_ofGate 19 = .ok (.ireturn, 1) := dk_172 (dk_at dksX1_ofGate_0 19 rfl rfl)
abbrev cX1_ofSleeper : ByteArray := prog_1_method_63_code
def yX1_ofSleeper : MethodName := ⟨RX1, "ofSleeper", "(II)I"⟩
def dkwX1_ofSleeper_0 : List UInt8 := [42, 27, 182, 0, 112, 87, 28, 3, 16, 8, 184, 0, 79, 42, 27, 28, 182, 1, 186, 172]
abbrev dktX1_ofSleeper_0 : List UInt8 := dkwX1_ofSleeper_0 ++ []
theorem dksX1_ofSleeper_0 : cX1_ofSleeper.data.toList.drop 0 = dktX1_ofSleeper_0 := by decide +kernel
theorem dX1_ofSleeper_0 : decode cX1_ofSleeper 0 = .ok (.aload_n 0, 1) := dk_42 (dk_at dksX1_ofSleeper_0 0 rfl rfl)
theorem dX1_ofSleeper_1 : decode cX1_ofSleeper 1 = .ok (.iload_n 1, 1) := dk_27 (dk_at dksX1_ofSleeper_0 1 rfl rfl)
theorem dX1_ofSleeper_2 : decode cX1_ofSleeper 2 = .ok (.invokevirtual 112, 3) := dk_182 0 112 (dk_at dksX1_ofSleeper_0 2 rfl rfl)
theorem dX1_ofSleeper_5 : decode cX1_ofSleeper 5 = .ok (.pop, 1) := dk_87 (dk_at dksX1_ofSleeper_0 5 rfl rfl)
theorem dX1_ofSleeper_6 : decode cX1_ofSleeper 6 = .ok (.iload_n 2, 1) := dk_28 (dk_at dksX1_ofSleeper_0 6 rfl rfl)
theorem dX1_ofSleeper_7 : decode cX1_ofSleeper 7 = .ok (.iconst 0, 1) := dk_3 (dk_at dksX1_ofSleeper_0 7 rfl rfl)
theorem dX1_ofSleeper_8 : decode cX1_ofSleeper 8 = .ok (.bipush 8, 2) := dk_16 8 (dk_at dksX1_ofSleeper_0 8 rfl rfl)
theorem dX1_ofSleeper_10 : decode cX1_ofSleeper 10 = .ok (.invokestatic 79, 3) := dk_184 0 79 (dk_at dksX1_ofSleeper_0 10 rfl rfl)
theorem dX1_ofSleeper_13 : decode cX1_ofSleeper 13 = .ok (.aload_n 0, 1) := dk_42 (dk_at dksX1_ofSleeper_0 13 rfl rfl)
theorem dX1_ofSleeper_14 : decode cX1_ofSleeper 14 = .ok (.iload_n 1, 1) := dk_27 (dk_at dksX1_ofSleeper_0 14 rfl rfl)
theorem dX1_ofSleeper_15 : decode cX1_ofSleeper 15 = .ok (.iload_n 2, 1) := dk_28 (dk_at dksX1_ofSleeper_0 15 rfl rfl)
theorem dX1_ofSleeper_16 : decode cX1_ofSleeper 16 = .ok (.invokevirtual 442, 3) := dk_182 1 186 (dk_at dksX1_ofSleeper_0 16 rfl rfl)
theorem dX1_ofSleeper_19 : decode cX1_ofSleeper 19 = .ok (.ireturn, 1) := dk_172 (dk_at dksX1_ofSleeper_0 19 rfl rfl)
abbrev cX1_ofPart : ByteArray := prog_1_method_65_code
def yX1_ofPart : MethodName := ⟨RX1, "ofPart", "(II)I"⟩
def dkwX1_ofPart_0 : List UInt8 := [42, 27, 182, 0, 127, 87, 28, 3, 8, 184, 0, 79, 42, 27, 28, 182, 1, 193, 172]
abbrev dktX1_ofPart_0 : List UInt8 := dkwX1_ofPart_0 ++ []
theorem dksX1_ofPart_0 : cX1_ofPart.data.toList.drop 0 = dktX1_ofPart_0 := by decide +kernel
theorem dX1_ofPart_0 : decode cX1_ofPart 0 = .ok (.aload_n 0, 1) := dk_42 (dk_at dksX1_ofPart_0 0 rfl rfl)
theorem dX1_ofPart_1 : decode cX1_ofPart 1 = .ok (.iload_n 1, 1) := dk_27 (dk_at dksX1_ofPart_0 1 rfl rfl)
theorem dX1_ofPart_2 : decode cX1_ofPart 2 = .ok (.invokevirtual 127, 3) := dk_182 0 127 (dk_at dksX1_ofPart_0 2 rfl rfl)
theorem dX1_ofPart_5 : decode cX1_ofPart 5 = .ok (.pop, 1) := dk_87 (dk_at dksX1_ofPart_0 5 rfl rfl)
theorem dX1_ofPart_6 : decode cX1_ofPart 6 = .ok (.iload_n 2, 1) := dk_28 (dk_at dksX1_ofPart_0 6 rfl rfl)
theorem dX1_ofPart_7 : decode cX1_ofPart 7 = .ok (.iconst 0, 1) := dk_3 (dk_at dksX1_ofPart_0 7 rfl rfl)
theorem dX1_ofPart_8 : decode cX1_ofPart 8 = .ok (.iconst 5, 1) := dk_8 (dk_at dksX1_ofPart_0 8 rfl rfl)
theorem dX1_ofPart_9 : decode cX1_ofPart 9 = .ok (.invokestatic 79, 3) := dk_184 0 79 (dk_at dksX1_ofPart_0 9 rfl rfl)
theorem dX1_ofPart_12 : decode cX1_ofPart 12 = .ok (.aload_n 0, 1) := dk_42 (dk_at dksX1_ofPart_0 12 rfl rfl)
theorem dX1_ofPart_13 : decode cX1_ofPart 13 = .ok (.iload_n 1, 1) := dk_27 (dk_at dksX1_ofPart_0 13 rfl rfl)
theorem dX1_ofPart_14 : decode cX1_ofPart 14 = .ok (.iload_n 2, 1) := dk_28 (dk_at dksX1_ofPart_0 14 rfl rfl)
theorem dX1_ofPart_15 : decode cX1_ofPart 15 = .ok (.invokevirtual 449, 3) := dk_182 1 193 (dk_at dksX1_ofPart_0 15 rfl rfl)
theorem dX1_ofPart_18 : decode cX1_ofPart 18 = .ok (.ireturn, 1) := dk_172 (dk_at dksX1_ofPart_0 18 rfl rfl)
abbrev cX1_isGood : ByteArray := prog_1_method_66_code
def yX1_isGood : MethodName := ⟨RX1, "isGood", "(II)Z"⟩
def dkwX1_isGood_0 : List UInt8 := [42, 27, 182, 0, 112, 78, 42, 28, 182, 0, 99, 87, 42, 45, 28, 182, 1, 72, 172]
abbrev dktX1_isGood_0 : List UInt8 := dkwX1_isGood_0 ++ []
theorem dksX1_isGood_0 : cX1_isGood.data.toList.drop 0 = dktX1_isGood_0 := by decide +kernel
theorem dX1_isGood_0 : decode cX1_isGood 0 = .ok (.aload_n 0, 1) := dk_42 (dk_at dksX1_isGood_0 0 rfl rfl)
theorem dX1_isGood_1 : decode cX1_isGood 1 = .ok (.iload_n 1, 1) := dk_27 (dk_at dksX1_isGood_0 1 rfl rfl)
theorem dX1_isGood_2 : decode cX1_isGood 2 = .ok (.invokevirtual 112, 3) := dk_182 0 112 (dk_at dksX1_isGood_0 2 rfl rfl)
theorem dX1_isGood_5 : decode cX1_isGood 5 = .ok (.astore_n 3, 1) := dk_78 (dk_at dksX1_isGood_0 5 rfl rfl)
theorem dX1_isGood_6 : decode cX1_isGood 6 = .ok (.aload_n 0, 1) := dk_42 (dk_at dksX1_isGood_0 6 rfl rfl)
theorem dX1_isGood_7 : decode cX1_isGood 7 = .ok (.iload_n 2, 1) := dk_28 (dk_at dksX1_isGood_0 7 rfl rfl)
theorem dX1_isGood_8 : decode cX1_isGood 8 = .ok (.invokevirtual 99, 3) := dk_182 0 99 (dk_at dksX1_isGood_0 8 rfl rfl)
theorem dX1_isGood_11 : decode cX1_isGood 11 = .ok (.pop, 1) := dk_87 (dk_at dksX1_isGood_0 11 rfl rfl)
theorem dX1_isGood_12 : decode cX1_isGood 12 = .ok (.aload_n 0, 1) := dk_42 (dk_at dksX1_isGood_0 12 rfl rfl)
theorem dX1_isGood_13 : decode cX1_isGood 13 = .ok (.aload_n 3, 1) := dk_45 (dk_at dksX1_isGood_0 13 rfl rfl)
theorem dX1_isGood_14 : decode cX1_isGood 14 = .ok (.iload_n 2, 1) := dk_28 (dk_at dksX1_isGood_0 14 rfl rfl)
theorem dX1_isGood_15 : decode cX1_isGood 15 = .ok (.invokevirtual 328, 3) := dk_182 1 72 (dk_at dksX1_isGood_0 15 rfl rfl)
theorem dX1_isGood_18 : decode cX1_isGood 18 = .ok (.ireturn, 1) := dk_172 (dk_at dksX1_isGood_0 18 rfl rfl)
abbrev cX1_queue : ByteArray := prog_1_method_67_code
def yX1_queue : MethodName := ⟨RX1, "queue", "(I)Ljava/lang/String;"⟩
def dkwX1_queue_4 : List UInt8 := [132, 4, 1, 167, 255, 176, 45, 182, 1, 216, 154, 0, 9, 19, 1, 219, 167, 0, 7, 45, 182, 1, 221, 176]
abbrev dktX1_queue_4 : List UInt8 := dkwX1_queue_4 ++ []
def dkwX1_queue_3 : List UInt8 := [182, 1, 207, 25, 5, 180, 1, 210, 153, 0, 9, 19, 1, 214, 167, 0, 6, 19, 1, 199, 182, 1, 203, 87]
abbrev dktX1_queue_3 : List UInt8 := dkwX1_queue_3 ++ dktX1_queue_4
def dkwX1_queue_2 : List UInt8 := [45, 21, 4, 154, 0, 9, 19, 1, 199, 167, 0, 6, 19, 1, 201, 182, 1, 203, 25, 5, 180, 0, 218]
abbrev dktX1_queue_2 : List UInt8 := dkwX1_queue_2 ++ dktX1_queue_3
def dkwX1_queue_1 : List UInt8 := [185, 0, 65, 1, 0, 162, 0, 72, 44, 180, 0, 209, 21, 4, 185, 0, 61, 2, 0, 192, 0, 71, 58, 5]
abbrev dktX1_queue_1 : List UInt8 := dkwX1_queue_1 ++ dktX1_queue_2
def dkwX1_queue_0 : List UInt8 := [42, 27, 182, 0, 99, 77, 187, 1, 196, 89, 183, 1, 198, 78, 3, 54, 4, 21, 4, 44, 180, 0, 209]
abbrev dktX1_queue_0 : List UInt8 := dkwX1_queue_0 ++ dktX1_queue_1
theorem dksX1_queue_0 : cX1_queue.data.toList.drop 0 = dktX1_queue_0 := by decide +kernel
theorem dksX1_queue_1 : cX1_queue.data.toList.drop 23 = dktX1_queue_1 := dk_seg dksX1_queue_0 23 rfl rfl
theorem dksX1_queue_2 : cX1_queue.data.toList.drop 47 = dktX1_queue_2 := dk_seg dksX1_queue_1 24 rfl rfl
theorem dksX1_queue_3 : cX1_queue.data.toList.drop 70 = dktX1_queue_3 := dk_seg dksX1_queue_2 23 rfl rfl
theorem dksX1_queue_4 : cX1_queue.data.toList.drop 94 = dktX1_queue_4 := dk_seg dksX1_queue_3 24 rfl rfl
theorem dX1_queue_0 : decode cX1_queue 0 = .ok (.aload_n 0, 1) := dk_42 (dk_at dksX1_queue_0 0 rfl rfl)
theorem dX1_queue_1 : decode cX1_queue 1 = .ok (.iload_n 1, 1) := dk_27 (dk_at dksX1_queue_0 1 rfl rfl)
theorem dX1_queue_2 : decode cX1_queue 2 = .ok (.invokevirtual 99, 3) := dk_182 0 99 (dk_at dksX1_queue_0 2 rfl rfl)
theorem dX1_queue_5 : decode cX1_queue 5 = .ok (.astore_n 2, 1) := dk_77 (dk_at dksX1_queue_0 5 rfl rfl)
theorem dX1_queue_6 : decode cX1_queue 6 = .ok (.new 452, 3) := dk_187 1 196 (dk_at dksX1_queue_0 6 rfl rfl)
theorem dX1_queue_9 : decode cX1_queue 9 = .ok (.dup, 1) := dk_89 (dk_at dksX1_queue_0 9 rfl rfl)
theorem dX1_queue_10 : decode cX1_queue 10 = .ok (.invokespecial 454, 3) := dk_183 1 198 (dk_at dksX1_queue_0 10 rfl rfl)
theorem dX1_queue_13 : decode cX1_queue 13 = .ok (.astore_n 3, 1) := dk_78 (dk_at dksX1_queue_0 13 rfl rfl)
theorem dX1_queue_14 : decode cX1_queue 14 = .ok (.iconst 0, 1) := dk_3 (dk_at dksX1_queue_0 14 rfl rfl)
theorem dX1_queue_15 : decode cX1_queue 15 = .ok (.istore 4, 2) := dk_54 4 (dk_at dksX1_queue_0 15 rfl rfl)
theorem dX1_queue_17 : decode cX1_queue 17 = .ok (.iload 4, 2) := dk_21 4 (dk_at dksX1_queue_0 17 rfl rfl)
theorem dX1_queue_19 : decode cX1_queue 19 = .ok (.aload_n 2, 1) := dk_44 (dk_at dksX1_queue_0 19 rfl rfl)
theorem dX1_queue_20 : decode cX1_queue 20 = .ok (.getfield 209, 3) := dk_180 0 209 (dk_at dksX1_queue_0 20 rfl rfl)
theorem dX1_queue_23 : decode cX1_queue 23 = .ok (.invokeinterface 65 1, 5) := by decide +kernel
theorem dX1_queue_28 : decode cX1_queue 28 = .ok (.if_icmp .ge 72, 3) := dk_162 0 72 (dk_at dksX1_queue_1 5 rfl rfl)
theorem dX1_queue_31 : decode cX1_queue 31 = .ok (.aload_n 2, 1) := dk_44 (dk_at dksX1_queue_1 8 rfl rfl)
theorem dX1_queue_32 : decode cX1_queue 32 = .ok (.getfield 209, 3) := dk_180 0 209 (dk_at dksX1_queue_1 9 rfl rfl)
theorem dX1_queue_35 : decode cX1_queue 35 = .ok (.iload 4, 2) := dk_21 4 (dk_at dksX1_queue_1 12 rfl rfl)
theorem dX1_queue_37 : decode cX1_queue 37 = .ok (.invokeinterface 61 2, 5) := by decide +kernel
theorem dX1_queue_42 : decode cX1_queue 42 = .ok (.checkcast 71, 3) := dk_192 0 71 (dk_at dksX1_queue_1 19 rfl rfl)
theorem dX1_queue_45 : decode cX1_queue 45 = .ok (.astore 5, 2) := dk_58 5 (dk_at dksX1_queue_1 22 rfl rfl)
theorem dX1_queue_47 : decode cX1_queue 47 = .ok (.aload_n 3, 1) := dk_45 (dk_at dksX1_queue_2 0 rfl rfl)
theorem dX1_queue_48 : decode cX1_queue 48 = .ok (.iload 4, 2) := dk_21 4 (dk_at dksX1_queue_2 1 rfl rfl)
theorem dX1_queue_50 : decode cX1_queue 50 = .ok (.ifCond .ne 9, 3) := dk_154 0 9 (dk_at dksX1_queue_2 3 rfl rfl)
theorem dX1_queue_53 : decode cX1_queue 53 = .ok (.ldc_w 455, 3) := dk_19 1 199 (dk_at dksX1_queue_2 6 rfl rfl)
theorem dX1_queue_56 : decode cX1_queue 56 = .ok (.goto 6, 3) := dk_167 0 6 (dk_at dksX1_queue_2 9 rfl rfl)
theorem dX1_queue_59 : decode cX1_queue 59 = .ok (.ldc_w 457, 3) := dk_19 1 201 (dk_at dksX1_queue_2 12 rfl rfl)
theorem dX1_queue_62 : decode cX1_queue 62 = .ok (.invokevirtual 459, 3) := dk_182 1 203 (dk_at dksX1_queue_2 15 rfl rfl)
theorem dX1_queue_65 : decode cX1_queue 65 = .ok (.aload 5, 2) := dk_25 5 (dk_at dksX1_queue_2 18 rfl rfl)
theorem dX1_queue_67 : decode cX1_queue 67 = .ok (.getfield 218, 3) := dk_180 0 218 (dk_at dksX1_queue_2 20 rfl rfl)
theorem dX1_queue_70 : decode cX1_queue 70 = .ok (.invokevirtual 463, 3) := dk_182 1 207 (dk_at dksX1_queue_3 0 rfl rfl)
theorem dX1_queue_73 : decode cX1_queue 73 = .ok (.aload 5, 2) := dk_25 5 (dk_at dksX1_queue_3 3 rfl rfl)
theorem dX1_queue_75 : decode cX1_queue 75 = .ok (.getfield 466, 3) := dk_180 1 210 (dk_at dksX1_queue_3 5 rfl rfl)
theorem dX1_queue_78 : decode cX1_queue 78 = .ok (.ifCond .eq 9, 3) := dk_153 0 9 (dk_at dksX1_queue_3 8 rfl rfl)
theorem dX1_queue_81 : decode cX1_queue 81 = .ok (.ldc_w 470, 3) := dk_19 1 214 (dk_at dksX1_queue_3 11 rfl rfl)
theorem dX1_queue_84 : decode cX1_queue 84 = .ok (.goto 6, 3) := dk_167 0 6 (dk_at dksX1_queue_3 14 rfl rfl)
theorem dX1_queue_87 : decode cX1_queue 87 = .ok (.ldc_w 455, 3) := dk_19 1 199 (dk_at dksX1_queue_3 17 rfl rfl)
theorem dX1_queue_90 : decode cX1_queue 90 = .ok (.invokevirtual 459, 3) := dk_182 1 203 (dk_at dksX1_queue_3 20 rfl rfl)
theorem dX1_queue_93 : decode cX1_queue 93 = .ok (.pop, 1) := dk_87 (dk_at dksX1_queue_3 23 rfl rfl)
theorem dX1_queue_94 : decode cX1_queue 94 = .ok (.iinc 4 1, 3) := dk_132 4 1 (dk_at dksX1_queue_4 0 rfl rfl)
theorem dX1_queue_97 : decode cX1_queue 97 = .ok (.goto (-80), 3) := dk_167 255 176 (dk_at dksX1_queue_4 3 rfl rfl)
theorem dX1_queue_100 : decode cX1_queue 100 = .ok (.aload_n 3, 1) := dk_45 (dk_at dksX1_queue_4 6 rfl rfl)
theorem dX1_queue_101 : decode cX1_queue 101 = .ok (.invokevirtual 472, 3) := dk_182 1 216 (dk_at dksX1_queue_4 7 rfl rfl)
theorem dX1_queue_104 : decode cX1_queue 104 = .ok (.ifCond .ne 9, 3) := dk_154 0 9 (dk_at dksX1_queue_4 10 rfl rfl)
theorem dX1_queue_107 : decode cX1_queue 107 = .ok (.ldc_w 475, 3) := dk_19 1 219 (dk_at dksX1_queue_4 13 rfl rfl)
theorem dX1_queue_110 : decode cX1_queue 110 = .ok (.goto 7, 3) := dk_167 0 7 (dk_at dksX1_queue_4 16 rfl rfl)
theorem dX1_queue_113 : decode cX1_queue 113 = .ok (.aload_n 3, 1) := dk_45 (dk_at dksX1_queue_4 19 rfl rfl)
theorem dX1_queue_114 : decode cX1_queue 114 = .ok (.invokevirtual 477, 3) := dk_182 1 221 (dk_at dksX1_queue_4 20 rfl rfl)
theorem dX1_queue_117 : decode cX1_queue 117 = .ok (.areturn, 1) := dk_176 (dk_at dksX1_queue_4 23 rfl rfl)
abbrev cX1_night : ByteArray := prog_1_method_73_code
def yX1_night : MethodName := ⟨RX1, "night", "(I)I"⟩
def dkwX1_night_0 : List UInt8 := [27, 3, 16, 16, 184, 0, 79, 42, 27, 182, 1, 244, 172]
abbrev dktX1_night_0 : List UInt8 := dkwX1_night_0 ++ []
theorem dksX1_night_0 : cX1_night.data.toList.drop 0 = dktX1_night_0 := by decide +kernel
theorem dX1_night_0 : decode cX1_night 0 = .ok (.iload_n 1, 1) := dk_27 (dk_at dksX1_night_0 0 rfl rfl)
theorem dX1_night_1 : decode cX1_night 1 = .ok (.iconst 0, 1) := dk_3 (dk_at dksX1_night_0 1 rfl rfl)
theorem dX1_night_2 : decode cX1_night 2 = .ok (.bipush 16, 2) := dk_16 16 (dk_at dksX1_night_0 2 rfl rfl)
theorem dX1_night_4 : decode cX1_night 4 = .ok (.invokestatic 79, 3) := dk_184 0 79 (dk_at dksX1_night_0 4 rfl rfl)
theorem dX1_night_7 : decode cX1_night 7 = .ok (.aload_n 0, 1) := dk_42 (dk_at dksX1_night_0 7 rfl rfl)
theorem dX1_night_8 : decode cX1_night 8 = .ok (.iload_n 1, 1) := dk_27 (dk_at dksX1_night_0 8 rfl rfl)
theorem dX1_night_9 : decode cX1_night 9 = .ok (.invokevirtual 500, 3) := dk_182 1 244 (dk_at dksX1_night_0 9 rfl rfl)
theorem dX1_night_12 : decode cX1_night 12 = .ok (.ireturn, 1) := dk_172 (dk_at dksX1_night_0 12 rfl rfl)
abbrev cX1_way : ByteArray := prog_1_method_46_code
def yX1_way : MethodName := ⟨RX1, "way", "(II)I"⟩
def dkwX1_way_0 : List UInt8 := [27, 16, 6, 184, 0, 57, 28, 16, 6, 184, 0, 57, 42, 27, 182, 1, 124, 28, 46, 172]
abbrev dktX1_way_0 : List UInt8 := dkwX1_way_0 ++ []
theorem dksX1_way_0 : cX1_way.data.toList.drop 0 = dktX1_way_0 := by decide +kernel
theorem dX1_way_0 : decode cX1_way 0 = .ok (.iload_n 1, 1) := dk_27 (dk_at dksX1_way_0 0 rfl rfl)
theorem dX1_way_1 : decode cX1_way 1 = .ok (.bipush 6, 2) := dk_16 6 (dk_at dksX1_way_0 1 rfl rfl)
theorem dX1_way_3 : decode cX1_way 3 = .ok (.invokestatic 57, 3) := dk_184 0 57 (dk_at dksX1_way_0 3 rfl rfl)
theorem dX1_way_6 : decode cX1_way 6 = .ok (.iload_n 2, 1) := dk_28 (dk_at dksX1_way_0 6 rfl rfl)
theorem dX1_way_7 : decode cX1_way 7 = .ok (.bipush 6, 2) := dk_16 6 (dk_at dksX1_way_0 7 rfl rfl)
theorem dX1_way_9 : decode cX1_way 9 = .ok (.invokestatic 57, 3) := dk_184 0 57 (dk_at dksX1_way_0 9 rfl rfl)
theorem dX1_way_12 : decode cX1_way 12 = .ok (.aload_n 0, 1) := dk_42 (dk_at dksX1_way_0 12 rfl rfl)
theorem dX1_way_13 : decode cX1_way 13 = .ok (.iload_n 1, 1) := dk_27 (dk_at dksX1_way_0 13 rfl rfl)
theorem dX1_way_14 : decode cX1_way 14 = .ok (.invokevirtual 380, 3) := dk_182 1 124 (dk_at dksX1_way_0 14 rfl rfl)
theorem dX1_way_17 : decode cX1_way 17 = .ok (.iload_n 2, 1) := dk_28 (dk_at dksX1_way_0 17 rfl rfl)
theorem dX1_way_18 : decode cX1_way 18 = .ok (.iaload, 1) := dk_46 (dk_at dksX1_way_0 18 rfl rfl)
theorem dX1_way_19 : decode cX1_way 19 = .ok (.ireturn, 1) := dk_172 (dk_at dksX1_way_0 19 rfl rfl)
abbrev cX1_plan : ByteArray := prog_1_method_53_code
def yX1_plan : MethodName := ⟨RX1, "plan", "(II)I"⟩
def dkwX1_plan_1 : List UInt8 := [185, 0, 65, 1, 0, 184, 0, 57, 27, 3, 17, 7, 208, 184, 0, 79, 42, 27, 28, 182, 1, 153, 172]
abbrev dktX1_plan_1 : List UInt8 := dkwX1_plan_1 ++ []
def dkwX1_plan_0 : List UInt8 := [28, 2, 160, 0, 7, 3, 167, 0, 4, 28, 28, 2, 160, 0, 7, 4, 167, 0, 12, 42, 180, 0, 16]
abbrev dktX1_plan_0 : List UInt8 := dkwX1_plan_0 ++ dktX1_plan_1
theorem dksX1_plan_0 : cX1_plan.data.toList.drop 0 = dktX1_plan_0 := by decide +kernel
theorem dksX1_plan_1 : cX1_plan.data.toList.drop 23 = dktX1_plan_1 := dk_seg dksX1_plan_0 23 rfl rfl
theorem dX1_plan_0 : decode cX1_plan 0 = .ok (.iload_n 2, 1) := dk_28 (dk_at dksX1_plan_0 0 rfl rfl)
theorem dX1_plan_1 : decode cX1_plan 1 = .ok (.iconst (-1), 1) := dk_2 (dk_at dksX1_plan_0 1 rfl rfl)
theorem dX1_plan_2 : decode cX1_plan 2 = .ok (.if_icmp .ne 7, 3) := dk_160 0 7 (dk_at dksX1_plan_0 2 rfl rfl)
theorem dX1_plan_5 : decode cX1_plan 5 = .ok (.iconst 0, 1) := dk_3 (dk_at dksX1_plan_0 5 rfl rfl)
theorem dX1_plan_6 : decode cX1_plan 6 = .ok (.goto 4, 3) := dk_167 0 4 (dk_at dksX1_plan_0 6 rfl rfl)
theorem dX1_plan_9 : decode cX1_plan 9 = .ok (.iload_n 2, 1) := dk_28 (dk_at dksX1_plan_0 9 rfl rfl)
theorem dX1_plan_10 : decode cX1_plan 10 = .ok (.iload_n 2, 1) := dk_28 (dk_at dksX1_plan_0 10 rfl rfl)
theorem dX1_plan_11 : decode cX1_plan 11 = .ok (.iconst (-1), 1) := dk_2 (dk_at dksX1_plan_0 11 rfl rfl)
theorem dX1_plan_12 : decode cX1_plan 12 = .ok (.if_icmp .ne 7, 3) := dk_160 0 7 (dk_at dksX1_plan_0 12 rfl rfl)
theorem dX1_plan_15 : decode cX1_plan 15 = .ok (.iconst 1, 1) := dk_4 (dk_at dksX1_plan_0 15 rfl rfl)
theorem dX1_plan_16 : decode cX1_plan 16 = .ok (.goto 12, 3) := dk_167 0 12 (dk_at dksX1_plan_0 16 rfl rfl)
theorem dX1_plan_19 : decode cX1_plan 19 = .ok (.aload_n 0, 1) := dk_42 (dk_at dksX1_plan_0 19 rfl rfl)
theorem dX1_plan_20 : decode cX1_plan 20 = .ok (.getfield 16, 3) := dk_180 0 16 (dk_at dksX1_plan_0 20 rfl rfl)
theorem dX1_plan_23 : decode cX1_plan 23 = .ok (.invokeinterface 65 1, 5) := by decide +kernel
theorem dX1_plan_28 : decode cX1_plan 28 = .ok (.invokestatic 57, 3) := dk_184 0 57 (dk_at dksX1_plan_1 5 rfl rfl)
theorem dX1_plan_31 : decode cX1_plan 31 = .ok (.iload_n 1, 1) := dk_27 (dk_at dksX1_plan_1 8 rfl rfl)
theorem dX1_plan_32 : decode cX1_plan 32 = .ok (.iconst 0, 1) := dk_3 (dk_at dksX1_plan_1 9 rfl rfl)
theorem dX1_plan_33 : decode cX1_plan 33 = .ok (.sipush 2000, 3) := dk_17 7 208 (dk_at dksX1_plan_1 10 rfl rfl)
theorem dX1_plan_36 : decode cX1_plan 36 = .ok (.invokestatic 79, 3) := dk_184 0 79 (dk_at dksX1_plan_1 13 rfl rfl)
theorem dX1_plan_39 : decode cX1_plan 39 = .ok (.aload_n 0, 1) := dk_42 (dk_at dksX1_plan_1 16 rfl rfl)
theorem dX1_plan_40 : decode cX1_plan 40 = .ok (.iload_n 1, 1) := dk_27 (dk_at dksX1_plan_1 17 rfl rfl)
theorem dX1_plan_41 : decode cX1_plan 41 = .ok (.iload_n 2, 1) := dk_28 (dk_at dksX1_plan_1 18 rfl rfl)
theorem dX1_plan_42 : decode cX1_plan 42 = .ok (.invokevirtual 409, 3) := dk_182 1 153 (dk_at dksX1_plan_1 19 rfl rfl)
theorem dX1_plan_45 : decode cX1_plan 45 = .ok (.ireturn, 1) := dk_172 (dk_at dksX1_plan_1 22 rfl rfl)
abbrev cX1_wouldPay : ByteArray := prog_1_method_55_code
def yX1_wouldPay : MethodName := ⟨RX1, "wouldPay", "(I)I"⟩
def dkwX1_wouldPay_0 : List UInt8 := [42, 27, 182, 0, 99, 87, 42, 27, 182, 1, 156, 172]
abbrev dktX1_wouldPay_0 : List UInt8 := dkwX1_wouldPay_0 ++ []
theorem dksX1_wouldPay_0 : cX1_wouldPay.data.toList.drop 0 = dktX1_wouldPay_0 := by decide +kernel
theorem dX1_wouldPay_0 : decode cX1_wouldPay 0 = .ok (.aload_n 0, 1) := dk_42 (dk_at dksX1_wouldPay_0 0 rfl rfl)
theorem dX1_wouldPay_1 : decode cX1_wouldPay 1 = .ok (.iload_n 1, 1) := dk_27 (dk_at dksX1_wouldPay_0 1 rfl rfl)
theorem dX1_wouldPay_2 : decode cX1_wouldPay 2 = .ok (.invokevirtual 99, 3) := dk_182 0 99 (dk_at dksX1_wouldPay_0 2 rfl rfl)
theorem dX1_wouldPay_5 : decode cX1_wouldPay 5 = .ok (.pop, 1) := dk_87 (dk_at dksX1_wouldPay_0 5 rfl rfl)
theorem dX1_wouldPay_6 : decode cX1_wouldPay 6 = .ok (.aload_n 0, 1) := dk_42 (dk_at dksX1_wouldPay_0 6 rfl rfl)
theorem dX1_wouldPay_7 : decode cX1_wouldPay 7 = .ok (.iload_n 1, 1) := dk_27 (dk_at dksX1_wouldPay_0 7 rfl rfl)
theorem dX1_wouldPay_8 : decode cX1_wouldPay 8 = .ok (.invokevirtual 412, 3) := dk_182 1 156 (dk_at dksX1_wouldPay_0 8 rfl rfl)
theorem dX1_wouldPay_11 : decode cX1_wouldPay 11 = .ok (.ireturn, 1) := dk_172 (dk_at dksX1_wouldPay_0 11 rfl rfl)
theorem q80 : (Jvm.Cond.initialized "Lullabygate") ∈ lw_all := lw_g (lw_at lw_m1 1 rfl) rfl
theorem q125 : (Jvm.Cond.instantiable "Lullabygate" (9 : Nat)) ∈ lw_all := lw_g (lw_at lw_m1 46 rfl) rfl
theorem q127 : (Jvm.Cond.instanceMethod ({ cls := "Lullabygate", name := "<init>", desc := "()V" } : Jvm.MethodName)) ∈ lw_all := lw_g (lw_at lw_m1 48 rfl) rfl
theorem q128 : (Jvm.Cond.code ({ cls := "Lullabygate", name := "<init>", desc := "()V" } : Jvm.MethodName) prog_1_method_2_code (2 : Nat) (Option.none : Option Jvm.ClassFile.FieldType)) ∈ lw_all := lw_g (lw_at lw_m1 49 rfl) rfl
theorem q129 : (Jvm.Cond.methodLink "Lullabygate" (1 : Nat) ({ cls := "java/lang/Object", name := "<init>", desc := "()V" } : Jvm.MethodName)) ∈ lw_all := lw_g (lw_at lw_m1 50 rfl) rfl
theorem q132 : (Jvm.Cond.classLink "Lullabygate" (7 : Nat) "java/util/ArrayList") ∈ lw_all := lw_g (lw_at lw_m1 53 rfl) rfl
theorem q134 : (Jvm.Cond.methodLink "Lullabygate" (9 : Nat) ({ cls := "java/util/ArrayList", name := "<init>", desc := "()V" } : Jvm.MethodName)) ∈ lw_all := lw_g (lw_at lw_m1 55 rfl) rfl
theorem q161 : (Jvm.Cond.classLink "Lullabygate" (28 : Nat) "Lullabygate$Row") ∈ lw_all := lw_g (lw_at lw_m1 82 rfl) rfl
theorem q163 : (Jvm.Cond.methodLinkNest "Lullabygate" (30 : Nat) ({ cls := "Lullabygate$Row", name := "<init>", desc := "()V" } : Jvm.MethodName) "Lullabygate") ∈ lw_tbl := lw_at lw_m1 84 rfl
theorem q169 : (Jvm.Cond.fieldLinkNest "Lullabygate" (490 : Nat) "Lullabygate$Row" "drawn" "I" "Lullabygate") ∈ lw_tbl := lw_at lw_m1 90 rfl
theorem q175 : (Jvm.Cond.classLink "Lullabygate" (35 : Nat) "Lullabygate$Land") ∈ lw_all := lw_g (lw_at lw_m1 96 rfl) rfl
theorem q177 : (Jvm.Cond.methodLinkNest "Lullabygate" (37 : Nat) ({ cls := "Lullabygate$Land", name := "<init>", desc := "()V" } : Jvm.MethodName) "Lullabygate") ∈ lw_tbl := lw_at lw_m1 98 rfl
theorem q182 : (Jvm.Cond.fieldLinkNest "Lullabygate" (83 : Nat) "Lullabygate$Land" "rate" "I" "Lullabygate") ∈ lw_tbl := lw_at lw_m1 103 rfl
theorem q184 : (Jvm.Cond.fieldLinkNest "Lullabygate" (87 : Nat) "Lullabygate$Land" "allowance" "I" "Lullabygate") ∈ lw_tbl := lw_at lw_m1 105 rfl
theorem q186 : (Jvm.Cond.fieldLinkNest "Lullabygate" (90 : Nat) "Lullabygate$Land" "quota" "I" "Lullabygate") ∈ lw_tbl := lw_at lw_m1 107 rfl
theorem q187 : (Jvm.Cond.fieldLinkNest "Lullabygate" (260 : Nat) "Lullabygate$Land" "nightmares" "I" "Lullabygate") ∈ lw_tbl := lw_at lw_m1 108 rfl
theorem q188 : (Jvm.Cond.fieldLinkNest "Lullabygate" (282 : Nat) "Lullabygate$Land" "duties" "I" "Lullabygate") ∈ lw_tbl := lw_at lw_m1 109 rfl
theorem q189 : (Jvm.Cond.fieldLinkNest "Lullabygate" (248 : Nat) "Lullabygate$Land" "fines" "I" "Lullabygate") ∈ lw_tbl := lw_at lw_m1 110 rfl
theorem q203 : (Jvm.Cond.interfaceEntry "Lullabygate" (38 : Nat)) ∈ lw_tbl := lw_at lw_m1 124 rfl
theorem q204 : (Jvm.Cond.methodLink "Lullabygate" (38 : Nat) ({ cls := "java/util/List", name := "add", desc := "(Ljava/lang/Object;)Z" } : Jvm.MethodName)) ∈ lw_all := lw_g (lw_at lw_m1 125 rfl) rfl
theorem q241 : (Jvm.Cond.selects "Lullabygate" ({ cls := "java/lang/Object", name := "getClass", desc := "()Ljava/lang/Class;" } : Jvm.MethodName) ({ cls := "java/lang/Object", name := "getClass", desc := "()Ljava/lang/Class;" } : Jvm.MethodName)) ∈ lw_all := lw_g (lw_at lw_m1 162 rfl) rfl
theorem q283 : (Jvm.Cond.fieldLink "Lullabygate" (10 : Nat) "Lullabygate" "lands" "Ljava/util/List;") ∈ lw_all := lw_g (lw_at lw_m1 204 rfl) rfl
theorem q284 : (Jvm.Cond.fieldLink "Lullabygate" (16 : Nat) "Lullabygate" "gates" "Ljava/util/List;") ∈ lw_all := lw_g (lw_at lw_m1 205 rfl) rfl
theorem q285 : (Jvm.Cond.fieldLink "Lullabygate" (19 : Nat) "Lullabygate" "sleepers" "Ljava/util/List;") ∈ lw_all := lw_g (lw_at lw_m1 206 rfl) rfl
theorem q286 : (Jvm.Cond.fieldLink "Lullabygate" (22 : Nat) "Lullabygate" "parts" "Ljava/util/List;") ∈ lw_all := lw_g (lw_at lw_m1 207 rfl) rfl
theorem q287 : (Jvm.Cond.fieldLink "Lullabygate" (25 : Nat) "Lullabygate" "hidings" "Ljava/util/List;") ∈ lw_all := lw_g (lw_at lw_m1 208 rfl) rfl
theorem q288 : (Jvm.Cond.fieldLink "Lullabygate" (31 : Nat) "Lullabygate" "row" "LLullabygate$Row;") ∈ lw_all := lw_g (lw_at lw_m1 209 rfl) rfl
theorem q289 : (Jvm.Cond.fieldLink "Lullabygate" (137 : Nat) "Lullabygate" "night" "I") ∈ lw_all := lw_g (lw_at lw_m1 210 rfl) rfl
theorem q290 : (Jvm.Cond.fieldLink "Lullabygate" (316 : Nat) "Lullabygate" "hour" "I") ∈ lw_all := lw_g (lw_at lw_m1 211 rfl) rfl
theorem q291 : (Jvm.Cond.fieldLink "Lullabygate" (325 : Nat) "Lullabygate" "yawns" "I") ∈ lw_all := lw_g (lw_at lw_m1 212 rfl) rfl
theorem q292 : (Jvm.Cond.laysFinal "Lullabygate" "Lullabygate" "lands" "Ljava/util/List;") ∈ lw_all := lw_g (lw_at lw_m1 213 rfl) rfl
theorem q293 : (Jvm.Cond.soleField "Lullabygate" "lands") ∈ lw_all := lw_g (lw_at lw_m1 214 rfl) rfl
theorem q294 : (Jvm.Cond.laysFinal "Lullabygate" "Lullabygate" "gates" "Ljava/util/List;") ∈ lw_all := lw_g (lw_at lw_m1 215 rfl) rfl
theorem q295 : (Jvm.Cond.soleField "Lullabygate" "gates") ∈ lw_all := lw_g (lw_at lw_m1 216 rfl) rfl
theorem q296 : (Jvm.Cond.laysFinal "Lullabygate" "Lullabygate" "sleepers" "Ljava/util/List;") ∈ lw_all := lw_g (lw_at lw_m1 217 rfl) rfl
theorem q297 : (Jvm.Cond.soleField "Lullabygate" "sleepers") ∈ lw_all := lw_g (lw_at lw_m1 218 rfl) rfl
theorem q298 : (Jvm.Cond.laysFinal "Lullabygate" "Lullabygate" "parts" "Ljava/util/List;") ∈ lw_all := lw_g (lw_at lw_m1 219 rfl) rfl
theorem q299 : (Jvm.Cond.soleField "Lullabygate" "parts") ∈ lw_all := lw_g (lw_at lw_m1 220 rfl) rfl
theorem q300 : (Jvm.Cond.laysFinal "Lullabygate" "Lullabygate" "hidings" "Ljava/util/List;") ∈ lw_all := lw_g (lw_at lw_m1 221 rfl) rfl
theorem q301 : (Jvm.Cond.soleField "Lullabygate" "hidings") ∈ lw_all := lw_g (lw_at lw_m1 222 rfl) rfl
theorem q302 : (Jvm.Cond.laysFinal "Lullabygate" "Lullabygate" "row" "LLullabygate$Row;") ∈ lw_all := lw_g (lw_at lw_m1 223 rfl) rfl
theorem q303 : (Jvm.Cond.soleField "Lullabygate" "row") ∈ lw_all := lw_g (lw_at lw_m1 224 rfl) rfl
theorem q304 : (Jvm.Cond.lays "Lullabygate" "Lullabygate" "night" "I") ∈ lw_all := lw_g (lw_at lw_m1 225 rfl) rfl
theorem q305 : (Jvm.Cond.soleField "Lullabygate" "night") ∈ lw_all := lw_g (lw_at lw_m1 226 rfl) rfl
theorem q306 : (Jvm.Cond.lays "Lullabygate" "Lullabygate" "hour" "I") ∈ lw_all := lw_g (lw_at lw_m1 227 rfl) rfl
theorem q307 : (Jvm.Cond.soleField "Lullabygate" "hour") ∈ lw_all := lw_g (lw_at lw_m1 228 rfl) rfl
theorem q308 : (Jvm.Cond.lays "Lullabygate" "Lullabygate" "yawns" "I") ∈ lw_all := lw_g (lw_at lw_m1 229 rfl) rfl
theorem q309 : (Jvm.Cond.soleField "Lullabygate" "yawns") ∈ lw_all := lw_g (lw_at lw_m1 230 rfl) rfl
theorem q310 : (Jvm.Cond.superclass "Lullabygate" "java/lang/Object") ∈ lw_all := lw_g (lw_at lw_m1 231 rfl) rfl
theorem q312 : (Jvm.Cond.instanceMethod ({ cls := "Lullabygate", name := "isSound", desc := "()Z" } : Jvm.MethodName)) ∈ lw_all := lw_g (lw_at lw_m1 233 rfl) rfl
theorem q313 : (Jvm.Cond.selects "Lullabygate" ({ cls := "Lullabygate", name := "isSound", desc := "()Z" } : Jvm.MethodName) ({ cls := "Lullabygate", name := "isSound", desc := "()Z" } : Jvm.MethodName)) ∈ lw_all := lw_g (lw_at lw_m1 234 rfl) rfl
theorem q314 : (Jvm.Cond.code ({ cls := "Lullabygate", name := "isSound", desc := "()Z" } : Jvm.MethodName) prog_1_method_76_code (1 : Nat) (Option.some Jvm.ClassFile.FieldType.boolean)) ∈ lw_all := lw_g (lw_at lw_m1 235 rfl) rfl
theorem q315 : (Jvm.Cond.methodLink "Lullabygate" (506 : Nat) ({ cls := "Lullabygate", name := "isSoundNow", desc := "()Z" } : Jvm.MethodName)) ∈ lw_all := lw_g (lw_at lw_m1 236 rfl) rfl
theorem q316 : (Jvm.Cond.privateMethod ({ cls := "Lullabygate", name := "isSoundNow", desc := "()Z" } : Jvm.MethodName)) ∈ lw_tbl := lw_at lw_m1 237 rfl
theorem q317 : (Jvm.Cond.instanceMethod ({ cls := "Lullabygate", name := "isSoundNow", desc := "()Z" } : Jvm.MethodName)) ∈ lw_all := lw_g (lw_at lw_m1 238 rfl) rfl
theorem q318 : (Jvm.Cond.code ({ cls := "Lullabygate", name := "isSoundNow", desc := "()Z" } : Jvm.MethodName) prog_1_method_75_code (5 : Nat) (Option.some Jvm.ClassFile.FieldType.boolean)) ∈ lw_all := lw_g (lw_at lw_m1 239 rfl) rfl
theorem q319 : (Jvm.Cond.interfaceEntry "Lullabygate" (61 : Nat)) ∈ lw_tbl := lw_at lw_m2 0 rfl
theorem q320 : (Jvm.Cond.methodLink "Lullabygate" (61 : Nat) ({ cls := "java/util/List", name := "get", desc := "(I)Ljava/lang/Object;" } : Jvm.MethodName)) ∈ lw_all := lw_g (lw_at lw_m2 1 rfl) rfl
theorem q338 : (Jvm.Cond.interfaceEntry "Lullabygate" (65 : Nat)) ∈ lw_tbl := lw_at lw_m2 19 rfl
theorem q339 : (Jvm.Cond.methodLink "Lullabygate" (65 : Nat) ({ cls := "java/util/List", name := "size", desc := "()I" } : Jvm.MethodName)) ∈ lw_all := lw_g (lw_at lw_m2 20 rfl) rfl
theorem q347 : (Jvm.Cond.classLink "Lullabygate" (69 : Nat) "Lullabygate$Gate") ∈ lw_all := lw_g (lw_at lw_m2 28 rfl) rfl
theorem q348 : (Jvm.Cond.methodLink "Lullabygate" (503 : Nat) ({ cls := "Lullabygate", name := "isQueueSound", desc := "(LLullabygate$Gate;)Z" } : Jvm.MethodName)) ∈ lw_all := lw_g (lw_at lw_m2 29 rfl) rfl
theorem q349 : (Jvm.Cond.privateMethod ({ cls := "Lullabygate", name := "isQueueSound", desc := "(LLullabygate$Gate;)Z" } : Jvm.MethodName)) ∈ lw_tbl := lw_at lw_m2 30 rfl
theorem q350 : (Jvm.Cond.instanceMethod ({ cls := "Lullabygate", name := "isQueueSound", desc := "(LLullabygate$Gate;)Z" } : Jvm.MethodName)) ∈ lw_all := lw_g (lw_at lw_m2 31 rfl) rfl
theorem q351 : (Jvm.Cond.code ({ cls := "Lullabygate", name := "isQueueSound", desc := "(LLullabygate$Gate;)Z" } : Jvm.MethodName) prog_1_method_74_code (5 : Nat) (Option.some Jvm.ClassFile.FieldType.boolean)) ∈ lw_all := lw_g (lw_at lw_m2 32 rfl) rfl
theorem q352 : (Jvm.Cond.classLink "Lullabygate" (71 : Nat) "Lullabygate$Sleeper") ∈ lw_all := lw_g (lw_at lw_m2 33 rfl) rfl
theorem q353 : (Jvm.Cond.fieldLink "Lullabygate" (192 : Nat) "Lullabygate$Rest" "QUEUED" "LLullabygate$Rest;") ∈ lw_all := lw_g (lw_at lw_m2 34 rfl) rfl
theorem q355 : (Jvm.Cond.methodLink "Lullabygate" (122 : Nat) ({ cls := "Lullabygate$Sleeper", name := "is", desc := "(LLullabygate$Rest;)Z" } : Jvm.MethodName)) ∈ lw_all := lw_g (lw_at lw_m2 36 rfl) rfl
theorem q359 : (Jvm.Cond.methodLink "Lullabygate" (188 : Nat) ({ cls := "Lullabygate$Gate", name := "hasLand", desc := "(I)Z" } : Jvm.MethodName)) ∈ lw_all := lw_g (lw_at lw_m2 40 rfl) rfl
theorem q363 : (Jvm.Cond.methodLink "Lullabygate" (206 : Nat) ({ cls := "Lullabygate$Gate", name := "place", desc := "(LLullabygate$Sleeper;)I" } : Jvm.MethodName)) ∈ lw_all := lw_g (lw_at lw_m2 44 rfl) rfl
theorem q371 : (Jvm.Cond.fieldLink "Lullabygate" (306 : Nat) "Lullabygate$Rest" "AWAKE" "LLullabygate$Rest;") ∈ lw_all := lw_g (lw_at lw_m2 52 rfl) rfl
theorem q373 : (Jvm.Cond.methodLink "Lullabygate" (185 : Nat) ({ cls := "Lullabygate", name := "headOf", desc := "(I)I" } : Jvm.MethodName)) ∈ lw_all := lw_g (lw_at lw_m2 54 rfl) rfl
theorem q374 : (Jvm.Cond.privateMethod ({ cls := "Lullabygate", name := "headOf", desc := "(I)I" } : Jvm.MethodName)) ∈ lw_tbl := lw_at lw_m2 55 rfl
theorem q375 : (Jvm.Cond.instanceMethod ({ cls := "Lullabygate", name := "headOf", desc := "(I)I" } : Jvm.MethodName)) ∈ lw_all := lw_g (lw_at lw_m2 56 rfl) rfl
theorem q376 : (Jvm.Cond.code ({ cls := "Lullabygate", name := "headOf", desc := "(I)I" } : Jvm.MethodName) prog_1_method_22_code (4 : Nat) (Option.some Jvm.ClassFile.FieldType.int)) ∈ lw_all := lw_g (lw_at lw_m2 57 rfl) rfl
theorem q377 : (Jvm.Cond.classLink "Lullabygate" (73 : Nat) "Lullabygate$Part") ∈ lw_all := lw_g (lw_at lw_m2 58 rfl) rfl
theorem q379 : (Jvm.Cond.instanceMethod ({ cls := "Lullabygate", name := "digest", desc := "()J" } : Jvm.MethodName)) ∈ lw_all := lw_g (lw_at lw_m2 60 rfl) rfl
theorem q380 : (Jvm.Cond.selects "Lullabygate" ({ cls := "Lullabygate", name := "digest", desc := "()J" } : Jvm.MethodName) ({ cls := "Lullabygate", name := "digest", desc := "()J" } : Jvm.MethodName)) ∈ lw_all := lw_g (lw_at lw_m2 61 rfl) rfl
theorem q381 : (Jvm.Cond.code ({ cls := "Lullabygate", name := "digest", desc := "()J" } : Jvm.MethodName) prog_1_method_79_code (4 : Nat) (Option.some Jvm.ClassFile.FieldType.long)) ∈ lw_all := lw_g (lw_at lw_m2 62 rfl) rfl
theorem q382 : (Jvm.Cond.classLink "Lullabygate" (510 : Nat) "Lullabygate$Sum") ∈ lw_all := lw_g (lw_at lw_m2 63 rfl) rfl
theorem q384 : (Jvm.Cond.methodLinkNest "Lullabygate" (514 : Nat) ({ cls := "Lullabygate$Sum", name := "<init>", desc := "()V" } : Jvm.MethodName) "Lullabygate") ∈ lw_tbl := lw_at lw_m2 65 rfl
theorem q390 : (Jvm.Cond.fieldLinkNest "Lullabygate" (522 : Nat) "Lullabygate$Sum" "total" "J" "Lullabygate") ∈ lw_tbl := lw_at lw_m2 71 rfl
theorem q394 : (Jvm.Cond.methodLink "Lullabygate" (500 : Nat) ({ cls := "Lullabygate", name := "nightNow", desc := "(I)I" } : Jvm.MethodName)) ∈ lw_all := lw_g (lw_at lw_m2 75 rfl) rfl
theorem q395 : (Jvm.Cond.privateMethod ({ cls := "Lullabygate", name := "nightNow", desc := "(I)I" } : Jvm.MethodName)) ∈ lw_tbl := lw_at lw_m2 76 rfl
theorem q396 : (Jvm.Cond.instanceMethod ({ cls := "Lullabygate", name := "nightNow", desc := "(I)I" } : Jvm.MethodName)) ∈ lw_all := lw_g (lw_at lw_m2 77 rfl) rfl
theorem q397 : (Jvm.Cond.code ({ cls := "Lullabygate", name := "nightNow", desc := "(I)I" } : Jvm.MethodName) prog_1_method_72_code (2 : Nat) (Option.some Jvm.ClassFile.FieldType.int)) ∈ lw_all := lw_g (lw_at lw_m2 78 rfl) rfl
theorem q398 : (Jvm.Cond.methodLink "Lullabygate" (484 : Nat) ({ cls := "Lullabygate", name := "awake", desc := "()I" } : Jvm.MethodName)) ∈ lw_all := lw_g (lw_at lw_m2 79 rfl) rfl
theorem q399 : (Jvm.Cond.privateMethod ({ cls := "Lullabygate", name := "awake", desc := "()I" } : Jvm.MethodName)) ∈ lw_tbl := lw_at lw_m2 80 rfl
theorem q400 : (Jvm.Cond.instanceMethod ({ cls := "Lullabygate", name := "awake", desc := "()I" } : Jvm.MethodName)) ∈ lw_all := lw_g (lw_at lw_m2 81 rfl) rfl
theorem q401 : (Jvm.Cond.code ({ cls := "Lullabygate", name := "awake", desc := "()I" } : Jvm.MethodName) prog_1_method_68_code (3 : Nat) (Option.some Jvm.ClassFile.FieldType.int)) ∈ lw_all := lw_g (lw_at lw_m2 82 rfl) rfl
theorem q402 : (Jvm.Cond.methodLink "Lullabygate" (487 : Nat) ({ cls := "Lullabygate", name := "gone", desc := "()I" } : Jvm.MethodName)) ∈ lw_all := lw_g (lw_at lw_m2 83 rfl) rfl
theorem q403 : (Jvm.Cond.privateMethod ({ cls := "Lullabygate", name := "gone", desc := "()I" } : Jvm.MethodName)) ∈ lw_tbl := lw_at lw_m2 84 rfl
theorem q404 : (Jvm.Cond.instanceMethod ({ cls := "Lullabygate", name := "gone", desc := "()I" } : Jvm.MethodName)) ∈ lw_all := lw_g (lw_at lw_m2 85 rfl) rfl
theorem q405 : (Jvm.Cond.code ({ cls := "Lullabygate", name := "gone", desc := "()I" } : Jvm.MethodName) prog_1_method_69_code (3 : Nat) (Option.some Jvm.ClassFile.FieldType.int)) ∈ lw_all := lw_g (lw_at lw_m2 86 rfl) rfl
theorem q406 : (Jvm.Cond.methodLink "Lullabygate" (481 : Nat) ({ cls := "Lullabygate$Part", name := "isGone", desc := "()Z" } : Jvm.MethodName)) ∈ lw_all := lw_g (lw_at lw_m2 87 rfl) rfl
theorem q410 : (Jvm.Cond.methodLink "Lullabygate" (493 : Nat) ({ cls := "Lullabygate", name := "ofAllLands", desc := "(Z)I" } : Jvm.MethodName)) ∈ lw_all := lw_g (lw_at lw_m2 91 rfl) rfl
theorem q411 : (Jvm.Cond.privateMethod ({ cls := "Lullabygate", name := "ofAllLands", desc := "(Z)I" } : Jvm.MethodName)) ∈ lw_tbl := lw_at lw_m2 92 rfl
theorem q412 : (Jvm.Cond.instanceMethod ({ cls := "Lullabygate", name := "ofAllLands", desc := "(Z)I" } : Jvm.MethodName)) ∈ lw_all := lw_g (lw_at lw_m2 93 rfl) rfl
theorem q413 : (Jvm.Cond.code ({ cls := "Lullabygate", name := "ofAllLands", desc := "(Z)I" } : Jvm.MethodName) prog_1_method_71_code (4 : Nat) (Option.some Jvm.ClassFile.FieldType.int)) ∈ lw_all := lw_g (lw_at lw_m2 94 rfl) rfl
theorem q414 : (Jvm.Cond.methodLink "Lullabygate" (497 : Nat) ({ cls := "Lullabygate", name := "withFate", desc := "(I)I" } : Jvm.MethodName)) ∈ lw_all := lw_g (lw_at lw_m2 95 rfl) rfl
theorem q415 : (Jvm.Cond.privateMethod ({ cls := "Lullabygate", name := "withFate", desc := "(I)I" } : Jvm.MethodName)) ∈ lw_tbl := lw_at lw_m2 96 rfl
theorem q416 : (Jvm.Cond.instanceMethod ({ cls := "Lullabygate", name := "withFate", desc := "(I)I" } : Jvm.MethodName)) ∈ lw_all := lw_g (lw_at lw_m2 97 rfl) rfl
theorem q417 : (Jvm.Cond.code ({ cls := "Lullabygate", name := "withFate", desc := "(I)I" } : Jvm.MethodName) prog_1_method_70_code (4 : Nat) (Option.some Jvm.ClassFile.FieldType.int)) ∈ lw_all := lw_g (lw_at lw_m2 98 rfl) rfl
theorem q418 : (Jvm.Cond.methodLink "Lullabygate" (448 : Nat) ({ cls := "Lullabygate$Fate", name := "ordinal", desc := "()I" } : Jvm.MethodName)) ∈ lw_all := lw_g (lw_at lw_m2 99 rfl) rfl
theorem q424 : (Jvm.Cond.methodLink "Lullabygate" (509 : Nat) ({ cls := "Lullabygate$Sum", name := "add", desc := "(J)V" } : Jvm.MethodName)) ∈ lw_all := lw_g (lw_at lw_m2 105 rfl) rfl
theorem q429 : (Jvm.Cond.methodLink "Lullabygate" (424 : Nat) ({ cls := "Lullabygate", name := "landNow", desc := "(II)I" } : Jvm.MethodName)) ∈ lw_all := lw_g (lw_at lw_m2 110 rfl) rfl
theorem q430 : (Jvm.Cond.privateMethod ({ cls := "Lullabygate", name := "landNow", desc := "(II)I" } : Jvm.MethodName)) ∈ lw_tbl := lw_at lw_m2 111 rfl
theorem q431 : (Jvm.Cond.instanceMethod ({ cls := "Lullabygate", name := "landNow", desc := "(II)I" } : Jvm.MethodName)) ∈ lw_all := lw_g (lw_at lw_m2 112 rfl) rfl
theorem q432 : (Jvm.Cond.code ({ cls := "Lullabygate", name := "landNow", desc := "(II)I" } : Jvm.MethodName) prog_1_method_58_code (4 : Nat) (Option.some Jvm.ClassFile.FieldType.int)) ∈ lw_all := lw_g (lw_at lw_m2 113 rfl) rfl
theorem q433 : (Jvm.Cond.methodLink "Lullabygate" (415 : Nat) ({ cls := "Lullabygate", name := "storeOf", desc := "(I)I" } : Jvm.MethodName)) ∈ lw_all := lw_g (lw_at lw_m2 114 rfl) rfl
theorem q434 : (Jvm.Cond.privateMethod ({ cls := "Lullabygate", name := "storeOf", desc := "(I)I" } : Jvm.MethodName)) ∈ lw_tbl := lw_at lw_m2 115 rfl
theorem q435 : (Jvm.Cond.instanceMethod ({ cls := "Lullabygate", name := "storeOf", desc := "(I)I" } : Jvm.MethodName)) ∈ lw_all := lw_g (lw_at lw_m2 116 rfl) rfl
theorem q436 : (Jvm.Cond.code ({ cls := "Lullabygate", name := "storeOf", desc := "(I)I" } : Jvm.MethodName) prog_1_method_56_code (4 : Nat) (Option.some Jvm.ClassFile.FieldType.int)) ∈ lw_all := lw_g (lw_at lw_m2 117 rfl) rfl
theorem q437 : (Jvm.Cond.methodLink "Lullabygate" (418 : Nat) ({ cls := "Lullabygate", name := "sleepersIn", desc := "(I)I" } : Jvm.MethodName)) ∈ lw_all := lw_g (lw_at lw_m2 118 rfl) rfl
theorem q438 : (Jvm.Cond.privateMethod ({ cls := "Lullabygate", name := "sleepersIn", desc := "(I)I" } : Jvm.MethodName)) ∈ lw_tbl := lw_at lw_m2 119 rfl
theorem q439 : (Jvm.Cond.instanceMethod ({ cls := "Lullabygate", name := "sleepersIn", desc := "(I)I" } : Jvm.MethodName)) ∈ lw_all := lw_g (lw_at lw_m2 120 rfl) rfl
theorem q440 : (Jvm.Cond.code ({ cls := "Lullabygate", name := "sleepersIn", desc := "(I)I" } : Jvm.MethodName) prog_1_method_57_code (4 : Nat) (Option.some Jvm.ClassFile.FieldType.int)) ∈ lw_all := lw_g (lw_at lw_m2 121 rfl) rfl
theorem q441 : (Jvm.Cond.methodLink "Lullabygate" (421 : Nat) ({ cls := "Lullabygate", name := "whole", desc := "(I)I" } : Jvm.MethodName)) ∈ lw_all := lw_g (lw_at lw_m2 122 rfl) rfl
theorem q442 : (Jvm.Cond.privateMethod ({ cls := "Lullabygate", name := "whole", desc := "(I)I" } : Jvm.MethodName)) ∈ lw_tbl := lw_at lw_m2 123 rfl
theorem q443 : (Jvm.Cond.instanceMethod ({ cls := "Lullabygate", name := "whole", desc := "(I)I" } : Jvm.MethodName)) ∈ lw_all := lw_g (lw_at lw_m2 124 rfl) rfl
theorem q444 : (Jvm.Cond.code ({ cls := "Lullabygate", name := "whole", desc := "(I)I" } : Jvm.MethodName) prog_1_method_43_code (8 : Nat) (Option.some Jvm.ClassFile.FieldType.int)) ∈ lw_all := lw_g (lw_at lw_m2 125 rfl) rfl
theorem q445 : (Jvm.Cond.methodLink "Lullabygate" (367 : Nat) ({ cls := "Lullabygate", name := "landOf", desc := "(LLullabygate$Part;)I" } : Jvm.MethodName)) ∈ lw_all := lw_g (lw_at lw_m2 126 rfl) rfl
theorem q446 : (Jvm.Cond.privateMethod ({ cls := "Lullabygate", name := "landOf", desc := "(LLullabygate$Part;)I" } : Jvm.MethodName)) ∈ lw_tbl := lw_at lw_m2 127 rfl
theorem q447 : (Jvm.Cond.instanceMethod ({ cls := "Lullabygate", name := "landOf", desc := "(LLullabygate$Part;)I" } : Jvm.MethodName)) ∈ lw_all := lw_g (lw_at lw_m2 128 rfl) rfl
theorem q448 : (Jvm.Cond.code ({ cls := "Lullabygate", name := "landOf", desc := "(LLullabygate$Part;)I" } : Jvm.MethodName) prog_1_method_42_code (2 : Nat) (Option.some Jvm.ClassFile.FieldType.int)) ∈ lw_all := lw_g (lw_at lw_m2 129 rfl) rfl
theorem q449 : (Jvm.Cond.methodLink "Lullabygate" (515 : Nat) ({ cls := "Lullabygate", name := "sumGates", desc := "(LLullabygate$Sum;)V" } : Jvm.MethodName)) ∈ lw_all := lw_g (lw_at lw_m2 130 rfl) rfl
theorem q450 : (Jvm.Cond.privateMethod ({ cls := "Lullabygate", name := "sumGates", desc := "(LLullabygate$Sum;)V" } : Jvm.MethodName)) ∈ lw_tbl := lw_at lw_m2 131 rfl
theorem q451 : (Jvm.Cond.instanceMethod ({ cls := "Lullabygate", name := "sumGates", desc := "(LLullabygate$Sum;)V" } : Jvm.MethodName)) ∈ lw_all := lw_g (lw_at lw_m2 132 rfl) rfl
theorem q452 : (Jvm.Cond.code ({ cls := "Lullabygate", name := "sumGates", desc := "(LLullabygate$Sum;)V" } : Jvm.MethodName) prog_1_method_77_code (4 : Nat) (Option.none : Option Jvm.ClassFile.FieldType)) ∈ lw_all := lw_g (lw_at lw_m2 133 rfl) rfl
theorem q453 : (Jvm.Cond.methodLink "Lullabygate" (430 : Nat) ({ cls := "Lullabygate", name := "gateNow", desc := "(II)I" } : Jvm.MethodName)) ∈ lw_all := lw_g (lw_at lw_m2 134 rfl) rfl
theorem q454 : (Jvm.Cond.privateMethod ({ cls := "Lullabygate", name := "gateNow", desc := "(II)I" } : Jvm.MethodName)) ∈ lw_tbl := lw_at lw_m2 135 rfl
theorem q455 : (Jvm.Cond.instanceMethod ({ cls := "Lullabygate", name := "gateNow", desc := "(II)I" } : Jvm.MethodName)) ∈ lw_all := lw_g (lw_at lw_m2 136 rfl) rfl
theorem q456 : (Jvm.Cond.code ({ cls := "Lullabygate", name := "gateNow", desc := "(II)I" } : Jvm.MethodName) prog_1_method_60_code (4 : Nat) (Option.some Jvm.ClassFile.FieldType.int)) ∈ lw_all := lw_g (lw_at lw_m2 137 rfl) rfl
theorem q457 : (Jvm.Cond.methodLink "Lullabygate" (319 : Nat) ({ cls := "Lullabygate$Gate", name := "isOpen", desc := "(I)Z" } : Jvm.MethodName)) ∈ lw_all := lw_g (lw_at lw_m2 138 rfl) rfl
theorem q461 : (Jvm.Cond.methodLink "Lullabygate" (178 : Nat) ({ cls := "Lullabygate$Gate", name := "isDozing", desc := "()Z" } : Jvm.MethodName)) ∈ lw_all := lw_g (lw_at lw_m2 142 rfl) rfl
theorem q465 : (Jvm.Cond.interfaceEntry "Lullabygate" (322 : Nat)) ∈ lw_tbl := lw_at lw_m2 146 rfl
theorem q466 : (Jvm.Cond.methodLink "Lullabygate" (322 : Nat) ({ cls := "java/util/List", name := "isEmpty", desc := "()Z" } : Jvm.MethodName)) ∈ lw_all := lw_g (lw_at lw_m2 147 rfl) rfl
theorem q474 : (Jvm.Cond.methodLink "Lullabygate" (386 : Nat) ({ cls := "Lullabygate", name := "hiddenWorth", desc := "(LLullabygate$Gate;)I" } : Jvm.MethodName)) ∈ lw_all := lw_g (lw_at lw_m2 155 rfl) rfl
theorem q475 : (Jvm.Cond.privateMethod ({ cls := "Lullabygate", name := "hiddenWorth", desc := "(LLullabygate$Gate;)I" } : Jvm.MethodName)) ∈ lw_tbl := lw_at lw_m2 156 rfl
theorem q476 : (Jvm.Cond.instanceMethod ({ cls := "Lullabygate", name := "hiddenWorth", desc := "(LLullabygate$Gate;)I" } : Jvm.MethodName)) ∈ lw_all := lw_g (lw_at lw_m2 157 rfl) rfl
theorem q477 : (Jvm.Cond.code ({ cls := "Lullabygate", name := "hiddenWorth", desc := "(LLullabygate$Gate;)I" } : Jvm.MethodName) prog_1_method_47_code (5 : Nat) (Option.some Jvm.ClassFile.FieldType.int)) ∈ lw_all := lw_g (lw_at lw_m2 158 rfl) rfl
theorem q478 : (Jvm.Cond.methodLink "Lullabygate" (270 : Nat) ({ cls := "Lullabygate", name := "worthOf", desc := "(I)I" } : Jvm.MethodName)) ∈ lw_all := lw_g (lw_at lw_m2 159 rfl) rfl
theorem q479 : (Jvm.Cond.privateMethod ({ cls := "Lullabygate", name := "worthOf", desc := "(I)I" } : Jvm.MethodName)) ∈ lw_tbl := lw_at lw_m2 160 rfl
theorem q480 : (Jvm.Cond.instanceMethod ({ cls := "Lullabygate", name := "worthOf", desc := "(I)I" } : Jvm.MethodName)) ∈ lw_all := lw_g (lw_at lw_m2 161 rfl) rfl
theorem q481 : (Jvm.Cond.code ({ cls := "Lullabygate", name := "worthOf", desc := "(I)I" } : Jvm.MethodName) prog_1_method_28_code (4 : Nat) (Option.some Jvm.ClassFile.FieldType.int)) ∈ lw_all := lw_g (lw_at lw_m2 162 rfl) rfl
theorem q482 : (Jvm.Cond.methodLink "Lullabygate" (230 : Nat) ({ cls := "Lullabygate", name := "has", desc := "(II)Z" } : Jvm.MethodName)) ∈ lw_all := lw_g (lw_at lw_m2 163 rfl) rfl
theorem q483 : (Jvm.Cond.static ({ cls := "Lullabygate", name := "has", desc := "(II)Z" } : Jvm.MethodName)) ∈ lw_all := lw_g (lw_at lw_m2 164 rfl) rfl
theorem q484 : (Jvm.Cond.code ({ cls := "Lullabygate", name := "has", desc := "(II)Z" } : Jvm.MethodName) prog_1_method_1_code (2 : Nat) (Option.some Jvm.ClassFile.FieldType.boolean)) ∈ lw_all := lw_g (lw_at lw_m2 165 rfl) rfl
theorem q485 : (Jvm.Cond.methodLink "Lullabygate" (427 : Nat) ({ cls := "Lullabygate$Gate", name := "many", desc := "()I" } : Jvm.MethodName)) ∈ lw_all := lw_g (lw_at lw_m2 166 rfl) rfl
theorem q489 : (Jvm.Cond.methodLink "Lullabygate" (412 : Nat) ({ cls := "Lullabygate", name := "wouldPayNow", desc := "(I)I" } : Jvm.MethodName)) ∈ lw_all := lw_g (lw_at lw_m2 170 rfl) rfl
theorem q490 : (Jvm.Cond.privateMethod ({ cls := "Lullabygate", name := "wouldPayNow", desc := "(I)I" } : Jvm.MethodName)) ∈ lw_tbl := lw_at lw_m2 171 rfl
theorem q491 : (Jvm.Cond.instanceMethod ({ cls := "Lullabygate", name := "wouldPayNow", desc := "(I)I" } : Jvm.MethodName)) ∈ lw_all := lw_g (lw_at lw_m2 172 rfl) rfl
theorem q492 : (Jvm.Cond.code ({ cls := "Lullabygate", name := "wouldPayNow", desc := "(I)I" } : Jvm.MethodName) prog_1_method_54_code (5 : Nat) (Option.some Jvm.ClassFile.FieldType.int)) ∈ lw_all := lw_g (lw_at lw_m2 173 rfl) rfl
theorem q493 : (Jvm.Cond.methodLink "Lullabygate" (328 : Nat) ({ cls := "Lullabygate", name := "isGoodNow", desc := "(LLullabygate$Sleeper;I)Z" } : Jvm.MethodName)) ∈ lw_all := lw_g (lw_at lw_m2 174 rfl) rfl
theorem q494 : (Jvm.Cond.privateMethod ({ cls := "Lullabygate", name := "isGoodNow", desc := "(LLullabygate$Sleeper;I)Z" } : Jvm.MethodName)) ∈ lw_tbl := lw_at lw_m2 175 rfl
theorem q495 : (Jvm.Cond.instanceMethod ({ cls := "Lullabygate", name := "isGoodNow", desc := "(LLullabygate$Sleeper;I)Z" } : Jvm.MethodName)) ∈ lw_all := lw_g (lw_at lw_m2 176 rfl) rfl
theorem q496 : (Jvm.Cond.code ({ cls := "Lullabygate", name := "isGoodNow", desc := "(LLullabygate$Sleeper;I)Z" } : Jvm.MethodName) prog_1_method_21_code (7 : Nat) (Option.some Jvm.ClassFile.FieldType.boolean)) ∈ lw_all := lw_g (lw_at lw_m2 177 rfl) rfl
theorem q497 : (Jvm.Cond.methodLink "Lullabygate" (162 : Nat) ({ cls := "java/util/Optional", name := "isPresent", desc := "()Z" } : Jvm.MethodName)) ∈ lw_all := lw_g (lw_at lw_m2 178 rfl) rfl
theorem q501 : (Jvm.Cond.methodLink "Lullabygate" (166 : Nat) ({ cls := "java/util/Optional", name := "get", desc := "()Ljava/lang/Object;" } : Jvm.MethodName)) ∈ lw_all := lw_g (lw_at lw_m2 182 rfl) rfl
theorem q505 : (Jvm.Cond.classLink "Lullabygate" (140 : Nat) "Lullabygate$Pass") ∈ lw_all := lw_g (lw_at lw_m2 186 rfl) rfl
theorem q506 : (Jvm.Cond.methodLink "Lullabygate" (154 : Nat) ({ cls := "Lullabygate$Sleeper", name := "right", desc := "(II)I" } : Jvm.MethodName)) ∈ lw_all := lw_g (lw_at lw_m2 187 rfl) rfl
theorem q510 : (Jvm.Cond.methodLink "Lullabygate" (172 : Nat) ({ cls := "java/lang/Math", name := "abs", desc := "(I)I" } : Jvm.MethodName)) ∈ lw_all := lw_g (lw_at lw_m2 191 rfl) rfl
theorem q513 : (Jvm.Cond.methodLink "Lullabygate" (288 : Nat) ({ cls := "Lullabygate$Gate", name := "across", desc := "(I)I" } : Jvm.MethodName)) ∈ lw_all := lw_g (lw_at lw_m2 194 rfl) rfl
theorem q517 : (Jvm.Cond.methodLink "Lullabygate" (266 : Nat) ({ cls := "Lullabygate", name := "allowed", desc := "(ILLullabygate$Land;)I" } : Jvm.MethodName)) ∈ lw_all := lw_g (lw_at lw_m2 198 rfl) rfl
theorem q518 : (Jvm.Cond.privateMethod ({ cls := "Lullabygate", name := "allowed", desc := "(ILLullabygate$Land;)I" } : Jvm.MethodName)) ∈ lw_tbl := lw_at lw_m2 199 rfl
theorem q519 : (Jvm.Cond.instanceMethod ({ cls := "Lullabygate", name := "allowed", desc := "(ILLullabygate$Land;)I" } : Jvm.MethodName)) ∈ lw_all := lw_g (lw_at lw_m2 200 rfl) rfl
theorem q520 : (Jvm.Cond.code ({ cls := "Lullabygate", name := "allowed", desc := "(ILLullabygate$Land;)I" } : Jvm.MethodName) prog_1_method_27_code (8 : Nat) (Option.some Jvm.ClassFile.FieldType.int)) ∈ lw_all := lw_g (lw_at lw_m2 201 rfl) rfl
theorem q521 : (Jvm.Cond.methodLink "Lullabygate" (263 : Nat) ({ cls := "Lullabygate$Part", name := "isNightmare", desc := "()Z" } : Jvm.MethodName)) ∈ lw_all := lw_g (lw_at lw_m2 202 rfl) rfl
theorem q525 : (Jvm.Cond.methodLink "Lullabygate" (285 : Nat) ({ cls := "Lullabygate$Land", name := "duty", desc := "(I)I" } : Jvm.MethodName)) ∈ lw_all := lw_g (lw_at lw_m2 206 rfl) rfl
theorem q529 : (Jvm.Cond.methodLink "Lullabygate" (519 : Nat) ({ cls := "Lullabygate", name := "sumSleepers", desc := "(LLullabygate$Sum;)V" } : Jvm.MethodName)) ∈ lw_all := lw_g (lw_at lw_m2 210 rfl) rfl
theorem q530 : (Jvm.Cond.privateMethod ({ cls := "Lullabygate", name := "sumSleepers", desc := "(LLullabygate$Sum;)V" } : Jvm.MethodName)) ∈ lw_tbl := lw_at lw_m2 211 rfl
theorem q531 : (Jvm.Cond.instanceMethod ({ cls := "Lullabygate", name := "sumSleepers", desc := "(LLullabygate$Sum;)V" } : Jvm.MethodName)) ∈ lw_all := lw_g (lw_at lw_m2 212 rfl) rfl
theorem q532 : (Jvm.Cond.code ({ cls := "Lullabygate", name := "sumSleepers", desc := "(LLullabygate$Sum;)V" } : Jvm.MethodName) prog_1_method_78_code (4 : Nat) (Option.none : Option Jvm.ClassFile.FieldType)) ∈ lw_all := lw_g (lw_at lw_m2 213 rfl) rfl
theorem q533 : (Jvm.Cond.methodLink "Lullabygate" (442 : Nat) ({ cls := "Lullabygate", name := "sleeperNow", desc := "(II)I" } : Jvm.MethodName)) ∈ lw_all := lw_g (lw_at lw_m2 214 rfl) rfl
theorem q534 : (Jvm.Cond.privateMethod ({ cls := "Lullabygate", name := "sleeperNow", desc := "(II)I" } : Jvm.MethodName)) ∈ lw_tbl := lw_at lw_m2 215 rfl
theorem q535 : (Jvm.Cond.instanceMethod ({ cls := "Lullabygate", name := "sleeperNow", desc := "(II)I" } : Jvm.MethodName)) ∈ lw_all := lw_g (lw_at lw_m2 216 rfl) rfl
theorem q536 : (Jvm.Cond.code ({ cls := "Lullabygate", name := "sleeperNow", desc := "(II)I" } : Jvm.MethodName) prog_1_method_62_code (4 : Nat) (Option.some Jvm.ClassFile.FieldType.int)) ∈ lw_all := lw_g (lw_at lw_m2 217 rfl) rfl
theorem q537 : (Jvm.Cond.methodLink "Lullabygate" (433 : Nat) ({ cls := "Lullabygate$Rest", name := "ordinal", desc := "()I" } : Jvm.MethodName)) ∈ lw_all := lw_g (lw_at lw_m2 218 rfl) rfl
theorem q540 : (Jvm.Cond.methodLink "Lullabygate" (436 : Nat) ({ cls := "Lullabygate", name := "ringOf", desc := "(I)I" } : Jvm.MethodName)) ∈ lw_all := lw_g (lw_at lw_m2 221 rfl) rfl
theorem q541 : (Jvm.Cond.privateMethod ({ cls := "Lullabygate", name := "ringOf", desc := "(I)I" } : Jvm.MethodName)) ∈ lw_tbl := lw_at lw_m2 222 rfl
theorem q542 : (Jvm.Cond.instanceMethod ({ cls := "Lullabygate", name := "ringOf", desc := "(I)I" } : Jvm.MethodName)) ∈ lw_all := lw_g (lw_at lw_m2 223 rfl) rfl
theorem q543 : (Jvm.Cond.code ({ cls := "Lullabygate", name := "ringOf", desc := "(I)I" } : Jvm.MethodName) prog_1_method_40_code (6 : Nat) (Option.some Jvm.ClassFile.FieldType.int)) ∈ lw_all := lw_g (lw_at lw_m2 224 rfl) rfl
theorem q544 : (Jvm.Cond.methodLink "Lullabygate" (364 : Nat) ({ cls := "Lullabygate", name := "areLinked", desc := "(II)Z" } : Jvm.MethodName)) ∈ lw_all := lw_g (lw_at lw_m2 225 rfl) rfl
theorem q545 : (Jvm.Cond.privateMethod ({ cls := "Lullabygate", name := "areLinked", desc := "(II)Z" } : Jvm.MethodName)) ∈ lw_tbl := lw_at lw_m2 226 rfl
theorem q546 : (Jvm.Cond.instanceMethod ({ cls := "Lullabygate", name := "areLinked", desc := "(II)Z" } : Jvm.MethodName)) ∈ lw_all := lw_g (lw_at lw_m2 227 rfl) rfl
theorem q547 : (Jvm.Cond.code ({ cls := "Lullabygate", name := "areLinked", desc := "(II)Z" } : Jvm.MethodName) prog_1_method_39_code (5 : Nat) (Option.some Jvm.ClassFile.FieldType.boolean)) ∈ lw_all := lw_g (lw_at lw_m2 228 rfl) rfl
theorem q548 : (Jvm.Cond.classLink "Lullabygate" (224 : Nat) "Lullabygate$Hiding") ∈ lw_all := lw_g (lw_at lw_m2 229 rfl) rfl
theorem q549 : (Jvm.Cond.methodLink "Lullabygate" (360 : Nat) ({ cls := "Lullabygate$Hiding", name := "fits", desc := "(LLullabygate$Hiding;)Z" } : Jvm.MethodName)) ∈ lw_all := lw_g (lw_at lw_m2 230 rfl) rfl
theorem q554 : (Jvm.Cond.methodLink "Lullabygate" (439 : Nat) ({ cls := "Lullabygate", name := "hidingsOf", desc := "(I)I" } : Jvm.MethodName)) ∈ lw_all := lw_g (lw_at lw_m2 235 rfl) rfl
theorem q555 : (Jvm.Cond.privateMethod ({ cls := "Lullabygate", name := "hidingsOf", desc := "(I)I" } : Jvm.MethodName)) ∈ lw_tbl := lw_at lw_m2 236 rfl
theorem q556 : (Jvm.Cond.instanceMethod ({ cls := "Lullabygate", name := "hidingsOf", desc := "(I)I" } : Jvm.MethodName)) ∈ lw_all := lw_g (lw_at lw_m2 237 rfl) rfl
theorem q557 : (Jvm.Cond.code ({ cls := "Lullabygate", name := "hidingsOf", desc := "(I)I" } : Jvm.MethodName) prog_1_method_41_code (4 : Nat) (Option.some Jvm.ClassFile.FieldType.int)) ∈ lw_all := lw_g (lw_at lw_m2 238 rfl) rfl
theorem q558 : (Jvm.Cond.methodLink "Lullabygate" (449 : Nat) ({ cls := "Lullabygate", name := "partNow", desc := "(II)I" } : Jvm.MethodName)) ∈ lw_all := lw_g (lw_at lw_m2 239 rfl) rfl
theorem q559 : (Jvm.Cond.privateMethod ({ cls := "Lullabygate", name := "partNow", desc := "(II)I" } : Jvm.MethodName)) ∈ lw_tbl := lw_at lw_m3 0 rfl
theorem q560 : (Jvm.Cond.instanceMethod ({ cls := "Lullabygate", name := "partNow", desc := "(II)I" } : Jvm.MethodName)) ∈ lw_all := lw_g (lw_at lw_m3 1 rfl) rfl
theorem q561 : (Jvm.Cond.code ({ cls := "Lullabygate", name := "partNow", desc := "(II)I" } : Jvm.MethodName) prog_1_method_64_code (4 : Nat) (Option.some Jvm.ClassFile.FieldType.int)) ∈ lw_all := lw_g (lw_at lw_m3 2 rfl) rfl
theorem q562 : (Jvm.Cond.methodLink "Lullabygate" (380 : Nat) ({ cls := "Lullabygate", name := "ways", desc := "(I)[I" } : Jvm.MethodName)) ∈ lw_all := lw_g (lw_at lw_m3 3 rfl) rfl
theorem q563 : (Jvm.Cond.privateMethod ({ cls := "Lullabygate", name := "ways", desc := "(I)[I" } : Jvm.MethodName)) ∈ lw_tbl := lw_at lw_m3 4 rfl
theorem q564 : (Jvm.Cond.instanceMethod ({ cls := "Lullabygate", name := "ways", desc := "(I)[I" } : Jvm.MethodName)) ∈ lw_all := lw_g (lw_at lw_m3 5 rfl) rfl
theorem q565 : (Jvm.Cond.code ({ cls := "Lullabygate", name := "ways", desc := "(I)[I" } : Jvm.MethodName) prog_1_method_44_code (6 : Nat) (Option.some (Jvm.ClassFile.FieldType.array Jvm.ClassFile.FieldType.int))) ∈ lw_all := lw_g (lw_at lw_m3 6 rfl) rfl
theorem q566 : (Jvm.Cond.methodLink "Lullabygate" (377 : Nat) ({ cls := "Lullabygate", name := "go", desc := "([IIII)V" } : Jvm.MethodName)) ∈ lw_all := lw_g (lw_at lw_m3 7 rfl) rfl
theorem q567 : (Jvm.Cond.static ({ cls := "Lullabygate", name := "go", desc := "([IIII)V" } : Jvm.MethodName)) ∈ lw_all := lw_g (lw_at lw_m3 8 rfl) rfl
theorem q568 : (Jvm.Cond.code ({ cls := "Lullabygate", name := "go", desc := "([IIII)V" } : Jvm.MethodName) prog_1_method_45_code (4 : Nat) (Option.none : Option Jvm.ClassFile.FieldType)) ∈ lw_all := lw_g (lw_at lw_m3 9 rfl) rfl
theorem q569 : (Jvm.Cond.methodLink "Lullabygate" (409 : Nat) ({ cls := "Lullabygate", name := "planNow", desc := "(II)I" } : Jvm.MethodName)) ∈ lw_all := lw_g (lw_at lw_m3 10 rfl) rfl
theorem q570 : (Jvm.Cond.privateMethod ({ cls := "Lullabygate", name := "planNow", desc := "(II)I" } : Jvm.MethodName)) ∈ lw_tbl := lw_at lw_m3 11 rfl
theorem q571 : (Jvm.Cond.instanceMethod ({ cls := "Lullabygate", name := "planNow", desc := "(II)I" } : Jvm.MethodName)) ∈ lw_all := lw_g (lw_at lw_m3 12 rfl) rfl
theorem q572 : (Jvm.Cond.code ({ cls := "Lullabygate", name := "planNow", desc := "(II)I" } : Jvm.MethodName) prog_1_method_52_code (5 : Nat) (Option.some Jvm.ClassFile.FieldType.int)) ∈ lw_all := lw_g (lw_at lw_m3 13 rfl) rfl
theorem q573 : (Jvm.Cond.methodLink "Lullabygate" (401 : Nat) ({ cls := "Lullabygate", name := "catches", desc := "()[[I" } : Jvm.MethodName)) ∈ lw_all := lw_g (lw_at lw_m3 14 rfl) rfl
theorem q574 : (Jvm.Cond.privateMethod ({ cls := "Lullabygate", name := "catches", desc := "()[[I" } : Jvm.MethodName)) ∈ lw_tbl := lw_at lw_m3 15 rfl
theorem q575 : (Jvm.Cond.instanceMethod ({ cls := "Lullabygate", name := "catches", desc := "()[[I" } : Jvm.MethodName)) ∈ lw_all := lw_g (lw_at lw_m3 16 rfl) rfl
theorem q576 : (Jvm.Cond.code ({ cls := "Lullabygate", name := "catches", desc := "()[[I" } : Jvm.MethodName) prog_1_method_48_code (7 : Nat) (Option.some (Jvm.ClassFile.FieldType.array (Jvm.ClassFile.FieldType.array Jvm.ClassFile.FieldType.int)))) ∈ lw_all := lw_g (lw_at lw_m3 17 rfl) rfl
theorem q577 : (Jvm.Cond.classLink "Lullabygate" (384 : Nat) "[[I") ∈ lw_all := lw_g (lw_at lw_m3 18 rfl) rfl
theorem q579 : (Jvm.Cond.methodLink "Lullabygate" (390 : Nat) ({ cls := "java/lang/Math", name := "max", desc := "(II)I" } : Jvm.MethodName)) ∈ lw_all := lw_g (lw_at lw_m3 20 rfl) rfl
theorem q580 : (Jvm.Cond.methodLink "Lullabygate" (393 : Nat) ({ cls := "Lullabygate", name := "leastSum", desc := "([II)I" } : Jvm.MethodName)) ∈ lw_all := lw_g (lw_at lw_m3 21 rfl) rfl
theorem q581 : (Jvm.Cond.static ({ cls := "Lullabygate", name := "leastSum", desc := "([II)I" } : Jvm.MethodName)) ∈ lw_all := lw_g (lw_at lw_m3 22 rfl) rfl
theorem q582 : (Jvm.Cond.code ({ cls := "Lullabygate", name := "leastSum", desc := "([II)I" } : Jvm.MethodName) prog_1_method_49_code (3 : Nat) (Option.some Jvm.ClassFile.FieldType.int)) ∈ lw_all := lw_g (lw_at lw_m3 23 rfl) rfl
theorem q583 : (Jvm.Cond.methodLink "Lullabygate" (405 : Nat) ({ cls := "Lullabygate", name := "planned", desc := "([[III)I" } : Jvm.MethodName)) ∈ lw_all := lw_g (lw_at lw_m3 24 rfl) rfl
theorem q584 : (Jvm.Cond.privateMethod ({ cls := "Lullabygate", name := "planned", desc := "([[III)I" } : Jvm.MethodName)) ∈ lw_tbl := lw_at lw_m3 25 rfl
theorem q585 : (Jvm.Cond.instanceMethod ({ cls := "Lullabygate", name := "planned", desc := "([[III)I" } : Jvm.MethodName)) ∈ lw_all := lw_g (lw_at lw_m3 26 rfl) rfl
theorem q586 : (Jvm.Cond.code ({ cls := "Lullabygate", name := "planned", desc := "([[III)I" } : Jvm.MethodName) prog_1_method_50_code (8 : Nat) (Option.some Jvm.ClassFile.FieldType.int)) ∈ lw_all := lw_g (lw_at lw_m3 27 rfl) rfl
theorem q587 : (Jvm.Cond.methodLink "Lullabygate" (397 : Nat) ({ cls := "Lullabygate", name := "oddsOf", desc := "([[IIII)I" } : Jvm.MethodName)) ∈ lw_all := lw_g (lw_at lw_m3 28 rfl) rfl
theorem q588 : (Jvm.Cond.privateMethod ({ cls := "Lullabygate", name := "oddsOf", desc := "([[IIII)I" } : Jvm.MethodName)) ∈ lw_tbl := lw_at lw_m3 29 rfl
theorem q589 : (Jvm.Cond.instanceMethod ({ cls := "Lullabygate", name := "oddsOf", desc := "([[IIII)I" } : Jvm.MethodName)) ∈ lw_all := lw_g (lw_at lw_m3 30 rfl) rfl
theorem q590 : (Jvm.Cond.code ({ cls := "Lullabygate", name := "oddsOf", desc := "([[IIII)I" } : Jvm.MethodName) prog_1_method_51_code (7 : Nat) (Option.some Jvm.ClassFile.FieldType.int)) ∈ lw_all := lw_g (lw_at lw_m3 31 rfl) rfl
theorem q687 : (Jvm.Cond.instanceMethod ({ cls := "Lullabygate", name := "land", desc := "(III)I" } : Jvm.MethodName)) ∈ lw_all := lw_g (lw_at lw_m3 128 rfl) rfl
theorem q688 : (Jvm.Cond.selects "Lullabygate" ({ cls := "Lullabygate", name := "land", desc := "(III)I" } : Jvm.MethodName) ({ cls := "Lullabygate", name := "land", desc := "(III)I" } : Jvm.MethodName)) ∈ lw_all := lw_g (lw_at lw_m3 129 rfl) rfl
theorem q689 : (Jvm.Cond.code ({ cls := "Lullabygate", name := "land", desc := "(III)I" } : Jvm.MethodName) prog_1_method_11_code (6 : Nat) (Option.some Jvm.ClassFile.FieldType.int)) ∈ lw_all := lw_g (lw_at lw_m3 130 rfl) rfl
theorem q690 : (Jvm.Cond.methodLink "Lullabygate" (75 : Nat) ({ cls := "Lullabygate", name := "landAt", desc := "(I)LLullabygate$Land;" } : Jvm.MethodName)) ∈ lw_all := lw_g (lw_at lw_m3 131 rfl) rfl
theorem q691 : (Jvm.Cond.privateMethod ({ cls := "Lullabygate", name := "landAt", desc := "(I)LLullabygate$Land;" } : Jvm.MethodName)) ∈ lw_tbl := lw_at lw_m3 132 rfl
theorem q692 : (Jvm.Cond.instanceMethod ({ cls := "Lullabygate", name := "landAt", desc := "(I)LLullabygate$Land;" } : Jvm.MethodName)) ∈ lw_all := lw_g (lw_at lw_m3 133 rfl) rfl
theorem q693 : (Jvm.Cond.code ({ cls := "Lullabygate", name := "landAt", desc := "(I)LLullabygate$Land;" } : Jvm.MethodName) prog_1_method_7_code (2 : Nat) (Option.some (Jvm.ClassFile.FieldType.object "Lullabygate$Land"))) ∈ lw_all := lw_g (lw_at lw_m3 134 rfl) rfl
theorem q694 : (Jvm.Cond.methodLink "Lullabygate" (57 : Nat) ({ cls := "Lullabygate", name := "checkPlace", desc := "(II)V" } : Jvm.MethodName)) ∈ lw_all := lw_g (lw_at lw_m3 135 rfl) rfl
theorem q695 : (Jvm.Cond.static ({ cls := "Lullabygate", name := "checkPlace", desc := "(II)V" } : Jvm.MethodName)) ∈ lw_all := lw_g (lw_at lw_m3 136 rfl) rfl
theorem q696 : (Jvm.Cond.code ({ cls := "Lullabygate", name := "checkPlace", desc := "(II)V" } : Jvm.MethodName) prog_1_method_6_code (2 : Nat) (Option.none : Option Jvm.ClassFile.FieldType)) ∈ lw_all := lw_g (lw_at lw_m3 137 rfl) rfl
theorem q697 : (Jvm.Cond.classLink "Lullabygate" (54 : Nat) "java/lang/IndexOutOfBoundsException") ∈ lw_all := lw_g (lw_at lw_m3 138 rfl) rfl
theorem q706 : (Jvm.Cond.methodLink "Lullabygate" (56 : Nat) ({ cls := "java/lang/IndexOutOfBoundsException", name := "<init>", desc := "()V" } : Jvm.MethodName)) ∈ lw_all := lw_g (lw_at lw_m3 147 rfl) rfl
theorem q718 : (Jvm.Cond.methodLink "Lullabygate" (79 : Nat) ({ cls := "Lullabygate", name := "mustBeIn", desc := "(III)V" } : Jvm.MethodName)) ∈ lw_all := lw_g (lw_at lw_m3 159 rfl) rfl
theorem q719 : (Jvm.Cond.static ({ cls := "Lullabygate", name := "mustBeIn", desc := "(III)V" } : Jvm.MethodName)) ∈ lw_all := lw_g (lw_at lw_m3 160 rfl) rfl
theorem q720 : (Jvm.Cond.code ({ cls := "Lullabygate", name := "mustBeIn", desc := "(III)V" } : Jvm.MethodName) prog_1_method_4_code (3 : Nat) (Option.none : Option Jvm.ClassFile.FieldType)) ∈ lw_all := lw_g (lw_at lw_m3 161 rfl) rfl
theorem q721 : (Jvm.Cond.methodLink "Lullabygate" (47 : Nat) ({ cls := "Lullabygate", name := "must", desc := "(Z)V" } : Jvm.MethodName)) ∈ lw_all := lw_g (lw_at lw_m3 162 rfl) rfl
theorem q722 : (Jvm.Cond.static ({ cls := "Lullabygate", name := "must", desc := "(Z)V" } : Jvm.MethodName)) ∈ lw_all := lw_g (lw_at lw_m3 163 rfl) rfl
theorem q723 : (Jvm.Cond.code ({ cls := "Lullabygate", name := "must", desc := "(Z)V" } : Jvm.MethodName) prog_1_method_3_code (1 : Nat) (Option.none : Option Jvm.ClassFile.FieldType)) ∈ lw_all := lw_g (lw_at lw_m3 164 rfl) rfl
theorem q724 : (Jvm.Cond.classLink "Lullabygate" (44 : Nat) "java/lang/IllegalArgumentException") ∈ lw_all := lw_g (lw_at lw_m3 165 rfl) rfl
theorem q733 : (Jvm.Cond.methodLink "Lullabygate" (46 : Nat) ({ cls := "java/lang/IllegalArgumentException", name := "<init>", desc := "()V" } : Jvm.MethodName)) ∈ lw_all := lw_g (lw_at lw_m3 174 rfl) rfl
theorem q744 : (Jvm.Cond.instanceMethod ({ cls := "Lullabygate", name := "trade", desc := "(III)I" } : Jvm.MethodName)) ∈ lw_all := lw_g (lw_at lw_m3 185 rfl) rfl
theorem q745 : (Jvm.Cond.selects "Lullabygate" ({ cls := "Lullabygate", name := "trade", desc := "(III)I" } : Jvm.MethodName) ({ cls := "Lullabygate", name := "trade", desc := "(III)I" } : Jvm.MethodName)) ∈ lw_all := lw_g (lw_at lw_m3 186 rfl) rfl
theorem q746 : (Jvm.Cond.code ({ cls := "Lullabygate", name := "trade", desc := "(III)I" } : Jvm.MethodName) prog_1_method_12_code (6 : Nat) (Option.some Jvm.ClassFile.FieldType.int)) ∈ lw_all := lw_g (lw_at lw_m3 187 rfl) rfl
theorem q747 : (Jvm.Cond.methodLink "Lullabygate" (93 : Nat) ({ cls := "Lullabygate", name := "checkState", desc := "(Z)V" } : Jvm.MethodName)) ∈ lw_all := lw_g (lw_at lw_m3 188 rfl) rfl
theorem q748 : (Jvm.Cond.static ({ cls := "Lullabygate", name := "checkState", desc := "(Z)V" } : Jvm.MethodName)) ∈ lw_all := lw_g (lw_at lw_m3 189 rfl) rfl
theorem q749 : (Jvm.Cond.code ({ cls := "Lullabygate", name := "checkState", desc := "(Z)V" } : Jvm.MethodName) prog_1_method_5_code (1 : Nat) (Option.none : Option Jvm.ClassFile.FieldType)) ∈ lw_all := lw_g (lw_at lw_m3 190 rfl) rfl
theorem q750 : (Jvm.Cond.classLink "Lullabygate" (51 : Nat) "java/lang/IllegalStateException") ∈ lw_all := lw_g (lw_at lw_m3 191 rfl) rfl
theorem q759 : (Jvm.Cond.methodLink "Lullabygate" (53 : Nat) ({ cls := "java/lang/IllegalStateException", name := "<init>", desc := "()V" } : Jvm.MethodName)) ∈ lw_all := lw_g (lw_at lw_m3 200 rfl) rfl
theorem q769 : (Jvm.Cond.instanceMethod ({ cls := "Lullabygate", name := "gate", desc := "(IIII)I" } : Jvm.MethodName)) ∈ lw_all := lw_g (lw_at lw_m3 210 rfl) rfl
theorem q770 : (Jvm.Cond.selects "Lullabygate" ({ cls := "Lullabygate", name := "gate", desc := "(IIII)I" } : Jvm.MethodName) ({ cls := "Lullabygate", name := "gate", desc := "(IIII)I" } : Jvm.MethodName)) ∈ lw_all := lw_g (lw_at lw_m3 211 rfl) rfl
theorem q771 : (Jvm.Cond.code ({ cls := "Lullabygate", name := "gate", desc := "(IIII)I" } : Jvm.MethodName) prog_1_method_13_code (5 : Nat) (Option.some Jvm.ClassFile.FieldType.int)) ∈ lw_all := lw_g (lw_at lw_m3 212 rfl) rfl
theorem q773 : (Jvm.Cond.methodLink "Lullabygate" (96 : Nat) ({ cls := "Lullabygate$Gate", name := "<init>", desc := "(IIII)V" } : Jvm.MethodName)) ∈ lw_all := lw_g (lw_at lw_m3 214 rfl) rfl
theorem q780 : (Jvm.Cond.fieldLinkNest "Lullabygate" (371 : Nat) "Lullabygate$Gate" "one" "I" "Lullabygate") ∈ lw_tbl := lw_at lw_m3 221 rfl
theorem q782 : (Jvm.Cond.fieldLinkNest "Lullabygate" (374 : Nat) "Lullabygate$Gate" "other" "I" "Lullabygate") ∈ lw_tbl := lw_at lw_m3 223 rfl
theorem q786 : (Jvm.Cond.fieldLinkNest "Lullabygate" (103 : Nat) "Lullabygate$Gate" "odds" "I" "Lullabygate") ∈ lw_tbl := lw_at lw_m3 227 rfl
theorem q788 : (Jvm.Cond.fieldLinkNest "Lullabygate" (106 : Nat) "Lullabygate$Gate" "watch" "I" "Lullabygate") ∈ lw_tbl := lw_at lw_m3 229 rfl
theorem q790 : (Jvm.Cond.fieldLinkNest "Lullabygate" (158 : Nat) "Lullabygate$Gate" "revoked" "[Z" "Lullabygate") ∈ lw_tbl := lw_at lw_m3 231 rfl
theorem q792 : (Jvm.Cond.fieldLinkNest "Lullabygate" (209 : Nat) "Lullabygate$Gate" "queue" "Ljava/util/List;" "Lullabygate") ∈ lw_tbl := lw_at lw_m3 233 rfl
theorem q815 : (Jvm.Cond.instanceMethod ({ cls := "Lullabygate", name := "odds", desc := "(II)I" } : Jvm.MethodName)) ∈ lw_all := lw_g (lw_at lw_m4 16 rfl) rfl
theorem q816 : (Jvm.Cond.selects "Lullabygate" ({ cls := "Lullabygate", name := "odds", desc := "(II)I" } : Jvm.MethodName) ({ cls := "Lullabygate", name := "odds", desc := "(II)I" } : Jvm.MethodName)) ∈ lw_all := lw_g (lw_at lw_m4 17 rfl) rfl
theorem q817 : (Jvm.Cond.code ({ cls := "Lullabygate", name := "odds", desc := "(II)I" } : Jvm.MethodName) prog_1_method_14_code (5 : Nat) (Option.some Jvm.ClassFile.FieldType.int)) ∈ lw_all := lw_g (lw_at lw_m4 18 rfl) rfl
theorem q818 : (Jvm.Cond.methodLink "Lullabygate" (99 : Nat) ({ cls := "Lullabygate", name := "gateAt", desc := "(I)LLullabygate$Gate;" } : Jvm.MethodName)) ∈ lw_all := lw_g (lw_at lw_m4 19 rfl) rfl
theorem q819 : (Jvm.Cond.privateMethod ({ cls := "Lullabygate", name := "gateAt", desc := "(I)LLullabygate$Gate;" } : Jvm.MethodName)) ∈ lw_tbl := lw_at lw_m4 20 rfl
theorem q820 : (Jvm.Cond.instanceMethod ({ cls := "Lullabygate", name := "gateAt", desc := "(I)LLullabygate$Gate;" } : Jvm.MethodName)) ∈ lw_all := lw_g (lw_at lw_m4 21 rfl) rfl
theorem q821 : (Jvm.Cond.code ({ cls := "Lullabygate", name := "gateAt", desc := "(I)LLullabygate$Gate;" } : Jvm.MethodName) prog_1_method_8_code (2 : Nat) (Option.some (Jvm.ClassFile.FieldType.object "Lullabygate$Gate"))) ∈ lw_all := lw_g (lw_at lw_m4 22 rfl) rfl
theorem q826 : (Jvm.Cond.instanceMethod ({ cls := "Lullabygate", name := "relieve", desc := "(I)I" } : Jvm.MethodName)) ∈ lw_all := lw_g (lw_at lw_m4 27 rfl) rfl
theorem q827 : (Jvm.Cond.selects "Lullabygate" ({ cls := "Lullabygate", name := "relieve", desc := "(I)I" } : Jvm.MethodName) ({ cls := "Lullabygate", name := "relieve", desc := "(I)I" } : Jvm.MethodName)) ∈ lw_all := lw_g (lw_at lw_m4 28 rfl) rfl
theorem q828 : (Jvm.Cond.code ({ cls := "Lullabygate", name := "relieve", desc := "(I)I" } : Jvm.MethodName) prog_1_method_15_code (4 : Nat) (Option.some Jvm.ClassFile.FieldType.int)) ∈ lw_all := lw_g (lw_at lw_m4 29 rfl) rfl
theorem q833 : (Jvm.Cond.instanceMethod ({ cls := "Lullabygate", name := "sleeper", desc := "(IZI)I" } : Jvm.MethodName)) ∈ lw_all := lw_g (lw_at lw_m4 34 rfl) rfl
theorem q834 : (Jvm.Cond.selects "Lullabygate" ({ cls := "Lullabygate", name := "sleeper", desc := "(IZI)I" } : Jvm.MethodName) ({ cls := "Lullabygate", name := "sleeper", desc := "(IZI)I" } : Jvm.MethodName)) ∈ lw_all := lw_g (lw_at lw_m4 35 rfl) rfl
theorem q835 : (Jvm.Cond.code ({ cls := "Lullabygate", name := "sleeper", desc := "(IZI)I" } : Jvm.MethodName) prog_1_method_16_code (4 : Nat) (Option.some Jvm.ClassFile.FieldType.int)) ∈ lw_all := lw_g (lw_at lw_m4 36 rfl) rfl
theorem q837 : (Jvm.Cond.methodLink "Lullabygate" (109 : Nat) ({ cls := "Lullabygate$Sleeper", name := "<init>", desc := "(IIZI)V" } : Jvm.MethodName)) ∈ lw_all := lw_g (lw_at lw_m4 38 rfl) rfl
theorem q849 : (Jvm.Cond.fieldLinkNest "Lullabygate" (218 : Nat) "Lullabygate$Sleeper" "number" "I" "Lullabygate") ∈ lw_tbl := lw_at lw_m4 50 rfl
theorem q852 : (Jvm.Cond.fieldLinkNest "Lullabygate" (466 : Nat) "Lullabygate$Sleeper" "isBaby" "Z" "Lullabygate") ∈ lw_tbl := lw_at lw_m4 53 rfl
theorem q854 : (Jvm.Cond.fieldLinkNest "Lullabygate" (134 : Nat) "Lullabygate$Sleeper" "land" "I" "Lullabygate") ∈ lw_tbl := lw_at lw_m4 55 rfl
theorem q856 : (Jvm.Cond.fieldLinkNest "Lullabygate" (309 : Nat) "Lullabygate$Sleeper" "patience" "I" "Lullabygate") ∈ lw_tbl := lw_at lw_m4 57 rfl
theorem q858 : (Jvm.Cond.fieldLinkNest "Lullabygate" (195 : Nat) "Lullabygate$Sleeper" "rest" "LLullabygate$Rest;" "Lullabygate") ∈ lw_tbl := lw_at lw_m4 59 rfl
theorem q860 : (Jvm.Cond.fieldLinkNest "Lullabygate" (198 : Nat) "Lullabygate$Sleeper" "gate" "I" "Lullabygate") ∈ lw_tbl := lw_at lw_m4 61 rfl
theorem q862 : (Jvm.Cond.fieldLinkNest "Lullabygate" (199 : Nat) "Lullabygate$Sleeper" "declares" "I" "Lullabygate") ∈ lw_tbl := lw_at lw_m4 63 rfl
theorem q864 : (Jvm.Cond.fieldLinkNest "Lullabygate" (150 : Nat) "Lullabygate$Sleeper" "pass" "Ljava/util/Optional;" "Lullabygate") ∈ lw_tbl := lw_at lw_m4 65 rfl
theorem q886 : (Jvm.Cond.instanceMethod ({ cls := "Lullabygate", name := "part", desc := "(IIII)I" } : Jvm.MethodName)) ∈ lw_all := lw_g (lw_at lw_m4 87 rfl) rfl
theorem q887 : (Jvm.Cond.selects "Lullabygate" ({ cls := "Lullabygate", name := "part", desc := "(IIII)I" } : Jvm.MethodName) ({ cls := "Lullabygate", name := "part", desc := "(IIII)I" } : Jvm.MethodName)) ∈ lw_all := lw_g (lw_at lw_m4 88 rfl) rfl
theorem q888 : (Jvm.Cond.code ({ cls := "Lullabygate", name := "part", desc := "(IIII)I" } : Jvm.MethodName) prog_1_method_17_code (6 : Nat) (Option.some Jvm.ClassFile.FieldType.int)) ∈ lw_all := lw_g (lw_at lw_m4 89 rfl) rfl
theorem q889 : (Jvm.Cond.methodLink "Lullabygate" (112 : Nat) ({ cls := "Lullabygate", name := "sleeperAt", desc := "(I)LLullabygate$Sleeper;" } : Jvm.MethodName)) ∈ lw_all := lw_g (lw_at lw_m4 90 rfl) rfl
theorem q890 : (Jvm.Cond.privateMethod ({ cls := "Lullabygate", name := "sleeperAt", desc := "(I)LLullabygate$Sleeper;" } : Jvm.MethodName)) ∈ lw_tbl := lw_at lw_m4 91 rfl
theorem q891 : (Jvm.Cond.instanceMethod ({ cls := "Lullabygate", name := "sleeperAt", desc := "(I)LLullabygate$Sleeper;" } : Jvm.MethodName)) ∈ lw_all := lw_g (lw_at lw_m4 92 rfl) rfl
theorem q892 : (Jvm.Cond.code ({ cls := "Lullabygate", name := "sleeperAt", desc := "(I)LLullabygate$Sleeper;" } : Jvm.MethodName) prog_1_method_9_code (2 : Nat) (Option.some (Jvm.ClassFile.FieldType.object "Lullabygate$Sleeper"))) ∈ lw_all := lw_g (lw_at lw_m4 93 rfl) rfl
theorem q893 : (Jvm.Cond.fieldLink "Lullabygate" (116 : Nat) "Lullabygate$Rest" "RESTING" "LLullabygate$Rest;") ∈ lw_all := lw_g (lw_at lw_m4 94 rfl) rfl
theorem q895 : (Jvm.Cond.methodLink "Lullabygate" (126 : Nat) ({ cls := "Lullabygate$Part", name := "<init>", desc := "(IIII)V" } : Jvm.MethodName)) ∈ lw_all := lw_g (lw_at lw_m4 96 rfl) rfl
theorem q902 : (Jvm.Cond.fieldLinkNest "Lullabygate" (226 : Nat) "Lullabygate$Part" "dream" "I" "Lullabygate") ∈ lw_tbl := lw_at lw_m4 103 rfl
theorem q904 : (Jvm.Cond.fieldLinkNest "Lullabygate" (251 : Nat) "Lullabygate$Part" "worth" "I" "Lullabygate") ∈ lw_tbl := lw_at lw_m4 105 rfl
theorem q906 : (Jvm.Cond.fieldLinkNest "Lullabygate" (445 : Nat) "Lullabygate$Part" "dread" "I" "Lullabygate") ∈ lw_tbl := lw_at lw_m4 107 rfl
theorem q908 : (Jvm.Cond.fieldLinkNest "Lullabygate" (131 : Nat) "Lullabygate$Part" "head" "I" "Lullabygate") ∈ lw_tbl := lw_at lw_m4 109 rfl
theorem q910 : (Jvm.Cond.fieldLinkNest "Lullabygate" (340 : Nat) "Lullabygate$Part" "store" "I" "Lullabygate") ∈ lw_tbl := lw_at lw_m4 111 rfl
theorem q912 : (Jvm.Cond.fieldLinkNest "Lullabygate" (257 : Nat) "Lullabygate$Part" "fate" "LLullabygate$Fate;" "Lullabygate") ∈ lw_tbl := lw_at lw_m4 113 rfl
theorem q914 : (Jvm.Cond.fieldLinkNest "Lullabygate" (221 : Nat) "Lullabygate$Part" "by" "I" "Lullabygate") ∈ lw_tbl := lw_at lw_m4 115 rfl
theorem q934 : (Jvm.Cond.instanceMethod ({ cls := "Lullabygate", name := "give", desc := "(II)I" } : Jvm.MethodName)) ∈ lw_all := lw_g (lw_at lw_m4 135 rfl) rfl
theorem q935 : (Jvm.Cond.selects "Lullabygate" ({ cls := "Lullabygate", name := "give", desc := "(II)I" } : Jvm.MethodName) ({ cls := "Lullabygate", name := "give", desc := "(II)I" } : Jvm.MethodName)) ∈ lw_all := lw_g (lw_at lw_m4 136 rfl) rfl
theorem q936 : (Jvm.Cond.code ({ cls := "Lullabygate", name := "give", desc := "(II)I" } : Jvm.MethodName) prog_1_method_18_code (7 : Nat) (Option.some Jvm.ClassFile.FieldType.int)) ∈ lw_all := lw_g (lw_at lw_m4 137 rfl) rfl
theorem q937 : (Jvm.Cond.methodLink "Lullabygate" (127 : Nat) ({ cls := "Lullabygate", name := "partAt", desc := "(I)LLullabygate$Part;" } : Jvm.MethodName)) ∈ lw_all := lw_g (lw_at lw_m4 138 rfl) rfl
theorem q938 : (Jvm.Cond.privateMethod ({ cls := "Lullabygate", name := "partAt", desc := "(I)LLullabygate$Part;" } : Jvm.MethodName)) ∈ lw_tbl := lw_at lw_m4 139 rfl
theorem q939 : (Jvm.Cond.instanceMethod ({ cls := "Lullabygate", name := "partAt", desc := "(I)LLullabygate$Part;" } : Jvm.MethodName)) ∈ lw_all := lw_g (lw_at lw_m4 140 rfl) rfl
theorem q940 : (Jvm.Cond.code ({ cls := "Lullabygate", name := "partAt", desc := "(I)LLullabygate$Part;" } : Jvm.MethodName) prog_1_method_10_code (2 : Nat) (Option.some (Jvm.ClassFile.FieldType.object "Lullabygate$Part"))) ∈ lw_all := lw_g (lw_at lw_m4 141 rfl) rfl
theorem q945 : (Jvm.Cond.instanceMethod ({ cls := "Lullabygate", name := "sing", desc := "(IIII)I" } : Jvm.MethodName)) ∈ lw_all := lw_g (lw_at lw_m4 146 rfl) rfl
theorem q946 : (Jvm.Cond.selects "Lullabygate" ({ cls := "Lullabygate", name := "sing", desc := "(IIII)I" } : Jvm.MethodName) ({ cls := "Lullabygate", name := "sing", desc := "(IIII)I" } : Jvm.MethodName)) ∈ lw_all := lw_g (lw_at lw_m4 147 rfl) rfl
theorem q947 : (Jvm.Cond.code ({ cls := "Lullabygate", name := "sing", desc := "(IIII)I" } : Jvm.MethodName) prog_1_method_19_code (6 : Nat) (Option.some Jvm.ClassFile.FieldType.int)) ∈ lw_all := lw_g (lw_at lw_m4 148 rfl) rfl
theorem q949 : (Jvm.Cond.methodLink "Lullabygate" (142 : Nat) ({ cls := "Lullabygate$Pass", name := "<init>", desc := "(III)V" } : Jvm.MethodName)) ∈ lw_all := lw_g (lw_at lw_m4 150 rfl) rfl
theorem q954 : (Jvm.Cond.fieldLinkNest "Lullabygate" (181 : Nat) "Lullabygate$Pass" "gate" "I" "Lullabygate") ∈ lw_tbl := lw_at lw_m4 155 rfl
theorem q956 : (Jvm.Cond.fieldLinkNest "Lullabygate" (184 : Nat) "Lullabygate$Pass" "night" "I" "Lullabygate") ∈ lw_tbl := lw_at lw_m4 157 rfl
theorem q958 : (Jvm.Cond.fieldLinkNest "Lullabygate" (169 : Nat) "Lullabygate$Pass" "verse" "I" "Lullabygate") ∈ lw_tbl := lw_at lw_m4 159 rfl
theorem q966 : (Jvm.Cond.methodLink "Lullabygate" (144 : Nat) ({ cls := "java/util/Optional", name := "of", desc := "(Ljava/lang/Object;)Ljava/util/Optional;" } : Jvm.MethodName)) ∈ lw_all := lw_g (lw_at lw_m4 167 rfl) rfl
theorem q986 : (Jvm.Cond.instanceMethod ({ cls := "Lullabygate", name := "revoke", desc := "(II)Z" } : Jvm.MethodName)) ∈ lw_all := lw_g (lw_at lw_m4 187 rfl) rfl
theorem q987 : (Jvm.Cond.selects "Lullabygate" ({ cls := "Lullabygate", name := "revoke", desc := "(II)Z" } : Jvm.MethodName) ({ cls := "Lullabygate", name := "revoke", desc := "(II)Z" } : Jvm.MethodName)) ∈ lw_all := lw_g (lw_at lw_m4 188 rfl) rfl
theorem q988 : (Jvm.Cond.code ({ cls := "Lullabygate", name := "revoke", desc := "(II)Z" } : Jvm.MethodName) prog_1_method_20_code (5 : Nat) (Option.some Jvm.ClassFile.FieldType.boolean)) ∈ lw_all := lw_g (lw_at lw_m4 189 rfl) rfl
theorem q993 : (Jvm.Cond.instanceMethod ({ cls := "Lullabygate", name := "join", desc := "(III)I" } : Jvm.MethodName)) ∈ lw_all := lw_g (lw_at lw_m4 194 rfl) rfl
theorem q994 : (Jvm.Cond.selects "Lullabygate" ({ cls := "Lullabygate", name := "join", desc := "(III)I" } : Jvm.MethodName) ({ cls := "Lullabygate", name := "join", desc := "(III)I" } : Jvm.MethodName)) ∈ lw_all := lw_g (lw_at lw_m4 195 rfl) rfl
theorem q995 : (Jvm.Cond.code ({ cls := "Lullabygate", name := "join", desc := "(III)I" } : Jvm.MethodName) prog_1_method_23_code (6 : Nat) (Option.some Jvm.ClassFile.FieldType.int)) ∈ lw_all := lw_g (lw_at lw_m4 196 rfl) rfl
theorem q996 : (Jvm.Cond.methodLink "Lullabygate" (202 : Nat) ({ cls := "Lullabygate$Gate", name := "enter", desc := "(LLullabygate$Sleeper;)I" } : Jvm.MethodName)) ∈ lw_all := lw_g (lw_at lw_m4 197 rfl) rfl
theorem q1021 : (Jvm.Cond.instanceMethod ({ cls := "Lullabygate", name := "leave", desc := "(I)I" } : Jvm.MethodName)) ∈ lw_all := lw_g (lw_at lw_m4 222 rfl) rfl
theorem q1022 : (Jvm.Cond.selects "Lullabygate" ({ cls := "Lullabygate", name := "leave", desc := "(I)I" } : Jvm.MethodName) ({ cls := "Lullabygate", name := "leave", desc := "(I)I" } : Jvm.MethodName)) ∈ lw_all := lw_g (lw_at lw_m4 223 rfl) rfl
theorem q1023 : (Jvm.Cond.code ({ cls := "Lullabygate", name := "leave", desc := "(I)I" } : Jvm.MethodName) prog_1_method_24_code (5 : Nat) (Option.some Jvm.ClassFile.FieldType.int)) ∈ lw_all := lw_g (lw_at lw_m4 224 rfl) rfl
theorem q1024 : (Jvm.Cond.interfaceEntry "Lullabygate" (212 : Nat)) ∈ lw_tbl := lw_at lw_m4 225 rfl
theorem q1025 : (Jvm.Cond.methodLink "Lullabygate" (212 : Nat) ({ cls := "java/util/List", name := "remove", desc := "(I)Ljava/lang/Object;" } : Jvm.MethodName)) ∈ lw_all := lw_g (lw_at lw_m4 226 rfl) rfl
theorem q1026 : (Jvm.Cond.methodLink "Lullabygate" (215 : Nat) ({ cls := "Lullabygate$Sleeper", name := "lie", desc := "()V" } : Jvm.MethodName)) ∈ lw_all := lw_g (lw_at lw_m4 227 rfl) rfl
theorem q1034 : (Jvm.Cond.instanceMethod ({ cls := "Lullabygate", name := "yawn", desc := "(I)I" } : Jvm.MethodName)) ∈ lw_all := lw_g (lw_at lw_m4 235 rfl) rfl
theorem q1035 : (Jvm.Cond.selects "Lullabygate" ({ cls := "Lullabygate", name := "yawn", desc := "(I)I" } : Jvm.MethodName) ({ cls := "Lullabygate", name := "yawn", desc := "(I)I" } : Jvm.MethodName)) ∈ lw_all := lw_g (lw_at lw_m4 236 rfl) rfl
theorem q1036 : (Jvm.Cond.code ({ cls := "Lullabygate", name := "yawn", desc := "(I)I" } : Jvm.MethodName) prog_1_method_33_code (6 : Nat) (Option.some Jvm.ClassFile.FieldType.int)) ∈ lw_all := lw_g (lw_at lw_m4 237 rfl) rfl
theorem q1037 : (Jvm.Cond.methodLink "Lullabygate" (332 : Nat) ({ cls := "Lullabygate", name := "cross", desc := "(LLullabygate$Sleeper;LLullabygate$Gate;I)I" } : Jvm.MethodName)) ∈ lw_all := lw_g (lw_at lw_m4 238 rfl) rfl
theorem q1038 : (Jvm.Cond.privateMethod ({ cls := "Lullabygate", name := "cross", desc := "(LLullabygate$Sleeper;LLullabygate$Gate;I)I" } : Jvm.MethodName)) ∈ lw_tbl := lw_at lw_m4 239 rfl
theorem q1039 : (Jvm.Cond.instanceMethod ({ cls := "Lullabygate", name := "cross", desc := "(LLullabygate$Sleeper;LLullabygate$Gate;I)I" } : Jvm.MethodName)) ∈ lw_all := lw_g (lw_at lw_m5 0 rfl) rfl
theorem q1040 : (Jvm.Cond.code ({ cls := "Lullabygate", name := "cross", desc := "(LLullabygate$Sleeper;LLullabygate$Gate;I)I" } : Jvm.MethodName) prog_1_method_30_code (8 : Nat) (Option.some Jvm.ClassFile.FieldType.int)) ∈ lw_all := lw_g (lw_at lw_m5 1 rfl) rfl
theorem q1041 : (Jvm.Cond.methodLink "Lullabygate" (291 : Nat) ({ cls := "Lullabygate$Row", name := "draw", desc := "(I)I" } : Jvm.MethodName)) ∈ lw_all := lw_g (lw_at lw_m5 2 rfl) rfl
theorem q1045 : (Jvm.Cond.methodLink "Lullabygate" (294 : Nat) ({ cls := "Lullabygate", name := "search", desc := "(LLullabygate$Sleeper;IIZ)I" } : Jvm.MethodName)) ∈ lw_all := lw_g (lw_at lw_m5 6 rfl) rfl
theorem q1046 : (Jvm.Cond.privateMethod ({ cls := "Lullabygate", name := "search", desc := "(LLullabygate$Sleeper;IIZ)I" } : Jvm.MethodName)) ∈ lw_tbl := lw_at lw_m5 7 rfl
theorem q1047 : (Jvm.Cond.instanceMethod ({ cls := "Lullabygate", name := "search", desc := "(LLullabygate$Sleeper;IIZ)I" } : Jvm.MethodName)) ∈ lw_all := lw_g (lw_at lw_m5 8 rfl) rfl
theorem q1048 : (Jvm.Cond.code ({ cls := "Lullabygate", name := "search", desc := "(LLullabygate$Sleeper;IIZ)I" } : Jvm.MethodName) prog_1_method_26_code (8 : Nat) (Option.some Jvm.ClassFile.FieldType.int)) ∈ lw_all := lw_g (lw_at lw_m5 9 rfl) rfl
theorem q1049 : (Jvm.Cond.methodLink "Lullabygate" (234 : Nat) ({ cls := "Lullabygate", name := "hide", desc := "(LLullabygate$Sleeper;LLullabygate$Part;)V" } : Jvm.MethodName)) ∈ lw_all := lw_g (lw_at lw_m5 10 rfl) rfl
theorem q1050 : (Jvm.Cond.privateMethod ({ cls := "Lullabygate", name := "hide", desc := "(LLullabygate$Sleeper;LLullabygate$Part;)V" } : Jvm.MethodName)) ∈ lw_tbl := lw_at lw_m5 11 rfl
theorem q1051 : (Jvm.Cond.instanceMethod ({ cls := "Lullabygate", name := "hide", desc := "(LLullabygate$Sleeper;LLullabygate$Part;)V" } : Jvm.MethodName)) ∈ lw_all := lw_g (lw_at lw_m5 12 rfl) rfl
theorem q1052 : (Jvm.Cond.code ({ cls := "Lullabygate", name := "hide", desc := "(LLullabygate$Sleeper;LLullabygate$Part;)V" } : Jvm.MethodName) prog_1_method_25_code (3 : Nat) (Option.none : Option Jvm.ClassFile.FieldType)) ∈ lw_all := lw_g (lw_at lw_m5 13 rfl) rfl
theorem q1054 : (Jvm.Cond.methodLink "Lullabygate" (229 : Nat) ({ cls := "Lullabygate$Hiding", name := "<init>", desc := "(III)V" } : Jvm.MethodName)) ∈ lw_all := lw_g (lw_at lw_m5 15 rfl) rfl
theorem q1059 : (Jvm.Cond.fieldLinkNest "Lullabygate" (357 : Nat) "Lullabygate$Hiding" "sleeper" "I" "Lullabygate") ∈ lw_tbl := lw_at lw_m5 20 rfl
theorem q1069 : (Jvm.Cond.fieldLink "Lullabygate" (238 : Nat) "Lullabygate$Fate" "CAUGHT" "LLullabygate$Fate;") ∈ lw_all := lw_g (lw_at lw_m5 30 rfl) rfl
theorem q1071 : (Jvm.Cond.methodLink "Lullabygate" (244 : Nat) ({ cls := "Lullabygate$Part", name := "keep", desc := "(ILLullabygate$Fate;)V" } : Jvm.MethodName)) ∈ lw_all := lw_g (lw_at lw_m5 32 rfl) rfl
theorem q1075 : (Jvm.Cond.fieldLink "Lullabygate" (254 : Nat) "Lullabygate$Fate" "SLIPPED" "LLullabygate$Fate;") ∈ lw_all := lw_g (lw_at lw_m5 36 rfl) rfl
theorem q1077 : (Jvm.Cond.methodLink "Lullabygate" (298 : Nat) ({ cls := "Lullabygate", name := "declare", desc := "(LLullabygate$Sleeper;II)V" } : Jvm.MethodName)) ∈ lw_all := lw_g (lw_at lw_m5 38 rfl) rfl
theorem q1078 : (Jvm.Cond.privateMethod ({ cls := "Lullabygate", name := "declare", desc := "(LLullabygate$Sleeper;II)V" } : Jvm.MethodName)) ∈ lw_tbl := lw_at lw_m5 39 rfl
theorem q1079 : (Jvm.Cond.instanceMethod ({ cls := "Lullabygate", name := "declare", desc := "(LLullabygate$Sleeper;II)V" } : Jvm.MethodName)) ∈ lw_all := lw_g (lw_at lw_m5 40 rfl) rfl
theorem q1080 : (Jvm.Cond.code ({ cls := "Lullabygate", name := "declare", desc := "(LLullabygate$Sleeper;II)V" } : Jvm.MethodName) prog_1_method_29_code (9 : Nat) (Option.none : Option Jvm.ClassFile.FieldType)) ∈ lw_all := lw_g (lw_at lw_m5 41 rfl) rfl
theorem q1081 : (Jvm.Cond.fieldLink "Lullabygate" (273 : Nat) "Lullabygate$Fate" "EXEMPT" "LLullabygate$Fate;") ∈ lw_all := lw_g (lw_at lw_m5 42 rfl) rfl
theorem q1083 : (Jvm.Cond.fieldLink "Lullabygate" (276 : Nat) "Lullabygate$Fate" "DECLARED" "LLullabygate$Fate;") ∈ lw_all := lw_g (lw_at lw_m5 44 rfl) rfl
theorem q1085 : (Jvm.Cond.fieldLink "Lullabygate" (279 : Nat) "Lullabygate$Fate" "TURNED" "LLullabygate$Fate;") ∈ lw_all := lw_g (lw_at lw_m5 46 rfl) rfl
theorem q1087 : (Jvm.Cond.methodLink "Lullabygate" (302 : Nat) ({ cls := "java/util/Optional", name := "empty", desc := "()Ljava/util/Optional;" } : Jvm.MethodName)) ∈ lw_all := lw_g (lw_at lw_m5 48 rfl) rfl
theorem q1088 : (Jvm.Cond.methodLink "Lullabygate" (336 : Nat) ({ cls := "Lullabygate", name := "wear", desc := "(LLullabygate$Gate;)V" } : Jvm.MethodName)) ∈ lw_all := lw_g (lw_at lw_m5 49 rfl) rfl
theorem q1089 : (Jvm.Cond.privateMethod ({ cls := "Lullabygate", name := "wear", desc := "(LLullabygate$Gate;)V" } : Jvm.MethodName)) ∈ lw_tbl := lw_at lw_m5 50 rfl
theorem q1090 : (Jvm.Cond.instanceMethod ({ cls := "Lullabygate", name := "wear", desc := "(LLullabygate$Gate;)V" } : Jvm.MethodName)) ∈ lw_all := lw_g (lw_at lw_m5 51 rfl) rfl
theorem q1091 : (Jvm.Cond.code ({ cls := "Lullabygate", name := "wear", desc := "(LLullabygate$Gate;)V" } : Jvm.MethodName) prog_1_method_32_code (4 : Nat) (Option.none : Option Jvm.ClassFile.FieldType)) ∈ lw_all := lw_g (lw_at lw_m5 52 rfl) rfl
theorem q1092 : (Jvm.Cond.methodLink "Lullabygate" (312 : Nat) ({ cls := "Lullabygate", name := "wake", desc := "(LLullabygate$Sleeper;)V" } : Jvm.MethodName)) ∈ lw_all := lw_g (lw_at lw_m5 53 rfl) rfl
theorem q1093 : (Jvm.Cond.privateMethod ({ cls := "Lullabygate", name := "wake", desc := "(LLullabygate$Sleeper;)V" } : Jvm.MethodName)) ∈ lw_tbl := lw_at lw_m5 54 rfl
theorem q1094 : (Jvm.Cond.instanceMethod ({ cls := "Lullabygate", name := "wake", desc := "(LLullabygate$Sleeper;)V" } : Jvm.MethodName)) ∈ lw_all := lw_g (lw_at lw_m5 55 rfl) rfl
theorem q1095 : (Jvm.Cond.code ({ cls := "Lullabygate", name := "wake", desc := "(LLullabygate$Sleeper;)V" } : Jvm.MethodName) prog_1_method_31_code (4 : Nat) (Option.none : Option Jvm.ClassFile.FieldType)) ∈ lw_all := lw_g (lw_at lw_m5 56 rfl) rfl
theorem q1100 : (Jvm.Cond.instanceMethod ({ cls := "Lullabygate", name := "appeal", desc := "(I)Z" } : Jvm.MethodName)) ∈ lw_all := lw_g (lw_at lw_m5 61 rfl) rfl
theorem q1101 : (Jvm.Cond.selects "Lullabygate" ({ cls := "Lullabygate", name := "appeal", desc := "(I)Z" } : Jvm.MethodName) ({ cls := "Lullabygate", name := "appeal", desc := "(I)Z" } : Jvm.MethodName)) ∈ lw_all := lw_g (lw_at lw_m5 62 rfl) rfl
theorem q1102 : (Jvm.Cond.code ({ cls := "Lullabygate", name := "appeal", desc := "(I)Z" } : Jvm.MethodName) prog_1_method_34_code (5 : Nat) (Option.some Jvm.ClassFile.FieldType.boolean)) ∈ lw_all := lw_g (lw_at lw_m5 63 rfl) rfl
theorem q1107 : (Jvm.Cond.instanceMethod ({ cls := "Lullabygate", name := "pass", desc := "(I)I" } : Jvm.MethodName)) ∈ lw_all := lw_g (lw_at lw_m5 68 rfl) rfl
theorem q1108 : (Jvm.Cond.selects "Lullabygate" ({ cls := "Lullabygate", name := "pass", desc := "(I)I" } : Jvm.MethodName) ({ cls := "Lullabygate", name := "pass", desc := "(I)I" } : Jvm.MethodName)) ∈ lw_all := lw_g (lw_at lw_m5 69 rfl) rfl
theorem q1109 : (Jvm.Cond.code ({ cls := "Lullabygate", name := "pass", desc := "(I)I" } : Jvm.MethodName) prog_1_method_38_code (3 : Nat) (Option.some Jvm.ClassFile.FieldType.int)) ∈ lw_all := lw_g (lw_at lw_m5 70 rfl) rfl
theorem q1110 : (Jvm.Cond.methodLink "Lullabygate" (354 : Nat) ({ cls := "Lullabygate", name := "go", desc := "()V" } : Jvm.MethodName)) ∈ lw_all := lw_g (lw_at lw_m5 71 rfl) rfl
theorem q1111 : (Jvm.Cond.privateMethod ({ cls := "Lullabygate", name := "go", desc := "()V" } : Jvm.MethodName)) ∈ lw_tbl := lw_at lw_m5 72 rfl
theorem q1112 : (Jvm.Cond.instanceMethod ({ cls := "Lullabygate", name := "go", desc := "()V" } : Jvm.MethodName)) ∈ lw_all := lw_g (lw_at lw_m5 73 rfl) rfl
theorem q1113 : (Jvm.Cond.code ({ cls := "Lullabygate", name := "go", desc := "()V" } : Jvm.MethodName) prog_1_method_37_code (3 : Nat) (Option.none : Option Jvm.ClassFile.FieldType)) ∈ lw_all := lw_g (lw_at lw_m5 74 rfl) rfl
theorem q1114 : (Jvm.Cond.methodLink "Lullabygate" (348 : Nat) ({ cls := "Lullabygate", name := "dawn", desc := "()V" } : Jvm.MethodName)) ∈ lw_all := lw_g (lw_at lw_m5 75 rfl) rfl
theorem q1115 : (Jvm.Cond.privateMethod ({ cls := "Lullabygate", name := "dawn", desc := "()V" } : Jvm.MethodName)) ∈ lw_tbl := lw_at lw_m5 76 rfl
theorem q1116 : (Jvm.Cond.instanceMethod ({ cls := "Lullabygate", name := "dawn", desc := "()V" } : Jvm.MethodName)) ∈ lw_all := lw_g (lw_at lw_m5 77 rfl) rfl
theorem q1117 : (Jvm.Cond.code ({ cls := "Lullabygate", name := "dawn", desc := "()V" } : Jvm.MethodName) prog_1_method_36_code (4 : Nat) (Option.none : Option Jvm.ClassFile.FieldType)) ∈ lw_all := lw_g (lw_at lw_m5 78 rfl) rfl
theorem q1118 : (Jvm.Cond.methodLink "Lullabygate" (351 : Nat) ({ cls := "Lullabygate", name := "spread", desc := "()V" } : Jvm.MethodName)) ∈ lw_all := lw_g (lw_at lw_m5 79 rfl) rfl
theorem q1119 : (Jvm.Cond.privateMethod ({ cls := "Lullabygate", name := "spread", desc := "()V" } : Jvm.MethodName)) ∈ lw_tbl := lw_at lw_m5 80 rfl
theorem q1120 : (Jvm.Cond.instanceMethod ({ cls := "Lullabygate", name := "spread", desc := "()V" } : Jvm.MethodName)) ∈ lw_all := lw_g (lw_at lw_m5 81 rfl) rfl
theorem q1121 : (Jvm.Cond.code ({ cls := "Lullabygate", name := "spread", desc := "()V" } : Jvm.MethodName) prog_1_method_35_code (7 : Nat) (Option.none : Option Jvm.ClassFile.FieldType)) ∈ lw_all := lw_g (lw_at lw_m5 82 rfl) rfl
theorem q1122 : (Jvm.Cond.methodLink "Lullabygate" (343 : Nat) ({ cls := "Lullabygate$Gate", name := "isBeside", desc := "(LLullabygate$Gate;)Z" } : Jvm.MethodName)) ∈ lw_all := lw_g (lw_at lw_m5 83 rfl) rfl
theorem q1127 : (Jvm.Cond.classLink "Lullabygate" (347 : Nat) "[Z") ∈ lw_all := lw_g (lw_at lw_m5 88 rfl) rfl
theorem q1132 : (Jvm.Cond.instanceMethod ({ cls := "Lullabygate", name := "ofLand", desc := "(II)I" } : Jvm.MethodName)) ∈ lw_all := lw_g (lw_at lw_m5 93 rfl) rfl
theorem q1133 : (Jvm.Cond.selects "Lullabygate" ({ cls := "Lullabygate", name := "ofLand", desc := "(II)I" } : Jvm.MethodName) ({ cls := "Lullabygate", name := "ofLand", desc := "(II)I" } : Jvm.MethodName)) ∈ lw_all := lw_g (lw_at lw_m5 94 rfl) rfl
theorem q1134 : (Jvm.Cond.code ({ cls := "Lullabygate", name := "ofLand", desc := "(II)I" } : Jvm.MethodName) prog_1_method_59_code (3 : Nat) (Option.some Jvm.ClassFile.FieldType.int)) ∈ lw_all := lw_g (lw_at lw_m5 95 rfl) rfl
theorem q1139 : (Jvm.Cond.instanceMethod ({ cls := "Lullabygate", name := "ofGate", desc := "(II)I" } : Jvm.MethodName)) ∈ lw_all := lw_g (lw_at lw_m5 100 rfl) rfl
theorem q1140 : (Jvm.Cond.selects "Lullabygate" ({ cls := "Lullabygate", name := "ofGate", desc := "(II)I" } : Jvm.MethodName) ({ cls := "Lullabygate", name := "ofGate", desc := "(II)I" } : Jvm.MethodName)) ∈ lw_all := lw_g (lw_at lw_m5 101 rfl) rfl
theorem q1141 : (Jvm.Cond.code ({ cls := "Lullabygate", name := "ofGate", desc := "(II)I" } : Jvm.MethodName) prog_1_method_61_code (3 : Nat) (Option.some Jvm.ClassFile.FieldType.int)) ∈ lw_all := lw_g (lw_at lw_m5 102 rfl) rfl
theorem q1146 : (Jvm.Cond.instanceMethod ({ cls := "Lullabygate", name := "ofSleeper", desc := "(II)I" } : Jvm.MethodName)) ∈ lw_all := lw_g (lw_at lw_m5 107 rfl) rfl
theorem q1147 : (Jvm.Cond.selects "Lullabygate" ({ cls := "Lullabygate", name := "ofSleeper", desc := "(II)I" } : Jvm.MethodName) ({ cls := "Lullabygate", name := "ofSleeper", desc := "(II)I" } : Jvm.MethodName)) ∈ lw_all := lw_g (lw_at lw_m5 108 rfl) rfl
theorem q1148 : (Jvm.Cond.code ({ cls := "Lullabygate", name := "ofSleeper", desc := "(II)I" } : Jvm.MethodName) prog_1_method_63_code (3 : Nat) (Option.some Jvm.ClassFile.FieldType.int)) ∈ lw_all := lw_g (lw_at lw_m5 109 rfl) rfl
theorem q1153 : (Jvm.Cond.instanceMethod ({ cls := "Lullabygate", name := "ofPart", desc := "(II)I" } : Jvm.MethodName)) ∈ lw_all := lw_g (lw_at lw_m5 114 rfl) rfl
theorem q1154 : (Jvm.Cond.selects "Lullabygate" ({ cls := "Lullabygate", name := "ofPart", desc := "(II)I" } : Jvm.MethodName) ({ cls := "Lullabygate", name := "ofPart", desc := "(II)I" } : Jvm.MethodName)) ∈ lw_all := lw_g (lw_at lw_m5 115 rfl) rfl
theorem q1155 : (Jvm.Cond.code ({ cls := "Lullabygate", name := "ofPart", desc := "(II)I" } : Jvm.MethodName) prog_1_method_65_code (3 : Nat) (Option.some Jvm.ClassFile.FieldType.int)) ∈ lw_all := lw_g (lw_at lw_m5 116 rfl) rfl
theorem q1160 : (Jvm.Cond.instanceMethod ({ cls := "Lullabygate", name := "isGood", desc := "(II)Z" } : Jvm.MethodName)) ∈ lw_all := lw_g (lw_at lw_m5 121 rfl) rfl
theorem q1161 : (Jvm.Cond.selects "Lullabygate" ({ cls := "Lullabygate", name := "isGood", desc := "(II)Z" } : Jvm.MethodName) ({ cls := "Lullabygate", name := "isGood", desc := "(II)Z" } : Jvm.MethodName)) ∈ lw_all := lw_g (lw_at lw_m5 122 rfl) rfl
theorem q1162 : (Jvm.Cond.code ({ cls := "Lullabygate", name := "isGood", desc := "(II)Z" } : Jvm.MethodName) prog_1_method_66_code (4 : Nat) (Option.some Jvm.ClassFile.FieldType.boolean)) ∈ lw_all := lw_g (lw_at lw_m5 123 rfl) rfl
theorem q1167 : (Jvm.Cond.instanceMethod ({ cls := "Lullabygate", name := "queue", desc := "(I)Ljava/lang/String;" } : Jvm.MethodName)) ∈ lw_all := lw_g (lw_at lw_m5 128 rfl) rfl
theorem q1168 : (Jvm.Cond.selects "Lullabygate" ({ cls := "Lullabygate", name := "queue", desc := "(I)Ljava/lang/String;" } : Jvm.MethodName) ({ cls := "Lullabygate", name := "queue", desc := "(I)Ljava/lang/String;" } : Jvm.MethodName)) ∈ lw_all := lw_g (lw_at lw_m5 129 rfl) rfl
theorem q1169 : (Jvm.Cond.code ({ cls := "Lullabygate", name := "queue", desc := "(I)Ljava/lang/String;" } : Jvm.MethodName) prog_1_method_67_code (6 : Nat) (Option.some (Jvm.ClassFile.FieldType.object "java/lang/String"))) ∈ lw_all := lw_g (lw_at lw_m5 130 rfl) rfl
theorem q1170 : (Jvm.Cond.classLink "Lullabygate" (452 : Nat) "java/lang/StringBuilder") ∈ lw_all := lw_g (lw_at lw_m5 131 rfl) rfl
theorem q1172 : (Jvm.Cond.methodLink "Lullabygate" (454 : Nat) ({ cls := "java/lang/StringBuilder", name := "<init>", desc := "()V" } : Jvm.MethodName)) ∈ lw_all := lw_g (lw_at lw_m5 133 rfl) rfl
theorem q1201 : (Jvm.Cond.stringRef "Lullabygate" (455 : Nat) "") ∈ lw_tbl := lw_at lw_m5 162 rfl
theorem q1202 : (Jvm.Cond.stringRef "Lullabygate" (457 : Nat) " ") ∈ lw_tbl := lw_at lw_m5 163 rfl
theorem q1203 : (Jvm.Cond.methodLink "Lullabygate" (459 : Nat) ({ cls := "java/lang/StringBuilder", name := "append", desc := "(Ljava/lang/String;)Ljava/lang/StringBuilder;" } : Jvm.MethodName)) ∈ lw_all := lw_g (lw_at lw_m5 164 rfl) rfl
theorem q1308 : (Jvm.Cond.methodLink "Lullabygate" (463 : Nat) ({ cls := "java/lang/StringBuilder", name := "append", desc := "(I)Ljava/lang/StringBuilder;" } : Jvm.MethodName)) ∈ lw_all := lw_g (lw_at lw_m6 29 rfl) rfl
theorem q1333 : (Jvm.Cond.stringRef "Lullabygate" (470 : Nat) "b") ∈ lw_tbl := lw_at lw_m6 54 rfl
theorem q1334 : (Jvm.Cond.methodLink "Lullabygate" (472 : Nat) ({ cls := "java/lang/StringBuilder", name := "length", desc := "()I" } : Jvm.MethodName)) ∈ lw_all := lw_g (lw_at lw_m6 55 rfl) rfl
theorem q1341 : (Jvm.Cond.stringRef "Lullabygate" (475 : Nat) "-") ∈ lw_tbl := lw_at lw_m6 62 rfl
theorem q1342 : (Jvm.Cond.methodLink "Lullabygate" (477 : Nat) ({ cls := "java/lang/StringBuilder", name := "toString", desc := "()Ljava/lang/String;" } : Jvm.MethodName)) ∈ lw_all := lw_g (lw_at lw_m6 63 rfl) rfl
theorem q1405 : (Jvm.Cond.instanceMethod ({ cls := "Lullabygate", name := "night", desc := "(I)I" } : Jvm.MethodName)) ∈ lw_all := lw_g (lw_at lw_m6 126 rfl) rfl
theorem q1406 : (Jvm.Cond.selects "Lullabygate" ({ cls := "Lullabygate", name := "night", desc := "(I)I" } : Jvm.MethodName) ({ cls := "Lullabygate", name := "night", desc := "(I)I" } : Jvm.MethodName)) ∈ lw_all := lw_g (lw_at lw_m6 127 rfl) rfl
theorem q1407 : (Jvm.Cond.code ({ cls := "Lullabygate", name := "night", desc := "(I)I" } : Jvm.MethodName) prog_1_method_73_code (2 : Nat) (Option.some Jvm.ClassFile.FieldType.int)) ∈ lw_all := lw_g (lw_at lw_m6 128 rfl) rfl
theorem q1412 : (Jvm.Cond.instanceMethod ({ cls := "Lullabygate", name := "way", desc := "(II)I" } : Jvm.MethodName)) ∈ lw_all := lw_g (lw_at lw_m6 133 rfl) rfl
theorem q1413 : (Jvm.Cond.selects "Lullabygate" ({ cls := "Lullabygate", name := "way", desc := "(II)I" } : Jvm.MethodName) ({ cls := "Lullabygate", name := "way", desc := "(II)I" } : Jvm.MethodName)) ∈ lw_all := lw_g (lw_at lw_m6 134 rfl) rfl
theorem q1414 : (Jvm.Cond.code ({ cls := "Lullabygate", name := "way", desc := "(II)I" } : Jvm.MethodName) prog_1_method_46_code (3 : Nat) (Option.some Jvm.ClassFile.FieldType.int)) ∈ lw_all := lw_g (lw_at lw_m6 135 rfl) rfl
theorem q1419 : (Jvm.Cond.instanceMethod ({ cls := "Lullabygate", name := "plan", desc := "(II)I" } : Jvm.MethodName)) ∈ lw_all := lw_g (lw_at lw_m6 140 rfl) rfl
theorem q1420 : (Jvm.Cond.selects "Lullabygate" ({ cls := "Lullabygate", name := "plan", desc := "(II)I" } : Jvm.MethodName) ({ cls := "Lullabygate", name := "plan", desc := "(II)I" } : Jvm.MethodName)) ∈ lw_all := lw_g (lw_at lw_m6 141 rfl) rfl
theorem q1421 : (Jvm.Cond.code ({ cls := "Lullabygate", name := "plan", desc := "(II)I" } : Jvm.MethodName) prog_1_method_53_code (3 : Nat) (Option.some Jvm.ClassFile.FieldType.int)) ∈ lw_all := lw_g (lw_at lw_m6 142 rfl) rfl
theorem q1426 : (Jvm.Cond.instanceMethod ({ cls := "Lullabygate", name := "wouldPay", desc := "(I)I" } : Jvm.MethodName)) ∈ lw_all := lw_g (lw_at lw_m6 147 rfl) rfl
theorem q1427 : (Jvm.Cond.selects "Lullabygate" ({ cls := "Lullabygate", name := "wouldPay", desc := "(I)I" } : Jvm.MethodName) ({ cls := "Lullabygate", name := "wouldPay", desc := "(I)I" } : Jvm.MethodName)) ∈ lw_all := lw_g (lw_at lw_m6 148 rfl) rfl
theorem q1428 : (Jvm.Cond.code ({ cls := "Lullabygate", name := "wouldPay", desc := "(I)I" } : Jvm.MethodName) prog_1_method_55_code (2 : Nat) (Option.some Jvm.ClassFile.FieldType.int)) ∈ lw_all := lw_g (lw_at lw_m6 149 rfl) rfl
theorem q2007 : (Jvm.Cond.castable "Lullabygate" "java/lang/Object") ∈ lw_tbl := lw_at lw_m9 8 rfl
theorem in_X1 : ∀ w ∈ wsX10, w ∈ lw_all := lw_in wsX10 [292, 294, 296, 298, 300, 302, 304, 306, 308] (by decide +kernel) (by decide +kernel)
