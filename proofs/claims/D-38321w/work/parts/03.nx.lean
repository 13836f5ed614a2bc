/-! Lullabygate$Row -/
set_option maxRecDepth 100000
def RX2 : String := "Lullabygate$Row"
def TX2 : u_T := fun k => match k with
  | 0 => ("Lullabygate$Row", "next", "I", false)
  | _ => ("Lullabygate$Row", "drawn", "I", false)
def tyX2 : Nat → FieldType := fun k => match k with
  | 0 => .int
  | _ => .int
abbrev wsX20 : List Cond := u_ws RX2 TX2 2
theorem nmX2 : ∀ a, a < 2 → ∀ b, b < 2 → a ≠ b → (TX2 a).2.1 ≠ (TX2 b).2.1 := by decide +kernel
theorem tyX2_ok : ∀ k, k < 2 → parseFieldDescriptor (TX2 k).2.2.1 = some (tyX2 k) := by decide +kernel
abbrev cX2_init : ByteArray := prog_9_method_1_code
def yX2_init : MethodName := ⟨RX2, "<init>", "()V"⟩
def dkwX2_init_0 : List UInt8 := [42, 183, 0, 1, 42, 6, 181, 0, 7, 177]
abbrev dktX2_init_0 : List UInt8 := dkwX2_init_0 ++ []
theorem dksX2_init_0 : cX2_init.data.toList.drop 0 = dktX2_init_0 := by decide +kernel
theorem dX2_init_0 : decode cX2_init 0 = .ok (.aload_n 0, 1) := dk_42 (dk_at dksX2_init_0 0 rfl rfl)
theorem dX2_init_1 : decode cX2_init 1 = .ok (.invokespecial 1, 3) := dk_183 0 1 (dk_at dksX2_init_0 1 rfl rfl)
theorem dX2_init_4 : decode cX2_init 4 = .ok (.aload_n 0, 1) := dk_42 (dk_at dksX2_init_0 4 rfl rfl)
theorem dX2_init_5 : decode cX2_init 5 = .ok (.iconst 3, 1) := dk_6 (dk_at dksX2_init_0 5 rfl rfl)
theorem dX2_init_6 : decode cX2_init 6 = .ok (.putfield 7, 3) := dk_181 0 7 (dk_at dksX2_init_0 6 rfl rfl)
theorem dX2_init_9 : decode cX2_init 9 = .ok (.return_, 1) := dk_177 (dk_at dksX2_init_0 9 rfl rfl)
abbrev cX2_draw : ByteArray := prog_9_method_2_code
def yX2_draw : MethodName := ⟨RX2, "draw", "(I)I"⟩
def dkwX2_draw_1 : List UInt8 := [89, 180, 0, 13, 4, 96, 181, 0, 13, 28, 27, 112, 172]
abbrev dktX2_draw_1 : List UInt8 := dkwX2_draw_1 ++ []
def dkwX2_draw_0 : List UInt8 := [42, 180, 0, 7, 61, 42, 16, 21, 42, 180, 0, 7, 104, 16, 11, 96, 17, 16, 0, 112, 181, 0, 7, 42]
abbrev dktX2_draw_0 : List UInt8 := dkwX2_draw_0 ++ dktX2_draw_1
theorem dksX2_draw_0 : cX2_draw.data.toList.drop 0 = dktX2_draw_0 := by decide +kernel
theorem dksX2_draw_1 : cX2_draw.data.toList.drop 24 = dktX2_draw_1 := dk_seg dksX2_draw_0 24 rfl rfl
theorem dX2_draw_0 : decode cX2_draw 0 = .ok (.aload_n 0, 1) := dk_42 (dk_at dksX2_draw_0 0 rfl rfl)
theorem dX2_draw_1 : decode cX2_draw 1 = .ok (.getfield 7, 3) := dk_180 0 7 (dk_at dksX2_draw_0 1 rfl rfl)
theorem dX2_draw_4 : decode cX2_draw 4 = .ok (.istore_n 2, 1) := dk_61 (dk_at dksX2_draw_0 4 rfl rfl)
theorem dX2_draw_5 : decode cX2_draw 5 = .ok (.aload_n 0, 1) := dk_42 (dk_at dksX2_draw_0 5 rfl rfl)
theorem dX2_draw_6 : decode cX2_draw 6 = .ok (.bipush 21, 2) := dk_16 21 (dk_at dksX2_draw_0 6 rfl rfl)
theorem dX2_draw_8 : decode cX2_draw 8 = .ok (.aload_n 0, 1) := dk_42 (dk_at dksX2_draw_0 8 rfl rfl)
theorem dX2_draw_9 : decode cX2_draw 9 = .ok (.getfield 7, 3) := dk_180 0 7 (dk_at dksX2_draw_0 9 rfl rfl)
theorem dX2_draw_12 : decode cX2_draw 12 = .ok (.imul, 1) := dk_104 (dk_at dksX2_draw_0 12 rfl rfl)
theorem dX2_draw_13 : decode cX2_draw 13 = .ok (.bipush 11, 2) := dk_16 11 (dk_at dksX2_draw_0 13 rfl rfl)
theorem dX2_draw_15 : decode cX2_draw 15 = .ok (.iadd, 1) := dk_96 (dk_at dksX2_draw_0 15 rfl rfl)
theorem dX2_draw_16 : decode cX2_draw 16 = .ok (.sipush 4096, 3) := dk_17 16 0 (dk_at dksX2_draw_0 16 rfl rfl)
theorem dX2_draw_19 : decode cX2_draw 19 = .ok (.irem, 1) := dk_112 (dk_at dksX2_draw_0 19 rfl rfl)
theorem dX2_draw_20 : decode cX2_draw 20 = .ok (.putfield 7, 3) := dk_181 0 7 (dk_at dksX2_draw_0 20 rfl rfl)
theorem dX2_draw_23 : decode cX2_draw 23 = .ok (.aload_n 0, 1) := dk_42 (dk_at dksX2_draw_0 23 rfl rfl)
theorem dX2_draw_24 : decode cX2_draw 24 = .ok (.dup, 1) := dk_89 (dk_at dksX2_draw_1 0 rfl rfl)
theorem dX2_draw_25 : decode cX2_draw 25 = .ok (.getfield 13, 3) := dk_180 0 13 (dk_at dksX2_draw_1 1 rfl rfl)
theorem dX2_draw_28 : decode cX2_draw 28 = .ok (.iconst 1, 1) := dk_4 (dk_at dksX2_draw_1 4 rfl rfl)
theorem dX2_draw_29 : decode cX2_draw 29 = .ok (.iadd, 1) := dk_96 (dk_at dksX2_draw_1 5 rfl rfl)
theorem dX2_draw_30 : decode cX2_draw 30 = .ok (.putfield 13, 3) := dk_181 0 13 (dk_at dksX2_draw_1 6 rfl rfl)
theorem dX2_draw_33 : decode cX2_draw 33 = .ok (.iload_n 2, 1) := dk_28 (dk_at dksX2_draw_1 9 rfl rfl)
theorem dX2_draw_34 : decode cX2_draw 34 = .ok (.iload_n 1, 1) := dk_27 (dk_at dksX2_draw_1 10 rfl rfl)
theorem dX2_draw_35 : decode cX2_draw 35 = .ok (.irem, 1) := dk_112 (dk_at dksX2_draw_1 11 rfl rfl)
theorem dX2_draw_36 : decode cX2_draw 36 = .ok (.ireturn, 1) := dk_172 (dk_at dksX2_draw_1 12 rfl rfl)
theorem q84 : (Jvm.Cond.initialized "Lullabygate$Row") ∈ lw_all := lw_g (lw_at lw_m1 5 rfl) rfl
theorem q162 : (Jvm.Cond.instantiable "Lullabygate$Row" (2 : Nat)) ∈ lw_all := lw_g (lw_at lw_m1 83 rfl) rfl
theorem q164 : (Jvm.Cond.instanceMethod ({ cls := "Lullabygate$Row", name := "<init>", desc := "()V" } : Jvm.MethodName)) ∈ lw_all := lw_g (lw_at lw_m1 85 rfl) rfl
theorem q165 : (Jvm.Cond.code ({ cls := "Lullabygate$Row", name := "<init>", desc := "()V" } : Jvm.MethodName) prog_9_method_1_code (1 : Nat) (Option.none : Option Jvm.ClassFile.FieldType)) ∈ lw_all := lw_g (lw_at lw_m1 86 rfl) rfl
theorem q166 : (Jvm.Cond.methodLink "Lullabygate$Row" (1 : Nat) ({ cls := "java/lang/Object", name := "<init>", desc := "()V" } : Jvm.MethodName)) ∈ lw_all := lw_g (lw_at lw_m1 87 rfl) rfl
theorem q167 : (Jvm.Cond.fieldLink "Lullabygate$Row" (7 : Nat) "Lullabygate$Row" "next" "I") ∈ lw_all := lw_g (lw_at lw_m1 88 rfl) rfl
theorem q168 : (Jvm.Cond.fieldLink "Lullabygate$Row" (13 : Nat) "Lullabygate$Row" "drawn" "I") ∈ lw_all := lw_g (lw_at lw_m1 89 rfl) rfl
theorem q170 : (Jvm.Cond.lays "Lullabygate$Row" "Lullabygate$Row" "next" "I") ∈ lw_all := lw_g (lw_at lw_m1 91 rfl) rfl
theorem q171 : (Jvm.Cond.soleField "Lullabygate$Row" "next") ∈ lw_all := lw_g (lw_at lw_m1 92 rfl) rfl
theorem q172 : (Jvm.Cond.lays "Lullabygate$Row" "Lullabygate$Row" "drawn" "I") ∈ lw_all := lw_g (lw_at lw_m1 93 rfl) rfl
theorem q173 : (Jvm.Cond.soleField "Lullabygate$Row" "drawn") ∈ lw_all := lw_g (lw_at lw_m1 94 rfl) rfl
theorem q174 : (Jvm.Cond.superclass "Lullabygate$Row" "java/lang/Object") ∈ lw_all := lw_g (lw_at lw_m1 95 rfl) rfl
theorem q249 : (Jvm.Cond.selects "Lullabygate$Row" ({ cls := "java/lang/Object", name := "getClass", desc := "()Ljava/lang/Class;" } : Jvm.MethodName) ({ cls := "java/lang/Object", name := "getClass", desc := "()Ljava/lang/Class;" } : Jvm.MethodName)) ∈ lw_all := lw_g (lw_at lw_m1 170 rfl) rfl
theorem q1042 : (Jvm.Cond.instanceMethod ({ cls := "Lullabygate$Row", name := "draw", desc := "(I)I" } : Jvm.MethodName)) ∈ lw_all := lw_g (lw_at lw_m5 3 rfl) rfl
theorem q1043 : (Jvm.Cond.selects "Lullabygate$Row" ({ cls := "Lullabygate$Row", name := "draw", desc := "(I)I" } : Jvm.MethodName) ({ cls := "Lullabygate$Row", name := "draw", desc := "(I)I" } : Jvm.MethodName)) ∈ lw_all := lw_g (lw_at lw_m5 4 rfl) rfl
theorem q1044 : (Jvm.Cond.code ({ cls := "Lullabygate$Row", name := "draw", desc := "(I)I" } : Jvm.MethodName) prog_9_method_2_code (3 : Nat) (Option.some Jvm.ClassFile.FieldType.int)) ∈ lw_all := lw_g (lw_at lw_m5 5 rfl) rfl
theorem q2009 : (Jvm.Cond.castable "Lullabygate$Row" "java/lang/Object") ∈ lw_tbl := lw_at lw_m9 10 rfl
theorem in_X2 : ∀ w ∈ wsX20, w ∈ lw_all := lw_in wsX20 [170, 172] (by decide +kernel) (by decide +kernel)
/-! Lullabygate$Land -/
set_option maxRecDepth 100000
def RX3 : String := "Lullabygate$Land"
def TX3 : u_T := fun k => match k with
  | 0 => ("Lullabygate$Land", "rate", "I", false)
  | 1 => ("Lullabygate$Land", "allowance", "I", false)
  | 2 => ("Lullabygate$Land", "quota", "I", false)
  | 3 => ("Lullabygate$Land", "nightmares", "I", false)
  | 4 => ("Lullabygate$Land", "duties", "I", false)
  | _ => ("Lullabygate$Land", "fines", "I", false)
def tyX3 : Nat → FieldType := fun k => match k with
  | 0 => .int
  | 1 => .int
  | 2 => .int
  | 3 => .int
  | 4 => .int
  | _ => .int
abbrev wsX30 : List Cond := u_ws RX3 TX3 6
theorem nmX3 : ∀ a, a < 6 → ∀ b, b < 6 → a ≠ b → (TX3 a).2.1 ≠ (TX3 b).2.1 := by decide +kernel
theorem tyX3_ok : ∀ k, k < 6 → parseFieldDescriptor (TX3 k).2.2.1 = some (tyX3 k) := by decide +kernel
abbrev cX3_init : ByteArray := prog_5_method_1_code
def yX3_init : MethodName := ⟨RX3, "<init>", "()V"⟩
def dkwX3_init_0 : List UInt8 := [42, 183, 0, 1, 42, 16, 10, 181, 0, 7, 42, 16, 20, 181, 0, 13, 42, 8, 181, 0, 16, 177]
abbrev dktX3_init_0 : List UInt8 := dkwX3_init_0 ++ []
theorem dksX3_init_0 : cX3_init.data.toList.drop 0 = dktX3_init_0 := by decide +kernel
theorem dX3_init_0 : decode cX3_init 0 = .ok (.aload_n 0, 1) := dk_42 (dk_at dksX3_init_0 0 rfl rfl)
theorem dX3_init_1 : decode cX3_init 1 = .ok (.invokespecial 1, 3) := dk_183 0 1 (dk_at dksX3_init_0 1 rfl rfl)
theorem dX3_init_4 : decode cX3_init 4 = .ok (.aload_n 0, 1) := dk_42 (dk_at dksX3_init_0 4 rfl rfl)
theorem dX3_init_5 : decode cX3_init 5 = .ok (.bipush 10, 2) := dk_16 10 (dk_at dksX3_init_0 5 rfl rfl)
theorem dX3_init_7 : decode cX3_init 7 = .ok (.putfield 7, 3) := dk_181 0 7 (dk_at dksX3_init_0 7 rfl rfl)
theorem dX3_init_10 : decode cX3_init 10 = .ok (.aload_n 0, 1) := dk_42 (dk_at dksX3_init_0 10 rfl rfl)
theorem dX3_init_11 : decode cX3_init 11 = .ok (.bipush 20, 2) := dk_16 20 (dk_at dksX3_init_0 11 rfl rfl)
theorem dX3_init_13 : decode cX3_init 13 = .ok (.putfield 13, 3) := dk_181 0 13 (dk_at dksX3_init_0 13 rfl rfl)
theorem dX3_init_16 : decode cX3_init 16 = .ok (.aload_n 0, 1) := dk_42 (dk_at dksX3_init_0 16 rfl rfl)
theorem dX3_init_17 : decode cX3_init 17 = .ok (.iconst 5, 1) := dk_8 (dk_at dksX3_init_0 17 rfl rfl)
theorem dX3_init_18 : decode cX3_init 18 = .ok (.putfield 16, 3) := dk_181 0 16 (dk_at dksX3_init_0 18 rfl rfl)
theorem dX3_init_21 : decode cX3_init 21 = .ok (.return_, 1) := dk_177 (dk_at dksX3_init_0 21 rfl rfl)
abbrev cX3_duty : ByteArray := prog_5_method_2_code
def yX3_duty : MethodName := ⟨RX3, "duty", "(I)I"⟩
def dkwX3_duty_1 : List UInt8 := [16, 100, 108, 172]
abbrev dktX3_duty_1 : List UInt8 := dkwX3_duty_1 ++ []
def dkwX3_duty_0 : List UInt8 := [27, 42, 180, 0, 13, 163, 0, 7, 3, 167, 0, 17, 27, 42, 180, 0, 13, 100, 42, 180, 0, 7, 104]
abbrev dktX3_duty_0 : List UInt8 := dkwX3_duty_0 ++ dktX3_duty_1
theorem dksX3_duty_0 : cX3_duty.data.toList.drop 0 = dktX3_duty_0 := by decide +kernel
theorem dksX3_duty_1 : cX3_duty.data.toList.drop 23 = dktX3_duty_1 := dk_seg dksX3_duty_0 23 rfl rfl
theorem dX3_duty_0 : decode cX3_duty 0 = .ok (.iload_n 1, 1) := dk_27 (dk_at dksX3_duty_0 0 rfl rfl)
theorem dX3_duty_1 : decode cX3_duty 1 = .ok (.aload_n 0, 1) := dk_42 (dk_at dksX3_duty_0 1 rfl rfl)
theorem dX3_duty_2 : decode cX3_duty 2 = .ok (.getfield 13, 3) := dk_180 0 13 (dk_at dksX3_duty_0 2 rfl rfl)
theorem dX3_duty_5 : decode cX3_duty 5 = .ok (.if_icmp .gt 7, 3) := dk_163 0 7 (dk_at dksX3_duty_0 5 rfl rfl)
theorem dX3_duty_8 : decode cX3_duty 8 = .ok (.iconst 0, 1) := dk_3 (dk_at dksX3_duty_0 8 rfl rfl)
theorem dX3_duty_9 : decode cX3_duty 9 = .ok (.goto 17, 3) := dk_167 0 17 (dk_at dksX3_duty_0 9 rfl rfl)
theorem dX3_duty_12 : decode cX3_duty 12 = .ok (.iload_n 1, 1) := dk_27 (dk_at dksX3_duty_0 12 rfl rfl)
theorem dX3_duty_13 : decode cX3_duty 13 = .ok (.aload_n 0, 1) := dk_42 (dk_at dksX3_duty_0 13 rfl rfl)
theorem dX3_duty_14 : decode cX3_duty 14 = .ok (.getfield 13, 3) := dk_180 0 13 (dk_at dksX3_duty_0 14 rfl rfl)
theorem dX3_duty_17 : decode cX3_duty 17 = .ok (.isub, 1) := dk_100 (dk_at dksX3_duty_0 17 rfl rfl)
theorem dX3_duty_18 : decode cX3_duty 18 = .ok (.aload_n 0, 1) := dk_42 (dk_at dksX3_duty_0 18 rfl rfl)
theorem dX3_duty_19 : decode cX3_duty 19 = .ok (.getfield 7, 3) := dk_180 0 7 (dk_at dksX3_duty_0 19 rfl rfl)
theorem dX3_duty_22 : decode cX3_duty 22 = .ok (.imul, 1) := dk_104 (dk_at dksX3_duty_0 22 rfl rfl)
theorem dX3_duty_23 : decode cX3_duty 23 = .ok (.bipush 100, 2) := dk_16 100 (dk_at dksX3_duty_1 0 rfl rfl)
theorem dX3_duty_25 : decode cX3_duty 25 = .ok (.idiv, 1) := dk_108 (dk_at dksX3_duty_1 2 rfl rfl)
theorem dX3_duty_26 : decode cX3_duty 26 = .ok (.ireturn, 1) := dk_172 (dk_at dksX3_duty_1 3 rfl rfl)
theorem q85 : (Jvm.Cond.initialized "Lullabygate$Land") ∈ lw_all := lw_g (lw_at lw_m1 6 rfl) rfl
theorem q176 : (Jvm.Cond.instantiable "Lullabygate$Land" (6 : Nat)) ∈ lw_all := lw_g (lw_at lw_m1 97 rfl) rfl
theorem q178 : (Jvm.Cond.instanceMethod ({ cls := "Lullabygate$Land", name := "<init>", desc := "()V" } : Jvm.MethodName)) ∈ lw_all := lw_g (lw_at lw_m1 99 rfl) rfl
theorem q179 : (Jvm.Cond.code ({ cls := "Lullabygate$Land", name := "<init>", desc := "()V" } : Jvm.MethodName) prog_5_method_1_code (1 : Nat) (Option.none : Option Jvm.ClassFile.FieldType)) ∈ lw_all := lw_g (lw_at lw_m1 100 rfl) rfl
theorem q180 : (Jvm.Cond.methodLink "Lullabygate$Land" (1 : Nat) ({ cls := "java/lang/Object", name := "<init>", desc := "()V" } : Jvm.MethodName)) ∈ lw_all := lw_g (lw_at lw_m1 101 rfl) rfl
theorem q181 : (Jvm.Cond.fieldLink "Lullabygate$Land" (7 : Nat) "Lullabygate$Land" "rate" "I") ∈ lw_all := lw_g (lw_at lw_m1 102 rfl) rfl
theorem q183 : (Jvm.Cond.fieldLink "Lullabygate$Land" (13 : Nat) "Lullabygate$Land" "allowance" "I") ∈ lw_all := lw_g (lw_at lw_m1 104 rfl) rfl
theorem q185 : (Jvm.Cond.fieldLink "Lullabygate$Land" (16 : Nat) "Lullabygate$Land" "quota" "I") ∈ lw_all := lw_g (lw_at lw_m1 106 rfl) rfl
theorem q190 : (Jvm.Cond.lays "Lullabygate$Land" "Lullabygate$Land" "rate" "I") ∈ lw_all := lw_g (lw_at lw_m1 111 rfl) rfl
theorem q191 : (Jvm.Cond.soleField "Lullabygate$Land" "rate") ∈ lw_all := lw_g (lw_at lw_m1 112 rfl) rfl
theorem q192 : (Jvm.Cond.lays "Lullabygate$Land" "Lullabygate$Land" "allowance" "I") ∈ lw_all := lw_g (lw_at lw_m1 113 rfl) rfl
theorem q193 : (Jvm.Cond.soleField "Lullabygate$Land" "allowance") ∈ lw_all := lw_g (lw_at lw_m1 114 rfl) rfl
theorem q194 : (Jvm.Cond.lays "Lullabygate$Land" "Lullabygate$Land" "quota" "I") ∈ lw_all := lw_g (lw_at lw_m1 115 rfl) rfl
theorem q195 : (Jvm.Cond.soleField "Lullabygate$Land" "quota") ∈ lw_all := lw_g (lw_at lw_m1 116 rfl) rfl
theorem q196 : (Jvm.Cond.lays "Lullabygate$Land" "Lullabygate$Land" "nightmares" "I") ∈ lw_all := lw_g (lw_at lw_m1 117 rfl) rfl
theorem q197 : (Jvm.Cond.soleField "Lullabygate$Land" "nightmares") ∈ lw_all := lw_g (lw_at lw_m1 118 rfl) rfl
theorem q198 : (Jvm.Cond.lays "Lullabygate$Land" "Lullabygate$Land" "duties" "I") ∈ lw_all := lw_g (lw_at lw_m1 119 rfl) rfl
theorem q199 : (Jvm.Cond.soleField "Lullabygate$Land" "duties") ∈ lw_all := lw_g (lw_at lw_m1 120 rfl) rfl
theorem q200 : (Jvm.Cond.lays "Lullabygate$Land" "Lullabygate$Land" "fines" "I") ∈ lw_all := lw_g (lw_at lw_m1 121 rfl) rfl
theorem q201 : (Jvm.Cond.soleField "Lullabygate$Land" "fines") ∈ lw_all := lw_g (lw_at lw_m1 122 rfl) rfl
theorem q202 : (Jvm.Cond.superclass "Lullabygate$Land" "java/lang/Object") ∈ lw_all := lw_g (lw_at lw_m1 123 rfl) rfl
theorem q245 : (Jvm.Cond.selects "Lullabygate$Land" ({ cls := "java/lang/Object", name := "getClass", desc := "()Ljava/lang/Class;" } : Jvm.MethodName) ({ cls := "java/lang/Object", name := "getClass", desc := "()Ljava/lang/Class;" } : Jvm.MethodName)) ∈ lw_all := lw_g (lw_at lw_m1 166 rfl) rfl
theorem q526 : (Jvm.Cond.instanceMethod ({ cls := "Lullabygate$Land", name := "duty", desc := "(I)I" } : Jvm.MethodName)) ∈ lw_all := lw_g (lw_at lw_m2 207 rfl) rfl
theorem q527 : (Jvm.Cond.selects "Lullabygate$Land" ({ cls := "Lullabygate$Land", name := "duty", desc := "(I)I" } : Jvm.MethodName) ({ cls := "Lullabygate$Land", name := "duty", desc := "(I)I" } : Jvm.MethodName)) ∈ lw_all := lw_g (lw_at lw_m2 208 rfl) rfl
theorem q528 : (Jvm.Cond.code ({ cls := "Lullabygate$Land", name := "duty", desc := "(I)I" } : Jvm.MethodName) prog_5_method_2_code (2 : Nat) (Option.some Jvm.ClassFile.FieldType.int)) ∈ lw_all := lw_g (lw_at lw_m2 209 rfl) rfl
theorem q2010 : (Jvm.Cond.castable "Lullabygate$Land" "java/lang/Object") ∈ lw_tbl := lw_at lw_m9 11 rfl
theorem in_X3 : ∀ w ∈ wsX30, w ∈ lw_all := lw_in wsX30 [190, 192, 194, 196, 198, 200] (by decide +kernel) (by decide +kernel)
/-! LullabygateModel$Land -/
set_option maxRecDepth 100000
def RX5 : String := "LullabygateModel$Land"
def TX5 : u_T := fun k => match k with
  | 0 => ("LullabygateModel$Land", "rate", "I", false)
  | 1 => ("LullabygateModel$Land", "allowance", "I", false)
  | 2 => ("LullabygateModel$Land", "quota", "I", false)
  | 3 => ("LullabygateModel$Land", "came", "I", false)
  | 4 => ("LullabygateModel$Land", "duties", "I", false)
  | _ => ("LullabygateModel$Land", "fines", "I", false)
def tyX5 : Nat → FieldType := fun k => match k with
  | 0 => .int
  | 1 => .int
  | 2 => .int
  | 3 => .int
  | 4 => .int
  | _ => .int
abbrev wsX50 : List Cond := u_ws RX5 TX5 6
theorem nmX5 : ∀ a, a < 6 → ∀ b, b < 6 → a ≠ b → (TX5 a).2.1 ≠ (TX5 b).2.1 := by decide +kernel
theorem tyX5_ok : ∀ k, k < 6 → parseFieldDescriptor (TX5 k).2.2.1 = some (tyX5 k) := by decide +kernel
abbrev cX5_init : ByteArray := prog_16_method_1_code
def yX5_init : MethodName := ⟨RX5, "<init>", "()V"⟩
def dkwX5_init_0 : List UInt8 := [42, 183, 0, 1, 42, 16, 10, 181, 0, 7, 42, 16, 20, 181, 0, 13, 42, 8, 181, 0, 16, 177]
abbrev dktX5_init_0 : List UInt8 := dkwX5_init_0 ++ []
theorem dksX5_init_0 : cX5_init.data.toList.drop 0 = dktX5_init_0 := by decide +kernel
theorem dX5_init_0 : decode cX5_init 0 = .ok (.aload_n 0, 1) := dk_42 (dk_at dksX5_init_0 0 rfl rfl)
theorem dX5_init_1 : decode cX5_init 1 = .ok (.invokespecial 1, 3) := dk_183 0 1 (dk_at dksX5_init_0 1 rfl rfl)
theorem dX5_init_4 : decode cX5_init 4 = .ok (.aload_n 0, 1) := dk_42 (dk_at dksX5_init_0 4 rfl rfl)
theorem dX5_init_5 : decode cX5_init 5 = .ok (.bipush 10, 2) := dk_16 10 (dk_at dksX5_init_0 5 rfl rfl)
theorem dX5_init_7 : decode cX5_init 7 = .ok (.putfield 7, 3) := dk_181 0 7 (dk_at dksX5_init_0 7 rfl rfl)
theorem dX5_init_10 : decode cX5_init 10 = .ok (.aload_n 0, 1) := dk_42 (dk_at dksX5_init_0 10 rfl rfl)
theorem dX5_init_11 : decode cX5_init 11 = .ok (.bipush 20, 2) := dk_16 20 (dk_at dksX5_init_0 11 rfl rfl)
theorem dX5_init_13 : decode cX5_init 13 = .ok (.putfield 13, 3) := dk_181 0 13 (dk_at dksX5_init_0 13 rfl rfl)
theorem dX5_init_16 : decode cX5_init 16 = .ok (.aload_n 0, 1) := dk_42 (dk_at dksX5_init_0 16 rfl rfl)
theorem dX5_init_17 : decode cX5_init 17 = .ok (.iconst 5, 1) := dk_8 (dk_at dksX5_init_0 17 rfl rfl)
theorem dX5_init_18 : decode cX5_init 18 = .ok (.putfield 16, 3) := dk_181 0 16 (dk_at dksX5_init_0 18 rfl rfl)
theorem dX5_init_21 : decode cX5_init 21 = .ok (.return_, 1) := dk_177 (dk_at dksX5_init_0 21 rfl rfl)
theorem q91 : (Jvm.Cond.initialized "LullabygateModel$Land") ∈ lw_all := lw_g (lw_at lw_m1 12 rfl) rfl
theorem q255 : (Jvm.Cond.selects "LullabygateModel$Land" ({ cls := "java/lang/Object", name := "getClass", desc := "()Ljava/lang/Class;" } : Jvm.MethodName) ({ cls := "java/lang/Object", name := "getClass", desc := "()Ljava/lang/Class;" } : Jvm.MethodName)) ∈ lw_all := lw_g (lw_at lw_m1 176 rfl) rfl
theorem q1439 : (Jvm.Cond.instantiable "LullabygateModel$Land" (6 : Nat)) ∈ lw_all := lw_g (lw_at lw_m6 160 rfl) rfl
theorem q1441 : (Jvm.Cond.instanceMethod ({ cls := "LullabygateModel$Land", name := "<init>", desc := "()V" } : Jvm.MethodName)) ∈ lw_all := lw_g (lw_at lw_m6 162 rfl) rfl
theorem q1442 : (Jvm.Cond.code ({ cls := "LullabygateModel$Land", name := "<init>", desc := "()V" } : Jvm.MethodName) prog_16_method_1_code (1 : Nat) (Option.none : Option Jvm.ClassFile.FieldType)) ∈ lw_all := lw_g (lw_at lw_m6 163 rfl) rfl
theorem q1443 : (Jvm.Cond.methodLink "LullabygateModel$Land" (1 : Nat) ({ cls := "java/lang/Object", name := "<init>", desc := "()V" } : Jvm.MethodName)) ∈ lw_all := lw_g (lw_at lw_m6 164 rfl) rfl
theorem q1444 : (Jvm.Cond.fieldLink "LullabygateModel$Land" (7 : Nat) "LullabygateModel$Land" "rate" "I") ∈ lw_all := lw_g (lw_at lw_m6 165 rfl) rfl
theorem q1446 : (Jvm.Cond.fieldLink "LullabygateModel$Land" (13 : Nat) "LullabygateModel$Land" "allowance" "I") ∈ lw_all := lw_g (lw_at lw_m6 167 rfl) rfl
theorem q1448 : (Jvm.Cond.fieldLink "LullabygateModel$Land" (16 : Nat) "LullabygateModel$Land" "quota" "I") ∈ lw_all := lw_g (lw_at lw_m6 169 rfl) rfl
theorem q1453 : (Jvm.Cond.lays "LullabygateModel$Land" "LullabygateModel$Land" "rate" "I") ∈ lw_all := lw_g (lw_at lw_m6 174 rfl) rfl
theorem q1454 : (Jvm.Cond.soleField "LullabygateModel$Land" "rate") ∈ lw_all := lw_g (lw_at lw_m6 175 rfl) rfl
theorem q1455 : (Jvm.Cond.lays "LullabygateModel$Land" "LullabygateModel$Land" "allowance" "I") ∈ lw_all := lw_g (lw_at lw_m6 176 rfl) rfl
theorem q1456 : (Jvm.Cond.soleField "LullabygateModel$Land" "allowance") ∈ lw_all := lw_g (lw_at lw_m6 177 rfl) rfl
theorem q1457 : (Jvm.Cond.lays "LullabygateModel$Land" "LullabygateModel$Land" "quota" "I") ∈ lw_all := lw_g (lw_at lw_m6 178 rfl) rfl
theorem q1458 : (Jvm.Cond.soleField "LullabygateModel$Land" "quota") ∈ lw_all := lw_g (lw_at lw_m6 179 rfl) rfl
theorem q1459 : (Jvm.Cond.lays "LullabygateModel$Land" "LullabygateModel$Land" "came" "I") ∈ lw_all := lw_g (lw_at lw_m6 180 rfl) rfl
theorem q1460 : (Jvm.Cond.soleField "LullabygateModel$Land" "came") ∈ lw_all := lw_g (lw_at lw_m6 181 rfl) rfl
theorem q1461 : (Jvm.Cond.lays "LullabygateModel$Land" "LullabygateModel$Land" "duties" "I") ∈ lw_all := lw_g (lw_at lw_m6 182 rfl) rfl
theorem q1462 : (Jvm.Cond.soleField "LullabygateModel$Land" "duties") ∈ lw_all := lw_g (lw_at lw_m6 183 rfl) rfl
theorem q1463 : (Jvm.Cond.lays "LullabygateModel$Land" "LullabygateModel$Land" "fines" "I") ∈ lw_all := lw_g (lw_at lw_m6 184 rfl) rfl
theorem q1464 : (Jvm.Cond.soleField "LullabygateModel$Land" "fines") ∈ lw_all := lw_g (lw_at lw_m6 185 rfl) rfl
theorem q1465 : (Jvm.Cond.superclass "LullabygateModel$Land" "java/lang/Object") ∈ lw_all := lw_g (lw_at lw_m6 186 rfl) rfl
theorem q2006 : (Jvm.Cond.castable "LullabygateModel$Land" "java/lang/Object") ∈ lw_tbl := lw_at lw_m9 7 rfl
theorem in_X5 : ∀ w ∈ wsX50, w ∈ lw_all := lw_in wsX50 [1453, 1455, 1457, 1459, 1461, 1463] (by decide +kernel) (by decide +kernel)
/-! LullabygateLaw$Out -/
set_option maxRecDepth 100000
def RX6 : String := "LullabygateLaw$Out"
def TX6 : u_T := fun k => match k with
  | 0 => ("LullabygateLaw$Out", "n", "J", false)
  | _ => ("LullabygateLaw$Out", "s", "Ljava/lang/String;", false)
def tyX6 : Nat → FieldType := fun k => match k with
  | 0 => .long
  | _ => .object "java/lang/String"
abbrev wsX60 : List Cond := u_ws RX6 TX6 2
theorem nmX6 : ∀ a, a < 2 → ∀ b, b < 2 → a ≠ b → (TX6 a).2.1 ≠ (TX6 b).2.1 := by decide +kernel
theorem tyX6_ok : ∀ k, k < 2 → parseFieldDescriptor (TX6 k).2.2.1 = some (tyX6 k) := by decide +kernel
abbrev cX6_init : ByteArray := prog_13_method_1_code
def yX6_init : MethodName := ⟨RX6, "<init>", "()V"⟩
theorem dX6_init_0 : decode cX6_init 0 = .ok (.aload_n 0, 1) := by decide +kernel
theorem dX6_init_1 : decode cX6_init 1 = .ok (.invokespecial 1, 3) := by decide +kernel
theorem dX6_init_4 : decode cX6_init 4 = .ok (.return_, 1) := by decide +kernel
theorem q92 : (Jvm.Cond.initialized "LullabygateLaw$Out") ∈ lw_all := lw_g (lw_at lw_m1 13 rfl) rfl
theorem q252 : (Jvm.Cond.selects "LullabygateLaw$Out" ({ cls := "java/lang/Object", name := "getClass", desc := "()Ljava/lang/Class;" } : Jvm.MethodName) ({ cls := "java/lang/Object", name := "getClass", desc := "()Ljava/lang/Class;" } : Jvm.MethodName)) ∈ lw_all := lw_g (lw_at lw_m1 173 rfl) rfl
theorem q593 : (Jvm.Cond.instantiable "LullabygateLaw$Out" (2 : Nat)) ∈ lw_all := lw_g (lw_at lw_m3 34 rfl) rfl
theorem q595 : (Jvm.Cond.instanceMethod ({ cls := "LullabygateLaw$Out", name := "<init>", desc := "()V" } : Jvm.MethodName)) ∈ lw_all := lw_g (lw_at lw_m3 36 rfl) rfl
theorem q596 : (Jvm.Cond.code ({ cls := "LullabygateLaw$Out", name := "<init>", desc := "()V" } : Jvm.MethodName) prog_13_method_1_code (1 : Nat) (Option.none : Option Jvm.ClassFile.FieldType)) ∈ lw_all := lw_g (lw_at lw_m3 37 rfl) rfl
theorem q597 : (Jvm.Cond.methodLink "LullabygateLaw$Out" (1 : Nat) ({ cls := "java/lang/Object", name := "<init>", desc := "()V" } : Jvm.MethodName)) ∈ lw_all := lw_g (lw_at lw_m3 38 rfl) rfl
theorem q600 : (Jvm.Cond.lays "LullabygateLaw$Out" "LullabygateLaw$Out" "n" "J") ∈ lw_all := lw_g (lw_at lw_m3 41 rfl) rfl
theorem q601 : (Jvm.Cond.soleField "LullabygateLaw$Out" "n") ∈ lw_all := lw_g (lw_at lw_m3 42 rfl) rfl
theorem q602 : (Jvm.Cond.lays "LullabygateLaw$Out" "LullabygateLaw$Out" "s" "Ljava/lang/String;") ∈ lw_all := lw_g (lw_at lw_m3 43 rfl) rfl
theorem q603 : (Jvm.Cond.soleField "LullabygateLaw$Out" "s") ∈ lw_all := lw_g (lw_at lw_m3 44 rfl) rfl
theorem q604 : (Jvm.Cond.superclass "LullabygateLaw$Out" "java/lang/Object") ∈ lw_all := lw_g (lw_at lw_m3 45 rfl) rfl
theorem q2012 : (Jvm.Cond.castable "LullabygateLaw$Out" "java/lang/Object") ∈ lw_tbl := lw_at lw_m9 13 rfl
theorem in_X6 : ∀ w ∈ wsX60, w ∈ lw_all := lw_in wsX60 [600, 602] (by decide +kernel) (by decide +kernel)
/-! Lullabygate$Gate -/
set_option maxRecDepth 100000
def RX7 : String := "Lullabygate$Gate"
def TX7 : u_T := fun k => match k with
  | 0 => ("Lullabygate$Gate", "one", "I", true)
  | 1 => ("Lullabygate$Gate", "other", "I", true)
  | 2 => ("Lullabygate$Gate", "from", "I", true)
  | 3 => ("Lullabygate$Gate", "hours", "I", true)
  | 4 => ("Lullabygate$Gate", "odds", "I", false)
  | 5 => ("Lullabygate$Gate", "watch", "I", false)
  | 6 => ("Lullabygate$Gate", "revoked", "[Z", false)
  | _ => ("Lullabygate$Gate", "queue", "Ljava/util/List;", true)
def tyX7 : Nat → FieldType := fun k => match k with
  | 0 => .int
  | 1 => .int
  | 2 => .int
  | 3 => .int
  | 4 => .int
  | 5 => .int
  | 6 => .array .boolean
  | _ => .object "java/util/List"
abbrev wsX70 : List Cond := u_ws RX7 TX7 8
theorem nmX7 : ∀ a, a < 8 → ∀ b, b < 8 → a ≠ b → (TX7 a).2.1 ≠ (TX7 b).2.1 := by decide +kernel
theorem tyX7_ok : ∀ k, k < 8 → parseFieldDescriptor (TX7 k).2.2.1 = some (tyX7 k) := by decide +kernel
abbrev cX7_hasLand : ByteArray := prog_3_method_4_code
def yX7_hasLand : MethodName := ⟨RX7, "hasLand", "(I)Z"⟩
def dkwX7_hasLand_0 : List UInt8 := [42, 180, 0, 26, 27, 159, 0, 11, 42, 180, 0, 29, 27, 160, 0, 7, 4, 167, 0, 4, 3, 172]
abbrev dktX7_hasLand_0 : List UInt8 := dkwX7_hasLand_0 ++ []
theorem dksX7_hasLand_0 : cX7_hasLand.data.toList.drop 0 = dktX7_hasLand_0 := by decide +kernel
theorem dX7_hasLand_0 : decode cX7_hasLand 0 = .ok (.aload_n 0, 1) := dk_42 (dk_at dksX7_hasLand_0 0 rfl rfl)
theorem dX7_hasLand_1 : decode cX7_hasLand 1 = .ok (.getfield 26, 3) := dk_180 0 26 (dk_at dksX7_hasLand_0 1 rfl rfl)
theorem dX7_hasLand_4 : decode cX7_hasLand 4 = .ok (.iload_n 1, 1) := dk_27 (dk_at dksX7_hasLand_0 4 rfl rfl)
theorem dX7_hasLand_5 : decode cX7_hasLand 5 = .ok (.if_icmp .eq 11, 3) := dk_159 0 11 (dk_at dksX7_hasLand_0 5 rfl rfl)
theorem dX7_hasLand_8 : decode cX7_hasLand 8 = .ok (.aload_n 0, 1) := dk_42 (dk_at dksX7_hasLand_0 8 rfl rfl)
theorem dX7_hasLand_9 : decode cX7_hasLand 9 = .ok (.getfield 29, 3) := dk_180 0 29 (dk_at dksX7_hasLand_0 9 rfl rfl)
theorem dX7_hasLand_12 : decode cX7_hasLand 12 = .ok (.iload_n 1, 1) := dk_27 (dk_at dksX7_hasLand_0 12 rfl rfl)
theorem dX7_hasLand_13 : decode cX7_hasLand 13 = .ok (.if_icmp .ne 7, 3) := dk_160 0 7 (dk_at dksX7_hasLand_0 13 rfl rfl)
theorem dX7_hasLand_16 : decode cX7_hasLand 16 = .ok (.iconst 1, 1) := dk_4 (dk_at dksX7_hasLand_0 16 rfl rfl)
theorem dX7_hasLand_17 : decode cX7_hasLand 17 = .ok (.goto 4, 3) := dk_167 0 4 (dk_at dksX7_hasLand_0 17 rfl rfl)
theorem dX7_hasLand_20 : decode cX7_hasLand 20 = .ok (.iconst 0, 1) := dk_3 (dk_at dksX7_hasLand_0 20 rfl rfl)
theorem dX7_hasLand_21 : decode cX7_hasLand 21 = .ok (.ireturn, 1) := dk_172 (dk_at dksX7_hasLand_0 21 rfl rfl)
abbrev cX7_place : ByteArray := prog_3_method_7_code
def yX7_place : MethodName := ⟨RX7, "place", "(LLullabygate$Sleeper;)I"⟩
def dkwX7_place_1 : List UInt8 := [185, 0, 51, 2, 0, 43, 166, 0, 5, 28, 172, 132, 2, 1, 167, 255, 224, 2, 172]
abbrev dktX7_place_1 : List UInt8 := dkwX7_place_1 ++ []
def dkwX7_place_0 : List UInt8 := [3, 61, 28, 42, 180, 0, 22, 185, 0, 45, 1, 0, 162, 0, 25, 42, 180, 0, 22, 28]
abbrev dktX7_place_0 : List UInt8 := dkwX7_place_0 ++ dktX7_place_1
theorem dksX7_place_0 : cX7_place.data.toList.drop 0 = dktX7_place_0 := by decide +kernel
theorem dksX7_place_1 : cX7_place.data.toList.drop 20 = dktX7_place_1 := dk_seg dksX7_place_0 20 rfl rfl
theorem dX7_place_0 : decode cX7_place 0 = .ok (.iconst 0, 1) := dk_3 (dk_at dksX7_place_0 0 rfl rfl)
theorem dX7_place_1 : decode cX7_place 1 = .ok (.istore_n 2, 1) := dk_61 (dk_at dksX7_place_0 1 rfl rfl)
theorem dX7_place_2 : decode cX7_place 2 = .ok (.iload_n 2, 1) := dk_28 (dk_at dksX7_place_0 2 rfl rfl)
theorem dX7_place_3 : decode cX7_place 3 = .ok (.aload_n 0, 1) := dk_42 (dk_at dksX7_place_0 3 rfl rfl)
theorem dX7_place_4 : decode cX7_place 4 = .ok (.getfield 22, 3) := dk_180 0 22 (dk_at dksX7_place_0 4 rfl rfl)
theorem dX7_place_7 : decode cX7_place 7 = .ok (.invokeinterface 45 1, 5) := by decide +kernel
theorem dX7_place_12 : decode cX7_place 12 = .ok (.if_icmp .ge 25, 3) := dk_162 0 25 (dk_at dksX7_place_0 12 rfl rfl)
theorem dX7_place_15 : decode cX7_place 15 = .ok (.aload_n 0, 1) := dk_42 (dk_at dksX7_place_0 15 rfl rfl)
theorem dX7_place_16 : decode cX7_place 16 = .ok (.getfield 22, 3) := dk_180 0 22 (dk_at dksX7_place_0 16 rfl rfl)
theorem dX7_place_19 : decode cX7_place 19 = .ok (.iload_n 2, 1) := dk_28 (dk_at dksX7_place_0 19 rfl rfl)
theorem dX7_place_20 : decode cX7_place 20 = .ok (.invokeinterface 51 2, 5) := by decide +kernel
theorem dX7_place_25 : decode cX7_place 25 = .ok (.aload_n 1, 1) := dk_43 (dk_at dksX7_place_1 5 rfl rfl)
theorem dX7_place_26 : decode cX7_place 26 = .ok (.if_acmp .ne 5, 3) := dk_166 0 5 (dk_at dksX7_place_1 6 rfl rfl)
theorem dX7_place_29 : decode cX7_place 29 = .ok (.iload_n 2, 1) := dk_28 (dk_at dksX7_place_1 9 rfl rfl)
theorem dX7_place_30 : decode cX7_place 30 = .ok (.ireturn, 1) := dk_172 (dk_at dksX7_place_1 10 rfl rfl)
theorem dX7_place_31 : decode cX7_place 31 = .ok (.iinc 2 1, 3) := dk_132 2 1 (dk_at dksX7_place_1 11 rfl rfl)
theorem dX7_place_34 : decode cX7_place 34 = .ok (.goto (-32), 3) := dk_167 255 224 (dk_at dksX7_place_1 14 rfl rfl)
theorem dX7_place_37 : decode cX7_place 37 = .ok (.iconst (-1), 1) := dk_2 (dk_at dksX7_place_1 17 rfl rfl)
theorem dX7_place_38 : decode cX7_place 38 = .ok (.ireturn, 1) := dk_172 (dk_at dksX7_place_1 18 rfl rfl)
abbrev cX7_isOpen : ByteArray := prog_3_method_2_code
def yX7_isOpen : MethodName := ⟨RX7, "isOpen", "(I)Z"⟩
def dkwX7_isOpen_1 : List UInt8 := [172]
abbrev dktX7_isOpen_1 : List UInt8 := dkwX7_isOpen_1 ++ []
def dkwX7_isOpen_0 : List UInt8 := [27, 42, 180, 0, 32, 100, 16, 24, 96, 16, 24, 112, 42, 180, 0, 35, 162, 0, 7, 4, 167, 0, 4, 3]
abbrev dktX7_isOpen_0 : List UInt8 := dkwX7_isOpen_0 ++ dktX7_isOpen_1
theorem dksX7_isOpen_0 : cX7_isOpen.data.toList.drop 0 = dktX7_isOpen_0 := by decide +kernel
theorem dksX7_isOpen_1 : cX7_isOpen.data.toList.drop 24 = dktX7_isOpen_1 := dk_seg dksX7_isOpen_0 24 rfl rfl
theorem dX7_isOpen_0 : decode cX7_isOpen 0 = .ok (.iload_n 1, 1) := dk_27 (dk_at dksX7_isOpen_0 0 rfl rfl)
theorem dX7_isOpen_1 : decode cX7_isOpen 1 = .ok (.aload_n 0, 1) := dk_42 (dk_at dksX7_isOpen_0 1 rfl rfl)
theorem dX7_isOpen_2 : decode cX7_isOpen 2 = .ok (.getfield 32, 3) := dk_180 0 32 (dk_at dksX7_isOpen_0 2 rfl rfl)
theorem dX7_isOpen_5 : decode cX7_isOpen 5 = .ok (.isub, 1) := dk_100 (dk_at dksX7_isOpen_0 5 rfl rfl)
theorem dX7_isOpen_6 : decode cX7_isOpen 6 = .ok (.bipush 24, 2) := dk_16 24 (dk_at dksX7_isOpen_0 6 rfl rfl)
theorem dX7_isOpen_8 : decode cX7_isOpen 8 = .ok (.iadd, 1) := dk_96 (dk_at dksX7_isOpen_0 8 rfl rfl)
theorem dX7_isOpen_9 : decode cX7_isOpen 9 = .ok (.bipush 24, 2) := dk_16 24 (dk_at dksX7_isOpen_0 9 rfl rfl)
theorem dX7_isOpen_11 : decode cX7_isOpen 11 = .ok (.irem, 1) := dk_112 (dk_at dksX7_isOpen_0 11 rfl rfl)
theorem dX7_isOpen_12 : decode cX7_isOpen 12 = .ok (.aload_n 0, 1) := dk_42 (dk_at dksX7_isOpen_0 12 rfl rfl)
theorem dX7_isOpen_13 : decode cX7_isOpen 13 = .ok (.getfield 35, 3) := dk_180 0 35 (dk_at dksX7_isOpen_0 13 rfl rfl)
theorem dX7_isOpen_16 : decode cX7_isOpen 16 = .ok (.if_icmp .ge 7, 3) := dk_162 0 7 (dk_at dksX7_isOpen_0 16 rfl rfl)
theorem dX7_isOpen_19 : decode cX7_isOpen 19 = .ok (.iconst 1, 1) := dk_4 (dk_at dksX7_isOpen_0 19 rfl rfl)
theorem dX7_isOpen_20 : decode cX7_isOpen 20 = .ok (.goto 4, 3) := dk_167 0 4 (dk_at dksX7_isOpen_0 20 rfl rfl)
theorem dX7_isOpen_23 : decode cX7_isOpen 23 = .ok (.iconst 0, 1) := dk_3 (dk_at dksX7_isOpen_0 23 rfl rfl)
theorem dX7_isOpen_24 : decode cX7_isOpen 24 = .ok (.ireturn, 1) := dk_172 (dk_at dksX7_isOpen_1 0 rfl rfl)
abbrev cX7_isDozing : ByteArray := prog_3_method_3_code
def yX7_isDozing : MethodName := ⟨RX7, "isDozing", "()Z"⟩
def dkwX7_isDozing_0 : List UInt8 := [42, 180, 0, 38, 8, 161, 0, 7, 4, 167, 0, 4, 3, 172]
abbrev dktX7_isDozing_0 : List UInt8 := dkwX7_isDozing_0 ++ []
theorem dksX7_isDozing_0 : cX7_isDozing.data.toList.drop 0 = dktX7_isDozing_0 := by decide +kernel
theorem dX7_isDozing_0 : decode cX7_isDozing 0 = .ok (.aload_n 0, 1) := dk_42 (dk_at dksX7_isDozing_0 0 rfl rfl)
theorem dX7_isDozing_1 : decode cX7_isDozing 1 = .ok (.getfield 38, 3) := dk_180 0 38 (dk_at dksX7_isDozing_0 1 rfl rfl)
theorem dX7_isDozing_4 : decode cX7_isDozing 4 = .ok (.iconst 5, 1) := dk_8 (dk_at dksX7_isDozing_0 4 rfl rfl)
theorem dX7_isDozing_5 : decode cX7_isDozing 5 = .ok (.if_icmp .lt 7, 3) := dk_161 0 7 (dk_at dksX7_isDozing_0 5 rfl rfl)
theorem dX7_isDozing_8 : decode cX7_isDozing 8 = .ok (.iconst 1, 1) := dk_4 (dk_at dksX7_isDozing_0 8 rfl rfl)
theorem dX7_isDozing_9 : decode cX7_isDozing 9 = .ok (.goto 4, 3) := dk_167 0 4 (dk_at dksX7_isDozing_0 9 rfl rfl)
theorem dX7_isDozing_12 : decode cX7_isDozing 12 = .ok (.iconst 0, 1) := dk_3 (dk_at dksX7_isDozing_0 12 rfl rfl)
theorem dX7_isDozing_13 : decode cX7_isDozing 13 = .ok (.ireturn, 1) := dk_172 (dk_at dksX7_isDozing_0 13 rfl rfl)
abbrev cX7_many : ByteArray := prog_3_method_9_code
def yX7_many : MethodName := ⟨RX7, "many", "()I"⟩
def dkwX7_many_1 : List UInt8 := [54, 5, 27, 21, 5, 153, 0, 7, 4, 167, 0, 4, 3, 96, 60, 132, 4, 1, 167, 255, 228, 27, 172]
abbrev dktX7_many_1 : List UInt8 := dkwX7_many_1 ++ []
def dkwX7_many_0 : List UInt8 := [3, 60, 42, 180, 0, 15, 77, 44, 190, 62, 3, 54, 4, 21, 4, 29, 162, 0, 28, 44, 21, 4, 51]
abbrev dktX7_many_0 : List UInt8 := dkwX7_many_0 ++ dktX7_many_1
theorem dksX7_many_0 : cX7_many.data.toList.drop 0 = dktX7_many_0 := by decide +kernel
theorem dksX7_many_1 : cX7_many.data.toList.drop 23 = dktX7_many_1 := dk_seg dksX7_many_0 23 rfl rfl
theorem dX7_many_0 : decode cX7_many 0 = .ok (.iconst 0, 1) := dk_3 (dk_at dksX7_many_0 0 rfl rfl)
theorem dX7_many_1 : decode cX7_many 1 = .ok (.istore_n 1, 1) := dk_60 (dk_at dksX7_many_0 1 rfl rfl)
theorem dX7_many_2 : decode cX7_many 2 = .ok (.aload_n 0, 1) := dk_42 (dk_at dksX7_many_0 2 rfl rfl)
theorem dX7_many_3 : decode cX7_many 3 = .ok (.getfield 15, 3) := dk_180 0 15 (dk_at dksX7_many_0 3 rfl rfl)
theorem dX7_many_6 : decode cX7_many 6 = .ok (.astore_n 2, 1) := dk_77 (dk_at dksX7_many_0 6 rfl rfl)
theorem dX7_many_7 : decode cX7_many 7 = .ok (.aload_n 2, 1) := dk_44 (dk_at dksX7_many_0 7 rfl rfl)
theorem dX7_many_8 : decode cX7_many 8 = .ok (.arraylength, 1) := dk_190 (dk_at dksX7_many_0 8 rfl rfl)
theorem dX7_many_9 : decode cX7_many 9 = .ok (.istore_n 3, 1) := dk_62 (dk_at dksX7_many_0 9 rfl rfl)
theorem dX7_many_10 : decode cX7_many 10 = .ok (.iconst 0, 1) := dk_3 (dk_at dksX7_many_0 10 rfl rfl)
theorem dX7_many_11 : decode cX7_many 11 = .ok (.istore 4, 2) := dk_54 4 (dk_at dksX7_many_0 11 rfl rfl)
theorem dX7_many_13 : decode cX7_many 13 = .ok (.iload 4, 2) := dk_21 4 (dk_at dksX7_many_0 13 rfl rfl)
theorem dX7_many_15 : decode cX7_many 15 = .ok (.iload_n 3, 1) := dk_29 (dk_at dksX7_many_0 15 rfl rfl)
theorem dX7_many_16 : decode cX7_many 16 = .ok (.if_icmp .ge 28, 3) := dk_162 0 28 (dk_at dksX7_many_0 16 rfl rfl)
theorem dX7_many_19 : decode cX7_many 19 = .ok (.aload_n 2, 1) := dk_44 (dk_at dksX7_many_0 19 rfl rfl)
theorem dX7_many_20 : decode cX7_many 20 = .ok (.iload 4, 2) := dk_21 4 (dk_at dksX7_many_0 20 rfl rfl)
theorem dX7_many_22 : decode cX7_many 22 = .ok (.baload, 1) := dk_51 (dk_at dksX7_many_0 22 rfl rfl)
theorem dX7_many_23 : decode cX7_many 23 = .ok (.istore 5, 2) := dk_54 5 (dk_at dksX7_many_1 0 rfl rfl)
theorem dX7_many_25 : decode cX7_many 25 = .ok (.iload_n 1, 1) := dk_27 (dk_at dksX7_many_1 2 rfl rfl)
theorem dX7_many_26 : decode cX7_many 26 = .ok (.iload 5, 2) := dk_21 5 (dk_at dksX7_many_1 3 rfl rfl)
theorem dX7_many_28 : decode cX7_many 28 = .ok (.ifCond .eq 7, 3) := dk_153 0 7 (dk_at dksX7_many_1 5 rfl rfl)
theorem dX7_many_31 : decode cX7_many 31 = .ok (.iconst 1, 1) := dk_4 (dk_at dksX7_many_1 8 rfl rfl)
theorem dX7_many_32 : decode cX7_many 32 = .ok (.goto 4, 3) := dk_167 0 4 (dk_at dksX7_many_1 9 rfl rfl)
theorem dX7_many_35 : decode cX7_many 35 = .ok (.iconst 0, 1) := dk_3 (dk_at dksX7_many_1 12 rfl rfl)
theorem dX7_many_36 : decode cX7_many 36 = .ok (.iadd, 1) := dk_96 (dk_at dksX7_many_1 13 rfl rfl)
theorem dX7_many_37 : decode cX7_many 37 = .ok (.istore_n 1, 1) := dk_60 (dk_at dksX7_many_1 14 rfl rfl)
theorem dX7_many_38 : decode cX7_many 38 = .ok (.iinc 4 1, 3) := dk_132 4 1 (dk_at dksX7_many_1 15 rfl rfl)
theorem dX7_many_41 : decode cX7_many 41 = .ok (.goto (-28), 3) := dk_167 255 228 (dk_at dksX7_many_1 18 rfl rfl)
theorem dX7_many_44 : decode cX7_many 44 = .ok (.iload_n 1, 1) := dk_27 (dk_at dksX7_many_1 21 rfl rfl)
theorem dX7_many_45 : decode cX7_many 45 = .ok (.ireturn, 1) := dk_172 (dk_at dksX7_many_1 22 rfl rfl)
abbrev cX7_across : ByteArray := prog_3_method_6_code
def yX7_across : MethodName := ⟨RX7, "across", "(I)I"⟩
def dkwX7_across_0 : List UInt8 := [27, 42, 180, 0, 26, 160, 0, 10, 42, 180, 0, 29, 167, 0, 7, 42, 180, 0, 26, 172]
abbrev dktX7_across_0 : List UInt8 := dkwX7_across_0 ++ []
theorem dksX7_across_0 : cX7_across.data.toList.drop 0 = dktX7_across_0 := by decide +kernel
theorem dX7_across_0 : decode cX7_across 0 = .ok (.iload_n 1, 1) := dk_27 (dk_at dksX7_across_0 0 rfl rfl)
theorem dX7_across_1 : decode cX7_across 1 = .ok (.aload_n 0, 1) := dk_42 (dk_at dksX7_across_0 1 rfl rfl)
theorem dX7_across_2 : decode cX7_across 2 = .ok (.getfield 26, 3) := dk_180 0 26 (dk_at dksX7_across_0 2 rfl rfl)
theorem dX7_across_5 : decode cX7_across 5 = .ok (.if_icmp .ne 10, 3) := dk_160 0 10 (dk_at dksX7_across_0 5 rfl rfl)
theorem dX7_across_8 : decode cX7_across 8 = .ok (.aload_n 0, 1) := dk_42 (dk_at dksX7_across_0 8 rfl rfl)
theorem dX7_across_9 : decode cX7_across 9 = .ok (.getfield 29, 3) := dk_180 0 29 (dk_at dksX7_across_0 9 rfl rfl)
theorem dX7_across_12 : decode cX7_across 12 = .ok (.goto 7, 3) := dk_167 0 7 (dk_at dksX7_across_0 12 rfl rfl)
theorem dX7_across_15 : decode cX7_across 15 = .ok (.aload_n 0, 1) := dk_42 (dk_at dksX7_across_0 15 rfl rfl)
theorem dX7_across_16 : decode cX7_across 16 = .ok (.getfield 26, 3) := dk_180 0 26 (dk_at dksX7_across_0 16 rfl rfl)
theorem dX7_across_19 : decode cX7_across 19 = .ok (.ireturn, 1) := dk_172 (dk_at dksX7_across_0 19 rfl rfl)
abbrev cX7_init : ByteArray := prog_3_method_1_code
def yX7_init : MethodName := ⟨RX7, "<init>", "(IIII)V"⟩
def dkwX7_init_2 : List UInt8 := [181, 0, 35, 177]
abbrev dktX7_init_2 : List UInt8 := dkwX7_init_2 ++ []
def dkwX7_init_1 : List UInt8 := [183, 0, 21, 181, 0, 22, 42, 27, 181, 0, 26, 42, 28, 181, 0, 29, 42, 29, 181, 0, 32, 42, 21, 4]
abbrev dktX7_init_1 : List UInt8 := dkwX7_init_1 ++ dktX7_init_2
def dkwX7_init_0 : List UInt8 := [42, 183, 0, 3, 42, 8, 181, 0, 9, 42, 16, 97, 188, 4, 181, 0, 15, 42, 187, 0, 19, 89]
abbrev dktX7_init_0 : List UInt8 := dkwX7_init_0 ++ dktX7_init_1
theorem dksX7_init_0 : cX7_init.data.toList.drop 0 = dktX7_init_0 := by decide +kernel
theorem dksX7_init_1 : cX7_init.data.toList.drop 22 = dktX7_init_1 := dk_seg dksX7_init_0 22 rfl rfl
theorem dksX7_init_2 : cX7_init.data.toList.drop 46 = dktX7_init_2 := dk_seg dksX7_init_1 24 rfl rfl
theorem dX7_init_0 : decode cX7_init 0 = .ok (.aload_n 0, 1) := dk_42 (dk_at dksX7_init_0 0 rfl rfl)
theorem dX7_init_1 : decode cX7_init 1 = .ok (.invokespecial 3, 3) := dk_183 0 3 (dk_at dksX7_init_0 1 rfl rfl)
theorem dX7_init_4 : decode cX7_init 4 = .ok (.aload_n 0, 1) := dk_42 (dk_at dksX7_init_0 4 rfl rfl)
theorem dX7_init_5 : decode cX7_init 5 = .ok (.iconst 5, 1) := dk_8 (dk_at dksX7_init_0 5 rfl rfl)
theorem dX7_init_6 : decode cX7_init 6 = .ok (.putfield 9, 3) := dk_181 0 9 (dk_at dksX7_init_0 6 rfl rfl)
theorem dX7_init_9 : decode cX7_init 9 = .ok (.aload_n 0, 1) := dk_42 (dk_at dksX7_init_0 9 rfl rfl)
theorem dX7_init_10 : decode cX7_init 10 = .ok (.bipush 97, 2) := dk_16 97 (dk_at dksX7_init_0 10 rfl rfl)
theorem dX7_init_12 : decode cX7_init 12 = .ok (.newarray .boolean, 2) := dk_188_4 (dk_at dksX7_init_0 12 rfl rfl)
theorem dX7_init_14 : decode cX7_init 14 = .ok (.putfield 15, 3) := dk_181 0 15 (dk_at dksX7_init_0 14 rfl rfl)
theorem dX7_init_17 : decode cX7_init 17 = .ok (.aload_n 0, 1) := dk_42 (dk_at dksX7_init_0 17 rfl rfl)
theorem dX7_init_18 : decode cX7_init 18 = .ok (.new 19, 3) := dk_187 0 19 (dk_at dksX7_init_0 18 rfl rfl)
theorem dX7_init_21 : decode cX7_init 21 = .ok (.dup, 1) := dk_89 (dk_at dksX7_init_0 21 rfl rfl)
theorem dX7_init_22 : decode cX7_init 22 = .ok (.invokespecial 21, 3) := dk_183 0 21 (dk_at dksX7_init_1 0 rfl rfl)
theorem dX7_init_25 : decode cX7_init 25 = .ok (.putfield 22, 3) := dk_181 0 22 (dk_at dksX7_init_1 3 rfl rfl)
theorem dX7_init_28 : decode cX7_init 28 = .ok (.aload_n 0, 1) := dk_42 (dk_at dksX7_init_1 6 rfl rfl)
theorem dX7_init_29 : decode cX7_init 29 = .ok (.iload_n 1, 1) := dk_27 (dk_at dksX7_init_1 7 rfl rfl)
theorem dX7_init_30 : decode cX7_init 30 = .ok (.putfield 26, 3) := dk_181 0 26 (dk_at dksX7_init_1 8 rfl rfl)
theorem dX7_init_33 : decode cX7_init 33 = .ok (.aload_n 0, 1) := dk_42 (dk_at dksX7_init_1 11 rfl rfl)
theorem dX7_init_34 : decode cX7_init 34 = .ok (.iload_n 2, 1) := dk_28 (dk_at dksX7_init_1 12 rfl rfl)
theorem dX7_init_35 : decode cX7_init 35 = .ok (.putfield 29, 3) := dk_181 0 29 (dk_at dksX7_init_1 13 rfl rfl)
theorem dX7_init_38 : decode cX7_init 38 = .ok (.aload_n 0, 1) := dk_42 (dk_at dksX7_init_1 16 rfl rfl)
theorem dX7_init_39 : decode cX7_init 39 = .ok (.iload_n 3, 1) := dk_29 (dk_at dksX7_init_1 17 rfl rfl)
theorem dX7_init_40 : decode cX7_init 40 = .ok (.putfield 32, 3) := dk_181 0 32 (dk_at dksX7_init_1 18 rfl rfl)
theorem dX7_init_43 : decode cX7_init 43 = .ok (.aload_n 0, 1) := dk_42 (dk_at dksX7_init_1 21 rfl rfl)
theorem dX7_init_44 : decode cX7_init 44 = .ok (.iload 4, 2) := dk_21 4 (dk_at dksX7_init_1 22 rfl rfl)
theorem dX7_init_46 : decode cX7_init 46 = .ok (.putfield 35, 3) := dk_181 0 35 (dk_at dksX7_init_2 0 rfl rfl)
theorem dX7_init_49 : decode cX7_init 49 = .ok (.return_, 1) := dk_177 (dk_at dksX7_init_2 3 rfl rfl)
abbrev cX7_enter : ByteArray := prog_3_method_8_code
def yX7_enter : MethodName := ⟨RX7, "enter", "(LLullabygate$Sleeper;)I"⟩
def dkwX7_enter_6 : List UInt8 := [167, 255, 221, 28, 172]
abbrev dktX7_enter_6 : List UInt8 := dkwX7_enter_6 ++ []
def dkwX7_enter_5 : List UInt8 := [42, 180, 0, 22, 45, 21, 4, 185, 0, 51, 2, 0, 192, 0, 56, 185, 0, 64, 2, 0, 87, 132, 4, 1]
abbrev dktX7_enter_5 : List UInt8 := dkwX7_enter_5 ++ dktX7_enter_6
def dkwX7_enter_4 : List UInt8 := [180, 0, 22, 43, 185, 0, 64, 2, 0, 87, 3, 54, 4, 21, 4, 45, 185, 0, 45, 1, 0, 162, 0, 30]
abbrev dktX7_enter_4 : List UInt8 := dkwX7_enter_4 ++ dktX7_enter_5
def dkwX7_enter_3 : List UInt8 := [180, 0, 22, 28, 185, 0, 61, 2, 0, 192, 0, 56, 185, 0, 64, 2, 0, 87, 167, 255, 223, 42]
abbrev dktX7_enter_3 : List UInt8 := dkwX7_enter_3 ++ dktX7_enter_4
def dkwX7_enter_2 : List UInt8 := [187, 0, 19, 89, 183, 0, 21, 78, 42, 180, 0, 22, 185, 0, 45, 1, 0, 28, 164, 0, 26, 45, 42]
abbrev dktX7_enter_2 : List UInt8 := dkwX7_enter_2 ++ dktX7_enter_3
def dkwX7_enter_1 : List UInt8 := [180, 0, 22, 28, 185, 0, 51, 2, 0, 192, 0, 56, 180, 0, 55, 153, 0, 9, 132, 2, 1, 167, 255, 214]
abbrev dktX7_enter_1 : List UInt8 := dkwX7_enter_1 ++ dktX7_enter_2
def dkwX7_enter_0 : List UInt8 := [3, 61, 28, 42, 180, 0, 22, 185, 0, 45, 1, 0, 162, 0, 35, 43, 180, 0, 55, 153, 0, 22, 42]
abbrev dktX7_enter_0 : List UInt8 := dkwX7_enter_0 ++ dktX7_enter_1
theorem dksX7_enter_0 : cX7_enter.data.toList.drop 0 = dktX7_enter_0 := by decide +kernel
theorem dksX7_enter_1 : cX7_enter.data.toList.drop 23 = dktX7_enter_1 := dk_seg dksX7_enter_0 23 rfl rfl
theorem dksX7_enter_2 : cX7_enter.data.toList.drop 47 = dktX7_enter_2 := dk_seg dksX7_enter_1 24 rfl rfl
theorem dksX7_enter_3 : cX7_enter.data.toList.drop 70 = dktX7_enter_3 := dk_seg dksX7_enter_2 23 rfl rfl
theorem dksX7_enter_4 : cX7_enter.data.toList.drop 92 = dktX7_enter_4 := dk_seg dksX7_enter_3 22 rfl rfl
theorem dksX7_enter_5 : cX7_enter.data.toList.drop 116 = dktX7_enter_5 := dk_seg dksX7_enter_4 24 rfl rfl
theorem dksX7_enter_6 : cX7_enter.data.toList.drop 140 = dktX7_enter_6 := dk_seg dksX7_enter_5 24 rfl rfl
theorem dX7_enter_0 : decode cX7_enter 0 = .ok (.iconst 0, 1) := dk_3 (dk_at dksX7_enter_0 0 rfl rfl)
theorem dX7_enter_1 : decode cX7_enter 1 = .ok (.istore_n 2, 1) := dk_61 (dk_at dksX7_enter_0 1 rfl rfl)
theorem dX7_enter_2 : decode cX7_enter 2 = .ok (.iload_n 2, 1) := dk_28 (dk_at dksX7_enter_0 2 rfl rfl)
theorem dX7_enter_3 : decode cX7_enter 3 = .ok (.aload_n 0, 1) := dk_42 (dk_at dksX7_enter_0 3 rfl rfl)
theorem dX7_enter_4 : decode cX7_enter 4 = .ok (.getfield 22, 3) := dk_180 0 22 (dk_at dksX7_enter_0 4 rfl rfl)
theorem dX7_enter_7 : decode cX7_enter 7 = .ok (.invokeinterface 45 1, 5) := by decide +kernel
theorem dX7_enter_12 : decode cX7_enter 12 = .ok (.if_icmp .ge 35, 3) := dk_162 0 35 (dk_at dksX7_enter_0 12 rfl rfl)
theorem dX7_enter_15 : decode cX7_enter 15 = .ok (.aload_n 1, 1) := dk_43 (dk_at dksX7_enter_0 15 rfl rfl)
theorem dX7_enter_16 : decode cX7_enter 16 = .ok (.getfield 55, 3) := dk_180 0 55 (dk_at dksX7_enter_0 16 rfl rfl)
theorem dX7_enter_19 : decode cX7_enter 19 = .ok (.ifCond .eq 22, 3) := dk_153 0 22 (dk_at dksX7_enter_0 19 rfl rfl)
theorem dX7_enter_22 : decode cX7_enter 22 = .ok (.aload_n 0, 1) := dk_42 (dk_at dksX7_enter_0 22 rfl rfl)
theorem dX7_enter_23 : decode cX7_enter 23 = .ok (.getfield 22, 3) := dk_180 0 22 (dk_at dksX7_enter_1 0 rfl rfl)
theorem dX7_enter_26 : decode cX7_enter 26 = .ok (.iload_n 2, 1) := dk_28 (dk_at dksX7_enter_1 3 rfl rfl)
theorem dX7_enter_27 : decode cX7_enter 27 = .ok (.invokeinterface 51 2, 5) := by decide +kernel
theorem dX7_enter_32 : decode cX7_enter 32 = .ok (.checkcast 56, 3) := dk_192 0 56 (dk_at dksX7_enter_1 9 rfl rfl)
theorem dX7_enter_35 : decode cX7_enter 35 = .ok (.getfield 55, 3) := dk_180 0 55 (dk_at dksX7_enter_1 12 rfl rfl)
theorem dX7_enter_38 : decode cX7_enter 38 = .ok (.ifCond .eq 9, 3) := dk_153 0 9 (dk_at dksX7_enter_1 15 rfl rfl)
theorem dX7_enter_41 : decode cX7_enter 41 = .ok (.iinc 2 1, 3) := dk_132 2 1 (dk_at dksX7_enter_1 18 rfl rfl)
theorem dX7_enter_44 : decode cX7_enter 44 = .ok (.goto (-42), 3) := dk_167 255 214 (dk_at dksX7_enter_1 21 rfl rfl)
theorem dX7_enter_47 : decode cX7_enter 47 = .ok (.new 19, 3) := dk_187 0 19 (dk_at dksX7_enter_2 0 rfl rfl)
theorem dX7_enter_50 : decode cX7_enter 50 = .ok (.dup, 1) := dk_89 (dk_at dksX7_enter_2 3 rfl rfl)
theorem dX7_enter_51 : decode cX7_enter 51 = .ok (.invokespecial 21, 3) := dk_183 0 21 (dk_at dksX7_enter_2 4 rfl rfl)
theorem dX7_enter_54 : decode cX7_enter 54 = .ok (.astore_n 3, 1) := dk_78 (dk_at dksX7_enter_2 7 rfl rfl)
theorem dX7_enter_55 : decode cX7_enter 55 = .ok (.aload_n 0, 1) := dk_42 (dk_at dksX7_enter_2 8 rfl rfl)
theorem dX7_enter_56 : decode cX7_enter 56 = .ok (.getfield 22, 3) := dk_180 0 22 (dk_at dksX7_enter_2 9 rfl rfl)
theorem dX7_enter_59 : decode cX7_enter 59 = .ok (.invokeinterface 45 1, 5) := by decide +kernel
theorem dX7_enter_64 : decode cX7_enter 64 = .ok (.iload_n 2, 1) := dk_28 (dk_at dksX7_enter_2 17 rfl rfl)
theorem dX7_enter_65 : decode cX7_enter 65 = .ok (.if_icmp .le 26, 3) := dk_164 0 26 (dk_at dksX7_enter_2 18 rfl rfl)
theorem dX7_enter_68 : decode cX7_enter 68 = .ok (.aload_n 3, 1) := dk_45 (dk_at dksX7_enter_2 21 rfl rfl)
theorem dX7_enter_69 : decode cX7_enter 69 = .ok (.aload_n 0, 1) := dk_42 (dk_at dksX7_enter_2 22 rfl rfl)
theorem dX7_enter_70 : decode cX7_enter 70 = .ok (.getfield 22, 3) := dk_180 0 22 (dk_at dksX7_enter_3 0 rfl rfl)
theorem dX7_enter_73 : decode cX7_enter 73 = .ok (.iload_n 2, 1) := dk_28 (dk_at dksX7_enter_3 3 rfl rfl)
theorem dX7_enter_74 : decode cX7_enter 74 = .ok (.invokeinterface 61 2, 5) := by decide +kernel
theorem dX7_enter_79 : decode cX7_enter 79 = .ok (.checkcast 56, 3) := dk_192 0 56 (dk_at dksX7_enter_3 9 rfl rfl)
theorem dX7_enter_82 : decode cX7_enter 82 = .ok (.invokeinterface 64 2, 5) := by decide +kernel
theorem dX7_enter_87 : decode cX7_enter 87 = .ok (.pop, 1) := dk_87 (dk_at dksX7_enter_3 17 rfl rfl)
theorem dX7_enter_88 : decode cX7_enter 88 = .ok (.goto (-33), 3) := dk_167 255 223 (dk_at dksX7_enter_3 18 rfl rfl)
theorem dX7_enter_91 : decode cX7_enter 91 = .ok (.aload_n 0, 1) := dk_42 (dk_at dksX7_enter_3 21 rfl rfl)
theorem dX7_enter_92 : decode cX7_enter 92 = .ok (.getfield 22, 3) := dk_180 0 22 (dk_at dksX7_enter_4 0 rfl rfl)
theorem dX7_enter_95 : decode cX7_enter 95 = .ok (.aload_n 1, 1) := dk_43 (dk_at dksX7_enter_4 3 rfl rfl)
theorem dX7_enter_96 : decode cX7_enter 96 = .ok (.invokeinterface 64 2, 5) := by decide +kernel
theorem dX7_enter_101 : decode cX7_enter 101 = .ok (.pop, 1) := dk_87 (dk_at dksX7_enter_4 9 rfl rfl)
theorem dX7_enter_102 : decode cX7_enter 102 = .ok (.iconst 0, 1) := dk_3 (dk_at dksX7_enter_4 10 rfl rfl)
theorem dX7_enter_103 : decode cX7_enter 103 = .ok (.istore 4, 2) := dk_54 4 (dk_at dksX7_enter_4 11 rfl rfl)
theorem dX7_enter_105 : decode cX7_enter 105 = .ok (.iload 4, 2) := dk_21 4 (dk_at dksX7_enter_4 13 rfl rfl)
theorem dX7_enter_107 : decode cX7_enter 107 = .ok (.aload_n 3, 1) := dk_45 (dk_at dksX7_enter_4 15 rfl rfl)
theorem dX7_enter_108 : decode cX7_enter 108 = .ok (.invokeinterface 45 1, 5) := by decide +kernel
theorem dX7_enter_113 : decode cX7_enter 113 = .ok (.if_icmp .ge 30, 3) := dk_162 0 30 (dk_at dksX7_enter_4 21 rfl rfl)
theorem dX7_enter_116 : decode cX7_enter 116 = .ok (.aload_n 0, 1) := dk_42 (dk_at dksX7_enter_5 0 rfl rfl)
theorem dX7_enter_117 : decode cX7_enter 117 = .ok (.getfield 22, 3) := dk_180 0 22 (dk_at dksX7_enter_5 1 rfl rfl)
theorem dX7_enter_120 : decode cX7_enter 120 = .ok (.aload_n 3, 1) := dk_45 (dk_at dksX7_enter_5 4 rfl rfl)
theorem dX7_enter_121 : decode cX7_enter 121 = .ok (.iload 4, 2) := dk_21 4 (dk_at dksX7_enter_5 5 rfl rfl)
theorem dX7_enter_123 : decode cX7_enter 123 = .ok (.invokeinterface 51 2, 5) := by decide +kernel
theorem dX7_enter_128 : decode cX7_enter 128 = .ok (.checkcast 56, 3) := dk_192 0 56 (dk_at dksX7_enter_5 12 rfl rfl)
theorem dX7_enter_131 : decode cX7_enter 131 = .ok (.invokeinterface 64 2, 5) := by decide +kernel
theorem dX7_enter_136 : decode cX7_enter 136 = .ok (.pop, 1) := dk_87 (dk_at dksX7_enter_5 20 rfl rfl)
theorem dX7_enter_137 : decode cX7_enter 137 = .ok (.iinc 4 1, 3) := dk_132 4 1 (dk_at dksX7_enter_5 21 rfl rfl)
theorem dX7_enter_140 : decode cX7_enter 140 = .ok (.goto (-35), 3) := dk_167 255 221 (dk_at dksX7_enter_6 0 rfl rfl)
theorem dX7_enter_143 : decode cX7_enter 143 = .ok (.iload_n 2, 1) := dk_28 (dk_at dksX7_enter_6 3 rfl rfl)
theorem dX7_enter_144 : decode cX7_enter 144 = .ok (.ireturn, 1) := dk_172 (dk_at dksX7_enter_6 4 rfl rfl)
abbrev cX7_isBeside : ByteArray := prog_3_method_5_code
def yX7_isBeside : MethodName := ⟨RX7, "isBeside", "(LLullabygate$Gate;)Z"⟩
def dkwX7_isBeside_1 : List UInt8 := [167, 0, 4, 3, 172]
abbrev dktX7_isBeside_1 : List UInt8 := dkwX7_isBeside_1 ++ []
def dkwX7_isBeside_0 : List UInt8 := [42, 43, 180, 0, 26, 182, 0, 41, 154, 0, 14, 42, 43, 180, 0, 29, 182, 0, 41, 153, 0, 7, 4]
abbrev dktX7_isBeside_0 : List UInt8 := dkwX7_isBeside_0 ++ dktX7_isBeside_1
theorem dksX7_isBeside_0 : cX7_isBeside.data.toList.drop 0 = dktX7_isBeside_0 := by decide +kernel
theorem dksX7_isBeside_1 : cX7_isBeside.data.toList.drop 23 = dktX7_isBeside_1 := dk_seg dksX7_isBeside_0 23 rfl rfl
theorem dX7_isBeside_0 : decode cX7_isBeside 0 = .ok (.aload_n 0, 1) := dk_42 (dk_at dksX7_isBeside_0 0 rfl rfl)
theorem dX7_isBeside_1 : decode cX7_isBeside 1 = .ok (.aload_n 1, 1) := dk_43 (dk_at dksX7_isBeside_0 1 rfl rfl)
theorem dX7_isBeside_2 : decode cX7_isBeside 2 = .ok (.getfield 26, 3) := dk_180 0 26 (dk_at dksX7_isBeside_0 2 rfl rfl)
theorem dX7_isBeside_5 : decode cX7_isBeside 5 = .ok (.invokevirtual 41, 3) := dk_182 0 41 (dk_at dksX7_isBeside_0 5 rfl rfl)
theorem dX7_isBeside_8 : decode cX7_isBeside 8 = .ok (.ifCond .ne 14, 3) := dk_154 0 14 (dk_at dksX7_isBeside_0 8 rfl rfl)
theorem dX7_isBeside_11 : decode cX7_isBeside 11 = .ok (.aload_n 0, 1) := dk_42 (dk_at dksX7_isBeside_0 11 rfl rfl)
theorem dX7_isBeside_12 : decode cX7_isBeside 12 = .ok (.aload_n 1, 1) := dk_43 (dk_at dksX7_isBeside_0 12 rfl rfl)
theorem dX7_isBeside_13 : decode cX7_isBeside 13 = .ok (.getfield 29, 3) := dk_180 0 29 (dk_at dksX7_isBeside_0 13 rfl rfl)
theorem dX7_isBeside_16 : decode cX7_isBeside 16 = .ok (.invokevirtual 41, 3) := dk_182 0 41 (dk_at dksX7_isBeside_0 16 rfl rfl)
theorem dX7_isBeside_19 : decode cX7_isBeside 19 = .ok (.ifCond .eq 7, 3) := dk_153 0 7 (dk_at dksX7_isBeside_0 19 rfl rfl)
theorem dX7_isBeside_22 : decode cX7_isBeside 22 = .ok (.iconst 1, 1) := dk_4 (dk_at dksX7_isBeside_0 22 rfl rfl)
theorem dX7_isBeside_23 : decode cX7_isBeside 23 = .ok (.goto 4, 3) := dk_167 0 4 (dk_at dksX7_isBeside_1 0 rfl rfl)
theorem dX7_isBeside_26 : decode cX7_isBeside 26 = .ok (.iconst 0, 1) := dk_3 (dk_at dksX7_isBeside_1 3 rfl rfl)
theorem dX7_isBeside_27 : decode cX7_isBeside 27 = .ok (.ireturn, 1) := dk_172 (dk_at dksX7_isBeside_1 4 rfl rfl)
theorem q103 : (Jvm.Cond.initialized "Lullabygate$Gate") ∈ lw_all := lw_g (lw_at lw_m1 24 rfl) rfl
theorem q243 : (Jvm.Cond.selects "Lullabygate$Gate" ({ cls := "java/lang/Object", name := "getClass", desc := "()Ljava/lang/Class;" } : Jvm.MethodName) ({ cls := "java/lang/Object", name := "getClass", desc := "()Ljava/lang/Class;" } : Jvm.MethodName)) ∈ lw_all := lw_g (lw_at lw_m1 164 rfl) rfl
theorem q360 : (Jvm.Cond.instanceMethod ({ cls := "Lullabygate$Gate", name := "hasLand", desc := "(I)Z" } : Jvm.MethodName)) ∈ lw_all := lw_g (lw_at lw_m2 41 rfl) rfl
theorem q361 : (Jvm.Cond.selects "Lullabygate$Gate" ({ cls := "Lullabygate$Gate", name := "hasLand", desc := "(I)Z" } : Jvm.MethodName) ({ cls := "Lullabygate$Gate", name := "hasLand", desc := "(I)Z" } : Jvm.MethodName)) ∈ lw_all := lw_g (lw_at lw_m2 42 rfl) rfl
theorem q362 : (Jvm.Cond.code ({ cls := "Lullabygate$Gate", name := "hasLand", desc := "(I)Z" } : Jvm.MethodName) prog_3_method_4_code (2 : Nat) (Option.some Jvm.ClassFile.FieldType.boolean)) ∈ lw_all := lw_g (lw_at lw_m2 43 rfl) rfl
theorem q364 : (Jvm.Cond.instanceMethod ({ cls := "Lullabygate$Gate", name := "place", desc := "(LLullabygate$Sleeper;)I" } : Jvm.MethodName)) ∈ lw_all := lw_g (lw_at lw_m2 45 rfl) rfl
theorem q365 : (Jvm.Cond.selects "Lullabygate$Gate" ({ cls := "Lullabygate$Gate", name := "place", desc := "(LLullabygate$Sleeper;)I" } : Jvm.MethodName) ({ cls := "Lullabygate$Gate", name := "place", desc := "(LLullabygate$Sleeper;)I" } : Jvm.MethodName)) ∈ lw_all := lw_g (lw_at lw_m2 46 rfl) rfl
theorem q366 : (Jvm.Cond.code ({ cls := "Lullabygate$Gate", name := "place", desc := "(LLullabygate$Sleeper;)I" } : Jvm.MethodName) prog_3_method_7_code (3 : Nat) (Option.some Jvm.ClassFile.FieldType.int)) ∈ lw_all := lw_g (lw_at lw_m2 47 rfl) rfl
theorem q367 : (Jvm.Cond.interfaceEntry "Lullabygate$Gate" (45 : Nat)) ∈ lw_tbl := lw_at lw_m2 48 rfl
theorem q368 : (Jvm.Cond.methodLink "Lullabygate$Gate" (45 : Nat) ({ cls := "java/util/List", name := "size", desc := "()I" } : Jvm.MethodName)) ∈ lw_all := lw_g (lw_at lw_m2 49 rfl) rfl
theorem q369 : (Jvm.Cond.interfaceEntry "Lullabygate$Gate" (51 : Nat)) ∈ lw_tbl := lw_at lw_m2 50 rfl
theorem q370 : (Jvm.Cond.methodLink "Lullabygate$Gate" (51 : Nat) ({ cls := "java/util/List", name := "get", desc := "(I)Ljava/lang/Object;" } : Jvm.MethodName)) ∈ lw_all := lw_g (lw_at lw_m2 51 rfl) rfl
theorem q458 : (Jvm.Cond.instanceMethod ({ cls := "Lullabygate$Gate", name := "isOpen", desc := "(I)Z" } : Jvm.MethodName)) ∈ lw_all := lw_g (lw_at lw_m2 139 rfl) rfl
theorem q459 : (Jvm.Cond.selects "Lullabygate$Gate" ({ cls := "Lullabygate$Gate", name := "isOpen", desc := "(I)Z" } : Jvm.MethodName) ({ cls := "Lullabygate$Gate", name := "isOpen", desc := "(I)Z" } : Jvm.MethodName)) ∈ lw_all := lw_g (lw_at lw_m2 140 rfl) rfl
theorem q460 : (Jvm.Cond.code ({ cls := "Lullabygate$Gate", name := "isOpen", desc := "(I)Z" } : Jvm.MethodName) prog_3_method_2_code (2 : Nat) (Option.some Jvm.ClassFile.FieldType.boolean)) ∈ lw_all := lw_g (lw_at lw_m2 141 rfl) rfl
theorem q462 : (Jvm.Cond.instanceMethod ({ cls := "Lullabygate$Gate", name := "isDozing", desc := "()Z" } : Jvm.MethodName)) ∈ lw_all := lw_g (lw_at lw_m2 143 rfl) rfl
theorem q463 : (Jvm.Cond.selects "Lullabygate$Gate" ({ cls := "Lullabygate$Gate", name := "isDozing", desc := "()Z" } : Jvm.MethodName) ({ cls := "Lullabygate$Gate", name := "isDozing", desc := "()Z" } : Jvm.MethodName)) ∈ lw_all := lw_g (lw_at lw_m2 144 rfl) rfl
theorem q464 : (Jvm.Cond.code ({ cls := "Lullabygate$Gate", name := "isDozing", desc := "()Z" } : Jvm.MethodName) prog_3_method_3_code (1 : Nat) (Option.some Jvm.ClassFile.FieldType.boolean)) ∈ lw_all := lw_g (lw_at lw_m2 145 rfl) rfl
theorem q486 : (Jvm.Cond.instanceMethod ({ cls := "Lullabygate$Gate", name := "many", desc := "()I" } : Jvm.MethodName)) ∈ lw_all := lw_g (lw_at lw_m2 167 rfl) rfl
theorem q487 : (Jvm.Cond.selects "Lullabygate$Gate" ({ cls := "Lullabygate$Gate", name := "many", desc := "()I" } : Jvm.MethodName) ({ cls := "Lullabygate$Gate", name := "many", desc := "()I" } : Jvm.MethodName)) ∈ lw_all := lw_g (lw_at lw_m2 168 rfl) rfl
theorem q488 : (Jvm.Cond.code ({ cls := "Lullabygate$Gate", name := "many", desc := "()I" } : Jvm.MethodName) prog_3_method_9_code (6 : Nat) (Option.some Jvm.ClassFile.FieldType.int)) ∈ lw_all := lw_g (lw_at lw_m2 169 rfl) rfl
theorem q514 : (Jvm.Cond.instanceMethod ({ cls := "Lullabygate$Gate", name := "across", desc := "(I)I" } : Jvm.MethodName)) ∈ lw_all := lw_g (lw_at lw_m2 195 rfl) rfl
theorem q515 : (Jvm.Cond.selects "Lullabygate$Gate" ({ cls := "Lullabygate$Gate", name := "across", desc := "(I)I" } : Jvm.MethodName) ({ cls := "Lullabygate$Gate", name := "across", desc := "(I)I" } : Jvm.MethodName)) ∈ lw_all := lw_g (lw_at lw_m2 196 rfl) rfl
theorem q516 : (Jvm.Cond.code ({ cls := "Lullabygate$Gate", name := "across", desc := "(I)I" } : Jvm.MethodName) prog_3_method_6_code (2 : Nat) (Option.some Jvm.ClassFile.FieldType.int)) ∈ lw_all := lw_g (lw_at lw_m2 197 rfl) rfl
theorem q772 : (Jvm.Cond.instantiable "Lullabygate$Gate" (8 : Nat)) ∈ lw_all := lw_g (lw_at lw_m3 213 rfl) rfl
theorem q774 : (Jvm.Cond.instanceMethod ({ cls := "Lullabygate$Gate", name := "<init>", desc := "(IIII)V" } : Jvm.MethodName)) ∈ lw_all := lw_g (lw_at lw_m3 215 rfl) rfl
theorem q775 : (Jvm.Cond.code ({ cls := "Lullabygate$Gate", name := "<init>", desc := "(IIII)V" } : Jvm.MethodName) prog_3_method_1_code (5 : Nat) (Option.none : Option Jvm.ClassFile.FieldType)) ∈ lw_all := lw_g (lw_at lw_m3 216 rfl) rfl
theorem q776 : (Jvm.Cond.methodLink "Lullabygate$Gate" (3 : Nat) ({ cls := "java/lang/Object", name := "<init>", desc := "()V" } : Jvm.MethodName)) ∈ lw_all := lw_g (lw_at lw_m3 217 rfl) rfl
theorem q777 : (Jvm.Cond.classLink "Lullabygate$Gate" (19 : Nat) "java/util/ArrayList") ∈ lw_all := lw_g (lw_at lw_m3 218 rfl) rfl
theorem q778 : (Jvm.Cond.methodLink "Lullabygate$Gate" (21 : Nat) ({ cls := "java/util/ArrayList", name := "<init>", desc := "()V" } : Jvm.MethodName)) ∈ lw_all := lw_g (lw_at lw_m3 219 rfl) rfl
theorem q779 : (Jvm.Cond.fieldLink "Lullabygate$Gate" (26 : Nat) "Lullabygate$Gate" "one" "I") ∈ lw_all := lw_g (lw_at lw_m3 220 rfl) rfl
theorem q781 : (Jvm.Cond.fieldLink "Lullabygate$Gate" (29 : Nat) "Lullabygate$Gate" "other" "I") ∈ lw_all := lw_g (lw_at lw_m3 222 rfl) rfl
theorem q783 : (Jvm.Cond.fieldLink "Lullabygate$Gate" (32 : Nat) "Lullabygate$Gate" "from" "I") ∈ lw_all := lw_g (lw_at lw_m3 224 rfl) rfl
theorem q784 : (Jvm.Cond.fieldLink "Lullabygate$Gate" (35 : Nat) "Lullabygate$Gate" "hours" "I") ∈ lw_all := lw_g (lw_at lw_m3 225 rfl) rfl
theorem q785 : (Jvm.Cond.fieldLink "Lullabygate$Gate" (9 : Nat) "Lullabygate$Gate" "odds" "I") ∈ lw_all := lw_g (lw_at lw_m3 226 rfl) rfl
theorem q787 : (Jvm.Cond.fieldLink "Lullabygate$Gate" (38 : Nat) "Lullabygate$Gate" "watch" "I") ∈ lw_all := lw_g (lw_at lw_m3 228 rfl) rfl
theorem q789 : (Jvm.Cond.fieldLink "Lullabygate$Gate" (15 : Nat) "Lullabygate$Gate" "revoked" "[Z") ∈ lw_all := lw_g (lw_at lw_m3 230 rfl) rfl
theorem q791 : (Jvm.Cond.fieldLink "Lullabygate$Gate" (22 : Nat) "Lullabygate$Gate" "queue" "Ljava/util/List;") ∈ lw_all := lw_g (lw_at lw_m3 232 rfl) rfl
theorem q793 : (Jvm.Cond.laysFinal "Lullabygate$Gate" "Lullabygate$Gate" "one" "I") ∈ lw_all := lw_g (lw_at lw_m3 234 rfl) rfl
theorem q794 : (Jvm.Cond.soleField "Lullabygate$Gate" "one") ∈ lw_all := lw_g (lw_at lw_m3 235 rfl) rfl
theorem q795 : (Jvm.Cond.laysFinal "Lullabygate$Gate" "Lullabygate$Gate" "other" "I") ∈ lw_all := lw_g (lw_at lw_m3 236 rfl) rfl
theorem q796 : (Jvm.Cond.soleField "Lullabygate$Gate" "other") ∈ lw_all := lw_g (lw_at lw_m3 237 rfl) rfl
theorem q797 : (Jvm.Cond.laysFinal "Lullabygate$Gate" "Lullabygate$Gate" "from" "I") ∈ lw_all := lw_g (lw_at lw_m3 238 rfl) rfl
theorem q798 : (Jvm.Cond.soleField "Lullabygate$Gate" "from") ∈ lw_all := lw_g (lw_at lw_m3 239 rfl) rfl
theorem q799 : (Jvm.Cond.laysFinal "Lullabygate$Gate" "Lullabygate$Gate" "hours" "I") ∈ lw_all := lw_g (lw_at lw_m4 0 rfl) rfl
theorem q800 : (Jvm.Cond.soleField "Lullabygate$Gate" "hours") ∈ lw_all := lw_g (lw_at lw_m4 1 rfl) rfl
theorem q801 : (Jvm.Cond.lays "Lullabygate$Gate" "Lullabygate$Gate" "odds" "I") ∈ lw_all := lw_g (lw_at lw_m4 2 rfl) rfl
theorem q802 : (Jvm.Cond.soleField "Lullabygate$Gate" "odds") ∈ lw_all := lw_g (lw_at lw_m4 3 rfl) rfl
theorem q803 : (Jvm.Cond.lays "Lullabygate$Gate" "Lullabygate$Gate" "watch" "I") ∈ lw_all := lw_g (lw_at lw_m4 4 rfl) rfl
theorem q804 : (Jvm.Cond.soleField "Lullabygate$Gate" "watch") ∈ lw_all := lw_g (lw_at lw_m4 5 rfl) rfl
theorem q805 : (Jvm.Cond.lays "Lullabygate$Gate" "Lullabygate$Gate" "revoked" "[Z") ∈ lw_all := lw_g (lw_at lw_m4 6 rfl) rfl
theorem q806 : (Jvm.Cond.soleField "Lullabygate$Gate" "revoked") ∈ lw_all := lw_g (lw_at lw_m4 7 rfl) rfl
theorem q807 : (Jvm.Cond.laysFinal "Lullabygate$Gate" "Lullabygate$Gate" "queue" "Ljava/util/List;") ∈ lw_all := lw_g (lw_at lw_m4 8 rfl) rfl
theorem q808 : (Jvm.Cond.soleField "Lullabygate$Gate" "queue") ∈ lw_all := lw_g (lw_at lw_m4 9 rfl) rfl
theorem q809 : (Jvm.Cond.superclass "Lullabygate$Gate" "java/lang/Object") ∈ lw_all := lw_g (lw_at lw_m4 10 rfl) rfl
theorem q851 : (Jvm.Cond.fieldLinkNest "Lullabygate$Gate" (55 : Nat) "Lullabygate$Sleeper" "isBaby" "Z" "Lullabygate") ∈ lw_tbl := lw_at lw_m4 52 rfl
theorem q997 : (Jvm.Cond.instanceMethod ({ cls := "Lullabygate$Gate", name := "enter", desc := "(LLullabygate$Sleeper;)I" } : Jvm.MethodName)) ∈ lw_all := lw_g (lw_at lw_m4 198 rfl) rfl
theorem q998 : (Jvm.Cond.selects "Lullabygate$Gate" ({ cls := "Lullabygate$Gate", name := "enter", desc := "(LLullabygate$Sleeper;)I" } : Jvm.MethodName) ({ cls := "Lullabygate$Gate", name := "enter", desc := "(LLullabygate$Sleeper;)I" } : Jvm.MethodName)) ∈ lw_all := lw_g (lw_at lw_m4 199 rfl) rfl
theorem q999 : (Jvm.Cond.code ({ cls := "Lullabygate$Gate", name := "enter", desc := "(LLullabygate$Sleeper;)I" } : Jvm.MethodName) prog_3_method_8_code (5 : Nat) (Option.some Jvm.ClassFile.FieldType.int)) ∈ lw_all := lw_g (lw_at lw_m4 200 rfl) rfl
theorem q1000 : (Jvm.Cond.classLink "Lullabygate$Gate" (56 : Nat) "Lullabygate$Sleeper") ∈ lw_all := lw_g (lw_at lw_m4 201 rfl) rfl
theorem q1001 : (Jvm.Cond.interfaceEntry "Lullabygate$Gate" (61 : Nat)) ∈ lw_tbl := lw_at lw_m4 202 rfl
theorem q1002 : (Jvm.Cond.methodLink "Lullabygate$Gate" (61 : Nat) ({ cls := "java/util/List", name := "remove", desc := "(I)Ljava/lang/Object;" } : Jvm.MethodName)) ∈ lw_all := lw_g (lw_at lw_m4 203 rfl) rfl
theorem q1015 : (Jvm.Cond.interfaceEntry "Lullabygate$Gate" (64 : Nat)) ∈ lw_tbl := lw_at lw_m4 216 rfl
theorem q1016 : (Jvm.Cond.methodLink "Lullabygate$Gate" (64 : Nat) ({ cls := "java/util/List", name := "add", desc := "(Ljava/lang/Object;)Z" } : Jvm.MethodName)) ∈ lw_all := lw_g (lw_at lw_m4 217 rfl) rfl
theorem q1123 : (Jvm.Cond.instanceMethod ({ cls := "Lullabygate$Gate", name := "isBeside", desc := "(LLullabygate$Gate;)Z" } : Jvm.MethodName)) ∈ lw_all := lw_g (lw_at lw_m5 84 rfl) rfl
theorem q1124 : (Jvm.Cond.selects "Lullabygate$Gate" ({ cls := "Lullabygate$Gate", name := "isBeside", desc := "(LLullabygate$Gate;)Z" } : Jvm.MethodName) ({ cls := "Lullabygate$Gate", name := "isBeside", desc := "(LLullabygate$Gate;)Z" } : Jvm.MethodName)) ∈ lw_all := lw_g (lw_at lw_m5 85 rfl) rfl
theorem q1125 : (Jvm.Cond.code ({ cls := "Lullabygate$Gate", name := "isBeside", desc := "(LLullabygate$Gate;)Z" } : Jvm.MethodName) prog_3_method_5_code (2 : Nat) (Option.some Jvm.ClassFile.FieldType.boolean)) ∈ lw_all := lw_g (lw_at lw_m5 86 rfl) rfl
theorem q1126 : (Jvm.Cond.methodLink "Lullabygate$Gate" (41 : Nat) ({ cls := "Lullabygate$Gate", name := "hasLand", desc := "(I)Z" } : Jvm.MethodName)) ∈ lw_all := lw_g (lw_at lw_m5 87 rfl) rfl
theorem q2017 : (Jvm.Cond.castable "Lullabygate$Gate" "java/lang/Object") ∈ lw_tbl := lw_at lw_m9 18 rfl
theorem in_X7 : ∀ w ∈ wsX70, w ∈ lw_all := lw_in wsX70 [793, 795, 797, 799, 801, 803, 805, 807] (by decide +kernel) (by decide +kernel)
/-! LullabygateModel$Gate -/
set_option maxRecDepth 100000
def RX8 : String := "LullabygateModel$Gate"
def TX8 : u_T := fun k => match k with
  | 0 => ("LullabygateModel$Gate", "one", "I", false)
  | 1 => ("LullabygateModel$Gate", "other", "I", false)
  | 2 => ("LullabygateModel$Gate", "from", "I", false)
  | 3 => ("LullabygateModel$Gate", "hours", "I", false)
  | 4 => ("LullabygateModel$Gate", "odds", "I", false)
  | 5 => ("LullabygateModel$Gate", "watch", "I", false)
  | 6 => ("LullabygateModel$Gate", "queue", "Ljava/util/ArrayList;", true)
  | _ => ("LullabygateModel$Gate", "isRevoked", "[Z", true)
def tyX8 : Nat → FieldType := fun k => match k with
  | 0 => .int
  | 1 => .int
  | 2 => .int
  | 3 => .int
  | 4 => .int
  | 5 => .int
  | 6 => .object "java/util/ArrayList"
  | _ => .array .boolean
abbrev wsX80 : List Cond := u_ws RX8 TX8 8
theorem nmX8 : ∀ a, a < 8 → ∀ b, b < 8 → a ≠ b → (TX8 a).2.1 ≠ (TX8 b).2.1 := by decide +kernel
theorem tyX8_ok : ∀ k, k < 8 → parseFieldDescriptor (TX8 k).2.2.1 = some (tyX8 k) := by decide +kernel
abbrev cX8_init : ByteArray := prog_15_method_1_code
def yX8_init : MethodName := ⟨RX8, "<init>", "()V"⟩
def dkwX8_init_1 : List UInt8 := [188, 4, 181, 0, 22, 177]
abbrev dktX8_init_1 : List UInt8 := dkwX8_init_1 ++ []
def dkwX8_init_0 : List UInt8 := [42, 183, 0, 3, 42, 8, 181, 0, 9, 42, 187, 0, 15, 89, 183, 0, 17, 181, 0, 18, 42, 16, 97]
abbrev dktX8_init_0 : List UInt8 := dkwX8_init_0 ++ dktX8_init_1
theorem dksX8_init_0 : cX8_init.data.toList.drop 0 = dktX8_init_0 := by decide +kernel
theorem dksX8_init_1 : cX8_init.data.toList.drop 23 = dktX8_init_1 := dk_seg dksX8_init_0 23 rfl rfl
theorem dX8_init_0 : decode cX8_init 0 = .ok (.aload_n 0, 1) := dk_42 (dk_at dksX8_init_0 0 rfl rfl)
theorem dX8_init_1 : decode cX8_init 1 = .ok (.invokespecial 3, 3) := dk_183 0 3 (dk_at dksX8_init_0 1 rfl rfl)
theorem dX8_init_4 : decode cX8_init 4 = .ok (.aload_n 0, 1) := dk_42 (dk_at dksX8_init_0 4 rfl rfl)
theorem dX8_init_5 : decode cX8_init 5 = .ok (.iconst 5, 1) := dk_8 (dk_at dksX8_init_0 5 rfl rfl)
theorem dX8_init_6 : decode cX8_init 6 = .ok (.putfield 9, 3) := dk_181 0 9 (dk_at dksX8_init_0 6 rfl rfl)
theorem dX8_init_9 : decode cX8_init 9 = .ok (.aload_n 0, 1) := dk_42 (dk_at dksX8_init_0 9 rfl rfl)
theorem dX8_init_10 : decode cX8_init 10 = .ok (.new 15, 3) := dk_187 0 15 (dk_at dksX8_init_0 10 rfl rfl)
theorem dX8_init_13 : decode cX8_init 13 = .ok (.dup, 1) := dk_89 (dk_at dksX8_init_0 13 rfl rfl)
theorem dX8_init_14 : decode cX8_init 14 = .ok (.invokespecial 17, 3) := dk_183 0 17 (dk_at dksX8_init_0 14 rfl rfl)
theorem dX8_init_17 : decode cX8_init 17 = .ok (.putfield 18, 3) := dk_181 0 18 (dk_at dksX8_init_0 17 rfl rfl)
theorem dX8_init_20 : decode cX8_init 20 = .ok (.aload_n 0, 1) := dk_42 (dk_at dksX8_init_0 20 rfl rfl)
theorem dX8_init_21 : decode cX8_init 21 = .ok (.bipush 97, 2) := dk_16 97 (dk_at dksX8_init_0 21 rfl rfl)
theorem dX8_init_23 : decode cX8_init 23 = .ok (.newarray .boolean, 2) := dk_188_4 (dk_at dksX8_init_1 0 rfl rfl)
theorem dX8_init_25 : decode cX8_init 25 = .ok (.putfield 22, 3) := dk_181 0 22 (dk_at dksX8_init_1 2 rfl rfl)
theorem dX8_init_28 : decode cX8_init 28 = .ok (.return_, 1) := dk_177 (dk_at dksX8_init_1 5 rfl rfl)
abbrev cX8_has : ByteArray := prog_15_method_4_code
def yX8_has : MethodName := ⟨RX8, "has", "(I)Z"⟩
def dkwX8_has_0 : List UInt8 := [42, 180, 0, 35, 27, 159, 0, 11, 42, 180, 0, 38, 27, 160, 0, 7, 4, 167, 0, 4, 3, 172]
abbrev dktX8_has_0 : List UInt8 := dkwX8_has_0 ++ []
theorem dksX8_has_0 : cX8_has.data.toList.drop 0 = dktX8_has_0 := by decide +kernel
theorem dX8_has_0 : decode cX8_has 0 = .ok (.aload_n 0, 1) := dk_42 (dk_at dksX8_has_0 0 rfl rfl)
theorem dX8_has_1 : decode cX8_has 1 = .ok (.getfield 35, 3) := dk_180 0 35 (dk_at dksX8_has_0 1 rfl rfl)
theorem dX8_has_4 : decode cX8_has 4 = .ok (.iload_n 1, 1) := dk_27 (dk_at dksX8_has_0 4 rfl rfl)
theorem dX8_has_5 : decode cX8_has 5 = .ok (.if_icmp .eq 11, 3) := dk_159 0 11 (dk_at dksX8_has_0 5 rfl rfl)
theorem dX8_has_8 : decode cX8_has 8 = .ok (.aload_n 0, 1) := dk_42 (dk_at dksX8_has_0 8 rfl rfl)
theorem dX8_has_9 : decode cX8_has 9 = .ok (.getfield 38, 3) := dk_180 0 38 (dk_at dksX8_has_0 9 rfl rfl)
theorem dX8_has_12 : decode cX8_has 12 = .ok (.iload_n 1, 1) := dk_27 (dk_at dksX8_has_0 12 rfl rfl)
theorem dX8_has_13 : decode cX8_has 13 = .ok (.if_icmp .ne 7, 3) := dk_160 0 7 (dk_at dksX8_has_0 13 rfl rfl)
theorem dX8_has_16 : decode cX8_has 16 = .ok (.iconst 1, 1) := dk_4 (dk_at dksX8_has_0 16 rfl rfl)
theorem dX8_has_17 : decode cX8_has 17 = .ok (.goto 4, 3) := dk_167 0 4 (dk_at dksX8_has_0 17 rfl rfl)
theorem dX8_has_20 : decode cX8_has 20 = .ok (.iconst 0, 1) := dk_3 (dk_at dksX8_has_0 20 rfl rfl)
theorem dX8_has_21 : decode cX8_has 21 = .ok (.ireturn, 1) := dk_172 (dk_at dksX8_has_0 21 rfl rfl)
abbrev cX8_place : ByteArray := prog_15_method_6_code
def yX8_place : MethodName := ⟨RX8, "place", "(I)I"⟩
def dkwX8_place_1 : List UInt8 := [182, 0, 51, 27, 160, 0, 5, 28, 172, 132, 2, 1, 167, 255, 222, 2, 172]
abbrev dktX8_place_1 : List UInt8 := dkwX8_place_1 ++ []
def dkwX8_place_0 : List UInt8 := [3, 61, 28, 42, 180, 0, 18, 182, 0, 41, 162, 0, 29, 42, 180, 0, 18, 28, 182, 0, 45, 192, 0, 49]
abbrev dktX8_place_0 : List UInt8 := dkwX8_place_0 ++ dktX8_place_1
theorem dksX8_place_0 : cX8_place.data.toList.drop 0 = dktX8_place_0 := by decide +kernel
theorem dksX8_place_1 : cX8_place.data.toList.drop 24 = dktX8_place_1 := dk_seg dksX8_place_0 24 rfl rfl
theorem dX8_place_0 : decode cX8_place 0 = .ok (.iconst 0, 1) := dk_3 (dk_at dksX8_place_0 0 rfl rfl)
theorem dX8_place_1 : decode cX8_place 1 = .ok (.istore_n 2, 1) := dk_61 (dk_at dksX8_place_0 1 rfl rfl)
theorem dX8_place_2 : decode cX8_place 2 = .ok (.iload_n 2, 1) := dk_28 (dk_at dksX8_place_0 2 rfl rfl)
theorem dX8_place_3 : decode cX8_place 3 = .ok (.aload_n 0, 1) := dk_42 (dk_at dksX8_place_0 3 rfl rfl)
theorem dX8_place_4 : decode cX8_place 4 = .ok (.getfield 18, 3) := dk_180 0 18 (dk_at dksX8_place_0 4 rfl rfl)
theorem dX8_place_7 : decode cX8_place 7 = .ok (.invokevirtual 41, 3) := dk_182 0 41 (dk_at dksX8_place_0 7 rfl rfl)
theorem dX8_place_10 : decode cX8_place 10 = .ok (.if_icmp .ge 29, 3) := dk_162 0 29 (dk_at dksX8_place_0 10 rfl rfl)
theorem dX8_place_13 : decode cX8_place 13 = .ok (.aload_n 0, 1) := dk_42 (dk_at dksX8_place_0 13 rfl rfl)
theorem dX8_place_14 : decode cX8_place 14 = .ok (.getfield 18, 3) := dk_180 0 18 (dk_at dksX8_place_0 14 rfl rfl)
theorem dX8_place_17 : decode cX8_place 17 = .ok (.iload_n 2, 1) := dk_28 (dk_at dksX8_place_0 17 rfl rfl)
theorem dX8_place_18 : decode cX8_place 18 = .ok (.invokevirtual 45, 3) := dk_182 0 45 (dk_at dksX8_place_0 18 rfl rfl)
theorem dX8_place_21 : decode cX8_place 21 = .ok (.checkcast 49, 3) := dk_192 0 49 (dk_at dksX8_place_0 21 rfl rfl)
theorem dX8_place_24 : decode cX8_place 24 = .ok (.invokevirtual 51, 3) := dk_182 0 51 (dk_at dksX8_place_1 0 rfl rfl)
theorem dX8_place_27 : decode cX8_place 27 = .ok (.iload_n 1, 1) := dk_27 (dk_at dksX8_place_1 3 rfl rfl)
theorem dX8_place_28 : decode cX8_place 28 = .ok (.if_icmp .ne 5, 3) := dk_160 0 5 (dk_at dksX8_place_1 4 rfl rfl)
theorem dX8_place_31 : decode cX8_place 31 = .ok (.iload_n 2, 1) := dk_28 (dk_at dksX8_place_1 7 rfl rfl)
theorem dX8_place_32 : decode cX8_place 32 = .ok (.ireturn, 1) := dk_172 (dk_at dksX8_place_1 8 rfl rfl)
theorem dX8_place_33 : decode cX8_place 33 = .ok (.iinc 2 1, 3) := dk_132 2 1 (dk_at dksX8_place_1 9 rfl rfl)
theorem dX8_place_36 : decode cX8_place 36 = .ok (.goto (-34), 3) := dk_167 255 222 (dk_at dksX8_place_1 12 rfl rfl)
theorem dX8_place_39 : decode cX8_place 39 = .ok (.iconst (-1), 1) := dk_2 (dk_at dksX8_place_1 15 rfl rfl)
theorem dX8_place_40 : decode cX8_place 40 = .ok (.ireturn, 1) := dk_172 (dk_at dksX8_place_1 16 rfl rfl)
abbrev cX8_isOpen : ByteArray := prog_15_method_2_code
def yX8_isOpen : MethodName := ⟨RX8, "isOpen", "(I)Z"⟩
def dkwX8_isOpen_1 : List UInt8 := [172]
abbrev dktX8_isOpen_1 : List UInt8 := dkwX8_isOpen_1 ++ []
def dkwX8_isOpen_0 : List UInt8 := [27, 16, 24, 96, 42, 180, 0, 26, 100, 16, 24, 112, 42, 180, 0, 29, 162, 0, 7, 4, 167, 0, 4, 3]
abbrev dktX8_isOpen_0 : List UInt8 := dkwX8_isOpen_0 ++ dktX8_isOpen_1
theorem dksX8_isOpen_0 : cX8_isOpen.data.toList.drop 0 = dktX8_isOpen_0 := by decide +kernel
theorem dksX8_isOpen_1 : cX8_isOpen.data.toList.drop 24 = dktX8_isOpen_1 := dk_seg dksX8_isOpen_0 24 rfl rfl
theorem dX8_isOpen_0 : decode cX8_isOpen 0 = .ok (.iload_n 1, 1) := dk_27 (dk_at dksX8_isOpen_0 0 rfl rfl)
theorem dX8_isOpen_1 : decode cX8_isOpen 1 = .ok (.bipush 24, 2) := dk_16 24 (dk_at dksX8_isOpen_0 1 rfl rfl)
theorem dX8_isOpen_3 : decode cX8_isOpen 3 = .ok (.iadd, 1) := dk_96 (dk_at dksX8_isOpen_0 3 rfl rfl)
theorem dX8_isOpen_4 : decode cX8_isOpen 4 = .ok (.aload_n 0, 1) := dk_42 (dk_at dksX8_isOpen_0 4 rfl rfl)
theorem dX8_isOpen_5 : decode cX8_isOpen 5 = .ok (.getfield 26, 3) := dk_180 0 26 (dk_at dksX8_isOpen_0 5 rfl rfl)
theorem dX8_isOpen_8 : decode cX8_isOpen 8 = .ok (.isub, 1) := dk_100 (dk_at dksX8_isOpen_0 8 rfl rfl)
theorem dX8_isOpen_9 : decode cX8_isOpen 9 = .ok (.bipush 24, 2) := dk_16 24 (dk_at dksX8_isOpen_0 9 rfl rfl)
theorem dX8_isOpen_11 : decode cX8_isOpen 11 = .ok (.irem, 1) := dk_112 (dk_at dksX8_isOpen_0 11 rfl rfl)
theorem dX8_isOpen_12 : decode cX8_isOpen 12 = .ok (.aload_n 0, 1) := dk_42 (dk_at dksX8_isOpen_0 12 rfl rfl)
theorem dX8_isOpen_13 : decode cX8_isOpen 13 = .ok (.getfield 29, 3) := dk_180 0 29 (dk_at dksX8_isOpen_0 13 rfl rfl)
theorem dX8_isOpen_16 : decode cX8_isOpen 16 = .ok (.if_icmp .ge 7, 3) := dk_162 0 7 (dk_at dksX8_isOpen_0 16 rfl rfl)
theorem dX8_isOpen_19 : decode cX8_isOpen 19 = .ok (.iconst 1, 1) := dk_4 (dk_at dksX8_isOpen_0 19 rfl rfl)
theorem dX8_isOpen_20 : decode cX8_isOpen 20 = .ok (.goto 4, 3) := dk_167 0 4 (dk_at dksX8_isOpen_0 20 rfl rfl)
theorem dX8_isOpen_23 : decode cX8_isOpen 23 = .ok (.iconst 0, 1) := dk_3 (dk_at dksX8_isOpen_0 23 rfl rfl)
theorem dX8_isOpen_24 : decode cX8_isOpen 24 = .ok (.ireturn, 1) := dk_172 (dk_at dksX8_isOpen_1 0 rfl rfl)
abbrev cX8_dozes : ByteArray := prog_15_method_3_code
def yX8_dozes : MethodName := ⟨RX8, "dozes", "()Z"⟩
def dkwX8_dozes_0 : List UInt8 := [42, 180, 0, 32, 8, 161, 0, 7, 4, 167, 0, 4, 3, 172]
abbrev dktX8_dozes_0 : List UInt8 := dkwX8_dozes_0 ++ []
theorem dksX8_dozes_0 : cX8_dozes.data.toList.drop 0 = dktX8_dozes_0 := by decide +kernel
theorem dX8_dozes_0 : decode cX8_dozes 0 = .ok (.aload_n 0, 1) := dk_42 (dk_at dksX8_dozes_0 0 rfl rfl)
theorem dX8_dozes_1 : decode cX8_dozes 1 = .ok (.getfield 32, 3) := dk_180 0 32 (dk_at dksX8_dozes_0 1 rfl rfl)
theorem dX8_dozes_4 : decode cX8_dozes 4 = .ok (.iconst 5, 1) := dk_8 (dk_at dksX8_dozes_0 4 rfl rfl)
theorem dX8_dozes_5 : decode cX8_dozes 5 = .ok (.if_icmp .lt 7, 3) := dk_161 0 7 (dk_at dksX8_dozes_0 5 rfl rfl)
theorem dX8_dozes_8 : decode cX8_dozes 8 = .ok (.iconst 1, 1) := dk_4 (dk_at dksX8_dozes_0 8 rfl rfl)
theorem dX8_dozes_9 : decode cX8_dozes 9 = .ok (.goto 4, 3) := dk_167 0 4 (dk_at dksX8_dozes_0 9 rfl rfl)
theorem dX8_dozes_12 : decode cX8_dozes 12 = .ok (.iconst 0, 1) := dk_3 (dk_at dksX8_dozes_0 12 rfl rfl)
theorem dX8_dozes_13 : decode cX8_dozes 13 = .ok (.ireturn, 1) := dk_172 (dk_at dksX8_dozes_0 13 rfl rfl)
abbrev cX8_beyond : ByteArray := prog_15_method_5_code
def yX8_beyond : MethodName := ⟨RX8, "beyond", "(I)I"⟩
def dkwX8_beyond_0 : List UInt8 := [42, 180, 0, 35, 27, 160, 0, 10, 42, 180, 0, 38, 167, 0, 7, 42, 180, 0, 35, 172]
abbrev dktX8_beyond_0 : List UInt8 := dkwX8_beyond_0 ++ []
theorem dksX8_beyond_0 : cX8_beyond.data.toList.drop 0 = dktX8_beyond_0 := by decide +kernel
theorem dX8_beyond_0 : decode cX8_beyond 0 = .ok (.aload_n 0, 1) := dk_42 (dk_at dksX8_beyond_0 0 rfl rfl)
theorem dX8_beyond_1 : decode cX8_beyond 1 = .ok (.getfield 35, 3) := dk_180 0 35 (dk_at dksX8_beyond_0 1 rfl rfl)
theorem dX8_beyond_4 : decode cX8_beyond 4 = .ok (.iload_n 1, 1) := dk_27 (dk_at dksX8_beyond_0 4 rfl rfl)
theorem dX8_beyond_5 : decode cX8_beyond 5 = .ok (.if_icmp .ne 10, 3) := dk_160 0 10 (dk_at dksX8_beyond_0 5 rfl rfl)
theorem dX8_beyond_8 : decode cX8_beyond 8 = .ok (.aload_n 0, 1) := dk_42 (dk_at dksX8_beyond_0 8 rfl rfl)
theorem dX8_beyond_9 : decode cX8_beyond 9 = .ok (.getfield 38, 3) := dk_180 0 38 (dk_at dksX8_beyond_0 9 rfl rfl)
theorem dX8_beyond_12 : decode cX8_beyond 12 = .ok (.goto 7, 3) := dk_167 0 7 (dk_at dksX8_beyond_0 12 rfl rfl)
theorem dX8_beyond_15 : decode cX8_beyond 15 = .ok (.aload_n 0, 1) := dk_42 (dk_at dksX8_beyond_0 15 rfl rfl)
theorem dX8_beyond_16 : decode cX8_beyond 16 = .ok (.getfield 35, 3) := dk_180 0 35 (dk_at dksX8_beyond_0 16 rfl rfl)
theorem dX8_beyond_19 : decode cX8_beyond 19 = .ok (.ireturn, 1) := dk_172 (dk_at dksX8_beyond_0 19 rfl rfl)
theorem q104 : (Jvm.Cond.initialized "LullabygateModel$Gate") ∈ lw_all := lw_g (lw_at lw_m1 25 rfl) rfl
theorem q254 : (Jvm.Cond.selects "LullabygateModel$Gate" ({ cls := "java/lang/Object", name := "getClass", desc := "()Ljava/lang/Class;" } : Jvm.MethodName) ({ cls := "java/lang/Object", name := "getClass", desc := "()Ljava/lang/Class;" } : Jvm.MethodName)) ∈ lw_all := lw_g (lw_at lw_m1 175 rfl) rfl
theorem q1535 : (Jvm.Cond.instantiable "LullabygateModel$Gate" (8 : Nat)) ∈ lw_all := lw_g (lw_at lw_m7 16 rfl) rfl
theorem q1537 : (Jvm.Cond.instanceMethod ({ cls := "LullabygateModel$Gate", name := "<init>", desc := "()V" } : Jvm.MethodName)) ∈ lw_all := lw_g (lw_at lw_m7 18 rfl) rfl
theorem q1538 : (Jvm.Cond.code ({ cls := "LullabygateModel$Gate", name := "<init>", desc := "()V" } : Jvm.MethodName) prog_15_method_1_code (1 : Nat) (Option.none : Option Jvm.ClassFile.FieldType)) ∈ lw_all := lw_g (lw_at lw_m7 19 rfl) rfl
theorem q1539 : (Jvm.Cond.methodLink "LullabygateModel$Gate" (3 : Nat) ({ cls := "java/lang/Object", name := "<init>", desc := "()V" } : Jvm.MethodName)) ∈ lw_all := lw_g (lw_at lw_m7 20 rfl) rfl
theorem q1540 : (Jvm.Cond.classLink "LullabygateModel$Gate" (15 : Nat) "java/util/ArrayList") ∈ lw_all := lw_g (lw_at lw_m7 21 rfl) rfl
theorem q1541 : (Jvm.Cond.methodLink "LullabygateModel$Gate" (17 : Nat) ({ cls := "java/util/ArrayList", name := "<init>", desc := "()V" } : Jvm.MethodName)) ∈ lw_all := lw_g (lw_at lw_m7 22 rfl) rfl
theorem q1542 : (Jvm.Cond.fieldLink "LullabygateModel$Gate" (35 : Nat) "LullabygateModel$Gate" "one" "I") ∈ lw_all := lw_g (lw_at lw_m7 23 rfl) rfl
theorem q1544 : (Jvm.Cond.fieldLink "LullabygateModel$Gate" (38 : Nat) "LullabygateModel$Gate" "other" "I") ∈ lw_all := lw_g (lw_at lw_m7 25 rfl) rfl
theorem q1546 : (Jvm.Cond.fieldLink "LullabygateModel$Gate" (26 : Nat) "LullabygateModel$Gate" "from" "I") ∈ lw_all := lw_g (lw_at lw_m7 27 rfl) rfl
theorem q1548 : (Jvm.Cond.fieldLink "LullabygateModel$Gate" (29 : Nat) "LullabygateModel$Gate" "hours" "I") ∈ lw_all := lw_g (lw_at lw_m7 29 rfl) rfl
theorem q1550 : (Jvm.Cond.fieldLink "LullabygateModel$Gate" (9 : Nat) "LullabygateModel$Gate" "odds" "I") ∈ lw_all := lw_g (lw_at lw_m7 31 rfl) rfl
theorem q1552 : (Jvm.Cond.fieldLink "LullabygateModel$Gate" (32 : Nat) "LullabygateModel$Gate" "watch" "I") ∈ lw_all := lw_g (lw_at lw_m7 33 rfl) rfl
theorem q1554 : (Jvm.Cond.fieldLink "LullabygateModel$Gate" (18 : Nat) "LullabygateModel$Gate" "queue" "Ljava/util/ArrayList;") ∈ lw_all := lw_g (lw_at lw_m7 35 rfl) rfl
theorem q1556 : (Jvm.Cond.fieldLink "LullabygateModel$Gate" (22 : Nat) "LullabygateModel$Gate" "isRevoked" "[Z") ∈ lw_all := lw_g (lw_at lw_m7 37 rfl) rfl
theorem q1558 : (Jvm.Cond.lays "LullabygateModel$Gate" "LullabygateModel$Gate" "one" "I") ∈ lw_all := lw_g (lw_at lw_m7 39 rfl) rfl
theorem q1559 : (Jvm.Cond.soleField "LullabygateModel$Gate" "one") ∈ lw_all := lw_g (lw_at lw_m7 40 rfl) rfl
theorem q1560 : (Jvm.Cond.lays "LullabygateModel$Gate" "LullabygateModel$Gate" "other" "I") ∈ lw_all := lw_g (lw_at lw_m7 41 rfl) rfl
theorem q1561 : (Jvm.Cond.soleField "LullabygateModel$Gate" "other") ∈ lw_all := lw_g (lw_at lw_m7 42 rfl) rfl
theorem q1562 : (Jvm.Cond.lays "LullabygateModel$Gate" "LullabygateModel$Gate" "from" "I") ∈ lw_all := lw_g (lw_at lw_m7 43 rfl) rfl
theorem q1563 : (Jvm.Cond.soleField "LullabygateModel$Gate" "from") ∈ lw_all := lw_g (lw_at lw_m7 44 rfl) rfl
theorem q1564 : (Jvm.Cond.lays "LullabygateModel$Gate" "LullabygateModel$Gate" "hours" "I") ∈ lw_all := lw_g (lw_at lw_m7 45 rfl) rfl
theorem q1565 : (Jvm.Cond.soleField "LullabygateModel$Gate" "hours") ∈ lw_all := lw_g (lw_at lw_m7 46 rfl) rfl
theorem q1566 : (Jvm.Cond.lays "LullabygateModel$Gate" "LullabygateModel$Gate" "odds" "I") ∈ lw_all := lw_g (lw_at lw_m7 47 rfl) rfl
theorem q1567 : (Jvm.Cond.soleField "LullabygateModel$Gate" "odds") ∈ lw_all := lw_g (lw_at lw_m7 48 rfl) rfl
theorem q1568 : (Jvm.Cond.lays "LullabygateModel$Gate" "LullabygateModel$Gate" "watch" "I") ∈ lw_all := lw_g (lw_at lw_m7 49 rfl) rfl
theorem q1569 : (Jvm.Cond.soleField "LullabygateModel$Gate" "watch") ∈ lw_all := lw_g (lw_at lw_m7 50 rfl) rfl
theorem q1570 : (Jvm.Cond.laysFinal "LullabygateModel$Gate" "LullabygateModel$Gate" "queue" "Ljava/util/ArrayList;") ∈ lw_all := lw_g (lw_at lw_m7 51 rfl) rfl
theorem q1571 : (Jvm.Cond.soleField "LullabygateModel$Gate" "queue") ∈ lw_all := lw_g (lw_at lw_m7 52 rfl) rfl
theorem q1572 : (Jvm.Cond.laysFinal "LullabygateModel$Gate" "LullabygateModel$Gate" "isRevoked" "[Z") ∈ lw_all := lw_g (lw_at lw_m7 53 rfl) rfl
theorem q1573 : (Jvm.Cond.soleField "LullabygateModel$Gate" "isRevoked") ∈ lw_all := lw_g (lw_at lw_m7 54 rfl) rfl
theorem q1574 : (Jvm.Cond.superclass "LullabygateModel$Gate" "java/lang/Object") ∈ lw_all := lw_g (lw_at lw_m7 55 rfl) rfl
theorem q1693 : (Jvm.Cond.instanceMethod ({ cls := "LullabygateModel$Gate", name := "has", desc := "(I)Z" } : Jvm.MethodName)) ∈ lw_all := lw_g (lw_at lw_m7 174 rfl) rfl
theorem q1694 : (Jvm.Cond.selects "LullabygateModel$Gate" ({ cls := "LullabygateModel$Gate", name := "has", desc := "(I)Z" } : Jvm.MethodName) ({ cls := "LullabygateModel$Gate", name := "has", desc := "(I)Z" } : Jvm.MethodName)) ∈ lw_all := lw_g (lw_at lw_m7 175 rfl) rfl
theorem q1695 : (Jvm.Cond.code ({ cls := "LullabygateModel$Gate", name := "has", desc := "(I)Z" } : Jvm.MethodName) prog_15_method_4_code (2 : Nat) (Option.some Jvm.ClassFile.FieldType.boolean)) ∈ lw_all := lw_g (lw_at lw_m7 176 rfl) rfl
theorem q1747 : (Jvm.Cond.instanceMethod ({ cls := "LullabygateModel$Gate", name := "place", desc := "(I)I" } : Jvm.MethodName)) ∈ lw_all := lw_g (lw_at lw_m7 228 rfl) rfl
theorem q1748 : (Jvm.Cond.selects "LullabygateModel$Gate" ({ cls := "LullabygateModel$Gate", name := "place", desc := "(I)I" } : Jvm.MethodName) ({ cls := "LullabygateModel$Gate", name := "place", desc := "(I)I" } : Jvm.MethodName)) ∈ lw_all := lw_g (lw_at lw_m7 229 rfl) rfl
theorem q1749 : (Jvm.Cond.code ({ cls := "LullabygateModel$Gate", name := "place", desc := "(I)I" } : Jvm.MethodName) prog_15_method_6_code (3 : Nat) (Option.some Jvm.ClassFile.FieldType.int)) ∈ lw_all := lw_g (lw_at lw_m7 230 rfl) rfl
theorem q1750 : (Jvm.Cond.methodLink "LullabygateModel$Gate" (41 : Nat) ({ cls := "java/util/ArrayList", name := "size", desc := "()I" } : Jvm.MethodName)) ∈ lw_all := lw_g (lw_at lw_m7 231 rfl) rfl
theorem q1751 : (Jvm.Cond.methodLink "LullabygateModel$Gate" (45 : Nat) ({ cls := "java/util/ArrayList", name := "get", desc := "(I)Ljava/lang/Object;" } : Jvm.MethodName)) ∈ lw_all := lw_g (lw_at lw_m7 232 rfl) rfl
theorem q1752 : (Jvm.Cond.classLink "LullabygateModel$Gate" (49 : Nat) "java/lang/Integer") ∈ lw_all := lw_g (lw_at lw_m7 233 rfl) rfl
theorem q1753 : (Jvm.Cond.methodLink "LullabygateModel$Gate" (51 : Nat) ({ cls := "java/lang/Integer", name := "intValue", desc := "()I" } : Jvm.MethodName)) ∈ lw_all := lw_g (lw_at lw_m7 234 rfl) rfl
theorem q1764 : (Jvm.Cond.instanceMethod ({ cls := "LullabygateModel$Gate", name := "isOpen", desc := "(I)Z" } : Jvm.MethodName)) ∈ lw_all := lw_g (lw_at lw_m8 5 rfl) rfl
theorem q1765 : (Jvm.Cond.selects "LullabygateModel$Gate" ({ cls := "LullabygateModel$Gate", name := "isOpen", desc := "(I)Z" } : Jvm.MethodName) ({ cls := "LullabygateModel$Gate", name := "isOpen", desc := "(I)Z" } : Jvm.MethodName)) ∈ lw_all := lw_g (lw_at lw_m8 6 rfl) rfl
theorem q1766 : (Jvm.Cond.code ({ cls := "LullabygateModel$Gate", name := "isOpen", desc := "(I)Z" } : Jvm.MethodName) prog_15_method_2_code (2 : Nat) (Option.some Jvm.ClassFile.FieldType.boolean)) ∈ lw_all := lw_g (lw_at lw_m8 7 rfl) rfl
theorem q1774 : (Jvm.Cond.instanceMethod ({ cls := "LullabygateModel$Gate", name := "dozes", desc := "()Z" } : Jvm.MethodName)) ∈ lw_all := lw_g (lw_at lw_m8 15 rfl) rfl
theorem q1775 : (Jvm.Cond.selects "LullabygateModel$Gate" ({ cls := "LullabygateModel$Gate", name := "dozes", desc := "()Z" } : Jvm.MethodName) ({ cls := "LullabygateModel$Gate", name := "dozes", desc := "()Z" } : Jvm.MethodName)) ∈ lw_all := lw_g (lw_at lw_m8 16 rfl) rfl
theorem q1776 : (Jvm.Cond.code ({ cls := "LullabygateModel$Gate", name := "dozes", desc := "()Z" } : Jvm.MethodName) prog_15_method_3_code (1 : Nat) (Option.some Jvm.ClassFile.FieldType.boolean)) ∈ lw_all := lw_g (lw_at lw_m8 17 rfl) rfl
theorem q1782 : (Jvm.Cond.instanceMethod ({ cls := "LullabygateModel$Gate", name := "beyond", desc := "(I)I" } : Jvm.MethodName)) ∈ lw_all := lw_g (lw_at lw_m8 23 rfl) rfl
theorem q1783 : (Jvm.Cond.selects "LullabygateModel$Gate" ({ cls := "LullabygateModel$Gate", name := "beyond", desc := "(I)I" } : Jvm.MethodName) ({ cls := "LullabygateModel$Gate", name := "beyond", desc := "(I)I" } : Jvm.MethodName)) ∈ lw_all := lw_g (lw_at lw_m8 24 rfl) rfl
theorem q1784 : (Jvm.Cond.code ({ cls := "LullabygateModel$Gate", name := "beyond", desc := "(I)I" } : Jvm.MethodName) prog_15_method_5_code (2 : Nat) (Option.some Jvm.ClassFile.FieldType.int)) ∈ lw_all := lw_g (lw_at lw_m8 25 rfl) rfl
theorem q2018 : (Jvm.Cond.castable "LullabygateModel$Gate" "java/lang/Object") ∈ lw_tbl := lw_at lw_m9 19 rfl
theorem in_X8 : ∀ w ∈ wsX80, w ∈ lw_all := lw_in wsX80 [1558, 1560, 1562, 1564, 1566, 1568, 1570, 1572] (by decide +kernel) (by decide +kernel)
/-! Lullabygate$Sleeper -/
set_option maxRecDepth 100000
def RX9 : String := "Lullabygate$Sleeper"
def TX9 : u_T := fun k => match k with
  | 0 => ("Lullabygate$Sleeper", "number", "I", true)
  | 1 => ("Lullabygate$Sleeper", "isBaby", "Z", true)
  | 2 => ("Lullabygate$Sleeper", "land", "I", false)
  | 3 => ("Lullabygate$Sleeper", "patience", "I", false)
  | 4 => ("Lullabygate$Sleeper", "rest", "LLullabygate$Rest;", false)
  | 5 => ("Lullabygate$Sleeper", "gate", "I", false)
  | 6 => ("Lullabygate$Sleeper", "declares", "I", false)
  | _ => ("Lullabygate$Sleeper", "pass", "Ljava/util/Optional;", false)
def tyX9 : Nat → FieldType := fun k => match k with
  | 0 => .int
  | 1 => .boolean
  | 2 => .int
  | 3 => .int
  | 4 => .object "Lullabygate$Rest"
  | 5 => .int
  | 6 => .int
  | _ => .object "java/util/Optional"
abbrev wsX90 : List Cond := u_ws RX9 TX9 8
theorem nmX9 : ∀ a, a < 8 → ∀ b, b < 8 → a ≠ b → (TX9 a).2.1 ≠ (TX9 b).2.1 := by decide +kernel
theorem tyX9_ok : ∀ k, k < 8 → parseFieldDescriptor (TX9 k).2.2.1 = some (tyX9 k) := by decide +kernel
abbrev cX9_is : ByteArray := prog_10_method_2_code
def yX9_is : MethodName := ⟨RX9, "is", "(LLullabygate$Rest;)Z"⟩
def dkwX9_is_0 : List UInt8 := [42, 180, 0, 15, 43, 166, 0, 7, 4, 167, 0, 4, 3, 172]
abbrev dktX9_is_0 : List UInt8 := dkwX9_is_0 ++ []
theorem dksX9_is_0 : cX9_is.data.toList.drop 0 = dktX9_is_0 := by decide +kernel
theorem dX9_is_0 : decode cX9_is 0 = .ok (.aload_n 0, 1) := dk_42 (dk_at dksX9_is_0 0 rfl rfl)
theorem dX9_is_1 : decode cX9_is 1 = .ok (.getfield 15, 3) := dk_180 0 15 (dk_at dksX9_is_0 1 rfl rfl)
theorem dX9_is_4 : decode cX9_is 4 = .ok (.aload_n 1, 1) := dk_43 (dk_at dksX9_is_0 4 rfl rfl)
theorem dX9_is_5 : decode cX9_is 5 = .ok (.if_acmp .ne 7, 3) := dk_166 0 7 (dk_at dksX9_is_0 5 rfl rfl)
theorem dX9_is_8 : decode cX9_is 8 = .ok (.iconst 1, 1) := dk_4 (dk_at dksX9_is_0 8 rfl rfl)
theorem dX9_is_9 : decode cX9_is 9 = .ok (.goto 4, 3) := dk_167 0 4 (dk_at dksX9_is_0 9 rfl rfl)
theorem dX9_is_12 : decode cX9_is 12 = .ok (.iconst 0, 1) := dk_3 (dk_at dksX9_is_0 12 rfl rfl)
theorem dX9_is_13 : decode cX9_is 13 = .ok (.ireturn, 1) := dk_172 (dk_at dksX9_is_0 13 rfl rfl)
abbrev cX9_right : ByteArray := prog_10_method_4_code
def yX9_right : MethodName := ⟨RX9, "right", "(II)I"⟩
def dkwX9_right_0 : List UInt8 := [16, 13, 42, 180, 0, 34, 104, 16, 29, 27, 104, 96, 16, 7, 28, 104, 96, 16, 97, 112, 172]
abbrev dktX9_right_0 : List UInt8 := dkwX9_right_0 ++ []
theorem dksX9_right_0 : cX9_right.data.toList.drop 0 = dktX9_right_0 := by decide +kernel
theorem dX9_right_0 : decode cX9_right 0 = .ok (.bipush 13, 2) := dk_16 13 (dk_at dksX9_right_0 0 rfl rfl)
theorem dX9_right_2 : decode cX9_right 2 = .ok (.aload_n 0, 1) := dk_42 (dk_at dksX9_right_0 2 rfl rfl)
theorem dX9_right_3 : decode cX9_right 3 = .ok (.getfield 34, 3) := dk_180 0 34 (dk_at dksX9_right_0 3 rfl rfl)
theorem dX9_right_6 : decode cX9_right 6 = .ok (.imul, 1) := dk_104 (dk_at dksX9_right_0 6 rfl rfl)
theorem dX9_right_7 : decode cX9_right 7 = .ok (.bipush 29, 2) := dk_16 29 (dk_at dksX9_right_0 7 rfl rfl)
theorem dX9_right_9 : decode cX9_right 9 = .ok (.iload_n 1, 1) := dk_27 (dk_at dksX9_right_0 9 rfl rfl)
theorem dX9_right_10 : decode cX9_right 10 = .ok (.imul, 1) := dk_104 (dk_at dksX9_right_0 10 rfl rfl)
theorem dX9_right_11 : decode cX9_right 11 = .ok (.iadd, 1) := dk_96 (dk_at dksX9_right_0 11 rfl rfl)
theorem dX9_right_12 : decode cX9_right 12 = .ok (.bipush 7, 2) := dk_16 7 (dk_at dksX9_right_0 12 rfl rfl)
theorem dX9_right_14 : decode cX9_right 14 = .ok (.iload_n 2, 1) := dk_28 (dk_at dksX9_right_0 14 rfl rfl)
theorem dX9_right_15 : decode cX9_right 15 = .ok (.imul, 1) := dk_104 (dk_at dksX9_right_0 15 rfl rfl)
theorem dX9_right_16 : decode cX9_right 16 = .ok (.iadd, 1) := dk_96 (dk_at dksX9_right_0 16 rfl rfl)
theorem dX9_right_17 : decode cX9_right 17 = .ok (.bipush 97, 2) := dk_16 97 (dk_at dksX9_right_0 17 rfl rfl)
theorem dX9_right_19 : decode cX9_right 19 = .ok (.irem, 1) := dk_112 (dk_at dksX9_right_0 19 rfl rfl)
theorem dX9_right_20 : decode cX9_right 20 = .ok (.ireturn, 1) := dk_172 (dk_at dksX9_right_0 20 rfl rfl)
abbrev cX9_init : ByteArray := prog_10_method_1_code
def yX9_init : MethodName := ⟨RX9, "<init>", "(IIZI)V"⟩
def dkwX9_init_1 : List UInt8 := [27, 181, 0, 34, 42, 28, 181, 0, 37, 42, 29, 181, 0, 40, 42, 21, 4, 181, 0, 44, 177]
abbrev dktX9_init_1 : List UInt8 := dkwX9_init_1 ++ []
def dkwX9_init_0 : List UInt8 := [42, 183, 0, 3, 42, 178, 0, 9, 181, 0, 15, 42, 2, 181, 0, 20, 42, 184, 0, 24, 181, 0, 30, 42]
abbrev dktX9_init_0 : List UInt8 := dkwX9_init_0 ++ dktX9_init_1
theorem dksX9_init_0 : cX9_init.data.toList.drop 0 = dktX9_init_0 := by decide +kernel
theorem dksX9_init_1 : cX9_init.data.toList.drop 24 = dktX9_init_1 := dk_seg dksX9_init_0 24 rfl rfl
theorem dX9_init_0 : decode cX9_init 0 = .ok (.aload_n 0, 1) := dk_42 (dk_at dksX9_init_0 0 rfl rfl)
theorem dX9_init_1 : decode cX9_init 1 = .ok (.invokespecial 3, 3) := dk_183 0 3 (dk_at dksX9_init_0 1 rfl rfl)
theorem dX9_init_4 : decode cX9_init 4 = .ok (.aload_n 0, 1) := dk_42 (dk_at dksX9_init_0 4 rfl rfl)
theorem dX9_init_5 : decode cX9_init 5 = .ok (.getstatic 9, 3) := dk_178 0 9 (dk_at dksX9_init_0 5 rfl rfl)
theorem dX9_init_8 : decode cX9_init 8 = .ok (.putfield 15, 3) := dk_181 0 15 (dk_at dksX9_init_0 8 rfl rfl)
theorem dX9_init_11 : decode cX9_init 11 = .ok (.aload_n 0, 1) := dk_42 (dk_at dksX9_init_0 11 rfl rfl)
theorem dX9_init_12 : decode cX9_init 12 = .ok (.iconst (-1), 1) := dk_2 (dk_at dksX9_init_0 12 rfl rfl)
theorem dX9_init_13 : decode cX9_init 13 = .ok (.putfield 20, 3) := dk_181 0 20 (dk_at dksX9_init_0 13 rfl rfl)
theorem dX9_init_16 : decode cX9_init 16 = .ok (.aload_n 0, 1) := dk_42 (dk_at dksX9_init_0 16 rfl rfl)
theorem dX9_init_17 : decode cX9_init 17 = .ok (.invokestatic 24, 3) := dk_184 0 24 (dk_at dksX9_init_0 17 rfl rfl)
theorem dX9_init_20 : decode cX9_init 20 = .ok (.putfield 30, 3) := dk_181 0 30 (dk_at dksX9_init_0 20 rfl rfl)
theorem dX9_init_23 : decode cX9_init 23 = .ok (.aload_n 0, 1) := dk_42 (dk_at dksX9_init_0 23 rfl rfl)
theorem dX9_init_24 : decode cX9_init 24 = .ok (.iload_n 1, 1) := dk_27 (dk_at dksX9_init_1 0 rfl rfl)
theorem dX9_init_25 : decode cX9_init 25 = .ok (.putfield 34, 3) := dk_181 0 34 (dk_at dksX9_init_1 1 rfl rfl)
theorem dX9_init_28 : decode cX9_init 28 = .ok (.aload_n 0, 1) := dk_42 (dk_at dksX9_init_1 4 rfl rfl)
theorem dX9_init_29 : decode cX9_init 29 = .ok (.iload_n 2, 1) := dk_28 (dk_at dksX9_init_1 5 rfl rfl)
theorem dX9_init_30 : decode cX9_init 30 = .ok (.putfield 37, 3) := dk_181 0 37 (dk_at dksX9_init_1 6 rfl rfl)
theorem dX9_init_33 : decode cX9_init 33 = .ok (.aload_n 0, 1) := dk_42 (dk_at dksX9_init_1 9 rfl rfl)
theorem dX9_init_34 : decode cX9_init 34 = .ok (.iload_n 3, 1) := dk_29 (dk_at dksX9_init_1 10 rfl rfl)
theorem dX9_init_35 : decode cX9_init 35 = .ok (.putfield 40, 3) := dk_181 0 40 (dk_at dksX9_init_1 11 rfl rfl)
theorem dX9_init_38 : decode cX9_init 38 = .ok (.aload_n 0, 1) := dk_42 (dk_at dksX9_init_1 14 rfl rfl)
theorem dX9_init_39 : decode cX9_init 39 = .ok (.iload 4, 2) := dk_21 4 (dk_at dksX9_init_1 15 rfl rfl)
theorem dX9_init_41 : decode cX9_init 41 = .ok (.putfield 44, 3) := dk_181 0 44 (dk_at dksX9_init_1 17 rfl rfl)
theorem dX9_init_44 : decode cX9_init 44 = .ok (.return_, 1) := dk_177 (dk_at dksX9_init_1 20 rfl rfl)
abbrev cX9_lie : ByteArray := prog_10_method_3_code
def yX9_lie : MethodName := ⟨RX9, "lie", "()V"⟩
def dkwX9_lie_0 : List UInt8 := [42, 178, 0, 9, 181, 0, 15, 42, 2, 181, 0, 20, 42, 3, 181, 0, 47, 177]
abbrev dktX9_lie_0 : List UInt8 := dkwX9_lie_0 ++ []
theorem dksX9_lie_0 : cX9_lie.data.toList.drop 0 = dktX9_lie_0 := by decide +kernel
theorem dX9_lie_0 : decode cX9_lie 0 = .ok (.aload_n 0, 1) := dk_42 (dk_at dksX9_lie_0 0 rfl rfl)
theorem dX9_lie_1 : decode cX9_lie 1 = .ok (.getstatic 9, 3) := dk_178 0 9 (dk_at dksX9_lie_0 1 rfl rfl)
theorem dX9_lie_4 : decode cX9_lie 4 = .ok (.putfield 15, 3) := dk_181 0 15 (dk_at dksX9_lie_0 4 rfl rfl)
theorem dX9_lie_7 : decode cX9_lie 7 = .ok (.aload_n 0, 1) := dk_42 (dk_at dksX9_lie_0 7 rfl rfl)
theorem dX9_lie_8 : decode cX9_lie 8 = .ok (.iconst (-1), 1) := dk_2 (dk_at dksX9_lie_0 8 rfl rfl)
theorem dX9_lie_9 : decode cX9_lie 9 = .ok (.putfield 20, 3) := dk_181 0 20 (dk_at dksX9_lie_0 9 rfl rfl)
theorem dX9_lie_12 : decode cX9_lie 12 = .ok (.aload_n 0, 1) := dk_42 (dk_at dksX9_lie_0 12 rfl rfl)
theorem dX9_lie_13 : decode cX9_lie 13 = .ok (.iconst 0, 1) := dk_3 (dk_at dksX9_lie_0 13 rfl rfl)
theorem dX9_lie_14 : decode cX9_lie 14 = .ok (.putfield 47, 3) := dk_181 0 47 (dk_at dksX9_lie_0 14 rfl rfl)
theorem dX9_lie_17 : decode cX9_lie 17 = .ok (.return_, 1) := dk_177 (dk_at dksX9_lie_0 17 rfl rfl)
theorem q105 : (Jvm.Cond.initialized "Lullabygate$Sleeper") ∈ lw_all := lw_g (lw_at lw_m1 26 rfl) rfl
theorem q250 : (Jvm.Cond.selects "Lullabygate$Sleeper" ({ cls := "java/lang/Object", name := "getClass", desc := "()Ljava/lang/Class;" } : Jvm.MethodName) ({ cls := "java/lang/Object", name := "getClass", desc := "()Ljava/lang/Class;" } : Jvm.MethodName)) ∈ lw_all := lw_g (lw_at lw_m1 171 rfl) rfl
theorem q356 : (Jvm.Cond.instanceMethod ({ cls := "Lullabygate$Sleeper", name := "is", desc := "(LLullabygate$Rest;)Z" } : Jvm.MethodName)) ∈ lw_all := lw_g (lw_at lw_m2 37 rfl) rfl
theorem q357 : (Jvm.Cond.selects "Lullabygate$Sleeper" ({ cls := "Lullabygate$Sleeper", name := "is", desc := "(LLullabygate$Rest;)Z" } : Jvm.MethodName) ({ cls := "Lullabygate$Sleeper", name := "is", desc := "(LLullabygate$Rest;)Z" } : Jvm.MethodName)) ∈ lw_all := lw_g (lw_at lw_m2 38 rfl) rfl
theorem q358 : (Jvm.Cond.code ({ cls := "Lullabygate$Sleeper", name := "is", desc := "(LLullabygate$Rest;)Z" } : Jvm.MethodName) prog_10_method_2_code (2 : Nat) (Option.some Jvm.ClassFile.FieldType.boolean)) ∈ lw_all := lw_g (lw_at lw_m2 39 rfl) rfl
theorem q507 : (Jvm.Cond.instanceMethod ({ cls := "Lullabygate$Sleeper", name := "right", desc := "(II)I" } : Jvm.MethodName)) ∈ lw_all := lw_g (lw_at lw_m2 188 rfl) rfl
theorem q508 : (Jvm.Cond.selects "Lullabygate$Sleeper" ({ cls := "Lullabygate$Sleeper", name := "right", desc := "(II)I" } : Jvm.MethodName) ({ cls := "Lullabygate$Sleeper", name := "right", desc := "(II)I" } : Jvm.MethodName)) ∈ lw_all := lw_g (lw_at lw_m2 189 rfl) rfl
theorem q509 : (Jvm.Cond.code ({ cls := "Lullabygate$Sleeper", name := "right", desc := "(II)I" } : Jvm.MethodName) prog_10_method_4_code (3 : Nat) (Option.some Jvm.ClassFile.FieldType.int)) ∈ lw_all := lw_g (lw_at lw_m2 190 rfl) rfl
theorem q836 : (Jvm.Cond.instantiable "Lullabygate$Sleeper" (8 : Nat)) ∈ lw_all := lw_g (lw_at lw_m4 37 rfl) rfl
theorem q838 : (Jvm.Cond.instanceMethod ({ cls := "Lullabygate$Sleeper", name := "<init>", desc := "(IIZI)V" } : Jvm.MethodName)) ∈ lw_all := lw_g (lw_at lw_m4 39 rfl) rfl
theorem q839 : (Jvm.Cond.code ({ cls := "Lullabygate$Sleeper", name := "<init>", desc := "(IIZI)V" } : Jvm.MethodName) prog_10_method_1_code (5 : Nat) (Option.none : Option Jvm.ClassFile.FieldType)) ∈ lw_all := lw_g (lw_at lw_m4 40 rfl) rfl
theorem q840 : (Jvm.Cond.methodLink "Lullabygate$Sleeper" (3 : Nat) ({ cls := "java/lang/Object", name := "<init>", desc := "()V" } : Jvm.MethodName)) ∈ lw_all := lw_g (lw_at lw_m4 41 rfl) rfl
theorem q841 : (Jvm.Cond.fieldLink "Lullabygate$Sleeper" (9 : Nat) "Lullabygate$Rest" "RESTING" "LLullabygate$Rest;") ∈ lw_all := lw_g (lw_at lw_m4 42 rfl) rfl
theorem q843 : (Jvm.Cond.methodLink "Lullabygate$Sleeper" (24 : Nat) ({ cls := "java/util/Optional", name := "empty", desc := "()Ljava/util/Optional;" } : Jvm.MethodName)) ∈ lw_all := lw_g (lw_at lw_m4 44 rfl) rfl
theorem q848 : (Jvm.Cond.fieldLink "Lullabygate$Sleeper" (34 : Nat) "Lullabygate$Sleeper" "number" "I") ∈ lw_all := lw_g (lw_at lw_m4 49 rfl) rfl
theorem q850 : (Jvm.Cond.fieldLink "Lullabygate$Sleeper" (40 : Nat) "Lullabygate$Sleeper" "isBaby" "Z") ∈ lw_all := lw_g (lw_at lw_m4 51 rfl) rfl
theorem q853 : (Jvm.Cond.fieldLink "Lullabygate$Sleeper" (37 : Nat) "Lullabygate$Sleeper" "land" "I") ∈ lw_all := lw_g (lw_at lw_m4 54 rfl) rfl
theorem q855 : (Jvm.Cond.fieldLink "Lullabygate$Sleeper" (44 : Nat) "Lullabygate$Sleeper" "patience" "I") ∈ lw_all := lw_g (lw_at lw_m4 56 rfl) rfl
theorem q857 : (Jvm.Cond.fieldLink "Lullabygate$Sleeper" (15 : Nat) "Lullabygate$Sleeper" "rest" "LLullabygate$Rest;") ∈ lw_all := lw_g (lw_at lw_m4 58 rfl) rfl
theorem q859 : (Jvm.Cond.fieldLink "Lullabygate$Sleeper" (20 : Nat) "Lullabygate$Sleeper" "gate" "I") ∈ lw_all := lw_g (lw_at lw_m4 60 rfl) rfl
theorem q861 : (Jvm.Cond.fieldLink "Lullabygate$Sleeper" (47 : Nat) "Lullabygate$Sleeper" "declares" "I") ∈ lw_all := lw_g (lw_at lw_m4 62 rfl) rfl
theorem q863 : (Jvm.Cond.fieldLink "Lullabygate$Sleeper" (30 : Nat) "Lullabygate$Sleeper" "pass" "Ljava/util/Optional;") ∈ lw_all := lw_g (lw_at lw_m4 64 rfl) rfl
theorem q865 : (Jvm.Cond.laysFinal "Lullabygate$Sleeper" "Lullabygate$Sleeper" "number" "I") ∈ lw_all := lw_g (lw_at lw_m4 66 rfl) rfl
theorem q866 : (Jvm.Cond.soleField "Lullabygate$Sleeper" "number") ∈ lw_all := lw_g (lw_at lw_m4 67 rfl) rfl
theorem q867 : (Jvm.Cond.laysFinal "Lullabygate$Sleeper" "Lullabygate$Sleeper" "isBaby" "Z") ∈ lw_all := lw_g (lw_at lw_m4 68 rfl) rfl
theorem q868 : (Jvm.Cond.soleField "Lullabygate$Sleeper" "isBaby") ∈ lw_all := lw_g (lw_at lw_m4 69 rfl) rfl
theorem q869 : (Jvm.Cond.lays "Lullabygate$Sleeper" "Lullabygate$Sleeper" "land" "I") ∈ lw_all := lw_g (lw_at lw_m4 70 rfl) rfl
theorem q870 : (Jvm.Cond.soleField "Lullabygate$Sleeper" "land") ∈ lw_all := lw_g (lw_at lw_m4 71 rfl) rfl
theorem q871 : (Jvm.Cond.lays "Lullabygate$Sleeper" "Lullabygate$Sleeper" "patience" "I") ∈ lw_all := lw_g (lw_at lw_m4 72 rfl) rfl
theorem q872 : (Jvm.Cond.soleField "Lullabygate$Sleeper" "patience") ∈ lw_all := lw_g (lw_at lw_m4 73 rfl) rfl
theorem q873 : (Jvm.Cond.lays "Lullabygate$Sleeper" "Lullabygate$Sleeper" "rest" "LLullabygate$Rest;") ∈ lw_all := lw_g (lw_at lw_m4 74 rfl) rfl
theorem q874 : (Jvm.Cond.soleField "Lullabygate$Sleeper" "rest") ∈ lw_all := lw_g (lw_at lw_m4 75 rfl) rfl
theorem q875 : (Jvm.Cond.lays "Lullabygate$Sleeper" "Lullabygate$Sleeper" "gate" "I") ∈ lw_all := lw_g (lw_at lw_m4 76 rfl) rfl
theorem q876 : (Jvm.Cond.soleField "Lullabygate$Sleeper" "gate") ∈ lw_all := lw_g (lw_at lw_m4 77 rfl) rfl
theorem q877 : (Jvm.Cond.lays "Lullabygate$Sleeper" "Lullabygate$Sleeper" "declares" "I") ∈ lw_all := lw_g (lw_at lw_m4 78 rfl) rfl
theorem q878 : (Jvm.Cond.soleField "Lullabygate$Sleeper" "declares") ∈ lw_all := lw_g (lw_at lw_m4 79 rfl) rfl
theorem q879 : (Jvm.Cond.lays "Lullabygate$Sleeper" "Lullabygate$Sleeper" "pass" "Ljava/util/Optional;") ∈ lw_all := lw_g (lw_at lw_m4 80 rfl) rfl
theorem q880 : (Jvm.Cond.soleField "Lullabygate$Sleeper" "pass") ∈ lw_all := lw_g (lw_at lw_m4 81 rfl) rfl
theorem q881 : (Jvm.Cond.superclass "Lullabygate$Sleeper" "java/lang/Object") ∈ lw_all := lw_g (lw_at lw_m4 82 rfl) rfl
theorem q1027 : (Jvm.Cond.instanceMethod ({ cls := "Lullabygate$Sleeper", name := "lie", desc := "()V" } : Jvm.MethodName)) ∈ lw_all := lw_g (lw_at lw_m4 228 rfl) rfl
theorem q1028 : (Jvm.Cond.selects "Lullabygate$Sleeper" ({ cls := "Lullabygate$Sleeper", name := "lie", desc := "()V" } : Jvm.MethodName) ({ cls := "Lullabygate$Sleeper", name := "lie", desc := "()V" } : Jvm.MethodName)) ∈ lw_all := lw_g (lw_at lw_m4 229 rfl) rfl
theorem q1029 : (Jvm.Cond.code ({ cls := "Lullabygate$Sleeper", name := "lie", desc := "()V" } : Jvm.MethodName) prog_10_method_3_code (1 : Nat) (Option.none : Option Jvm.ClassFile.FieldType)) ∈ lw_all := lw_g (lw_at lw_m4 230 rfl) rfl
theorem q2019 : (Jvm.Cond.castable "Lullabygate$Sleeper" "java/lang/Object") ∈ lw_tbl := lw_at lw_m9 20 rfl
theorem in_X9 : ∀ w ∈ wsX90, w ∈ lw_all := lw_in wsX90 [865, 867, 869, 871, 873, 875, 877, 879] (by decide +kernel) (by decide +kernel)
/-! LullabygateModel$Sleeper -/
set_option maxRecDepth 100000
def RX10 : String := "LullabygateModel$Sleeper"
def TX10 : u_T := fun k => match k with
  | 0 => ("LullabygateModel$Sleeper", "land", "I", false)
  | 1 => ("LullabygateModel$Sleeper", "isBaby", "Z", false)
  | 2 => ("LullabygateModel$Sleeper", "patience", "I", false)
  | 3 => ("LullabygateModel$Sleeper", "state", "I", false)
  | 4 => ("LullabygateModel$Sleeper", "gate", "I", false)
  | 5 => ("LullabygateModel$Sleeper", "declares", "I", false)
  | 6 => ("LullabygateModel$Sleeper", "passGate", "I", false)
  | 7 => ("LullabygateModel$Sleeper", "passNight", "I", false)
  | _ => ("LullabygateModel$Sleeper", "verse", "I", false)
def tyX10 : Nat → FieldType := fun k => match k with
  | 0 => .int
  | 1 => .boolean
  | 2 => .int
  | 3 => .int
  | 4 => .int
  | 5 => .int
  | 6 => .int
  | 7 => .int
  | _ => .int
abbrev wsX100 : List Cond := u_ws RX10 TX10 9
theorem nmX10 : ∀ a, a < 9 → ∀ b, b < 9 → a ≠ b → (TX10 a).2.1 ≠ (TX10 b).2.1 := by decide +kernel
theorem tyX10_ok : ∀ k, k < 9 → parseFieldDescriptor (TX10 k).2.2.1 = some (tyX10 k) := by decide +kernel
abbrev cX10_init : ByteArray := prog_18_method_1_code
def yX10_init : MethodName := ⟨RX10, "<init>", "()V"⟩
def dkwX10_init_0 : List UInt8 := [42, 183, 0, 3, 42, 2, 181, 0, 9, 42, 2, 181, 0, 15, 42, 2, 181, 0, 18, 177]
abbrev dktX10_init_0 : List UInt8 := dkwX10_init_0 ++ []
theorem dksX10_init_0 : cX10_init.data.toList.drop 0 = dktX10_init_0 := by decide +kernel
theorem dX10_init_0 : decode cX10_init 0 = .ok (.aload_n 0, 1) := dk_42 (dk_at dksX10_init_0 0 rfl rfl)
theorem dX10_init_1 : decode cX10_init 1 = .ok (.invokespecial 3, 3) := dk_183 0 3 (dk_at dksX10_init_0 1 rfl rfl)
theorem dX10_init_4 : decode cX10_init 4 = .ok (.aload_n 0, 1) := dk_42 (dk_at dksX10_init_0 4 rfl rfl)
theorem dX10_init_5 : decode cX10_init 5 = .ok (.iconst (-1), 1) := dk_2 (dk_at dksX10_init_0 5 rfl rfl)
theorem dX10_init_6 : decode cX10_init 6 = .ok (.putfield 9, 3) := dk_181 0 9 (dk_at dksX10_init_0 6 rfl rfl)
theorem dX10_init_9 : decode cX10_init 9 = .ok (.aload_n 0, 1) := dk_42 (dk_at dksX10_init_0 9 rfl rfl)
theorem dX10_init_10 : decode cX10_init 10 = .ok (.iconst (-1), 1) := dk_2 (dk_at dksX10_init_0 10 rfl rfl)
theorem dX10_init_11 : decode cX10_init 11 = .ok (.putfield 15, 3) := dk_181 0 15 (dk_at dksX10_init_0 11 rfl rfl)
theorem dX10_init_14 : decode cX10_init 14 = .ok (.aload_n 0, 1) := dk_42 (dk_at dksX10_init_0 14 rfl rfl)
theorem dX10_init_15 : decode cX10_init 15 = .ok (.iconst (-1), 1) := dk_2 (dk_at dksX10_init_0 15 rfl rfl)
theorem dX10_init_16 : decode cX10_init 16 = .ok (.putfield 18, 3) := dk_181 0 18 (dk_at dksX10_init_0 16 rfl rfl)
theorem dX10_init_19 : decode cX10_init 19 = .ok (.return_, 1) := dk_177 (dk_at dksX10_init_0 19 rfl rfl)
theorem q109 : (Jvm.Cond.initialized "LullabygateModel$Sleeper") ∈ lw_all := lw_g (lw_at lw_m1 30 rfl) rfl
theorem q257 : (Jvm.Cond.selects "LullabygateModel$Sleeper" ({ cls := "java/lang/Object", name := "getClass", desc := "()Ljava/lang/Class;" } : Jvm.MethodName) ({ cls := "java/lang/Object", name := "getClass", desc := "()Ljava/lang/Class;" } : Jvm.MethodName)) ∈ lw_all := lw_g (lw_at lw_m1 178 rfl) rfl
theorem q1594 : (Jvm.Cond.instantiable "LullabygateModel$Sleeper" (9 : Nat)) ∈ lw_all := lw_g (lw_at lw_m7 75 rfl) rfl
theorem q1596 : (Jvm.Cond.instanceMethod ({ cls := "LullabygateModel$Sleeper", name := "<init>", desc := "()V" } : Jvm.MethodName)) ∈ lw_all := lw_g (lw_at lw_m7 77 rfl) rfl
theorem q1597 : (Jvm.Cond.code ({ cls := "LullabygateModel$Sleeper", name := "<init>", desc := "()V" } : Jvm.MethodName) prog_18_method_1_code (1 : Nat) (Option.none : Option Jvm.ClassFile.FieldType)) ∈ lw_all := lw_g (lw_at lw_m7 78 rfl) rfl
theorem q1598 : (Jvm.Cond.methodLink "LullabygateModel$Sleeper" (3 : Nat) ({ cls := "java/lang/Object", name := "<init>", desc := "()V" } : Jvm.MethodName)) ∈ lw_all := lw_g (lw_at lw_m7 79 rfl) rfl
theorem q1603 : (Jvm.Cond.fieldLink "LullabygateModel$Sleeper" (9 : Nat) "LullabygateModel$Sleeper" "gate" "I") ∈ lw_all := lw_g (lw_at lw_m7 84 rfl) rfl
theorem q1606 : (Jvm.Cond.fieldLink "LullabygateModel$Sleeper" (15 : Nat) "LullabygateModel$Sleeper" "passGate" "I") ∈ lw_all := lw_g (lw_at lw_m7 87 rfl) rfl
theorem q1609 : (Jvm.Cond.fieldLink "LullabygateModel$Sleeper" (18 : Nat) "LullabygateModel$Sleeper" "verse" "I") ∈ lw_all := lw_g (lw_at lw_m7 90 rfl) rfl
theorem q1611 : (Jvm.Cond.lays "LullabygateModel$Sleeper" "LullabygateModel$Sleeper" "land" "I") ∈ lw_all := lw_g (lw_at lw_m7 92 rfl) rfl
theorem q1612 : (Jvm.Cond.soleField "LullabygateModel$Sleeper" "land") ∈ lw_all := lw_g (lw_at lw_m7 93 rfl) rfl
theorem q1613 : (Jvm.Cond.lays "LullabygateModel$Sleeper" "LullabygateModel$Sleeper" "isBaby" "Z") ∈ lw_all := lw_g (lw_at lw_m7 94 rfl) rfl
theorem q1614 : (Jvm.Cond.soleField "LullabygateModel$Sleeper" "isBaby") ∈ lw_all := lw_g (lw_at lw_m7 95 rfl) rfl
theorem q1615 : (Jvm.Cond.lays "LullabygateModel$Sleeper" "LullabygateModel$Sleeper" "patience" "I") ∈ lw_all := lw_g (lw_at lw_m7 96 rfl) rfl
theorem q1616 : (Jvm.Cond.soleField "LullabygateModel$Sleeper" "patience") ∈ lw_all := lw_g (lw_at lw_m7 97 rfl) rfl
theorem q1617 : (Jvm.Cond.lays "LullabygateModel$Sleeper" "LullabygateModel$Sleeper" "state" "I") ∈ lw_all := lw_g (lw_at lw_m7 98 rfl) rfl
theorem q1618 : (Jvm.Cond.soleField "LullabygateModel$Sleeper" "state") ∈ lw_all := lw_g (lw_at lw_m7 99 rfl) rfl
theorem q1619 : (Jvm.Cond.lays "LullabygateModel$Sleeper" "LullabygateModel$Sleeper" "gate" "I") ∈ lw_all := lw_g (lw_at lw_m7 100 rfl) rfl
theorem q1620 : (Jvm.Cond.soleField "LullabygateModel$Sleeper" "gate") ∈ lw_all := lw_g (lw_at lw_m7 101 rfl) rfl
theorem q1621 : (Jvm.Cond.lays "LullabygateModel$Sleeper" "LullabygateModel$Sleeper" "declares" "I") ∈ lw_all := lw_g (lw_at lw_m7 102 rfl) rfl
theorem q1622 : (Jvm.Cond.soleField "LullabygateModel$Sleeper" "declares") ∈ lw_all := lw_g (lw_at lw_m7 103 rfl) rfl
theorem q1623 : (Jvm.Cond.lays "LullabygateModel$Sleeper" "LullabygateModel$Sleeper" "passGate" "I") ∈ lw_all := lw_g (lw_at lw_m7 104 rfl) rfl
theorem q1624 : (Jvm.Cond.soleField "LullabygateModel$Sleeper" "passGate") ∈ lw_all := lw_g (lw_at lw_m7 105 rfl) rfl
theorem q1625 : (Jvm.Cond.lays "LullabygateModel$Sleeper" "LullabygateModel$Sleeper" "passNight" "I") ∈ lw_all := lw_g (lw_at lw_m7 106 rfl) rfl
theorem q1626 : (Jvm.Cond.soleField "LullabygateModel$Sleeper" "passNight") ∈ lw_all := lw_g (lw_at lw_m7 107 rfl) rfl
theorem q1627 : (Jvm.Cond.lays "LullabygateModel$Sleeper" "LullabygateModel$Sleeper" "verse" "I") ∈ lw_all := lw_g (lw_at lw_m7 108 rfl) rfl
theorem q1628 : (Jvm.Cond.soleField "LullabygateModel$Sleeper" "verse") ∈ lw_all := lw_g (lw_at lw_m7 109 rfl) rfl
theorem q1629 : (Jvm.Cond.superclass "LullabygateModel$Sleeper" "java/lang/Object") ∈ lw_all := lw_g (lw_at lw_m7 110 rfl) rfl
theorem q2022 : (Jvm.Cond.castable "LullabygateModel$Sleeper" "java/lang/Object") ∈ lw_tbl := lw_at lw_m9 23 rfl
theorem in_X10 : ∀ w ∈ wsX100, w ∈ lw_all := lw_in wsX100 [1611, 1613, 1615, 1617, 1619, 1621, 1623, 1625, 1627] (by decide +kernel) (by decide +kernel)
/-! Lullabygate$Part -/
set_option maxRecDepth 100000
def RX11 : String := "Lullabygate$Part"
def TX11 : u_T := fun k => match k with
  | 0 => ("Lullabygate$Part", "dream", "I", true)
  | 1 => ("Lullabygate$Part", "worth", "I", true)
  | 2 => ("Lullabygate$Part", "dread", "I", true)
  | 3 => ("Lullabygate$Part", "head", "I", false)
  | 4 => ("Lullabygate$Part", "store", "I", false)
  | 5 => ("Lullabygate$Part", "fate", "LLullabygate$Fate;", false)
  | _ => ("Lullabygate$Part", "by", "I", false)
def tyX11 : Nat → FieldType := fun k => match k with
  | 0 => .int
  | 1 => .int
  | 2 => .int
  | 3 => .int
  | 4 => .int
  | 5 => .object "Lullabygate$Fate"
  | _ => .int
abbrev wsX110 : List Cond := u_ws RX11 TX11 7
theorem nmX11 : ∀ a, a < 7 → ∀ b, b < 7 → a ≠ b → (TX11 a).2.1 ≠ (TX11 b).2.1 := by decide +kernel
theorem tyX11_ok : ∀ k, k < 7 → parseFieldDescriptor (TX11 k).2.2.1 = some (tyX11 k) := by decide +kernel
abbrev cX11_isGone : ByteArray := prog_6_method_3_code
def yX11_isGone : MethodName := ⟨RX11, "isGone", "()Z"⟩
def dkwX11_isGone_0 : List UInt8 := [42, 180, 0, 36, 2, 160, 0, 15, 42, 180, 0, 9, 2, 160, 0, 7, 4, 167, 0, 4, 3, 172]
abbrev dktX11_isGone_0 : List UInt8 := dkwX11_isGone_0 ++ []
theorem dksX11_isGone_0 : cX11_isGone.data.toList.drop 0 = dktX11_isGone_0 := by decide +kernel
theorem dX11_isGone_0 : decode cX11_isGone 0 = .ok (.aload_n 0, 1) := dk_42 (dk_at dksX11_isGone_0 0 rfl rfl)
theorem dX11_isGone_1 : decode cX11_isGone 1 = .ok (.getfield 36, 3) := dk_180 0 36 (dk_at dksX11_isGone_0 1 rfl rfl)
theorem dX11_isGone_4 : decode cX11_isGone 4 = .ok (.iconst (-1), 1) := dk_2 (dk_at dksX11_isGone_0 4 rfl rfl)
theorem dX11_isGone_5 : decode cX11_isGone 5 = .ok (.if_icmp .ne 15, 3) := dk_160 0 15 (dk_at dksX11_isGone_0 5 rfl rfl)
theorem dX11_isGone_8 : decode cX11_isGone 8 = .ok (.aload_n 0, 1) := dk_42 (dk_at dksX11_isGone_0 8 rfl rfl)
theorem dX11_isGone_9 : decode cX11_isGone 9 = .ok (.getfield 9, 3) := dk_180 0 9 (dk_at dksX11_isGone_0 9 rfl rfl)
theorem dX11_isGone_12 : decode cX11_isGone 12 = .ok (.iconst (-1), 1) := dk_2 (dk_at dksX11_isGone_0 12 rfl rfl)
theorem dX11_isGone_13 : decode cX11_isGone 13 = .ok (.if_icmp .ne 7, 3) := dk_160 0 7 (dk_at dksX11_isGone_0 13 rfl rfl)
theorem dX11_isGone_16 : decode cX11_isGone 16 = .ok (.iconst 1, 1) := dk_4 (dk_at dksX11_isGone_0 16 rfl rfl)
theorem dX11_isGone_17 : decode cX11_isGone 17 = .ok (.goto 4, 3) := dk_167 0 4 (dk_at dksX11_isGone_0 17 rfl rfl)
theorem dX11_isGone_20 : decode cX11_isGone 20 = .ok (.iconst 0, 1) := dk_3 (dk_at dksX11_isGone_0 20 rfl rfl)
theorem dX11_isGone_21 : decode cX11_isGone 21 = .ok (.ireturn, 1) := dk_172 (dk_at dksX11_isGone_0 21 rfl rfl)
abbrev cX11_isNightmare : ByteArray := prog_6_method_2_code
def yX11_isNightmare : MethodName := ⟨RX11, "isNightmare", "()Z"⟩
def dkwX11_isNightmare_0 : List UInt8 := [42, 180, 0, 33, 8, 161, 0, 7, 4, 167, 0, 4, 3, 172]
abbrev dktX11_isNightmare_0 : List UInt8 := dkwX11_isNightmare_0 ++ []
theorem dksX11_isNightmare_0 : cX11_isNightmare.data.toList.drop 0 = dktX11_isNightmare_0 := by decide +kernel
theorem dX11_isNightmare_0 : decode cX11_isNightmare 0 = .ok (.aload_n 0, 1) := dk_42 (dk_at dksX11_isNightmare_0 0 rfl rfl)
theorem dX11_isNightmare_1 : decode cX11_isNightmare 1 = .ok (.getfield 33, 3) := dk_180 0 33 (dk_at dksX11_isNightmare_0 1 rfl rfl)
theorem dX11_isNightmare_4 : decode cX11_isNightmare 4 = .ok (.iconst 5, 1) := dk_8 (dk_at dksX11_isNightmare_0 4 rfl rfl)
theorem dX11_isNightmare_5 : decode cX11_isNightmare 5 = .ok (.if_icmp .lt 7, 3) := dk_161 0 7 (dk_at dksX11_isNightmare_0 5 rfl rfl)
theorem dX11_isNightmare_8 : decode cX11_isNightmare 8 = .ok (.iconst 1, 1) := dk_4 (dk_at dksX11_isNightmare_0 8 rfl rfl)
theorem dX11_isNightmare_9 : decode cX11_isNightmare 9 = .ok (.goto 4, 3) := dk_167 0 4 (dk_at dksX11_isNightmare_0 9 rfl rfl)
theorem dX11_isNightmare_12 : decode cX11_isNightmare 12 = .ok (.iconst 0, 1) := dk_3 (dk_at dksX11_isNightmare_0 12 rfl rfl)
theorem dX11_isNightmare_13 : decode cX11_isNightmare 13 = .ok (.ireturn, 1) := dk_172 (dk_at dksX11_isNightmare_0 13 rfl rfl)
abbrev cX11_init : ByteArray := prog_6_method_1_code
def yX11_init : MethodName := ⟨RX11, "<init>", "(IIII)V"⟩
def dkwX11_init_1 : List UInt8 := [181, 0, 27, 42, 28, 181, 0, 30, 42, 29, 181, 0, 33, 42, 21, 4, 181, 0, 36, 177]
abbrev dktX11_init_1 : List UInt8 := dkwX11_init_1 ++ []
def dkwX11_init_0 : List UInt8 := [42, 183, 0, 3, 42, 2, 181, 0, 9, 42, 178, 0, 15, 181, 0, 21, 42, 2, 181, 0, 24, 42, 27]
abbrev dktX11_init_0 : List UInt8 := dkwX11_init_0 ++ dktX11_init_1
theorem dksX11_init_0 : cX11_init.data.toList.drop 0 = dktX11_init_0 := by decide +kernel
theorem dksX11_init_1 : cX11_init.data.toList.drop 23 = dktX11_init_1 := dk_seg dksX11_init_0 23 rfl rfl
theorem dX11_init_0 : decode cX11_init 0 = .ok (.aload_n 0, 1) := dk_42 (dk_at dksX11_init_0 0 rfl rfl)
theorem dX11_init_1 : decode cX11_init 1 = .ok (.invokespecial 3, 3) := dk_183 0 3 (dk_at dksX11_init_0 1 rfl rfl)
theorem dX11_init_4 : decode cX11_init 4 = .ok (.aload_n 0, 1) := dk_42 (dk_at dksX11_init_0 4 rfl rfl)
theorem dX11_init_5 : decode cX11_init 5 = .ok (.iconst (-1), 1) := dk_2 (dk_at dksX11_init_0 5 rfl rfl)
theorem dX11_init_6 : decode cX11_init 6 = .ok (.putfield 9, 3) := dk_181 0 9 (dk_at dksX11_init_0 6 rfl rfl)
theorem dX11_init_9 : decode cX11_init 9 = .ok (.aload_n 0, 1) := dk_42 (dk_at dksX11_init_0 9 rfl rfl)
theorem dX11_init_10 : decode cX11_init 10 = .ok (.getstatic 15, 3) := dk_178 0 15 (dk_at dksX11_init_0 10 rfl rfl)
theorem dX11_init_13 : decode cX11_init 13 = .ok (.putfield 21, 3) := dk_181 0 21 (dk_at dksX11_init_0 13 rfl rfl)
theorem dX11_init_16 : decode cX11_init 16 = .ok (.aload_n 0, 1) := dk_42 (dk_at dksX11_init_0 16 rfl rfl)
theorem dX11_init_17 : decode cX11_init 17 = .ok (.iconst (-1), 1) := dk_2 (dk_at dksX11_init_0 17 rfl rfl)
theorem dX11_init_18 : decode cX11_init 18 = .ok (.putfield 24, 3) := dk_181 0 24 (dk_at dksX11_init_0 18 rfl rfl)
theorem dX11_init_21 : decode cX11_init 21 = .ok (.aload_n 0, 1) := dk_42 (dk_at dksX11_init_0 21 rfl rfl)
theorem dX11_init_22 : decode cX11_init 22 = .ok (.iload_n 1, 1) := dk_27 (dk_at dksX11_init_0 22 rfl rfl)
theorem dX11_init_23 : decode cX11_init 23 = .ok (.putfield 27, 3) := dk_181 0 27 (dk_at dksX11_init_1 0 rfl rfl)
theorem dX11_init_26 : decode cX11_init 26 = .ok (.aload_n 0, 1) := dk_42 (dk_at dksX11_init_1 3 rfl rfl)
theorem dX11_init_27 : decode cX11_init 27 = .ok (.iload_n 2, 1) := dk_28 (dk_at dksX11_init_1 4 rfl rfl)
theorem dX11_init_28 : decode cX11_init 28 = .ok (.putfield 30, 3) := dk_181 0 30 (dk_at dksX11_init_1 5 rfl rfl)
theorem dX11_init_31 : decode cX11_init 31 = .ok (.aload_n 0, 1) := dk_42 (dk_at dksX11_init_1 8 rfl rfl)
theorem dX11_init_32 : decode cX11_init 32 = .ok (.iload_n 3, 1) := dk_29 (dk_at dksX11_init_1 9 rfl rfl)
theorem dX11_init_33 : decode cX11_init 33 = .ok (.putfield 33, 3) := dk_181 0 33 (dk_at dksX11_init_1 10 rfl rfl)
theorem dX11_init_36 : decode cX11_init 36 = .ok (.aload_n 0, 1) := dk_42 (dk_at dksX11_init_1 13 rfl rfl)
theorem dX11_init_37 : decode cX11_init 37 = .ok (.iload 4, 2) := dk_21 4 (dk_at dksX11_init_1 14 rfl rfl)
theorem dX11_init_39 : decode cX11_init 39 = .ok (.putfield 36, 3) := dk_181 0 36 (dk_at dksX11_init_1 16 rfl rfl)
theorem dX11_init_42 : decode cX11_init 42 = .ok (.return_, 1) := dk_177 (dk_at dksX11_init_1 19 rfl rfl)
abbrev cX11_keep : ByteArray := prog_6_method_4_code
def yX11_keep : MethodName := ⟨RX11, "keep", "(ILLullabygate$Fate;)V"⟩
def dkwX11_keep_0 : List UInt8 := [42, 2, 181, 0, 36, 42, 27, 181, 0, 9, 42, 44, 181, 0, 21, 177]
abbrev dktX11_keep_0 : List UInt8 := dkwX11_keep_0 ++ []
theorem dksX11_keep_0 : cX11_keep.data.toList.drop 0 = dktX11_keep_0 := by decide +kernel
theorem dX11_keep_0 : decode cX11_keep 0 = .ok (.aload_n 0, 1) := dk_42 (dk_at dksX11_keep_0 0 rfl rfl)
theorem dX11_keep_1 : decode cX11_keep 1 = .ok (.iconst (-1), 1) := dk_2 (dk_at dksX11_keep_0 1 rfl rfl)
theorem dX11_keep_2 : decode cX11_keep 2 = .ok (.putfield 36, 3) := dk_181 0 36 (dk_at dksX11_keep_0 2 rfl rfl)
theorem dX11_keep_5 : decode cX11_keep 5 = .ok (.aload_n 0, 1) := dk_42 (dk_at dksX11_keep_0 5 rfl rfl)
theorem dX11_keep_6 : decode cX11_keep 6 = .ok (.iload_n 1, 1) := dk_27 (dk_at dksX11_keep_0 6 rfl rfl)
theorem dX11_keep_7 : decode cX11_keep 7 = .ok (.putfield 9, 3) := dk_181 0 9 (dk_at dksX11_keep_0 7 rfl rfl)
theorem dX11_keep_10 : decode cX11_keep 10 = .ok (.aload_n 0, 1) := dk_42 (dk_at dksX11_keep_0 10 rfl rfl)
theorem dX11_keep_11 : decode cX11_keep 11 = .ok (.aload_n 2, 1) := dk_44 (dk_at dksX11_keep_0 11 rfl rfl)
theorem dX11_keep_12 : decode cX11_keep 12 = .ok (.putfield 21, 3) := dk_181 0 21 (dk_at dksX11_keep_0 12 rfl rfl)
theorem dX11_keep_15 : decode cX11_keep 15 = .ok (.return_, 1) := dk_177 (dk_at dksX11_keep_0 15 rfl rfl)
theorem q110 : (Jvm.Cond.initialized "Lullabygate$Part") ∈ lw_all := lw_g (lw_at lw_m1 31 rfl) rfl
theorem q246 : (Jvm.Cond.selects "Lullabygate$Part" ({ cls := "java/lang/Object", name := "getClass", desc := "()Ljava/lang/Class;" } : Jvm.MethodName) ({ cls := "java/lang/Object", name := "getClass", desc := "()Ljava/lang/Class;" } : Jvm.MethodName)) ∈ lw_all := lw_g (lw_at lw_m1 167 rfl) rfl
theorem q407 : (Jvm.Cond.instanceMethod ({ cls := "Lullabygate$Part", name := "isGone", desc := "()Z" } : Jvm.MethodName)) ∈ lw_all := lw_g (lw_at lw_m2 88 rfl) rfl
theorem q408 : (Jvm.Cond.selects "Lullabygate$Part" ({ cls := "Lullabygate$Part", name := "isGone", desc := "()Z" } : Jvm.MethodName) ({ cls := "Lullabygate$Part", name := "isGone", desc := "()Z" } : Jvm.MethodName)) ∈ lw_all := lw_g (lw_at lw_m2 89 rfl) rfl
theorem q409 : (Jvm.Cond.code ({ cls := "Lullabygate$Part", name := "isGone", desc := "()Z" } : Jvm.MethodName) prog_6_method_3_code (1 : Nat) (Option.some Jvm.ClassFile.FieldType.boolean)) ∈ lw_all := lw_g (lw_at lw_m2 90 rfl) rfl
theorem q522 : (Jvm.Cond.instanceMethod ({ cls := "Lullabygate$Part", name := "isNightmare", desc := "()Z" } : Jvm.MethodName)) ∈ lw_all := lw_g (lw_at lw_m2 203 rfl) rfl
theorem q523 : (Jvm.Cond.selects "Lullabygate$Part" ({ cls := "Lullabygate$Part", name := "isNightmare", desc := "()Z" } : Jvm.MethodName) ({ cls := "Lullabygate$Part", name := "isNightmare", desc := "()Z" } : Jvm.MethodName)) ∈ lw_all := lw_g (lw_at lw_m2 204 rfl) rfl
theorem q524 : (Jvm.Cond.code ({ cls := "Lullabygate$Part", name := "isNightmare", desc := "()Z" } : Jvm.MethodName) prog_6_method_2_code (1 : Nat) (Option.some Jvm.ClassFile.FieldType.boolean)) ∈ lw_all := lw_g (lw_at lw_m2 205 rfl) rfl
theorem q894 : (Jvm.Cond.instantiable "Lullabygate$Part" (7 : Nat)) ∈ lw_all := lw_g (lw_at lw_m4 95 rfl) rfl
theorem q896 : (Jvm.Cond.instanceMethod ({ cls := "Lullabygate$Part", name := "<init>", desc := "(IIII)V" } : Jvm.MethodName)) ∈ lw_all := lw_g (lw_at lw_m4 97 rfl) rfl
theorem q897 : (Jvm.Cond.code ({ cls := "Lullabygate$Part", name := "<init>", desc := "(IIII)V" } : Jvm.MethodName) prog_6_method_1_code (5 : Nat) (Option.none : Option Jvm.ClassFile.FieldType)) ∈ lw_all := lw_g (lw_at lw_m4 98 rfl) rfl
theorem q898 : (Jvm.Cond.methodLink "Lullabygate$Part" (3 : Nat) ({ cls := "java/lang/Object", name := "<init>", desc := "()V" } : Jvm.MethodName)) ∈ lw_all := lw_g (lw_at lw_m4 99 rfl) rfl
theorem q899 : (Jvm.Cond.fieldLink "Lullabygate$Part" (15 : Nat) "Lullabygate$Fate" "UNTOLD" "LLullabygate$Fate;") ∈ lw_all := lw_g (lw_at lw_m4 100 rfl) rfl
theorem q901 : (Jvm.Cond.fieldLink "Lullabygate$Part" (27 : Nat) "Lullabygate$Part" "dream" "I") ∈ lw_all := lw_g (lw_at lw_m4 102 rfl) rfl
theorem q903 : (Jvm.Cond.fieldLink "Lullabygate$Part" (30 : Nat) "Lullabygate$Part" "worth" "I") ∈ lw_all := lw_g (lw_at lw_m4 104 rfl) rfl
theorem q905 : (Jvm.Cond.fieldLink "Lullabygate$Part" (33 : Nat) "Lullabygate$Part" "dread" "I") ∈ lw_all := lw_g (lw_at lw_m4 106 rfl) rfl
theorem q907 : (Jvm.Cond.fieldLink "Lullabygate$Part" (36 : Nat) "Lullabygate$Part" "head" "I") ∈ lw_all := lw_g (lw_at lw_m4 108 rfl) rfl
theorem q909 : (Jvm.Cond.fieldLink "Lullabygate$Part" (9 : Nat) "Lullabygate$Part" "store" "I") ∈ lw_all := lw_g (lw_at lw_m4 110 rfl) rfl
theorem q911 : (Jvm.Cond.fieldLink "Lullabygate$Part" (21 : Nat) "Lullabygate$Part" "fate" "LLullabygate$Fate;") ∈ lw_all := lw_g (lw_at lw_m4 112 rfl) rfl
theorem q913 : (Jvm.Cond.fieldLink "Lullabygate$Part" (24 : Nat) "Lullabygate$Part" "by" "I") ∈ lw_all := lw_g (lw_at lw_m4 114 rfl) rfl
theorem q915 : (Jvm.Cond.laysFinal "Lullabygate$Part" "Lullabygate$Part" "dream" "I") ∈ lw_all := lw_g (lw_at lw_m4 116 rfl) rfl
theorem q916 : (Jvm.Cond.soleField "Lullabygate$Part" "dream") ∈ lw_all := lw_g (lw_at lw_m4 117 rfl) rfl
theorem q917 : (Jvm.Cond.laysFinal "Lullabygate$Part" "Lullabygate$Part" "worth" "I") ∈ lw_all := lw_g (lw_at lw_m4 118 rfl) rfl
theorem q918 : (Jvm.Cond.soleField "Lullabygate$Part" "worth") ∈ lw_all := lw_g (lw_at lw_m4 119 rfl) rfl
theorem q919 : (Jvm.Cond.laysFinal "Lullabygate$Part" "Lullabygate$Part" "dread" "I") ∈ lw_all := lw_g (lw_at lw_m4 120 rfl) rfl
theorem q920 : (Jvm.Cond.soleField "Lullabygate$Part" "dread") ∈ lw_all := lw_g (lw_at lw_m4 121 rfl) rfl
theorem q921 : (Jvm.Cond.lays "Lullabygate$Part" "Lullabygate$Part" "head" "I") ∈ lw_all := lw_g (lw_at lw_m4 122 rfl) rfl
theorem q922 : (Jvm.Cond.soleField "Lullabygate$Part" "head") ∈ lw_all := lw_g (lw_at lw_m4 123 rfl) rfl
theorem q923 : (Jvm.Cond.lays "Lullabygate$Part" "Lullabygate$Part" "store" "I") ∈ lw_all := lw_g (lw_at lw_m4 124 rfl) rfl
theorem q924 : (Jvm.Cond.soleField "Lullabygate$Part" "store") ∈ lw_all := lw_g (lw_at lw_m4 125 rfl) rfl
theorem q925 : (Jvm.Cond.lays "Lullabygate$Part" "Lullabygate$Part" "fate" "LLullabygate$Fate;") ∈ lw_all := lw_g (lw_at lw_m4 126 rfl) rfl
theorem q926 : (Jvm.Cond.soleField "Lullabygate$Part" "fate") ∈ lw_all := lw_g (lw_at lw_m4 127 rfl) rfl
theorem q927 : (Jvm.Cond.lays "Lullabygate$Part" "Lullabygate$Part" "by" "I") ∈ lw_all := lw_g (lw_at lw_m4 128 rfl) rfl
theorem q928 : (Jvm.Cond.soleField "Lullabygate$Part" "by") ∈ lw_all := lw_g (lw_at lw_m4 129 rfl) rfl
theorem q929 : (Jvm.Cond.superclass "Lullabygate$Part" "java/lang/Object") ∈ lw_all := lw_g (lw_at lw_m4 130 rfl) rfl
theorem q1072 : (Jvm.Cond.instanceMethod ({ cls := "Lullabygate$Part", name := "keep", desc := "(ILLullabygate$Fate;)V" } : Jvm.MethodName)) ∈ lw_all := lw_g (lw_at lw_m5 33 rfl) rfl
theorem q1073 : (Jvm.Cond.selects "Lullabygate$Part" ({ cls := "Lullabygate$Part", name := "keep", desc := "(ILLullabygate$Fate;)V" } : Jvm.MethodName) ({ cls := "Lullabygate$Part", name := "keep", desc := "(ILLullabygate$Fate;)V" } : Jvm.MethodName)) ∈ lw_all := lw_g (lw_at lw_m5 34 rfl) rfl
theorem q1074 : (Jvm.Cond.code ({ cls := "Lullabygate$Part", name := "keep", desc := "(ILLullabygate$Fate;)V" } : Jvm.MethodName) prog_6_method_4_code (3 : Nat) (Option.none : Option Jvm.ClassFile.FieldType)) ∈ lw_all := lw_g (lw_at lw_m5 35 rfl) rfl
theorem q2023 : (Jvm.Cond.castable "Lullabygate$Part" "java/lang/Object") ∈ lw_tbl := lw_at lw_m9 24 rfl
theorem in_X11 : ∀ w ∈ wsX110, w ∈ lw_all := lw_in wsX110 [915, 917, 919, 921, 923, 925, 927] (by decide +kernel) (by decide +kernel)
/-! LullabygateModel$Part -/
set_option maxRecDepth 100000
def RX12 : String := "LullabygateModel$Part"
def TX12 : u_T := fun k => match k with
  | 0 => ("LullabygateModel$Part", "dream", "I", false)
  | 1 => ("LullabygateModel$Part", "worth", "I", false)
  | 2 => ("LullabygateModel$Part", "dread", "I", false)
  | 3 => ("LullabygateModel$Part", "fate", "I", false)
  | 4 => ("LullabygateModel$Part", "at", "I", false)
  | _ => ("LullabygateModel$Part", "brought", "I", false)
def tyX12 : Nat → FieldType := fun k => match k with
  | 0 => .int
  | 1 => .int
  | 2 => .int
  | 3 => .int
  | 4 => .int
  | _ => .int
abbrev wsX120 : List Cond := u_ws RX12 TX12 6
theorem nmX12 : ∀ a, a < 6 → ∀ b, b < 6 → a ≠ b → (TX12 a).2.1 ≠ (TX12 b).2.1 := by decide +kernel
theorem tyX12_ok : ∀ k, k < 6 → parseFieldDescriptor (TX12 k).2.2.1 = some (tyX12 k) := by decide +kernel
abbrev cX12_init : ByteArray := prog_17_method_1_code
def yX12_init : MethodName := ⟨RX12, "<init>", "()V"⟩
def dkwX12_init_0 : List UInt8 := [42, 183, 0, 3, 42, 2, 181, 0, 9, 177]
abbrev dktX12_init_0 : List UInt8 := dkwX12_init_0 ++ []
theorem dksX12_init_0 : cX12_init.data.toList.drop 0 = dktX12_init_0 := by decide +kernel
theorem dX12_init_0 : decode cX12_init 0 = .ok (.aload_n 0, 1) := dk_42 (dk_at dksX12_init_0 0 rfl rfl)
theorem dX12_init_1 : decode cX12_init 1 = .ok (.invokespecial 3, 3) := dk_183 0 3 (dk_at dksX12_init_0 1 rfl rfl)
theorem dX12_init_4 : decode cX12_init 4 = .ok (.aload_n 0, 1) := dk_42 (dk_at dksX12_init_0 4 rfl rfl)
theorem dX12_init_5 : decode cX12_init 5 = .ok (.iconst (-1), 1) := dk_2 (dk_at dksX12_init_0 5 rfl rfl)
theorem dX12_init_6 : decode cX12_init 6 = .ok (.putfield 9, 3) := dk_181 0 9 (dk_at dksX12_init_0 6 rfl rfl)
theorem dX12_init_9 : decode cX12_init 9 = .ok (.return_, 1) := dk_177 (dk_at dksX12_init_0 9 rfl rfl)
abbrev cX12_isNightmare : ByteArray := prog_17_method_2_code
def yX12_isNightmare : MethodName := ⟨RX12, "isNightmare", "()Z"⟩
def dkwX12_isNightmare_0 : List UInt8 := [42, 180, 0, 15, 8, 161, 0, 7, 4, 167, 0, 4, 3, 172]
abbrev dktX12_isNightmare_0 : List UInt8 := dkwX12_isNightmare_0 ++ []
theorem dksX12_isNightmare_0 : cX12_isNightmare.data.toList.drop 0 = dktX12_isNightmare_0 := by decide +kernel
theorem dX12_isNightmare_0 : decode cX12_isNightmare 0 = .ok (.aload_n 0, 1) := dk_42 (dk_at dksX12_isNightmare_0 0 rfl rfl)
theorem dX12_isNightmare_1 : decode cX12_isNightmare 1 = .ok (.getfield 15, 3) := dk_180 0 15 (dk_at dksX12_isNightmare_0 1 rfl rfl)
theorem dX12_isNightmare_4 : decode cX12_isNightmare 4 = .ok (.iconst 5, 1) := dk_8 (dk_at dksX12_isNightmare_0 4 rfl rfl)
theorem dX12_isNightmare_5 : decode cX12_isNightmare 5 = .ok (.if_icmp .lt 7, 3) := dk_161 0 7 (dk_at dksX12_isNightmare_0 5 rfl rfl)
theorem dX12_isNightmare_8 : decode cX12_isNightmare 8 = .ok (.iconst 1, 1) := dk_4 (dk_at dksX12_isNightmare_0 8 rfl rfl)
theorem dX12_isNightmare_9 : decode cX12_isNightmare 9 = .ok (.goto 4, 3) := dk_167 0 4 (dk_at dksX12_isNightmare_0 9 rfl rfl)
theorem dX12_isNightmare_12 : decode cX12_isNightmare 12 = .ok (.iconst 0, 1) := dk_3 (dk_at dksX12_isNightmare_0 12 rfl rfl)
theorem dX12_isNightmare_13 : decode cX12_isNightmare 13 = .ok (.ireturn, 1) := dk_172 (dk_at dksX12_isNightmare_0 13 rfl rfl)
theorem q112 : (Jvm.Cond.initialized "LullabygateModel$Part") ∈ lw_all := lw_g (lw_at lw_m1 33 rfl) rfl
theorem q256 : (Jvm.Cond.selects "LullabygateModel$Part" ({ cls := "java/lang/Object", name := "getClass", desc := "()Ljava/lang/Class;" } : Jvm.MethodName) ({ cls := "java/lang/Object", name := "getClass", desc := "()Ljava/lang/Class;" } : Jvm.MethodName)) ∈ lw_all := lw_g (lw_at lw_m1 177 rfl) rfl
theorem q1639 : (Jvm.Cond.instantiable "LullabygateModel$Part" (6 : Nat)) ∈ lw_all := lw_g (lw_at lw_m7 120 rfl) rfl
theorem q1641 : (Jvm.Cond.instanceMethod ({ cls := "LullabygateModel$Part", name := "<init>", desc := "()V" } : Jvm.MethodName)) ∈ lw_all := lw_g (lw_at lw_m7 122 rfl) rfl
theorem q1642 : (Jvm.Cond.code ({ cls := "LullabygateModel$Part", name := "<init>", desc := "()V" } : Jvm.MethodName) prog_17_method_1_code (1 : Nat) (Option.none : Option Jvm.ClassFile.FieldType)) ∈ lw_all := lw_g (lw_at lw_m7 123 rfl) rfl
theorem q1643 : (Jvm.Cond.methodLink "LullabygateModel$Part" (3 : Nat) ({ cls := "java/lang/Object", name := "<init>", desc := "()V" } : Jvm.MethodName)) ∈ lw_all := lw_g (lw_at lw_m7 124 rfl) rfl
theorem q1646 : (Jvm.Cond.fieldLink "LullabygateModel$Part" (15 : Nat) "LullabygateModel$Part" "dread" "I") ∈ lw_all := lw_g (lw_at lw_m7 127 rfl) rfl
theorem q1650 : (Jvm.Cond.fieldLink "LullabygateModel$Part" (9 : Nat) "LullabygateModel$Part" "brought" "I") ∈ lw_all := lw_g (lw_at lw_m7 131 rfl) rfl
theorem q1652 : (Jvm.Cond.lays "LullabygateModel$Part" "LullabygateModel$Part" "dream" "I") ∈ lw_all := lw_g (lw_at lw_m7 133 rfl) rfl
theorem q1653 : (Jvm.Cond.soleField "LullabygateModel$Part" "dream") ∈ lw_all := lw_g (lw_at lw_m7 134 rfl) rfl
theorem q1654 : (Jvm.Cond.lays "LullabygateModel$Part" "LullabygateModel$Part" "worth" "I") ∈ lw_all := lw_g (lw_at lw_m7 135 rfl) rfl
theorem q1655 : (Jvm.Cond.soleField "LullabygateModel$Part" "worth") ∈ lw_all := lw_g (lw_at lw_m7 136 rfl) rfl
theorem q1656 : (Jvm.Cond.lays "LullabygateModel$Part" "LullabygateModel$Part" "dread" "I") ∈ lw_all := lw_g (lw_at lw_m7 137 rfl) rfl
theorem q1657 : (Jvm.Cond.soleField "LullabygateModel$Part" "dread") ∈ lw_all := lw_g (lw_at lw_m7 138 rfl) rfl
theorem q1658 : (Jvm.Cond.lays "LullabygateModel$Part" "LullabygateModel$Part" "fate" "I") ∈ lw_all := lw_g (lw_at lw_m7 139 rfl) rfl
theorem q1659 : (Jvm.Cond.soleField "LullabygateModel$Part" "fate") ∈ lw_all := lw_g (lw_at lw_m7 140 rfl) rfl
theorem q1660 : (Jvm.Cond.lays "LullabygateModel$Part" "LullabygateModel$Part" "at" "I") ∈ lw_all := lw_g (lw_at lw_m7 141 rfl) rfl
theorem q1661 : (Jvm.Cond.soleField "LullabygateModel$Part" "at") ∈ lw_all := lw_g (lw_at lw_m7 142 rfl) rfl
theorem q1662 : (Jvm.Cond.lays "LullabygateModel$Part" "LullabygateModel$Part" "brought" "I") ∈ lw_all := lw_g (lw_at lw_m7 143 rfl) rfl
theorem q1663 : (Jvm.Cond.soleField "LullabygateModel$Part" "brought") ∈ lw_all := lw_g (lw_at lw_m7 144 rfl) rfl
theorem q1664 : (Jvm.Cond.superclass "LullabygateModel$Part" "java/lang/Object") ∈ lw_all := lw_g (lw_at lw_m7 145 rfl) rfl
theorem q1794 : (Jvm.Cond.instanceMethod ({ cls := "LullabygateModel$Part", name := "isNightmare", desc := "()Z" } : Jvm.MethodName)) ∈ lw_all := lw_g (lw_at lw_m8 35 rfl) rfl
theorem q1795 : (Jvm.Cond.selects "LullabygateModel$Part" ({ cls := "LullabygateModel$Part", name := "isNightmare", desc := "()Z" } : Jvm.MethodName) ({ cls := "LullabygateModel$Part", name := "isNightmare", desc := "()Z" } : Jvm.MethodName)) ∈ lw_all := lw_g (lw_at lw_m8 36 rfl) rfl
theorem q1796 : (Jvm.Cond.code ({ cls := "LullabygateModel$Part", name := "isNightmare", desc := "()Z" } : Jvm.MethodName) prog_17_method_2_code (1 : Nat) (Option.some Jvm.ClassFile.FieldType.boolean)) ∈ lw_all := lw_g (lw_at lw_m8 37 rfl) rfl
theorem q2025 : (Jvm.Cond.castable "LullabygateModel$Part" "java/lang/Object") ∈ lw_tbl := lw_at lw_m9 26 rfl
theorem in_X12 : ∀ w ∈ wsX120, w ∈ lw_all := lw_in wsX120 [1652, 1654, 1656, 1658, 1660, 1662] (by decide +kernel) (by decide +kernel)
/-! Lullabygate$Pass -/
set_option maxRecDepth 100000
def RX13 : String := "Lullabygate$Pass"
def TX13 : u_T := fun k => match k with
  | 0 => ("Lullabygate$Pass", "gate", "I", true)
  | 1 => ("Lullabygate$Pass", "night", "I", true)
  | _ => ("Lullabygate$Pass", "verse", "I", true)
def tyX13 : Nat → FieldType := fun k => match k with
  | 0 => .int
  | 1 => .int
  | _ => .int
abbrev wsX130 : List Cond := u_ws RX13 TX13 3
theorem nmX13 : ∀ a, a < 3 → ∀ b, b < 3 → a ≠ b → (TX13 a).2.1 ≠ (TX13 b).2.1 := by decide +kernel
theorem tyX13_ok : ∀ k, k < 3 → parseFieldDescriptor (TX13 k).2.2.1 = some (tyX13 k) := by decide +kernel
abbrev cX13_init : ByteArray := prog_7_method_1_code
def yX13_init : MethodName := ⟨RX13, "<init>", "(III)V"⟩
def dkwX13_init_0 : List UInt8 := [42, 183, 0, 1, 42, 27, 181, 0, 7, 42, 28, 181, 0, 13, 42, 29, 181, 0, 16, 177]
abbrev dktX13_init_0 : List UInt8 := dkwX13_init_0 ++ []
theorem dksX13_init_0 : cX13_init.data.toList.drop 0 = dktX13_init_0 := by decide +kernel
theorem dX13_init_0 : decode cX13_init 0 = .ok (.aload_n 0, 1) := dk_42 (dk_at dksX13_init_0 0 rfl rfl)
theorem dX13_init_1 : decode cX13_init 1 = .ok (.invokespecial 1, 3) := dk_183 0 1 (dk_at dksX13_init_0 1 rfl rfl)
theorem dX13_init_4 : decode cX13_init 4 = .ok (.aload_n 0, 1) := dk_42 (dk_at dksX13_init_0 4 rfl rfl)
theorem dX13_init_5 : decode cX13_init 5 = .ok (.iload_n 1, 1) := dk_27 (dk_at dksX13_init_0 5 rfl rfl)
theorem dX13_init_6 : decode cX13_init 6 = .ok (.putfield 7, 3) := dk_181 0 7 (dk_at dksX13_init_0 6 rfl rfl)
theorem dX13_init_9 : decode cX13_init 9 = .ok (.aload_n 0, 1) := dk_42 (dk_at dksX13_init_0 9 rfl rfl)
theorem dX13_init_10 : decode cX13_init 10 = .ok (.iload_n 2, 1) := dk_28 (dk_at dksX13_init_0 10 rfl rfl)
theorem dX13_init_11 : decode cX13_init 11 = .ok (.putfield 13, 3) := dk_181 0 13 (dk_at dksX13_init_0 11 rfl rfl)
theorem dX13_init_14 : decode cX13_init 14 = .ok (.aload_n 0, 1) := dk_42 (dk_at dksX13_init_0 14 rfl rfl)
theorem dX13_init_15 : decode cX13_init 15 = .ok (.iload_n 3, 1) := dk_29 (dk_at dksX13_init_0 15 rfl rfl)
theorem dX13_init_16 : decode cX13_init 16 = .ok (.putfield 16, 3) := dk_181 0 16 (dk_at dksX13_init_0 16 rfl rfl)
theorem dX13_init_19 : decode cX13_init 19 = .ok (.return_, 1) := dk_177 (dk_at dksX13_init_0 19 rfl rfl)
theorem q113 : (Jvm.Cond.initialized "Lullabygate$Pass") ∈ lw_all := lw_g (lw_at lw_m1 34 rfl) rfl
theorem q247 : (Jvm.Cond.selects "Lullabygate$Pass" ({ cls := "java/lang/Object", name := "getClass", desc := "()Ljava/lang/Class;" } : Jvm.MethodName) ({ cls := "java/lang/Object", name := "getClass", desc := "()Ljava/lang/Class;" } : Jvm.MethodName)) ∈ lw_all := lw_g (lw_at lw_m1 168 rfl) rfl
theorem q948 : (Jvm.Cond.instantiable "Lullabygate$Pass" (3 : Nat)) ∈ lw_all := lw_g (lw_at lw_m4 149 rfl) rfl
theorem q950 : (Jvm.Cond.instanceMethod ({ cls := "Lullabygate$Pass", name := "<init>", desc := "(III)V" } : Jvm.MethodName)) ∈ lw_all := lw_g (lw_at lw_m4 151 rfl) rfl
theorem q951 : (Jvm.Cond.code ({ cls := "Lullabygate$Pass", name := "<init>", desc := "(III)V" } : Jvm.MethodName) prog_7_method_1_code (4 : Nat) (Option.none : Option Jvm.ClassFile.FieldType)) ∈ lw_all := lw_g (lw_at lw_m4 152 rfl) rfl
theorem q952 : (Jvm.Cond.methodLink "Lullabygate$Pass" (1 : Nat) ({ cls := "java/lang/Object", name := "<init>", desc := "()V" } : Jvm.MethodName)) ∈ lw_all := lw_g (lw_at lw_m4 153 rfl) rfl
theorem q953 : (Jvm.Cond.fieldLink "Lullabygate$Pass" (7 : Nat) "Lullabygate$Pass" "gate" "I") ∈ lw_all := lw_g (lw_at lw_m4 154 rfl) rfl
theorem q955 : (Jvm.Cond.fieldLink "Lullabygate$Pass" (13 : Nat) "Lullabygate$Pass" "night" "I") ∈ lw_all := lw_g (lw_at lw_m4 156 rfl) rfl
theorem q957 : (Jvm.Cond.fieldLink "Lullabygate$Pass" (16 : Nat) "Lullabygate$Pass" "verse" "I") ∈ lw_all := lw_g (lw_at lw_m4 158 rfl) rfl
theorem q959 : (Jvm.Cond.laysFinal "Lullabygate$Pass" "Lullabygate$Pass" "gate" "I") ∈ lw_all := lw_g (lw_at lw_m4 160 rfl) rfl
theorem q960 : (Jvm.Cond.soleField "Lullabygate$Pass" "gate") ∈ lw_all := lw_g (lw_at lw_m4 161 rfl) rfl
theorem q961 : (Jvm.Cond.laysFinal "Lullabygate$Pass" "Lullabygate$Pass" "night" "I") ∈ lw_all := lw_g (lw_at lw_m4 162 rfl) rfl
theorem q962 : (Jvm.Cond.soleField "Lullabygate$Pass" "night") ∈ lw_all := lw_g (lw_at lw_m4 163 rfl) rfl
theorem q963 : (Jvm.Cond.laysFinal "Lullabygate$Pass" "Lullabygate$Pass" "verse" "I") ∈ lw_all := lw_g (lw_at lw_m4 164 rfl) rfl
theorem q964 : (Jvm.Cond.soleField "Lullabygate$Pass" "verse") ∈ lw_all := lw_g (lw_at lw_m4 165 rfl) rfl
theorem q965 : (Jvm.Cond.superclass "Lullabygate$Pass" "java/lang/Object") ∈ lw_all := lw_g (lw_at lw_m4 166 rfl) rfl
theorem q2026 : (Jvm.Cond.castable "Lullabygate$Pass" "java/lang/Object") ∈ lw_tbl := lw_at lw_m9 27 rfl
theorem in_X13 : ∀ w ∈ wsX130, w ∈ lw_all := lw_in wsX130 [959, 961, 963] (by decide +kernel) (by decide +kernel)
/-! Lullabygate$Hiding -/
set_option maxRecDepth 100000
def RX14 : String := "Lullabygate$Hiding"
def TX14 : u_T := fun k => match k with
  | 0 => ("Lullabygate$Hiding", "sleeper", "I", true)
  | 1 => ("Lullabygate$Hiding", "dream", "I", true)
  | _ => ("Lullabygate$Hiding", "night", "I", true)
def tyX14 : Nat → FieldType := fun k => match k with
  | 0 => .int
  | 1 => .int
  | _ => .int
abbrev wsX140 : List Cond := u_ws RX14 TX14 3
theorem nmX14 : ∀ a, a < 3 → ∀ b, b < 3 → a ≠ b → (TX14 a).2.1 ≠ (TX14 b).2.1 := by decide +kernel
theorem tyX14_ok : ∀ k, k < 3 → parseFieldDescriptor (TX14 k).2.2.1 = some (tyX14 k) := by decide +kernel
abbrev cX14_fits : ByteArray := prog_4_method_2_code
def yX14_fits : MethodName := ⟨RX14, "fits", "(LLullabygate$Hiding;)Z"⟩
def dkwX14_fits_1 : List UInt8 := [163, 0, 7, 4, 167, 0, 4, 3, 172]
abbrev dktX14_fits_1 : List UInt8 := dkwX14_fits_1 ++ []
def dkwX14_fits_0 : List UInt8 := [42, 180, 0, 13, 43, 180, 0, 13, 160, 0, 23, 42, 180, 0, 16, 43, 180, 0, 16, 100, 184, 0, 19, 5]
abbrev dktX14_fits_0 : List UInt8 := dkwX14_fits_0 ++ dktX14_fits_1
theorem dksX14_fits_0 : cX14_fits.data.toList.drop 0 = dktX14_fits_0 := by decide +kernel
theorem dksX14_fits_1 : cX14_fits.data.toList.drop 24 = dktX14_fits_1 := dk_seg dksX14_fits_0 24 rfl rfl
theorem dX14_fits_0 : decode cX14_fits 0 = .ok (.aload_n 0, 1) := dk_42 (dk_at dksX14_fits_0 0 rfl rfl)
theorem dX14_fits_1 : decode cX14_fits 1 = .ok (.getfield 13, 3) := dk_180 0 13 (dk_at dksX14_fits_0 1 rfl rfl)
theorem dX14_fits_4 : decode cX14_fits 4 = .ok (.aload_n 1, 1) := dk_43 (dk_at dksX14_fits_0 4 rfl rfl)
theorem dX14_fits_5 : decode cX14_fits 5 = .ok (.getfield 13, 3) := dk_180 0 13 (dk_at dksX14_fits_0 5 rfl rfl)
theorem dX14_fits_8 : decode cX14_fits 8 = .ok (.if_icmp .ne 23, 3) := dk_160 0 23 (dk_at dksX14_fits_0 8 rfl rfl)
theorem dX14_fits_11 : decode cX14_fits 11 = .ok (.aload_n 0, 1) := dk_42 (dk_at dksX14_fits_0 11 rfl rfl)
theorem dX14_fits_12 : decode cX14_fits 12 = .ok (.getfield 16, 3) := dk_180 0 16 (dk_at dksX14_fits_0 12 rfl rfl)
theorem dX14_fits_15 : decode cX14_fits 15 = .ok (.aload_n 1, 1) := dk_43 (dk_at dksX14_fits_0 15 rfl rfl)
theorem dX14_fits_16 : decode cX14_fits 16 = .ok (.getfield 16, 3) := dk_180 0 16 (dk_at dksX14_fits_0 16 rfl rfl)
theorem dX14_fits_19 : decode cX14_fits 19 = .ok (.isub, 1) := dk_100 (dk_at dksX14_fits_0 19 rfl rfl)
theorem dX14_fits_20 : decode cX14_fits 20 = .ok (.invokestatic 19, 3) := dk_184 0 19 (dk_at dksX14_fits_0 20 rfl rfl)
theorem dX14_fits_23 : decode cX14_fits 23 = .ok (.iconst 2, 1) := dk_5 (dk_at dksX14_fits_0 23 rfl rfl)
theorem dX14_fits_24 : decode cX14_fits 24 = .ok (.if_icmp .gt 7, 3) := dk_163 0 7 (dk_at dksX14_fits_1 0 rfl rfl)
theorem dX14_fits_27 : decode cX14_fits 27 = .ok (.iconst 1, 1) := dk_4 (dk_at dksX14_fits_1 3 rfl rfl)
theorem dX14_fits_28 : decode cX14_fits 28 = .ok (.goto 4, 3) := dk_167 0 4 (dk_at dksX14_fits_1 4 rfl rfl)
theorem dX14_fits_31 : decode cX14_fits 31 = .ok (.iconst 0, 1) := dk_3 (dk_at dksX14_fits_1 7 rfl rfl)
theorem dX14_fits_32 : decode cX14_fits 32 = .ok (.ireturn, 1) := dk_172 (dk_at dksX14_fits_1 8 rfl rfl)
abbrev cX14_init : ByteArray := prog_4_method_1_code
def yX14_init : MethodName := ⟨RX14, "<init>", "(III)V"⟩
def dkwX14_init_0 : List UInt8 := [42, 183, 0, 1, 42, 27, 181, 0, 7, 42, 28, 181, 0, 13, 42, 29, 181, 0, 16, 177]
abbrev dktX14_init_0 : List UInt8 := dkwX14_init_0 ++ []
theorem dksX14_init_0 : cX14_init.data.toList.drop 0 = dktX14_init_0 := by decide +kernel
theorem dX14_init_0 : decode cX14_init 0 = .ok (.aload_n 0, 1) := dk_42 (dk_at dksX14_init_0 0 rfl rfl)
theorem dX14_init_1 : decode cX14_init 1 = .ok (.invokespecial 1, 3) := dk_183 0 1 (dk_at dksX14_init_0 1 rfl rfl)
theorem dX14_init_4 : decode cX14_init 4 = .ok (.aload_n 0, 1) := dk_42 (dk_at dksX14_init_0 4 rfl rfl)
theorem dX14_init_5 : decode cX14_init 5 = .ok (.iload_n 1, 1) := dk_27 (dk_at dksX14_init_0 5 rfl rfl)
theorem dX14_init_6 : decode cX14_init 6 = .ok (.putfield 7, 3) := dk_181 0 7 (dk_at dksX14_init_0 6 rfl rfl)
theorem dX14_init_9 : decode cX14_init 9 = .ok (.aload_n 0, 1) := dk_42 (dk_at dksX14_init_0 9 rfl rfl)
theorem dX14_init_10 : decode cX14_init 10 = .ok (.iload_n 2, 1) := dk_28 (dk_at dksX14_init_0 10 rfl rfl)
theorem dX14_init_11 : decode cX14_init 11 = .ok (.putfield 13, 3) := dk_181 0 13 (dk_at dksX14_init_0 11 rfl rfl)
theorem dX14_init_14 : decode cX14_init 14 = .ok (.aload_n 0, 1) := dk_42 (dk_at dksX14_init_0 14 rfl rfl)
theorem dX14_init_15 : decode cX14_init 15 = .ok (.iload_n 3, 1) := dk_29 (dk_at dksX14_init_0 15 rfl rfl)
theorem dX14_init_16 : decode cX14_init 16 = .ok (.putfield 16, 3) := dk_181 0 16 (dk_at dksX14_init_0 16 rfl rfl)
theorem dX14_init_19 : decode cX14_init 19 = .ok (.return_, 1) := dk_177 (dk_at dksX14_init_0 19 rfl rfl)
theorem q121 : (Jvm.Cond.initialized "Lullabygate$Hiding") ∈ lw_all := lw_g (lw_at lw_m1 42 rfl) rfl
theorem q244 : (Jvm.Cond.selects "Lullabygate$Hiding" ({ cls := "java/lang/Object", name := "getClass", desc := "()Ljava/lang/Class;" } : Jvm.MethodName) ({ cls := "java/lang/Object", name := "getClass", desc := "()Ljava/lang/Class;" } : Jvm.MethodName)) ∈ lw_all := lw_g (lw_at lw_m1 165 rfl) rfl
theorem q550 : (Jvm.Cond.instanceMethod ({ cls := "Lullabygate$Hiding", name := "fits", desc := "(LLullabygate$Hiding;)Z" } : Jvm.MethodName)) ∈ lw_all := lw_g (lw_at lw_m2 231 rfl) rfl
theorem q551 : (Jvm.Cond.selects "Lullabygate$Hiding" ({ cls := "Lullabygate$Hiding", name := "fits", desc := "(LLullabygate$Hiding;)Z" } : Jvm.MethodName) ({ cls := "Lullabygate$Hiding", name := "fits", desc := "(LLullabygate$Hiding;)Z" } : Jvm.MethodName)) ∈ lw_all := lw_g (lw_at lw_m2 232 rfl) rfl
theorem q552 : (Jvm.Cond.code ({ cls := "Lullabygate$Hiding", name := "fits", desc := "(LLullabygate$Hiding;)Z" } : Jvm.MethodName) prog_4_method_2_code (2 : Nat) (Option.some Jvm.ClassFile.FieldType.boolean)) ∈ lw_all := lw_g (lw_at lw_m2 233 rfl) rfl
theorem q553 : (Jvm.Cond.methodLink "Lullabygate$Hiding" (19 : Nat) ({ cls := "java/lang/Math", name := "abs", desc := "(I)I" } : Jvm.MethodName)) ∈ lw_all := lw_g (lw_at lw_m2 234 rfl) rfl
theorem q1053 : (Jvm.Cond.instantiable "Lullabygate$Hiding" (3 : Nat)) ∈ lw_all := lw_g (lw_at lw_m5 14 rfl) rfl
theorem q1055 : (Jvm.Cond.instanceMethod ({ cls := "Lullabygate$Hiding", name := "<init>", desc := "(III)V" } : Jvm.MethodName)) ∈ lw_all := lw_g (lw_at lw_m5 16 rfl) rfl
theorem q1056 : (Jvm.Cond.code ({ cls := "Lullabygate$Hiding", name := "<init>", desc := "(III)V" } : Jvm.MethodName) prog_4_method_1_code (4 : Nat) (Option.none : Option Jvm.ClassFile.FieldType)) ∈ lw_all := lw_g (lw_at lw_m5 17 rfl) rfl
theorem q1057 : (Jvm.Cond.methodLink "Lullabygate$Hiding" (1 : Nat) ({ cls := "java/lang/Object", name := "<init>", desc := "()V" } : Jvm.MethodName)) ∈ lw_all := lw_g (lw_at lw_m5 18 rfl) rfl
theorem q1058 : (Jvm.Cond.fieldLink "Lullabygate$Hiding" (7 : Nat) "Lullabygate$Hiding" "sleeper" "I") ∈ lw_all := lw_g (lw_at lw_m5 19 rfl) rfl
theorem q1060 : (Jvm.Cond.fieldLink "Lullabygate$Hiding" (13 : Nat) "Lullabygate$Hiding" "dream" "I") ∈ lw_all := lw_g (lw_at lw_m5 21 rfl) rfl
theorem q1061 : (Jvm.Cond.fieldLink "Lullabygate$Hiding" (16 : Nat) "Lullabygate$Hiding" "night" "I") ∈ lw_all := lw_g (lw_at lw_m5 22 rfl) rfl
theorem q1062 : (Jvm.Cond.laysFinal "Lullabygate$Hiding" "Lullabygate$Hiding" "sleeper" "I") ∈ lw_all := lw_g (lw_at lw_m5 23 rfl) rfl
theorem q1063 : (Jvm.Cond.soleField "Lullabygate$Hiding" "sleeper") ∈ lw_all := lw_g (lw_at lw_m5 24 rfl) rfl
theorem q1064 : (Jvm.Cond.laysFinal "Lullabygate$Hiding" "Lullabygate$Hiding" "dream" "I") ∈ lw_all := lw_g (lw_at lw_m5 25 rfl) rfl
theorem q1065 : (Jvm.Cond.soleField "Lullabygate$Hiding" "dream") ∈ lw_all := lw_g (lw_at lw_m5 26 rfl) rfl
theorem q1066 : (Jvm.Cond.laysFinal "Lullabygate$Hiding" "Lullabygate$Hiding" "night" "I") ∈ lw_all := lw_g (lw_at lw_m5 27 rfl) rfl
theorem q1067 : (Jvm.Cond.soleField "Lullabygate$Hiding" "night") ∈ lw_all := lw_g (lw_at lw_m5 28 rfl) rfl
theorem q1068 : (Jvm.Cond.superclass "Lullabygate$Hiding" "java/lang/Object") ∈ lw_all := lw_g (lw_at lw_m5 29 rfl) rfl
theorem q2030 : (Jvm.Cond.castable "Lullabygate$Hiding" "java/lang/Object") ∈ lw_tbl := lw_at lw_m9 31 rfl
theorem in_X14 : ∀ w ∈ wsX140, w ∈ lw_all := lw_in wsX140 [1062, 1064, 1066] (by decide +kernel) (by decide +kernel)
/-! Lullabygate$Sum -/
set_option maxRecDepth 100000
def RX15 : String := "Lullabygate$Sum"
def TX15 : u_T := fun k => match k with
  | _ => ("Lullabygate$Sum", "total", "J", false)
def tyX15 : Nat → FieldType := fun k => match k with
  | _ => .long
abbrev wsX150 : List Cond := u_ws RX15 TX15 1
theorem nmX15 : ∀ a, a < 1 → ∀ b, b < 1 → a ≠ b → (TX15 a).2.1 ≠ (TX15 b).2.1 := by decide +kernel
theorem tyX15_ok : ∀ k, k < 1 → parseFieldDescriptor (TX15 k).2.2.1 = some (tyX15 k) := by decide +kernel
abbrev cX15_init : ByteArray := prog_11_method_1_code
def yX15_init : MethodName := ⟨RX15, "<init>", "()V"⟩
def dkwX15_init_0 : List UInt8 := [42, 183, 0, 1, 42, 20, 0, 7, 181, 0, 9, 177]
abbrev dktX15_init_0 : List UInt8 := dkwX15_init_0 ++ []
theorem dksX15_init_0 : cX15_init.data.toList.drop 0 = dktX15_init_0 := by decide +kernel
theorem dX15_init_0 : decode cX15_init 0 = .ok (.aload_n 0, 1) := dk_42 (dk_at dksX15_init_0 0 rfl rfl)
theorem dX15_init_1 : decode cX15_init 1 = .ok (.invokespecial 1, 3) := dk_183 0 1 (dk_at dksX15_init_0 1 rfl rfl)
theorem dX15_init_4 : decode cX15_init 4 = .ok (.aload_n 0, 1) := dk_42 (dk_at dksX15_init_0 4 rfl rfl)
theorem dX15_init_5 : decode cX15_init 5 = .ok (.ldc2_w 7, 3) := dk_20 0 7 (dk_at dksX15_init_0 5 rfl rfl)
theorem dX15_init_8 : decode cX15_init 8 = .ok (.putfield 9, 3) := dk_181 0 9 (dk_at dksX15_init_0 8 rfl rfl)
theorem dX15_init_11 : decode cX15_init 11 = .ok (.return_, 1) := dk_177 (dk_at dksX15_init_0 11 rfl rfl)
abbrev cX15_add : ByteArray := prog_11_method_2_code
def yX15_add : MethodName := ⟨RX15, "add", "(J)V"⟩
def dkwX15_add_0 : List UInt8 := [42, 42, 180, 0, 9, 20, 0, 15, 105, 31, 97, 181, 0, 9, 177]
abbrev dktX15_add_0 : List UInt8 := dkwX15_add_0 ++ []
theorem dksX15_add_0 : cX15_add.data.toList.drop 0 = dktX15_add_0 := by decide +kernel
theorem dX15_add_0 : decode cX15_add 0 = .ok (.aload_n 0, 1) := dk_42 (dk_at dksX15_add_0 0 rfl rfl)
theorem dX15_add_1 : decode cX15_add 1 = .ok (.aload_n 0, 1) := dk_42 (dk_at dksX15_add_0 1 rfl rfl)
theorem dX15_add_2 : decode cX15_add 2 = .ok (.getfield 9, 3) := dk_180 0 9 (dk_at dksX15_add_0 2 rfl rfl)
theorem dX15_add_5 : decode cX15_add 5 = .ok (.ldc2_w 15, 3) := dk_20 0 15 (dk_at dksX15_add_0 5 rfl rfl)
theorem dX15_add_8 : decode cX15_add 8 = .ok (.lmul, 1) := dk_105 (dk_at dksX15_add_0 8 rfl rfl)
theorem dX15_add_9 : decode cX15_add 9 = .ok (.lload_n 1, 1) := dk_31 (dk_at dksX15_add_0 9 rfl rfl)
theorem dX15_add_10 : decode cX15_add 10 = .ok (.ladd, 1) := dk_97 (dk_at dksX15_add_0 10 rfl rfl)
theorem dX15_add_11 : decode cX15_add 11 = .ok (.putfield 9, 3) := dk_181 0 9 (dk_at dksX15_add_0 11 rfl rfl)
theorem dX15_add_14 : decode cX15_add 14 = .ok (.return_, 1) := dk_177 (dk_at dksX15_add_0 14 rfl rfl)
theorem q123 : (Jvm.Cond.initialized "Lullabygate$Sum") ∈ lw_all := lw_g (lw_at lw_m1 44 rfl) rfl
theorem q251 : (Jvm.Cond.selects "Lullabygate$Sum" ({ cls := "java/lang/Object", name := "getClass", desc := "()Ljava/lang/Class;" } : Jvm.MethodName) ({ cls := "java/lang/Object", name := "getClass", desc := "()Ljava/lang/Class;" } : Jvm.MethodName)) ∈ lw_all := lw_g (lw_at lw_m1 172 rfl) rfl
theorem q383 : (Jvm.Cond.instantiable "Lullabygate$Sum" (1 : Nat)) ∈ lw_all := lw_g (lw_at lw_m2 64 rfl) rfl
theorem q385 : (Jvm.Cond.instanceMethod ({ cls := "Lullabygate$Sum", name := "<init>", desc := "()V" } : Jvm.MethodName)) ∈ lw_all := lw_g (lw_at lw_m2 66 rfl) rfl
theorem q386 : (Jvm.Cond.code ({ cls := "Lullabygate$Sum", name := "<init>", desc := "()V" } : Jvm.MethodName) prog_11_method_1_code (1 : Nat) (Option.none : Option Jvm.ClassFile.FieldType)) ∈ lw_all := lw_g (lw_at lw_m2 67 rfl) rfl
theorem q387 : (Jvm.Cond.methodLink "Lullabygate$Sum" (1 : Nat) ({ cls := "java/lang/Object", name := "<init>", desc := "()V" } : Jvm.MethodName)) ∈ lw_all := lw_g (lw_at lw_m2 68 rfl) rfl
theorem q388 : (Jvm.Cond.constantLong "Lullabygate$Sum" (7 : Nat) (6007 : Int64)) ∈ lw_all := lw_g (lw_at lw_m2 69 rfl) rfl
theorem q389 : (Jvm.Cond.fieldLink "Lullabygate$Sum" (9 : Nat) "Lullabygate$Sum" "total" "J") ∈ lw_all := lw_g (lw_at lw_m2 70 rfl) rfl
theorem q391 : (Jvm.Cond.lays "Lullabygate$Sum" "Lullabygate$Sum" "total" "J") ∈ lw_all := lw_g (lw_at lw_m2 72 rfl) rfl
theorem q392 : (Jvm.Cond.soleField "Lullabygate$Sum" "total") ∈ lw_all := lw_g (lw_at lw_m2 73 rfl) rfl
theorem q393 : (Jvm.Cond.superclass "Lullabygate$Sum" "java/lang/Object") ∈ lw_all := lw_g (lw_at lw_m2 74 rfl) rfl
theorem q425 : (Jvm.Cond.instanceMethod ({ cls := "Lullabygate$Sum", name := "add", desc := "(J)V" } : Jvm.MethodName)) ∈ lw_all := lw_g (lw_at lw_m2 106 rfl) rfl
theorem q426 : (Jvm.Cond.selects "Lullabygate$Sum" ({ cls := "Lullabygate$Sum", name := "add", desc := "(J)V" } : Jvm.MethodName) ({ cls := "Lullabygate$Sum", name := "add", desc := "(J)V" } : Jvm.MethodName)) ∈ lw_all := lw_g (lw_at lw_m2 107 rfl) rfl
theorem q427 : (Jvm.Cond.code ({ cls := "Lullabygate$Sum", name := "add", desc := "(J)V" } : Jvm.MethodName) prog_11_method_2_code (3 : Nat) (Option.none : Option Jvm.ClassFile.FieldType)) ∈ lw_all := lw_g (lw_at lw_m2 108 rfl) rfl
theorem q428 : (Jvm.Cond.constantLong "Lullabygate$Sum" (15 : Nat) (31 : Int64)) ∈ lw_all := lw_g (lw_at lw_m2 109 rfl) rfl
theorem q2032 : (Jvm.Cond.castable "Lullabygate$Sum" "java/lang/Object") ∈ lw_tbl := lw_at lw_m9 33 rfl
theorem in_X15 : ∀ w ∈ wsX150, w ∈ lw_all := lw_in wsX150 [391] (by decide +kernel) (by decide +kernel)
/-! LullabygateLaw -/
set_option maxRecDepth 100000
def RX0 : String := "LullabygateLaw"
abbrev cX0_land : ByteArray := method_2_code
def yX0_land : MethodName := ⟨RX0, "land", "(LLullabygate;IIILLullabygateLaw$Out;)I"⟩
def dkwX0_land_1 : List UInt8 := [3, 172]
abbrev dktX0_land_1 : List UInt8 := dkwX0_land_1 ++ []
def dkwX0_land_0 : List UInt8 := [25, 4, 42, 27, 28, 29, 182, 0, 7, 133, 181, 0, 13, 167, 0, 11, 58, 5, 4, 172, 58, 5, 5, 172]
abbrev dktX0_land_0 : List UInt8 := dkwX0_land_0 ++ dktX0_land_1
theorem dksX0_land_0 : cX0_land.data.toList.drop 0 = dktX0_land_0 := by decide +kernel
theorem dksX0_land_1 : cX0_land.data.toList.drop 24 = dktX0_land_1 := dk_seg dksX0_land_0 24 rfl rfl
theorem dX0_land_0 : decode cX0_land 0 = .ok (.aload 4, 2) := dk_25 4 (dk_at dksX0_land_0 0 rfl rfl)
theorem dX0_land_2 : decode cX0_land 2 = .ok (.aload_n 0, 1) := dk_42 (dk_at dksX0_land_0 2 rfl rfl)
theorem dX0_land_3 : decode cX0_land 3 = .ok (.iload_n 1, 1) := dk_27 (dk_at dksX0_land_0 3 rfl rfl)
theorem dX0_land_4 : decode cX0_land 4 = .ok (.iload_n 2, 1) := dk_28 (dk_at dksX0_land_0 4 rfl rfl)
theorem dX0_land_5 : decode cX0_land 5 = .ok (.iload_n 3, 1) := dk_29 (dk_at dksX0_land_0 5 rfl rfl)
theorem dX0_land_6 : decode cX0_land 6 = .ok (.invokevirtual 7, 3) := dk_182 0 7 (dk_at dksX0_land_0 6 rfl rfl)
theorem dX0_land_9 : decode cX0_land 9 = .ok (.i2l, 1) := dk_133 (dk_at dksX0_land_0 9 rfl rfl)
theorem dX0_land_10 : decode cX0_land 10 = .ok (.putfield 13, 3) := dk_181 0 13 (dk_at dksX0_land_0 10 rfl rfl)
theorem dX0_land_13 : decode cX0_land 13 = .ok (.goto 11, 3) := dk_167 0 11 (dk_at dksX0_land_0 13 rfl rfl)
theorem dX0_land_16 : decode cX0_land 16 = .ok (.astore 5, 2) := dk_58 5 (dk_at dksX0_land_0 16 rfl rfl)
theorem dX0_land_18 : decode cX0_land 18 = .ok (.iconst 1, 1) := dk_4 (dk_at dksX0_land_0 18 rfl rfl)
theorem dX0_land_19 : decode cX0_land 19 = .ok (.ireturn, 1) := dk_172 (dk_at dksX0_land_0 19 rfl rfl)
theorem dX0_land_20 : decode cX0_land 20 = .ok (.astore 5, 2) := dk_58 5 (dk_at dksX0_land_0 20 rfl rfl)
theorem dX0_land_22 : decode cX0_land 22 = .ok (.iconst 2, 1) := dk_5 (dk_at dksX0_land_0 22 rfl rfl)
theorem dX0_land_23 : decode cX0_land 23 = .ok (.ireturn, 1) := dk_172 (dk_at dksX0_land_0 23 rfl rfl)
theorem dX0_land_24 : decode cX0_land 24 = .ok (.iconst 0, 1) := dk_3 (dk_at dksX0_land_1 0 rfl rfl)
theorem dX0_land_25 : decode cX0_land 25 = .ok (.ireturn, 1) := dk_172 (dk_at dksX0_land_1 1 rfl rfl)
abbrev cX0_trade : ByteArray := method_3_code
def yX0_trade : MethodName := ⟨RX0, "trade", "(LLullabygate;IIILLullabygateLaw$Out;)I"⟩
def dkwX0_trade_1 : List UInt8 := [58, 5, 6, 172, 3, 172]
abbrev dktX0_trade_1 : List UInt8 := dkwX0_trade_1 ++ []
def dkwX0_trade_0 : List UInt8 := [25, 4, 42, 27, 28, 29, 182, 0, 23, 133, 181, 0, 13, 167, 0, 15, 58, 5, 4, 172, 58, 5, 5, 172]
abbrev dktX0_trade_0 : List UInt8 := dkwX0_trade_0 ++ dktX0_trade_1
theorem dksX0_trade_0 : cX0_trade.data.toList.drop 0 = dktX0_trade_0 := by decide +kernel
theorem dksX0_trade_1 : cX0_trade.data.toList.drop 24 = dktX0_trade_1 := dk_seg dksX0_trade_0 24 rfl rfl
theorem dX0_trade_0 : decode cX0_trade 0 = .ok (.aload 4, 2) := dk_25 4 (dk_at dksX0_trade_0 0 rfl rfl)
theorem dX0_trade_2 : decode cX0_trade 2 = .ok (.aload_n 0, 1) := dk_42 (dk_at dksX0_trade_0 2 rfl rfl)
theorem dX0_trade_3 : decode cX0_trade 3 = .ok (.iload_n 1, 1) := dk_27 (dk_at dksX0_trade_0 3 rfl rfl)
theorem dX0_trade_4 : decode cX0_trade 4 = .ok (.iload_n 2, 1) := dk_28 (dk_at dksX0_trade_0 4 rfl rfl)
theorem dX0_trade_5 : decode cX0_trade 5 = .ok (.iload_n 3, 1) := dk_29 (dk_at dksX0_trade_0 5 rfl rfl)
theorem dX0_trade_6 : decode cX0_trade 6 = .ok (.invokevirtual 23, 3) := dk_182 0 23 (dk_at dksX0_trade_0 6 rfl rfl)
theorem dX0_trade_9 : decode cX0_trade 9 = .ok (.i2l, 1) := dk_133 (dk_at dksX0_trade_0 9 rfl rfl)
theorem dX0_trade_10 : decode cX0_trade 10 = .ok (.putfield 13, 3) := dk_181 0 13 (dk_at dksX0_trade_0 10 rfl rfl)
theorem dX0_trade_13 : decode cX0_trade 13 = .ok (.goto 15, 3) := dk_167 0 15 (dk_at dksX0_trade_0 13 rfl rfl)
theorem dX0_trade_16 : decode cX0_trade 16 = .ok (.astore 5, 2) := dk_58 5 (dk_at dksX0_trade_0 16 rfl rfl)
theorem dX0_trade_18 : decode cX0_trade 18 = .ok (.iconst 1, 1) := dk_4 (dk_at dksX0_trade_0 18 rfl rfl)
theorem dX0_trade_19 : decode cX0_trade 19 = .ok (.ireturn, 1) := dk_172 (dk_at dksX0_trade_0 19 rfl rfl)
theorem dX0_trade_20 : decode cX0_trade 20 = .ok (.astore 5, 2) := dk_58 5 (dk_at dksX0_trade_0 20 rfl rfl)
theorem dX0_trade_22 : decode cX0_trade 22 = .ok (.iconst 2, 1) := dk_5 (dk_at dksX0_trade_0 22 rfl rfl)
theorem dX0_trade_23 : decode cX0_trade 23 = .ok (.ireturn, 1) := dk_172 (dk_at dksX0_trade_0 23 rfl rfl)
theorem dX0_trade_24 : decode cX0_trade 24 = .ok (.astore 5, 2) := dk_58 5 (dk_at dksX0_trade_1 0 rfl rfl)
theorem dX0_trade_26 : decode cX0_trade 26 = .ok (.iconst 3, 1) := dk_6 (dk_at dksX0_trade_1 2 rfl rfl)
theorem dX0_trade_27 : decode cX0_trade 27 = .ok (.ireturn, 1) := dk_172 (dk_at dksX0_trade_1 3 rfl rfl)
theorem dX0_trade_28 : decode cX0_trade 28 = .ok (.iconst 0, 1) := dk_3 (dk_at dksX0_trade_1 4 rfl rfl)
theorem dX0_trade_29 : decode cX0_trade 29 = .ok (.ireturn, 1) := dk_172 (dk_at dksX0_trade_1 5 rfl rfl)
abbrev cX0_gate : ByteArray := method_4_code
def yX0_gate : MethodName := ⟨RX0, "gate", "(LLullabygate;IIIILLullabygateLaw$Out;)I"⟩
def dkwX0_gate_1 : List UInt8 := [5, 172, 58, 6, 6, 172, 3, 172]
abbrev dktX0_gate_1 : List UInt8 := dkwX0_gate_1 ++ []
def dkwX0_gate_0 : List UInt8 := [25, 5, 42, 27, 28, 29, 21, 4, 182, 0, 28, 133, 181, 0, 13, 167, 0, 15, 58, 6, 4, 172, 58, 6]
abbrev dktX0_gate_0 : List UInt8 := dkwX0_gate_0 ++ dktX0_gate_1
theorem dksX0_gate_0 : cX0_gate.data.toList.drop 0 = dktX0_gate_0 := by decide +kernel
theorem dksX0_gate_1 : cX0_gate.data.toList.drop 24 = dktX0_gate_1 := dk_seg dksX0_gate_0 24 rfl rfl
theorem dX0_gate_0 : decode cX0_gate 0 = .ok (.aload 5, 2) := dk_25 5 (dk_at dksX0_gate_0 0 rfl rfl)
theorem dX0_gate_2 : decode cX0_gate 2 = .ok (.aload_n 0, 1) := dk_42 (dk_at dksX0_gate_0 2 rfl rfl)
theorem dX0_gate_3 : decode cX0_gate 3 = .ok (.iload_n 1, 1) := dk_27 (dk_at dksX0_gate_0 3 rfl rfl)
theorem dX0_gate_4 : decode cX0_gate 4 = .ok (.iload_n 2, 1) := dk_28 (dk_at dksX0_gate_0 4 rfl rfl)
theorem dX0_gate_5 : decode cX0_gate 5 = .ok (.iload_n 3, 1) := dk_29 (dk_at dksX0_gate_0 5 rfl rfl)
theorem dX0_gate_6 : decode cX0_gate 6 = .ok (.iload 4, 2) := dk_21 4 (dk_at dksX0_gate_0 6 rfl rfl)
theorem dX0_gate_8 : decode cX0_gate 8 = .ok (.invokevirtual 28, 3) := dk_182 0 28 (dk_at dksX0_gate_0 8 rfl rfl)
theorem dX0_gate_11 : decode cX0_gate 11 = .ok (.i2l, 1) := dk_133 (dk_at dksX0_gate_0 11 rfl rfl)
theorem dX0_gate_12 : decode cX0_gate 12 = .ok (.putfield 13, 3) := dk_181 0 13 (dk_at dksX0_gate_0 12 rfl rfl)
theorem dX0_gate_15 : decode cX0_gate 15 = .ok (.goto 15, 3) := dk_167 0 15 (dk_at dksX0_gate_0 15 rfl rfl)
theorem dX0_gate_18 : decode cX0_gate 18 = .ok (.astore 6, 2) := dk_58 6 (dk_at dksX0_gate_0 18 rfl rfl)
theorem dX0_gate_20 : decode cX0_gate 20 = .ok (.iconst 1, 1) := dk_4 (dk_at dksX0_gate_0 20 rfl rfl)
theorem dX0_gate_21 : decode cX0_gate 21 = .ok (.ireturn, 1) := dk_172 (dk_at dksX0_gate_0 21 rfl rfl)
theorem dX0_gate_22 : decode cX0_gate 22 = .ok (.astore 6, 2) := dk_58 6 (dk_at dksX0_gate_0 22 rfl rfl)
theorem dX0_gate_24 : decode cX0_gate 24 = .ok (.iconst 2, 1) := dk_5 (dk_at dksX0_gate_1 0 rfl rfl)
theorem dX0_gate_25 : decode cX0_gate 25 = .ok (.ireturn, 1) := dk_172 (dk_at dksX0_gate_1 1 rfl rfl)
theorem dX0_gate_26 : decode cX0_gate 26 = .ok (.astore 6, 2) := dk_58 6 (dk_at dksX0_gate_1 2 rfl rfl)
theorem dX0_gate_28 : decode cX0_gate 28 = .ok (.iconst 3, 1) := dk_6 (dk_at dksX0_gate_1 4 rfl rfl)
theorem dX0_gate_29 : decode cX0_gate 29 = .ok (.ireturn, 1) := dk_172 (dk_at dksX0_gate_1 5 rfl rfl)
theorem dX0_gate_30 : decode cX0_gate 30 = .ok (.iconst 0, 1) := dk_3 (dk_at dksX0_gate_1 6 rfl rfl)
theorem dX0_gate_31 : decode cX0_gate 31 = .ok (.ireturn, 1) := dk_172 (dk_at dksX0_gate_1 7 rfl rfl)
abbrev cX0_odds : ByteArray := method_5_code
def yX0_odds : MethodName := ⟨RX0, "odds", "(LLullabygate;IILLullabygateLaw$Out;)I"⟩
def dkwX0_odds_0 : List UInt8 := [45, 42, 27, 28, 182, 0, 32, 133, 181, 0, 13, 167, 0, 11, 58, 4, 4, 172, 58, 4, 5, 172, 3, 172]
abbrev dktX0_odds_0 : List UInt8 := dkwX0_odds_0 ++ []
theorem dksX0_odds_0 : cX0_odds.data.toList.drop 0 = dktX0_odds_0 := by decide +kernel
theorem dX0_odds_0 : decode cX0_odds 0 = .ok (.aload_n 3, 1) := dk_45 (dk_at dksX0_odds_0 0 rfl rfl)
theorem dX0_odds_1 : decode cX0_odds 1 = .ok (.aload_n 0, 1) := dk_42 (dk_at dksX0_odds_0 1 rfl rfl)
theorem dX0_odds_2 : decode cX0_odds 2 = .ok (.iload_n 1, 1) := dk_27 (dk_at dksX0_odds_0 2 rfl rfl)
theorem dX0_odds_3 : decode cX0_odds 3 = .ok (.iload_n 2, 1) := dk_28 (dk_at dksX0_odds_0 3 rfl rfl)
theorem dX0_odds_4 : decode cX0_odds 4 = .ok (.invokevirtual 32, 3) := dk_182 0 32 (dk_at dksX0_odds_0 4 rfl rfl)
theorem dX0_odds_7 : decode cX0_odds 7 = .ok (.i2l, 1) := dk_133 (dk_at dksX0_odds_0 7 rfl rfl)
theorem dX0_odds_8 : decode cX0_odds 8 = .ok (.putfield 13, 3) := dk_181 0 13 (dk_at dksX0_odds_0 8 rfl rfl)
theorem dX0_odds_11 : decode cX0_odds 11 = .ok (.goto 11, 3) := dk_167 0 11 (dk_at dksX0_odds_0 11 rfl rfl)
theorem dX0_odds_14 : decode cX0_odds 14 = .ok (.astore 4, 2) := dk_58 4 (dk_at dksX0_odds_0 14 rfl rfl)
theorem dX0_odds_16 : decode cX0_odds 16 = .ok (.iconst 1, 1) := dk_4 (dk_at dksX0_odds_0 16 rfl rfl)
theorem dX0_odds_17 : decode cX0_odds 17 = .ok (.ireturn, 1) := dk_172 (dk_at dksX0_odds_0 17 rfl rfl)
theorem dX0_odds_18 : decode cX0_odds 18 = .ok (.astore 4, 2) := dk_58 4 (dk_at dksX0_odds_0 18 rfl rfl)
theorem dX0_odds_20 : decode cX0_odds 20 = .ok (.iconst 2, 1) := dk_5 (dk_at dksX0_odds_0 20 rfl rfl)
theorem dX0_odds_21 : decode cX0_odds 21 = .ok (.ireturn, 1) := dk_172 (dk_at dksX0_odds_0 21 rfl rfl)
theorem dX0_odds_22 : decode cX0_odds 22 = .ok (.iconst 0, 1) := dk_3 (dk_at dksX0_odds_0 22 rfl rfl)
theorem dX0_odds_23 : decode cX0_odds 23 = .ok (.ireturn, 1) := dk_172 (dk_at dksX0_odds_0 23 rfl rfl)
abbrev cX0_relieve : ByteArray := method_6_code
def yX0_relieve : MethodName := ⟨RX0, "relieve", "(LLullabygate;ILLullabygateLaw$Out;)I"⟩
def dkwX0_relieve_0 : List UInt8 := [44, 42, 27, 182, 0, 36, 133, 181, 0, 13, 167, 0, 6, 78, 4, 172, 3, 172]
abbrev dktX0_relieve_0 : List UInt8 := dkwX0_relieve_0 ++ []
theorem dksX0_relieve_0 : cX0_relieve.data.toList.drop 0 = dktX0_relieve_0 := by decide +kernel
theorem dX0_relieve_0 : decode cX0_relieve 0 = .ok (.aload_n 2, 1) := dk_44 (dk_at dksX0_relieve_0 0 rfl rfl)
theorem dX0_relieve_1 : decode cX0_relieve 1 = .ok (.aload_n 0, 1) := dk_42 (dk_at dksX0_relieve_0 1 rfl rfl)
theorem dX0_relieve_2 : decode cX0_relieve 2 = .ok (.iload_n 1, 1) := dk_27 (dk_at dksX0_relieve_0 2 rfl rfl)
theorem dX0_relieve_3 : decode cX0_relieve 3 = .ok (.invokevirtual 36, 3) := dk_182 0 36 (dk_at dksX0_relieve_0 3 rfl rfl)
theorem dX0_relieve_6 : decode cX0_relieve 6 = .ok (.i2l, 1) := dk_133 (dk_at dksX0_relieve_0 6 rfl rfl)
theorem dX0_relieve_7 : decode cX0_relieve 7 = .ok (.putfield 13, 3) := dk_181 0 13 (dk_at dksX0_relieve_0 7 rfl rfl)
theorem dX0_relieve_10 : decode cX0_relieve 10 = .ok (.goto 6, 3) := dk_167 0 6 (dk_at dksX0_relieve_0 10 rfl rfl)
theorem dX0_relieve_13 : decode cX0_relieve 13 = .ok (.astore_n 3, 1) := dk_78 (dk_at dksX0_relieve_0 13 rfl rfl)
theorem dX0_relieve_14 : decode cX0_relieve 14 = .ok (.iconst 1, 1) := dk_4 (dk_at dksX0_relieve_0 14 rfl rfl)
theorem dX0_relieve_15 : decode cX0_relieve 15 = .ok (.ireturn, 1) := dk_172 (dk_at dksX0_relieve_0 15 rfl rfl)
theorem dX0_relieve_16 : decode cX0_relieve 16 = .ok (.iconst 0, 1) := dk_3 (dk_at dksX0_relieve_0 16 rfl rfl)
theorem dX0_relieve_17 : decode cX0_relieve 17 = .ok (.ireturn, 1) := dk_172 (dk_at dksX0_relieve_0 17 rfl rfl)
abbrev cX0_sleeper : ByteArray := method_7_code
def yX0_sleeper : MethodName := ⟨RX0, "sleeper", "(LLullabygate;IZILLullabygateLaw$Out;)I"⟩
def dkwX0_sleeper_1 : List UInt8 := [58, 5, 6, 172, 3, 172]
abbrev dktX0_sleeper_1 : List UInt8 := dkwX0_sleeper_1 ++ []
def dkwX0_sleeper_0 : List UInt8 := [25, 4, 42, 27, 28, 29, 182, 0, 40, 133, 181, 0, 13, 167, 0, 15, 58, 5, 4, 172, 58, 5, 5, 172]
abbrev dktX0_sleeper_0 : List UInt8 := dkwX0_sleeper_0 ++ dktX0_sleeper_1
theorem dksX0_sleeper_0 : cX0_sleeper.data.toList.drop 0 = dktX0_sleeper_0 := by decide +kernel
theorem dksX0_sleeper_1 : cX0_sleeper.data.toList.drop 24 = dktX0_sleeper_1 := dk_seg dksX0_sleeper_0 24 rfl rfl
theorem dX0_sleeper_0 : decode cX0_sleeper 0 = .ok (.aload 4, 2) := dk_25 4 (dk_at dksX0_sleeper_0 0 rfl rfl)
theorem dX0_sleeper_2 : decode cX0_sleeper 2 = .ok (.aload_n 0, 1) := dk_42 (dk_at dksX0_sleeper_0 2 rfl rfl)
theorem dX0_sleeper_3 : decode cX0_sleeper 3 = .ok (.iload_n 1, 1) := dk_27 (dk_at dksX0_sleeper_0 3 rfl rfl)
theorem dX0_sleeper_4 : decode cX0_sleeper 4 = .ok (.iload_n 2, 1) := dk_28 (dk_at dksX0_sleeper_0 4 rfl rfl)
theorem dX0_sleeper_5 : decode cX0_sleeper 5 = .ok (.iload_n 3, 1) := dk_29 (dk_at dksX0_sleeper_0 5 rfl rfl)
theorem dX0_sleeper_6 : decode cX0_sleeper 6 = .ok (.invokevirtual 40, 3) := dk_182 0 40 (dk_at dksX0_sleeper_0 6 rfl rfl)
theorem dX0_sleeper_9 : decode cX0_sleeper 9 = .ok (.i2l, 1) := dk_133 (dk_at dksX0_sleeper_0 9 rfl rfl)
theorem dX0_sleeper_10 : decode cX0_sleeper 10 = .ok (.putfield 13, 3) := dk_181 0 13 (dk_at dksX0_sleeper_0 10 rfl rfl)
theorem dX0_sleeper_13 : decode cX0_sleeper 13 = .ok (.goto 15, 3) := dk_167 0 15 (dk_at dksX0_sleeper_0 13 rfl rfl)
theorem dX0_sleeper_16 : decode cX0_sleeper 16 = .ok (.astore 5, 2) := dk_58 5 (dk_at dksX0_sleeper_0 16 rfl rfl)
theorem dX0_sleeper_18 : decode cX0_sleeper 18 = .ok (.iconst 1, 1) := dk_4 (dk_at dksX0_sleeper_0 18 rfl rfl)
theorem dX0_sleeper_19 : decode cX0_sleeper 19 = .ok (.ireturn, 1) := dk_172 (dk_at dksX0_sleeper_0 19 rfl rfl)
theorem dX0_sleeper_20 : decode cX0_sleeper 20 = .ok (.astore 5, 2) := dk_58 5 (dk_at dksX0_sleeper_0 20 rfl rfl)
theorem dX0_sleeper_22 : decode cX0_sleeper 22 = .ok (.iconst 2, 1) := dk_5 (dk_at dksX0_sleeper_0 22 rfl rfl)
theorem dX0_sleeper_23 : decode cX0_sleeper 23 = .ok (.ireturn, 1) := dk_172 (dk_at dksX0_sleeper_0 23 rfl rfl)
theorem dX0_sleeper_24 : decode cX0_sleeper 24 = .ok (.astore 5, 2) := dk_58 5 (dk_at dksX0_sleeper_1 0 rfl rfl)
theorem dX0_sleeper_26 : decode cX0_sleeper 26 = .ok (.iconst 3, 1) := dk_6 (dk_at dksX0_sleeper_1 2 rfl rfl)
theorem dX0_sleeper_27 : decode cX0_sleeper 27 = .ok (.ireturn, 1) := dk_172 (dk_at dksX0_sleeper_1 3 rfl rfl)
theorem dX0_sleeper_28 : decode cX0_sleeper 28 = .ok (.iconst 0, 1) := dk_3 (dk_at dksX0_sleeper_1 4 rfl rfl)
theorem dX0_sleeper_29 : decode cX0_sleeper 29 = .ok (.ireturn, 1) := dk_172 (dk_at dksX0_sleeper_1 5 rfl rfl)
abbrev cX0_part : ByteArray := method_8_code
def yX0_part : MethodName := ⟨RX0, "part", "(LLullabygate;IIIILLullabygateLaw$Out;)I"⟩
def dkwX0_part_1 : List UInt8 := [5, 172, 58, 6, 6, 172, 3, 172]
abbrev dktX0_part_1 : List UInt8 := dkwX0_part_1 ++ []
def dkwX0_part_0 : List UInt8 := [25, 5, 42, 27, 28, 29, 21, 4, 182, 0, 44, 133, 181, 0, 13, 167, 0, 15, 58, 6, 4, 172, 58, 6]
abbrev dktX0_part_0 : List UInt8 := dkwX0_part_0 ++ dktX0_part_1
theorem dksX0_part_0 : cX0_part.data.toList.drop 0 = dktX0_part_0 := by decide +kernel
theorem dksX0_part_1 : cX0_part.data.toList.drop 24 = dktX0_part_1 := dk_seg dksX0_part_0 24 rfl rfl
theorem dX0_part_0 : decode cX0_part 0 = .ok (.aload 5, 2) := dk_25 5 (dk_at dksX0_part_0 0 rfl rfl)
theorem dX0_part_2 : decode cX0_part 2 = .ok (.aload_n 0, 1) := dk_42 (dk_at dksX0_part_0 2 rfl rfl)
theorem dX0_part_3 : decode cX0_part 3 = .ok (.iload_n 1, 1) := dk_27 (dk_at dksX0_part_0 3 rfl rfl)
theorem dX0_part_4 : decode cX0_part 4 = .ok (.iload_n 2, 1) := dk_28 (dk_at dksX0_part_0 4 rfl rfl)
theorem dX0_part_5 : decode cX0_part 5 = .ok (.iload_n 3, 1) := dk_29 (dk_at dksX0_part_0 5 rfl rfl)
theorem dX0_part_6 : decode cX0_part 6 = .ok (.iload 4, 2) := dk_21 4 (dk_at dksX0_part_0 6 rfl rfl)
theorem dX0_part_8 : decode cX0_part 8 = .ok (.invokevirtual 44, 3) := dk_182 0 44 (dk_at dksX0_part_0 8 rfl rfl)
theorem dX0_part_11 : decode cX0_part 11 = .ok (.i2l, 1) := dk_133 (dk_at dksX0_part_0 11 rfl rfl)
theorem dX0_part_12 : decode cX0_part 12 = .ok (.putfield 13, 3) := dk_181 0 13 (dk_at dksX0_part_0 12 rfl rfl)
theorem dX0_part_15 : decode cX0_part 15 = .ok (.goto 15, 3) := dk_167 0 15 (dk_at dksX0_part_0 15 rfl rfl)
theorem dX0_part_18 : decode cX0_part 18 = .ok (.astore 6, 2) := dk_58 6 (dk_at dksX0_part_0 18 rfl rfl)
theorem dX0_part_20 : decode cX0_part 20 = .ok (.iconst 1, 1) := dk_4 (dk_at dksX0_part_0 20 rfl rfl)
theorem dX0_part_21 : decode cX0_part 21 = .ok (.ireturn, 1) := dk_172 (dk_at dksX0_part_0 21 rfl rfl)
theorem dX0_part_22 : decode cX0_part 22 = .ok (.astore 6, 2) := dk_58 6 (dk_at dksX0_part_0 22 rfl rfl)
theorem dX0_part_24 : decode cX0_part 24 = .ok (.iconst 2, 1) := dk_5 (dk_at dksX0_part_1 0 rfl rfl)
theorem dX0_part_25 : decode cX0_part 25 = .ok (.ireturn, 1) := dk_172 (dk_at dksX0_part_1 1 rfl rfl)
theorem dX0_part_26 : decode cX0_part 26 = .ok (.astore 6, 2) := dk_58 6 (dk_at dksX0_part_1 2 rfl rfl)
theorem dX0_part_28 : decode cX0_part 28 = .ok (.iconst 3, 1) := dk_6 (dk_at dksX0_part_1 4 rfl rfl)
theorem dX0_part_29 : decode cX0_part 29 = .ok (.ireturn, 1) := dk_172 (dk_at dksX0_part_1 5 rfl rfl)
theorem dX0_part_30 : decode cX0_part 30 = .ok (.iconst 0, 1) := dk_3 (dk_at dksX0_part_1 6 rfl rfl)
theorem dX0_part_31 : decode cX0_part 31 = .ok (.ireturn, 1) := dk_172 (dk_at dksX0_part_1 7 rfl rfl)
abbrev cX0_give : ByteArray := method_9_code
def yX0_give : MethodName := ⟨RX0, "give", "(LLullabygate;IILLullabygateLaw$Out;)I"⟩
def dkwX0_give_0 : List UInt8 := [45, 42, 27, 28, 182, 0, 47, 133, 181, 0, 13, 167, 0, 11, 58, 4, 4, 172, 58, 4, 5, 172, 3, 172]
abbrev dktX0_give_0 : List UInt8 := dkwX0_give_0 ++ []
theorem dksX0_give_0 : cX0_give.data.toList.drop 0 = dktX0_give_0 := by decide +kernel
theorem dX0_give_0 : decode cX0_give 0 = .ok (.aload_n 3, 1) := dk_45 (dk_at dksX0_give_0 0 rfl rfl)
theorem dX0_give_1 : decode cX0_give 1 = .ok (.aload_n 0, 1) := dk_42 (dk_at dksX0_give_0 1 rfl rfl)
theorem dX0_give_2 : decode cX0_give 2 = .ok (.iload_n 1, 1) := dk_27 (dk_at dksX0_give_0 2 rfl rfl)
theorem dX0_give_3 : decode cX0_give 3 = .ok (.iload_n 2, 1) := dk_28 (dk_at dksX0_give_0 3 rfl rfl)
theorem dX0_give_4 : decode cX0_give 4 = .ok (.invokevirtual 47, 3) := dk_182 0 47 (dk_at dksX0_give_0 4 rfl rfl)
theorem dX0_give_7 : decode cX0_give 7 = .ok (.i2l, 1) := dk_133 (dk_at dksX0_give_0 7 rfl rfl)
theorem dX0_give_8 : decode cX0_give 8 = .ok (.putfield 13, 3) := dk_181 0 13 (dk_at dksX0_give_0 8 rfl rfl)
theorem dX0_give_11 : decode cX0_give 11 = .ok (.goto 11, 3) := dk_167 0 11 (dk_at dksX0_give_0 11 rfl rfl)
theorem dX0_give_14 : decode cX0_give 14 = .ok (.astore 4, 2) := dk_58 4 (dk_at dksX0_give_0 14 rfl rfl)
theorem dX0_give_16 : decode cX0_give 16 = .ok (.iconst 1, 1) := dk_4 (dk_at dksX0_give_0 16 rfl rfl)
theorem dX0_give_17 : decode cX0_give 17 = .ok (.ireturn, 1) := dk_172 (dk_at dksX0_give_0 17 rfl rfl)
theorem dX0_give_18 : decode cX0_give 18 = .ok (.astore 4, 2) := dk_58 4 (dk_at dksX0_give_0 18 rfl rfl)
theorem dX0_give_20 : decode cX0_give 20 = .ok (.iconst 2, 1) := dk_5 (dk_at dksX0_give_0 20 rfl rfl)
theorem dX0_give_21 : decode cX0_give 21 = .ok (.ireturn, 1) := dk_172 (dk_at dksX0_give_0 21 rfl rfl)
theorem dX0_give_22 : decode cX0_give 22 = .ok (.iconst 0, 1) := dk_3 (dk_at dksX0_give_0 22 rfl rfl)
theorem dX0_give_23 : decode cX0_give 23 = .ok (.ireturn, 1) := dk_172 (dk_at dksX0_give_0 23 rfl rfl)
abbrev cX0_sing : ByteArray := method_10_code
def yX0_sing : MethodName := ⟨RX0, "sing", "(LLullabygate;IIIILLullabygateLaw$Out;)I"⟩
def dkwX0_sing_1 : List UInt8 := [5, 172, 3, 172]
abbrev dktX0_sing_1 : List UInt8 := dkwX0_sing_1 ++ []
def dkwX0_sing_0 : List UInt8 := [25, 5, 42, 27, 28, 29, 21, 4, 182, 0, 50, 133, 181, 0, 13, 167, 0, 11, 58, 6, 4, 172, 58, 6]
abbrev dktX0_sing_0 : List UInt8 := dkwX0_sing_0 ++ dktX0_sing_1
theorem dksX0_sing_0 : cX0_sing.data.toList.drop 0 = dktX0_sing_0 := by decide +kernel
theorem dksX0_sing_1 : cX0_sing.data.toList.drop 24 = dktX0_sing_1 := dk_seg dksX0_sing_0 24 rfl rfl
theorem dX0_sing_0 : decode cX0_sing 0 = .ok (.aload 5, 2) := dk_25 5 (dk_at dksX0_sing_0 0 rfl rfl)
theorem dX0_sing_2 : decode cX0_sing 2 = .ok (.aload_n 0, 1) := dk_42 (dk_at dksX0_sing_0 2 rfl rfl)
theorem dX0_sing_3 : decode cX0_sing 3 = .ok (.iload_n 1, 1) := dk_27 (dk_at dksX0_sing_0 3 rfl rfl)
theorem dX0_sing_4 : decode cX0_sing 4 = .ok (.iload_n 2, 1) := dk_28 (dk_at dksX0_sing_0 4 rfl rfl)
theorem dX0_sing_5 : decode cX0_sing 5 = .ok (.iload_n 3, 1) := dk_29 (dk_at dksX0_sing_0 5 rfl rfl)
theorem dX0_sing_6 : decode cX0_sing 6 = .ok (.iload 4, 2) := dk_21 4 (dk_at dksX0_sing_0 6 rfl rfl)
theorem dX0_sing_8 : decode cX0_sing 8 = .ok (.invokevirtual 50, 3) := dk_182 0 50 (dk_at dksX0_sing_0 8 rfl rfl)
theorem dX0_sing_11 : decode cX0_sing 11 = .ok (.i2l, 1) := dk_133 (dk_at dksX0_sing_0 11 rfl rfl)
theorem dX0_sing_12 : decode cX0_sing 12 = .ok (.putfield 13, 3) := dk_181 0 13 (dk_at dksX0_sing_0 12 rfl rfl)
theorem dX0_sing_15 : decode cX0_sing 15 = .ok (.goto 11, 3) := dk_167 0 11 (dk_at dksX0_sing_0 15 rfl rfl)
theorem dX0_sing_18 : decode cX0_sing 18 = .ok (.astore 6, 2) := dk_58 6 (dk_at dksX0_sing_0 18 rfl rfl)
theorem dX0_sing_20 : decode cX0_sing 20 = .ok (.iconst 1, 1) := dk_4 (dk_at dksX0_sing_0 20 rfl rfl)
theorem dX0_sing_21 : decode cX0_sing 21 = .ok (.ireturn, 1) := dk_172 (dk_at dksX0_sing_0 21 rfl rfl)
theorem dX0_sing_22 : decode cX0_sing 22 = .ok (.astore 6, 2) := dk_58 6 (dk_at dksX0_sing_0 22 rfl rfl)
theorem dX0_sing_24 : decode cX0_sing 24 = .ok (.iconst 2, 1) := dk_5 (dk_at dksX0_sing_1 0 rfl rfl)
theorem dX0_sing_25 : decode cX0_sing 25 = .ok (.ireturn, 1) := dk_172 (dk_at dksX0_sing_1 1 rfl rfl)
theorem dX0_sing_26 : decode cX0_sing 26 = .ok (.iconst 0, 1) := dk_3 (dk_at dksX0_sing_1 2 rfl rfl)
theorem dX0_sing_27 : decode cX0_sing 27 = .ok (.ireturn, 1) := dk_172 (dk_at dksX0_sing_1 3 rfl rfl)
abbrev cX0_revoke : ByteArray := method_11_code
def yX0_revoke : MethodName := ⟨RX0, "revoke", "(LLullabygate;IILLullabygateLaw$Out;)I"⟩
def dkwX0_revoke_1 : List UInt8 := [172, 58, 4, 5, 172, 3, 172]
abbrev dktX0_revoke_1 : List UInt8 := dkwX0_revoke_1 ++ []
def dkwX0_revoke_0 : List UInt8 := [45, 42, 27, 28, 182, 0, 53, 153, 0, 7, 10, 167, 0, 4, 9, 181, 0, 13, 167, 0, 11, 58, 4, 4]
abbrev dktX0_revoke_0 : List UInt8 := dkwX0_revoke_0 ++ dktX0_revoke_1
theorem dksX0_revoke_0 : cX0_revoke.data.toList.drop 0 = dktX0_revoke_0 := by decide +kernel
theorem dksX0_revoke_1 : cX0_revoke.data.toList.drop 24 = dktX0_revoke_1 := dk_seg dksX0_revoke_0 24 rfl rfl
theorem dX0_revoke_0 : decode cX0_revoke 0 = .ok (.aload_n 3, 1) := dk_45 (dk_at dksX0_revoke_0 0 rfl rfl)
theorem dX0_revoke_1 : decode cX0_revoke 1 = .ok (.aload_n 0, 1) := dk_42 (dk_at dksX0_revoke_0 1 rfl rfl)
theorem dX0_revoke_2 : decode cX0_revoke 2 = .ok (.iload_n 1, 1) := dk_27 (dk_at dksX0_revoke_0 2 rfl rfl)
theorem dX0_revoke_3 : decode cX0_revoke 3 = .ok (.iload_n 2, 1) := dk_28 (dk_at dksX0_revoke_0 3 rfl rfl)
theorem dX0_revoke_4 : decode cX0_revoke 4 = .ok (.invokevirtual 53, 3) := dk_182 0 53 (dk_at dksX0_revoke_0 4 rfl rfl)
theorem dX0_revoke_7 : decode cX0_revoke 7 = .ok (.ifCond .eq 7, 3) := dk_153 0 7 (dk_at dksX0_revoke_0 7 rfl rfl)
theorem dX0_revoke_10 : decode cX0_revoke 10 = .ok (.lconst 1, 1) := dk_10 (dk_at dksX0_revoke_0 10 rfl rfl)
theorem dX0_revoke_11 : decode cX0_revoke 11 = .ok (.goto 4, 3) := dk_167 0 4 (dk_at dksX0_revoke_0 11 rfl rfl)
theorem dX0_revoke_14 : decode cX0_revoke 14 = .ok (.lconst 0, 1) := dk_9 (dk_at dksX0_revoke_0 14 rfl rfl)
theorem dX0_revoke_15 : decode cX0_revoke 15 = .ok (.putfield 13, 3) := dk_181 0 13 (dk_at dksX0_revoke_0 15 rfl rfl)
theorem dX0_revoke_18 : decode cX0_revoke 18 = .ok (.goto 11, 3) := dk_167 0 11 (dk_at dksX0_revoke_0 18 rfl rfl)
theorem dX0_revoke_21 : decode cX0_revoke 21 = .ok (.astore 4, 2) := dk_58 4 (dk_at dksX0_revoke_0 21 rfl rfl)
theorem dX0_revoke_23 : decode cX0_revoke 23 = .ok (.iconst 1, 1) := dk_4 (dk_at dksX0_revoke_0 23 rfl rfl)
theorem dX0_revoke_24 : decode cX0_revoke 24 = .ok (.ireturn, 1) := dk_172 (dk_at dksX0_revoke_1 0 rfl rfl)
theorem dX0_revoke_25 : decode cX0_revoke 25 = .ok (.astore 4, 2) := dk_58 4 (dk_at dksX0_revoke_1 1 rfl rfl)
theorem dX0_revoke_27 : decode cX0_revoke 27 = .ok (.iconst 2, 1) := dk_5 (dk_at dksX0_revoke_1 3 rfl rfl)
theorem dX0_revoke_28 : decode cX0_revoke 28 = .ok (.ireturn, 1) := dk_172 (dk_at dksX0_revoke_1 4 rfl rfl)
theorem dX0_revoke_29 : decode cX0_revoke 29 = .ok (.iconst 0, 1) := dk_3 (dk_at dksX0_revoke_1 5 rfl rfl)
theorem dX0_revoke_30 : decode cX0_revoke 30 = .ok (.ireturn, 1) := dk_172 (dk_at dksX0_revoke_1 6 rfl rfl)
abbrev cX0_join : ByteArray := method_12_code
def yX0_join : MethodName := ⟨RX0, "join", "(LLullabygate;IIILLullabygateLaw$Out;)I"⟩
def dkwX0_join_1 : List UInt8 := [58, 5, 6, 172, 3, 172]
abbrev dktX0_join_1 : List UInt8 := dkwX0_join_1 ++ []
def dkwX0_join_0 : List UInt8 := [25, 4, 42, 27, 28, 29, 182, 0, 57, 133, 181, 0, 13, 167, 0, 15, 58, 5, 4, 172, 58, 5, 5, 172]
abbrev dktX0_join_0 : List UInt8 := dkwX0_join_0 ++ dktX0_join_1
theorem dksX0_join_0 : cX0_join.data.toList.drop 0 = dktX0_join_0 := by decide +kernel
theorem dksX0_join_1 : cX0_join.data.toList.drop 24 = dktX0_join_1 := dk_seg dksX0_join_0 24 rfl rfl
theorem dX0_join_0 : decode cX0_join 0 = .ok (.aload 4, 2) := dk_25 4 (dk_at dksX0_join_0 0 rfl rfl)
theorem dX0_join_2 : decode cX0_join 2 = .ok (.aload_n 0, 1) := dk_42 (dk_at dksX0_join_0 2 rfl rfl)
theorem dX0_join_3 : decode cX0_join 3 = .ok (.iload_n 1, 1) := dk_27 (dk_at dksX0_join_0 3 rfl rfl)
theorem dX0_join_4 : decode cX0_join 4 = .ok (.iload_n 2, 1) := dk_28 (dk_at dksX0_join_0 4 rfl rfl)
theorem dX0_join_5 : decode cX0_join 5 = .ok (.iload_n 3, 1) := dk_29 (dk_at dksX0_join_0 5 rfl rfl)
theorem dX0_join_6 : decode cX0_join 6 = .ok (.invokevirtual 57, 3) := dk_182 0 57 (dk_at dksX0_join_0 6 rfl rfl)
theorem dX0_join_9 : decode cX0_join 9 = .ok (.i2l, 1) := dk_133 (dk_at dksX0_join_0 9 rfl rfl)
theorem dX0_join_10 : decode cX0_join 10 = .ok (.putfield 13, 3) := dk_181 0 13 (dk_at dksX0_join_0 10 rfl rfl)
theorem dX0_join_13 : decode cX0_join 13 = .ok (.goto 15, 3) := dk_167 0 15 (dk_at dksX0_join_0 13 rfl rfl)
theorem dX0_join_16 : decode cX0_join 16 = .ok (.astore 5, 2) := dk_58 5 (dk_at dksX0_join_0 16 rfl rfl)
theorem dX0_join_18 : decode cX0_join 18 = .ok (.iconst 1, 1) := dk_4 (dk_at dksX0_join_0 18 rfl rfl)
theorem dX0_join_19 : decode cX0_join 19 = .ok (.ireturn, 1) := dk_172 (dk_at dksX0_join_0 19 rfl rfl)
theorem dX0_join_20 : decode cX0_join 20 = .ok (.astore 5, 2) := dk_58 5 (dk_at dksX0_join_0 20 rfl rfl)
theorem dX0_join_22 : decode cX0_join 22 = .ok (.iconst 2, 1) := dk_5 (dk_at dksX0_join_0 22 rfl rfl)
theorem dX0_join_23 : decode cX0_join 23 = .ok (.ireturn, 1) := dk_172 (dk_at dksX0_join_0 23 rfl rfl)
theorem dX0_join_24 : decode cX0_join 24 = .ok (.astore 5, 2) := dk_58 5 (dk_at dksX0_join_1 0 rfl rfl)
theorem dX0_join_26 : decode cX0_join 26 = .ok (.iconst 3, 1) := dk_6 (dk_at dksX0_join_1 2 rfl rfl)
theorem dX0_join_27 : decode cX0_join 27 = .ok (.ireturn, 1) := dk_172 (dk_at dksX0_join_1 3 rfl rfl)
theorem dX0_join_28 : decode cX0_join 28 = .ok (.iconst 0, 1) := dk_3 (dk_at dksX0_join_1 4 rfl rfl)
theorem dX0_join_29 : decode cX0_join 29 = .ok (.ireturn, 1) := dk_172 (dk_at dksX0_join_1 5 rfl rfl)
abbrev cX0_leave : ByteArray := method_13_code
def yX0_leave : MethodName := ⟨RX0, "leave", "(LLullabygate;ILLullabygateLaw$Out;)I"⟩
def dkwX0_leave_0 : List UInt8 := [44, 42, 27, 182, 0, 60, 133, 181, 0, 13, 167, 0, 9, 78, 4, 172, 78, 5, 172, 3, 172]
abbrev dktX0_leave_0 : List UInt8 := dkwX0_leave_0 ++ []
theorem dksX0_leave_0 : cX0_leave.data.toList.drop 0 = dktX0_leave_0 := by decide +kernel
theorem dX0_leave_0 : decode cX0_leave 0 = .ok (.aload_n 2, 1) := dk_44 (dk_at dksX0_leave_0 0 rfl rfl)
theorem dX0_leave_1 : decode cX0_leave 1 = .ok (.aload_n 0, 1) := dk_42 (dk_at dksX0_leave_0 1 rfl rfl)
theorem dX0_leave_2 : decode cX0_leave 2 = .ok (.iload_n 1, 1) := dk_27 (dk_at dksX0_leave_0 2 rfl rfl)
theorem dX0_leave_3 : decode cX0_leave 3 = .ok (.invokevirtual 60, 3) := dk_182 0 60 (dk_at dksX0_leave_0 3 rfl rfl)
theorem dX0_leave_6 : decode cX0_leave 6 = .ok (.i2l, 1) := dk_133 (dk_at dksX0_leave_0 6 rfl rfl)
theorem dX0_leave_7 : decode cX0_leave 7 = .ok (.putfield 13, 3) := dk_181 0 13 (dk_at dksX0_leave_0 7 rfl rfl)
theorem dX0_leave_10 : decode cX0_leave 10 = .ok (.goto 9, 3) := dk_167 0 9 (dk_at dksX0_leave_0 10 rfl rfl)
theorem dX0_leave_13 : decode cX0_leave 13 = .ok (.astore_n 3, 1) := dk_78 (dk_at dksX0_leave_0 13 rfl rfl)
theorem dX0_leave_14 : decode cX0_leave 14 = .ok (.iconst 1, 1) := dk_4 (dk_at dksX0_leave_0 14 rfl rfl)
theorem dX0_leave_15 : decode cX0_leave 15 = .ok (.ireturn, 1) := dk_172 (dk_at dksX0_leave_0 15 rfl rfl)
theorem dX0_leave_16 : decode cX0_leave 16 = .ok (.astore_n 3, 1) := dk_78 (dk_at dksX0_leave_0 16 rfl rfl)
theorem dX0_leave_17 : decode cX0_leave 17 = .ok (.iconst 2, 1) := dk_5 (dk_at dksX0_leave_0 17 rfl rfl)
theorem dX0_leave_18 : decode cX0_leave 18 = .ok (.ireturn, 1) := dk_172 (dk_at dksX0_leave_0 18 rfl rfl)
theorem dX0_leave_19 : decode cX0_leave 19 = .ok (.iconst 0, 1) := dk_3 (dk_at dksX0_leave_0 19 rfl rfl)
theorem dX0_leave_20 : decode cX0_leave 20 = .ok (.ireturn, 1) := dk_172 (dk_at dksX0_leave_0 20 rfl rfl)
abbrev cX0_yawn : ByteArray := method_14_code
def yX0_yawn : MethodName := ⟨RX0, "yawn", "(LLullabygate;ILLullabygateLaw$Out;)I"⟩
def dkwX0_yawn_0 : List UInt8 := [44, 42, 27, 182, 0, 63, 133, 181, 0, 13, 167, 0, 9, 78, 4, 172, 78, 5, 172, 3, 172]
abbrev dktX0_yawn_0 : List UInt8 := dkwX0_yawn_0 ++ []
theorem dksX0_yawn_0 : cX0_yawn.data.toList.drop 0 = dktX0_yawn_0 := by decide +kernel
theorem dX0_yawn_0 : decode cX0_yawn 0 = .ok (.aload_n 2, 1) := dk_44 (dk_at dksX0_yawn_0 0 rfl rfl)
theorem dX0_yawn_1 : decode cX0_yawn 1 = .ok (.aload_n 0, 1) := dk_42 (dk_at dksX0_yawn_0 1 rfl rfl)
theorem dX0_yawn_2 : decode cX0_yawn 2 = .ok (.iload_n 1, 1) := dk_27 (dk_at dksX0_yawn_0 2 rfl rfl)
theorem dX0_yawn_3 : decode cX0_yawn 3 = .ok (.invokevirtual 63, 3) := dk_182 0 63 (dk_at dksX0_yawn_0 3 rfl rfl)
theorem dX0_yawn_6 : decode cX0_yawn 6 = .ok (.i2l, 1) := dk_133 (dk_at dksX0_yawn_0 6 rfl rfl)
theorem dX0_yawn_7 : decode cX0_yawn 7 = .ok (.putfield 13, 3) := dk_181 0 13 (dk_at dksX0_yawn_0 7 rfl rfl)
theorem dX0_yawn_10 : decode cX0_yawn 10 = .ok (.goto 9, 3) := dk_167 0 9 (dk_at dksX0_yawn_0 10 rfl rfl)
theorem dX0_yawn_13 : decode cX0_yawn 13 = .ok (.astore_n 3, 1) := dk_78 (dk_at dksX0_yawn_0 13 rfl rfl)
theorem dX0_yawn_14 : decode cX0_yawn 14 = .ok (.iconst 1, 1) := dk_4 (dk_at dksX0_yawn_0 14 rfl rfl)
theorem dX0_yawn_15 : decode cX0_yawn 15 = .ok (.ireturn, 1) := dk_172 (dk_at dksX0_yawn_0 15 rfl rfl)
theorem dX0_yawn_16 : decode cX0_yawn 16 = .ok (.astore_n 3, 1) := dk_78 (dk_at dksX0_yawn_0 16 rfl rfl)
theorem dX0_yawn_17 : decode cX0_yawn 17 = .ok (.iconst 2, 1) := dk_5 (dk_at dksX0_yawn_0 17 rfl rfl)
theorem dX0_yawn_18 : decode cX0_yawn 18 = .ok (.ireturn, 1) := dk_172 (dk_at dksX0_yawn_0 18 rfl rfl)
theorem dX0_yawn_19 : decode cX0_yawn 19 = .ok (.iconst 0, 1) := dk_3 (dk_at dksX0_yawn_0 19 rfl rfl)
theorem dX0_yawn_20 : decode cX0_yawn 20 = .ok (.ireturn, 1) := dk_172 (dk_at dksX0_yawn_0 20 rfl rfl)
abbrev cX0_appeal : ByteArray := method_15_code
def yX0_appeal : MethodName := ⟨RX0, "appeal", "(LLullabygate;ILLullabygateLaw$Out;)I"⟩
def dkwX0_appeal_1 : List UInt8 := [5, 172, 3, 172]
abbrev dktX0_appeal_1 : List UInt8 := dkwX0_appeal_1 ++ []
def dkwX0_appeal_0 : List UInt8 := [44, 42, 27, 182, 0, 66, 153, 0, 7, 10, 167, 0, 4, 9, 181, 0, 13, 167, 0, 9, 78, 4, 172, 78]
abbrev dktX0_appeal_0 : List UInt8 := dkwX0_appeal_0 ++ dktX0_appeal_1
theorem dksX0_appeal_0 : cX0_appeal.data.toList.drop 0 = dktX0_appeal_0 := by decide +kernel
theorem dksX0_appeal_1 : cX0_appeal.data.toList.drop 24 = dktX0_appeal_1 := dk_seg dksX0_appeal_0 24 rfl rfl
theorem dX0_appeal_0 : decode cX0_appeal 0 = .ok (.aload_n 2, 1) := dk_44 (dk_at dksX0_appeal_0 0 rfl rfl)
theorem dX0_appeal_1 : decode cX0_appeal 1 = .ok (.aload_n 0, 1) := dk_42 (dk_at dksX0_appeal_0 1 rfl rfl)
theorem dX0_appeal_2 : decode cX0_appeal 2 = .ok (.iload_n 1, 1) := dk_27 (dk_at dksX0_appeal_0 2 rfl rfl)
theorem dX0_appeal_3 : decode cX0_appeal 3 = .ok (.invokevirtual 66, 3) := dk_182 0 66 (dk_at dksX0_appeal_0 3 rfl rfl)
theorem dX0_appeal_6 : decode cX0_appeal 6 = .ok (.ifCond .eq 7, 3) := dk_153 0 7 (dk_at dksX0_appeal_0 6 rfl rfl)
theorem dX0_appeal_9 : decode cX0_appeal 9 = .ok (.lconst 1, 1) := dk_10 (dk_at dksX0_appeal_0 9 rfl rfl)
theorem dX0_appeal_10 : decode cX0_appeal 10 = .ok (.goto 4, 3) := dk_167 0 4 (dk_at dksX0_appeal_0 10 rfl rfl)
theorem dX0_appeal_13 : decode cX0_appeal 13 = .ok (.lconst 0, 1) := dk_9 (dk_at dksX0_appeal_0 13 rfl rfl)
theorem dX0_appeal_14 : decode cX0_appeal 14 = .ok (.putfield 13, 3) := dk_181 0 13 (dk_at dksX0_appeal_0 14 rfl rfl)
theorem dX0_appeal_17 : decode cX0_appeal 17 = .ok (.goto 9, 3) := dk_167 0 9 (dk_at dksX0_appeal_0 17 rfl rfl)
theorem dX0_appeal_20 : decode cX0_appeal 20 = .ok (.astore_n 3, 1) := dk_78 (dk_at dksX0_appeal_0 20 rfl rfl)
theorem dX0_appeal_21 : decode cX0_appeal 21 = .ok (.iconst 1, 1) := dk_4 (dk_at dksX0_appeal_0 21 rfl rfl)
theorem dX0_appeal_22 : decode cX0_appeal 22 = .ok (.ireturn, 1) := dk_172 (dk_at dksX0_appeal_0 22 rfl rfl)
theorem dX0_appeal_23 : decode cX0_appeal 23 = .ok (.astore_n 3, 1) := dk_78 (dk_at dksX0_appeal_0 23 rfl rfl)
theorem dX0_appeal_24 : decode cX0_appeal 24 = .ok (.iconst 2, 1) := dk_5 (dk_at dksX0_appeal_1 0 rfl rfl)
theorem dX0_appeal_25 : decode cX0_appeal 25 = .ok (.ireturn, 1) := dk_172 (dk_at dksX0_appeal_1 1 rfl rfl)
theorem dX0_appeal_26 : decode cX0_appeal 26 = .ok (.iconst 0, 1) := dk_3 (dk_at dksX0_appeal_1 2 rfl rfl)
theorem dX0_appeal_27 : decode cX0_appeal 27 = .ok (.ireturn, 1) := dk_172 (dk_at dksX0_appeal_1 3 rfl rfl)
abbrev cX0_pass : ByteArray := method_16_code
def yX0_pass : MethodName := ⟨RX0, "pass", "(LLullabygate;ILLullabygateLaw$Out;)I"⟩
def dkwX0_pass_0 : List UInt8 := [44, 42, 27, 182, 0, 70, 133, 181, 0, 13, 167, 0, 9, 78, 4, 172, 78, 5, 172, 3, 172]
abbrev dktX0_pass_0 : List UInt8 := dkwX0_pass_0 ++ []
theorem dksX0_pass_0 : cX0_pass.data.toList.drop 0 = dktX0_pass_0 := by decide +kernel
theorem dX0_pass_0 : decode cX0_pass 0 = .ok (.aload_n 2, 1) := dk_44 (dk_at dksX0_pass_0 0 rfl rfl)
theorem dX0_pass_1 : decode cX0_pass 1 = .ok (.aload_n 0, 1) := dk_42 (dk_at dksX0_pass_0 1 rfl rfl)
theorem dX0_pass_2 : decode cX0_pass 2 = .ok (.iload_n 1, 1) := dk_27 (dk_at dksX0_pass_0 2 rfl rfl)
theorem dX0_pass_3 : decode cX0_pass 3 = .ok (.invokevirtual 70, 3) := dk_182 0 70 (dk_at dksX0_pass_0 3 rfl rfl)
theorem dX0_pass_6 : decode cX0_pass 6 = .ok (.i2l, 1) := dk_133 (dk_at dksX0_pass_0 6 rfl rfl)
theorem dX0_pass_7 : decode cX0_pass 7 = .ok (.putfield 13, 3) := dk_181 0 13 (dk_at dksX0_pass_0 7 rfl rfl)
theorem dX0_pass_10 : decode cX0_pass 10 = .ok (.goto 9, 3) := dk_167 0 9 (dk_at dksX0_pass_0 10 rfl rfl)
theorem dX0_pass_13 : decode cX0_pass 13 = .ok (.astore_n 3, 1) := dk_78 (dk_at dksX0_pass_0 13 rfl rfl)
theorem dX0_pass_14 : decode cX0_pass 14 = .ok (.iconst 1, 1) := dk_4 (dk_at dksX0_pass_0 14 rfl rfl)
theorem dX0_pass_15 : decode cX0_pass 15 = .ok (.ireturn, 1) := dk_172 (dk_at dksX0_pass_0 15 rfl rfl)
theorem dX0_pass_16 : decode cX0_pass 16 = .ok (.astore_n 3, 1) := dk_78 (dk_at dksX0_pass_0 16 rfl rfl)
theorem dX0_pass_17 : decode cX0_pass 17 = .ok (.iconst 2, 1) := dk_5 (dk_at dksX0_pass_0 17 rfl rfl)
theorem dX0_pass_18 : decode cX0_pass 18 = .ok (.ireturn, 1) := dk_172 (dk_at dksX0_pass_0 18 rfl rfl)
theorem dX0_pass_19 : decode cX0_pass 19 = .ok (.iconst 0, 1) := dk_3 (dk_at dksX0_pass_0 19 rfl rfl)
theorem dX0_pass_20 : decode cX0_pass 20 = .ok (.ireturn, 1) := dk_172 (dk_at dksX0_pass_0 20 rfl rfl)
abbrev cX0_ofLand : ByteArray := method_17_code
def yX0_ofLand : MethodName := ⟨RX0, "ofLand", "(LLullabygate;IILLullabygateLaw$Out;)I"⟩
def dkwX0_ofLand_0 : List UInt8 := [45, 42, 27, 28, 182, 0, 73, 133, 181, 0, 13, 167, 0, 11, 58, 4, 4, 172, 58, 4, 5, 172, 3, 172]
abbrev dktX0_ofLand_0 : List UInt8 := dkwX0_ofLand_0 ++ []
theorem dksX0_ofLand_0 : cX0_ofLand.data.toList.drop 0 = dktX0_ofLand_0 := by decide +kernel
theorem dX0_ofLand_0 : decode cX0_ofLand 0 = .ok (.aload_n 3, 1) := dk_45 (dk_at dksX0_ofLand_0 0 rfl rfl)
theorem dX0_ofLand_1 : decode cX0_ofLand 1 = .ok (.aload_n 0, 1) := dk_42 (dk_at dksX0_ofLand_0 1 rfl rfl)
theorem dX0_ofLand_2 : decode cX0_ofLand 2 = .ok (.iload_n 1, 1) := dk_27 (dk_at dksX0_ofLand_0 2 rfl rfl)
theorem dX0_ofLand_3 : decode cX0_ofLand 3 = .ok (.iload_n 2, 1) := dk_28 (dk_at dksX0_ofLand_0 3 rfl rfl)
theorem dX0_ofLand_4 : decode cX0_ofLand 4 = .ok (.invokevirtual 73, 3) := dk_182 0 73 (dk_at dksX0_ofLand_0 4 rfl rfl)
theorem dX0_ofLand_7 : decode cX0_ofLand 7 = .ok (.i2l, 1) := dk_133 (dk_at dksX0_ofLand_0 7 rfl rfl)
theorem dX0_ofLand_8 : decode cX0_ofLand 8 = .ok (.putfield 13, 3) := dk_181 0 13 (dk_at dksX0_ofLand_0 8 rfl rfl)
theorem dX0_ofLand_11 : decode cX0_ofLand 11 = .ok (.goto 11, 3) := dk_167 0 11 (dk_at dksX0_ofLand_0 11 rfl rfl)
theorem dX0_ofLand_14 : decode cX0_ofLand 14 = .ok (.astore 4, 2) := dk_58 4 (dk_at dksX0_ofLand_0 14 rfl rfl)
theorem dX0_ofLand_16 : decode cX0_ofLand 16 = .ok (.iconst 1, 1) := dk_4 (dk_at dksX0_ofLand_0 16 rfl rfl)
theorem dX0_ofLand_17 : decode cX0_ofLand 17 = .ok (.ireturn, 1) := dk_172 (dk_at dksX0_ofLand_0 17 rfl rfl)
theorem dX0_ofLand_18 : decode cX0_ofLand 18 = .ok (.astore 4, 2) := dk_58 4 (dk_at dksX0_ofLand_0 18 rfl rfl)
theorem dX0_ofLand_20 : decode cX0_ofLand 20 = .ok (.iconst 2, 1) := dk_5 (dk_at dksX0_ofLand_0 20 rfl rfl)
theorem dX0_ofLand_21 : decode cX0_ofLand 21 = .ok (.ireturn, 1) := dk_172 (dk_at dksX0_ofLand_0 21 rfl rfl)
theorem dX0_ofLand_22 : decode cX0_ofLand 22 = .ok (.iconst 0, 1) := dk_3 (dk_at dksX0_ofLand_0 22 rfl rfl)
theorem dX0_ofLand_23 : decode cX0_ofLand 23 = .ok (.ireturn, 1) := dk_172 (dk_at dksX0_ofLand_0 23 rfl rfl)
abbrev cX0_ofGate : ByteArray := method_18_code
def yX0_ofGate : MethodName := ⟨RX0, "ofGate", "(LLullabygate;IILLullabygateLaw$Out;)I"⟩
def dkwX0_ofGate_0 : List UInt8 := [45, 42, 27, 28, 182, 0, 76, 133, 181, 0, 13, 167, 0, 11, 58, 4, 4, 172, 58, 4, 5, 172, 3, 172]
abbrev dktX0_ofGate_0 : List UInt8 := dkwX0_ofGate_0 ++ []
theorem dksX0_ofGate_0 : cX0_ofGate.data.toList.drop 0 = dktX0_ofGate_0 := by decide +kernel
theorem dX0_ofGate_0 : decode cX0_ofGate 0 = .ok (.aload_n 3, 1) := dk_45 (dk_at dksX0_ofGate_0 0 rfl rfl)
theorem dX0_ofGate_1 : decode cX0_ofGate 1 = .ok (.aload_n 0, 1) := dk_42 (dk_at dksX0_ofGate_0 1 rfl rfl)
theorem dX0_ofGate_2 : decode cX0_ofGate 2 = .ok (.iload_n 1, 1) := dk_27 (dk_at dksX0_ofGate_0 2 rfl rfl)
theorem dX0_ofGate_3 : decode cX0_ofGate 3 = .ok (.iload_n 2, 1) := dk_28 (dk_at dksX0_ofGate_0 3 rfl rfl)
theorem dX0_ofGate_4 : decode cX0_ofGate 4 = .ok (.invokevirtual 76, 3) := dk_182 0 76 (dk_at dksX0_ofGate_0 4 rfl rfl)
theorem dX0_ofGate_7 : decode cX0_ofGate 7 = .ok (.i2l, 1) := dk_133 (dk_at dksX0_ofGate_0 7 rfl rfl)
theorem dX0_ofGate_8 : decode cX0_ofGate 8 = .ok (.putfield 13, 3) := dk_181 0 13 (dk_at dksX0_ofGate_0 8 rfl rfl)
theorem dX0_ofGate_11 : decode cX0_ofGate 11 = .ok (.goto 11, 3) := dk_167 0 11 (dk_at dksX0_ofGate_0 11 rfl rfl)
theorem dX0_ofGate_14 : decode cX0_ofGate 14 = .ok (.astore 4, 2) := dk_58 4 (dk_at dksX0_ofGate_0 14 rfl rfl)
theorem dX0_ofGate_16 : decode cX0_ofGate 16 = .ok (.iconst 1, 1) := dk_4 (dk_at dksX0_ofGate_0 16 rfl rfl)
theorem dX0_ofGate_17 : decode cX0_ofGate 17 = .ok (.ireturn, 1) := dk_172 (dk_at dksX0_ofGate_0 17 rfl rfl)
theorem dX0_ofGate_18 : decode cX0_ofGate 18 = .ok (.astore 4, 2) := dk_58 4 (dk_at dksX0_ofGate_0 18 rfl rfl)
theorem dX0_ofGate_20 : decode cX0_ofGate 20 = .ok (.iconst 2, 1) := dk_5 (dk_at dksX0_ofGate_0 20 rfl rfl)
theorem dX0_ofGate_21 : decode cX0_ofGate 21 = .ok (.ireturn, 1) := dk_172 (dk_at dksX0_ofGate_0 21 rfl rfl)
theorem dX0_ofGate_22 : decode cX0_ofGate 22 = .ok (.iconst 0, 1) := dk_3 (dk_at dksX0_ofGate_0 22 rfl rfl)
theorem dX0_ofGate_23 : decode cX0_ofGate 23 = .ok (.ireturn, 1) := dk_172 (dk_at dksX0_ofGate_0 23 rfl rfl)
abbrev cX0_ofSleeper : ByteArray := method_19_code
def yX0_ofSleeper : MethodName := ⟨RX0, "ofSleeper", "(LLullabygate;IILLullabygateLaw$Out;)I"⟩
def dkwX0_ofSleeper_0 : List UInt8 := [45, 42, 27, 28, 182, 0, 79, 133, 181, 0, 13, 167, 0, 11, 58, 4, 4, 172, 58, 4, 5, 172, 3, 172]
abbrev dktX0_ofSleeper_0 : List UInt8 := dkwX0_ofSleeper_0 ++ []
theorem dksX0_ofSleeper_0 : cX0_ofSleeper.data.toList.drop 0 = dktX0_ofSleeper_0 := by decide +kernel
theorem dX0_ofSleeper_0 : decode cX0_ofSleeper 0 = .ok (.aload_n 3, 1) := dk_45 (dk_at dksX0_ofSleeper_0 0 rfl rfl)
theorem dX0_ofSleeper_1 : decode cX0_ofSleeper 1 = .ok (.aload_n 0, 1) := dk_42 (dk_at dksX0_ofSleeper_0 1 rfl rfl)
theorem dX0_ofSleeper_2 : decode cX0_ofSleeper 2 = .ok (.iload_n 1, 1) := dk_27 (dk_at dksX0_ofSleeper_0 2 rfl rfl)
theorem dX0_ofSleeper_3 : decode cX0_ofSleeper 3 = .ok (.iload_n 2, 1) := dk_28 (dk_at dksX0_ofSleeper_0 3 rfl rfl)
theorem dX0_ofSleeper_4 : decode cX0_ofSleeper 4 = .ok (.invokevirtual 79, 3) := dk_182 0 79 (dk_at dksX0_ofSleeper_0 4 rfl rfl)
theorem dX0_ofSleeper_7 : decode cX0_ofSleeper 7 = .ok (.i2l, 1) := dk_133 (dk_at dksX0_ofSleeper_0 7 rfl rfl)
theorem dX0_ofSleeper_8 : decode cX0_ofSleeper 8 = .ok (.putfield 13, 3) := dk_181 0 13 (dk_at dksX0_ofSleeper_0 8 rfl rfl)
theorem dX0_ofSleeper_11 : decode cX0_ofSleeper 11 = .ok (.goto 11, 3) := dk_167 0 11 (dk_at dksX0_ofSleeper_0 11 rfl rfl)
theorem dX0_ofSleeper_14 : decode cX0_ofSleeper 14 = .ok (.astore 4, 2) := dk_58 4 (dk_at dksX0_ofSleeper_0 14 rfl rfl)
theorem dX0_ofSleeper_16 : decode cX0_ofSleeper 16 = .ok (.iconst 1, 1) := dk_4 (dk_at dksX0_ofSleeper_0 16 rfl rfl)
theorem dX0_ofSleeper_17 : decode cX0_ofSleeper 17 = .ok (.ireturn, 1) := dk_172 (dk_at dksX0_ofSleeper_0 17 rfl rfl)
theorem dX0_ofSleeper_18 : decode cX0_ofSleeper 18 = .ok (.astore 4, 2) := dk_58 4 (dk_at dksX0_ofSleeper_0 18 rfl rfl)
theorem dX0_ofSleeper_20 : decode cX0_ofSleeper 20 = .ok (.iconst 2, 1) := dk_5 (dk_at dksX0_ofSleeper_0 20 rfl rfl)
theorem dX0_ofSleeper_21 : decode cX0_ofSleeper 21 = .ok (.ireturn, 1) := dk_172 (dk_at dksX0_ofSleeper_0 21 rfl rfl)
theorem dX0_ofSleeper_22 : decode cX0_ofSleeper 22 = .ok (.iconst 0, 1) := dk_3 (dk_at dksX0_ofSleeper_0 22 rfl rfl)
theorem dX0_ofSleeper_23 : decode cX0_ofSleeper 23 = .ok (.ireturn, 1) := dk_172 (dk_at dksX0_ofSleeper_0 23 rfl rfl)
abbrev cX0_ofPart : ByteArray := method_20_code
def yX0_ofPart : MethodName := ⟨RX0, "ofPart", "(LLullabygate;IILLullabygateLaw$Out;)I"⟩
def dkwX0_ofPart_0 : List UInt8 := [45, 42, 27, 28, 182, 0, 82, 133, 181, 0, 13, 167, 0, 11, 58, 4, 4, 172, 58, 4, 5, 172, 3, 172]
abbrev dktX0_ofPart_0 : List UInt8 := dkwX0_ofPart_0 ++ []
theorem dksX0_ofPart_0 : cX0_ofPart.data.toList.drop 0 = dktX0_ofPart_0 := by decide +kernel
theorem dX0_ofPart_0 : decode cX0_ofPart 0 = .ok (.aload_n 3, 1) := dk_45 (dk_at dksX0_ofPart_0 0 rfl rfl)
theorem dX0_ofPart_1 : decode cX0_ofPart 1 = .ok (.aload_n 0, 1) := dk_42 (dk_at dksX0_ofPart_0 1 rfl rfl)
theorem dX0_ofPart_2 : decode cX0_ofPart 2 = .ok (.iload_n 1, 1) := dk_27 (dk_at dksX0_ofPart_0 2 rfl rfl)
theorem dX0_ofPart_3 : decode cX0_ofPart 3 = .ok (.iload_n 2, 1) := dk_28 (dk_at dksX0_ofPart_0 3 rfl rfl)
theorem dX0_ofPart_4 : decode cX0_ofPart 4 = .ok (.invokevirtual 82, 3) := dk_182 0 82 (dk_at dksX0_ofPart_0 4 rfl rfl)
theorem dX0_ofPart_7 : decode cX0_ofPart 7 = .ok (.i2l, 1) := dk_133 (dk_at dksX0_ofPart_0 7 rfl rfl)
theorem dX0_ofPart_8 : decode cX0_ofPart 8 = .ok (.putfield 13, 3) := dk_181 0 13 (dk_at dksX0_ofPart_0 8 rfl rfl)
theorem dX0_ofPart_11 : decode cX0_ofPart 11 = .ok (.goto 11, 3) := dk_167 0 11 (dk_at dksX0_ofPart_0 11 rfl rfl)
theorem dX0_ofPart_14 : decode cX0_ofPart 14 = .ok (.astore 4, 2) := dk_58 4 (dk_at dksX0_ofPart_0 14 rfl rfl)
theorem dX0_ofPart_16 : decode cX0_ofPart 16 = .ok (.iconst 1, 1) := dk_4 (dk_at dksX0_ofPart_0 16 rfl rfl)
theorem dX0_ofPart_17 : decode cX0_ofPart 17 = .ok (.ireturn, 1) := dk_172 (dk_at dksX0_ofPart_0 17 rfl rfl)
theorem dX0_ofPart_18 : decode cX0_ofPart 18 = .ok (.astore 4, 2) := dk_58 4 (dk_at dksX0_ofPart_0 18 rfl rfl)
theorem dX0_ofPart_20 : decode cX0_ofPart 20 = .ok (.iconst 2, 1) := dk_5 (dk_at dksX0_ofPart_0 20 rfl rfl)
theorem dX0_ofPart_21 : decode cX0_ofPart 21 = .ok (.ireturn, 1) := dk_172 (dk_at dksX0_ofPart_0 21 rfl rfl)
theorem dX0_ofPart_22 : decode cX0_ofPart 22 = .ok (.iconst 0, 1) := dk_3 (dk_at dksX0_ofPart_0 22 rfl rfl)
theorem dX0_ofPart_23 : decode cX0_ofPart 23 = .ok (.ireturn, 1) := dk_172 (dk_at dksX0_ofPart_0 23 rfl rfl)
abbrev cX0_isGood : ByteArray := method_21_code
def yX0_isGood : MethodName := ⟨RX0, "isGood", "(LLullabygate;IILLullabygateLaw$Out;)I"⟩
def dkwX0_isGood_1 : List UInt8 := [172, 3, 172]
abbrev dktX0_isGood_1 : List UInt8 := dkwX0_isGood_1 ++ []
def dkwX0_isGood_0 : List UInt8 := [45, 42, 27, 28, 182, 0, 85, 153, 0, 7, 10, 167, 0, 4, 9, 181, 0, 13, 167, 0, 7, 58, 4, 4]
abbrev dktX0_isGood_0 : List UInt8 := dkwX0_isGood_0 ++ dktX0_isGood_1
theorem dksX0_isGood_0 : cX0_isGood.data.toList.drop 0 = dktX0_isGood_0 := by decide +kernel
theorem dksX0_isGood_1 : cX0_isGood.data.toList.drop 24 = dktX0_isGood_1 := dk_seg dksX0_isGood_0 24 rfl rfl
theorem dX0_isGood_0 : decode cX0_isGood 0 = .ok (.aload_n 3, 1) := dk_45 (dk_at dksX0_isGood_0 0 rfl rfl)
theorem dX0_isGood_1 : decode cX0_isGood 1 = .ok (.aload_n 0, 1) := dk_42 (dk_at dksX0_isGood_0 1 rfl rfl)
theorem dX0_isGood_2 : decode cX0_isGood 2 = .ok (.iload_n 1, 1) := dk_27 (dk_at dksX0_isGood_0 2 rfl rfl)
theorem dX0_isGood_3 : decode cX0_isGood 3 = .ok (.iload_n 2, 1) := dk_28 (dk_at dksX0_isGood_0 3 rfl rfl)
theorem dX0_isGood_4 : decode cX0_isGood 4 = .ok (.invokevirtual 85, 3) := dk_182 0 85 (dk_at dksX0_isGood_0 4 rfl rfl)
theorem dX0_isGood_7 : decode cX0_isGood 7 = .ok (.ifCond .eq 7, 3) := dk_153 0 7 (dk_at dksX0_isGood_0 7 rfl rfl)
theorem dX0_isGood_10 : decode cX0_isGood 10 = .ok (.lconst 1, 1) := dk_10 (dk_at dksX0_isGood_0 10 rfl rfl)
theorem dX0_isGood_11 : decode cX0_isGood 11 = .ok (.goto 4, 3) := dk_167 0 4 (dk_at dksX0_isGood_0 11 rfl rfl)
theorem dX0_isGood_14 : decode cX0_isGood 14 = .ok (.lconst 0, 1) := dk_9 (dk_at dksX0_isGood_0 14 rfl rfl)
theorem dX0_isGood_15 : decode cX0_isGood 15 = .ok (.putfield 13, 3) := dk_181 0 13 (dk_at dksX0_isGood_0 15 rfl rfl)
theorem dX0_isGood_18 : decode cX0_isGood 18 = .ok (.goto 7, 3) := dk_167 0 7 (dk_at dksX0_isGood_0 18 rfl rfl)
theorem dX0_isGood_21 : decode cX0_isGood 21 = .ok (.astore 4, 2) := dk_58 4 (dk_at dksX0_isGood_0 21 rfl rfl)
theorem dX0_isGood_23 : decode cX0_isGood 23 = .ok (.iconst 1, 1) := dk_4 (dk_at dksX0_isGood_0 23 rfl rfl)
theorem dX0_isGood_24 : decode cX0_isGood 24 = .ok (.ireturn, 1) := dk_172 (dk_at dksX0_isGood_1 0 rfl rfl)
theorem dX0_isGood_25 : decode cX0_isGood 25 = .ok (.iconst 0, 1) := dk_3 (dk_at dksX0_isGood_1 1 rfl rfl)
theorem dX0_isGood_26 : decode cX0_isGood 26 = .ok (.ireturn, 1) := dk_172 (dk_at dksX0_isGood_1 2 rfl rfl)
abbrev cX0_queue : ByteArray := method_22_code
def yX0_queue : MethodName := ⟨RX0, "queue", "(LLullabygate;ILLullabygateLaw$Out;)I"⟩
def dkwX0_queue_0 : List UInt8 := [44, 42, 27, 182, 0, 88, 181, 0, 92, 167, 0, 6, 78, 4, 172, 3, 172]
abbrev dktX0_queue_0 : List UInt8 := dkwX0_queue_0 ++ []
theorem dksX0_queue_0 : cX0_queue.data.toList.drop 0 = dktX0_queue_0 := by decide +kernel
theorem dX0_queue_0 : decode cX0_queue 0 = .ok (.aload_n 2, 1) := dk_44 (dk_at dksX0_queue_0 0 rfl rfl)
theorem dX0_queue_1 : decode cX0_queue 1 = .ok (.aload_n 0, 1) := dk_42 (dk_at dksX0_queue_0 1 rfl rfl)
theorem dX0_queue_2 : decode cX0_queue 2 = .ok (.iload_n 1, 1) := dk_27 (dk_at dksX0_queue_0 2 rfl rfl)
theorem dX0_queue_3 : decode cX0_queue 3 = .ok (.invokevirtual 88, 3) := dk_182 0 88 (dk_at dksX0_queue_0 3 rfl rfl)
theorem dX0_queue_6 : decode cX0_queue 6 = .ok (.putfield 92, 3) := dk_181 0 92 (dk_at dksX0_queue_0 6 rfl rfl)
theorem dX0_queue_9 : decode cX0_queue 9 = .ok (.goto 6, 3) := dk_167 0 6 (dk_at dksX0_queue_0 9 rfl rfl)
theorem dX0_queue_12 : decode cX0_queue 12 = .ok (.astore_n 3, 1) := dk_78 (dk_at dksX0_queue_0 12 rfl rfl)
theorem dX0_queue_13 : decode cX0_queue 13 = .ok (.iconst 1, 1) := dk_4 (dk_at dksX0_queue_0 13 rfl rfl)
theorem dX0_queue_14 : decode cX0_queue 14 = .ok (.ireturn, 1) := dk_172 (dk_at dksX0_queue_0 14 rfl rfl)
theorem dX0_queue_15 : decode cX0_queue 15 = .ok (.iconst 0, 1) := dk_3 (dk_at dksX0_queue_0 15 rfl rfl)
theorem dX0_queue_16 : decode cX0_queue 16 = .ok (.ireturn, 1) := dk_172 (dk_at dksX0_queue_0 16 rfl rfl)
abbrev cX0_night : ByteArray := method_23_code
def yX0_night : MethodName := ⟨RX0, "night", "(LLullabygate;ILLullabygateLaw$Out;)I"⟩
def dkwX0_night_0 : List UInt8 := [44, 42, 27, 182, 0, 96, 133, 181, 0, 13, 167, 0, 6, 78, 4, 172, 3, 172]
abbrev dktX0_night_0 : List UInt8 := dkwX0_night_0 ++ []
theorem dksX0_night_0 : cX0_night.data.toList.drop 0 = dktX0_night_0 := by decide +kernel
theorem dX0_night_0 : decode cX0_night 0 = .ok (.aload_n 2, 1) := dk_44 (dk_at dksX0_night_0 0 rfl rfl)
theorem dX0_night_1 : decode cX0_night 1 = .ok (.aload_n 0, 1) := dk_42 (dk_at dksX0_night_0 1 rfl rfl)
theorem dX0_night_2 : decode cX0_night 2 = .ok (.iload_n 1, 1) := dk_27 (dk_at dksX0_night_0 2 rfl rfl)
theorem dX0_night_3 : decode cX0_night 3 = .ok (.invokevirtual 96, 3) := dk_182 0 96 (dk_at dksX0_night_0 3 rfl rfl)
theorem dX0_night_6 : decode cX0_night 6 = .ok (.i2l, 1) := dk_133 (dk_at dksX0_night_0 6 rfl rfl)
theorem dX0_night_7 : decode cX0_night 7 = .ok (.putfield 13, 3) := dk_181 0 13 (dk_at dksX0_night_0 7 rfl rfl)
theorem dX0_night_10 : decode cX0_night 10 = .ok (.goto 6, 3) := dk_167 0 6 (dk_at dksX0_night_0 10 rfl rfl)
theorem dX0_night_13 : decode cX0_night 13 = .ok (.astore_n 3, 1) := dk_78 (dk_at dksX0_night_0 13 rfl rfl)
theorem dX0_night_14 : decode cX0_night 14 = .ok (.iconst 1, 1) := dk_4 (dk_at dksX0_night_0 14 rfl rfl)
theorem dX0_night_15 : decode cX0_night 15 = .ok (.ireturn, 1) := dk_172 (dk_at dksX0_night_0 15 rfl rfl)
theorem dX0_night_16 : decode cX0_night 16 = .ok (.iconst 0, 1) := dk_3 (dk_at dksX0_night_0 16 rfl rfl)
theorem dX0_night_17 : decode cX0_night 17 = .ok (.ireturn, 1) := dk_172 (dk_at dksX0_night_0 17 rfl rfl)
abbrev cX0_way : ByteArray := method_24_code
def yX0_way : MethodName := ⟨RX0, "way", "(LLullabygate;IILLullabygateLaw$Out;)I"⟩
def dkwX0_way_0 : List UInt8 := [45, 42, 27, 28, 182, 0, 99, 133, 181, 0, 13, 167, 0, 7, 58, 4, 4, 172, 3, 172]
abbrev dktX0_way_0 : List UInt8 := dkwX0_way_0 ++ []
theorem dksX0_way_0 : cX0_way.data.toList.drop 0 = dktX0_way_0 := by decide +kernel
theorem dX0_way_0 : decode cX0_way 0 = .ok (.aload_n 3, 1) := dk_45 (dk_at dksX0_way_0 0 rfl rfl)
theorem dX0_way_1 : decode cX0_way 1 = .ok (.aload_n 0, 1) := dk_42 (dk_at dksX0_way_0 1 rfl rfl)
theorem dX0_way_2 : decode cX0_way 2 = .ok (.iload_n 1, 1) := dk_27 (dk_at dksX0_way_0 2 rfl rfl)
theorem dX0_way_3 : decode cX0_way 3 = .ok (.iload_n 2, 1) := dk_28 (dk_at dksX0_way_0 3 rfl rfl)
theorem dX0_way_4 : decode cX0_way 4 = .ok (.invokevirtual 99, 3) := dk_182 0 99 (dk_at dksX0_way_0 4 rfl rfl)
theorem dX0_way_7 : decode cX0_way 7 = .ok (.i2l, 1) := dk_133 (dk_at dksX0_way_0 7 rfl rfl)
theorem dX0_way_8 : decode cX0_way 8 = .ok (.putfield 13, 3) := dk_181 0 13 (dk_at dksX0_way_0 8 rfl rfl)
theorem dX0_way_11 : decode cX0_way 11 = .ok (.goto 7, 3) := dk_167 0 7 (dk_at dksX0_way_0 11 rfl rfl)
theorem dX0_way_14 : decode cX0_way 14 = .ok (.astore 4, 2) := dk_58 4 (dk_at dksX0_way_0 14 rfl rfl)
theorem dX0_way_16 : decode cX0_way 16 = .ok (.iconst 1, 1) := dk_4 (dk_at dksX0_way_0 16 rfl rfl)
theorem dX0_way_17 : decode cX0_way 17 = .ok (.ireturn, 1) := dk_172 (dk_at dksX0_way_0 17 rfl rfl)
theorem dX0_way_18 : decode cX0_way 18 = .ok (.iconst 0, 1) := dk_3 (dk_at dksX0_way_0 18 rfl rfl)
theorem dX0_way_19 : decode cX0_way 19 = .ok (.ireturn, 1) := dk_172 (dk_at dksX0_way_0 19 rfl rfl)
abbrev cX0_plan : ByteArray := method_25_code
def yX0_plan : MethodName := ⟨RX0, "plan", "(LLullabygate;IILLullabygateLaw$Out;)I"⟩
def dkwX0_plan_0 : List UInt8 := [45, 42, 27, 28, 182, 0, 102, 133, 181, 0, 13, 167, 0, 11, 58, 4, 4, 172, 58, 4, 5, 172, 3, 172]
abbrev dktX0_plan_0 : List UInt8 := dkwX0_plan_0 ++ []
theorem dksX0_plan_0 : cX0_plan.data.toList.drop 0 = dktX0_plan_0 := by decide +kernel
theorem dX0_plan_0 : decode cX0_plan 0 = .ok (.aload_n 3, 1) := dk_45 (dk_at dksX0_plan_0 0 rfl rfl)
theorem dX0_plan_1 : decode cX0_plan 1 = .ok (.aload_n 0, 1) := dk_42 (dk_at dksX0_plan_0 1 rfl rfl)
theorem dX0_plan_2 : decode cX0_plan 2 = .ok (.iload_n 1, 1) := dk_27 (dk_at dksX0_plan_0 2 rfl rfl)
theorem dX0_plan_3 : decode cX0_plan 3 = .ok (.iload_n 2, 1) := dk_28 (dk_at dksX0_plan_0 3 rfl rfl)
theorem dX0_plan_4 : decode cX0_plan 4 = .ok (.invokevirtual 102, 3) := dk_182 0 102 (dk_at dksX0_plan_0 4 rfl rfl)
theorem dX0_plan_7 : decode cX0_plan 7 = .ok (.i2l, 1) := dk_133 (dk_at dksX0_plan_0 7 rfl rfl)
theorem dX0_plan_8 : decode cX0_plan 8 = .ok (.putfield 13, 3) := dk_181 0 13 (dk_at dksX0_plan_0 8 rfl rfl)
theorem dX0_plan_11 : decode cX0_plan 11 = .ok (.goto 11, 3) := dk_167 0 11 (dk_at dksX0_plan_0 11 rfl rfl)
theorem dX0_plan_14 : decode cX0_plan 14 = .ok (.astore 4, 2) := dk_58 4 (dk_at dksX0_plan_0 14 rfl rfl)
theorem dX0_plan_16 : decode cX0_plan 16 = .ok (.iconst 1, 1) := dk_4 (dk_at dksX0_plan_0 16 rfl rfl)
theorem dX0_plan_17 : decode cX0_plan 17 = .ok (.ireturn, 1) := dk_172 (dk_at dksX0_plan_0 17 rfl rfl)
theorem dX0_plan_18 : decode cX0_plan 18 = .ok (.astore 4, 2) := dk_58 4 (dk_at dksX0_plan_0 18 rfl rfl)
theorem dX0_plan_20 : decode cX0_plan 20 = .ok (.iconst 2, 1) := dk_5 (dk_at dksX0_plan_0 20 rfl rfl)
theorem dX0_plan_21 : decode cX0_plan 21 = .ok (.ireturn, 1) := dk_172 (dk_at dksX0_plan_0 21 rfl rfl)
theorem dX0_plan_22 : decode cX0_plan 22 = .ok (.iconst 0, 1) := dk_3 (dk_at dksX0_plan_0 22 rfl rfl)
theorem dX0_plan_23 : decode cX0_plan 23 = .ok (.ireturn, 1) := dk_172 (dk_at dksX0_plan_0 23 rfl rfl)
abbrev cX0_wouldPay : ByteArray := method_26_code
def yX0_wouldPay : MethodName := ⟨RX0, "wouldPay", "(LLullabygate;ILLullabygateLaw$Out;)I"⟩
def dkwX0_wouldPay_0 : List UInt8 := [44, 42, 27, 182, 0, 105, 133, 181, 0, 13, 167, 0, 6, 78, 4, 172, 3, 172]
abbrev dktX0_wouldPay_0 : List UInt8 := dkwX0_wouldPay_0 ++ []
theorem dksX0_wouldPay_0 : cX0_wouldPay.data.toList.drop 0 = dktX0_wouldPay_0 := by decide +kernel
theorem dX0_wouldPay_0 : decode cX0_wouldPay 0 = .ok (.aload_n 2, 1) := dk_44 (dk_at dksX0_wouldPay_0 0 rfl rfl)
theorem dX0_wouldPay_1 : decode cX0_wouldPay 1 = .ok (.aload_n 0, 1) := dk_42 (dk_at dksX0_wouldPay_0 1 rfl rfl)
theorem dX0_wouldPay_2 : decode cX0_wouldPay 2 = .ok (.iload_n 1, 1) := dk_27 (dk_at dksX0_wouldPay_0 2 rfl rfl)
theorem dX0_wouldPay_3 : decode cX0_wouldPay 3 = .ok (.invokevirtual 105, 3) := dk_182 0 105 (dk_at dksX0_wouldPay_0 3 rfl rfl)
theorem dX0_wouldPay_6 : decode cX0_wouldPay 6 = .ok (.i2l, 1) := dk_133 (dk_at dksX0_wouldPay_0 6 rfl rfl)
theorem dX0_wouldPay_7 : decode cX0_wouldPay 7 = .ok (.putfield 13, 3) := dk_181 0 13 (dk_at dksX0_wouldPay_0 7 rfl rfl)
theorem dX0_wouldPay_10 : decode cX0_wouldPay 10 = .ok (.goto 6, 3) := dk_167 0 6 (dk_at dksX0_wouldPay_0 10 rfl rfl)
theorem dX0_wouldPay_13 : decode cX0_wouldPay 13 = .ok (.astore_n 3, 1) := dk_78 (dk_at dksX0_wouldPay_0 13 rfl rfl)
theorem dX0_wouldPay_14 : decode cX0_wouldPay 14 = .ok (.iconst 1, 1) := dk_4 (dk_at dksX0_wouldPay_0 14 rfl rfl)
theorem dX0_wouldPay_15 : decode cX0_wouldPay 15 = .ok (.ireturn, 1) := dk_172 (dk_at dksX0_wouldPay_0 15 rfl rfl)
theorem dX0_wouldPay_16 : decode cX0_wouldPay 16 = .ok (.iconst 0, 1) := dk_3 (dk_at dksX0_wouldPay_0 16 rfl rfl)
theorem dX0_wouldPay_17 : decode cX0_wouldPay 17 = .ok (.ireturn, 1) := dk_172 (dk_at dksX0_wouldPay_0 17 rfl rfl)
theorem q79 : (Jvm.Cond.initialized "LullabygateLaw") ∈ lw_all := lw_g (lw_at lw_m1 0 rfl) rfl
theorem q124 : (Jvm.Cond.classLink "LullabygateLaw" (8 : Nat) "Lullabygate") ∈ lw_all := lw_g (lw_at lw_m1 45 rfl) rfl
theorem q126 : (Jvm.Cond.methodLink "LullabygateLaw" (108 : Nat) ({ cls := "Lullabygate", name := "<init>", desc := "()V" } : Jvm.MethodName)) ∈ lw_all := lw_g (lw_at lw_m1 47 rfl) rfl
theorem q311 : (Jvm.Cond.methodLink "LullabygateLaw" (205 : Nat) ({ cls := "Lullabygate", name := "isSound", desc := "()Z" } : Jvm.MethodName)) ∈ lw_all := lw_g (lw_at lw_m1 232 rfl) rfl
theorem q378 : (Jvm.Cond.methodLink "LullabygateLaw" (210 : Nat) ({ cls := "Lullabygate", name := "digest", desc := "()J" } : Jvm.MethodName)) ∈ lw_all := lw_g (lw_at lw_m2 59 rfl) rfl
theorem q592 : (Jvm.Cond.classLink "LullabygateLaw" (14 : Nat) "LullabygateLaw$Out") ∈ lw_all := lw_g (lw_at lw_m3 33 rfl) rfl
theorem q594 : (Jvm.Cond.methodLinkNest "LullabygateLaw" (112 : Nat) ({ cls := "LullabygateLaw$Out", name := "<init>", desc := "()V" } : Jvm.MethodName) "LullabygateLaw") ∈ lw_tbl := lw_at lw_m3 35 rfl
theorem q598 : (Jvm.Cond.fieldLinkNest "LullabygateLaw" (13 : Nat) "LullabygateLaw$Out" "n" "J" "LullabygateLaw") ∈ lw_tbl := lw_at lw_m3 39 rfl
theorem q599 : (Jvm.Cond.fieldLinkNest "LullabygateLaw" (92 : Nat) "LullabygateLaw$Out" "s" "Ljava/lang/String;" "LullabygateLaw") ∈ lw_tbl := lw_at lw_m3 40 rfl
theorem q605 : (Jvm.Cond.methodLink "LullabygateLaw" (113 : Nat) ({ cls := "LullabygateLaw", name := "land", desc := "(LLullabygate;IIILLullabygateLaw$Out;)I" } : Jvm.MethodName)) ∈ lw_all := lw_g (lw_at lw_m3 46 rfl) rfl
theorem q606 : (Jvm.Cond.static ({ cls := "LullabygateLaw", name := "land", desc := "(LLullabygate;IIILLullabygateLaw$Out;)I" } : Jvm.MethodName)) ∈ lw_all := lw_g (lw_at lw_m3 47 rfl) rfl
theorem q607 : (Jvm.Cond.codeWith ({ cls := "LullabygateLaw", name := "land", desc := "(LLullabygate;IIILLullabygateLaw$Out;)I" } : Jvm.MethodName) method_2_code (6 : Nat) (Option.some Jvm.ClassFile.FieldType.int) [((0 : Nat), (13 : Nat), (16 : Nat), (19 : Nat)), ((0 : Nat), (13 : Nat), (20 : Nat), (21 : Nat))]) ∈ lw_all := lw_g (lw_at lw_m3 48 rfl) rfl
theorem q608 : (Jvm.Cond.classLink "LullabygateLaw" (19 : Nat) "java/lang/IndexOutOfBoundsException") ∈ lw_all := lw_g (lw_at lw_m3 49 rfl) rfl
theorem q685 : (Jvm.Cond.classLink "LullabygateLaw" (21 : Nat) "java/lang/IllegalArgumentException") ∈ lw_all := lw_g (lw_at lw_m3 126 rfl) rfl
theorem q686 : (Jvm.Cond.methodLink "LullabygateLaw" (7 : Nat) ({ cls := "Lullabygate", name := "land", desc := "(III)I" } : Jvm.MethodName)) ∈ lw_all := lw_g (lw_at lw_m3 127 rfl) rfl
theorem q739 : (Jvm.Cond.methodLink "LullabygateLaw" (123 : Nat) ({ cls := "LullabygateLaw", name := "trade", desc := "(LLullabygate;IIILLullabygateLaw$Out;)I" } : Jvm.MethodName)) ∈ lw_all := lw_g (lw_at lw_m3 180 rfl) rfl
theorem q740 : (Jvm.Cond.static ({ cls := "LullabygateLaw", name := "trade", desc := "(LLullabygate;IIILLullabygateLaw$Out;)I" } : Jvm.MethodName)) ∈ lw_all := lw_g (lw_at lw_m3 181 rfl) rfl
theorem q741 : (Jvm.Cond.codeWith ({ cls := "LullabygateLaw", name := "trade", desc := "(LLullabygate;IIILLullabygateLaw$Out;)I" } : Jvm.MethodName) method_3_code (6 : Nat) (Option.some Jvm.ClassFile.FieldType.int) [((0 : Nat), (13 : Nat), (16 : Nat), (19 : Nat)), ((0 : Nat), (13 : Nat), (20 : Nat), (21 : Nat)), ((0 : Nat), (13 : Nat), (24 : Nat), (26 : Nat))]) ∈ lw_all := lw_g (lw_at lw_m3 182 rfl) rfl
theorem q742 : (Jvm.Cond.classLink "LullabygateLaw" (26 : Nat) "java/lang/IllegalStateException") ∈ lw_all := lw_g (lw_at lw_m3 183 rfl) rfl
theorem q743 : (Jvm.Cond.methodLink "LullabygateLaw" (23 : Nat) ({ cls := "Lullabygate", name := "trade", desc := "(III)I" } : Jvm.MethodName)) ∈ lw_all := lw_g (lw_at lw_m3 184 rfl) rfl
theorem q765 : (Jvm.Cond.methodLink "LullabygateLaw" (126 : Nat) ({ cls := "LullabygateLaw", name := "gate", desc := "(LLullabygate;IIIILLullabygateLaw$Out;)I" } : Jvm.MethodName)) ∈ lw_all := lw_g (lw_at lw_m3 206 rfl) rfl
theorem q766 : (Jvm.Cond.static ({ cls := "LullabygateLaw", name := "gate", desc := "(LLullabygate;IIIILLullabygateLaw$Out;)I" } : Jvm.MethodName)) ∈ lw_all := lw_g (lw_at lw_m3 207 rfl) rfl
theorem q767 : (Jvm.Cond.codeWith ({ cls := "LullabygateLaw", name := "gate", desc := "(LLullabygate;IIIILLullabygateLaw$Out;)I" } : Jvm.MethodName) method_4_code (7 : Nat) (Option.some Jvm.ClassFile.FieldType.int) [((0 : Nat), (15 : Nat), (18 : Nat), (19 : Nat)), ((0 : Nat), (15 : Nat), (22 : Nat), (21 : Nat)), ((0 : Nat), (15 : Nat), (26 : Nat), (26 : Nat))]) ∈ lw_all := lw_g (lw_at lw_m3 208 rfl) rfl
theorem q768 : (Jvm.Cond.methodLink "LullabygateLaw" (28 : Nat) ({ cls := "Lullabygate", name := "gate", desc := "(IIII)I" } : Jvm.MethodName)) ∈ lw_all := lw_g (lw_at lw_m3 209 rfl) rfl
theorem q811 : (Jvm.Cond.methodLink "LullabygateLaw" (130 : Nat) ({ cls := "LullabygateLaw", name := "odds", desc := "(LLullabygate;IILLullabygateLaw$Out;)I" } : Jvm.MethodName)) ∈ lw_all := lw_g (lw_at lw_m4 12 rfl) rfl
theorem q812 : (Jvm.Cond.static ({ cls := "LullabygateLaw", name := "odds", desc := "(LLullabygate;IILLullabygateLaw$Out;)I" } : Jvm.MethodName)) ∈ lw_all := lw_g (lw_at lw_m4 13 rfl) rfl
theorem q813 : (Jvm.Cond.codeWith ({ cls := "LullabygateLaw", name := "odds", desc := "(LLullabygate;IILLullabygateLaw$Out;)I" } : Jvm.MethodName) method_5_code (5 : Nat) (Option.some Jvm.ClassFile.FieldType.int) [((0 : Nat), (11 : Nat), (14 : Nat), (19 : Nat)), ((0 : Nat), (11 : Nat), (18 : Nat), (21 : Nat))]) ∈ lw_all := lw_g (lw_at lw_m4 14 rfl) rfl
theorem q814 : (Jvm.Cond.methodLink "LullabygateLaw" (32 : Nat) ({ cls := "Lullabygate", name := "odds", desc := "(II)I" } : Jvm.MethodName)) ∈ lw_all := lw_g (lw_at lw_m4 15 rfl) rfl
theorem q822 : (Jvm.Cond.methodLink "LullabygateLaw" (134 : Nat) ({ cls := "LullabygateLaw", name := "relieve", desc := "(LLullabygate;ILLullabygateLaw$Out;)I" } : Jvm.MethodName)) ∈ lw_all := lw_g (lw_at lw_m4 23 rfl) rfl
theorem q823 : (Jvm.Cond.static ({ cls := "LullabygateLaw", name := "relieve", desc := "(LLullabygate;ILLullabygateLaw$Out;)I" } : Jvm.MethodName)) ∈ lw_all := lw_g (lw_at lw_m4 24 rfl) rfl
theorem q824 : (Jvm.Cond.codeWith ({ cls := "LullabygateLaw", name := "relieve", desc := "(LLullabygate;ILLullabygateLaw$Out;)I" } : Jvm.MethodName) method_6_code (4 : Nat) (Option.some Jvm.ClassFile.FieldType.int) [((0 : Nat), (10 : Nat), (13 : Nat), (19 : Nat))]) ∈ lw_all := lw_g (lw_at lw_m4 25 rfl) rfl
theorem q825 : (Jvm.Cond.methodLink "LullabygateLaw" (36 : Nat) ({ cls := "Lullabygate", name := "relieve", desc := "(I)I" } : Jvm.MethodName)) ∈ lw_all := lw_g (lw_at lw_m4 26 rfl) rfl
theorem q829 : (Jvm.Cond.methodLink "LullabygateLaw" (138 : Nat) ({ cls := "LullabygateLaw", name := "sleeper", desc := "(LLullabygate;IZILLullabygateLaw$Out;)I" } : Jvm.MethodName)) ∈ lw_all := lw_g (lw_at lw_m4 30 rfl) rfl
theorem q830 : (Jvm.Cond.static ({ cls := "LullabygateLaw", name := "sleeper", desc := "(LLullabygate;IZILLullabygateLaw$Out;)I" } : Jvm.MethodName)) ∈ lw_all := lw_g (lw_at lw_m4 31 rfl) rfl
theorem q831 : (Jvm.Cond.codeWith ({ cls := "LullabygateLaw", name := "sleeper", desc := "(LLullabygate;IZILLullabygateLaw$Out;)I" } : Jvm.MethodName) method_7_code (6 : Nat) (Option.some Jvm.ClassFile.FieldType.int) [((0 : Nat), (13 : Nat), (16 : Nat), (19 : Nat)), ((0 : Nat), (13 : Nat), (20 : Nat), (21 : Nat)), ((0 : Nat), (13 : Nat), (24 : Nat), (26 : Nat))]) ∈ lw_all := lw_g (lw_at lw_m4 32 rfl) rfl
theorem q832 : (Jvm.Cond.methodLink "LullabygateLaw" (40 : Nat) ({ cls := "Lullabygate", name := "sleeper", desc := "(IZI)I" } : Jvm.MethodName)) ∈ lw_all := lw_g (lw_at lw_m4 33 rfl) rfl
theorem q882 : (Jvm.Cond.methodLink "LullabygateLaw" (142 : Nat) ({ cls := "LullabygateLaw", name := "part", desc := "(LLullabygate;IIIILLullabygateLaw$Out;)I" } : Jvm.MethodName)) ∈ lw_all := lw_g (lw_at lw_m4 83 rfl) rfl
theorem q883 : (Jvm.Cond.static ({ cls := "LullabygateLaw", name := "part", desc := "(LLullabygate;IIIILLullabygateLaw$Out;)I" } : Jvm.MethodName)) ∈ lw_all := lw_g (lw_at lw_m4 84 rfl) rfl
theorem q884 : (Jvm.Cond.codeWith ({ cls := "LullabygateLaw", name := "part", desc := "(LLullabygate;IIIILLullabygateLaw$Out;)I" } : Jvm.MethodName) method_8_code (7 : Nat) (Option.some Jvm.ClassFile.FieldType.int) [((0 : Nat), (15 : Nat), (18 : Nat), (19 : Nat)), ((0 : Nat), (15 : Nat), (22 : Nat), (21 : Nat)), ((0 : Nat), (15 : Nat), (26 : Nat), (26 : Nat))]) ∈ lw_all := lw_g (lw_at lw_m4 85 rfl) rfl
theorem q885 : (Jvm.Cond.methodLink "LullabygateLaw" (44 : Nat) ({ cls := "Lullabygate", name := "part", desc := "(IIII)I" } : Jvm.MethodName)) ∈ lw_all := lw_g (lw_at lw_m4 86 rfl) rfl
theorem q930 : (Jvm.Cond.methodLink "LullabygateLaw" (145 : Nat) ({ cls := "LullabygateLaw", name := "give", desc := "(LLullabygate;IILLullabygateLaw$Out;)I" } : Jvm.MethodName)) ∈ lw_all := lw_g (lw_at lw_m4 131 rfl) rfl
theorem q931 : (Jvm.Cond.static ({ cls := "LullabygateLaw", name := "give", desc := "(LLullabygate;IILLullabygateLaw$Out;)I" } : Jvm.MethodName)) ∈ lw_all := lw_g (lw_at lw_m4 132 rfl) rfl
theorem q932 : (Jvm.Cond.codeWith ({ cls := "LullabygateLaw", name := "give", desc := "(LLullabygate;IILLullabygateLaw$Out;)I" } : Jvm.MethodName) method_9_code (5 : Nat) (Option.some Jvm.ClassFile.FieldType.int) [((0 : Nat), (11 : Nat), (14 : Nat), (19 : Nat)), ((0 : Nat), (11 : Nat), (18 : Nat), (26 : Nat))]) ∈ lw_all := lw_g (lw_at lw_m4 133 rfl) rfl
theorem q933 : (Jvm.Cond.methodLink "LullabygateLaw" (47 : Nat) ({ cls := "Lullabygate", name := "give", desc := "(II)I" } : Jvm.MethodName)) ∈ lw_all := lw_g (lw_at lw_m4 134 rfl) rfl
theorem q941 : (Jvm.Cond.methodLink "LullabygateLaw" (148 : Nat) ({ cls := "LullabygateLaw", name := "sing", desc := "(LLullabygate;IIIILLullabygateLaw$Out;)I" } : Jvm.MethodName)) ∈ lw_all := lw_g (lw_at lw_m4 142 rfl) rfl
theorem q942 : (Jvm.Cond.static ({ cls := "LullabygateLaw", name := "sing", desc := "(LLullabygate;IIIILLullabygateLaw$Out;)I" } : Jvm.MethodName)) ∈ lw_all := lw_g (lw_at lw_m4 143 rfl) rfl
theorem q943 : (Jvm.Cond.codeWith ({ cls := "LullabygateLaw", name := "sing", desc := "(LLullabygate;IIIILLullabygateLaw$Out;)I" } : Jvm.MethodName) method_10_code (7 : Nat) (Option.some Jvm.ClassFile.FieldType.int) [((0 : Nat), (15 : Nat), (18 : Nat), (19 : Nat)), ((0 : Nat), (15 : Nat), (22 : Nat), (21 : Nat))]) ∈ lw_all := lw_g (lw_at lw_m4 144 rfl) rfl
theorem q944 : (Jvm.Cond.methodLink "LullabygateLaw" (50 : Nat) ({ cls := "Lullabygate", name := "sing", desc := "(IIII)I" } : Jvm.MethodName)) ∈ lw_all := lw_g (lw_at lw_m4 145 rfl) rfl
theorem q982 : (Jvm.Cond.methodLink "LullabygateLaw" (151 : Nat) ({ cls := "LullabygateLaw", name := "revoke", desc := "(LLullabygate;IILLullabygateLaw$Out;)I" } : Jvm.MethodName)) ∈ lw_all := lw_g (lw_at lw_m4 183 rfl) rfl
theorem q983 : (Jvm.Cond.static ({ cls := "LullabygateLaw", name := "revoke", desc := "(LLullabygate;IILLullabygateLaw$Out;)I" } : Jvm.MethodName)) ∈ lw_all := lw_g (lw_at lw_m4 184 rfl) rfl
theorem q984 : (Jvm.Cond.codeWith ({ cls := "LullabygateLaw", name := "revoke", desc := "(LLullabygate;IILLullabygateLaw$Out;)I" } : Jvm.MethodName) method_11_code (5 : Nat) (Option.some Jvm.ClassFile.FieldType.int) [((0 : Nat), (18 : Nat), (21 : Nat), (19 : Nat)), ((0 : Nat), (18 : Nat), (25 : Nat), (21 : Nat))]) ∈ lw_all := lw_g (lw_at lw_m4 185 rfl) rfl
theorem q985 : (Jvm.Cond.methodLink "LullabygateLaw" (53 : Nat) ({ cls := "Lullabygate", name := "revoke", desc := "(II)Z" } : Jvm.MethodName)) ∈ lw_all := lw_g (lw_at lw_m4 186 rfl) rfl
theorem q989 : (Jvm.Cond.methodLink "LullabygateLaw" (154 : Nat) ({ cls := "LullabygateLaw", name := "join", desc := "(LLullabygate;IIILLullabygateLaw$Out;)I" } : Jvm.MethodName)) ∈ lw_all := lw_g (lw_at lw_m4 190 rfl) rfl
theorem q990 : (Jvm.Cond.static ({ cls := "LullabygateLaw", name := "join", desc := "(LLullabygate;IIILLullabygateLaw$Out;)I" } : Jvm.MethodName)) ∈ lw_all := lw_g (lw_at lw_m4 191 rfl) rfl
theorem q991 : (Jvm.Cond.codeWith ({ cls := "LullabygateLaw", name := "join", desc := "(LLullabygate;IIILLullabygateLaw$Out;)I" } : Jvm.MethodName) method_12_code (6 : Nat) (Option.some Jvm.ClassFile.FieldType.int) [((0 : Nat), (13 : Nat), (16 : Nat), (19 : Nat)), ((0 : Nat), (13 : Nat), (20 : Nat), (21 : Nat)), ((0 : Nat), (13 : Nat), (24 : Nat), (26 : Nat))]) ∈ lw_all := lw_g (lw_at lw_m4 192 rfl) rfl
theorem q992 : (Jvm.Cond.methodLink "LullabygateLaw" (57 : Nat) ({ cls := "Lullabygate", name := "join", desc := "(III)I" } : Jvm.MethodName)) ∈ lw_all := lw_g (lw_at lw_m4 193 rfl) rfl
theorem q1017 : (Jvm.Cond.methodLink "LullabygateLaw" (157 : Nat) ({ cls := "LullabygateLaw", name := "leave", desc := "(LLullabygate;ILLullabygateLaw$Out;)I" } : Jvm.MethodName)) ∈ lw_all := lw_g (lw_at lw_m4 218 rfl) rfl
theorem q1018 : (Jvm.Cond.static ({ cls := "LullabygateLaw", name := "leave", desc := "(LLullabygate;ILLullabygateLaw$Out;)I" } : Jvm.MethodName)) ∈ lw_all := lw_g (lw_at lw_m4 219 rfl) rfl
theorem q1019 : (Jvm.Cond.codeWith ({ cls := "LullabygateLaw", name := "leave", desc := "(LLullabygate;ILLullabygateLaw$Out;)I" } : Jvm.MethodName) method_13_code (4 : Nat) (Option.some Jvm.ClassFile.FieldType.int) [((0 : Nat), (10 : Nat), (13 : Nat), (19 : Nat)), ((0 : Nat), (10 : Nat), (16 : Nat), (26 : Nat))]) ∈ lw_all := lw_g (lw_at lw_m4 220 rfl) rfl
theorem q1020 : (Jvm.Cond.methodLink "LullabygateLaw" (60 : Nat) ({ cls := "Lullabygate", name := "leave", desc := "(I)I" } : Jvm.MethodName)) ∈ lw_all := lw_g (lw_at lw_m4 221 rfl) rfl
theorem q1030 : (Jvm.Cond.methodLink "LullabygateLaw" (160 : Nat) ({ cls := "LullabygateLaw", name := "yawn", desc := "(LLullabygate;ILLullabygateLaw$Out;)I" } : Jvm.MethodName)) ∈ lw_all := lw_g (lw_at lw_m4 231 rfl) rfl
theorem q1031 : (Jvm.Cond.static ({ cls := "LullabygateLaw", name := "yawn", desc := "(LLullabygate;ILLullabygateLaw$Out;)I" } : Jvm.MethodName)) ∈ lw_all := lw_g (lw_at lw_m4 232 rfl) rfl
theorem q1032 : (Jvm.Cond.codeWith ({ cls := "LullabygateLaw", name := "yawn", desc := "(LLullabygate;ILLullabygateLaw$Out;)I" } : Jvm.MethodName) method_14_code (4 : Nat) (Option.some Jvm.ClassFile.FieldType.int) [((0 : Nat), (10 : Nat), (13 : Nat), (19 : Nat)), ((0 : Nat), (10 : Nat), (16 : Nat), (26 : Nat))]) ∈ lw_all := lw_g (lw_at lw_m4 233 rfl) rfl
theorem q1033 : (Jvm.Cond.methodLink "LullabygateLaw" (63 : Nat) ({ cls := "Lullabygate", name := "yawn", desc := "(I)I" } : Jvm.MethodName)) ∈ lw_all := lw_g (lw_at lw_m4 234 rfl) rfl
theorem q1096 : (Jvm.Cond.methodLink "LullabygateLaw" (163 : Nat) ({ cls := "LullabygateLaw", name := "appeal", desc := "(LLullabygate;ILLullabygateLaw$Out;)I" } : Jvm.MethodName)) ∈ lw_all := lw_g (lw_at lw_m5 57 rfl) rfl
theorem q1097 : (Jvm.Cond.static ({ cls := "LullabygateLaw", name := "appeal", desc := "(LLullabygate;ILLullabygateLaw$Out;)I" } : Jvm.MethodName)) ∈ lw_all := lw_g (lw_at lw_m5 58 rfl) rfl
theorem q1098 : (Jvm.Cond.codeWith ({ cls := "LullabygateLaw", name := "appeal", desc := "(LLullabygate;ILLullabygateLaw$Out;)I" } : Jvm.MethodName) method_15_code (4 : Nat) (Option.some Jvm.ClassFile.FieldType.int) [((0 : Nat), (17 : Nat), (20 : Nat), (19 : Nat)), ((0 : Nat), (17 : Nat), (23 : Nat), (26 : Nat))]) ∈ lw_all := lw_g (lw_at lw_m5 59 rfl) rfl
theorem q1099 : (Jvm.Cond.methodLink "LullabygateLaw" (66 : Nat) ({ cls := "Lullabygate", name := "appeal", desc := "(I)Z" } : Jvm.MethodName)) ∈ lw_all := lw_g (lw_at lw_m5 60 rfl) rfl
theorem q1103 : (Jvm.Cond.methodLink "LullabygateLaw" (166 : Nat) ({ cls := "LullabygateLaw", name := "pass", desc := "(LLullabygate;ILLullabygateLaw$Out;)I" } : Jvm.MethodName)) ∈ lw_all := lw_g (lw_at lw_m5 64 rfl) rfl
theorem q1104 : (Jvm.Cond.static ({ cls := "LullabygateLaw", name := "pass", desc := "(LLullabygate;ILLullabygateLaw$Out;)I" } : Jvm.MethodName)) ∈ lw_all := lw_g (lw_at lw_m5 65 rfl) rfl
theorem q1105 : (Jvm.Cond.codeWith ({ cls := "LullabygateLaw", name := "pass", desc := "(LLullabygate;ILLullabygateLaw$Out;)I" } : Jvm.MethodName) method_16_code (4 : Nat) (Option.some Jvm.ClassFile.FieldType.int) [((0 : Nat), (10 : Nat), (13 : Nat), (21 : Nat)), ((0 : Nat), (10 : Nat), (16 : Nat), (26 : Nat))]) ∈ lw_all := lw_g (lw_at lw_m5 66 rfl) rfl
theorem q1106 : (Jvm.Cond.methodLink "LullabygateLaw" (70 : Nat) ({ cls := "Lullabygate", name := "pass", desc := "(I)I" } : Jvm.MethodName)) ∈ lw_all := lw_g (lw_at lw_m5 67 rfl) rfl
theorem q1128 : (Jvm.Cond.methodLink "LullabygateLaw" (169 : Nat) ({ cls := "LullabygateLaw", name := "ofLand", desc := "(LLullabygate;IILLullabygateLaw$Out;)I" } : Jvm.MethodName)) ∈ lw_all := lw_g (lw_at lw_m5 89 rfl) rfl
theorem q1129 : (Jvm.Cond.static ({ cls := "LullabygateLaw", name := "ofLand", desc := "(LLullabygate;IILLullabygateLaw$Out;)I" } : Jvm.MethodName)) ∈ lw_all := lw_g (lw_at lw_m5 90 rfl) rfl
theorem q1130 : (Jvm.Cond.codeWith ({ cls := "LullabygateLaw", name := "ofLand", desc := "(LLullabygate;IILLullabygateLaw$Out;)I" } : Jvm.MethodName) method_17_code (5 : Nat) (Option.some Jvm.ClassFile.FieldType.int) [((0 : Nat), (11 : Nat), (14 : Nat), (19 : Nat)), ((0 : Nat), (11 : Nat), (18 : Nat), (21 : Nat))]) ∈ lw_all := lw_g (lw_at lw_m5 91 rfl) rfl
theorem q1131 : (Jvm.Cond.methodLink "LullabygateLaw" (73 : Nat) ({ cls := "Lullabygate", name := "ofLand", desc := "(II)I" } : Jvm.MethodName)) ∈ lw_all := lw_g (lw_at lw_m5 92 rfl) rfl
theorem q1135 : (Jvm.Cond.methodLink "LullabygateLaw" (172 : Nat) ({ cls := "LullabygateLaw", name := "ofGate", desc := "(LLullabygate;IILLullabygateLaw$Out;)I" } : Jvm.MethodName)) ∈ lw_all := lw_g (lw_at lw_m5 96 rfl) rfl
theorem q1136 : (Jvm.Cond.static ({ cls := "LullabygateLaw", name := "ofGate", desc := "(LLullabygate;IILLullabygateLaw$Out;)I" } : Jvm.MethodName)) ∈ lw_all := lw_g (lw_at lw_m5 97 rfl) rfl
theorem q1137 : (Jvm.Cond.codeWith ({ cls := "LullabygateLaw", name := "ofGate", desc := "(LLullabygate;IILLullabygateLaw$Out;)I" } : Jvm.MethodName) method_18_code (5 : Nat) (Option.some Jvm.ClassFile.FieldType.int) [((0 : Nat), (11 : Nat), (14 : Nat), (19 : Nat)), ((0 : Nat), (11 : Nat), (18 : Nat), (21 : Nat))]) ∈ lw_all := lw_g (lw_at lw_m5 98 rfl) rfl
theorem q1138 : (Jvm.Cond.methodLink "LullabygateLaw" (76 : Nat) ({ cls := "Lullabygate", name := "ofGate", desc := "(II)I" } : Jvm.MethodName)) ∈ lw_all := lw_g (lw_at lw_m5 99 rfl) rfl
theorem q1142 : (Jvm.Cond.methodLink "LullabygateLaw" (175 : Nat) ({ cls := "LullabygateLaw", name := "ofSleeper", desc := "(LLullabygate;IILLullabygateLaw$Out;)I" } : Jvm.MethodName)) ∈ lw_all := lw_g (lw_at lw_m5 103 rfl) rfl
theorem q1143 : (Jvm.Cond.static ({ cls := "LullabygateLaw", name := "ofSleeper", desc := "(LLullabygate;IILLullabygateLaw$Out;)I" } : Jvm.MethodName)) ∈ lw_all := lw_g (lw_at lw_m5 104 rfl) rfl
theorem q1144 : (Jvm.Cond.codeWith ({ cls := "LullabygateLaw", name := "ofSleeper", desc := "(LLullabygate;IILLullabygateLaw$Out;)I" } : Jvm.MethodName) method_19_code (5 : Nat) (Option.some Jvm.ClassFile.FieldType.int) [((0 : Nat), (11 : Nat), (14 : Nat), (19 : Nat)), ((0 : Nat), (11 : Nat), (18 : Nat), (21 : Nat))]) ∈ lw_all := lw_g (lw_at lw_m5 105 rfl) rfl
theorem q1145 : (Jvm.Cond.methodLink "LullabygateLaw" (79 : Nat) ({ cls := "Lullabygate", name := "ofSleeper", desc := "(II)I" } : Jvm.MethodName)) ∈ lw_all := lw_g (lw_at lw_m5 106 rfl) rfl
theorem q1149 : (Jvm.Cond.methodLink "LullabygateLaw" (178 : Nat) ({ cls := "LullabygateLaw", name := "ofPart", desc := "(LLullabygate;IILLullabygateLaw$Out;)I" } : Jvm.MethodName)) ∈ lw_all := lw_g (lw_at lw_m5 110 rfl) rfl
theorem q1150 : (Jvm.Cond.static ({ cls := "LullabygateLaw", name := "ofPart", desc := "(LLullabygate;IILLullabygateLaw$Out;)I" } : Jvm.MethodName)) ∈ lw_all := lw_g (lw_at lw_m5 111 rfl) rfl
theorem q1151 : (Jvm.Cond.codeWith ({ cls := "LullabygateLaw", name := "ofPart", desc := "(LLullabygate;IILLullabygateLaw$Out;)I" } : Jvm.MethodName) method_20_code (5 : Nat) (Option.some Jvm.ClassFile.FieldType.int) [((0 : Nat), (11 : Nat), (14 : Nat), (19 : Nat)), ((0 : Nat), (11 : Nat), (18 : Nat), (21 : Nat))]) ∈ lw_all := lw_g (lw_at lw_m5 112 rfl) rfl
theorem q1152 : (Jvm.Cond.methodLink "LullabygateLaw" (82 : Nat) ({ cls := "Lullabygate", name := "ofPart", desc := "(II)I" } : Jvm.MethodName)) ∈ lw_all := lw_g (lw_at lw_m5 113 rfl) rfl
theorem q1156 : (Jvm.Cond.methodLink "LullabygateLaw" (181 : Nat) ({ cls := "LullabygateLaw", name := "isGood", desc := "(LLullabygate;IILLullabygateLaw$Out;)I" } : Jvm.MethodName)) ∈ lw_all := lw_g (lw_at lw_m5 117 rfl) rfl
theorem q1157 : (Jvm.Cond.static ({ cls := "LullabygateLaw", name := "isGood", desc := "(LLullabygate;IILLullabygateLaw$Out;)I" } : Jvm.MethodName)) ∈ lw_all := lw_g (lw_at lw_m5 118 rfl) rfl
theorem q1158 : (Jvm.Cond.codeWith ({ cls := "LullabygateLaw", name := "isGood", desc := "(LLullabygate;IILLullabygateLaw$Out;)I" } : Jvm.MethodName) method_21_code (5 : Nat) (Option.some Jvm.ClassFile.FieldType.int) [((0 : Nat), (18 : Nat), (21 : Nat), (19 : Nat))]) ∈ lw_all := lw_g (lw_at lw_m5 119 rfl) rfl
theorem q1159 : (Jvm.Cond.methodLink "LullabygateLaw" (85 : Nat) ({ cls := "Lullabygate", name := "isGood", desc := "(II)Z" } : Jvm.MethodName)) ∈ lw_all := lw_g (lw_at lw_m5 120 rfl) rfl
theorem q1163 : (Jvm.Cond.methodLink "LullabygateLaw" (184 : Nat) ({ cls := "LullabygateLaw", name := "queue", desc := "(LLullabygate;ILLullabygateLaw$Out;)I" } : Jvm.MethodName)) ∈ lw_all := lw_g (lw_at lw_m5 124 rfl) rfl
theorem q1164 : (Jvm.Cond.static ({ cls := "LullabygateLaw", name := "queue", desc := "(LLullabygate;ILLullabygateLaw$Out;)I" } : Jvm.MethodName)) ∈ lw_all := lw_g (lw_at lw_m5 125 rfl) rfl
theorem q1165 : (Jvm.Cond.codeWith ({ cls := "LullabygateLaw", name := "queue", desc := "(LLullabygate;ILLullabygateLaw$Out;)I" } : Jvm.MethodName) method_22_code (4 : Nat) (Option.some Jvm.ClassFile.FieldType.int) [((0 : Nat), (9 : Nat), (12 : Nat), (19 : Nat))]) ∈ lw_all := lw_g (lw_at lw_m5 126 rfl) rfl
theorem q1166 : (Jvm.Cond.methodLink "LullabygateLaw" (88 : Nat) ({ cls := "Lullabygate", name := "queue", desc := "(I)Ljava/lang/String;" } : Jvm.MethodName)) ∈ lw_all := lw_g (lw_at lw_m5 127 rfl) rfl
theorem q1401 : (Jvm.Cond.methodLink "LullabygateLaw" (193 : Nat) ({ cls := "LullabygateLaw", name := "night", desc := "(LLullabygate;ILLullabygateLaw$Out;)I" } : Jvm.MethodName)) ∈ lw_all := lw_g (lw_at lw_m6 122 rfl) rfl
theorem q1402 : (Jvm.Cond.static ({ cls := "LullabygateLaw", name := "night", desc := "(LLullabygate;ILLullabygateLaw$Out;)I" } : Jvm.MethodName)) ∈ lw_all := lw_g (lw_at lw_m6 123 rfl) rfl
theorem q1403 : (Jvm.Cond.codeWith ({ cls := "LullabygateLaw", name := "night", desc := "(LLullabygate;ILLullabygateLaw$Out;)I" } : Jvm.MethodName) method_23_code (4 : Nat) (Option.some Jvm.ClassFile.FieldType.int) [((0 : Nat), (10 : Nat), (13 : Nat), (21 : Nat))]) ∈ lw_all := lw_g (lw_at lw_m6 124 rfl) rfl
theorem q1404 : (Jvm.Cond.methodLink "LullabygateLaw" (96 : Nat) ({ cls := "Lullabygate", name := "night", desc := "(I)I" } : Jvm.MethodName)) ∈ lw_all := lw_g (lw_at lw_m6 125 rfl) rfl
theorem q1408 : (Jvm.Cond.methodLink "LullabygateLaw" (196 : Nat) ({ cls := "LullabygateLaw", name := "way", desc := "(LLullabygate;IILLullabygateLaw$Out;)I" } : Jvm.MethodName)) ∈ lw_all := lw_g (lw_at lw_m6 129 rfl) rfl
theorem q1409 : (Jvm.Cond.static ({ cls := "LullabygateLaw", name := "way", desc := "(LLullabygate;IILLullabygateLaw$Out;)I" } : Jvm.MethodName)) ∈ lw_all := lw_g (lw_at lw_m6 130 rfl) rfl
theorem q1410 : (Jvm.Cond.codeWith ({ cls := "LullabygateLaw", name := "way", desc := "(LLullabygate;IILLullabygateLaw$Out;)I" } : Jvm.MethodName) method_24_code (5 : Nat) (Option.some Jvm.ClassFile.FieldType.int) [((0 : Nat), (11 : Nat), (14 : Nat), (19 : Nat))]) ∈ lw_all := lw_g (lw_at lw_m6 131 rfl) rfl
theorem q1411 : (Jvm.Cond.methodLink "LullabygateLaw" (99 : Nat) ({ cls := "Lullabygate", name := "way", desc := "(II)I" } : Jvm.MethodName)) ∈ lw_all := lw_g (lw_at lw_m6 132 rfl) rfl
theorem q1415 : (Jvm.Cond.methodLink "LullabygateLaw" (199 : Nat) ({ cls := "LullabygateLaw", name := "plan", desc := "(LLullabygate;IILLullabygateLaw$Out;)I" } : Jvm.MethodName)) ∈ lw_all := lw_g (lw_at lw_m6 136 rfl) rfl
theorem q1416 : (Jvm.Cond.static ({ cls := "LullabygateLaw", name := "plan", desc := "(LLullabygate;IILLullabygateLaw$Out;)I" } : Jvm.MethodName)) ∈ lw_all := lw_g (lw_at lw_m6 137 rfl) rfl
theorem q1417 : (Jvm.Cond.codeWith ({ cls := "LullabygateLaw", name := "plan", desc := "(LLullabygate;IILLullabygateLaw$Out;)I" } : Jvm.MethodName) method_25_code (5 : Nat) (Option.some Jvm.ClassFile.FieldType.int) [((0 : Nat), (11 : Nat), (14 : Nat), (19 : Nat)), ((0 : Nat), (11 : Nat), (18 : Nat), (21 : Nat))]) ∈ lw_all := lw_g (lw_at lw_m6 138 rfl) rfl
theorem q1418 : (Jvm.Cond.methodLink "LullabygateLaw" (102 : Nat) ({ cls := "Lullabygate", name := "plan", desc := "(II)I" } : Jvm.MethodName)) ∈ lw_all := lw_g (lw_at lw_m6 139 rfl) rfl
theorem q1422 : (Jvm.Cond.methodLink "LullabygateLaw" (202 : Nat) ({ cls := "LullabygateLaw", name := "wouldPay", desc := "(LLullabygate;ILLullabygateLaw$Out;)I" } : Jvm.MethodName)) ∈ lw_all := lw_g (lw_at lw_m6 143 rfl) rfl
theorem q1423 : (Jvm.Cond.static ({ cls := "LullabygateLaw", name := "wouldPay", desc := "(LLullabygate;ILLullabygateLaw$Out;)I" } : Jvm.MethodName)) ∈ lw_all := lw_g (lw_at lw_m6 144 rfl) rfl
theorem q1424 : (Jvm.Cond.codeWith ({ cls := "LullabygateLaw", name := "wouldPay", desc := "(LLullabygate;ILLullabygateLaw$Out;)I" } : Jvm.MethodName) method_26_code (4 : Nat) (Option.some Jvm.ClassFile.FieldType.int) [((0 : Nat), (10 : Nat), (13 : Nat), (19 : Nat))]) ∈ lw_all := lw_g (lw_at lw_m6 145 rfl) rfl
theorem q1425 : (Jvm.Cond.methodLink "LullabygateLaw" (105 : Nat) ({ cls := "Lullabygate", name := "wouldPay", desc := "(I)I" } : Jvm.MethodName)) ∈ lw_all := lw_g (lw_at lw_m6 146 rfl) rfl
theorem q1429 : (Jvm.Cond.classLink "LullabygateLaw" (109 : Nat) "LullabygateModel") ∈ lw_all := lw_g (lw_at lw_m6 150 rfl) rfl
theorem q1431 : (Jvm.Cond.methodLink "LullabygateLaw" (111 : Nat) ({ cls := "LullabygateModel", name := "<init>", desc := "()V" } : Jvm.MethodName)) ∈ lw_all := lw_g (lw_at lw_m6 152 rfl) rfl
theorem q1506 : (Jvm.Cond.methodLink "LullabygateLaw" (119 : Nat) ({ cls := "LullabygateModel", name := "thrown", desc := "()I" } : Jvm.MethodName)) ∈ lw_all := lw_g (lw_at lw_m6 227 rfl) rfl
theorem q1510 : (Jvm.Cond.methodLink "LullabygateLaw" (118 : Nat) ({ cls := "LullabygateModel", name := "land", desc := "(III)I" } : Jvm.MethodName)) ∈ lw_all := lw_g (lw_at lw_m6 231 rfl) rfl
theorem q1525 : (Jvm.Cond.methodLink "LullabygateLaw" (125 : Nat) ({ cls := "LullabygateModel", name := "trade", desc := "(III)I" } : Jvm.MethodName)) ∈ lw_all := lw_g (lw_at lw_m7 6 rfl) rfl
theorem q1529 : (Jvm.Cond.methodLink "LullabygateLaw" (129 : Nat) ({ cls := "LullabygateModel", name := "gate", desc := "(IIII)I" } : Jvm.MethodName)) ∈ lw_all := lw_g (lw_at lw_m7 10 rfl) rfl
theorem q1576 : (Jvm.Cond.methodLink "LullabygateLaw" (133 : Nat) ({ cls := "LullabygateModel", name := "odds", desc := "(II)I" } : Jvm.MethodName)) ∈ lw_all := lw_g (lw_at lw_m7 57 rfl) rfl
theorem q1585 : (Jvm.Cond.methodLink "LullabygateLaw" (137 : Nat) ({ cls := "LullabygateModel", name := "relieve", desc := "(I)I" } : Jvm.MethodName)) ∈ lw_all := lw_g (lw_at lw_m7 66 rfl) rfl
theorem q1589 : (Jvm.Cond.methodLink "LullabygateLaw" (141 : Nat) ({ cls := "LullabygateModel", name := "sleeper", desc := "(IZI)I" } : Jvm.MethodName)) ∈ lw_all := lw_g (lw_at lw_m7 70 rfl) rfl
theorem q1630 : (Jvm.Cond.methodLink "LullabygateLaw" (144 : Nat) ({ cls := "LullabygateModel", name := "part", desc := "(IIII)I" } : Jvm.MethodName)) ∈ lw_all := lw_g (lw_at lw_m7 111 rfl) rfl
theorem q1665 : (Jvm.Cond.methodLink "LullabygateLaw" (147 : Nat) ({ cls := "LullabygateModel", name := "give", desc := "(II)I" } : Jvm.MethodName)) ∈ lw_all := lw_g (lw_at lw_m7 146 rfl) rfl
theorem q1673 : (Jvm.Cond.methodLink "LullabygateLaw" (150 : Nat) ({ cls := "LullabygateModel", name := "sing", desc := "(IIII)I" } : Jvm.MethodName)) ∈ lw_all := lw_g (lw_at lw_m7 154 rfl) rfl
theorem q1680 : (Jvm.Cond.methodLink "LullabygateLaw" (153 : Nat) ({ cls := "LullabygateModel", name := "revoke", desc := "(II)Z" } : Jvm.MethodName)) ∈ lw_all := lw_g (lw_at lw_m7 161 rfl) rfl
theorem q1684 : (Jvm.Cond.methodLink "LullabygateLaw" (156 : Nat) ({ cls := "LullabygateModel", name := "join", desc := "(III)I" } : Jvm.MethodName)) ∈ lw_all := lw_g (lw_at lw_m7 165 rfl) rfl
theorem q1742 : (Jvm.Cond.methodLink "LullabygateLaw" (159 : Nat) ({ cls := "LullabygateModel", name := "leave", desc := "(I)I" } : Jvm.MethodName)) ∈ lw_all := lw_g (lw_at lw_m7 223 rfl) rfl
theorem q1759 : (Jvm.Cond.methodLink "LullabygateLaw" (162 : Nat) ({ cls := "LullabygateModel", name := "yawn", desc := "(I)I" } : Jvm.MethodName)) ∈ lw_all := lw_g (lw_at lw_m8 0 rfl) rfl
theorem q1802 : (Jvm.Cond.methodLink "LullabygateLaw" (165 : Nat) ({ cls := "LullabygateModel", name := "appeal", desc := "(I)Z" } : Jvm.MethodName)) ∈ lw_all := lw_g (lw_at lw_m8 43 rfl) rfl
theorem q1806 : (Jvm.Cond.methodLink "LullabygateLaw" (168 : Nat) ({ cls := "LullabygateModel", name := "pass", desc := "(I)I" } : Jvm.MethodName)) ∈ lw_all := lw_g (lw_at lw_m8 47 rfl) rfl
theorem q1860 : (Jvm.Cond.methodLink "LullabygateLaw" (171 : Nat) ({ cls := "LullabygateModel", name := "ofLand", desc := "(II)I" } : Jvm.MethodName)) ∈ lw_all := lw_g (lw_at lw_m8 101 rfl) rfl
theorem q1876 : (Jvm.Cond.methodLink "LullabygateLaw" (174 : Nat) ({ cls := "LullabygateModel", name := "ofGate", desc := "(II)I" } : Jvm.MethodName)) ∈ lw_all := lw_g (lw_at lw_m8 117 rfl) rfl
theorem q1888 : (Jvm.Cond.methodLink "LullabygateLaw" (177 : Nat) ({ cls := "LullabygateModel", name := "ofSleeper", desc := "(II)I" } : Jvm.MethodName)) ∈ lw_all := lw_g (lw_at lw_m8 129 rfl) rfl
theorem q1900 : (Jvm.Cond.methodLink "LullabygateLaw" (180 : Nat) ({ cls := "LullabygateModel", name := "ofPart", desc := "(II)I" } : Jvm.MethodName)) ∈ lw_all := lw_g (lw_at lw_m8 141 rfl) rfl
theorem q1908 : (Jvm.Cond.methodLink "LullabygateLaw" (183 : Nat) ({ cls := "LullabygateModel", name := "isGood", desc := "(II)Z" } : Jvm.MethodName)) ∈ lw_all := lw_g (lw_at lw_m8 149 rfl) rfl
theorem q1912 : (Jvm.Cond.methodLink "LullabygateLaw" (186 : Nat) ({ cls := "LullabygateModel", name := "queue", desc := "(I)Ljava/lang/String;" } : Jvm.MethodName)) ∈ lw_all := lw_g (lw_at lw_m8 153 rfl) rfl
theorem q1925 : (Jvm.Cond.methodLink "LullabygateLaw" (195 : Nat) ({ cls := "LullabygateModel", name := "night", desc := "(I)I" } : Jvm.MethodName)) ∈ lw_all := lw_g (lw_at lw_m8 166 rfl) rfl
theorem q1933 : (Jvm.Cond.methodLink "LullabygateLaw" (198 : Nat) ({ cls := "LullabygateModel", name := "way", desc := "(II)I" } : Jvm.MethodName)) ∈ lw_all := lw_g (lw_at lw_m8 174 rfl) rfl
theorem q1941 : (Jvm.Cond.methodLink "LullabygateLaw" (201 : Nat) ({ cls := "LullabygateModel", name := "plan", desc := "(II)I" } : Jvm.MethodName)) ∈ lw_all := lw_g (lw_at lw_m8 182 rfl) rfl
theorem q1954 : (Jvm.Cond.methodLink "LullabygateLaw" (204 : Nat) ({ cls := "LullabygateModel", name := "wouldPay", desc := "(I)I" } : Jvm.MethodName)) ∈ lw_all := lw_g (lw_at lw_m8 195 rfl) rfl
theorem q1962 : (Jvm.Cond.methodLink "LullabygateLaw" (209 : Nat) ({ cls := "LullabygateModel", name := "isSound", desc := "()Z" } : Jvm.MethodName)) ∈ lw_all := lw_g (lw_at lw_m8 203 rfl) rfl
theorem q1970 : (Jvm.Cond.methodLink "LullabygateLaw" (214 : Nat) ({ cls := "LullabygateModel", name := "digest", desc := "()J" } : Jvm.MethodName)) ∈ lw_all := lw_g (lw_at lw_m8 211 rfl) rfl
theorem q1980 : (Jvm.Cond.methodLink "LullabygateLaw" (187 : Nat) ({ cls := "java/lang/String", name := "equals", desc := "(Ljava/lang/Object;)Z" } : Jvm.MethodName)) ∈ lw_all := lw_g (lw_at lw_m8 221 rfl) rfl
