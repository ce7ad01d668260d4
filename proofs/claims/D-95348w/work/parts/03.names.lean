/-! DebtCoats$Outermost -/
set_option maxRecDepth 100000
def RX1 : String := "DebtCoats$Outermost"
abbrev cX1_init : ByteArray := prog_5_method_1_code
def yX1_init : MethodName := ⟨RX1, "<init>", "()V"⟩
theorem dX1_init_0 : decode cX1_init 0 = .ok (.aload_n 0, 1) := by decide +kernel
theorem dX1_init_1 : decode cX1_init 1 = .ok (.invokespecial 1, 3) := by decide +kernel
theorem dX1_init_4 : decode cX1_init 4 = .ok (.return_, 1) := by decide +kernel
abbrev cX1_lets : ByteArray := prog_5_method_2_code
def yX1_lets : MethodName := ⟨RX1, "lets", "(LDebtCoats$Wearer;I)Z"⟩
def dkwX1_lets_0 : List UInt8 := [28, 43, 180, 0, 7, 4, 100, 160, 0, 7, 4, 167, 0, 4, 3, 172]
abbrev dktX1_lets_0 : List UInt8 := dkwX1_lets_0 ++ []
theorem dksX1_lets_0 : cX1_lets.data.toList.drop 0 = dktX1_lets_0 := by decide +kernel
theorem dX1_lets_0 : decode cX1_lets 0 = .ok (.iload_n 2, 1) := dk_28 (dk_at dksX1_lets_0 0 rfl rfl)
theorem dX1_lets_1 : decode cX1_lets 1 = .ok (.aload_n 1, 1) := dk_43 (dk_at dksX1_lets_0 1 rfl rfl)
theorem dX1_lets_2 : decode cX1_lets 2 = .ok (.getfield 7, 3) := dk_180 0 7 (dk_at dksX1_lets_0 2 rfl rfl)
theorem dX1_lets_5 : decode cX1_lets 5 = .ok (.iconst 1, 1) := dk_4 (dk_at dksX1_lets_0 5 rfl rfl)
theorem dX1_lets_6 : decode cX1_lets 6 = .ok (.isub, 1) := dk_100 (dk_at dksX1_lets_0 6 rfl rfl)
theorem dX1_lets_7 : decode cX1_lets 7 = .ok (.if_icmp .ne 7, 3) := dk_160 0 7 (dk_at dksX1_lets_0 7 rfl rfl)
theorem dX1_lets_10 : decode cX1_lets 10 = .ok (.iconst 1, 1) := dk_4 (dk_at dksX1_lets_0 10 rfl rfl)
theorem dX1_lets_11 : decode cX1_lets 11 = .ok (.goto 4, 3) := dk_167 0 4 (dk_at dksX1_lets_0 11 rfl rfl)
theorem dX1_lets_14 : decode cX1_lets 14 = .ok (.iconst 0, 1) := dk_3 (dk_at dksX1_lets_0 14 rfl rfl)
theorem dX1_lets_15 : decode cX1_lets 15 = .ok (.ireturn, 1) := dk_172 (dk_at dksX1_lets_0 15 rfl rfl)
theorem q46 : (Jvm.Cond.initialized "DebtCoats$Outermost") ∈ lw_all := lw_g (lw_at lw_m1 2 rfl) rfl
theorem q77 : (Jvm.Cond.instantiable "DebtCoats$Outermost" (0 : Nat)) ∈ lw_all := lw_g (lw_at lw_m1 33 rfl) rfl
theorem q79 : (Jvm.Cond.instanceMethod ({ cls := "DebtCoats$Outermost", name := "<init>", desc := "()V" } : Jvm.MethodName)) ∈ lw_all := lw_g (lw_at lw_m1 35 rfl) rfl
theorem q80 : (Jvm.Cond.code ({ cls := "DebtCoats$Outermost", name := "<init>", desc := "()V" } : Jvm.MethodName) prog_5_method_1_code (1 : Nat) (Option.none : Option Jvm.ClassFile.FieldType)) ∈ lw_all := lw_g (lw_at lw_m1 36 rfl) rfl
theorem q81 : (Jvm.Cond.methodLink "DebtCoats$Outermost" (1 : Nat) ({ cls := "java/lang/Object", name := "<init>", desc := "()V" } : Jvm.MethodName)) ∈ lw_all := lw_g (lw_at lw_m1 37 rfl) rfl
theorem q82 : (Jvm.Cond.superclass "DebtCoats$Outermost" "java/lang/Object") ∈ lw_all := lw_g (lw_at lw_m1 38 rfl) rfl
theorem q124 : (Jvm.Cond.fieldLinkNest "DebtCoats$Outermost" (7 : Nat) "DebtCoats$Wearer" "many" "I" "DebtCoats") ∈ lw_tbl := lw_at lw_m1 80 rfl
theorem q460 : (Jvm.Cond.instanceMethod ({ cls := "DebtCoats$Outermost", name := "lets", desc := "(LDebtCoats$Wearer;I)Z" } : Jvm.MethodName)) ∈ lw_all := lw_g (lw_at lw_m2 176 rfl) rfl
theorem q461 : (Jvm.Cond.selects "DebtCoats$Outermost" ({ cls := "DebtCoats$Outermost", name := "lets", desc := "(LDebtCoats$Wearer;I)Z" } : Jvm.MethodName) ({ cls := "DebtCoats$Outermost", name := "lets", desc := "(LDebtCoats$Wearer;I)Z" } : Jvm.MethodName)) ∈ lw_all := lw_g (lw_at lw_m2 177 rfl) rfl
theorem q462 : (Jvm.Cond.sameMethod "DebtCoats$Outermost" "DebtCoats$Outermost" "lets" "(LDebtCoats$Wearer;I)Z") ∈ lw_all := lw_g (lw_at lw_m2 178 rfl) rfl
theorem q470 : (Jvm.Cond.code ({ cls := "DebtCoats$Outermost", name := "lets", desc := "(LDebtCoats$Wearer;I)Z" } : Jvm.MethodName) prog_5_method_2_code (3 : Nat) (Option.some Jvm.ClassFile.FieldType.boolean)) ∈ lw_all := lw_g (lw_at lw_m2 186 rfl) rfl
/-! DebtCoats$Innermost -/
set_option maxRecDepth 100000
def RX2 : String := "DebtCoats$Innermost"
abbrev cX2_init : ByteArray := prog_4_method_1_code
def yX2_init : MethodName := ⟨RX2, "<init>", "()V"⟩
theorem dX2_init_0 : decode cX2_init 0 = .ok (.aload_n 0, 1) := by decide +kernel
theorem dX2_init_1 : decode cX2_init 1 = .ok (.invokespecial 1, 3) := by decide +kernel
theorem dX2_init_4 : decode cX2_init 4 = .ok (.return_, 1) := by decide +kernel
abbrev cX2_lets : ByteArray := prog_4_method_2_code
def yX2_lets : MethodName := ⟨RX2, "lets", "(LDebtCoats$Wearer;I)Z"⟩
def dkwX2_lets_0 : List UInt8 := [28, 154, 0, 7, 4, 167, 0, 4, 3, 172]
abbrev dktX2_lets_0 : List UInt8 := dkwX2_lets_0 ++ []
theorem dksX2_lets_0 : cX2_lets.data.toList.drop 0 = dktX2_lets_0 := by decide +kernel
theorem dX2_lets_0 : decode cX2_lets 0 = .ok (.iload_n 2, 1) := dk_28 (dk_at dksX2_lets_0 0 rfl rfl)
theorem dX2_lets_1 : decode cX2_lets 1 = .ok (.ifCond .ne 7, 3) := dk_154 0 7 (dk_at dksX2_lets_0 1 rfl rfl)
theorem dX2_lets_4 : decode cX2_lets 4 = .ok (.iconst 1, 1) := dk_4 (dk_at dksX2_lets_0 4 rfl rfl)
theorem dX2_lets_5 : decode cX2_lets 5 = .ok (.goto 4, 3) := dk_167 0 4 (dk_at dksX2_lets_0 5 rfl rfl)
theorem dX2_lets_8 : decode cX2_lets 8 = .ok (.iconst 0, 1) := dk_3 (dk_at dksX2_lets_0 8 rfl rfl)
theorem dX2_lets_9 : decode cX2_lets 9 = .ok (.ireturn, 1) := dk_172 (dk_at dksX2_lets_0 9 rfl rfl)
theorem q47 : (Jvm.Cond.initialized "DebtCoats$Innermost") ∈ lw_all := lw_g (lw_at lw_m1 3 rfl) rfl
theorem q84 : (Jvm.Cond.instantiable "DebtCoats$Innermost" (0 : Nat)) ∈ lw_all := lw_g (lw_at lw_m1 40 rfl) rfl
theorem q86 : (Jvm.Cond.instanceMethod ({ cls := "DebtCoats$Innermost", name := "<init>", desc := "()V" } : Jvm.MethodName)) ∈ lw_all := lw_g (lw_at lw_m1 42 rfl) rfl
theorem q87 : (Jvm.Cond.code ({ cls := "DebtCoats$Innermost", name := "<init>", desc := "()V" } : Jvm.MethodName) prog_4_method_1_code (1 : Nat) (Option.none : Option Jvm.ClassFile.FieldType)) ∈ lw_all := lw_g (lw_at lw_m1 43 rfl) rfl
theorem q88 : (Jvm.Cond.methodLinkNest "DebtCoats$Innermost" (1 : Nat) ({ cls := "DebtCoats$Outermost", name := "<init>", desc := "()V" } : Jvm.MethodName) "DebtCoats") ∈ lw_tbl := lw_at lw_m1 44 rfl
theorem q89 : (Jvm.Cond.superclass "DebtCoats$Innermost" "DebtCoats$Outermost") ∈ lw_all := lw_g (lw_at lw_m1 45 rfl) rfl
theorem q467 : (Jvm.Cond.instanceMethod ({ cls := "DebtCoats$Innermost", name := "lets", desc := "(LDebtCoats$Wearer;I)Z" } : Jvm.MethodName)) ∈ lw_all := lw_g (lw_at lw_m2 183 rfl) rfl
theorem q468 : (Jvm.Cond.code ({ cls := "DebtCoats$Innermost", name := "lets", desc := "(LDebtCoats$Wearer;I)Z" } : Jvm.MethodName) prog_4_method_2_code (3 : Nat) (Option.some Jvm.ClassFile.FieldType.boolean)) ∈ lw_all := lw_g (lw_at lw_m2 184 rfl) rfl
theorem q469 : (Jvm.Cond.selects "DebtCoats$Innermost" ({ cls := "DebtCoats$Outermost", name := "lets", desc := "(LDebtCoats$Wearer;I)Z" } : Jvm.MethodName) ({ cls := "DebtCoats$Innermost", name := "lets", desc := "(LDebtCoats$Wearer;I)Z" } : Jvm.MethodName)) ∈ lw_all := lw_g (lw_at lw_m2 185 rfl) rfl
theorem q1098 : (Jvm.Cond.sameMethod "DebtCoats$Innermost" "DebtCoats$Innermost" "lets" "(LDebtCoats$Wearer;I)Z") ∈ lw_all := lw_g (lw_at lw_m5 94 rfl) rfl
theorem q1100 : (Jvm.Cond.castable "DebtCoats$Innermost" "DebtCoats$Outermost") ∈ lw_tbl := lw_at lw_m5 96 rfl
/-! DebtCoats$AnyBut -/
set_option maxRecDepth 100000
def RX3 : String := "DebtCoats$AnyBut"
abbrev cX3_init : ByteArray := prog_2_method_1_code
def yX3_init : MethodName := ⟨RX3, "<init>", "()V"⟩
theorem dX3_init_0 : decode cX3_init 0 = .ok (.aload_n 0, 1) := by decide +kernel
theorem dX3_init_1 : decode cX3_init 1 = .ok (.invokespecial 1, 3) := by decide +kernel
theorem dX3_init_4 : decode cX3_init 4 = .ok (.return_, 1) := by decide +kernel
abbrev cX3_lets : ByteArray := prog_2_method_2_code
def yX3_lets : MethodName := ⟨RX3, "lets", "(LDebtCoats$Wearer;I)Z"⟩
def dkwX3_lets_0 : List UInt8 := [42, 43, 28, 183, 0, 7, 153, 0, 11, 43, 180, 0, 11, 4, 160, 0, 7, 4, 167, 0, 4, 3, 172]
abbrev dktX3_lets_0 : List UInt8 := dkwX3_lets_0 ++ []
theorem dksX3_lets_0 : cX3_lets.data.toList.drop 0 = dktX3_lets_0 := by decide +kernel
theorem dX3_lets_0 : decode cX3_lets 0 = .ok (.aload_n 0, 1) := dk_42 (dk_at dksX3_lets_0 0 rfl rfl)
theorem dX3_lets_1 : decode cX3_lets 1 = .ok (.aload_n 1, 1) := dk_43 (dk_at dksX3_lets_0 1 rfl rfl)
theorem dX3_lets_2 : decode cX3_lets 2 = .ok (.iload_n 2, 1) := dk_28 (dk_at dksX3_lets_0 2 rfl rfl)
theorem dX3_lets_3 : decode cX3_lets 3 = .ok (.invokespecial 7, 3) := dk_183 0 7 (dk_at dksX3_lets_0 3 rfl rfl)
theorem dX3_lets_6 : decode cX3_lets 6 = .ok (.ifCond .eq 11, 3) := dk_153 0 11 (dk_at dksX3_lets_0 6 rfl rfl)
theorem dX3_lets_9 : decode cX3_lets 9 = .ok (.aload_n 1, 1) := dk_43 (dk_at dksX3_lets_0 9 rfl rfl)
theorem dX3_lets_10 : decode cX3_lets 10 = .ok (.getfield 11, 3) := dk_180 0 11 (dk_at dksX3_lets_0 10 rfl rfl)
theorem dX3_lets_13 : decode cX3_lets 13 = .ok (.iconst 1, 1) := dk_4 (dk_at dksX3_lets_0 13 rfl rfl)
theorem dX3_lets_14 : decode cX3_lets 14 = .ok (.if_icmp .ne 7, 3) := dk_160 0 7 (dk_at dksX3_lets_0 14 rfl rfl)
theorem dX3_lets_17 : decode cX3_lets 17 = .ok (.iconst 1, 1) := dk_4 (dk_at dksX3_lets_0 17 rfl rfl)
theorem dX3_lets_18 : decode cX3_lets 18 = .ok (.goto 4, 3) := dk_167 0 4 (dk_at dksX3_lets_0 18 rfl rfl)
theorem dX3_lets_21 : decode cX3_lets 21 = .ok (.iconst 0, 1) := dk_3 (dk_at dksX3_lets_0 21 rfl rfl)
theorem dX3_lets_22 : decode cX3_lets 22 = .ok (.ireturn, 1) := dk_172 (dk_at dksX3_lets_0 22 rfl rfl)
theorem q48 : (Jvm.Cond.initialized "DebtCoats$AnyBut") ∈ lw_all := lw_g (lw_at lw_m1 4 rfl) rfl
theorem q91 : (Jvm.Cond.instantiable "DebtCoats$AnyBut" (0 : Nat)) ∈ lw_all := lw_g (lw_at lw_m1 47 rfl) rfl
theorem q93 : (Jvm.Cond.instanceMethod ({ cls := "DebtCoats$AnyBut", name := "<init>", desc := "()V" } : Jvm.MethodName)) ∈ lw_all := lw_g (lw_at lw_m1 49 rfl) rfl
theorem q94 : (Jvm.Cond.code ({ cls := "DebtCoats$AnyBut", name := "<init>", desc := "()V" } : Jvm.MethodName) prog_2_method_1_code (1 : Nat) (Option.none : Option Jvm.ClassFile.FieldType)) ∈ lw_all := lw_g (lw_at lw_m1 50 rfl) rfl
theorem q95 : (Jvm.Cond.methodLinkNest "DebtCoats$AnyBut" (1 : Nat) ({ cls := "DebtCoats$Innermost", name := "<init>", desc := "()V" } : Jvm.MethodName) "DebtCoats") ∈ lw_tbl := lw_at lw_m1 51 rfl
theorem q96 : (Jvm.Cond.superclass "DebtCoats$AnyBut" "DebtCoats$Innermost") ∈ lw_all := lw_g (lw_at lw_m1 52 rfl) rfl
theorem q125 : (Jvm.Cond.fieldLinkNest "DebtCoats$AnyBut" (11 : Nat) "DebtCoats$Wearer" "many" "I" "DebtCoats") ∈ lw_tbl := lw_at lw_m1 81 rfl
theorem q463 : (Jvm.Cond.selects "DebtCoats$AnyBut" ({ cls := "DebtCoats$Outermost", name := "lets", desc := "(LDebtCoats$Wearer;I)Z" } : Jvm.MethodName) ({ cls := "DebtCoats$AnyBut", name := "lets", desc := "(LDebtCoats$Wearer;I)Z" } : Jvm.MethodName)) ∈ lw_all := lw_g (lw_at lw_m2 179 rfl) rfl
theorem q464 : (Jvm.Cond.instanceMethod ({ cls := "DebtCoats$AnyBut", name := "lets", desc := "(LDebtCoats$Wearer;I)Z" } : Jvm.MethodName)) ∈ lw_all := lw_g (lw_at lw_m2 180 rfl) rfl
theorem q465 : (Jvm.Cond.code ({ cls := "DebtCoats$AnyBut", name := "lets", desc := "(LDebtCoats$Wearer;I)Z" } : Jvm.MethodName) prog_2_method_2_code (3 : Nat) (Option.some Jvm.ClassFile.FieldType.boolean)) ∈ lw_all := lw_g (lw_at lw_m2 181 rfl) rfl
theorem q466 : (Jvm.Cond.methodLink "DebtCoats$AnyBut" (7 : Nat) ({ cls := "DebtCoats$Innermost", name := "lets", desc := "(LDebtCoats$Wearer;I)Z" } : Jvm.MethodName)) ∈ lw_all := lw_g (lw_at lw_m2 182 rfl) rfl
theorem q1101 : (Jvm.Cond.castable "DebtCoats$AnyBut" "DebtCoats$Outermost") ∈ lw_tbl := lw_at lw_m5 97 rfl
/-! DebtCoats$World -/
set_option maxRecDepth 100000
def RX4 : String := "DebtCoats$World"
def TX4 : u_T := fun k => match k with
  | 0 => ("DebtCoats$World", "people", "[LDebtCoats$Wearer;", true)
  | 1 => ("DebtCoats$World", "heats", "[I", true)
  | 2 => ("DebtCoats$World", "rules", "[I", true)
  | 3 => ("DebtCoats$World", "many", "I", false)
  | 4 => ("DebtCoats$World", "day", "I", false)
  | _ => ("DebtCoats$World", "cuts", "I", false)
def tyX4 : Nat → FieldType := fun k => match k with
  | 0 => .array (.object "DebtCoats$Wearer")
  | 1 => .array .int
  | 2 => .array .int
  | 3 => .int
  | 4 => .int
  | _ => .int
abbrev wsX40 : List Cond := u_ws RX4 TX4 6
theorem nmX4 : ∀ a, a < 6 → ∀ b, b < 6 → a ≠ b → (TX4 a).2.1 ≠ (TX4 b).2.1 := by decide +kernel
theorem tyX4_ok : ∀ k, k < 6 → parseFieldDescriptor (TX4 k).2.2.1 = some (tyX4 k) := by decide +kernel
abbrev cX4_init : ByteArray := prog_8_method_1_code
def yX4_init : MethodName := ⟨RX4, "<init>", "()V"⟩
def dkwX4_init_3 : List UInt8 := [188, 10, 181, 0, 22, 177]
abbrev dktX4_init_3 : List UInt8 := dkwX4_init_3 ++ []
def dkwX4_init_2 : List UInt8 := [83, 89, 7, 187, 0, 9, 89, 183, 0, 11, 83, 181, 0, 12, 42, 16, 12, 188, 10, 181, 0, 18, 42, 5]
abbrev dktX4_init_2 : List UInt8 := dkwX4_init_2 ++ dktX4_init_3
def dkwX4_init_1 : List UInt8 := [89, 183, 0, 11, 83, 89, 5, 187, 0, 9, 89, 183, 0, 11, 83, 89, 6, 187, 0, 9, 89, 183, 0, 11]
abbrev dktX4_init_1 : List UInt8 := dkwX4_init_1 ++ dktX4_init_2
def dkwX4_init_0 : List UInt8 := [42, 183, 0, 3, 42, 8, 189, 0, 9, 89, 3, 187, 0, 9, 89, 183, 0, 11, 83, 89, 4, 187, 0, 9]
abbrev dktX4_init_0 : List UInt8 := dkwX4_init_0 ++ dktX4_init_1
theorem dksX4_init_0 : cX4_init.data.toList.drop 0 = dktX4_init_0 := by decide +kernel
theorem dksX4_init_1 : cX4_init.data.toList.drop 24 = dktX4_init_1 := dk_seg dksX4_init_0 24 rfl rfl
theorem dksX4_init_2 : cX4_init.data.toList.drop 48 = dktX4_init_2 := dk_seg dksX4_init_1 24 rfl rfl
theorem dksX4_init_3 : cX4_init.data.toList.drop 72 = dktX4_init_3 := dk_seg dksX4_init_2 24 rfl rfl
theorem dX4_init_0 : decode cX4_init 0 = .ok (.aload_n 0, 1) := dk_42 (dk_at dksX4_init_0 0 rfl rfl)
theorem dX4_init_1 : decode cX4_init 1 = .ok (.invokespecial 3, 3) := dk_183 0 3 (dk_at dksX4_init_0 1 rfl rfl)
theorem dX4_init_4 : decode cX4_init 4 = .ok (.aload_n 0, 1) := dk_42 (dk_at dksX4_init_0 4 rfl rfl)
theorem dX4_init_5 : decode cX4_init 5 = .ok (.iconst 5, 1) := dk_8 (dk_at dksX4_init_0 5 rfl rfl)
theorem dX4_init_6 : decode cX4_init 6 = .ok (.anewarray 9, 3) := dk_189 0 9 (dk_at dksX4_init_0 6 rfl rfl)
theorem dX4_init_9 : decode cX4_init 9 = .ok (.dup, 1) := dk_89 (dk_at dksX4_init_0 9 rfl rfl)
theorem dX4_init_10 : decode cX4_init 10 = .ok (.iconst 0, 1) := dk_3 (dk_at dksX4_init_0 10 rfl rfl)
theorem dX4_init_11 : decode cX4_init 11 = .ok (.new 9, 3) := dk_187 0 9 (dk_at dksX4_init_0 11 rfl rfl)
theorem dX4_init_14 : decode cX4_init 14 = .ok (.dup, 1) := dk_89 (dk_at dksX4_init_0 14 rfl rfl)
theorem dX4_init_15 : decode cX4_init 15 = .ok (.invokespecial 11, 3) := dk_183 0 11 (dk_at dksX4_init_0 15 rfl rfl)
theorem dX4_init_18 : decode cX4_init 18 = .ok (.aastore, 1) := dk_83 (dk_at dksX4_init_0 18 rfl rfl)
theorem dX4_init_19 : decode cX4_init 19 = .ok (.dup, 1) := dk_89 (dk_at dksX4_init_0 19 rfl rfl)
theorem dX4_init_20 : decode cX4_init 20 = .ok (.iconst 1, 1) := dk_4 (dk_at dksX4_init_0 20 rfl rfl)
theorem dX4_init_21 : decode cX4_init 21 = .ok (.new 9, 3) := dk_187 0 9 (dk_at dksX4_init_0 21 rfl rfl)
theorem dX4_init_24 : decode cX4_init 24 = .ok (.dup, 1) := dk_89 (dk_at dksX4_init_1 0 rfl rfl)
theorem dX4_init_25 : decode cX4_init 25 = .ok (.invokespecial 11, 3) := dk_183 0 11 (dk_at dksX4_init_1 1 rfl rfl)
theorem dX4_init_28 : decode cX4_init 28 = .ok (.aastore, 1) := dk_83 (dk_at dksX4_init_1 4 rfl rfl)
theorem dX4_init_29 : decode cX4_init 29 = .ok (.dup, 1) := dk_89 (dk_at dksX4_init_1 5 rfl rfl)
theorem dX4_init_30 : decode cX4_init 30 = .ok (.iconst 2, 1) := dk_5 (dk_at dksX4_init_1 6 rfl rfl)
theorem dX4_init_31 : decode cX4_init 31 = .ok (.new 9, 3) := dk_187 0 9 (dk_at dksX4_init_1 7 rfl rfl)
theorem dX4_init_34 : decode cX4_init 34 = .ok (.dup, 1) := dk_89 (dk_at dksX4_init_1 10 rfl rfl)
theorem dX4_init_35 : decode cX4_init 35 = .ok (.invokespecial 11, 3) := dk_183 0 11 (dk_at dksX4_init_1 11 rfl rfl)
theorem dX4_init_38 : decode cX4_init 38 = .ok (.aastore, 1) := dk_83 (dk_at dksX4_init_1 14 rfl rfl)
theorem dX4_init_39 : decode cX4_init 39 = .ok (.dup, 1) := dk_89 (dk_at dksX4_init_1 15 rfl rfl)
theorem dX4_init_40 : decode cX4_init 40 = .ok (.iconst 3, 1) := dk_6 (dk_at dksX4_init_1 16 rfl rfl)
theorem dX4_init_41 : decode cX4_init 41 = .ok (.new 9, 3) := dk_187 0 9 (dk_at dksX4_init_1 17 rfl rfl)
theorem dX4_init_44 : decode cX4_init 44 = .ok (.dup, 1) := dk_89 (dk_at dksX4_init_1 20 rfl rfl)
theorem dX4_init_45 : decode cX4_init 45 = .ok (.invokespecial 11, 3) := dk_183 0 11 (dk_at dksX4_init_1 21 rfl rfl)
theorem dX4_init_48 : decode cX4_init 48 = .ok (.aastore, 1) := dk_83 (dk_at dksX4_init_2 0 rfl rfl)
theorem dX4_init_49 : decode cX4_init 49 = .ok (.dup, 1) := dk_89 (dk_at dksX4_init_2 1 rfl rfl)
theorem dX4_init_50 : decode cX4_init 50 = .ok (.iconst 4, 1) := dk_7 (dk_at dksX4_init_2 2 rfl rfl)
theorem dX4_init_51 : decode cX4_init 51 = .ok (.new 9, 3) := dk_187 0 9 (dk_at dksX4_init_2 3 rfl rfl)
theorem dX4_init_54 : decode cX4_init 54 = .ok (.dup, 1) := dk_89 (dk_at dksX4_init_2 6 rfl rfl)
theorem dX4_init_55 : decode cX4_init 55 = .ok (.invokespecial 11, 3) := dk_183 0 11 (dk_at dksX4_init_2 7 rfl rfl)
theorem dX4_init_58 : decode cX4_init 58 = .ok (.aastore, 1) := dk_83 (dk_at dksX4_init_2 10 rfl rfl)
theorem dX4_init_59 : decode cX4_init 59 = .ok (.putfield 12, 3) := dk_181 0 12 (dk_at dksX4_init_2 11 rfl rfl)
theorem dX4_init_62 : decode cX4_init 62 = .ok (.aload_n 0, 1) := dk_42 (dk_at dksX4_init_2 14 rfl rfl)
theorem dX4_init_63 : decode cX4_init 63 = .ok (.bipush 12, 2) := dk_16 12 (dk_at dksX4_init_2 15 rfl rfl)
theorem dX4_init_65 : decode cX4_init 65 = .ok (.newarray .int, 2) := dk_188_10 (dk_at dksX4_init_2 17 rfl rfl)
theorem dX4_init_67 : decode cX4_init 67 = .ok (.putfield 18, 3) := dk_181 0 18 (dk_at dksX4_init_2 19 rfl rfl)
theorem dX4_init_70 : decode cX4_init 70 = .ok (.aload_n 0, 1) := dk_42 (dk_at dksX4_init_2 22 rfl rfl)
theorem dX4_init_71 : decode cX4_init 71 = .ok (.iconst 2, 1) := dk_5 (dk_at dksX4_init_2 23 rfl rfl)
theorem dX4_init_72 : decode cX4_init 72 = .ok (.newarray .int, 2) := dk_188_10 (dk_at dksX4_init_3 0 rfl rfl)
theorem dX4_init_74 : decode cX4_init 74 = .ok (.putfield 22, 3) := dk_181 0 22 (dk_at dksX4_init_3 2 rfl rfl)
theorem dX4_init_77 : decode cX4_init 77 = .ok (.return_, 1) := dk_177 (dk_at dksX4_init_3 5 rfl rfl)
abbrev cX4_night : ByteArray := prog_8_method_4_code
def yX4_night : MethodName := ⟨RX4, "night", "()V"⟩
def dkwX4_night_4 : List UInt8 := [181, 0, 59, 132, 1, 1, 167, 255, 196, 177]
abbrev dktX4_night_4 : List UInt8 := dkwX4_night_4 ++ []
def dkwX4_night_3 : List UInt8 := [181, 0, 56, 44, 44, 180, 0, 59, 156, 0, 10, 42, 180, 0, 39, 167, 0, 7, 44, 180, 0, 59]
abbrev dktX4_night_3 : List UInt8 := dkwX4_night_3 ++ dktX4_night_4
def dkwX4_night_2 : List UInt8 := [180, 0, 12, 27, 50, 77, 44, 42, 42, 180, 0, 39, 182, 0, 48, 182, 0, 52, 154, 0, 30, 44, 3]
abbrev dktX4_night_2 : List UInt8 := dkwX4_night_2 ++ dktX4_night_3
def dkwX4_night_1 : List UInt8 := [167, 255, 236, 42, 89, 180, 0, 39, 4, 96, 181, 0, 39, 3, 60, 27, 42, 180, 0, 35, 162, 0, 58, 42]
abbrev dktX4_night_1 : List UInt8 := dkwX4_night_1 ++ dktX4_night_2
def dkwX4_night_0 : List UInt8 := [3, 60, 27, 42, 180, 0, 35, 162, 0, 18, 42, 180, 0, 12, 27, 50, 182, 0, 45, 132, 1, 1]
abbrev dktX4_night_0 : List UInt8 := dkwX4_night_0 ++ dktX4_night_1
theorem dksX4_night_0 : cX4_night.data.toList.drop 0 = dktX4_night_0 := by decide +kernel
theorem dksX4_night_1 : cX4_night.data.toList.drop 22 = dktX4_night_1 := dk_seg dksX4_night_0 22 rfl rfl
theorem dksX4_night_2 : cX4_night.data.toList.drop 46 = dktX4_night_2 := dk_seg dksX4_night_1 24 rfl rfl
theorem dksX4_night_3 : cX4_night.data.toList.drop 69 = dktX4_night_3 := dk_seg dksX4_night_2 23 rfl rfl
theorem dksX4_night_4 : cX4_night.data.toList.drop 91 = dktX4_night_4 := dk_seg dksX4_night_3 22 rfl rfl
theorem dX4_night_0 : decode cX4_night 0 = .ok (.iconst 0, 1) := dk_3 (dk_at dksX4_night_0 0 rfl rfl)
theorem dX4_night_1 : decode cX4_night 1 = .ok (.istore_n 1, 1) := dk_60 (dk_at dksX4_night_0 1 rfl rfl)
theorem dX4_night_2 : decode cX4_night 2 = .ok (.iload_n 1, 1) := dk_27 (dk_at dksX4_night_0 2 rfl rfl)
theorem dX4_night_3 : decode cX4_night 3 = .ok (.aload_n 0, 1) := dk_42 (dk_at dksX4_night_0 3 rfl rfl)
theorem dX4_night_4 : decode cX4_night 4 = .ok (.getfield 35, 3) := dk_180 0 35 (dk_at dksX4_night_0 4 rfl rfl)
theorem dX4_night_7 : decode cX4_night 7 = .ok (.if_icmp .ge 18, 3) := dk_162 0 18 (dk_at dksX4_night_0 7 rfl rfl)
theorem dX4_night_10 : decode cX4_night 10 = .ok (.aload_n 0, 1) := dk_42 (dk_at dksX4_night_0 10 rfl rfl)
theorem dX4_night_11 : decode cX4_night 11 = .ok (.getfield 12, 3) := dk_180 0 12 (dk_at dksX4_night_0 11 rfl rfl)
theorem dX4_night_14 : decode cX4_night 14 = .ok (.iload_n 1, 1) := dk_27 (dk_at dksX4_night_0 14 rfl rfl)
theorem dX4_night_15 : decode cX4_night 15 = .ok (.aaload, 1) := dk_50 (dk_at dksX4_night_0 15 rfl rfl)
theorem dX4_night_16 : decode cX4_night 16 = .ok (.invokevirtual 45, 3) := dk_182 0 45 (dk_at dksX4_night_0 16 rfl rfl)
theorem dX4_night_19 : decode cX4_night 19 = .ok (.iinc 1 1, 3) := dk_132 1 1 (dk_at dksX4_night_0 19 rfl rfl)
theorem dX4_night_22 : decode cX4_night 22 = .ok (.goto (-20), 3) := dk_167 255 236 (dk_at dksX4_night_1 0 rfl rfl)
theorem dX4_night_25 : decode cX4_night 25 = .ok (.aload_n 0, 1) := dk_42 (dk_at dksX4_night_1 3 rfl rfl)
theorem dX4_night_26 : decode cX4_night 26 = .ok (.dup, 1) := dk_89 (dk_at dksX4_night_1 4 rfl rfl)
theorem dX4_night_27 : decode cX4_night 27 = .ok (.getfield 39, 3) := dk_180 0 39 (dk_at dksX4_night_1 5 rfl rfl)
theorem dX4_night_30 : decode cX4_night 30 = .ok (.iconst 1, 1) := dk_4 (dk_at dksX4_night_1 8 rfl rfl)
theorem dX4_night_31 : decode cX4_night 31 = .ok (.iadd, 1) := dk_96 (dk_at dksX4_night_1 9 rfl rfl)
theorem dX4_night_32 : decode cX4_night 32 = .ok (.putfield 39, 3) := dk_181 0 39 (dk_at dksX4_night_1 10 rfl rfl)
theorem dX4_night_35 : decode cX4_night 35 = .ok (.iconst 0, 1) := dk_3 (dk_at dksX4_night_1 13 rfl rfl)
theorem dX4_night_36 : decode cX4_night 36 = .ok (.istore_n 1, 1) := dk_60 (dk_at dksX4_night_1 14 rfl rfl)
theorem dX4_night_37 : decode cX4_night 37 = .ok (.iload_n 1, 1) := dk_27 (dk_at dksX4_night_1 15 rfl rfl)
theorem dX4_night_38 : decode cX4_night 38 = .ok (.aload_n 0, 1) := dk_42 (dk_at dksX4_night_1 16 rfl rfl)
theorem dX4_night_39 : decode cX4_night 39 = .ok (.getfield 35, 3) := dk_180 0 35 (dk_at dksX4_night_1 17 rfl rfl)
theorem dX4_night_42 : decode cX4_night 42 = .ok (.if_icmp .ge 58, 3) := dk_162 0 58 (dk_at dksX4_night_1 20 rfl rfl)
theorem dX4_night_45 : decode cX4_night 45 = .ok (.aload_n 0, 1) := dk_42 (dk_at dksX4_night_1 23 rfl rfl)
theorem dX4_night_46 : decode cX4_night 46 = .ok (.getfield 12, 3) := dk_180 0 12 (dk_at dksX4_night_2 0 rfl rfl)
theorem dX4_night_49 : decode cX4_night 49 = .ok (.iload_n 1, 1) := dk_27 (dk_at dksX4_night_2 3 rfl rfl)
theorem dX4_night_50 : decode cX4_night 50 = .ok (.aaload, 1) := dk_50 (dk_at dksX4_night_2 4 rfl rfl)
theorem dX4_night_51 : decode cX4_night 51 = .ok (.astore_n 2, 1) := dk_77 (dk_at dksX4_night_2 5 rfl rfl)
theorem dX4_night_52 : decode cX4_night 52 = .ok (.aload_n 2, 1) := dk_44 (dk_at dksX4_night_2 6 rfl rfl)
theorem dX4_night_53 : decode cX4_night 53 = .ok (.aload_n 0, 1) := dk_42 (dk_at dksX4_night_2 7 rfl rfl)
theorem dX4_night_54 : decode cX4_night 54 = .ok (.aload_n 0, 1) := dk_42 (dk_at dksX4_night_2 8 rfl rfl)
theorem dX4_night_55 : decode cX4_night 55 = .ok (.getfield 39, 3) := dk_180 0 39 (dk_at dksX4_night_2 9 rfl rfl)
theorem dX4_night_58 : decode cX4_night 58 = .ok (.invokevirtual 48, 3) := dk_182 0 48 (dk_at dksX4_night_2 12 rfl rfl)
theorem dX4_night_61 : decode cX4_night 61 = .ok (.invokevirtual 52, 3) := dk_182 0 52 (dk_at dksX4_night_2 15 rfl rfl)
theorem dX4_night_64 : decode cX4_night 64 = .ok (.ifCond .ne 30, 3) := dk_154 0 30 (dk_at dksX4_night_2 18 rfl rfl)
theorem dX4_night_67 : decode cX4_night 67 = .ok (.aload_n 2, 1) := dk_44 (dk_at dksX4_night_2 21 rfl rfl)
theorem dX4_night_68 : decode cX4_night 68 = .ok (.iconst 0, 1) := dk_3 (dk_at dksX4_night_2 22 rfl rfl)
theorem dX4_night_69 : decode cX4_night 69 = .ok (.putfield 56, 3) := dk_181 0 56 (dk_at dksX4_night_3 0 rfl rfl)
theorem dX4_night_72 : decode cX4_night 72 = .ok (.aload_n 2, 1) := dk_44 (dk_at dksX4_night_3 3 rfl rfl)
theorem dX4_night_73 : decode cX4_night 73 = .ok (.aload_n 2, 1) := dk_44 (dk_at dksX4_night_3 4 rfl rfl)
theorem dX4_night_74 : decode cX4_night 74 = .ok (.getfield 59, 3) := dk_180 0 59 (dk_at dksX4_night_3 5 rfl rfl)
theorem dX4_night_77 : decode cX4_night 77 = .ok (.ifCond .ge 10, 3) := dk_156 0 10 (dk_at dksX4_night_3 8 rfl rfl)
theorem dX4_night_80 : decode cX4_night 80 = .ok (.aload_n 0, 1) := dk_42 (dk_at dksX4_night_3 11 rfl rfl)
theorem dX4_night_81 : decode cX4_night 81 = .ok (.getfield 39, 3) := dk_180 0 39 (dk_at dksX4_night_3 12 rfl rfl)
theorem dX4_night_84 : decode cX4_night 84 = .ok (.goto 7, 3) := dk_167 0 7 (dk_at dksX4_night_3 15 rfl rfl)
theorem dX4_night_87 : decode cX4_night 87 = .ok (.aload_n 2, 1) := dk_44 (dk_at dksX4_night_3 18 rfl rfl)
theorem dX4_night_88 : decode cX4_night 88 = .ok (.getfield 59, 3) := dk_180 0 59 (dk_at dksX4_night_3 19 rfl rfl)
theorem dX4_night_91 : decode cX4_night 91 = .ok (.putfield 59, 3) := dk_181 0 59 (dk_at dksX4_night_4 0 rfl rfl)
theorem dX4_night_94 : decode cX4_night 94 = .ok (.iinc 1 1, 3) := dk_132 1 1 (dk_at dksX4_night_4 3 rfl rfl)
theorem dX4_night_97 : decode cX4_night 97 = .ok (.goto (-60), 3) := dk_167 255 196 (dk_at dksX4_night_4 6 rfl rfl)
theorem dX4_night_100 : decode cX4_night 100 = .ok (.return_, 1) := dk_177 (dk_at dksX4_night_4 9 rfl rfl)
abbrev cX4_heat : ByteArray := prog_8_method_3_code
def yX4_heat : MethodName := ⟨RX4, "heat", "(I)I"⟩
def dkwX4_heat_0 : List UInt8 := [42, 180, 0, 18, 27, 16, 30, 108, 46, 172]
abbrev dktX4_heat_0 : List UInt8 := dkwX4_heat_0 ++ []
theorem dksX4_heat_0 : cX4_heat.data.toList.drop 0 = dktX4_heat_0 := by decide +kernel
theorem dX4_heat_0 : decode cX4_heat 0 = .ok (.aload_n 0, 1) := dk_42 (dk_at dksX4_heat_0 0 rfl rfl)
theorem dX4_heat_1 : decode cX4_heat 1 = .ok (.getfield 18, 3) := dk_180 0 18 (dk_at dksX4_heat_0 1 rfl rfl)
theorem dX4_heat_4 : decode cX4_heat 4 = .ok (.iload_n 1, 1) := dk_27 (dk_at dksX4_heat_0 4 rfl rfl)
theorem dX4_heat_5 : decode cX4_heat 5 = .ok (.bipush 30, 2) := dk_16 30 (dk_at dksX4_heat_0 5 rfl rfl)
theorem dX4_heat_7 : decode cX4_heat 7 = .ok (.idiv, 1) := dk_108 (dk_at dksX4_heat_0 7 rfl rfl)
theorem dX4_heat_8 : decode cX4_heat 8 = .ok (.iaload, 1) := dk_46 (dk_at dksX4_heat_0 8 rfl rfl)
theorem dX4_heat_9 : decode cX4_heat 9 = .ok (.ireturn, 1) := dk_172 (dk_at dksX4_heat_0 9 rfl rfl)
abbrev cX4_takeFrom : ByteArray := prog_8_method_2_code
def yX4_takeFrom : MethodName := ⟨RX4, "takeFrom", "(LDebtCoats$World;)V"⟩
def dkwX4_takeFrom_3 : List UInt8 := [180, 0, 39, 181, 0, 39, 42, 43, 180, 0, 42, 181, 0, 42, 177]
abbrev dktX4_takeFrom_3 : List UInt8 := dkwX4_takeFrom_3 ++ []
def dkwX4_takeFrom_2 : List UInt8 := [180, 0, 22, 3, 42, 180, 0, 22, 3, 5, 184, 0, 29, 42, 43, 180, 0, 35, 181, 0, 35, 42, 43]
abbrev dktX4_takeFrom_2 : List UInt8 := dkwX4_takeFrom_2 ++ dktX4_takeFrom_3
def dkwX4_takeFrom_1 : List UInt8 := [132, 2, 1, 167, 255, 233, 43, 180, 0, 18, 3, 42, 180, 0, 18, 3, 16, 12, 184, 0, 29, 43]
abbrev dktX4_takeFrom_1 : List UInt8 := dkwX4_takeFrom_1 ++ dktX4_takeFrom_2
def dkwX4_takeFrom_0 : List UInt8 := [3, 61, 28, 8, 162, 0, 24, 42, 180, 0, 12, 28, 50, 43, 180, 0, 12, 28, 50, 182, 0, 25]
abbrev dktX4_takeFrom_0 : List UInt8 := dkwX4_takeFrom_0 ++ dktX4_takeFrom_1
theorem dksX4_takeFrom_0 : cX4_takeFrom.data.toList.drop 0 = dktX4_takeFrom_0 := by decide +kernel
theorem dksX4_takeFrom_1 : cX4_takeFrom.data.toList.drop 22 = dktX4_takeFrom_1 := dk_seg dksX4_takeFrom_0 22 rfl rfl
theorem dksX4_takeFrom_2 : cX4_takeFrom.data.toList.drop 44 = dktX4_takeFrom_2 := dk_seg dksX4_takeFrom_1 22 rfl rfl
theorem dksX4_takeFrom_3 : cX4_takeFrom.data.toList.drop 67 = dktX4_takeFrom_3 := dk_seg dksX4_takeFrom_2 23 rfl rfl
theorem dX4_takeFrom_0 : decode cX4_takeFrom 0 = .ok (.iconst 0, 1) := dk_3 (dk_at dksX4_takeFrom_0 0 rfl rfl)
theorem dX4_takeFrom_1 : decode cX4_takeFrom 1 = .ok (.istore_n 2, 1) := dk_61 (dk_at dksX4_takeFrom_0 1 rfl rfl)
theorem dX4_takeFrom_2 : decode cX4_takeFrom 2 = .ok (.iload_n 2, 1) := dk_28 (dk_at dksX4_takeFrom_0 2 rfl rfl)
theorem dX4_takeFrom_3 : decode cX4_takeFrom 3 = .ok (.iconst 5, 1) := dk_8 (dk_at dksX4_takeFrom_0 3 rfl rfl)
theorem dX4_takeFrom_4 : decode cX4_takeFrom 4 = .ok (.if_icmp .ge 24, 3) := dk_162 0 24 (dk_at dksX4_takeFrom_0 4 rfl rfl)
theorem dX4_takeFrom_7 : decode cX4_takeFrom 7 = .ok (.aload_n 0, 1) := dk_42 (dk_at dksX4_takeFrom_0 7 rfl rfl)
theorem dX4_takeFrom_8 : decode cX4_takeFrom 8 = .ok (.getfield 12, 3) := dk_180 0 12 (dk_at dksX4_takeFrom_0 8 rfl rfl)
theorem dX4_takeFrom_11 : decode cX4_takeFrom 11 = .ok (.iload_n 2, 1) := dk_28 (dk_at dksX4_takeFrom_0 11 rfl rfl)
theorem dX4_takeFrom_12 : decode cX4_takeFrom 12 = .ok (.aaload, 1) := dk_50 (dk_at dksX4_takeFrom_0 12 rfl rfl)
theorem dX4_takeFrom_13 : decode cX4_takeFrom 13 = .ok (.aload_n 1, 1) := dk_43 (dk_at dksX4_takeFrom_0 13 rfl rfl)
theorem dX4_takeFrom_14 : decode cX4_takeFrom 14 = .ok (.getfield 12, 3) := dk_180 0 12 (dk_at dksX4_takeFrom_0 14 rfl rfl)
theorem dX4_takeFrom_17 : decode cX4_takeFrom 17 = .ok (.iload_n 2, 1) := dk_28 (dk_at dksX4_takeFrom_0 17 rfl rfl)
theorem dX4_takeFrom_18 : decode cX4_takeFrom 18 = .ok (.aaload, 1) := dk_50 (dk_at dksX4_takeFrom_0 18 rfl rfl)
theorem dX4_takeFrom_19 : decode cX4_takeFrom 19 = .ok (.invokevirtual 25, 3) := dk_182 0 25 (dk_at dksX4_takeFrom_0 19 rfl rfl)
theorem dX4_takeFrom_22 : decode cX4_takeFrom 22 = .ok (.iinc 2 1, 3) := dk_132 2 1 (dk_at dksX4_takeFrom_1 0 rfl rfl)
theorem dX4_takeFrom_25 : decode cX4_takeFrom 25 = .ok (.goto (-23), 3) := dk_167 255 233 (dk_at dksX4_takeFrom_1 3 rfl rfl)
theorem dX4_takeFrom_28 : decode cX4_takeFrom 28 = .ok (.aload_n 1, 1) := dk_43 (dk_at dksX4_takeFrom_1 6 rfl rfl)
theorem dX4_takeFrom_29 : decode cX4_takeFrom 29 = .ok (.getfield 18, 3) := dk_180 0 18 (dk_at dksX4_takeFrom_1 7 rfl rfl)
theorem dX4_takeFrom_32 : decode cX4_takeFrom 32 = .ok (.iconst 0, 1) := dk_3 (dk_at dksX4_takeFrom_1 10 rfl rfl)
theorem dX4_takeFrom_33 : decode cX4_takeFrom 33 = .ok (.aload_n 0, 1) := dk_42 (dk_at dksX4_takeFrom_1 11 rfl rfl)
theorem dX4_takeFrom_34 : decode cX4_takeFrom 34 = .ok (.getfield 18, 3) := dk_180 0 18 (dk_at dksX4_takeFrom_1 12 rfl rfl)
theorem dX4_takeFrom_37 : decode cX4_takeFrom 37 = .ok (.iconst 0, 1) := dk_3 (dk_at dksX4_takeFrom_1 15 rfl rfl)
theorem dX4_takeFrom_38 : decode cX4_takeFrom 38 = .ok (.bipush 12, 2) := dk_16 12 (dk_at dksX4_takeFrom_1 16 rfl rfl)
theorem dX4_takeFrom_40 : decode cX4_takeFrom 40 = .ok (.invokestatic 29, 3) := dk_184 0 29 (dk_at dksX4_takeFrom_1 18 rfl rfl)
theorem dX4_takeFrom_43 : decode cX4_takeFrom 43 = .ok (.aload_n 1, 1) := dk_43 (dk_at dksX4_takeFrom_1 21 rfl rfl)
theorem dX4_takeFrom_44 : decode cX4_takeFrom 44 = .ok (.getfield 22, 3) := dk_180 0 22 (dk_at dksX4_takeFrom_2 0 rfl rfl)
theorem dX4_takeFrom_47 : decode cX4_takeFrom 47 = .ok (.iconst 0, 1) := dk_3 (dk_at dksX4_takeFrom_2 3 rfl rfl)
theorem dX4_takeFrom_48 : decode cX4_takeFrom 48 = .ok (.aload_n 0, 1) := dk_42 (dk_at dksX4_takeFrom_2 4 rfl rfl)
theorem dX4_takeFrom_49 : decode cX4_takeFrom 49 = .ok (.getfield 22, 3) := dk_180 0 22 (dk_at dksX4_takeFrom_2 5 rfl rfl)
theorem dX4_takeFrom_52 : decode cX4_takeFrom 52 = .ok (.iconst 0, 1) := dk_3 (dk_at dksX4_takeFrom_2 8 rfl rfl)
theorem dX4_takeFrom_53 : decode cX4_takeFrom 53 = .ok (.iconst 2, 1) := dk_5 (dk_at dksX4_takeFrom_2 9 rfl rfl)
theorem dX4_takeFrom_54 : decode cX4_takeFrom 54 = .ok (.invokestatic 29, 3) := dk_184 0 29 (dk_at dksX4_takeFrom_2 10 rfl rfl)
theorem dX4_takeFrom_57 : decode cX4_takeFrom 57 = .ok (.aload_n 0, 1) := dk_42 (dk_at dksX4_takeFrom_2 13 rfl rfl)
theorem dX4_takeFrom_58 : decode cX4_takeFrom 58 = .ok (.aload_n 1, 1) := dk_43 (dk_at dksX4_takeFrom_2 14 rfl rfl)
theorem dX4_takeFrom_59 : decode cX4_takeFrom 59 = .ok (.getfield 35, 3) := dk_180 0 35 (dk_at dksX4_takeFrom_2 15 rfl rfl)
theorem dX4_takeFrom_62 : decode cX4_takeFrom 62 = .ok (.putfield 35, 3) := dk_181 0 35 (dk_at dksX4_takeFrom_2 18 rfl rfl)
theorem dX4_takeFrom_65 : decode cX4_takeFrom 65 = .ok (.aload_n 0, 1) := dk_42 (dk_at dksX4_takeFrom_2 21 rfl rfl)
theorem dX4_takeFrom_66 : decode cX4_takeFrom 66 = .ok (.aload_n 1, 1) := dk_43 (dk_at dksX4_takeFrom_2 22 rfl rfl)
theorem dX4_takeFrom_67 : decode cX4_takeFrom 67 = .ok (.getfield 39, 3) := dk_180 0 39 (dk_at dksX4_takeFrom_3 0 rfl rfl)
theorem dX4_takeFrom_70 : decode cX4_takeFrom 70 = .ok (.putfield 39, 3) := dk_181 0 39 (dk_at dksX4_takeFrom_3 3 rfl rfl)
theorem dX4_takeFrom_73 : decode cX4_takeFrom 73 = .ok (.aload_n 0, 1) := dk_42 (dk_at dksX4_takeFrom_3 6 rfl rfl)
theorem dX4_takeFrom_74 : decode cX4_takeFrom 74 = .ok (.aload_n 1, 1) := dk_43 (dk_at dksX4_takeFrom_3 7 rfl rfl)
theorem dX4_takeFrom_75 : decode cX4_takeFrom 75 = .ok (.getfield 42, 3) := dk_180 0 42 (dk_at dksX4_takeFrom_3 8 rfl rfl)
theorem dX4_takeFrom_78 : decode cX4_takeFrom 78 = .ok (.putfield 42, 3) := dk_181 0 42 (dk_at dksX4_takeFrom_3 11 rfl rfl)
theorem dX4_takeFrom_81 : decode cX4_takeFrom 81 = .ok (.return_, 1) := dk_177 (dk_at dksX4_takeFrom_3 14 rfl rfl)
theorem q49 : (Jvm.Cond.initialized "DebtCoats$World") ∈ lw_all := lw_g (lw_at lw_m1 5 rfl) rfl
theorem q98 : (Jvm.Cond.instantiable "DebtCoats$World" (6 : Nat)) ∈ lw_all := lw_g (lw_at lw_m1 54 rfl) rfl
theorem q100 : (Jvm.Cond.instanceMethod ({ cls := "DebtCoats$World", name := "<init>", desc := "()V" } : Jvm.MethodName)) ∈ lw_all := lw_g (lw_at lw_m1 56 rfl) rfl
theorem q101 : (Jvm.Cond.code ({ cls := "DebtCoats$World", name := "<init>", desc := "()V" } : Jvm.MethodName) prog_8_method_1_code (1 : Nat) (Option.none : Option Jvm.ClassFile.FieldType)) ∈ lw_all := lw_g (lw_at lw_m1 57 rfl) rfl
theorem q102 : (Jvm.Cond.methodLink "DebtCoats$World" (3 : Nat) ({ cls := "java/lang/Object", name := "<init>", desc := "()V" } : Jvm.MethodName)) ∈ lw_all := lw_g (lw_at lw_m1 58 rfl) rfl
theorem q103 : (Jvm.Cond.classLink "DebtCoats$World" (9 : Nat) "DebtCoats$Wearer") ∈ lw_all := lw_g (lw_at lw_m1 59 rfl) rfl
theorem q106 : (Jvm.Cond.methodLinkNest "DebtCoats$World" (11 : Nat) ({ cls := "DebtCoats$Wearer", name := "<init>", desc := "()V" } : Jvm.MethodName) "DebtCoats") ∈ lw_tbl := lw_at lw_m1 62 rfl
theorem q111 : (Jvm.Cond.fieldLinkNest "DebtCoats$World" (56 : Nat) "DebtCoats$Wearer" "purse" "I" "DebtCoats") ∈ lw_tbl := lw_at lw_m1 67 rfl
theorem q118 : (Jvm.Cond.fieldLinkNest "DebtCoats$World" (59 : Nat) "DebtCoats$Wearer" "fell" "I" "DebtCoats") ∈ lw_tbl := lw_at lw_m1 74 rfl
theorem q144 : (Jvm.Cond.fieldLink "DebtCoats$World" (12 : Nat) "DebtCoats$World" "people" "[LDebtCoats$Wearer;") ∈ lw_all := lw_g (lw_at lw_m1 100 rfl) rfl
theorem q146 : (Jvm.Cond.fieldLink "DebtCoats$World" (18 : Nat) "DebtCoats$World" "heats" "[I") ∈ lw_all := lw_g (lw_at lw_m1 102 rfl) rfl
theorem q148 : (Jvm.Cond.fieldLink "DebtCoats$World" (22 : Nat) "DebtCoats$World" "rules" "[I") ∈ lw_all := lw_g (lw_at lw_m1 104 rfl) rfl
theorem q150 : (Jvm.Cond.fieldLink "DebtCoats$World" (35 : Nat) "DebtCoats$World" "many" "I") ∈ lw_all := lw_g (lw_at lw_m1 106 rfl) rfl
theorem q152 : (Jvm.Cond.fieldLink "DebtCoats$World" (39 : Nat) "DebtCoats$World" "day" "I") ∈ lw_all := lw_g (lw_at lw_m1 108 rfl) rfl
theorem q154 : (Jvm.Cond.fieldLink "DebtCoats$World" (42 : Nat) "DebtCoats$World" "cuts" "I") ∈ lw_all := lw_g (lw_at lw_m1 110 rfl) rfl
theorem q156 : (Jvm.Cond.laysFinal "DebtCoats$World" "DebtCoats$World" "people" "[LDebtCoats$Wearer;") ∈ lw_all := lw_g (lw_at lw_m1 112 rfl) rfl
theorem q157 : (Jvm.Cond.soleField "DebtCoats$World" "people") ∈ lw_all := lw_g (lw_at lw_m1 113 rfl) rfl
theorem q158 : (Jvm.Cond.laysFinal "DebtCoats$World" "DebtCoats$World" "heats" "[I") ∈ lw_all := lw_g (lw_at lw_m1 114 rfl) rfl
theorem q159 : (Jvm.Cond.soleField "DebtCoats$World" "heats") ∈ lw_all := lw_g (lw_at lw_m1 115 rfl) rfl
theorem q160 : (Jvm.Cond.laysFinal "DebtCoats$World" "DebtCoats$World" "rules" "[I") ∈ lw_all := lw_g (lw_at lw_m1 116 rfl) rfl
theorem q161 : (Jvm.Cond.soleField "DebtCoats$World" "rules") ∈ lw_all := lw_g (lw_at lw_m1 117 rfl) rfl
theorem q162 : (Jvm.Cond.lays "DebtCoats$World" "DebtCoats$World" "many" "I") ∈ lw_all := lw_g (lw_at lw_m1 118 rfl) rfl
theorem q163 : (Jvm.Cond.soleField "DebtCoats$World" "many") ∈ lw_all := lw_g (lw_at lw_m1 119 rfl) rfl
theorem q164 : (Jvm.Cond.lays "DebtCoats$World" "DebtCoats$World" "day" "I") ∈ lw_all := lw_g (lw_at lw_m1 120 rfl) rfl
theorem q165 : (Jvm.Cond.soleField "DebtCoats$World" "day") ∈ lw_all := lw_g (lw_at lw_m1 121 rfl) rfl
theorem q166 : (Jvm.Cond.lays "DebtCoats$World" "DebtCoats$World" "cuts" "I") ∈ lw_all := lw_g (lw_at lw_m1 122 rfl) rfl
theorem q167 : (Jvm.Cond.soleField "DebtCoats$World" "cuts") ∈ lw_all := lw_g (lw_at lw_m1 123 rfl) rfl
theorem q168 : (Jvm.Cond.superclass "DebtCoats$World" "java/lang/Object") ∈ lw_all := lw_g (lw_at lw_m1 124 rfl) rfl
theorem q486 : (Jvm.Cond.instanceMethod ({ cls := "DebtCoats$World", name := "night", desc := "()V" } : Jvm.MethodName)) ∈ lw_all := lw_g (lw_at lw_m2 202 rfl) rfl
theorem q487 : (Jvm.Cond.selects "DebtCoats$World" ({ cls := "DebtCoats$World", name := "night", desc := "()V" } : Jvm.MethodName) ({ cls := "DebtCoats$World", name := "night", desc := "()V" } : Jvm.MethodName)) ∈ lw_all := lw_g (lw_at lw_m2 203 rfl) rfl
theorem q488 : (Jvm.Cond.code ({ cls := "DebtCoats$World", name := "night", desc := "()V" } : Jvm.MethodName) prog_8_method_4_code (3 : Nat) (Option.none : Option Jvm.ClassFile.FieldType)) ∈ lw_all := lw_g (lw_at lw_m2 204 rfl) rfl
theorem q489 : (Jvm.Cond.methodLink "DebtCoats$World" (45 : Nat) ({ cls := "DebtCoats$Wearer", name := "night", desc := "()V" } : Jvm.MethodName)) ∈ lw_all := lw_g (lw_at lw_m2 205 rfl) rfl
theorem q499 : (Jvm.Cond.methodLink "DebtCoats$World" (48 : Nat) ({ cls := "DebtCoats$World", name := "heat", desc := "(I)I" } : Jvm.MethodName)) ∈ lw_all := lw_g (lw_at lw_m2 215 rfl) rfl
theorem q500 : (Jvm.Cond.instanceMethod ({ cls := "DebtCoats$World", name := "heat", desc := "(I)I" } : Jvm.MethodName)) ∈ lw_all := lw_g (lw_at lw_m2 216 rfl) rfl
theorem q501 : (Jvm.Cond.selects "DebtCoats$World" ({ cls := "DebtCoats$World", name := "heat", desc := "(I)I" } : Jvm.MethodName) ({ cls := "DebtCoats$World", name := "heat", desc := "(I)I" } : Jvm.MethodName)) ∈ lw_all := lw_g (lw_at lw_m2 217 rfl) rfl
theorem q502 : (Jvm.Cond.code ({ cls := "DebtCoats$World", name := "heat", desc := "(I)I" } : Jvm.MethodName) prog_8_method_3_code (2 : Nat) (Option.some Jvm.ClassFile.FieldType.int)) ∈ lw_all := lw_g (lw_at lw_m2 218 rfl) rfl
theorem q503 : (Jvm.Cond.methodLink "DebtCoats$World" (52 : Nat) ({ cls := "DebtCoats$Wearer", name := "bears", desc := "(I)Z" } : Jvm.MethodName)) ∈ lw_all := lw_g (lw_at lw_m2 219 rfl) rfl
theorem q598 : (Jvm.Cond.instanceMethod ({ cls := "DebtCoats$World", name := "takeFrom", desc := "(LDebtCoats$World;)V" } : Jvm.MethodName)) ∈ lw_all := lw_g (lw_at lw_m3 74 rfl) rfl
theorem q599 : (Jvm.Cond.selects "DebtCoats$World" ({ cls := "DebtCoats$World", name := "takeFrom", desc := "(LDebtCoats$World;)V" } : Jvm.MethodName) ({ cls := "DebtCoats$World", name := "takeFrom", desc := "(LDebtCoats$World;)V" } : Jvm.MethodName)) ∈ lw_all := lw_g (lw_at lw_m3 75 rfl) rfl
theorem q600 : (Jvm.Cond.code ({ cls := "DebtCoats$World", name := "takeFrom", desc := "(LDebtCoats$World;)V" } : Jvm.MethodName) prog_8_method_2_code (3 : Nat) (Option.none : Option Jvm.ClassFile.FieldType)) ∈ lw_all := lw_g (lw_at lw_m3 76 rfl) rfl
theorem q601 : (Jvm.Cond.methodLink "DebtCoats$World" (25 : Nat) ({ cls := "DebtCoats$Wearer", name := "takeFrom", desc := "(LDebtCoats$Wearer;)V" } : Jvm.MethodName)) ∈ lw_all := lw_g (lw_at lw_m3 77 rfl) rfl
theorem q602 : (Jvm.Cond.methodLink "DebtCoats$World" (29 : Nat) ({ cls := "java/lang/System", name := "arraycopy", desc := "(Ljava/lang/Object;ILjava/lang/Object;II)V" } : Jvm.MethodName)) ∈ lw_all := lw_g (lw_at lw_m3 78 rfl) rfl
theorem in_X4 : ∀ w ∈ wsX40, w ∈ lw_all := lw_in wsX40 [156, 158, 160, 162, 164, 166] (by decide +kernel) (by decide +kernel)
/-! DebtCoats$Wearer -/
set_option maxRecDepth 100000
def RX5 : String := "DebtCoats$Wearer"
def TX5 : u_T := fun k => match k with
  | 0 => ("DebtCoats$Wearer", "purse", "I", false)
  | 1 => ("DebtCoats$Wearer", "income", "I", false)
  | 2 => ("DebtCoats$Wearer", "strength", "I", false)
  | 3 => ("DebtCoats$Wearer", "fell", "I", false)
  | 4 => ("DebtCoats$Wearer", "taxes", "[I", true)
  | 5 => ("DebtCoats$Wearer", "coats", "[I", true)
  | _ => ("DebtCoats$Wearer", "many", "I", false)
def tyX5 : Nat → FieldType := fun k => match k with
  | 0 => .int
  | 1 => .int
  | 2 => .int
  | 3 => .int
  | 4 => .array .int
  | 5 => .array .int
  | _ => .int
abbrev wsX50 : List Cond := u_ws RX5 TX5 7
theorem nmX5 : ∀ a, a < 7 → ∀ b, b < 7 → a ≠ b → (TX5 a).2.1 ≠ (TX5 b).2.1 := by decide +kernel
theorem tyX5_ok : ∀ k, k < 7 → parseFieldDescriptor (TX5 k).2.2.1 = some (tyX5 k) := by decide +kernel
abbrev cX5_init : ByteArray := prog_7_method_1_code
def yX5_init : MethodName := ⟨RX5, "<init>", "()V"⟩
def dkwX5_init_0 : List UInt8 := [42, 183, 0, 3, 42, 8, 188, 10, 181, 0, 9, 42, 16, 32, 188, 10, 181, 0, 15, 177]
abbrev dktX5_init_0 : List UInt8 := dkwX5_init_0 ++ []
theorem dksX5_init_0 : cX5_init.data.toList.drop 0 = dktX5_init_0 := by decide +kernel
theorem dX5_init_0 : decode cX5_init 0 = .ok (.aload_n 0, 1) := dk_42 (dk_at dksX5_init_0 0 rfl rfl)
theorem dX5_init_1 : decode cX5_init 1 = .ok (.invokespecial 3, 3) := dk_183 0 3 (dk_at dksX5_init_0 1 rfl rfl)
theorem dX5_init_4 : decode cX5_init 4 = .ok (.aload_n 0, 1) := dk_42 (dk_at dksX5_init_0 4 rfl rfl)
theorem dX5_init_5 : decode cX5_init 5 = .ok (.iconst 5, 1) := dk_8 (dk_at dksX5_init_0 5 rfl rfl)
theorem dX5_init_6 : decode cX5_init 6 = .ok (.newarray .int, 2) := dk_188_10 (dk_at dksX5_init_0 6 rfl rfl)
theorem dX5_init_8 : decode cX5_init 8 = .ok (.putfield 9, 3) := dk_181 0 9 (dk_at dksX5_init_0 8 rfl rfl)
theorem dX5_init_11 : decode cX5_init 11 = .ok (.aload_n 0, 1) := dk_42 (dk_at dksX5_init_0 11 rfl rfl)
theorem dX5_init_12 : decode cX5_init 12 = .ok (.bipush 32, 2) := dk_16 32 (dk_at dksX5_init_0 12 rfl rfl)
theorem dX5_init_14 : decode cX5_init 14 = .ok (.newarray .int, 2) := dk_188_10 (dk_at dksX5_init_0 14 rfl rfl)
theorem dX5_init_16 : decode cX5_init 16 = .ok (.putfield 15, 3) := dk_181 0 15 (dk_at dksX5_init_0 16 rfl rfl)
theorem dX5_init_19 : decode cX5_init 19 = .ok (.return_, 1) := dk_177 (dk_at dksX5_init_0 19 rfl rfl)
abbrev cX5_lay : ByteArray := prog_7_method_2_code
def yX5_lay : MethodName := ⟨RX5, "lay", "(III)V"⟩
def dkwX5_lay_2 : List UInt8 := [167, 255, 239, 177]
abbrev dktX5_lay_2 : List UInt8 := dkwX5_lay_2 ++ []
def dkwX5_lay_1 : List UInt8 := [181, 0, 31, 3, 54, 4, 21, 4, 8, 162, 0, 17, 42, 180, 0, 9, 21, 4, 3, 79, 132, 4, 1]
abbrev dktX5_lay_1 : List UInt8 := dkwX5_lay_1 ++ dktX5_lay_2
def dkwX5_lay_0 : List UInt8 := [42, 27, 181, 0, 18, 42, 28, 181, 0, 22, 42, 29, 181, 0, 25, 42, 16, 252, 181, 0, 28, 42, 3]
abbrev dktX5_lay_0 : List UInt8 := dkwX5_lay_0 ++ dktX5_lay_1
theorem dksX5_lay_0 : cX5_lay.data.toList.drop 0 = dktX5_lay_0 := by decide +kernel
theorem dksX5_lay_1 : cX5_lay.data.toList.drop 23 = dktX5_lay_1 := dk_seg dksX5_lay_0 23 rfl rfl
theorem dksX5_lay_2 : cX5_lay.data.toList.drop 46 = dktX5_lay_2 := dk_seg dksX5_lay_1 23 rfl rfl
theorem dX5_lay_0 : decode cX5_lay 0 = .ok (.aload_n 0, 1) := dk_42 (dk_at dksX5_lay_0 0 rfl rfl)
theorem dX5_lay_1 : decode cX5_lay 1 = .ok (.iload_n 1, 1) := dk_27 (dk_at dksX5_lay_0 1 rfl rfl)
theorem dX5_lay_2 : decode cX5_lay 2 = .ok (.putfield 18, 3) := dk_181 0 18 (dk_at dksX5_lay_0 2 rfl rfl)
theorem dX5_lay_5 : decode cX5_lay 5 = .ok (.aload_n 0, 1) := dk_42 (dk_at dksX5_lay_0 5 rfl rfl)
theorem dX5_lay_6 : decode cX5_lay 6 = .ok (.iload_n 2, 1) := dk_28 (dk_at dksX5_lay_0 6 rfl rfl)
theorem dX5_lay_7 : decode cX5_lay 7 = .ok (.putfield 22, 3) := dk_181 0 22 (dk_at dksX5_lay_0 7 rfl rfl)
theorem dX5_lay_10 : decode cX5_lay 10 = .ok (.aload_n 0, 1) := dk_42 (dk_at dksX5_lay_0 10 rfl rfl)
theorem dX5_lay_11 : decode cX5_lay 11 = .ok (.iload_n 3, 1) := dk_29 (dk_at dksX5_lay_0 11 rfl rfl)
theorem dX5_lay_12 : decode cX5_lay 12 = .ok (.putfield 25, 3) := dk_181 0 25 (dk_at dksX5_lay_0 12 rfl rfl)
theorem dX5_lay_15 : decode cX5_lay 15 = .ok (.aload_n 0, 1) := dk_42 (dk_at dksX5_lay_0 15 rfl rfl)
theorem dX5_lay_16 : decode cX5_lay 16 = .ok (.bipush (-4), 2) := dk_16 252 (dk_at dksX5_lay_0 16 rfl rfl)
theorem dX5_lay_18 : decode cX5_lay 18 = .ok (.putfield 28, 3) := dk_181 0 28 (dk_at dksX5_lay_0 18 rfl rfl)
theorem dX5_lay_21 : decode cX5_lay 21 = .ok (.aload_n 0, 1) := dk_42 (dk_at dksX5_lay_0 21 rfl rfl)
theorem dX5_lay_22 : decode cX5_lay 22 = .ok (.iconst 0, 1) := dk_3 (dk_at dksX5_lay_0 22 rfl rfl)
theorem dX5_lay_23 : decode cX5_lay 23 = .ok (.putfield 31, 3) := dk_181 0 31 (dk_at dksX5_lay_1 0 rfl rfl)
theorem dX5_lay_26 : decode cX5_lay 26 = .ok (.iconst 0, 1) := dk_3 (dk_at dksX5_lay_1 3 rfl rfl)
theorem dX5_lay_27 : decode cX5_lay 27 = .ok (.istore 4, 2) := dk_54 4 (dk_at dksX5_lay_1 4 rfl rfl)
theorem dX5_lay_29 : decode cX5_lay 29 = .ok (.iload 4, 2) := dk_21 4 (dk_at dksX5_lay_1 6 rfl rfl)
theorem dX5_lay_31 : decode cX5_lay 31 = .ok (.iconst 5, 1) := dk_8 (dk_at dksX5_lay_1 8 rfl rfl)
theorem dX5_lay_32 : decode cX5_lay 32 = .ok (.if_icmp .ge 17, 3) := dk_162 0 17 (dk_at dksX5_lay_1 9 rfl rfl)
theorem dX5_lay_35 : decode cX5_lay 35 = .ok (.aload_n 0, 1) := dk_42 (dk_at dksX5_lay_1 12 rfl rfl)
theorem dX5_lay_36 : decode cX5_lay 36 = .ok (.getfield 9, 3) := dk_180 0 9 (dk_at dksX5_lay_1 13 rfl rfl)
theorem dX5_lay_39 : decode cX5_lay 39 = .ok (.iload 4, 2) := dk_21 4 (dk_at dksX5_lay_1 16 rfl rfl)
theorem dX5_lay_41 : decode cX5_lay 41 = .ok (.iconst 0, 1) := dk_3 (dk_at dksX5_lay_1 18 rfl rfl)
theorem dX5_lay_42 : decode cX5_lay 42 = .ok (.iastore, 1) := dk_79 (dk_at dksX5_lay_1 19 rfl rfl)
theorem dX5_lay_43 : decode cX5_lay 43 = .ok (.iinc 4 1, 3) := dk_132 4 1 (dk_at dksX5_lay_1 20 rfl rfl)
theorem dX5_lay_46 : decode cX5_lay 46 = .ok (.goto (-17), 3) := dk_167 255 239 (dk_at dksX5_lay_2 0 rfl rfl)
theorem dX5_lay_49 : decode cX5_lay 49 = .ok (.return_, 1) := dk_177 (dk_at dksX5_lay_2 3 rfl rfl)
abbrev cX5_thick : ByteArray := prog_7_method_6_code
def yX5_thick : MethodName := ⟨RX5, "thick", "()I"⟩
def dkwX5_thick_1 : List UInt8 := [60, 132, 2, 1, 167, 255, 232, 27, 172]
abbrev dktX5_thick_1 : List UInt8 := dkwX5_thick_1 ++ []
def dkwX5_thick_0 : List UInt8 := [3, 60, 3, 61, 28, 42, 180, 0, 31, 162, 0, 22, 27, 42, 180, 0, 15, 7, 28, 104, 6, 96, 46, 96]
abbrev dktX5_thick_0 : List UInt8 := dkwX5_thick_0 ++ dktX5_thick_1
theorem dksX5_thick_0 : cX5_thick.data.toList.drop 0 = dktX5_thick_0 := by decide +kernel
theorem dksX5_thick_1 : cX5_thick.data.toList.drop 24 = dktX5_thick_1 := dk_seg dksX5_thick_0 24 rfl rfl
theorem dX5_thick_0 : decode cX5_thick 0 = .ok (.iconst 0, 1) := dk_3 (dk_at dksX5_thick_0 0 rfl rfl)
theorem dX5_thick_1 : decode cX5_thick 1 = .ok (.istore_n 1, 1) := dk_60 (dk_at dksX5_thick_0 1 rfl rfl)
theorem dX5_thick_2 : decode cX5_thick 2 = .ok (.iconst 0, 1) := dk_3 (dk_at dksX5_thick_0 2 rfl rfl)
theorem dX5_thick_3 : decode cX5_thick 3 = .ok (.istore_n 2, 1) := dk_61 (dk_at dksX5_thick_0 3 rfl rfl)
theorem dX5_thick_4 : decode cX5_thick 4 = .ok (.iload_n 2, 1) := dk_28 (dk_at dksX5_thick_0 4 rfl rfl)
theorem dX5_thick_5 : decode cX5_thick 5 = .ok (.aload_n 0, 1) := dk_42 (dk_at dksX5_thick_0 5 rfl rfl)
theorem dX5_thick_6 : decode cX5_thick 6 = .ok (.getfield 31, 3) := dk_180 0 31 (dk_at dksX5_thick_0 6 rfl rfl)
theorem dX5_thick_9 : decode cX5_thick 9 = .ok (.if_icmp .ge 22, 3) := dk_162 0 22 (dk_at dksX5_thick_0 9 rfl rfl)
theorem dX5_thick_12 : decode cX5_thick 12 = .ok (.iload_n 1, 1) := dk_27 (dk_at dksX5_thick_0 12 rfl rfl)
theorem dX5_thick_13 : decode cX5_thick 13 = .ok (.aload_n 0, 1) := dk_42 (dk_at dksX5_thick_0 13 rfl rfl)
theorem dX5_thick_14 : decode cX5_thick 14 = .ok (.getfield 15, 3) := dk_180 0 15 (dk_at dksX5_thick_0 14 rfl rfl)
theorem dX5_thick_17 : decode cX5_thick 17 = .ok (.iconst 4, 1) := dk_7 (dk_at dksX5_thick_0 17 rfl rfl)
theorem dX5_thick_18 : decode cX5_thick 18 = .ok (.iload_n 2, 1) := dk_28 (dk_at dksX5_thick_0 18 rfl rfl)
theorem dX5_thick_19 : decode cX5_thick 19 = .ok (.imul, 1) := dk_104 (dk_at dksX5_thick_0 19 rfl rfl)
theorem dX5_thick_20 : decode cX5_thick 20 = .ok (.iconst 3, 1) := dk_6 (dk_at dksX5_thick_0 20 rfl rfl)
theorem dX5_thick_21 : decode cX5_thick 21 = .ok (.iadd, 1) := dk_96 (dk_at dksX5_thick_0 21 rfl rfl)
theorem dX5_thick_22 : decode cX5_thick 22 = .ok (.iaload, 1) := dk_46 (dk_at dksX5_thick_0 22 rfl rfl)
theorem dX5_thick_23 : decode cX5_thick 23 = .ok (.iadd, 1) := dk_96 (dk_at dksX5_thick_0 23 rfl rfl)
theorem dX5_thick_24 : decode cX5_thick 24 = .ok (.istore_n 1, 1) := dk_60 (dk_at dksX5_thick_1 0 rfl rfl)
theorem dX5_thick_25 : decode cX5_thick 25 = .ok (.iinc 2 1, 3) := dk_132 2 1 (dk_at dksX5_thick_1 1 rfl rfl)
theorem dX5_thick_28 : decode cX5_thick 28 = .ok (.goto (-24), 3) := dk_167 255 232 (dk_at dksX5_thick_1 4 rfl rfl)
theorem dX5_thick_31 : decode cX5_thick 31 = .ok (.iload_n 1, 1) := dk_27 (dk_at dksX5_thick_1 7 rfl rfl)
theorem dX5_thick_32 : decode cX5_thick 32 = .ok (.ireturn, 1) := dk_172 (dk_at dksX5_thick_1 8 rfl rfl)
abbrev cX5_lender : ByteArray := prog_7_method_4_code
def yX5_lender : MethodName := ⟨RX5, "lender", "(I)I"⟩
def dkwX5_lender_0 : List UInt8 := [42, 180, 0, 15, 7, 27, 104, 46, 172]
abbrev dktX5_lender_0 : List UInt8 := dkwX5_lender_0 ++ []
theorem dksX5_lender_0 : cX5_lender.data.toList.drop 0 = dktX5_lender_0 := by decide +kernel
theorem dX5_lender_0 : decode cX5_lender 0 = .ok (.aload_n 0, 1) := dk_42 (dk_at dksX5_lender_0 0 rfl rfl)
theorem dX5_lender_1 : decode cX5_lender 1 = .ok (.getfield 15, 3) := dk_180 0 15 (dk_at dksX5_lender_0 1 rfl rfl)
theorem dX5_lender_4 : decode cX5_lender 4 = .ok (.iconst 4, 1) := dk_7 (dk_at dksX5_lender_0 4 rfl rfl)
theorem dX5_lender_5 : decode cX5_lender 5 = .ok (.iload_n 1, 1) := dk_27 (dk_at dksX5_lender_0 5 rfl rfl)
theorem dX5_lender_6 : decode cX5_lender 6 = .ok (.imul, 1) := dk_104 (dk_at dksX5_lender_0 6 rfl rfl)
theorem dX5_lender_7 : decode cX5_lender 7 = .ok (.iaload, 1) := dk_46 (dk_at dksX5_lender_0 7 rfl rfl)
theorem dX5_lender_8 : decode cX5_lender 8 = .ok (.ireturn, 1) := dk_172 (dk_at dksX5_lender_0 8 rfl rfl)
abbrev cX5_amount : ByteArray := prog_7_method_5_code
def yX5_amount : MethodName := ⟨RX5, "amount", "(I)I"⟩
def dkwX5_amount_0 : List UInt8 := [42, 180, 0, 15, 7, 27, 104, 4, 96, 46, 172]
abbrev dktX5_amount_0 : List UInt8 := dkwX5_amount_0 ++ []
theorem dksX5_amount_0 : cX5_amount.data.toList.drop 0 = dktX5_amount_0 := by decide +kernel
theorem dX5_amount_0 : decode cX5_amount 0 = .ok (.aload_n 0, 1) := dk_42 (dk_at dksX5_amount_0 0 rfl rfl)
theorem dX5_amount_1 : decode cX5_amount 1 = .ok (.getfield 15, 3) := dk_180 0 15 (dk_at dksX5_amount_0 1 rfl rfl)
theorem dX5_amount_4 : decode cX5_amount 4 = .ok (.iconst 4, 1) := dk_7 (dk_at dksX5_amount_0 4 rfl rfl)
theorem dX5_amount_5 : decode cX5_amount 5 = .ok (.iload_n 1, 1) := dk_27 (dk_at dksX5_amount_0 5 rfl rfl)
theorem dX5_amount_6 : decode cX5_amount 6 = .ok (.imul, 1) := dk_104 (dk_at dksX5_amount_0 6 rfl rfl)
theorem dX5_amount_7 : decode cX5_amount 7 = .ok (.iconst 1, 1) := dk_4 (dk_at dksX5_amount_0 7 rfl rfl)
theorem dX5_amount_8 : decode cX5_amount 8 = .ok (.iadd, 1) := dk_96 (dk_at dksX5_amount_0 8 rfl rfl)
theorem dX5_amount_9 : decode cX5_amount 9 = .ok (.iaload, 1) := dk_46 (dk_at dksX5_amount_0 9 rfl rfl)
theorem dX5_amount_10 : decode cX5_amount 10 = .ok (.ireturn, 1) := dk_172 (dk_at dksX5_amount_0 10 rfl rfl)
abbrev cX5_put : ByteArray := prog_7_method_7_code
def yX5_put : MethodName := ⟨RX5, "put", "(IIII)V"⟩
def dkwX5_put_2 : List UInt8 := [180, 0, 31, 104, 6, 96, 21, 4, 79, 42, 89, 180, 0, 31, 4, 96, 181, 0, 31, 177]
abbrev dktX5_put_2 : List UInt8 := dkwX5_put_2 ++ []
def dkwX5_put_1 : List UInt8 := [28, 79, 42, 180, 0, 15, 7, 42, 180, 0, 31, 104, 5, 96, 29, 79, 42, 180, 0, 15, 7, 42]
abbrev dktX5_put_1 : List UInt8 := dkwX5_put_1 ++ dktX5_put_2
def dkwX5_put_0 : List UInt8 := [42, 180, 0, 15, 7, 42, 180, 0, 31, 104, 27, 79, 42, 180, 0, 15, 7, 42, 180, 0, 31, 104, 4, 96]
abbrev dktX5_put_0 : List UInt8 := dkwX5_put_0 ++ dktX5_put_1
theorem dksX5_put_0 : cX5_put.data.toList.drop 0 = dktX5_put_0 := by decide +kernel
theorem dksX5_put_1 : cX5_put.data.toList.drop 24 = dktX5_put_1 := dk_seg dksX5_put_0 24 rfl rfl
theorem dksX5_put_2 : cX5_put.data.toList.drop 46 = dktX5_put_2 := dk_seg dksX5_put_1 22 rfl rfl
theorem dX5_put_0 : decode cX5_put 0 = .ok (.aload_n 0, 1) := dk_42 (dk_at dksX5_put_0 0 rfl rfl)
theorem dX5_put_1 : decode cX5_put 1 = .ok (.getfield 15, 3) := dk_180 0 15 (dk_at dksX5_put_0 1 rfl rfl)
theorem dX5_put_4 : decode cX5_put 4 = .ok (.iconst 4, 1) := dk_7 (dk_at dksX5_put_0 4 rfl rfl)
theorem dX5_put_5 : decode cX5_put 5 = .ok (.aload_n 0, 1) := dk_42 (dk_at dksX5_put_0 5 rfl rfl)
theorem dX5_put_6 : decode cX5_put 6 = .ok (.getfield 31, 3) := dk_180 0 31 (dk_at dksX5_put_0 6 rfl rfl)
theorem dX5_put_9 : decode cX5_put 9 = .ok (.imul, 1) := dk_104 (dk_at dksX5_put_0 9 rfl rfl)
theorem dX5_put_10 : decode cX5_put 10 = .ok (.iload_n 1, 1) := dk_27 (dk_at dksX5_put_0 10 rfl rfl)
theorem dX5_put_11 : decode cX5_put 11 = .ok (.iastore, 1) := dk_79 (dk_at dksX5_put_0 11 rfl rfl)
theorem dX5_put_12 : decode cX5_put 12 = .ok (.aload_n 0, 1) := dk_42 (dk_at dksX5_put_0 12 rfl rfl)
theorem dX5_put_13 : decode cX5_put 13 = .ok (.getfield 15, 3) := dk_180 0 15 (dk_at dksX5_put_0 13 rfl rfl)
theorem dX5_put_16 : decode cX5_put 16 = .ok (.iconst 4, 1) := dk_7 (dk_at dksX5_put_0 16 rfl rfl)
theorem dX5_put_17 : decode cX5_put 17 = .ok (.aload_n 0, 1) := dk_42 (dk_at dksX5_put_0 17 rfl rfl)
theorem dX5_put_18 : decode cX5_put 18 = .ok (.getfield 31, 3) := dk_180 0 31 (dk_at dksX5_put_0 18 rfl rfl)
theorem dX5_put_21 : decode cX5_put 21 = .ok (.imul, 1) := dk_104 (dk_at dksX5_put_0 21 rfl rfl)
theorem dX5_put_22 : decode cX5_put 22 = .ok (.iconst 1, 1) := dk_4 (dk_at dksX5_put_0 22 rfl rfl)
theorem dX5_put_23 : decode cX5_put 23 = .ok (.iadd, 1) := dk_96 (dk_at dksX5_put_0 23 rfl rfl)
theorem dX5_put_24 : decode cX5_put 24 = .ok (.iload_n 2, 1) := dk_28 (dk_at dksX5_put_1 0 rfl rfl)
theorem dX5_put_25 : decode cX5_put 25 = .ok (.iastore, 1) := dk_79 (dk_at dksX5_put_1 1 rfl rfl)
theorem dX5_put_26 : decode cX5_put 26 = .ok (.aload_n 0, 1) := dk_42 (dk_at dksX5_put_1 2 rfl rfl)
theorem dX5_put_27 : decode cX5_put 27 = .ok (.getfield 15, 3) := dk_180 0 15 (dk_at dksX5_put_1 3 rfl rfl)
theorem dX5_put_30 : decode cX5_put 30 = .ok (.iconst 4, 1) := dk_7 (dk_at dksX5_put_1 6 rfl rfl)
theorem dX5_put_31 : decode cX5_put 31 = .ok (.aload_n 0, 1) := dk_42 (dk_at dksX5_put_1 7 rfl rfl)
theorem dX5_put_32 : decode cX5_put 32 = .ok (.getfield 31, 3) := dk_180 0 31 (dk_at dksX5_put_1 8 rfl rfl)
theorem dX5_put_35 : decode cX5_put 35 = .ok (.imul, 1) := dk_104 (dk_at dksX5_put_1 11 rfl rfl)
theorem dX5_put_36 : decode cX5_put 36 = .ok (.iconst 2, 1) := dk_5 (dk_at dksX5_put_1 12 rfl rfl)
theorem dX5_put_37 : decode cX5_put 37 = .ok (.iadd, 1) := dk_96 (dk_at dksX5_put_1 13 rfl rfl)
theorem dX5_put_38 : decode cX5_put 38 = .ok (.iload_n 3, 1) := dk_29 (dk_at dksX5_put_1 14 rfl rfl)
theorem dX5_put_39 : decode cX5_put 39 = .ok (.iastore, 1) := dk_79 (dk_at dksX5_put_1 15 rfl rfl)
theorem dX5_put_40 : decode cX5_put 40 = .ok (.aload_n 0, 1) := dk_42 (dk_at dksX5_put_1 16 rfl rfl)
theorem dX5_put_41 : decode cX5_put 41 = .ok (.getfield 15, 3) := dk_180 0 15 (dk_at dksX5_put_1 17 rfl rfl)
theorem dX5_put_44 : decode cX5_put 44 = .ok (.iconst 4, 1) := dk_7 (dk_at dksX5_put_1 20 rfl rfl)
theorem dX5_put_45 : decode cX5_put 45 = .ok (.aload_n 0, 1) := dk_42 (dk_at dksX5_put_1 21 rfl rfl)
theorem dX5_put_46 : decode cX5_put 46 = .ok (.getfield 31, 3) := dk_180 0 31 (dk_at dksX5_put_2 0 rfl rfl)
theorem dX5_put_49 : decode cX5_put 49 = .ok (.imul, 1) := dk_104 (dk_at dksX5_put_2 3 rfl rfl)
theorem dX5_put_50 : decode cX5_put 50 = .ok (.iconst 3, 1) := dk_6 (dk_at dksX5_put_2 4 rfl rfl)
theorem dX5_put_51 : decode cX5_put 51 = .ok (.iadd, 1) := dk_96 (dk_at dksX5_put_2 5 rfl rfl)
theorem dX5_put_52 : decode cX5_put 52 = .ok (.iload 4, 2) := dk_21 4 (dk_at dksX5_put_2 6 rfl rfl)
theorem dX5_put_54 : decode cX5_put 54 = .ok (.iastore, 1) := dk_79 (dk_at dksX5_put_2 8 rfl rfl)
theorem dX5_put_55 : decode cX5_put 55 = .ok (.aload_n 0, 1) := dk_42 (dk_at dksX5_put_2 9 rfl rfl)
theorem dX5_put_56 : decode cX5_put 56 = .ok (.dup, 1) := dk_89 (dk_at dksX5_put_2 10 rfl rfl)
theorem dX5_put_57 : decode cX5_put 57 = .ok (.getfield 31, 3) := dk_180 0 31 (dk_at dksX5_put_2 11 rfl rfl)
theorem dX5_put_60 : decode cX5_put 60 = .ok (.iconst 1, 1) := dk_4 (dk_at dksX5_put_2 14 rfl rfl)
theorem dX5_put_61 : decode cX5_put 61 = .ok (.iadd, 1) := dk_96 (dk_at dksX5_put_2 15 rfl rfl)
theorem dX5_put_62 : decode cX5_put 62 = .ok (.putfield 31, 3) := dk_181 0 31 (dk_at dksX5_put_2 16 rfl rfl)
theorem dX5_put_65 : decode cX5_put 65 = .ok (.return_, 1) := dk_177 (dk_at dksX5_put_2 19 rfl rfl)
abbrev cX5_pays : ByteArray := prog_7_method_11_code
def yX5_pays : MethodName := ⟨RX5, "pays", "(I)Z"⟩
def dkwX5_pays_1 : List UInt8 := [180, 0, 18, 42, 27, 182, 0, 41, 100, 181, 0, 18, 42, 27, 182, 0, 61, 28, 172]
abbrev dktX5_pays_1 : List UInt8 := dkwX5_pays_1 ++ []
def dkwX5_pays_0 : List UInt8 := [42, 180, 0, 18, 42, 27, 182, 0, 41, 161, 0, 7, 4, 167, 0, 4, 3, 61, 28, 153, 0, 22, 42, 89]
abbrev dktX5_pays_0 : List UInt8 := dkwX5_pays_0 ++ dktX5_pays_1
theorem dksX5_pays_0 : cX5_pays.data.toList.drop 0 = dktX5_pays_0 := by decide +kernel
theorem dksX5_pays_1 : cX5_pays.data.toList.drop 24 = dktX5_pays_1 := dk_seg dksX5_pays_0 24 rfl rfl
theorem dX5_pays_0 : decode cX5_pays 0 = .ok (.aload_n 0, 1) := dk_42 (dk_at dksX5_pays_0 0 rfl rfl)
theorem dX5_pays_1 : decode cX5_pays 1 = .ok (.getfield 18, 3) := dk_180 0 18 (dk_at dksX5_pays_0 1 rfl rfl)
theorem dX5_pays_4 : decode cX5_pays 4 = .ok (.aload_n 0, 1) := dk_42 (dk_at dksX5_pays_0 4 rfl rfl)
theorem dX5_pays_5 : decode cX5_pays 5 = .ok (.iload_n 1, 1) := dk_27 (dk_at dksX5_pays_0 5 rfl rfl)
theorem dX5_pays_6 : decode cX5_pays 6 = .ok (.invokevirtual 41, 3) := dk_182 0 41 (dk_at dksX5_pays_0 6 rfl rfl)
theorem dX5_pays_9 : decode cX5_pays 9 = .ok (.if_icmp .lt 7, 3) := dk_161 0 7 (dk_at dksX5_pays_0 9 rfl rfl)
theorem dX5_pays_12 : decode cX5_pays 12 = .ok (.iconst 1, 1) := dk_4 (dk_at dksX5_pays_0 12 rfl rfl)
theorem dX5_pays_13 : decode cX5_pays 13 = .ok (.goto 4, 3) := dk_167 0 4 (dk_at dksX5_pays_0 13 rfl rfl)
theorem dX5_pays_16 : decode cX5_pays 16 = .ok (.iconst 0, 1) := dk_3 (dk_at dksX5_pays_0 16 rfl rfl)
theorem dX5_pays_17 : decode cX5_pays 17 = .ok (.istore_n 2, 1) := dk_61 (dk_at dksX5_pays_0 17 rfl rfl)
theorem dX5_pays_18 : decode cX5_pays 18 = .ok (.iload_n 2, 1) := dk_28 (dk_at dksX5_pays_0 18 rfl rfl)
theorem dX5_pays_19 : decode cX5_pays 19 = .ok (.ifCond .eq 22, 3) := dk_153 0 22 (dk_at dksX5_pays_0 19 rfl rfl)
theorem dX5_pays_22 : decode cX5_pays 22 = .ok (.aload_n 0, 1) := dk_42 (dk_at dksX5_pays_0 22 rfl rfl)
theorem dX5_pays_23 : decode cX5_pays 23 = .ok (.dup, 1) := dk_89 (dk_at dksX5_pays_0 23 rfl rfl)
theorem dX5_pays_24 : decode cX5_pays 24 = .ok (.getfield 18, 3) := dk_180 0 18 (dk_at dksX5_pays_1 0 rfl rfl)
theorem dX5_pays_27 : decode cX5_pays 27 = .ok (.aload_n 0, 1) := dk_42 (dk_at dksX5_pays_1 3 rfl rfl)
theorem dX5_pays_28 : decode cX5_pays 28 = .ok (.iload_n 1, 1) := dk_27 (dk_at dksX5_pays_1 4 rfl rfl)
theorem dX5_pays_29 : decode cX5_pays 29 = .ok (.invokevirtual 41, 3) := dk_182 0 41 (dk_at dksX5_pays_1 5 rfl rfl)
theorem dX5_pays_32 : decode cX5_pays 32 = .ok (.isub, 1) := dk_100 (dk_at dksX5_pays_1 8 rfl rfl)
theorem dX5_pays_33 : decode cX5_pays 33 = .ok (.putfield 18, 3) := dk_181 0 18 (dk_at dksX5_pays_1 9 rfl rfl)
theorem dX5_pays_36 : decode cX5_pays 36 = .ok (.aload_n 0, 1) := dk_42 (dk_at dksX5_pays_1 12 rfl rfl)
theorem dX5_pays_37 : decode cX5_pays 37 = .ok (.iload_n 1, 1) := dk_27 (dk_at dksX5_pays_1 13 rfl rfl)
theorem dX5_pays_38 : decode cX5_pays 38 = .ok (.invokevirtual 61, 3) := dk_182 0 61 (dk_at dksX5_pays_1 14 rfl rfl)
theorem dX5_pays_41 : decode cX5_pays 41 = .ok (.iload_n 2, 1) := dk_28 (dk_at dksX5_pays_1 17 rfl rfl)
theorem dX5_pays_42 : decode cX5_pays 42 = .ok (.ireturn, 1) := dk_172 (dk_at dksX5_pays_1 18 rfl rfl)
abbrev cX5_remove : ByteArray := prog_7_method_8_code
def yX5_remove : MethodName := ⟨RX5, "remove", "(I)V"⟩
def dkwX5_remove_1 : List UInt8 := [27, 104, 7, 42, 180, 0, 31, 27, 100, 104, 184, 0, 34, 177]
abbrev dktX5_remove_1 : List UInt8 := dkwX5_remove_1 ++ []
def dkwX5_remove_0 : List UInt8 := [42, 89, 180, 0, 31, 4, 100, 181, 0, 31, 42, 180, 0, 15, 7, 27, 4, 96, 104, 42, 180, 0, 15, 7]
abbrev dktX5_remove_0 : List UInt8 := dkwX5_remove_0 ++ dktX5_remove_1
theorem dksX5_remove_0 : cX5_remove.data.toList.drop 0 = dktX5_remove_0 := by decide +kernel
theorem dksX5_remove_1 : cX5_remove.data.toList.drop 24 = dktX5_remove_1 := dk_seg dksX5_remove_0 24 rfl rfl
theorem dX5_remove_0 : decode cX5_remove 0 = .ok (.aload_n 0, 1) := dk_42 (dk_at dksX5_remove_0 0 rfl rfl)
theorem dX5_remove_1 : decode cX5_remove 1 = .ok (.dup, 1) := dk_89 (dk_at dksX5_remove_0 1 rfl rfl)
theorem dX5_remove_2 : decode cX5_remove 2 = .ok (.getfield 31, 3) := dk_180 0 31 (dk_at dksX5_remove_0 2 rfl rfl)
theorem dX5_remove_5 : decode cX5_remove 5 = .ok (.iconst 1, 1) := dk_4 (dk_at dksX5_remove_0 5 rfl rfl)
theorem dX5_remove_6 : decode cX5_remove 6 = .ok (.isub, 1) := dk_100 (dk_at dksX5_remove_0 6 rfl rfl)
theorem dX5_remove_7 : decode cX5_remove 7 = .ok (.putfield 31, 3) := dk_181 0 31 (dk_at dksX5_remove_0 7 rfl rfl)
theorem dX5_remove_10 : decode cX5_remove 10 = .ok (.aload_n 0, 1) := dk_42 (dk_at dksX5_remove_0 10 rfl rfl)
theorem dX5_remove_11 : decode cX5_remove 11 = .ok (.getfield 15, 3) := dk_180 0 15 (dk_at dksX5_remove_0 11 rfl rfl)
theorem dX5_remove_14 : decode cX5_remove 14 = .ok (.iconst 4, 1) := dk_7 (dk_at dksX5_remove_0 14 rfl rfl)
theorem dX5_remove_15 : decode cX5_remove 15 = .ok (.iload_n 1, 1) := dk_27 (dk_at dksX5_remove_0 15 rfl rfl)
theorem dX5_remove_16 : decode cX5_remove 16 = .ok (.iconst 1, 1) := dk_4 (dk_at dksX5_remove_0 16 rfl rfl)
theorem dX5_remove_17 : decode cX5_remove 17 = .ok (.iadd, 1) := dk_96 (dk_at dksX5_remove_0 17 rfl rfl)
theorem dX5_remove_18 : decode cX5_remove 18 = .ok (.imul, 1) := dk_104 (dk_at dksX5_remove_0 18 rfl rfl)
theorem dX5_remove_19 : decode cX5_remove 19 = .ok (.aload_n 0, 1) := dk_42 (dk_at dksX5_remove_0 19 rfl rfl)
theorem dX5_remove_20 : decode cX5_remove 20 = .ok (.getfield 15, 3) := dk_180 0 15 (dk_at dksX5_remove_0 20 rfl rfl)
theorem dX5_remove_23 : decode cX5_remove 23 = .ok (.iconst 4, 1) := dk_7 (dk_at dksX5_remove_0 23 rfl rfl)
theorem dX5_remove_24 : decode cX5_remove 24 = .ok (.iload_n 1, 1) := dk_27 (dk_at dksX5_remove_1 0 rfl rfl)
theorem dX5_remove_25 : decode cX5_remove 25 = .ok (.imul, 1) := dk_104 (dk_at dksX5_remove_1 1 rfl rfl)
theorem dX5_remove_26 : decode cX5_remove 26 = .ok (.iconst 4, 1) := dk_7 (dk_at dksX5_remove_1 2 rfl rfl)
theorem dX5_remove_27 : decode cX5_remove 27 = .ok (.aload_n 0, 1) := dk_42 (dk_at dksX5_remove_1 3 rfl rfl)
theorem dX5_remove_28 : decode cX5_remove 28 = .ok (.getfield 31, 3) := dk_180 0 31 (dk_at dksX5_remove_1 4 rfl rfl)
theorem dX5_remove_31 : decode cX5_remove 31 = .ok (.iload_n 1, 1) := dk_27 (dk_at dksX5_remove_1 7 rfl rfl)
theorem dX5_remove_32 : decode cX5_remove 32 = .ok (.isub, 1) := dk_100 (dk_at dksX5_remove_1 8 rfl rfl)
theorem dX5_remove_33 : decode cX5_remove 33 = .ok (.imul, 1) := dk_104 (dk_at dksX5_remove_1 9 rfl rfl)
theorem dX5_remove_34 : decode cX5_remove 34 = .ok (.invokestatic 34, 3) := dk_184 0 34 (dk_at dksX5_remove_1 10 rfl rfl)
theorem dX5_remove_37 : decode cX5_remove 37 = .ok (.return_, 1) := dk_177 (dk_at dksX5_remove_1 13 rfl rfl)
abbrev cX5_night : ByteArray := prog_7_method_9_code
def yX5_night : MethodName := ⟨RX5, "night", "()V"⟩
def dkwX5_night_3 : List UInt8 := [18, 40, 3, 42, 180, 0, 18, 42, 180, 0, 22, 96, 27, 100, 184, 0, 54, 184, 0, 45, 181, 0, 18, 177]
abbrev dktX5_night_3 : List UInt8 := dkwX5_night_3 ++ []
def dkwX5_night_2 : List UInt8 := [184, 0, 45, 79, 27, 42, 180, 0, 9, 42, 28, 182, 0, 51, 46, 96, 60, 132, 2, 1, 167, 255, 192, 42]
abbrev dktX5_night_2 : List UInt8 := dkwX5_night_2 ++ dktX5_night_3
def dkwX5_night_1 : List UInt8 := [28, 182, 0, 41, 42, 28, 182, 0, 41, 42, 180, 0, 15, 7, 28, 104, 5, 96, 46, 104, 16, 100, 108, 96]
abbrev dktX5_night_1 : List UInt8 := dkwX5_night_1 ++ dktX5_night_2
def dkwX5_night_0 : List UInt8 := [3, 60, 3, 61, 28, 42, 180, 0, 31, 162, 0, 62, 42, 180, 0, 15, 7, 28, 104, 4, 96, 18, 40, 42]
abbrev dktX5_night_0 : List UInt8 := dkwX5_night_0 ++ dktX5_night_1
theorem dksX5_night_0 : cX5_night.data.toList.drop 0 = dktX5_night_0 := by decide +kernel
theorem dksX5_night_1 : cX5_night.data.toList.drop 24 = dktX5_night_1 := dk_seg dksX5_night_0 24 rfl rfl
theorem dksX5_night_2 : cX5_night.data.toList.drop 48 = dktX5_night_2 := dk_seg dksX5_night_1 24 rfl rfl
theorem dksX5_night_3 : cX5_night.data.toList.drop 72 = dktX5_night_3 := dk_seg dksX5_night_2 24 rfl rfl
theorem dX5_night_0 : decode cX5_night 0 = .ok (.iconst 0, 1) := dk_3 (dk_at dksX5_night_0 0 rfl rfl)
theorem dX5_night_1 : decode cX5_night 1 = .ok (.istore_n 1, 1) := dk_60 (dk_at dksX5_night_0 1 rfl rfl)
theorem dX5_night_2 : decode cX5_night 2 = .ok (.iconst 0, 1) := dk_3 (dk_at dksX5_night_0 2 rfl rfl)
theorem dX5_night_3 : decode cX5_night 3 = .ok (.istore_n 2, 1) := dk_61 (dk_at dksX5_night_0 3 rfl rfl)
theorem dX5_night_4 : decode cX5_night 4 = .ok (.iload_n 2, 1) := dk_28 (dk_at dksX5_night_0 4 rfl rfl)
theorem dX5_night_5 : decode cX5_night 5 = .ok (.aload_n 0, 1) := dk_42 (dk_at dksX5_night_0 5 rfl rfl)
theorem dX5_night_6 : decode cX5_night 6 = .ok (.getfield 31, 3) := dk_180 0 31 (dk_at dksX5_night_0 6 rfl rfl)
theorem dX5_night_9 : decode cX5_night 9 = .ok (.if_icmp .ge 62, 3) := dk_162 0 62 (dk_at dksX5_night_0 9 rfl rfl)
theorem dX5_night_12 : decode cX5_night 12 = .ok (.aload_n 0, 1) := dk_42 (dk_at dksX5_night_0 12 rfl rfl)
theorem dX5_night_13 : decode cX5_night 13 = .ok (.getfield 15, 3) := dk_180 0 15 (dk_at dksX5_night_0 13 rfl rfl)
theorem dX5_night_16 : decode cX5_night 16 = .ok (.iconst 4, 1) := dk_7 (dk_at dksX5_night_0 16 rfl rfl)
theorem dX5_night_17 : decode cX5_night 17 = .ok (.iload_n 2, 1) := dk_28 (dk_at dksX5_night_0 17 rfl rfl)
theorem dX5_night_18 : decode cX5_night 18 = .ok (.imul, 1) := dk_104 (dk_at dksX5_night_0 18 rfl rfl)
theorem dX5_night_19 : decode cX5_night 19 = .ok (.iconst 1, 1) := dk_4 (dk_at dksX5_night_0 19 rfl rfl)
theorem dX5_night_20 : decode cX5_night 20 = .ok (.iadd, 1) := dk_96 (dk_at dksX5_night_0 20 rfl rfl)
theorem dX5_night_21 : decode cX5_night 21 = .ok (.ldc 40, 2) := dk_18 40 (dk_at dksX5_night_0 21 rfl rfl)
theorem dX5_night_23 : decode cX5_night 23 = .ok (.aload_n 0, 1) := dk_42 (dk_at dksX5_night_0 23 rfl rfl)
theorem dX5_night_24 : decode cX5_night 24 = .ok (.iload_n 2, 1) := dk_28 (dk_at dksX5_night_1 0 rfl rfl)
theorem dX5_night_25 : decode cX5_night 25 = .ok (.invokevirtual 41, 3) := dk_182 0 41 (dk_at dksX5_night_1 1 rfl rfl)
theorem dX5_night_28 : decode cX5_night 28 = .ok (.aload_n 0, 1) := dk_42 (dk_at dksX5_night_1 4 rfl rfl)
theorem dX5_night_29 : decode cX5_night 29 = .ok (.iload_n 2, 1) := dk_28 (dk_at dksX5_night_1 5 rfl rfl)
theorem dX5_night_30 : decode cX5_night 30 = .ok (.invokevirtual 41, 3) := dk_182 0 41 (dk_at dksX5_night_1 6 rfl rfl)
theorem dX5_night_33 : decode cX5_night 33 = .ok (.aload_n 0, 1) := dk_42 (dk_at dksX5_night_1 9 rfl rfl)
theorem dX5_night_34 : decode cX5_night 34 = .ok (.getfield 15, 3) := dk_180 0 15 (dk_at dksX5_night_1 10 rfl rfl)
theorem dX5_night_37 : decode cX5_night 37 = .ok (.iconst 4, 1) := dk_7 (dk_at dksX5_night_1 13 rfl rfl)
theorem dX5_night_38 : decode cX5_night 38 = .ok (.iload_n 2, 1) := dk_28 (dk_at dksX5_night_1 14 rfl rfl)
theorem dX5_night_39 : decode cX5_night 39 = .ok (.imul, 1) := dk_104 (dk_at dksX5_night_1 15 rfl rfl)
theorem dX5_night_40 : decode cX5_night 40 = .ok (.iconst 2, 1) := dk_5 (dk_at dksX5_night_1 16 rfl rfl)
theorem dX5_night_41 : decode cX5_night 41 = .ok (.iadd, 1) := dk_96 (dk_at dksX5_night_1 17 rfl rfl)
theorem dX5_night_42 : decode cX5_night 42 = .ok (.iaload, 1) := dk_46 (dk_at dksX5_night_1 18 rfl rfl)
theorem dX5_night_43 : decode cX5_night 43 = .ok (.imul, 1) := dk_104 (dk_at dksX5_night_1 19 rfl rfl)
theorem dX5_night_44 : decode cX5_night 44 = .ok (.bipush 100, 2) := dk_16 100 (dk_at dksX5_night_1 20 rfl rfl)
theorem dX5_night_46 : decode cX5_night 46 = .ok (.idiv, 1) := dk_108 (dk_at dksX5_night_1 22 rfl rfl)
theorem dX5_night_47 : decode cX5_night 47 = .ok (.iadd, 1) := dk_96 (dk_at dksX5_night_1 23 rfl rfl)
theorem dX5_night_48 : decode cX5_night 48 = .ok (.invokestatic 45, 3) := dk_184 0 45 (dk_at dksX5_night_2 0 rfl rfl)
theorem dX5_night_51 : decode cX5_night 51 = .ok (.iastore, 1) := dk_79 (dk_at dksX5_night_2 3 rfl rfl)
theorem dX5_night_52 : decode cX5_night 52 = .ok (.iload_n 1, 1) := dk_27 (dk_at dksX5_night_2 4 rfl rfl)
theorem dX5_night_53 : decode cX5_night 53 = .ok (.aload_n 0, 1) := dk_42 (dk_at dksX5_night_2 5 rfl rfl)
theorem dX5_night_54 : decode cX5_night 54 = .ok (.getfield 9, 3) := dk_180 0 9 (dk_at dksX5_night_2 6 rfl rfl)
theorem dX5_night_57 : decode cX5_night 57 = .ok (.aload_n 0, 1) := dk_42 (dk_at dksX5_night_2 9 rfl rfl)
theorem dX5_night_58 : decode cX5_night 58 = .ok (.iload_n 2, 1) := dk_28 (dk_at dksX5_night_2 10 rfl rfl)
theorem dX5_night_59 : decode cX5_night 59 = .ok (.invokevirtual 51, 3) := dk_182 0 51 (dk_at dksX5_night_2 11 rfl rfl)
theorem dX5_night_62 : decode cX5_night 62 = .ok (.iaload, 1) := dk_46 (dk_at dksX5_night_2 14 rfl rfl)
theorem dX5_night_63 : decode cX5_night 63 = .ok (.iadd, 1) := dk_96 (dk_at dksX5_night_2 15 rfl rfl)
theorem dX5_night_64 : decode cX5_night 64 = .ok (.istore_n 1, 1) := dk_60 (dk_at dksX5_night_2 16 rfl rfl)
theorem dX5_night_65 : decode cX5_night 65 = .ok (.iinc 2 1, 3) := dk_132 2 1 (dk_at dksX5_night_2 17 rfl rfl)
theorem dX5_night_68 : decode cX5_night 68 = .ok (.goto (-64), 3) := dk_167 255 192 (dk_at dksX5_night_2 20 rfl rfl)
theorem dX5_night_71 : decode cX5_night 71 = .ok (.aload_n 0, 1) := dk_42 (dk_at dksX5_night_2 23 rfl rfl)
theorem dX5_night_72 : decode cX5_night 72 = .ok (.ldc 40, 2) := dk_18 40 (dk_at dksX5_night_3 0 rfl rfl)
theorem dX5_night_74 : decode cX5_night 74 = .ok (.iconst 0, 1) := dk_3 (dk_at dksX5_night_3 2 rfl rfl)
theorem dX5_night_75 : decode cX5_night 75 = .ok (.aload_n 0, 1) := dk_42 (dk_at dksX5_night_3 3 rfl rfl)
theorem dX5_night_76 : decode cX5_night 76 = .ok (.getfield 18, 3) := dk_180 0 18 (dk_at dksX5_night_3 4 rfl rfl)
theorem dX5_night_79 : decode cX5_night 79 = .ok (.aload_n 0, 1) := dk_42 (dk_at dksX5_night_3 7 rfl rfl)
theorem dX5_night_80 : decode cX5_night 80 = .ok (.getfield 22, 3) := dk_180 0 22 (dk_at dksX5_night_3 8 rfl rfl)
theorem dX5_night_83 : decode cX5_night 83 = .ok (.iadd, 1) := dk_96 (dk_at dksX5_night_3 11 rfl rfl)
theorem dX5_night_84 : decode cX5_night 84 = .ok (.iload_n 1, 1) := dk_27 (dk_at dksX5_night_3 12 rfl rfl)
theorem dX5_night_85 : decode cX5_night 85 = .ok (.isub, 1) := dk_100 (dk_at dksX5_night_3 13 rfl rfl)
theorem dX5_night_86 : decode cX5_night 86 = .ok (.invokestatic 54, 3) := dk_184 0 54 (dk_at dksX5_night_3 14 rfl rfl)
theorem dX5_night_89 : decode cX5_night 89 = .ok (.invokestatic 45, 3) := dk_184 0 45 (dk_at dksX5_night_3 17 rfl rfl)
theorem dX5_night_92 : decode cX5_night 92 = .ok (.putfield 18, 3) := dk_181 0 18 (dk_at dksX5_night_3 20 rfl rfl)
theorem dX5_night_95 : decode cX5_night 95 = .ok (.return_, 1) := dk_177 (dk_at dksX5_night_3 23 rfl rfl)
abbrev cX5_bears : ByteArray := prog_7_method_10_code
def yX5_bears : MethodName := ⟨RX5, "bears", "(I)Z"⟩
def dkwX5_bears_0 : List UInt8 := [42, 182, 0, 57, 3, 42, 180, 0, 25, 27, 100, 184, 0, 54, 163, 0, 7, 4, 167, 0, 4, 3, 172]
abbrev dktX5_bears_0 : List UInt8 := dkwX5_bears_0 ++ []
theorem dksX5_bears_0 : cX5_bears.data.toList.drop 0 = dktX5_bears_0 := by decide +kernel
theorem dX5_bears_0 : decode cX5_bears 0 = .ok (.aload_n 0, 1) := dk_42 (dk_at dksX5_bears_0 0 rfl rfl)
theorem dX5_bears_1 : decode cX5_bears 1 = .ok (.invokevirtual 57, 3) := dk_182 0 57 (dk_at dksX5_bears_0 1 rfl rfl)
theorem dX5_bears_4 : decode cX5_bears 4 = .ok (.iconst 0, 1) := dk_3 (dk_at dksX5_bears_0 4 rfl rfl)
theorem dX5_bears_5 : decode cX5_bears 5 = .ok (.aload_n 0, 1) := dk_42 (dk_at dksX5_bears_0 5 rfl rfl)
theorem dX5_bears_6 : decode cX5_bears 6 = .ok (.getfield 25, 3) := dk_180 0 25 (dk_at dksX5_bears_0 6 rfl rfl)
theorem dX5_bears_9 : decode cX5_bears 9 = .ok (.iload_n 1, 1) := dk_27 (dk_at dksX5_bears_0 9 rfl rfl)
theorem dX5_bears_10 : decode cX5_bears 10 = .ok (.isub, 1) := dk_100 (dk_at dksX5_bears_0 10 rfl rfl)
theorem dX5_bears_11 : decode cX5_bears 11 = .ok (.invokestatic 54, 3) := dk_184 0 54 (dk_at dksX5_bears_0 11 rfl rfl)
theorem dX5_bears_14 : decode cX5_bears 14 = .ok (.if_icmp .gt 7, 3) := dk_163 0 7 (dk_at dksX5_bears_0 14 rfl rfl)
theorem dX5_bears_17 : decode cX5_bears 17 = .ok (.iconst 1, 1) := dk_4 (dk_at dksX5_bears_0 17 rfl rfl)
theorem dX5_bears_18 : decode cX5_bears 18 = .ok (.goto 4, 3) := dk_167 0 4 (dk_at dksX5_bears_0 18 rfl rfl)
theorem dX5_bears_21 : decode cX5_bears 21 = .ok (.iconst 0, 1) := dk_3 (dk_at dksX5_bears_0 21 rfl rfl)
theorem dX5_bears_22 : decode cX5_bears 22 = .ok (.ireturn, 1) := dk_172 (dk_at dksX5_bears_0 22 rfl rfl)
abbrev cX5_takeFrom : ByteArray := prog_7_method_3_code
def yX5_takeFrom : MethodName := ⟨RX5, "takeFrom", "(LDebtCoats$Wearer;)V"⟩
def dkwX5_takeFrom_2 : List UInt8 := [180, 0, 9, 3, 8, 184, 0, 34, 43, 180, 0, 15, 3, 42, 180, 0, 15, 3, 16, 32, 184, 0, 34, 177]
abbrev dktX5_takeFrom_2 : List UInt8 := dkwX5_takeFrom_2 ++ []
def dkwX5_takeFrom_1 : List UInt8 := [42, 43, 180, 0, 28, 181, 0, 28, 42, 43, 180, 0, 31, 181, 0, 31, 43, 180, 0, 9, 3, 42]
abbrev dktX5_takeFrom_1 : List UInt8 := dkwX5_takeFrom_1 ++ dktX5_takeFrom_2
def dkwX5_takeFrom_0 : List UInt8 := [42, 43, 180, 0, 18, 181, 0, 18, 42, 43, 180, 0, 22, 181, 0, 22, 42, 43, 180, 0, 25, 181, 0, 25]
abbrev dktX5_takeFrom_0 : List UInt8 := dkwX5_takeFrom_0 ++ dktX5_takeFrom_1
theorem dksX5_takeFrom_0 : cX5_takeFrom.data.toList.drop 0 = dktX5_takeFrom_0 := by decide +kernel
theorem dksX5_takeFrom_1 : cX5_takeFrom.data.toList.drop 24 = dktX5_takeFrom_1 := dk_seg dksX5_takeFrom_0 24 rfl rfl
theorem dksX5_takeFrom_2 : cX5_takeFrom.data.toList.drop 46 = dktX5_takeFrom_2 := dk_seg dksX5_takeFrom_1 22 rfl rfl
theorem dX5_takeFrom_0 : decode cX5_takeFrom 0 = .ok (.aload_n 0, 1) := dk_42 (dk_at dksX5_takeFrom_0 0 rfl rfl)
theorem dX5_takeFrom_1 : decode cX5_takeFrom 1 = .ok (.aload_n 1, 1) := dk_43 (dk_at dksX5_takeFrom_0 1 rfl rfl)
theorem dX5_takeFrom_2 : decode cX5_takeFrom 2 = .ok (.getfield 18, 3) := dk_180 0 18 (dk_at dksX5_takeFrom_0 2 rfl rfl)
theorem dX5_takeFrom_5 : decode cX5_takeFrom 5 = .ok (.putfield 18, 3) := dk_181 0 18 (dk_at dksX5_takeFrom_0 5 rfl rfl)
theorem dX5_takeFrom_8 : decode cX5_takeFrom 8 = .ok (.aload_n 0, 1) := dk_42 (dk_at dksX5_takeFrom_0 8 rfl rfl)
theorem dX5_takeFrom_9 : decode cX5_takeFrom 9 = .ok (.aload_n 1, 1) := dk_43 (dk_at dksX5_takeFrom_0 9 rfl rfl)
theorem dX5_takeFrom_10 : decode cX5_takeFrom 10 = .ok (.getfield 22, 3) := dk_180 0 22 (dk_at dksX5_takeFrom_0 10 rfl rfl)
theorem dX5_takeFrom_13 : decode cX5_takeFrom 13 = .ok (.putfield 22, 3) := dk_181 0 22 (dk_at dksX5_takeFrom_0 13 rfl rfl)
theorem dX5_takeFrom_16 : decode cX5_takeFrom 16 = .ok (.aload_n 0, 1) := dk_42 (dk_at dksX5_takeFrom_0 16 rfl rfl)
theorem dX5_takeFrom_17 : decode cX5_takeFrom 17 = .ok (.aload_n 1, 1) := dk_43 (dk_at dksX5_takeFrom_0 17 rfl rfl)
theorem dX5_takeFrom_18 : decode cX5_takeFrom 18 = .ok (.getfield 25, 3) := dk_180 0 25 (dk_at dksX5_takeFrom_0 18 rfl rfl)
theorem dX5_takeFrom_21 : decode cX5_takeFrom 21 = .ok (.putfield 25, 3) := dk_181 0 25 (dk_at dksX5_takeFrom_0 21 rfl rfl)
theorem dX5_takeFrom_24 : decode cX5_takeFrom 24 = .ok (.aload_n 0, 1) := dk_42 (dk_at dksX5_takeFrom_1 0 rfl rfl)
theorem dX5_takeFrom_25 : decode cX5_takeFrom 25 = .ok (.aload_n 1, 1) := dk_43 (dk_at dksX5_takeFrom_1 1 rfl rfl)
theorem dX5_takeFrom_26 : decode cX5_takeFrom 26 = .ok (.getfield 28, 3) := dk_180 0 28 (dk_at dksX5_takeFrom_1 2 rfl rfl)
theorem dX5_takeFrom_29 : decode cX5_takeFrom 29 = .ok (.putfield 28, 3) := dk_181 0 28 (dk_at dksX5_takeFrom_1 5 rfl rfl)
theorem dX5_takeFrom_32 : decode cX5_takeFrom 32 = .ok (.aload_n 0, 1) := dk_42 (dk_at dksX5_takeFrom_1 8 rfl rfl)
theorem dX5_takeFrom_33 : decode cX5_takeFrom 33 = .ok (.aload_n 1, 1) := dk_43 (dk_at dksX5_takeFrom_1 9 rfl rfl)
theorem dX5_takeFrom_34 : decode cX5_takeFrom 34 = .ok (.getfield 31, 3) := dk_180 0 31 (dk_at dksX5_takeFrom_1 10 rfl rfl)
theorem dX5_takeFrom_37 : decode cX5_takeFrom 37 = .ok (.putfield 31, 3) := dk_181 0 31 (dk_at dksX5_takeFrom_1 13 rfl rfl)
theorem dX5_takeFrom_40 : decode cX5_takeFrom 40 = .ok (.aload_n 1, 1) := dk_43 (dk_at dksX5_takeFrom_1 16 rfl rfl)
theorem dX5_takeFrom_41 : decode cX5_takeFrom 41 = .ok (.getfield 9, 3) := dk_180 0 9 (dk_at dksX5_takeFrom_1 17 rfl rfl)
theorem dX5_takeFrom_44 : decode cX5_takeFrom 44 = .ok (.iconst 0, 1) := dk_3 (dk_at dksX5_takeFrom_1 20 rfl rfl)
theorem dX5_takeFrom_45 : decode cX5_takeFrom 45 = .ok (.aload_n 0, 1) := dk_42 (dk_at dksX5_takeFrom_1 21 rfl rfl)
theorem dX5_takeFrom_46 : decode cX5_takeFrom 46 = .ok (.getfield 9, 3) := dk_180 0 9 (dk_at dksX5_takeFrom_2 0 rfl rfl)
theorem dX5_takeFrom_49 : decode cX5_takeFrom 49 = .ok (.iconst 0, 1) := dk_3 (dk_at dksX5_takeFrom_2 3 rfl rfl)
theorem dX5_takeFrom_50 : decode cX5_takeFrom 50 = .ok (.iconst 5, 1) := dk_8 (dk_at dksX5_takeFrom_2 4 rfl rfl)
theorem dX5_takeFrom_51 : decode cX5_takeFrom 51 = .ok (.invokestatic 34, 3) := dk_184 0 34 (dk_at dksX5_takeFrom_2 5 rfl rfl)
theorem dX5_takeFrom_54 : decode cX5_takeFrom 54 = .ok (.aload_n 1, 1) := dk_43 (dk_at dksX5_takeFrom_2 8 rfl rfl)
theorem dX5_takeFrom_55 : decode cX5_takeFrom 55 = .ok (.getfield 15, 3) := dk_180 0 15 (dk_at dksX5_takeFrom_2 9 rfl rfl)
theorem dX5_takeFrom_58 : decode cX5_takeFrom 58 = .ok (.iconst 0, 1) := dk_3 (dk_at dksX5_takeFrom_2 12 rfl rfl)
theorem dX5_takeFrom_59 : decode cX5_takeFrom 59 = .ok (.aload_n 0, 1) := dk_42 (dk_at dksX5_takeFrom_2 13 rfl rfl)
theorem dX5_takeFrom_60 : decode cX5_takeFrom 60 = .ok (.getfield 15, 3) := dk_180 0 15 (dk_at dksX5_takeFrom_2 14 rfl rfl)
theorem dX5_takeFrom_63 : decode cX5_takeFrom 63 = .ok (.iconst 0, 1) := dk_3 (dk_at dksX5_takeFrom_2 17 rfl rfl)
theorem dX5_takeFrom_64 : decode cX5_takeFrom 64 = .ok (.bipush 32, 2) := dk_16 32 (dk_at dksX5_takeFrom_2 18 rfl rfl)
theorem dX5_takeFrom_66 : decode cX5_takeFrom 66 = .ok (.invokestatic 34, 3) := dk_184 0 34 (dk_at dksX5_takeFrom_2 20 rfl rfl)
theorem dX5_takeFrom_69 : decode cX5_takeFrom 69 = .ok (.return_, 1) := dk_177 (dk_at dksX5_takeFrom_2 23 rfl rfl)
theorem q50 : (Jvm.Cond.initialized "DebtCoats$Wearer") ∈ lw_all := lw_g (lw_at lw_m1 6 rfl) rfl
theorem q105 : (Jvm.Cond.instantiable "DebtCoats$Wearer" (7 : Nat)) ∈ lw_all := lw_g (lw_at lw_m1 61 rfl) rfl
theorem q107 : (Jvm.Cond.instanceMethod ({ cls := "DebtCoats$Wearer", name := "<init>", desc := "()V" } : Jvm.MethodName)) ∈ lw_all := lw_g (lw_at lw_m1 63 rfl) rfl
theorem q108 : (Jvm.Cond.code ({ cls := "DebtCoats$Wearer", name := "<init>", desc := "()V" } : Jvm.MethodName) prog_7_method_1_code (1 : Nat) (Option.none : Option Jvm.ClassFile.FieldType)) ∈ lw_all := lw_g (lw_at lw_m1 64 rfl) rfl
theorem q109 : (Jvm.Cond.methodLink "DebtCoats$Wearer" (3 : Nat) ({ cls := "java/lang/Object", name := "<init>", desc := "()V" } : Jvm.MethodName)) ∈ lw_all := lw_g (lw_at lw_m1 65 rfl) rfl
theorem q110 : (Jvm.Cond.fieldLink "DebtCoats$Wearer" (18 : Nat) "DebtCoats$Wearer" "purse" "I") ∈ lw_all := lw_g (lw_at lw_m1 66 rfl) rfl
theorem q113 : (Jvm.Cond.fieldLink "DebtCoats$Wearer" (22 : Nat) "DebtCoats$Wearer" "income" "I") ∈ lw_all := lw_g (lw_at lw_m1 69 rfl) rfl
theorem q115 : (Jvm.Cond.fieldLink "DebtCoats$Wearer" (25 : Nat) "DebtCoats$Wearer" "strength" "I") ∈ lw_all := lw_g (lw_at lw_m1 71 rfl) rfl
theorem q117 : (Jvm.Cond.fieldLink "DebtCoats$Wearer" (28 : Nat) "DebtCoats$Wearer" "fell" "I") ∈ lw_all := lw_g (lw_at lw_m1 73 rfl) rfl
theorem q120 : (Jvm.Cond.fieldLink "DebtCoats$Wearer" (9 : Nat) "DebtCoats$Wearer" "taxes" "[I") ∈ lw_all := lw_g (lw_at lw_m1 76 rfl) rfl
theorem q122 : (Jvm.Cond.fieldLink "DebtCoats$Wearer" (15 : Nat) "DebtCoats$Wearer" "coats" "[I") ∈ lw_all := lw_g (lw_at lw_m1 78 rfl) rfl
theorem q126 : (Jvm.Cond.fieldLink "DebtCoats$Wearer" (31 : Nat) "DebtCoats$Wearer" "many" "I") ∈ lw_all := lw_g (lw_at lw_m1 82 rfl) rfl
theorem q128 : (Jvm.Cond.lays "DebtCoats$Wearer" "DebtCoats$Wearer" "purse" "I") ∈ lw_all := lw_g (lw_at lw_m1 84 rfl) rfl
theorem q129 : (Jvm.Cond.soleField "DebtCoats$Wearer" "purse") ∈ lw_all := lw_g (lw_at lw_m1 85 rfl) rfl
theorem q130 : (Jvm.Cond.lays "DebtCoats$Wearer" "DebtCoats$Wearer" "income" "I") ∈ lw_all := lw_g (lw_at lw_m1 86 rfl) rfl
theorem q131 : (Jvm.Cond.soleField "DebtCoats$Wearer" "income") ∈ lw_all := lw_g (lw_at lw_m1 87 rfl) rfl
theorem q132 : (Jvm.Cond.lays "DebtCoats$Wearer" "DebtCoats$Wearer" "strength" "I") ∈ lw_all := lw_g (lw_at lw_m1 88 rfl) rfl
theorem q133 : (Jvm.Cond.soleField "DebtCoats$Wearer" "strength") ∈ lw_all := lw_g (lw_at lw_m1 89 rfl) rfl
theorem q134 : (Jvm.Cond.lays "DebtCoats$Wearer" "DebtCoats$Wearer" "fell" "I") ∈ lw_all := lw_g (lw_at lw_m1 90 rfl) rfl
theorem q135 : (Jvm.Cond.soleField "DebtCoats$Wearer" "fell") ∈ lw_all := lw_g (lw_at lw_m1 91 rfl) rfl
theorem q136 : (Jvm.Cond.laysFinal "DebtCoats$Wearer" "DebtCoats$Wearer" "taxes" "[I") ∈ lw_all := lw_g (lw_at lw_m1 92 rfl) rfl
theorem q137 : (Jvm.Cond.soleField "DebtCoats$Wearer" "taxes") ∈ lw_all := lw_g (lw_at lw_m1 93 rfl) rfl
theorem q138 : (Jvm.Cond.laysFinal "DebtCoats$Wearer" "DebtCoats$Wearer" "coats" "[I") ∈ lw_all := lw_g (lw_at lw_m1 94 rfl) rfl
theorem q139 : (Jvm.Cond.soleField "DebtCoats$Wearer" "coats") ∈ lw_all := lw_g (lw_at lw_m1 95 rfl) rfl
theorem q140 : (Jvm.Cond.lays "DebtCoats$Wearer" "DebtCoats$Wearer" "many" "I") ∈ lw_all := lw_g (lw_at lw_m1 96 rfl) rfl
theorem q141 : (Jvm.Cond.soleField "DebtCoats$Wearer" "many") ∈ lw_all := lw_g (lw_at lw_m1 97 rfl) rfl
theorem q142 : (Jvm.Cond.superclass "DebtCoats$Wearer" "java/lang/Object") ∈ lw_all := lw_g (lw_at lw_m1 98 rfl) rfl
theorem q348 : (Jvm.Cond.instanceMethod ({ cls := "DebtCoats$Wearer", name := "lay", desc := "(III)V" } : Jvm.MethodName)) ∈ lw_all := lw_g (lw_at lw_m2 64 rfl) rfl
theorem q349 : (Jvm.Cond.selects "DebtCoats$Wearer" ({ cls := "DebtCoats$Wearer", name := "lay", desc := "(III)V" } : Jvm.MethodName) ({ cls := "DebtCoats$Wearer", name := "lay", desc := "(III)V" } : Jvm.MethodName)) ∈ lw_all := lw_g (lw_at lw_m2 65 rfl) rfl
theorem q350 : (Jvm.Cond.code ({ cls := "DebtCoats$Wearer", name := "lay", desc := "(III)V" } : Jvm.MethodName) prog_7_method_2_code (5 : Nat) (Option.none : Option Jvm.ClassFile.FieldType)) ∈ lw_all := lw_g (lw_at lw_m2 66 rfl) rfl
theorem q360 : (Jvm.Cond.instanceMethod ({ cls := "DebtCoats$Wearer", name := "thick", desc := "()I" } : Jvm.MethodName)) ∈ lw_all := lw_g (lw_at lw_m2 76 rfl) rfl
theorem q361 : (Jvm.Cond.selects "DebtCoats$Wearer" ({ cls := "DebtCoats$Wearer", name := "thick", desc := "()I" } : Jvm.MethodName) ({ cls := "DebtCoats$Wearer", name := "thick", desc := "()I" } : Jvm.MethodName)) ∈ lw_all := lw_g (lw_at lw_m2 77 rfl) rfl
theorem q362 : (Jvm.Cond.code ({ cls := "DebtCoats$Wearer", name := "thick", desc := "()I" } : Jvm.MethodName) prog_7_method_6_code (3 : Nat) (Option.some Jvm.ClassFile.FieldType.int)) ∈ lw_all := lw_g (lw_at lw_m2 78 rfl) rfl
theorem q367 : (Jvm.Cond.instanceMethod ({ cls := "DebtCoats$Wearer", name := "lender", desc := "(I)I" } : Jvm.MethodName)) ∈ lw_all := lw_g (lw_at lw_m2 83 rfl) rfl
theorem q368 : (Jvm.Cond.selects "DebtCoats$Wearer" ({ cls := "DebtCoats$Wearer", name := "lender", desc := "(I)I" } : Jvm.MethodName) ({ cls := "DebtCoats$Wearer", name := "lender", desc := "(I)I" } : Jvm.MethodName)) ∈ lw_all := lw_g (lw_at lw_m2 84 rfl) rfl
theorem q369 : (Jvm.Cond.code ({ cls := "DebtCoats$Wearer", name := "lender", desc := "(I)I" } : Jvm.MethodName) prog_7_method_4_code (2 : Nat) (Option.some Jvm.ClassFile.FieldType.int)) ∈ lw_all := lw_g (lw_at lw_m2 85 rfl) rfl
theorem q371 : (Jvm.Cond.instanceMethod ({ cls := "DebtCoats$Wearer", name := "amount", desc := "(I)I" } : Jvm.MethodName)) ∈ lw_all := lw_g (lw_at lw_m2 87 rfl) rfl
theorem q372 : (Jvm.Cond.selects "DebtCoats$Wearer" ({ cls := "DebtCoats$Wearer", name := "amount", desc := "(I)I" } : Jvm.MethodName) ({ cls := "DebtCoats$Wearer", name := "amount", desc := "(I)I" } : Jvm.MethodName)) ∈ lw_all := lw_g (lw_at lw_m2 88 rfl) rfl
theorem q373 : (Jvm.Cond.code ({ cls := "DebtCoats$Wearer", name := "amount", desc := "(I)I" } : Jvm.MethodName) prog_7_method_5_code (2 : Nat) (Option.some Jvm.ClassFile.FieldType.int)) ∈ lw_all := lw_g (lw_at lw_m2 89 rfl) rfl
theorem q440 : (Jvm.Cond.instanceMethod ({ cls := "DebtCoats$Wearer", name := "put", desc := "(IIII)V" } : Jvm.MethodName)) ∈ lw_all := lw_g (lw_at lw_m2 156 rfl) rfl
theorem q441 : (Jvm.Cond.selects "DebtCoats$Wearer" ({ cls := "DebtCoats$Wearer", name := "put", desc := "(IIII)V" } : Jvm.MethodName) ({ cls := "DebtCoats$Wearer", name := "put", desc := "(IIII)V" } : Jvm.MethodName)) ∈ lw_all := lw_g (lw_at lw_m2 157 rfl) rfl
theorem q442 : (Jvm.Cond.code ({ cls := "DebtCoats$Wearer", name := "put", desc := "(IIII)V" } : Jvm.MethodName) prog_7_method_7_code (5 : Nat) (Option.none : Option Jvm.ClassFile.FieldType)) ∈ lw_all := lw_g (lw_at lw_m2 158 rfl) rfl
theorem q472 : (Jvm.Cond.instanceMethod ({ cls := "DebtCoats$Wearer", name := "pays", desc := "(I)Z" } : Jvm.MethodName)) ∈ lw_all := lw_g (lw_at lw_m2 188 rfl) rfl
theorem q473 : (Jvm.Cond.selects "DebtCoats$Wearer" ({ cls := "DebtCoats$Wearer", name := "pays", desc := "(I)Z" } : Jvm.MethodName) ({ cls := "DebtCoats$Wearer", name := "pays", desc := "(I)Z" } : Jvm.MethodName)) ∈ lw_all := lw_g (lw_at lw_m2 189 rfl) rfl
theorem q474 : (Jvm.Cond.code ({ cls := "DebtCoats$Wearer", name := "pays", desc := "(I)Z" } : Jvm.MethodName) prog_7_method_11_code (3 : Nat) (Option.some Jvm.ClassFile.FieldType.boolean)) ∈ lw_all := lw_g (lw_at lw_m2 190 rfl) rfl
theorem q475 : (Jvm.Cond.methodLink "DebtCoats$Wearer" (41 : Nat) ({ cls := "DebtCoats$Wearer", name := "amount", desc := "(I)I" } : Jvm.MethodName)) ∈ lw_all := lw_g (lw_at lw_m2 191 rfl) rfl
theorem q476 : (Jvm.Cond.methodLink "DebtCoats$Wearer" (61 : Nat) ({ cls := "DebtCoats$Wearer", name := "remove", desc := "(I)V" } : Jvm.MethodName)) ∈ lw_all := lw_g (lw_at lw_m2 192 rfl) rfl
theorem q477 : (Jvm.Cond.instanceMethod ({ cls := "DebtCoats$Wearer", name := "remove", desc := "(I)V" } : Jvm.MethodName)) ∈ lw_all := lw_g (lw_at lw_m2 193 rfl) rfl
theorem q478 : (Jvm.Cond.selects "DebtCoats$Wearer" ({ cls := "DebtCoats$Wearer", name := "remove", desc := "(I)V" } : Jvm.MethodName) ({ cls := "DebtCoats$Wearer", name := "remove", desc := "(I)V" } : Jvm.MethodName)) ∈ lw_all := lw_g (lw_at lw_m2 194 rfl) rfl
theorem q479 : (Jvm.Cond.code ({ cls := "DebtCoats$Wearer", name := "remove", desc := "(I)V" } : Jvm.MethodName) prog_7_method_8_code (2 : Nat) (Option.none : Option Jvm.ClassFile.FieldType)) ∈ lw_all := lw_g (lw_at lw_m2 195 rfl) rfl
theorem q480 : (Jvm.Cond.methodLink "DebtCoats$Wearer" (34 : Nat) ({ cls := "java/lang/System", name := "arraycopy", desc := "(Ljava/lang/Object;ILjava/lang/Object;II)V" } : Jvm.MethodName)) ∈ lw_all := lw_g (lw_at lw_m2 196 rfl) rfl
theorem q490 : (Jvm.Cond.instanceMethod ({ cls := "DebtCoats$Wearer", name := "night", desc := "()V" } : Jvm.MethodName)) ∈ lw_all := lw_g (lw_at lw_m2 206 rfl) rfl
theorem q491 : (Jvm.Cond.selects "DebtCoats$Wearer" ({ cls := "DebtCoats$Wearer", name := "night", desc := "()V" } : Jvm.MethodName) ({ cls := "DebtCoats$Wearer", name := "night", desc := "()V" } : Jvm.MethodName)) ∈ lw_all := lw_g (lw_at lw_m2 207 rfl) rfl
theorem q492 : (Jvm.Cond.code ({ cls := "DebtCoats$Wearer", name := "night", desc := "()V" } : Jvm.MethodName) prog_7_method_9_code (3 : Nat) (Option.none : Option Jvm.ClassFile.FieldType)) ∈ lw_all := lw_g (lw_at lw_m2 208 rfl) rfl
theorem q493 : (Jvm.Cond.constant "DebtCoats$Wearer" (40 : Nat) (999999 : Int32)) ∈ lw_all := lw_g (lw_at lw_m2 209 rfl) rfl
theorem q494 : (Jvm.Cond.methodLink "DebtCoats$Wearer" (45 : Nat) ({ cls := "java/lang/Math", name := "min", desc := "(II)I" } : Jvm.MethodName)) ∈ lw_all := lw_g (lw_at lw_m2 210 rfl) rfl
theorem q495 : (Jvm.Cond.methodLink "DebtCoats$Wearer" (51 : Nat) ({ cls := "DebtCoats$Wearer", name := "lender", desc := "(I)I" } : Jvm.MethodName)) ∈ lw_all := lw_g (lw_at lw_m2 211 rfl) rfl
theorem q496 : (Jvm.Cond.methodLink "DebtCoats$Wearer" (54 : Nat) ({ cls := "java/lang/Math", name := "max", desc := "(II)I" } : Jvm.MethodName)) ∈ lw_all := lw_g (lw_at lw_m2 212 rfl) rfl
theorem q504 : (Jvm.Cond.instanceMethod ({ cls := "DebtCoats$Wearer", name := "bears", desc := "(I)Z" } : Jvm.MethodName)) ∈ lw_all := lw_g (lw_at lw_m2 220 rfl) rfl
theorem q505 : (Jvm.Cond.selects "DebtCoats$Wearer" ({ cls := "DebtCoats$Wearer", name := "bears", desc := "(I)Z" } : Jvm.MethodName) ({ cls := "DebtCoats$Wearer", name := "bears", desc := "(I)Z" } : Jvm.MethodName)) ∈ lw_all := lw_g (lw_at lw_m2 221 rfl) rfl
theorem q506 : (Jvm.Cond.code ({ cls := "DebtCoats$Wearer", name := "bears", desc := "(I)Z" } : Jvm.MethodName) prog_7_method_10_code (2 : Nat) (Option.some Jvm.ClassFile.FieldType.boolean)) ∈ lw_all := lw_g (lw_at lw_m2 222 rfl) rfl
theorem q507 : (Jvm.Cond.methodLink "DebtCoats$Wearer" (57 : Nat) ({ cls := "DebtCoats$Wearer", name := "thick", desc := "()I" } : Jvm.MethodName)) ∈ lw_all := lw_g (lw_at lw_m2 223 rfl) rfl
theorem q562 : (Jvm.Cond.instanceMethod ({ cls := "DebtCoats$Wearer", name := "takeFrom", desc := "(LDebtCoats$Wearer;)V" } : Jvm.MethodName)) ∈ lw_all := lw_g (lw_at lw_m3 38 rfl) rfl
theorem q563 : (Jvm.Cond.selects "DebtCoats$Wearer" ({ cls := "DebtCoats$Wearer", name := "takeFrom", desc := "(LDebtCoats$Wearer;)V" } : Jvm.MethodName) ({ cls := "DebtCoats$Wearer", name := "takeFrom", desc := "(LDebtCoats$Wearer;)V" } : Jvm.MethodName)) ∈ lw_all := lw_g (lw_at lw_m3 39 rfl) rfl
theorem q564 : (Jvm.Cond.code ({ cls := "DebtCoats$Wearer", name := "takeFrom", desc := "(LDebtCoats$Wearer;)V" } : Jvm.MethodName) prog_7_method_3_code (2 : Nat) (Option.none : Option Jvm.ClassFile.FieldType)) ∈ lw_all := lw_g (lw_at lw_m3 40 rfl) rfl
theorem in_X5 : ∀ w ∈ wsX50, w ∈ lw_all := lw_in wsX50 [128, 130, 132, 134, 136, 138, 140] (by decide +kernel) (by decide +kernel)
/-! DebtCoats$Fault -/
set_option maxRecDepth 100000
def RX6 : String := "DebtCoats$Fault"
def TX6 : u_T := fun k => match k with
  | 0 => ("java/lang/Throwable", "cause", "Ljava/lang/Throwable;", false)
  | 1 => ("java/lang/Throwable", "stackTrace", "[Ljava/lang/StackTraceElement;", false)
  | 2 => ("java/lang/Throwable", "suppressedExceptions", "Ljava/util/List;", false)
  | 3 => ("java/lang/Throwable", "detailMessage", "Ljava/lang/String;", false)
  | 4 => ("java/lang/Throwable", "backtrace", "Ljava/lang/Object;", false)
  | 5 => ("java/lang/Throwable", "depth", "I", false)
  | _ => ("DebtCoats$Fault", "place", "I", false)
def tyX6 : Nat → FieldType := fun k => match k with
  | 0 => .object "java/lang/Throwable"
  | 1 => .array (.object "java/lang/StackTraceElement")
  | 2 => .object "java/util/List"
  | 3 => .object "java/lang/String"
  | 4 => .object "java/lang/Object"
  | 5 => .int
  | _ => .int
abbrev wsX60 : List Cond := u_ws RX6 TX6 7
theorem nmX6 : ∀ a, a < 7 → ∀ b, b < 7 → a ≠ b → (TX6 a).2.1 ≠ (TX6 b).2.1 := by decide +kernel
theorem tyX6_ok : ∀ k, k < 7 → parseFieldDescriptor (TX6 k).2.2.1 = some (tyX6 k) := by decide +kernel
abbrev cX6_init : ByteArray := prog_3_method_1_code
def yX6_init : MethodName := ⟨RX6, "<init>", "()V"⟩
def dkwX6_init_0 : List UInt8 := [42, 1, 1, 3, 3, 183, 0, 1, 177]
abbrev dktX6_init_0 : List UInt8 := dkwX6_init_0 ++ []
theorem dksX6_init_0 : cX6_init.data.toList.drop 0 = dktX6_init_0 := by decide +kernel
theorem dX6_init_0 : decode cX6_init 0 = .ok (.aload_n 0, 1) := dk_42 (dk_at dksX6_init_0 0 rfl rfl)
theorem dX6_init_1 : decode cX6_init 1 = .ok (.aconst_null, 1) := dk_1 (dk_at dksX6_init_0 1 rfl rfl)
theorem dX6_init_2 : decode cX6_init 2 = .ok (.aconst_null, 1) := dk_1 (dk_at dksX6_init_0 2 rfl rfl)
theorem dX6_init_3 : decode cX6_init 3 = .ok (.iconst 0, 1) := dk_3 (dk_at dksX6_init_0 3 rfl rfl)
theorem dX6_init_4 : decode cX6_init 4 = .ok (.iconst 0, 1) := dk_3 (dk_at dksX6_init_0 4 rfl rfl)
theorem dX6_init_5 : decode cX6_init 5 = .ok (.invokespecial 1, 3) := dk_183 0 1 (dk_at dksX6_init_0 5 rfl rfl)
theorem dX6_init_8 : decode cX6_init 8 = .ok (.return_, 1) := dk_177 (dk_at dksX6_init_0 8 rfl rfl)
theorem q53 : (Jvm.Cond.initialized "DebtCoats$Fault") ∈ lw_all := lw_g (lw_at lw_m1 9 rfl) rfl
theorem q172 : (Jvm.Cond.instantiable "DebtCoats$Fault" (7 : Nat)) ∈ lw_all := lw_g (lw_at lw_m1 128 rfl) rfl
theorem q173 : (Jvm.Cond.castable "DebtCoats$Fault" "DebtCoats$Fault") ∈ lw_tbl := lw_at lw_m1 129 rfl
theorem q178 : (Jvm.Cond.selects "DebtCoats$Fault" ({ cls := "java/lang/Throwable", name := "fillInStackTrace", desc := "(I)Ljava/lang/Throwable;" } : Jvm.MethodName) ({ cls := "java/lang/Throwable", name := "fillInStackTrace", desc := "(I)Ljava/lang/Throwable;" } : Jvm.MethodName)) ∈ lw_all := lw_g (lw_at lw_m1 134 rfl) rfl
theorem q179 : (Jvm.Cond.selects "DebtCoats$Fault" ({ cls := "java/lang/Throwable", name := "fillInStackTrace", desc := "()Ljava/lang/Throwable;" } : Jvm.MethodName) ({ cls := "java/lang/Throwable", name := "fillInStackTrace", desc := "()Ljava/lang/Throwable;" } : Jvm.MethodName)) ∈ lw_all := lw_g (lw_at lw_m1 135 rfl) rfl
theorem q180 : (Jvm.Cond.lays "DebtCoats$Fault" "java/lang/Throwable" "cause" "Ljava/lang/Throwable;") ∈ lw_all := lw_g (lw_at lw_m1 136 rfl) rfl
theorem q182 : (Jvm.Cond.lays "DebtCoats$Fault" "java/lang/Throwable" "stackTrace" "[Ljava/lang/StackTraceElement;") ∈ lw_all := lw_g (lw_at lw_m1 138 rfl) rfl
theorem q184 : (Jvm.Cond.lays "DebtCoats$Fault" "java/lang/Throwable" "suppressedExceptions" "Ljava/util/List;") ∈ lw_all := lw_g (lw_at lw_m1 140 rfl) rfl
theorem q186 : (Jvm.Cond.lays "DebtCoats$Fault" "java/lang/Throwable" "detailMessage" "Ljava/lang/String;") ∈ lw_all := lw_g (lw_at lw_m1 142 rfl) rfl
theorem q188 : (Jvm.Cond.lays "DebtCoats$Fault" "java/lang/Throwable" "backtrace" "Ljava/lang/Object;") ∈ lw_all := lw_g (lw_at lw_m1 144 rfl) rfl
theorem q227 : (Jvm.Cond.instanceMethod ({ cls := "DebtCoats$Fault", name := "<init>", desc := "()V" } : Jvm.MethodName)) ∈ lw_all := lw_g (lw_at lw_m1 183 rfl) rfl
theorem q228 : (Jvm.Cond.code ({ cls := "DebtCoats$Fault", name := "<init>", desc := "()V" } : Jvm.MethodName) prog_3_method_1_code (1 : Nat) (Option.none : Option Jvm.ClassFile.FieldType)) ∈ lw_all := lw_g (lw_at lw_m1 184 rfl) rfl
theorem q229 : (Jvm.Cond.methodLink "DebtCoats$Fault" (1 : Nat) ({ cls := "java/lang/Exception", name := "<init>", desc := "(Ljava/lang/String;Ljava/lang/Throwable;ZZ)V" } : Jvm.MethodName)) ∈ lw_all := lw_g (lw_at lw_m1 185 rfl) rfl
theorem q241 : (Jvm.Cond.lays "DebtCoats$Fault" "DebtCoats$Fault" "place" "I") ∈ lw_all := lw_g (lw_at lw_m1 197 rfl) rfl
theorem q242 : (Jvm.Cond.soleField "DebtCoats$Fault" "place") ∈ lw_all := lw_g (lw_at lw_m1 198 rfl) rfl
theorem q247 : (Jvm.Cond.lays "DebtCoats$Fault" "java/lang/Throwable" "depth" "I") ∈ lw_all := lw_g (lw_at lw_m1 203 rfl) rfl
theorem q250 : (Jvm.Cond.superclass "DebtCoats$Fault" "java/lang/Exception") ∈ lw_all := lw_g (lw_at lw_m1 206 rfl) rfl
theorem in_X6 : ∀ w ∈ wsX60, w ∈ lw_all := lw_in wsX60 [180, 182, 184, 186, 188, 247, 241] (by decide +kernel) (by decide +kernel)
/-! DebtCoats$Sheet -/
set_option maxRecDepth 100000
def RX7 : String := "DebtCoats$Sheet"
def TX7 : u_T := fun k => match k with
  | _ => ("DebtCoats$Sheet", "row", "Ljava/lang/Object;", false)
def tyX7 : Nat → FieldType := fun k => match k with
  | _ => .object "java/lang/Object"
abbrev wsX70 : List Cond := u_ws RX7 TX7 1
theorem nmX7 : ∀ a, a < 1 → ∀ b, b < 1 → a ≠ b → (TX7 a).2.1 ≠ (TX7 b).2.1 := by decide +kernel
theorem tyX7_ok : ∀ k, k < 1 → parseFieldDescriptor (TX7 k).2.2.1 = some (tyX7 k) := by decide +kernel
abbrev cX7_init : ByteArray := prog_6_method_1_code
def yX7_init : MethodName := ⟨RX7, "<init>", "()V"⟩
theorem dX7_init_0 : decode cX7_init 0 = .ok (.aload_n 0, 1) := by decide +kernel
theorem dX7_init_1 : decode cX7_init 1 = .ok (.invokespecial 1, 3) := by decide +kernel
theorem dX7_init_4 : decode cX7_init 4 = .ok (.return_, 1) := by decide +kernel
abbrev cX7_lane : ByteArray := prog_6_method_2_code
def yX7_lane : MethodName := ⟨RX7, "lane", "()I"⟩
def dkwX7_lane_1 : List UInt8 := [4, 167, 0, 4, 5, 172]
abbrev dktX7_lane_1 : List UInt8 := dkwX7_lane_1 ++ []
def dkwX7_lane_0 : List UInt8 := [42, 180, 0, 7, 193, 0, 13, 153, 0, 7, 3, 167, 0, 18, 42, 180, 0, 7, 193, 0, 15, 153, 0, 7]
abbrev dktX7_lane_0 : List UInt8 := dkwX7_lane_0 ++ dktX7_lane_1
theorem dksX7_lane_0 : cX7_lane.data.toList.drop 0 = dktX7_lane_0 := by decide +kernel
theorem dksX7_lane_1 : cX7_lane.data.toList.drop 24 = dktX7_lane_1 := dk_seg dksX7_lane_0 24 rfl rfl
theorem dX7_lane_0 : decode cX7_lane 0 = .ok (.aload_n 0, 1) := dk_42 (dk_at dksX7_lane_0 0 rfl rfl)
theorem dX7_lane_1 : decode cX7_lane 1 = .ok (.getfield 7, 3) := dk_180 0 7 (dk_at dksX7_lane_0 1 rfl rfl)
theorem dX7_lane_4 : decode cX7_lane 4 = .ok (.instanceof 13, 3) := dk_193 0 13 (dk_at dksX7_lane_0 4 rfl rfl)
theorem dX7_lane_7 : decode cX7_lane 7 = .ok (.ifCond .eq 7, 3) := dk_153 0 7 (dk_at dksX7_lane_0 7 rfl rfl)
theorem dX7_lane_10 : decode cX7_lane 10 = .ok (.iconst 0, 1) := dk_3 (dk_at dksX7_lane_0 10 rfl rfl)
theorem dX7_lane_11 : decode cX7_lane 11 = .ok (.goto 18, 3) := dk_167 0 18 (dk_at dksX7_lane_0 11 rfl rfl)
theorem dX7_lane_14 : decode cX7_lane 14 = .ok (.aload_n 0, 1) := dk_42 (dk_at dksX7_lane_0 14 rfl rfl)
theorem dX7_lane_15 : decode cX7_lane 15 = .ok (.getfield 7, 3) := dk_180 0 7 (dk_at dksX7_lane_0 15 rfl rfl)
theorem dX7_lane_18 : decode cX7_lane 18 = .ok (.instanceof 15, 3) := dk_193 0 15 (dk_at dksX7_lane_0 18 rfl rfl)
theorem dX7_lane_21 : decode cX7_lane 21 = .ok (.ifCond .eq 7, 3) := dk_153 0 7 (dk_at dksX7_lane_0 21 rfl rfl)
theorem dX7_lane_24 : decode cX7_lane 24 = .ok (.iconst 1, 1) := dk_4 (dk_at dksX7_lane_1 0 rfl rfl)
theorem dX7_lane_25 : decode cX7_lane 25 = .ok (.goto 4, 3) := dk_167 0 4 (dk_at dksX7_lane_1 1 rfl rfl)
theorem dX7_lane_28 : decode cX7_lane 28 = .ok (.iconst 2, 1) := dk_5 (dk_at dksX7_lane_1 4 rfl rfl)
theorem dX7_lane_29 : decode cX7_lane 29 = .ok (.ireturn, 1) := dk_172 (dk_at dksX7_lane_1 5 rfl rfl)
abbrev cX7_size : ByteArray := prog_6_method_3_code
def yX7_size : MethodName := ⟨RX7, "size", "()I"⟩
def dkwX7_size_2 : List UInt8 := [192, 0, 17, 190, 172]
abbrev dktX7_size_2 : List UInt8 := dkwX7_size_2 ++ []
def dkwX7_size_1 : List UInt8 := [77, 44, 193, 0, 15, 153, 0, 13, 44, 192, 0, 15, 76, 43, 190, 167, 0, 11, 42, 180, 0, 7]
abbrev dktX7_size_1 : List UInt8 := dkwX7_size_1 ++ dktX7_size_2
def dkwX7_size_0 : List UInt8 := [42, 180, 0, 7, 77, 44, 193, 0, 13, 153, 0, 11, 44, 192, 0, 13, 76, 43, 190, 172, 42, 180, 0, 7]
abbrev dktX7_size_0 : List UInt8 := dkwX7_size_0 ++ dktX7_size_1
theorem dksX7_size_0 : cX7_size.data.toList.drop 0 = dktX7_size_0 := by decide +kernel
theorem dksX7_size_1 : cX7_size.data.toList.drop 24 = dktX7_size_1 := dk_seg dksX7_size_0 24 rfl rfl
theorem dksX7_size_2 : cX7_size.data.toList.drop 46 = dktX7_size_2 := dk_seg dksX7_size_1 22 rfl rfl
theorem dX7_size_0 : decode cX7_size 0 = .ok (.aload_n 0, 1) := dk_42 (dk_at dksX7_size_0 0 rfl rfl)
theorem dX7_size_1 : decode cX7_size 1 = .ok (.getfield 7, 3) := dk_180 0 7 (dk_at dksX7_size_0 1 rfl rfl)
theorem dX7_size_4 : decode cX7_size 4 = .ok (.astore_n 2, 1) := dk_77 (dk_at dksX7_size_0 4 rfl rfl)
theorem dX7_size_5 : decode cX7_size 5 = .ok (.aload_n 2, 1) := dk_44 (dk_at dksX7_size_0 5 rfl rfl)
theorem dX7_size_6 : decode cX7_size 6 = .ok (.instanceof 13, 3) := dk_193 0 13 (dk_at dksX7_size_0 6 rfl rfl)
theorem dX7_size_9 : decode cX7_size 9 = .ok (.ifCond .eq 11, 3) := dk_153 0 11 (dk_at dksX7_size_0 9 rfl rfl)
theorem dX7_size_12 : decode cX7_size 12 = .ok (.aload_n 2, 1) := dk_44 (dk_at dksX7_size_0 12 rfl rfl)
theorem dX7_size_13 : decode cX7_size 13 = .ok (.checkcast 13, 3) := dk_192 0 13 (dk_at dksX7_size_0 13 rfl rfl)
theorem dX7_size_16 : decode cX7_size 16 = .ok (.astore_n 1, 1) := dk_76 (dk_at dksX7_size_0 16 rfl rfl)
theorem dX7_size_17 : decode cX7_size 17 = .ok (.aload_n 1, 1) := dk_43 (dk_at dksX7_size_0 17 rfl rfl)
theorem dX7_size_18 : decode cX7_size 18 = .ok (.arraylength, 1) := dk_190 (dk_at dksX7_size_0 18 rfl rfl)
theorem dX7_size_19 : decode cX7_size 19 = .ok (.ireturn, 1) := dk_172 (dk_at dksX7_size_0 19 rfl rfl)
theorem dX7_size_20 : decode cX7_size 20 = .ok (.aload_n 0, 1) := dk_42 (dk_at dksX7_size_0 20 rfl rfl)
theorem dX7_size_21 : decode cX7_size 21 = .ok (.getfield 7, 3) := dk_180 0 7 (dk_at dksX7_size_0 21 rfl rfl)
theorem dX7_size_24 : decode cX7_size 24 = .ok (.astore_n 2, 1) := dk_77 (dk_at dksX7_size_1 0 rfl rfl)
theorem dX7_size_25 : decode cX7_size 25 = .ok (.aload_n 2, 1) := dk_44 (dk_at dksX7_size_1 1 rfl rfl)
theorem dX7_size_26 : decode cX7_size 26 = .ok (.instanceof 15, 3) := dk_193 0 15 (dk_at dksX7_size_1 2 rfl rfl)
theorem dX7_size_29 : decode cX7_size 29 = .ok (.ifCond .eq 13, 3) := dk_153 0 13 (dk_at dksX7_size_1 5 rfl rfl)
theorem dX7_size_32 : decode cX7_size 32 = .ok (.aload_n 2, 1) := dk_44 (dk_at dksX7_size_1 8 rfl rfl)
theorem dX7_size_33 : decode cX7_size 33 = .ok (.checkcast 15, 3) := dk_192 0 15 (dk_at dksX7_size_1 9 rfl rfl)
theorem dX7_size_36 : decode cX7_size 36 = .ok (.astore_n 1, 1) := dk_76 (dk_at dksX7_size_1 12 rfl rfl)
theorem dX7_size_37 : decode cX7_size 37 = .ok (.aload_n 1, 1) := dk_43 (dk_at dksX7_size_1 13 rfl rfl)
theorem dX7_size_38 : decode cX7_size 38 = .ok (.arraylength, 1) := dk_190 (dk_at dksX7_size_1 14 rfl rfl)
theorem dX7_size_39 : decode cX7_size 39 = .ok (.goto 11, 3) := dk_167 0 11 (dk_at dksX7_size_1 15 rfl rfl)
theorem dX7_size_42 : decode cX7_size 42 = .ok (.aload_n 0, 1) := dk_42 (dk_at dksX7_size_1 18 rfl rfl)
theorem dX7_size_43 : decode cX7_size 43 = .ok (.getfield 7, 3) := dk_180 0 7 (dk_at dksX7_size_1 19 rfl rfl)
theorem dX7_size_46 : decode cX7_size 46 = .ok (.checkcast 17, 3) := dk_192 0 17 (dk_at dksX7_size_2 0 rfl rfl)
theorem dX7_size_49 : decode cX7_size 49 = .ok (.arraylength, 1) := dk_190 (dk_at dksX7_size_2 3 rfl rfl)
theorem dX7_size_50 : decode cX7_size 50 = .ok (.ireturn, 1) := dk_172 (dk_at dksX7_size_2 4 rfl rfl)
abbrev cX7_get : ByteArray := prog_6_method_4_code
def yX7_get : MethodName := ⟨RX7, "get", "(I)I"⟩
def dkwX7_get_2 : List UInt8 := [180, 0, 7, 192, 0, 17, 27, 46, 172]
abbrev dktX7_get_2 : List UInt8 := dkwX7_get_2 ++ []
def dkwX7_get_1 : List UInt8 := [180, 0, 7, 78, 45, 193, 0, 15, 153, 0, 14, 45, 192, 0, 15, 77, 44, 27, 53, 167, 0, 12, 42]
abbrev dktX7_get_1 : List UInt8 := dkwX7_get_1 ++ dktX7_get_2
def dkwX7_get_0 : List UInt8 := [42, 180, 0, 7, 78, 45, 193, 0, 13, 153, 0, 12, 45, 192, 0, 13, 77, 44, 27, 51, 172, 42]
abbrev dktX7_get_0 : List UInt8 := dkwX7_get_0 ++ dktX7_get_1
theorem dksX7_get_0 : cX7_get.data.toList.drop 0 = dktX7_get_0 := by decide +kernel
theorem dksX7_get_1 : cX7_get.data.toList.drop 22 = dktX7_get_1 := dk_seg dksX7_get_0 22 rfl rfl
theorem dksX7_get_2 : cX7_get.data.toList.drop 45 = dktX7_get_2 := dk_seg dksX7_get_1 23 rfl rfl
theorem dX7_get_0 : decode cX7_get 0 = .ok (.aload_n 0, 1) := dk_42 (dk_at dksX7_get_0 0 rfl rfl)
theorem dX7_get_1 : decode cX7_get 1 = .ok (.getfield 7, 3) := dk_180 0 7 (dk_at dksX7_get_0 1 rfl rfl)
theorem dX7_get_4 : decode cX7_get 4 = .ok (.astore_n 3, 1) := dk_78 (dk_at dksX7_get_0 4 rfl rfl)
theorem dX7_get_5 : decode cX7_get 5 = .ok (.aload_n 3, 1) := dk_45 (dk_at dksX7_get_0 5 rfl rfl)
theorem dX7_get_6 : decode cX7_get 6 = .ok (.instanceof 13, 3) := dk_193 0 13 (dk_at dksX7_get_0 6 rfl rfl)
theorem dX7_get_9 : decode cX7_get 9 = .ok (.ifCond .eq 12, 3) := dk_153 0 12 (dk_at dksX7_get_0 9 rfl rfl)
theorem dX7_get_12 : decode cX7_get 12 = .ok (.aload_n 3, 1) := dk_45 (dk_at dksX7_get_0 12 rfl rfl)
theorem dX7_get_13 : decode cX7_get 13 = .ok (.checkcast 13, 3) := dk_192 0 13 (dk_at dksX7_get_0 13 rfl rfl)
theorem dX7_get_16 : decode cX7_get 16 = .ok (.astore_n 2, 1) := dk_77 (dk_at dksX7_get_0 16 rfl rfl)
theorem dX7_get_17 : decode cX7_get 17 = .ok (.aload_n 2, 1) := dk_44 (dk_at dksX7_get_0 17 rfl rfl)
theorem dX7_get_18 : decode cX7_get 18 = .ok (.iload_n 1, 1) := dk_27 (dk_at dksX7_get_0 18 rfl rfl)
theorem dX7_get_19 : decode cX7_get 19 = .ok (.baload, 1) := dk_51 (dk_at dksX7_get_0 19 rfl rfl)
theorem dX7_get_20 : decode cX7_get 20 = .ok (.ireturn, 1) := dk_172 (dk_at dksX7_get_0 20 rfl rfl)
theorem dX7_get_21 : decode cX7_get 21 = .ok (.aload_n 0, 1) := dk_42 (dk_at dksX7_get_0 21 rfl rfl)
theorem dX7_get_22 : decode cX7_get 22 = .ok (.getfield 7, 3) := dk_180 0 7 (dk_at dksX7_get_1 0 rfl rfl)
theorem dX7_get_25 : decode cX7_get 25 = .ok (.astore_n 3, 1) := dk_78 (dk_at dksX7_get_1 3 rfl rfl)
theorem dX7_get_26 : decode cX7_get 26 = .ok (.aload_n 3, 1) := dk_45 (dk_at dksX7_get_1 4 rfl rfl)
theorem dX7_get_27 : decode cX7_get 27 = .ok (.instanceof 15, 3) := dk_193 0 15 (dk_at dksX7_get_1 5 rfl rfl)
theorem dX7_get_30 : decode cX7_get 30 = .ok (.ifCond .eq 14, 3) := dk_153 0 14 (dk_at dksX7_get_1 8 rfl rfl)
theorem dX7_get_33 : decode cX7_get 33 = .ok (.aload_n 3, 1) := dk_45 (dk_at dksX7_get_1 11 rfl rfl)
theorem dX7_get_34 : decode cX7_get 34 = .ok (.checkcast 15, 3) := dk_192 0 15 (dk_at dksX7_get_1 12 rfl rfl)
theorem dX7_get_37 : decode cX7_get 37 = .ok (.astore_n 2, 1) := dk_77 (dk_at dksX7_get_1 15 rfl rfl)
theorem dX7_get_38 : decode cX7_get 38 = .ok (.aload_n 2, 1) := dk_44 (dk_at dksX7_get_1 16 rfl rfl)
theorem dX7_get_39 : decode cX7_get 39 = .ok (.iload_n 1, 1) := dk_27 (dk_at dksX7_get_1 17 rfl rfl)
theorem dX7_get_40 : decode cX7_get 40 = .ok (.saload, 1) := dk_53 (dk_at dksX7_get_1 18 rfl rfl)
theorem dX7_get_41 : decode cX7_get 41 = .ok (.goto 12, 3) := dk_167 0 12 (dk_at dksX7_get_1 19 rfl rfl)
theorem dX7_get_44 : decode cX7_get 44 = .ok (.aload_n 0, 1) := dk_42 (dk_at dksX7_get_1 22 rfl rfl)
theorem dX7_get_45 : decode cX7_get 45 = .ok (.getfield 7, 3) := dk_180 0 7 (dk_at dksX7_get_2 0 rfl rfl)
theorem dX7_get_48 : decode cX7_get 48 = .ok (.checkcast 17, 3) := dk_192 0 17 (dk_at dksX7_get_2 3 rfl rfl)
theorem dX7_get_51 : decode cX7_get 51 = .ok (.iload_n 1, 1) := dk_27 (dk_at dksX7_get_2 6 rfl rfl)
theorem dX7_get_52 : decode cX7_get 52 = .ok (.iaload, 1) := dk_46 (dk_at dksX7_get_2 7 rfl rfl)
theorem dX7_get_53 : decode cX7_get 53 = .ok (.ireturn, 1) := dk_172 (dk_at dksX7_get_2 8 rfl rfl)
theorem q54 : (Jvm.Cond.initialized "DebtCoats$Sheet") ∈ lw_all := lw_g (lw_at lw_m1 10 rfl) rfl
theorem q253 : (Jvm.Cond.instantiable "DebtCoats$Sheet" (1 : Nat)) ∈ lw_all := lw_g (lw_at lw_m1 209 rfl) rfl
theorem q255 : (Jvm.Cond.instanceMethod ({ cls := "DebtCoats$Sheet", name := "<init>", desc := "()V" } : Jvm.MethodName)) ∈ lw_all := lw_g (lw_at lw_m1 211 rfl) rfl
theorem q256 : (Jvm.Cond.code ({ cls := "DebtCoats$Sheet", name := "<init>", desc := "()V" } : Jvm.MethodName) prog_6_method_1_code (1 : Nat) (Option.none : Option Jvm.ClassFile.FieldType)) ∈ lw_all := lw_g (lw_at lw_m1 212 rfl) rfl
theorem q257 : (Jvm.Cond.methodLink "DebtCoats$Sheet" (1 : Nat) ({ cls := "java/lang/Object", name := "<init>", desc := "()V" } : Jvm.MethodName)) ∈ lw_all := lw_g (lw_at lw_m1 213 rfl) rfl
theorem q258 : (Jvm.Cond.fieldLink "DebtCoats$Sheet" (7 : Nat) "DebtCoats$Sheet" "row" "Ljava/lang/Object;") ∈ lw_all := lw_g (lw_at lw_m1 214 rfl) rfl
theorem q260 : (Jvm.Cond.lays "DebtCoats$Sheet" "DebtCoats$Sheet" "row" "Ljava/lang/Object;") ∈ lw_all := lw_g (lw_at lw_m1 216 rfl) rfl
theorem q261 : (Jvm.Cond.soleField "DebtCoats$Sheet" "row") ∈ lw_all := lw_g (lw_at lw_m1 217 rfl) rfl
theorem q262 : (Jvm.Cond.superclass "DebtCoats$Sheet" "java/lang/Object") ∈ lw_all := lw_g (lw_at lw_m1 218 rfl) rfl
theorem q618 : (Jvm.Cond.instanceMethod ({ cls := "DebtCoats$Sheet", name := "lane", desc := "()I" } : Jvm.MethodName)) ∈ lw_all := lw_g (lw_at lw_m3 94 rfl) rfl
theorem q619 : (Jvm.Cond.selects "DebtCoats$Sheet" ({ cls := "DebtCoats$Sheet", name := "lane", desc := "()I" } : Jvm.MethodName) ({ cls := "DebtCoats$Sheet", name := "lane", desc := "()I" } : Jvm.MethodName)) ∈ lw_all := lw_g (lw_at lw_m3 95 rfl) rfl
theorem q620 : (Jvm.Cond.code ({ cls := "DebtCoats$Sheet", name := "lane", desc := "()I" } : Jvm.MethodName) prog_6_method_2_code (1 : Nat) (Option.some Jvm.ClassFile.FieldType.int)) ∈ lw_all := lw_g (lw_at lw_m3 96 rfl) rfl
theorem q621 : (Jvm.Cond.classLink "DebtCoats$Sheet" (13 : Nat) "[B") ∈ lw_all := lw_g (lw_at lw_m3 97 rfl) rfl
theorem q622 : (Jvm.Cond.classLink "DebtCoats$Sheet" (15 : Nat) "[S") ∈ lw_all := lw_g (lw_at lw_m3 98 rfl) rfl
theorem q624 : (Jvm.Cond.instanceMethod ({ cls := "DebtCoats$Sheet", name := "size", desc := "()I" } : Jvm.MethodName)) ∈ lw_all := lw_g (lw_at lw_m3 100 rfl) rfl
theorem q625 : (Jvm.Cond.selects "DebtCoats$Sheet" ({ cls := "DebtCoats$Sheet", name := "size", desc := "()I" } : Jvm.MethodName) ({ cls := "DebtCoats$Sheet", name := "size", desc := "()I" } : Jvm.MethodName)) ∈ lw_all := lw_g (lw_at lw_m3 101 rfl) rfl
theorem q626 : (Jvm.Cond.code ({ cls := "DebtCoats$Sheet", name := "size", desc := "()I" } : Jvm.MethodName) prog_6_method_3_code (3 : Nat) (Option.some Jvm.ClassFile.FieldType.int)) ∈ lw_all := lw_g (lw_at lw_m3 102 rfl) rfl
theorem q627 : (Jvm.Cond.classLink "DebtCoats$Sheet" (17 : Nat) "[I") ∈ lw_all := lw_g (lw_at lw_m3 103 rfl) rfl
theorem q629 : (Jvm.Cond.instanceMethod ({ cls := "DebtCoats$Sheet", name := "get", desc := "(I)I" } : Jvm.MethodName)) ∈ lw_all := lw_g (lw_at lw_m3 105 rfl) rfl
theorem q630 : (Jvm.Cond.selects "DebtCoats$Sheet" ({ cls := "DebtCoats$Sheet", name := "get", desc := "(I)I" } : Jvm.MethodName) ({ cls := "DebtCoats$Sheet", name := "get", desc := "(I)I" } : Jvm.MethodName)) ∈ lw_all := lw_g (lw_at lw_m3 106 rfl) rfl
theorem q631 : (Jvm.Cond.code ({ cls := "DebtCoats$Sheet", name := "get", desc := "(I)I" } : Jvm.MethodName) prog_6_method_4_code (4 : Nat) (Option.some Jvm.ClassFile.FieldType.int)) ∈ lw_all := lw_g (lw_at lw_m3 107 rfl) rfl
theorem in_X7 : ∀ w ∈ wsX70, w ∈ lw_all := lw_in wsX70 [260] (by decide +kernel) (by decide +kernel)
/-! java/lang/Throwable -/
set_option maxRecDepth 100000
def RJ0 : String := "java/lang/Throwable"
def TJ0 : u_T := fun k => match k with
  | 0 => ("java/lang/Throwable", "cause", "Ljava/lang/Throwable;", false)
  | 1 => ("java/lang/Throwable", "stackTrace", "[Ljava/lang/StackTraceElement;", false)
  | 2 => ("java/lang/Throwable", "suppressedExceptions", "Ljava/util/List;", false)
  | 3 => ("java/lang/Throwable", "detailMessage", "Ljava/lang/String;", false)
  | _ => ("java/lang/Throwable", "backtrace", "Ljava/lang/Object;", false)
def tyJ0 : Nat → FieldType := fun k => match k with
  | 0 => .object "java/lang/Throwable"
  | 1 => .array (.object "java/lang/StackTraceElement")
  | 2 => .object "java/util/List"
  | 3 => .object "java/lang/String"
  | _ => .object "java/lang/Object"
abbrev wsJ00 : List Cond := u_ws RJ0 TJ0 5
theorem nmJ0 : ∀ a, a < 5 → ∀ b, b < 5 → a ≠ b → (TJ0 a).2.1 ≠ (TJ0 b).2.1 := by decide +kernel
theorem tyJ0_ok : ∀ k, k < 5 → parseFieldDescriptor (TJ0 k).2.2.1 = some (tyJ0 k) := by decide +kernel
abbrev cJ0_init : ByteArray := prog_23_method_1_code
def yJ0_init : MethodName := ⟨RJ0, "<init>", "()V"⟩
def dkwJ0_init_1 : List UInt8 := [182, 0, 27, 87, 177]
abbrev dktJ0_init_1 : List UInt8 := dkwJ0_init_1 ++ []
def dkwJ0_init_0 : List UInt8 := [42, 183, 0, 1, 42, 42, 181, 0, 7, 42, 178, 0, 13, 181, 0, 17, 42, 178, 0, 20, 181, 0, 24, 42]
abbrev dktJ0_init_0 : List UInt8 := dkwJ0_init_0 ++ dktJ0_init_1
theorem dksJ0_init_0 : cJ0_init.data.toList.drop 0 = dktJ0_init_0 := by decide +kernel
theorem dksJ0_init_1 : cJ0_init.data.toList.drop 24 = dktJ0_init_1 := dk_seg dksJ0_init_0 24 rfl rfl
theorem dJ0_init_0 : decode cJ0_init 0 = .ok (.aload_n 0, 1) := dk_42 (dk_at dksJ0_init_0 0 rfl rfl)
theorem dJ0_init_1 : decode cJ0_init 1 = .ok (.invokespecial 1, 3) := dk_183 0 1 (dk_at dksJ0_init_0 1 rfl rfl)
theorem dJ0_init_4 : decode cJ0_init 4 = .ok (.aload_n 0, 1) := dk_42 (dk_at dksJ0_init_0 4 rfl rfl)
theorem dJ0_init_5 : decode cJ0_init 5 = .ok (.aload_n 0, 1) := dk_42 (dk_at dksJ0_init_0 5 rfl rfl)
theorem dJ0_init_6 : decode cJ0_init 6 = .ok (.putfield 7, 3) := dk_181 0 7 (dk_at dksJ0_init_0 6 rfl rfl)
theorem dJ0_init_9 : decode cJ0_init 9 = .ok (.aload_n 0, 1) := dk_42 (dk_at dksJ0_init_0 9 rfl rfl)
theorem dJ0_init_10 : decode cJ0_init 10 = .ok (.getstatic 13, 3) := dk_178 0 13 (dk_at dksJ0_init_0 10 rfl rfl)
theorem dJ0_init_13 : decode cJ0_init 13 = .ok (.putfield 17, 3) := dk_181 0 17 (dk_at dksJ0_init_0 13 rfl rfl)
theorem dJ0_init_16 : decode cJ0_init 16 = .ok (.aload_n 0, 1) := dk_42 (dk_at dksJ0_init_0 16 rfl rfl)
theorem dJ0_init_17 : decode cJ0_init 17 = .ok (.getstatic 20, 3) := dk_178 0 20 (dk_at dksJ0_init_0 17 rfl rfl)
theorem dJ0_init_20 : decode cJ0_init 20 = .ok (.putfield 24, 3) := dk_181 0 24 (dk_at dksJ0_init_0 20 rfl rfl)
theorem dJ0_init_23 : decode cJ0_init 23 = .ok (.aload_n 0, 1) := dk_42 (dk_at dksJ0_init_0 23 rfl rfl)
theorem dJ0_init_24 : decode cJ0_init 24 = .ok (.invokevirtual 27, 3) := dk_182 0 27 (dk_at dksJ0_init_1 0 rfl rfl)
theorem dJ0_init_27 : decode cJ0_init 27 = .ok (.pop, 1) := dk_87 (dk_at dksJ0_init_1 3 rfl rfl)
theorem dJ0_init_28 : decode cJ0_init 28 = .ok (.return_, 1) := dk_177 (dk_at dksJ0_init_1 4 rfl rfl)
abbrev cJ0_init_2 : ByteArray := prog_23_method_5_code
def yJ0_init_2 : MethodName := ⟨RJ0, "<init>", "(Ljava/lang/String;Ljava/lang/Throwable;ZZ)V"⟩
def dkwJ0_init_2_2 : List UInt8 := [44, 181, 0, 7, 29, 154, 0, 8, 42, 1, 181, 0, 24, 177]
abbrev dktJ0_init_2_2 : List UInt8 := dkwJ0_init_2_2 ++ []
def dkwJ0_init_2_1 : List UInt8 := [21, 4, 153, 0, 11, 42, 182, 0, 27, 87, 167, 0, 8, 42, 1, 181, 0, 17, 42, 43, 181, 0, 31, 42]
abbrev dktJ0_init_2_1 : List UInt8 := dkwJ0_init_2_1 ++ dktJ0_init_2_2
def dkwJ0_init_2_0 : List UInt8 := [42, 183, 0, 1, 42, 42, 181, 0, 7, 42, 178, 0, 13, 181, 0, 17, 42, 178, 0, 20, 181, 0, 24]
abbrev dktJ0_init_2_0 : List UInt8 := dkwJ0_init_2_0 ++ dktJ0_init_2_1
theorem dksJ0_init_2_0 : cJ0_init_2.data.toList.drop 0 = dktJ0_init_2_0 := by decide +kernel
theorem dksJ0_init_2_1 : cJ0_init_2.data.toList.drop 23 = dktJ0_init_2_1 := dk_seg dksJ0_init_2_0 23 rfl rfl
theorem dksJ0_init_2_2 : cJ0_init_2.data.toList.drop 47 = dktJ0_init_2_2 := dk_seg dksJ0_init_2_1 24 rfl rfl
theorem dJ0_init_2_0 : decode cJ0_init_2 0 = .ok (.aload_n 0, 1) := dk_42 (dk_at dksJ0_init_2_0 0 rfl rfl)
theorem dJ0_init_2_1 : decode cJ0_init_2 1 = .ok (.invokespecial 1, 3) := dk_183 0 1 (dk_at dksJ0_init_2_0 1 rfl rfl)
theorem dJ0_init_2_4 : decode cJ0_init_2 4 = .ok (.aload_n 0, 1) := dk_42 (dk_at dksJ0_init_2_0 4 rfl rfl)
theorem dJ0_init_2_5 : decode cJ0_init_2 5 = .ok (.aload_n 0, 1) := dk_42 (dk_at dksJ0_init_2_0 5 rfl rfl)
theorem dJ0_init_2_6 : decode cJ0_init_2 6 = .ok (.putfield 7, 3) := dk_181 0 7 (dk_at dksJ0_init_2_0 6 rfl rfl)
theorem dJ0_init_2_9 : decode cJ0_init_2 9 = .ok (.aload_n 0, 1) := dk_42 (dk_at dksJ0_init_2_0 9 rfl rfl)
theorem dJ0_init_2_10 : decode cJ0_init_2 10 = .ok (.getstatic 13, 3) := dk_178 0 13 (dk_at dksJ0_init_2_0 10 rfl rfl)
theorem dJ0_init_2_13 : decode cJ0_init_2 13 = .ok (.putfield 17, 3) := dk_181 0 17 (dk_at dksJ0_init_2_0 13 rfl rfl)
theorem dJ0_init_2_16 : decode cJ0_init_2 16 = .ok (.aload_n 0, 1) := dk_42 (dk_at dksJ0_init_2_0 16 rfl rfl)
theorem dJ0_init_2_17 : decode cJ0_init_2 17 = .ok (.getstatic 20, 3) := dk_178 0 20 (dk_at dksJ0_init_2_0 17 rfl rfl)
theorem dJ0_init_2_20 : decode cJ0_init_2 20 = .ok (.putfield 24, 3) := dk_181 0 24 (dk_at dksJ0_init_2_0 20 rfl rfl)
theorem dJ0_init_2_23 : decode cJ0_init_2 23 = .ok (.iload 4, 2) := dk_21 4 (dk_at dksJ0_init_2_1 0 rfl rfl)
theorem dJ0_init_2_25 : decode cJ0_init_2 25 = .ok (.ifCond .eq 11, 3) := dk_153 0 11 (dk_at dksJ0_init_2_1 2 rfl rfl)
theorem dJ0_init_2_28 : decode cJ0_init_2 28 = .ok (.aload_n 0, 1) := dk_42 (dk_at dksJ0_init_2_1 5 rfl rfl)
theorem dJ0_init_2_29 : decode cJ0_init_2 29 = .ok (.invokevirtual 27, 3) := dk_182 0 27 (dk_at dksJ0_init_2_1 6 rfl rfl)
theorem dJ0_init_2_32 : decode cJ0_init_2 32 = .ok (.pop, 1) := dk_87 (dk_at dksJ0_init_2_1 9 rfl rfl)
theorem dJ0_init_2_33 : decode cJ0_init_2 33 = .ok (.goto 8, 3) := dk_167 0 8 (dk_at dksJ0_init_2_1 10 rfl rfl)
theorem dJ0_init_2_36 : decode cJ0_init_2 36 = .ok (.aload_n 0, 1) := dk_42 (dk_at dksJ0_init_2_1 13 rfl rfl)
theorem dJ0_init_2_37 : decode cJ0_init_2 37 = .ok (.aconst_null, 1) := dk_1 (dk_at dksJ0_init_2_1 14 rfl rfl)
theorem dJ0_init_2_38 : decode cJ0_init_2 38 = .ok (.putfield 17, 3) := dk_181 0 17 (dk_at dksJ0_init_2_1 15 rfl rfl)
theorem dJ0_init_2_41 : decode cJ0_init_2 41 = .ok (.aload_n 0, 1) := dk_42 (dk_at dksJ0_init_2_1 18 rfl rfl)
theorem dJ0_init_2_42 : decode cJ0_init_2 42 = .ok (.aload_n 1, 1) := dk_43 (dk_at dksJ0_init_2_1 19 rfl rfl)
theorem dJ0_init_2_43 : decode cJ0_init_2 43 = .ok (.putfield 31, 3) := dk_181 0 31 (dk_at dksJ0_init_2_1 20 rfl rfl)
theorem dJ0_init_2_46 : decode cJ0_init_2 46 = .ok (.aload_n 0, 1) := dk_42 (dk_at dksJ0_init_2_1 23 rfl rfl)
theorem dJ0_init_2_47 : decode cJ0_init_2 47 = .ok (.aload_n 2, 1) := dk_44 (dk_at dksJ0_init_2_2 0 rfl rfl)
theorem dJ0_init_2_48 : decode cJ0_init_2 48 = .ok (.putfield 7, 3) := dk_181 0 7 (dk_at dksJ0_init_2_2 1 rfl rfl)
theorem dJ0_init_2_51 : decode cJ0_init_2 51 = .ok (.iload_n 3, 1) := dk_29 (dk_at dksJ0_init_2_2 4 rfl rfl)
theorem dJ0_init_2_52 : decode cJ0_init_2 52 = .ok (.ifCond .ne 8, 3) := dk_154 0 8 (dk_at dksJ0_init_2_2 5 rfl rfl)
theorem dJ0_init_2_55 : decode cJ0_init_2 55 = .ok (.aload_n 0, 1) := dk_42 (dk_at dksJ0_init_2_2 8 rfl rfl)
theorem dJ0_init_2_56 : decode cJ0_init_2 56 = .ok (.aconst_null, 1) := dk_1 (dk_at dksJ0_init_2_2 9 rfl rfl)
theorem dJ0_init_2_57 : decode cJ0_init_2 57 = .ok (.putfield 24, 3) := dk_181 0 24 (dk_at dksJ0_init_2_2 10 rfl rfl)
theorem dJ0_init_2_60 : decode cJ0_init_2 60 = .ok (.return_, 1) := dk_177 (dk_at dksJ0_init_2_2 13 rfl rfl)
abbrev cJ0_init_3 : ByteArray := prog_23_method_2_code
def yJ0_init_3 : MethodName := ⟨RJ0, "<init>", "(Ljava/lang/String;)V"⟩
def dkwJ0_init_3_1 : List UInt8 := [182, 0, 27, 87, 42, 43, 181, 0, 31, 177]
abbrev dktJ0_init_3_1 : List UInt8 := dkwJ0_init_3_1 ++ []
def dkwJ0_init_3_0 : List UInt8 := [42, 183, 0, 1, 42, 42, 181, 0, 7, 42, 178, 0, 13, 181, 0, 17, 42, 178, 0, 20, 181, 0, 24, 42]
abbrev dktJ0_init_3_0 : List UInt8 := dkwJ0_init_3_0 ++ dktJ0_init_3_1
theorem dksJ0_init_3_0 : cJ0_init_3.data.toList.drop 0 = dktJ0_init_3_0 := by decide +kernel
theorem dksJ0_init_3_1 : cJ0_init_3.data.toList.drop 24 = dktJ0_init_3_1 := dk_seg dksJ0_init_3_0 24 rfl rfl
theorem dJ0_init_3_0 : decode cJ0_init_3 0 = .ok (.aload_n 0, 1) := dk_42 (dk_at dksJ0_init_3_0 0 rfl rfl)
theorem dJ0_init_3_1 : decode cJ0_init_3 1 = .ok (.invokespecial 1, 3) := dk_183 0 1 (dk_at dksJ0_init_3_0 1 rfl rfl)
theorem dJ0_init_3_4 : decode cJ0_init_3 4 = .ok (.aload_n 0, 1) := dk_42 (dk_at dksJ0_init_3_0 4 rfl rfl)
theorem dJ0_init_3_5 : decode cJ0_init_3 5 = .ok (.aload_n 0, 1) := dk_42 (dk_at dksJ0_init_3_0 5 rfl rfl)
theorem dJ0_init_3_6 : decode cJ0_init_3 6 = .ok (.putfield 7, 3) := dk_181 0 7 (dk_at dksJ0_init_3_0 6 rfl rfl)
theorem dJ0_init_3_9 : decode cJ0_init_3 9 = .ok (.aload_n 0, 1) := dk_42 (dk_at dksJ0_init_3_0 9 rfl rfl)
theorem dJ0_init_3_10 : decode cJ0_init_3 10 = .ok (.getstatic 13, 3) := dk_178 0 13 (dk_at dksJ0_init_3_0 10 rfl rfl)
theorem dJ0_init_3_13 : decode cJ0_init_3 13 = .ok (.putfield 17, 3) := dk_181 0 17 (dk_at dksJ0_init_3_0 13 rfl rfl)
theorem dJ0_init_3_16 : decode cJ0_init_3 16 = .ok (.aload_n 0, 1) := dk_42 (dk_at dksJ0_init_3_0 16 rfl rfl)
theorem dJ0_init_3_17 : decode cJ0_init_3 17 = .ok (.getstatic 20, 3) := dk_178 0 20 (dk_at dksJ0_init_3_0 17 rfl rfl)
theorem dJ0_init_3_20 : decode cJ0_init_3 20 = .ok (.putfield 24, 3) := dk_181 0 24 (dk_at dksJ0_init_3_0 20 rfl rfl)
theorem dJ0_init_3_23 : decode cJ0_init_3 23 = .ok (.aload_n 0, 1) := dk_42 (dk_at dksJ0_init_3_0 23 rfl rfl)
theorem dJ0_init_3_24 : decode cJ0_init_3 24 = .ok (.invokevirtual 27, 3) := dk_182 0 27 (dk_at dksJ0_init_3_1 0 rfl rfl)
theorem dJ0_init_3_27 : decode cJ0_init_3 27 = .ok (.pop, 1) := dk_87 (dk_at dksJ0_init_3_1 3 rfl rfl)
theorem dJ0_init_3_28 : decode cJ0_init_3 28 = .ok (.aload_n 0, 1) := dk_42 (dk_at dksJ0_init_3_1 4 rfl rfl)
theorem dJ0_init_3_29 : decode cJ0_init_3 29 = .ok (.aload_n 1, 1) := dk_43 (dk_at dksJ0_init_3_1 5 rfl rfl)
theorem dJ0_init_3_30 : decode cJ0_init_3 30 = .ok (.putfield 31, 3) := dk_181 0 31 (dk_at dksJ0_init_3_1 6 rfl rfl)
theorem dJ0_init_3_33 : decode cJ0_init_3 33 = .ok (.return_, 1) := dk_177 (dk_at dksJ0_init_3_1 9 rfl rfl)
theorem q51 : (Jvm.Cond.initialized "java/lang/Throwable") ∈ lw_all := lw_g (lw_at lw_m1 7 rfl) rfl
theorem q176 : (Jvm.Cond.declares ({ cls := "java/lang/Throwable", name := "<init>", desc := "()V" } : Jvm.MethodName)) ∈ lw_tbl := lw_at lw_m1 132 rfl
theorem q177 : (Jvm.Cond.declares ({ cls := "java/lang/Throwable", name := "<init>", desc := "(Ljava/lang/String;)V" } : Jvm.MethodName)) ∈ lw_tbl := lw_at lw_m1 133 rfl
theorem q181 : (Jvm.Cond.lays "java/lang/Throwable" "java/lang/Throwable" "cause" "Ljava/lang/Throwable;") ∈ lw_all := lw_g (lw_at lw_m1 137 rfl) rfl
theorem q183 : (Jvm.Cond.lays "java/lang/Throwable" "java/lang/Throwable" "stackTrace" "[Ljava/lang/StackTraceElement;") ∈ lw_all := lw_g (lw_at lw_m1 139 rfl) rfl
theorem q185 : (Jvm.Cond.lays "java/lang/Throwable" "java/lang/Throwable" "suppressedExceptions" "Ljava/util/List;") ∈ lw_all := lw_g (lw_at lw_m1 141 rfl) rfl
theorem q187 : (Jvm.Cond.lays "java/lang/Throwable" "java/lang/Throwable" "detailMessage" "Ljava/lang/String;") ∈ lw_all := lw_g (lw_at lw_m1 143 rfl) rfl
theorem q189 : (Jvm.Cond.lays "java/lang/Throwable" "java/lang/Throwable" "backtrace" "Ljava/lang/Object;") ∈ lw_all := lw_g (lw_at lw_m1 145 rfl) rfl
theorem q190 : (Jvm.Cond.fieldLink "java/lang/Throwable" (198 : Nat) "java/lang/Throwable" "backtrace" "Ljava/lang/Object;") ∈ lw_all := lw_g (lw_at lw_m1 146 rfl) rfl
theorem q191 : (Jvm.Cond.superclass "java/lang/Throwable" "java/lang/Object") ∈ lw_all := lw_g (lw_at lw_m1 147 rfl) rfl
theorem q192 : (Jvm.Cond.instanceMethod ({ cls := "java/lang/Throwable", name := "<init>", desc := "()V" } : Jvm.MethodName)) ∈ lw_all := lw_g (lw_at lw_m1 148 rfl) rfl
theorem q193 : (Jvm.Cond.code ({ cls := "java/lang/Throwable", name := "<init>", desc := "()V" } : Jvm.MethodName) prog_23_method_1_code (1 : Nat) (Option.none : Option Jvm.ClassFile.FieldType)) ∈ lw_all := lw_g (lw_at lw_m1 149 rfl) rfl
theorem q194 : (Jvm.Cond.methodLink "java/lang/Throwable" (1 : Nat) ({ cls := "java/lang/Object", name := "<init>", desc := "()V" } : Jvm.MethodName)) ∈ lw_all := lw_g (lw_at lw_m1 150 rfl) rfl
theorem q195 : (Jvm.Cond.fieldLink "java/lang/Throwable" (13 : Nat) "java/lang/Throwable" "UNASSIGNED_STACK" "[Ljava/lang/StackTraceElement;") ∈ lw_all := lw_g (lw_at lw_m1 151 rfl) rfl
theorem q196 : (Jvm.Cond.laysStatic "java/lang/Throwable" "UNASSIGNED_STACK" "[Ljava/lang/StackTraceElement;") ∈ lw_tbl := lw_at lw_m1 152 rfl
theorem q197 : (Jvm.Cond.fieldLink "java/lang/Throwable" (20 : Nat) "java/lang/Throwable" "SUPPRESSED_SENTINEL" "Ljava/util/List;") ∈ lw_all := lw_g (lw_at lw_m1 153 rfl) rfl
theorem q198 : (Jvm.Cond.laysStatic "java/lang/Throwable" "SUPPRESSED_SENTINEL" "Ljava/util/List;") ∈ lw_tbl := lw_at lw_m1 154 rfl
theorem q199 : (Jvm.Cond.methodLink "java/lang/Throwable" (27 : Nat) ({ cls := "java/lang/Throwable", name := "fillInStackTrace", desc := "()Ljava/lang/Throwable;" } : Jvm.MethodName)) ∈ lw_all := lw_g (lw_at lw_m1 155 rfl) rfl
theorem q200 : (Jvm.Cond.instanceMethod ({ cls := "java/lang/Throwable", name := "fillInStackTrace", desc := "()Ljava/lang/Throwable;" } : Jvm.MethodName)) ∈ lw_all := lw_g (lw_at lw_m1 156 rfl) rfl
theorem q201 : (Jvm.Cond.sameMethod "java/lang/Throwable" "java/lang/Throwable" "fillInStackTrace" "()Ljava/lang/Throwable;") ∈ lw_all := lw_g (lw_at lw_m1 157 rfl) rfl
theorem q216 : (Jvm.Cond.declares ({ cls := "java/lang/Throwable", name := "fillInStackTrace", desc := "()Ljava/lang/Throwable;" } : Jvm.MethodName)) ∈ lw_tbl := lw_at lw_m1 172 rfl
theorem q220 : (Jvm.Cond.codeSync ({ cls := "java/lang/Throwable", name := "fillInStackTrace", desc := "()Ljava/lang/Throwable;" } : Jvm.MethodName) prog_23_method_18_code (1 : Nat) (Option.some (Jvm.ClassFile.FieldType.object "java/lang/Throwable"))) ∈ lw_all := lw_g (lw_at lw_m1 176 rfl) rfl
theorem q221 : (Jvm.Cond.methodLink "java/lang/Throwable" (202 : Nat) ({ cls := "java/lang/Throwable", name := "fillInStackTrace", desc := "(I)Ljava/lang/Throwable;" } : Jvm.MethodName)) ∈ lw_all := lw_g (lw_at lw_m1 177 rfl) rfl
theorem q222 : (Jvm.Cond.privateMethod ({ cls := "java/lang/Throwable", name := "fillInStackTrace", desc := "(I)Ljava/lang/Throwable;" } : Jvm.MethodName)) ∈ lw_tbl := lw_at lw_m1 178 rfl
theorem q223 : (Jvm.Cond.instanceMethod ({ cls := "java/lang/Throwable", name := "fillInStackTrace", desc := "(I)Ljava/lang/Throwable;" } : Jvm.MethodName)) ∈ lw_all := lw_g (lw_at lw_m1 179 rfl) rfl
theorem q224 : (Jvm.Cond.instantiable "java/lang/Throwable" (6 : Nat)) ∈ lw_all := lw_g (lw_at lw_m1 180 rfl) rfl
theorem q225 : (Jvm.Cond.native ({ cls := "java/lang/Throwable", name := "fillInStackTrace", desc := "(I)Ljava/lang/Throwable;" } : Jvm.MethodName)) ∈ lw_all := lw_g (lw_at lw_m1 181 rfl) rfl
theorem q233 : (Jvm.Cond.instanceMethod ({ cls := "java/lang/Throwable", name := "<init>", desc := "(Ljava/lang/String;Ljava/lang/Throwable;ZZ)V" } : Jvm.MethodName)) ∈ lw_all := lw_g (lw_at lw_m1 189 rfl) rfl
theorem q234 : (Jvm.Cond.code ({ cls := "java/lang/Throwable", name := "<init>", desc := "(Ljava/lang/String;Ljava/lang/Throwable;ZZ)V" } : Jvm.MethodName) prog_23_method_5_code (5 : Nat) (Option.none : Option Jvm.ClassFile.FieldType)) ∈ lw_all := lw_g (lw_at lw_m1 190 rfl) rfl
theorem q236 : (Jvm.Cond.fieldLink "java/lang/Throwable" (198 : Nat) "java/lang/Throwable" "backtrace" "Ljava/lang/Object;") ∈ lw_all := lw_g (lw_at lw_m1 192 rfl) rfl
theorem q237 : (Jvm.Cond.fieldLink "java/lang/Throwable" (31 : Nat) "java/lang/Throwable" "detailMessage" "Ljava/lang/String;") ∈ lw_all := lw_g (lw_at lw_m1 193 rfl) rfl
theorem q238 : (Jvm.Cond.fieldLink "java/lang/Throwable" (7 : Nat) "java/lang/Throwable" "cause" "Ljava/lang/Throwable;") ∈ lw_all := lw_g (lw_at lw_m1 194 rfl) rfl
theorem q239 : (Jvm.Cond.fieldLink "java/lang/Throwable" (17 : Nat) "java/lang/Throwable" "stackTrace" "[Ljava/lang/StackTraceElement;") ∈ lw_all := lw_g (lw_at lw_m1 195 rfl) rfl
theorem q240 : (Jvm.Cond.fieldLink "java/lang/Throwable" (24 : Nat) "java/lang/Throwable" "suppressedExceptions" "Ljava/util/List;") ∈ lw_all := lw_g (lw_at lw_m1 196 rfl) rfl
theorem q243 : (Jvm.Cond.soleField "java/lang/Throwable" "backtrace") ∈ lw_all := lw_g (lw_at lw_m1 199 rfl) rfl
theorem q244 : (Jvm.Cond.soleField "java/lang/Throwable" "detailMessage") ∈ lw_all := lw_g (lw_at lw_m1 200 rfl) rfl
theorem q245 : (Jvm.Cond.soleField "java/lang/Throwable" "cause") ∈ lw_all := lw_g (lw_at lw_m1 201 rfl) rfl
theorem q246 : (Jvm.Cond.soleField "java/lang/Throwable" "stackTrace") ∈ lw_all := lw_g (lw_at lw_m1 202 rfl) rfl
theorem q248 : (Jvm.Cond.soleField "java/lang/Throwable" "depth") ∈ lw_all := lw_g (lw_at lw_m1 204 rfl) rfl
theorem q249 : (Jvm.Cond.soleField "java/lang/Throwable" "suppressedExceptions") ∈ lw_all := lw_g (lw_at lw_m1 205 rfl) rfl
theorem q651 : (Jvm.Cond.instanceMethod ({ cls := "java/lang/Throwable", name := "<init>", desc := "(Ljava/lang/String;)V" } : Jvm.MethodName)) ∈ lw_all := lw_g (lw_at lw_m3 127 rfl) rfl
theorem q652 : (Jvm.Cond.code ({ cls := "java/lang/Throwable", name := "<init>", desc := "(Ljava/lang/String;)V" } : Jvm.MethodName) prog_23_method_2_code (2 : Nat) (Option.none : Option Jvm.ClassFile.FieldType)) ∈ lw_all := lw_g (lw_at lw_m3 128 rfl) rfl
theorem q1097 : (Jvm.Cond.sameMethod "java/lang/Throwable" "java/lang/Throwable" "fillInStackTrace" "(I)Ljava/lang/Throwable;") ∈ lw_all := lw_g (lw_at lw_m5 93 rfl) rfl
theorem in_J0 : ∀ w ∈ wsJ00, w ∈ lw_all := lw_in wsJ00 [181, 183, 185, 187, 189] (by decide +kernel) (by decide +kernel)
/-! java/lang/Exception -/
set_option maxRecDepth 100000
def RJ1 : String := "java/lang/Exception"
abbrev cJ1_init : ByteArray := prog_14_method_5_code
def yJ1_init : MethodName := ⟨RJ1, "<init>", "(Ljava/lang/String;Ljava/lang/Throwable;ZZ)V"⟩
def dkwJ1_init_0 : List UInt8 := [42, 43, 44, 29, 21, 4, 183, 0, 16, 177]
abbrev dktJ1_init_0 : List UInt8 := dkwJ1_init_0 ++ []
theorem dksJ1_init_0 : cJ1_init.data.toList.drop 0 = dktJ1_init_0 := by decide +kernel
theorem dJ1_init_0 : decode cJ1_init 0 = .ok (.aload_n 0, 1) := dk_42 (dk_at dksJ1_init_0 0 rfl rfl)
theorem dJ1_init_1 : decode cJ1_init 1 = .ok (.aload_n 1, 1) := dk_43 (dk_at dksJ1_init_0 1 rfl rfl)
theorem dJ1_init_2 : decode cJ1_init 2 = .ok (.aload_n 2, 1) := dk_44 (dk_at dksJ1_init_0 2 rfl rfl)
theorem dJ1_init_3 : decode cJ1_init 3 = .ok (.iload_n 3, 1) := dk_29 (dk_at dksJ1_init_0 3 rfl rfl)
theorem dJ1_init_4 : decode cJ1_init 4 = .ok (.iload 4, 2) := dk_21 4 (dk_at dksJ1_init_0 4 rfl rfl)
theorem dJ1_init_6 : decode cJ1_init 6 = .ok (.invokespecial 16, 3) := dk_183 0 16 (dk_at dksJ1_init_0 6 rfl rfl)
theorem dJ1_init_9 : decode cJ1_init 9 = .ok (.return_, 1) := dk_177 (dk_at dksJ1_init_0 9 rfl rfl)
abbrev cJ1_init_2 : ByteArray := prog_14_method_2_code
def yJ1_init_2 : MethodName := ⟨RJ1, "<init>", "(Ljava/lang/String;)V"⟩
def dkwJ1_init_2_0 : List UInt8 := [42, 43, 183, 0, 7, 177]
abbrev dktJ1_init_2_0 : List UInt8 := dkwJ1_init_2_0 ++ []
theorem dksJ1_init_2_0 : cJ1_init_2.data.toList.drop 0 = dktJ1_init_2_0 := by decide +kernel
theorem dJ1_init_2_0 : decode cJ1_init_2 0 = .ok (.aload_n 0, 1) := dk_42 (dk_at dksJ1_init_2_0 0 rfl rfl)
theorem dJ1_init_2_1 : decode cJ1_init_2 1 = .ok (.aload_n 1, 1) := dk_43 (dk_at dksJ1_init_2_0 1 rfl rfl)
theorem dJ1_init_2_2 : decode cJ1_init_2 2 = .ok (.invokespecial 7, 3) := dk_183 0 7 (dk_at dksJ1_init_2_0 2 rfl rfl)
theorem dJ1_init_2_5 : decode cJ1_init_2 5 = .ok (.return_, 1) := dk_177 (dk_at dksJ1_init_2_0 5 rfl rfl)
abbrev cJ1_init_3 : ByteArray := prog_14_method_1_code
def yJ1_init_3 : MethodName := ⟨RJ1, "<init>", "()V"⟩
theorem dJ1_init_3_0 : decode cJ1_init_3 0 = .ok (.aload_n 0, 1) := by decide +kernel
theorem dJ1_init_3_1 : decode cJ1_init_3 1 = .ok (.invokespecial 1, 3) := by decide +kernel
theorem dJ1_init_3_4 : decode cJ1_init_3 4 = .ok (.return_, 1) := by decide +kernel
theorem q52 : (Jvm.Cond.initialized "java/lang/Exception") ∈ lw_all := lw_g (lw_at lw_m1 8 rfl) rfl
theorem q174 : (Jvm.Cond.declares ({ cls := "java/lang/Exception", name := "<init>", desc := "()V" } : Jvm.MethodName)) ∈ lw_tbl := lw_at lw_m1 130 rfl
theorem q175 : (Jvm.Cond.declares ({ cls := "java/lang/Exception", name := "<init>", desc := "(Ljava/lang/String;)V" } : Jvm.MethodName)) ∈ lw_tbl := lw_at lw_m1 131 rfl
theorem q219 : (Jvm.Cond.superclass "java/lang/Exception" "java/lang/Throwable") ∈ lw_all := lw_g (lw_at lw_m1 175 rfl) rfl
theorem q230 : (Jvm.Cond.instanceMethod ({ cls := "java/lang/Exception", name := "<init>", desc := "(Ljava/lang/String;Ljava/lang/Throwable;ZZ)V" } : Jvm.MethodName)) ∈ lw_all := lw_g (lw_at lw_m1 186 rfl) rfl
theorem q231 : (Jvm.Cond.code ({ cls := "java/lang/Exception", name := "<init>", desc := "(Ljava/lang/String;Ljava/lang/Throwable;ZZ)V" } : Jvm.MethodName) prog_14_method_5_code (5 : Nat) (Option.none : Option Jvm.ClassFile.FieldType)) ∈ lw_all := lw_g (lw_at lw_m1 187 rfl) rfl
theorem q232 : (Jvm.Cond.methodLink "java/lang/Exception" (16 : Nat) ({ cls := "java/lang/Throwable", name := "<init>", desc := "(Ljava/lang/String;Ljava/lang/Throwable;ZZ)V" } : Jvm.MethodName)) ∈ lw_all := lw_g (lw_at lw_m1 188 rfl) rfl
theorem q648 : (Jvm.Cond.instanceMethod ({ cls := "java/lang/Exception", name := "<init>", desc := "(Ljava/lang/String;)V" } : Jvm.MethodName)) ∈ lw_all := lw_g (lw_at lw_m3 124 rfl) rfl
theorem q649 : (Jvm.Cond.code ({ cls := "java/lang/Exception", name := "<init>", desc := "(Ljava/lang/String;)V" } : Jvm.MethodName) prog_14_method_2_code (2 : Nat) (Option.none : Option Jvm.ClassFile.FieldType)) ∈ lw_all := lw_g (lw_at lw_m3 125 rfl) rfl
theorem q650 : (Jvm.Cond.methodLink "java/lang/Exception" (7 : Nat) ({ cls := "java/lang/Throwable", name := "<init>", desc := "(Ljava/lang/String;)V" } : Jvm.MethodName)) ∈ lw_all := lw_g (lw_at lw_m3 126 rfl) rfl
theorem q685 : (Jvm.Cond.instanceMethod ({ cls := "java/lang/Exception", name := "<init>", desc := "()V" } : Jvm.MethodName)) ∈ lw_all := lw_g (lw_at lw_m3 161 rfl) rfl
theorem q686 : (Jvm.Cond.code ({ cls := "java/lang/Exception", name := "<init>", desc := "()V" } : Jvm.MethodName) prog_14_method_1_code (1 : Nat) (Option.none : Option Jvm.ClassFile.FieldType)) ∈ lw_all := lw_g (lw_at lw_m3 162 rfl) rfl
theorem q687 : (Jvm.Cond.methodLink "java/lang/Exception" (1 : Nat) ({ cls := "java/lang/Throwable", name := "<init>", desc := "()V" } : Jvm.MethodName)) ∈ lw_all := lw_g (lw_at lw_m3 163 rfl) rfl
/-! java/lang/ArrayIndexOutOfBoundsException -/
set_option maxRecDepth 100000
def RJ10 : String := "java/lang/ArrayIndexOutOfBoundsException"
def TJ10 : u_T := fun k => match k with
  | 0 => ("java/lang/Throwable", "backtrace", "Ljava/lang/Object;", false)
  | 1 => ("java/lang/Throwable", "detailMessage", "Ljava/lang/String;", false)
  | 2 => ("java/lang/Throwable", "cause", "Ljava/lang/Throwable;", false)
  | 3 => ("java/lang/Throwable", "stackTrace", "[Ljava/lang/StackTraceElement;", false)
  | 4 => ("java/lang/Throwable", "depth", "I", false)
  | _ => ("java/lang/Throwable", "suppressedExceptions", "Ljava/util/List;", false)
def tyJ10 : Nat → FieldType := fun k => match k with
  | 0 => .object "java/lang/Object"
  | 1 => .object "java/lang/String"
  | 2 => .object "java/lang/Throwable"
  | 3 => .array (.object "java/lang/StackTraceElement")
  | 4 => .int
  | _ => .object "java/util/List"
abbrev wsJ100 : List Cond := u_ws RJ10 TJ10 6
theorem nmJ10 : ∀ a, a < 6 → ∀ b, b < 6 → a ≠ b → (TJ10 a).2.1 ≠ (TJ10 b).2.1 := by decide +kernel
theorem tyJ10_ok : ∀ k, k < 6 → parseFieldDescriptor (TJ10 k).2.2.1 = some (tyJ10 k) := by decide +kernel
abbrev cJ10_init : ByteArray := prog_11_method_2_code
def yJ10_init : MethodName := ⟨RJ10, "<init>", "(Ljava/lang/String;)V"⟩
def dkwJ10_init_0 : List UInt8 := [42, 43, 183, 0, 7, 177]
abbrev dktJ10_init_0 : List UInt8 := dkwJ10_init_0 ++ []
theorem dksJ10_init_0 : cJ10_init.data.toList.drop 0 = dktJ10_init_0 := by decide +kernel
theorem dJ10_init_0 : decode cJ10_init 0 = .ok (.aload_n 0, 1) := dk_42 (dk_at dksJ10_init_0 0 rfl rfl)
theorem dJ10_init_1 : decode cJ10_init 1 = .ok (.aload_n 1, 1) := dk_43 (dk_at dksJ10_init_0 1 rfl rfl)
theorem dJ10_init_2 : decode cJ10_init 2 = .ok (.invokespecial 7, 3) := dk_183 0 7 (dk_at dksJ10_init_0 2 rfl rfl)
theorem dJ10_init_5 : decode cJ10_init 5 = .ok (.return_, 1) := dk_177 (dk_at dksJ10_init_0 5 rfl rfl)
theorem q65 : (Jvm.Cond.initialized "java/lang/ArrayIndexOutOfBoundsException") ∈ lw_all := lw_g (lw_at lw_m1 21 rfl) rfl
theorem q202 : (Jvm.Cond.selects "java/lang/ArrayIndexOutOfBoundsException" ({ cls := "java/lang/Throwable", name := "fillInStackTrace", desc := "()Ljava/lang/Throwable;" } : Jvm.MethodName) ({ cls := "java/lang/Throwable", name := "fillInStackTrace", desc := "()Ljava/lang/Throwable;" } : Jvm.MethodName)) ∈ lw_all := lw_g (lw_at lw_m1 158 rfl) rfl
theorem q718 : (Jvm.Cond.instantiable "java/lang/ArrayIndexOutOfBoundsException" (6 : Nat)) ∈ lw_all := lw_g (lw_at lw_m3 194 rfl) rfl
theorem q719 : (Jvm.Cond.instanceMethod ({ cls := "java/lang/ArrayIndexOutOfBoundsException", name := "<init>", desc := "(Ljava/lang/String;)V" } : Jvm.MethodName)) ∈ lw_all := lw_g (lw_at lw_m3 195 rfl) rfl
theorem q720 : (Jvm.Cond.code ({ cls := "java/lang/ArrayIndexOutOfBoundsException", name := "<init>", desc := "(Ljava/lang/String;)V" } : Jvm.MethodName) prog_11_method_2_code (2 : Nat) (Option.none : Option Jvm.ClassFile.FieldType)) ∈ lw_all := lw_g (lw_at lw_m3 196 rfl) rfl
theorem q721 : (Jvm.Cond.methodLink "java/lang/ArrayIndexOutOfBoundsException" (7 : Nat) ({ cls := "java/lang/IndexOutOfBoundsException", name := "<init>", desc := "(Ljava/lang/String;)V" } : Jvm.MethodName)) ∈ lw_all := lw_g (lw_at lw_m3 197 rfl) rfl
theorem q725 : (Jvm.Cond.lays "java/lang/ArrayIndexOutOfBoundsException" "java/lang/Throwable" "backtrace" "Ljava/lang/Object;") ∈ lw_all := lw_g (lw_at lw_m3 201 rfl) rfl
theorem q726 : (Jvm.Cond.lays "java/lang/ArrayIndexOutOfBoundsException" "java/lang/Throwable" "detailMessage" "Ljava/lang/String;") ∈ lw_all := lw_g (lw_at lw_m3 202 rfl) rfl
theorem q727 : (Jvm.Cond.lays "java/lang/ArrayIndexOutOfBoundsException" "java/lang/Throwable" "cause" "Ljava/lang/Throwable;") ∈ lw_all := lw_g (lw_at lw_m3 203 rfl) rfl
theorem q728 : (Jvm.Cond.lays "java/lang/ArrayIndexOutOfBoundsException" "java/lang/Throwable" "stackTrace" "[Ljava/lang/StackTraceElement;") ∈ lw_all := lw_g (lw_at lw_m3 204 rfl) rfl
theorem q729 : (Jvm.Cond.lays "java/lang/ArrayIndexOutOfBoundsException" "java/lang/Throwable" "depth" "I") ∈ lw_all := lw_g (lw_at lw_m3 205 rfl) rfl
theorem q730 : (Jvm.Cond.lays "java/lang/ArrayIndexOutOfBoundsException" "java/lang/Throwable" "suppressedExceptions" "Ljava/util/List;") ∈ lw_all := lw_g (lw_at lw_m3 206 rfl) rfl
theorem q731 : (Jvm.Cond.superclass "java/lang/ArrayIndexOutOfBoundsException" "java/lang/IndexOutOfBoundsException") ∈ lw_all := lw_g (lw_at lw_m3 207 rfl) rfl
theorem q732 : (Jvm.Cond.castable "java/lang/ArrayIndexOutOfBoundsException" "java/lang/ArrayIndexOutOfBoundsException") ∈ lw_tbl := lw_at lw_m3 208 rfl
theorem q735 : (Jvm.Cond.selects "java/lang/ArrayIndexOutOfBoundsException" ({ cls := "java/lang/Throwable", name := "fillInStackTrace", desc := "(I)Ljava/lang/Throwable;" } : Jvm.MethodName) ({ cls := "java/lang/Throwable", name := "fillInStackTrace", desc := "(I)Ljava/lang/Throwable;" } : Jvm.MethodName)) ∈ lw_all := lw_g (lw_at lw_m3 211 rfl) rfl
theorem q1099 : (Jvm.Cond.castable "java/lang/ArrayIndexOutOfBoundsException" "java/lang/IndexOutOfBoundsException") ∈ lw_tbl := lw_at lw_m5 95 rfl
theorem in_J10 : ∀ w ∈ wsJ100, w ∈ lw_all := lw_in wsJ100 [725, 726, 727, 728, 729, 730] (by decide +kernel) (by decide +kernel)
/-! java/lang/ArrayStoreException -/
set_option maxRecDepth 100000
def RJ11 : String := "java/lang/ArrayStoreException"
def TJ11 : u_T := fun k => match k with
  | 0 => ("java/lang/Throwable", "backtrace", "Ljava/lang/Object;", false)
  | 1 => ("java/lang/Throwable", "detailMessage", "Ljava/lang/String;", false)
  | 2 => ("java/lang/Throwable", "cause", "Ljava/lang/Throwable;", false)
  | 3 => ("java/lang/Throwable", "stackTrace", "[Ljava/lang/StackTraceElement;", false)
  | 4 => ("java/lang/Throwable", "depth", "I", false)
  | _ => ("java/lang/Throwable", "suppressedExceptions", "Ljava/util/List;", false)
def tyJ11 : Nat → FieldType := fun k => match k with
  | 0 => .object "java/lang/Object"
  | 1 => .object "java/lang/String"
  | 2 => .object "java/lang/Throwable"
  | 3 => .array (.object "java/lang/StackTraceElement")
  | 4 => .int
  | _ => .object "java/util/List"
abbrev wsJ110 : List Cond := u_ws RJ11 TJ11 6
theorem nmJ11 : ∀ a, a < 6 → ∀ b, b < 6 → a ≠ b → (TJ11 a).2.1 ≠ (TJ11 b).2.1 := by decide +kernel
theorem tyJ11_ok : ∀ k, k < 6 → parseFieldDescriptor (TJ11 k).2.2.1 = some (tyJ11 k) := by decide +kernel
abbrev cJ11_init : ByteArray := prog_12_method_2_code
def yJ11_init : MethodName := ⟨RJ11, "<init>", "(Ljava/lang/String;)V"⟩
def dkwJ11_init_0 : List UInt8 := [42, 43, 183, 0, 7, 177]
abbrev dktJ11_init_0 : List UInt8 := dkwJ11_init_0 ++ []
theorem dksJ11_init_0 : cJ11_init.data.toList.drop 0 = dktJ11_init_0 := by decide +kernel
theorem dJ11_init_0 : decode cJ11_init 0 = .ok (.aload_n 0, 1) := dk_42 (dk_at dksJ11_init_0 0 rfl rfl)
theorem dJ11_init_1 : decode cJ11_init 1 = .ok (.aload_n 1, 1) := dk_43 (dk_at dksJ11_init_0 1 rfl rfl)
theorem dJ11_init_2 : decode cJ11_init 2 = .ok (.invokespecial 7, 3) := dk_183 0 7 (dk_at dksJ11_init_0 2 rfl rfl)
theorem dJ11_init_5 : decode cJ11_init 5 = .ok (.return_, 1) := dk_177 (dk_at dksJ11_init_0 5 rfl rfl)
theorem q66 : (Jvm.Cond.initialized "java/lang/ArrayStoreException") ∈ lw_all := lw_g (lw_at lw_m1 22 rfl) rfl
theorem q203 : (Jvm.Cond.selects "java/lang/ArrayStoreException" ({ cls := "java/lang/Throwable", name := "fillInStackTrace", desc := "()Ljava/lang/Throwable;" } : Jvm.MethodName) ({ cls := "java/lang/Throwable", name := "fillInStackTrace", desc := "()Ljava/lang/Throwable;" } : Jvm.MethodName)) ∈ lw_all := lw_g (lw_at lw_m1 159 rfl) rfl
theorem q744 : (Jvm.Cond.instantiable "java/lang/ArrayStoreException" (6 : Nat)) ∈ lw_all := lw_g (lw_at lw_m3 220 rfl) rfl
theorem q745 : (Jvm.Cond.instanceMethod ({ cls := "java/lang/ArrayStoreException", name := "<init>", desc := "(Ljava/lang/String;)V" } : Jvm.MethodName)) ∈ lw_all := lw_g (lw_at lw_m3 221 rfl) rfl
theorem q746 : (Jvm.Cond.code ({ cls := "java/lang/ArrayStoreException", name := "<init>", desc := "(Ljava/lang/String;)V" } : Jvm.MethodName) prog_12_method_2_code (2 : Nat) (Option.none : Option Jvm.ClassFile.FieldType)) ∈ lw_all := lw_g (lw_at lw_m3 222 rfl) rfl
theorem q747 : (Jvm.Cond.methodLink "java/lang/ArrayStoreException" (7 : Nat) ({ cls := "java/lang/RuntimeException", name := "<init>", desc := "(Ljava/lang/String;)V" } : Jvm.MethodName)) ∈ lw_all := lw_g (lw_at lw_m3 223 rfl) rfl
theorem q748 : (Jvm.Cond.lays "java/lang/ArrayStoreException" "java/lang/Throwable" "backtrace" "Ljava/lang/Object;") ∈ lw_all := lw_g (lw_at lw_m3 224 rfl) rfl
theorem q749 : (Jvm.Cond.lays "java/lang/ArrayStoreException" "java/lang/Throwable" "detailMessage" "Ljava/lang/String;") ∈ lw_all := lw_g (lw_at lw_m3 225 rfl) rfl
theorem q750 : (Jvm.Cond.lays "java/lang/ArrayStoreException" "java/lang/Throwable" "cause" "Ljava/lang/Throwable;") ∈ lw_all := lw_g (lw_at lw_m3 226 rfl) rfl
theorem q751 : (Jvm.Cond.lays "java/lang/ArrayStoreException" "java/lang/Throwable" "stackTrace" "[Ljava/lang/StackTraceElement;") ∈ lw_all := lw_g (lw_at lw_m3 227 rfl) rfl
theorem q752 : (Jvm.Cond.lays "java/lang/ArrayStoreException" "java/lang/Throwable" "depth" "I") ∈ lw_all := lw_g (lw_at lw_m3 228 rfl) rfl
theorem q753 : (Jvm.Cond.lays "java/lang/ArrayStoreException" "java/lang/Throwable" "suppressedExceptions" "Ljava/util/List;") ∈ lw_all := lw_g (lw_at lw_m3 229 rfl) rfl
theorem q754 : (Jvm.Cond.superclass "java/lang/ArrayStoreException" "java/lang/RuntimeException") ∈ lw_all := lw_g (lw_at lw_m3 230 rfl) rfl
theorem q755 : (Jvm.Cond.castable "java/lang/ArrayStoreException" "java/lang/ArrayStoreException") ∈ lw_tbl := lw_at lw_m3 231 rfl
theorem q756 : (Jvm.Cond.selects "java/lang/ArrayStoreException" ({ cls := "java/lang/Throwable", name := "fillInStackTrace", desc := "(I)Ljava/lang/Throwable;" } : Jvm.MethodName) ({ cls := "java/lang/Throwable", name := "fillInStackTrace", desc := "(I)Ljava/lang/Throwable;" } : Jvm.MethodName)) ∈ lw_all := lw_g (lw_at lw_m3 232 rfl) rfl
theorem in_J11 : ∀ w ∈ wsJ110, w ∈ lw_all := lw_in wsJ110 [748, 749, 750, 751, 752, 753] (by decide +kernel) (by decide +kernel)
/-! java/lang/Object -/
set_option maxRecDepth 100000
def RJ12 : String := "java/lang/Object"
abbrev cJ12_init : ByteArray := object_method_1_code
def yJ12_init : MethodName := ⟨RJ12, "<init>", "()V"⟩
theorem dJ12_init_0 : decode cJ12_init 0 = .ok (.return_, 1) := by decide +kernel
theorem q73 : (Jvm.Cond.instanceMethod ({ cls := "java/lang/Object", name := "<init>", desc := "()V" } : Jvm.MethodName)) ∈ lw_all := lw_g (lw_at lw_m1 29 rfl) rfl
theorem q74 : (Jvm.Cond.code ({ cls := "java/lang/Object", name := "<init>", desc := "()V" } : Jvm.MethodName) object_method_1_code (1 : Nat) (Option.none : Option Jvm.ClassFile.FieldType)) ∈ lw_all := lw_g (lw_at lw_m1 30 rfl) rfl
/-! java/lang/Math -/
set_option maxRecDepth 100000
def RJ2 : String := "java/lang/Math"
abbrev cJ2_min : ByteArray := prog_17_method_69_code
def yJ2_min : MethodName := ⟨RJ2, "min", "(II)I"⟩
def dkwJ2_min_0 : List UInt8 := [26, 27, 163, 0, 7, 26, 167, 0, 4, 27, 172]
abbrev dktJ2_min_0 : List UInt8 := dkwJ2_min_0 ++ []
theorem dksJ2_min_0 : cJ2_min.data.toList.drop 0 = dktJ2_min_0 := by decide +kernel
theorem dJ2_min_0 : decode cJ2_min 0 = .ok (.iload_n 0, 1) := dk_26 (dk_at dksJ2_min_0 0 rfl rfl)
theorem dJ2_min_1 : decode cJ2_min 1 = .ok (.iload_n 1, 1) := dk_27 (dk_at dksJ2_min_0 1 rfl rfl)
theorem dJ2_min_2 : decode cJ2_min 2 = .ok (.if_icmp .gt 7, 3) := dk_163 0 7 (dk_at dksJ2_min_0 2 rfl rfl)
theorem dJ2_min_5 : decode cJ2_min 5 = .ok (.iload_n 0, 1) := dk_26 (dk_at dksJ2_min_0 5 rfl rfl)
theorem dJ2_min_6 : decode cJ2_min 6 = .ok (.goto 4, 3) := dk_167 0 4 (dk_at dksJ2_min_0 6 rfl rfl)
theorem dJ2_min_9 : decode cJ2_min 9 = .ok (.iload_n 1, 1) := dk_27 (dk_at dksJ2_min_0 9 rfl rfl)
theorem dJ2_min_10 : decode cJ2_min 10 = .ok (.ireturn, 1) := dk_172 (dk_at dksJ2_min_0 10 rfl rfl)
abbrev cJ2_max : ByteArray := prog_17_method_65_code
def yJ2_max : MethodName := ⟨RJ2, "max", "(II)I"⟩
def dkwJ2_max_0 : List UInt8 := [26, 27, 161, 0, 7, 26, 167, 0, 4, 27, 172]
abbrev dktJ2_max_0 : List UInt8 := dkwJ2_max_0 ++ []
theorem dksJ2_max_0 : cJ2_max.data.toList.drop 0 = dktJ2_max_0 := by decide +kernel
theorem dJ2_max_0 : decode cJ2_max 0 = .ok (.iload_n 0, 1) := dk_26 (dk_at dksJ2_max_0 0 rfl rfl)
theorem dJ2_max_1 : decode cJ2_max 1 = .ok (.iload_n 1, 1) := dk_27 (dk_at dksJ2_max_0 1 rfl rfl)
theorem dJ2_max_2 : decode cJ2_max 2 = .ok (.if_icmp .lt 7, 3) := dk_161 0 7 (dk_at dksJ2_max_0 2 rfl rfl)
theorem dJ2_max_5 : decode cJ2_max 5 = .ok (.iload_n 0, 1) := dk_26 (dk_at dksJ2_max_0 5 rfl rfl)
theorem dJ2_max_6 : decode cJ2_max 6 = .ok (.goto 4, 3) := dk_167 0 4 (dk_at dksJ2_max_0 6 rfl rfl)
theorem dJ2_max_9 : decode cJ2_max 9 = .ok (.iload_n 1, 1) := dk_27 (dk_at dksJ2_max_0 9 rfl rfl)
theorem dJ2_max_10 : decode cJ2_max 10 = .ok (.ireturn, 1) := dk_172 (dk_at dksJ2_max_0 10 rfl rfl)
theorem q56 : (Jvm.Cond.initialized "java/lang/Math") ∈ lw_all := lw_g (lw_at lw_m1 12 rfl) rfl
theorem q376 : (Jvm.Cond.static ({ cls := "java/lang/Math", name := "min", desc := "(II)I" } : Jvm.MethodName)) ∈ lw_all := lw_g (lw_at lw_m2 92 rfl) rfl
theorem q377 : (Jvm.Cond.code ({ cls := "java/lang/Math", name := "min", desc := "(II)I" } : Jvm.MethodName) prog_17_method_69_code (2 : Nat) (Option.some Jvm.ClassFile.FieldType.int)) ∈ lw_all := lw_g (lw_at lw_m2 93 rfl) rfl
theorem q497 : (Jvm.Cond.static ({ cls := "java/lang/Math", name := "max", desc := "(II)I" } : Jvm.MethodName)) ∈ lw_all := lw_g (lw_at lw_m2 213 rfl) rfl
theorem q498 : (Jvm.Cond.code ({ cls := "java/lang/Math", name := "max", desc := "(II)I" } : Jvm.MethodName) prog_17_method_65_code (2 : Nat) (Option.some Jvm.ClassFile.FieldType.int)) ∈ lw_all := lw_g (lw_at lw_m2 214 rfl) rfl
/-! java/lang/Integer -/
set_option maxRecDepth 100000
def RJ3 : String := "java/lang/Integer"
abbrev cJ3_bitCount : ByteArray := prog_16_method_49_code
def yJ3_bitCount : MethodName := ⟨RJ3, "bitCount", "(I)I"⟩
def dkwJ3_bitCount_2 : List UInt8 := [26, 16, 63, 126, 172]
abbrev dktJ3_bitCount_2 : List UInt8 := dkwJ3_bitCount_2 ++ []
def dkwJ3_bitCount_1 : List UInt8 := [26, 26, 7, 124, 96, 19, 1, 11, 126, 59, 26, 26, 16, 8, 124, 96, 59, 26, 26, 16, 16, 124, 96, 59]
abbrev dktJ3_bitCount_1 : List UInt8 := dkwJ3_bitCount_1 ++ dktJ3_bitCount_2
def dkwJ3_bitCount_0 : List UInt8 := [26, 26, 4, 124, 19, 1, 9, 126, 100, 59, 26, 19, 1, 10, 126, 26, 5, 124, 19, 1, 10, 126, 96, 59]
abbrev dktJ3_bitCount_0 : List UInt8 := dkwJ3_bitCount_0 ++ dktJ3_bitCount_1
theorem dksJ3_bitCount_0 : cJ3_bitCount.data.toList.drop 0 = dktJ3_bitCount_0 := by decide +kernel
theorem dksJ3_bitCount_1 : cJ3_bitCount.data.toList.drop 24 = dktJ3_bitCount_1 := dk_seg dksJ3_bitCount_0 24 rfl rfl
theorem dksJ3_bitCount_2 : cJ3_bitCount.data.toList.drop 48 = dktJ3_bitCount_2 := dk_seg dksJ3_bitCount_1 24 rfl rfl
theorem dJ3_bitCount_0 : decode cJ3_bitCount 0 = .ok (.iload_n 0, 1) := dk_26 (dk_at dksJ3_bitCount_0 0 rfl rfl)
theorem dJ3_bitCount_1 : decode cJ3_bitCount 1 = .ok (.iload_n 0, 1) := dk_26 (dk_at dksJ3_bitCount_0 1 rfl rfl)
theorem dJ3_bitCount_2 : decode cJ3_bitCount 2 = .ok (.iconst 1, 1) := dk_4 (dk_at dksJ3_bitCount_0 2 rfl rfl)
theorem dJ3_bitCount_3 : decode cJ3_bitCount 3 = .ok (.iushr, 1) := dk_124 (dk_at dksJ3_bitCount_0 3 rfl rfl)
theorem dJ3_bitCount_4 : decode cJ3_bitCount 4 = .ok (.ldc_w 265, 3) := dk_19 1 9 (dk_at dksJ3_bitCount_0 4 rfl rfl)
theorem dJ3_bitCount_7 : decode cJ3_bitCount 7 = .ok (.iand, 1) := dk_126 (dk_at dksJ3_bitCount_0 7 rfl rfl)
theorem dJ3_bitCount_8 : decode cJ3_bitCount 8 = .ok (.isub, 1) := dk_100 (dk_at dksJ3_bitCount_0 8 rfl rfl)
theorem dJ3_bitCount_9 : decode cJ3_bitCount 9 = .ok (.istore_n 0, 1) := dk_59 (dk_at dksJ3_bitCount_0 9 rfl rfl)
theorem dJ3_bitCount_10 : decode cJ3_bitCount 10 = .ok (.iload_n 0, 1) := dk_26 (dk_at dksJ3_bitCount_0 10 rfl rfl)
theorem dJ3_bitCount_11 : decode cJ3_bitCount 11 = .ok (.ldc_w 266, 3) := dk_19 1 10 (dk_at dksJ3_bitCount_0 11 rfl rfl)
theorem dJ3_bitCount_14 : decode cJ3_bitCount 14 = .ok (.iand, 1) := dk_126 (dk_at dksJ3_bitCount_0 14 rfl rfl)
theorem dJ3_bitCount_15 : decode cJ3_bitCount 15 = .ok (.iload_n 0, 1) := dk_26 (dk_at dksJ3_bitCount_0 15 rfl rfl)
theorem dJ3_bitCount_16 : decode cJ3_bitCount 16 = .ok (.iconst 2, 1) := dk_5 (dk_at dksJ3_bitCount_0 16 rfl rfl)
theorem dJ3_bitCount_17 : decode cJ3_bitCount 17 = .ok (.iushr, 1) := dk_124 (dk_at dksJ3_bitCount_0 17 rfl rfl)
theorem dJ3_bitCount_18 : decode cJ3_bitCount 18 = .ok (.ldc_w 266, 3) := dk_19 1 10 (dk_at dksJ3_bitCount_0 18 rfl rfl)
theorem dJ3_bitCount_21 : decode cJ3_bitCount 21 = .ok (.iand, 1) := dk_126 (dk_at dksJ3_bitCount_0 21 rfl rfl)
theorem dJ3_bitCount_22 : decode cJ3_bitCount 22 = .ok (.iadd, 1) := dk_96 (dk_at dksJ3_bitCount_0 22 rfl rfl)
theorem dJ3_bitCount_23 : decode cJ3_bitCount 23 = .ok (.istore_n 0, 1) := dk_59 (dk_at dksJ3_bitCount_0 23 rfl rfl)
theorem dJ3_bitCount_24 : decode cJ3_bitCount 24 = .ok (.iload_n 0, 1) := dk_26 (dk_at dksJ3_bitCount_1 0 rfl rfl)
theorem dJ3_bitCount_25 : decode cJ3_bitCount 25 = .ok (.iload_n 0, 1) := dk_26 (dk_at dksJ3_bitCount_1 1 rfl rfl)
theorem dJ3_bitCount_26 : decode cJ3_bitCount 26 = .ok (.iconst 4, 1) := dk_7 (dk_at dksJ3_bitCount_1 2 rfl rfl)
theorem dJ3_bitCount_27 : decode cJ3_bitCount 27 = .ok (.iushr, 1) := dk_124 (dk_at dksJ3_bitCount_1 3 rfl rfl)
theorem dJ3_bitCount_28 : decode cJ3_bitCount 28 = .ok (.iadd, 1) := dk_96 (dk_at dksJ3_bitCount_1 4 rfl rfl)
theorem dJ3_bitCount_29 : decode cJ3_bitCount 29 = .ok (.ldc_w 267, 3) := dk_19 1 11 (dk_at dksJ3_bitCount_1 5 rfl rfl)
theorem dJ3_bitCount_32 : decode cJ3_bitCount 32 = .ok (.iand, 1) := dk_126 (dk_at dksJ3_bitCount_1 8 rfl rfl)
theorem dJ3_bitCount_33 : decode cJ3_bitCount 33 = .ok (.istore_n 0, 1) := dk_59 (dk_at dksJ3_bitCount_1 9 rfl rfl)
theorem dJ3_bitCount_34 : decode cJ3_bitCount 34 = .ok (.iload_n 0, 1) := dk_26 (dk_at dksJ3_bitCount_1 10 rfl rfl)
theorem dJ3_bitCount_35 : decode cJ3_bitCount 35 = .ok (.iload_n 0, 1) := dk_26 (dk_at dksJ3_bitCount_1 11 rfl rfl)
theorem dJ3_bitCount_36 : decode cJ3_bitCount 36 = .ok (.bipush 8, 2) := dk_16 8 (dk_at dksJ3_bitCount_1 12 rfl rfl)
theorem dJ3_bitCount_38 : decode cJ3_bitCount 38 = .ok (.iushr, 1) := dk_124 (dk_at dksJ3_bitCount_1 14 rfl rfl)
theorem dJ3_bitCount_39 : decode cJ3_bitCount 39 = .ok (.iadd, 1) := dk_96 (dk_at dksJ3_bitCount_1 15 rfl rfl)
theorem dJ3_bitCount_40 : decode cJ3_bitCount 40 = .ok (.istore_n 0, 1) := dk_59 (dk_at dksJ3_bitCount_1 16 rfl rfl)
theorem dJ3_bitCount_41 : decode cJ3_bitCount 41 = .ok (.iload_n 0, 1) := dk_26 (dk_at dksJ3_bitCount_1 17 rfl rfl)
theorem dJ3_bitCount_42 : decode cJ3_bitCount 42 = .ok (.iload_n 0, 1) := dk_26 (dk_at dksJ3_bitCount_1 18 rfl rfl)
theorem dJ3_bitCount_43 : decode cJ3_bitCount 43 = .ok (.bipush 16, 2) := dk_16 16 (dk_at dksJ3_bitCount_1 19 rfl rfl)
theorem dJ3_bitCount_45 : decode cJ3_bitCount 45 = .ok (.iushr, 1) := dk_124 (dk_at dksJ3_bitCount_1 21 rfl rfl)
theorem dJ3_bitCount_46 : decode cJ3_bitCount 46 = .ok (.iadd, 1) := dk_96 (dk_at dksJ3_bitCount_1 22 rfl rfl)
theorem dJ3_bitCount_47 : decode cJ3_bitCount 47 = .ok (.istore_n 0, 1) := dk_59 (dk_at dksJ3_bitCount_1 23 rfl rfl)
theorem dJ3_bitCount_48 : decode cJ3_bitCount 48 = .ok (.iload_n 0, 1) := dk_26 (dk_at dksJ3_bitCount_2 0 rfl rfl)
theorem dJ3_bitCount_49 : decode cJ3_bitCount 49 = .ok (.bipush 63, 2) := dk_16 63 (dk_at dksJ3_bitCount_2 1 rfl rfl)
theorem dJ3_bitCount_51 : decode cJ3_bitCount 51 = .ok (.iand, 1) := dk_126 (dk_at dksJ3_bitCount_2 3 rfl rfl)
theorem dJ3_bitCount_52 : decode cJ3_bitCount 52 = .ok (.ireturn, 1) := dk_172 (dk_at dksJ3_bitCount_2 4 rfl rfl)
theorem q58 : (Jvm.Cond.initialized "java/lang/Integer") ∈ lw_all := lw_g (lw_at lw_m1 14 rfl) rfl
theorem q567 : (Jvm.Cond.static ({ cls := "java/lang/Integer", name := "bitCount", desc := "(I)I" } : Jvm.MethodName)) ∈ lw_all := lw_g (lw_at lw_m3 43 rfl) rfl
theorem q568 : (Jvm.Cond.code ({ cls := "java/lang/Integer", name := "bitCount", desc := "(I)I" } : Jvm.MethodName) prog_16_method_49_code (1 : Nat) (Option.some Jvm.ClassFile.FieldType.int)) ∈ lw_all := lw_g (lw_at lw_m3 44 rfl) rfl
theorem q569 : (Jvm.Cond.constant "java/lang/Integer" (265 : Nat) (1431655765 : Int32)) ∈ lw_all := lw_g (lw_at lw_m3 45 rfl) rfl
theorem q570 : (Jvm.Cond.constant "java/lang/Integer" (266 : Nat) (858993459 : Int32)) ∈ lw_all := lw_g (lw_at lw_m3 46 rfl) rfl
theorem q571 : (Jvm.Cond.constant "java/lang/Integer" (267 : Nat) (252645135 : Int32)) ∈ lw_all := lw_g (lw_at lw_m3 47 rfl) rfl
/-! java/lang/RuntimeException -/
set_option maxRecDepth 100000
def RJ4 : String := "java/lang/RuntimeException"
abbrev cJ4_init : ByteArray := prog_20_method_2_code
def yJ4_init : MethodName := ⟨RJ4, "<init>", "(Ljava/lang/String;)V"⟩
def dkwJ4_init_0 : List UInt8 := [42, 43, 183, 0, 7, 177]
abbrev dktJ4_init_0 : List UInt8 := dkwJ4_init_0 ++ []
theorem dksJ4_init_0 : cJ4_init.data.toList.drop 0 = dktJ4_init_0 := by decide +kernel
theorem dJ4_init_0 : decode cJ4_init 0 = .ok (.aload_n 0, 1) := dk_42 (dk_at dksJ4_init_0 0 rfl rfl)
theorem dJ4_init_1 : decode cJ4_init 1 = .ok (.aload_n 1, 1) := dk_43 (dk_at dksJ4_init_0 1 rfl rfl)
theorem dJ4_init_2 : decode cJ4_init 2 = .ok (.invokespecial 7, 3) := dk_183 0 7 (dk_at dksJ4_init_0 2 rfl rfl)
theorem dJ4_init_5 : decode cJ4_init 5 = .ok (.return_, 1) := dk_177 (dk_at dksJ4_init_0 5 rfl rfl)
abbrev cJ4_init_2 : ByteArray := prog_20_method_1_code
def yJ4_init_2 : MethodName := ⟨RJ4, "<init>", "()V"⟩
theorem dJ4_init_2_0 : decode cJ4_init_2 0 = .ok (.aload_n 0, 1) := by decide +kernel
theorem dJ4_init_2_1 : decode cJ4_init_2 1 = .ok (.invokespecial 1, 3) := by decide +kernel
theorem dJ4_init_2_4 : decode cJ4_init_2 4 = .ok (.return_, 1) := by decide +kernel
theorem q59 : (Jvm.Cond.initialized "java/lang/RuntimeException") ∈ lw_all := lw_g (lw_at lw_m1 15 rfl) rfl
theorem q215 : (Jvm.Cond.sameMethod "java/lang/RuntimeException" "java/lang/Throwable" "fillInStackTrace" "()Ljava/lang/Throwable;") ∈ lw_all := lw_g (lw_at lw_m1 171 rfl) rfl
theorem q218 : (Jvm.Cond.superclass "java/lang/RuntimeException" "java/lang/Exception") ∈ lw_all := lw_g (lw_at lw_m1 174 rfl) rfl
theorem q645 : (Jvm.Cond.instanceMethod ({ cls := "java/lang/RuntimeException", name := "<init>", desc := "(Ljava/lang/String;)V" } : Jvm.MethodName)) ∈ lw_all := lw_g (lw_at lw_m3 121 rfl) rfl
theorem q646 : (Jvm.Cond.code ({ cls := "java/lang/RuntimeException", name := "<init>", desc := "(Ljava/lang/String;)V" } : Jvm.MethodName) prog_20_method_2_code (2 : Nat) (Option.none : Option Jvm.ClassFile.FieldType)) ∈ lw_all := lw_g (lw_at lw_m3 122 rfl) rfl
theorem q647 : (Jvm.Cond.methodLink "java/lang/RuntimeException" (7 : Nat) ({ cls := "java/lang/Exception", name := "<init>", desc := "(Ljava/lang/String;)V" } : Jvm.MethodName)) ∈ lw_all := lw_g (lw_at lw_m3 123 rfl) rfl
theorem q661 : (Jvm.Cond.declares ({ cls := "java/lang/RuntimeException", name := "<init>", desc := "()V" } : Jvm.MethodName)) ∈ lw_tbl := lw_at lw_m3 137 rfl
theorem q662 : (Jvm.Cond.declares ({ cls := "java/lang/RuntimeException", name := "<init>", desc := "(Ljava/lang/String;)V" } : Jvm.MethodName)) ∈ lw_tbl := lw_at lw_m3 138 rfl
theorem q682 : (Jvm.Cond.instanceMethod ({ cls := "java/lang/RuntimeException", name := "<init>", desc := "()V" } : Jvm.MethodName)) ∈ lw_all := lw_g (lw_at lw_m3 158 rfl) rfl
theorem q683 : (Jvm.Cond.code ({ cls := "java/lang/RuntimeException", name := "<init>", desc := "()V" } : Jvm.MethodName) prog_20_method_1_code (1 : Nat) (Option.none : Option Jvm.ClassFile.FieldType)) ∈ lw_all := lw_g (lw_at lw_m3 159 rfl) rfl
theorem q684 : (Jvm.Cond.methodLink "java/lang/RuntimeException" (1 : Nat) ({ cls := "java/lang/Exception", name := "<init>", desc := "()V" } : Jvm.MethodName)) ∈ lw_all := lw_g (lw_at lw_m3 160 rfl) rfl
theorem q702 : (Jvm.Cond.castable "java/lang/RuntimeException" "java/lang/Throwable") ∈ lw_tbl := lw_at lw_m3 178 rfl
/-! java/lang/NegativeArraySizeException -/
set_option maxRecDepth 100000
def RJ5 : String := "java/lang/NegativeArraySizeException"
def TJ5 : u_T := fun k => match k with
  | 0 => ("java/lang/Throwable", "backtrace", "Ljava/lang/Object;", false)
  | 1 => ("java/lang/Throwable", "detailMessage", "Ljava/lang/String;", false)
  | 2 => ("java/lang/Throwable", "cause", "Ljava/lang/Throwable;", false)
  | 3 => ("java/lang/Throwable", "stackTrace", "[Ljava/lang/StackTraceElement;", false)
  | 4 => ("java/lang/Throwable", "depth", "I", false)
  | _ => ("java/lang/Throwable", "suppressedExceptions", "Ljava/util/List;", false)
def tyJ5 : Nat → FieldType := fun k => match k with
  | 0 => .object "java/lang/Object"
  | 1 => .object "java/lang/String"
  | 2 => .object "java/lang/Throwable"
  | 3 => .array (.object "java/lang/StackTraceElement")
  | 4 => .int
  | _ => .object "java/util/List"
abbrev wsJ50 : List Cond := u_ws RJ5 TJ5 6
theorem nmJ5 : ∀ a, a < 6 → ∀ b, b < 6 → a ≠ b → (TJ5 a).2.1 ≠ (TJ5 b).2.1 := by decide +kernel
theorem tyJ5_ok : ∀ k, k < 6 → parseFieldDescriptor (TJ5 k).2.2.1 = some (tyJ5 k) := by decide +kernel
abbrev cJ5_init : ByteArray := prog_18_method_2_code
def yJ5_init : MethodName := ⟨RJ5, "<init>", "(Ljava/lang/String;)V"⟩
def dkwJ5_init_0 : List UInt8 := [42, 43, 183, 0, 7, 177]
abbrev dktJ5_init_0 : List UInt8 := dkwJ5_init_0 ++ []
theorem dksJ5_init_0 : cJ5_init.data.toList.drop 0 = dktJ5_init_0 := by decide +kernel
theorem dJ5_init_0 : decode cJ5_init 0 = .ok (.aload_n 0, 1) := dk_42 (dk_at dksJ5_init_0 0 rfl rfl)
theorem dJ5_init_1 : decode cJ5_init 1 = .ok (.aload_n 1, 1) := dk_43 (dk_at dksJ5_init_0 1 rfl rfl)
theorem dJ5_init_2 : decode cJ5_init 2 = .ok (.invokespecial 7, 3) := dk_183 0 7 (dk_at dksJ5_init_0 2 rfl rfl)
theorem dJ5_init_5 : decode cJ5_init 5 = .ok (.return_, 1) := dk_177 (dk_at dksJ5_init_0 5 rfl rfl)
theorem q60 : (Jvm.Cond.initialized "java/lang/NegativeArraySizeException") ∈ lw_all := lw_g (lw_at lw_m1 16 rfl) rfl
theorem q205 : (Jvm.Cond.selects "java/lang/NegativeArraySizeException" ({ cls := "java/lang/Throwable", name := "fillInStackTrace", desc := "()Ljava/lang/Throwable;" } : Jvm.MethodName) ({ cls := "java/lang/Throwable", name := "fillInStackTrace", desc := "()Ljava/lang/Throwable;" } : Jvm.MethodName)) ∈ lw_all := lw_g (lw_at lw_m1 161 rfl) rfl
theorem q641 : (Jvm.Cond.instantiable "java/lang/NegativeArraySizeException" (6 : Nat)) ∈ lw_all := lw_g (lw_at lw_m3 117 rfl) rfl
theorem q642 : (Jvm.Cond.instanceMethod ({ cls := "java/lang/NegativeArraySizeException", name := "<init>", desc := "(Ljava/lang/String;)V" } : Jvm.MethodName)) ∈ lw_all := lw_g (lw_at lw_m3 118 rfl) rfl
theorem q643 : (Jvm.Cond.code ({ cls := "java/lang/NegativeArraySizeException", name := "<init>", desc := "(Ljava/lang/String;)V" } : Jvm.MethodName) prog_18_method_2_code (2 : Nat) (Option.none : Option Jvm.ClassFile.FieldType)) ∈ lw_all := lw_g (lw_at lw_m3 119 rfl) rfl
theorem q644 : (Jvm.Cond.methodLink "java/lang/NegativeArraySizeException" (7 : Nat) ({ cls := "java/lang/RuntimeException", name := "<init>", desc := "(Ljava/lang/String;)V" } : Jvm.MethodName)) ∈ lw_all := lw_g (lw_at lw_m3 120 rfl) rfl
theorem q653 : (Jvm.Cond.lays "java/lang/NegativeArraySizeException" "java/lang/Throwable" "backtrace" "Ljava/lang/Object;") ∈ lw_all := lw_g (lw_at lw_m3 129 rfl) rfl
theorem q654 : (Jvm.Cond.lays "java/lang/NegativeArraySizeException" "java/lang/Throwable" "detailMessage" "Ljava/lang/String;") ∈ lw_all := lw_g (lw_at lw_m3 130 rfl) rfl
theorem q655 : (Jvm.Cond.lays "java/lang/NegativeArraySizeException" "java/lang/Throwable" "cause" "Ljava/lang/Throwable;") ∈ lw_all := lw_g (lw_at lw_m3 131 rfl) rfl
theorem q656 : (Jvm.Cond.lays "java/lang/NegativeArraySizeException" "java/lang/Throwable" "stackTrace" "[Ljava/lang/StackTraceElement;") ∈ lw_all := lw_g (lw_at lw_m3 132 rfl) rfl
theorem q657 : (Jvm.Cond.lays "java/lang/NegativeArraySizeException" "java/lang/Throwable" "depth" "I") ∈ lw_all := lw_g (lw_at lw_m3 133 rfl) rfl
theorem q658 : (Jvm.Cond.lays "java/lang/NegativeArraySizeException" "java/lang/Throwable" "suppressedExceptions" "Ljava/util/List;") ∈ lw_all := lw_g (lw_at lw_m3 134 rfl) rfl
theorem q659 : (Jvm.Cond.superclass "java/lang/NegativeArraySizeException" "java/lang/RuntimeException") ∈ lw_all := lw_g (lw_at lw_m3 135 rfl) rfl
theorem q660 : (Jvm.Cond.castable "java/lang/NegativeArraySizeException" "java/lang/NegativeArraySizeException") ∈ lw_tbl := lw_at lw_m3 136 rfl
theorem q663 : (Jvm.Cond.selects "java/lang/NegativeArraySizeException" ({ cls := "java/lang/Throwable", name := "fillInStackTrace", desc := "(I)Ljava/lang/Throwable;" } : Jvm.MethodName) ({ cls := "java/lang/Throwable", name := "fillInStackTrace", desc := "(I)Ljava/lang/Throwable;" } : Jvm.MethodName)) ∈ lw_all := lw_g (lw_at lw_m3 139 rfl) rfl
theorem in_J5 : ∀ w ∈ wsJ50, w ∈ lw_all := lw_in wsJ50 [653, 654, 655, 656, 657, 658] (by decide +kernel) (by decide +kernel)
/-! java/lang/String -/
set_option maxRecDepth 100000
def RJ6 : String := "java/lang/String"
def TJ6 : u_T := fun k => match k with
  | 0 => ("java/lang/String", "value", "[B", true)
  | _ => ("java/lang/String", "coder", "B", true)
def tyJ6 : Nat → FieldType := fun k => match k with
  | 0 => .array .byte
  | _ => .byte
abbrev wsJ60 : List Cond := u_ws RJ6 TJ6 2
theorem nmJ6 : ∀ a, a < 2 → ∀ b, b < 2 → a ≠ b → (TJ6 a).2.1 ≠ (TJ6 b).2.1 := by decide +kernel
theorem tyJ6_ok : ∀ k, k < 2 → parseFieldDescriptor (TJ6 k).2.2.1 = some (tyJ6 k) := by decide +kernel
theorem q61 : (Jvm.Cond.initialized "java/lang/String") ∈ lw_all := lw_g (lw_at lw_m1 17 rfl) rfl
theorem q664 : (Jvm.Cond.instantiable "java/lang/String" (4 : Nat)) ∈ lw_all := lw_g (lw_at lw_m3 140 rfl) rfl
theorem q665 : (Jvm.Cond.laysFinal "java/lang/String" "java/lang/String" "value" "[B") ∈ lw_all := lw_g (lw_at lw_m3 141 rfl) rfl
theorem q666 : (Jvm.Cond.soleField "java/lang/String" "value") ∈ lw_all := lw_g (lw_at lw_m3 142 rfl) rfl
theorem q667 : (Jvm.Cond.laysFinal "java/lang/String" "java/lang/String" "coder" "B") ∈ lw_all := lw_g (lw_at lw_m3 143 rfl) rfl
theorem q668 : (Jvm.Cond.soleField "java/lang/String" "coder") ∈ lw_all := lw_g (lw_at lw_m3 144 rfl) rfl
theorem in_J6 : ∀ w ∈ wsJ60, w ∈ lw_all := lw_in wsJ60 [665, 667] (by decide +kernel) (by decide +kernel)
/-! java/lang/NullPointerException -/
set_option maxRecDepth 100000
def RJ7 : String := "java/lang/NullPointerException"
def TJ7 : u_T := fun k => match k with
  | 0 => ("java/lang/Throwable", "backtrace", "Ljava/lang/Object;", false)
  | 1 => ("java/lang/Throwable", "detailMessage", "Ljava/lang/String;", false)
  | 2 => ("java/lang/Throwable", "cause", "Ljava/lang/Throwable;", false)
  | 3 => ("java/lang/Throwable", "stackTrace", "[Ljava/lang/StackTraceElement;", false)
  | 4 => ("java/lang/Throwable", "depth", "I", false)
  | 5 => ("java/lang/Throwable", "suppressedExceptions", "Ljava/util/List;", false)
  | 6 => ("java/lang/NullPointerException", "extendedMessageState", "I", false)
  | _ => ("java/lang/NullPointerException", "extendedMessage", "Ljava/lang/String;", false)
def tyJ7 : Nat → FieldType := fun k => match k with
  | 0 => .object "java/lang/Object"
  | 1 => .object "java/lang/String"
  | 2 => .object "java/lang/Throwable"
  | 3 => .array (.object "java/lang/StackTraceElement")
  | 4 => .int
  | 5 => .object "java/util/List"
  | 6 => .int
  | _ => .object "java/lang/String"
abbrev wsJ70 : List Cond := u_ws RJ7 TJ7 8
theorem nmJ7 : ∀ a, a < 8 → ∀ b, b < 8 → a ≠ b → (TJ7 a).2.1 ≠ (TJ7 b).2.1 := by decide +kernel
theorem tyJ7_ok : ∀ k, k < 8 → parseFieldDescriptor (TJ7 k).2.2.1 = some (tyJ7 k) := by decide +kernel
abbrev cJ7_init : ByteArray := prog_19_method_1_code
def yJ7_init : MethodName := ⟨RJ7, "<init>", "()V"⟩
theorem dJ7_init_0 : decode cJ7_init 0 = .ok (.aload_n 0, 1) := by decide +kernel
theorem dJ7_init_1 : decode cJ7_init 1 = .ok (.invokespecial 1, 3) := by decide +kernel
theorem dJ7_init_4 : decode cJ7_init 4 = .ok (.return_, 1) := by decide +kernel
theorem q62 : (Jvm.Cond.initialized "java/lang/NullPointerException") ∈ lw_all := lw_g (lw_at lw_m1 18 rfl) rfl
theorem q206 : (Jvm.Cond.selects "java/lang/NullPointerException" ({ cls := "java/lang/Throwable", name := "fillInStackTrace", desc := "()Ljava/lang/Throwable;" } : Jvm.MethodName) ({ cls := "java/lang/NullPointerException", name := "fillInStackTrace", desc := "()Ljava/lang/Throwable;" } : Jvm.MethodName)) ∈ lw_all := lw_g (lw_at lw_m1 162 rfl) rfl
theorem q207 : (Jvm.Cond.instanceMethod ({ cls := "java/lang/NullPointerException", name := "fillInStackTrace", desc := "()Ljava/lang/Throwable;" } : Jvm.MethodName)) ∈ lw_all := lw_g (lw_at lw_m1 163 rfl) rfl
theorem q208 : (Jvm.Cond.codeSync ({ cls := "java/lang/NullPointerException", name := "fillInStackTrace", desc := "()Ljava/lang/Throwable;" } : Jvm.MethodName) prog_19_method_3_code (1 : Nat) (Option.some (Jvm.ClassFile.FieldType.object "java/lang/Throwable"))) ∈ lw_all := lw_g (lw_at lw_m1 164 rfl) rfl
theorem q209 : (Jvm.Cond.methodLink "java/lang/NullPointerException" (16 : Nat) ({ cls := "java/lang/NullPointerException", name := "getExtendedNPEMessage", desc := "()Ljava/lang/String;" } : Jvm.MethodName)) ∈ lw_all := lw_g (lw_at lw_m1 165 rfl) rfl
theorem q210 : (Jvm.Cond.privateMethod ({ cls := "java/lang/NullPointerException", name := "getExtendedNPEMessage", desc := "()Ljava/lang/String;" } : Jvm.MethodName)) ∈ lw_tbl := lw_at lw_m1 166 rfl
theorem q211 : (Jvm.Cond.instanceMethod ({ cls := "java/lang/NullPointerException", name := "getExtendedNPEMessage", desc := "()Ljava/lang/String;" } : Jvm.MethodName)) ∈ lw_all := lw_g (lw_at lw_m1 167 rfl) rfl
theorem q212 : (Jvm.Cond.instantiable "java/lang/NullPointerException" (8 : Nat)) ∈ lw_all := lw_g (lw_at lw_m1 168 rfl) rfl
theorem q213 : (Jvm.Cond.native ({ cls := "java/lang/NullPointerException", name := "getExtendedNPEMessage", desc := "()Ljava/lang/String;" } : Jvm.MethodName)) ∈ lw_all := lw_g (lw_at lw_m1 169 rfl) rfl
theorem q214 : (Jvm.Cond.methodLink "java/lang/NullPointerException" (24 : Nat) ({ cls := "java/lang/RuntimeException", name := "fillInStackTrace", desc := "()Ljava/lang/Throwable;" } : Jvm.MethodName)) ∈ lw_all := lw_g (lw_at lw_m1 170 rfl) rfl
theorem q217 : (Jvm.Cond.superclass "java/lang/NullPointerException" "java/lang/RuntimeException") ∈ lw_all := lw_g (lw_at lw_m1 173 rfl) rfl
theorem q679 : (Jvm.Cond.instanceMethod ({ cls := "java/lang/NullPointerException", name := "<init>", desc := "()V" } : Jvm.MethodName)) ∈ lw_all := lw_g (lw_at lw_m3 155 rfl) rfl
theorem q680 : (Jvm.Cond.code ({ cls := "java/lang/NullPointerException", name := "<init>", desc := "()V" } : Jvm.MethodName) prog_19_method_1_code (1 : Nat) (Option.none : Option Jvm.ClassFile.FieldType)) ∈ lw_all := lw_g (lw_at lw_m3 156 rfl) rfl
theorem q681 : (Jvm.Cond.methodLink "java/lang/NullPointerException" (1 : Nat) ({ cls := "java/lang/RuntimeException", name := "<init>", desc := "()V" } : Jvm.MethodName)) ∈ lw_all := lw_g (lw_at lw_m3 157 rfl) rfl
theorem q688 : (Jvm.Cond.fieldLink "java/lang/NullPointerException" (10 : Nat) "java/lang/NullPointerException" "extendedMessageState" "I") ∈ lw_all := lw_g (lw_at lw_m3 164 rfl) rfl
theorem q689 : (Jvm.Cond.fieldLink "java/lang/NullPointerException" (20 : Nat) "java/lang/NullPointerException" "extendedMessage" "Ljava/lang/String;") ∈ lw_all := lw_g (lw_at lw_m3 165 rfl) rfl
theorem q690 : (Jvm.Cond.lays "java/lang/NullPointerException" "java/lang/NullPointerException" "extendedMessageState" "I") ∈ lw_all := lw_g (lw_at lw_m3 166 rfl) rfl
theorem q691 : (Jvm.Cond.soleField "java/lang/NullPointerException" "extendedMessageState") ∈ lw_all := lw_g (lw_at lw_m3 167 rfl) rfl
theorem q692 : (Jvm.Cond.lays "java/lang/NullPointerException" "java/lang/NullPointerException" "extendedMessage" "Ljava/lang/String;") ∈ lw_all := lw_g (lw_at lw_m3 168 rfl) rfl
theorem q693 : (Jvm.Cond.soleField "java/lang/NullPointerException" "extendedMessage") ∈ lw_all := lw_g (lw_at lw_m3 169 rfl) rfl
theorem q694 : (Jvm.Cond.lays "java/lang/NullPointerException" "java/lang/Throwable" "backtrace" "Ljava/lang/Object;") ∈ lw_all := lw_g (lw_at lw_m3 170 rfl) rfl
theorem q695 : (Jvm.Cond.lays "java/lang/NullPointerException" "java/lang/Throwable" "detailMessage" "Ljava/lang/String;") ∈ lw_all := lw_g (lw_at lw_m3 171 rfl) rfl
theorem q696 : (Jvm.Cond.lays "java/lang/NullPointerException" "java/lang/Throwable" "cause" "Ljava/lang/Throwable;") ∈ lw_all := lw_g (lw_at lw_m3 172 rfl) rfl
theorem q697 : (Jvm.Cond.lays "java/lang/NullPointerException" "java/lang/Throwable" "stackTrace" "[Ljava/lang/StackTraceElement;") ∈ lw_all := lw_g (lw_at lw_m3 173 rfl) rfl
theorem q698 : (Jvm.Cond.lays "java/lang/NullPointerException" "java/lang/Throwable" "depth" "I") ∈ lw_all := lw_g (lw_at lw_m3 174 rfl) rfl
theorem q699 : (Jvm.Cond.lays "java/lang/NullPointerException" "java/lang/Throwable" "suppressedExceptions" "Ljava/util/List;") ∈ lw_all := lw_g (lw_at lw_m3 175 rfl) rfl
theorem q700 : (Jvm.Cond.castable "java/lang/NullPointerException" "java/lang/NullPointerException") ∈ lw_tbl := lw_at lw_m3 176 rfl
theorem q701 : (Jvm.Cond.selects "java/lang/NullPointerException" ({ cls := "java/lang/Throwable", name := "fillInStackTrace", desc := "(I)Ljava/lang/Throwable;" } : Jvm.MethodName) ({ cls := "java/lang/Throwable", name := "fillInStackTrace", desc := "(I)Ljava/lang/Throwable;" } : Jvm.MethodName)) ∈ lw_all := lw_g (lw_at lw_m3 177 rfl) rfl
theorem in_J7 : ∀ w ∈ wsJ70, w ∈ lw_all := lw_in wsJ70 [694, 695, 696, 697, 698, 699, 690, 692] (by decide +kernel) (by decide +kernel)
/-! java/lang/ClassCastException -/
set_option maxRecDepth 100000
def RJ8 : String := "java/lang/ClassCastException"
def TJ8 : u_T := fun k => match k with
  | 0 => ("java/lang/Throwable", "backtrace", "Ljava/lang/Object;", false)
  | 1 => ("java/lang/Throwable", "detailMessage", "Ljava/lang/String;", false)
  | 2 => ("java/lang/Throwable", "cause", "Ljava/lang/Throwable;", false)
  | 3 => ("java/lang/Throwable", "stackTrace", "[Ljava/lang/StackTraceElement;", false)
  | 4 => ("java/lang/Throwable", "depth", "I", false)
  | _ => ("java/lang/Throwable", "suppressedExceptions", "Ljava/util/List;", false)
def tyJ8 : Nat → FieldType := fun k => match k with
  | 0 => .object "java/lang/Object"
  | 1 => .object "java/lang/String"
  | 2 => .object "java/lang/Throwable"
  | 3 => .array (.object "java/lang/StackTraceElement")
  | 4 => .int
  | _ => .object "java/util/List"
abbrev wsJ80 : List Cond := u_ws RJ8 TJ8 6
theorem nmJ8 : ∀ a, a < 6 → ∀ b, b < 6 → a ≠ b → (TJ8 a).2.1 ≠ (TJ8 b).2.1 := by decide +kernel
theorem tyJ8_ok : ∀ k, k < 6 → parseFieldDescriptor (TJ8 k).2.2.1 = some (tyJ8 k) := by decide +kernel
abbrev cJ8_init : ByteArray := prog_13_method_2_code
def yJ8_init : MethodName := ⟨RJ8, "<init>", "(Ljava/lang/String;)V"⟩
def dkwJ8_init_0 : List UInt8 := [42, 43, 183, 0, 7, 177]
abbrev dktJ8_init_0 : List UInt8 := dkwJ8_init_0 ++ []
theorem dksJ8_init_0 : cJ8_init.data.toList.drop 0 = dktJ8_init_0 := by decide +kernel
theorem dJ8_init_0 : decode cJ8_init 0 = .ok (.aload_n 0, 1) := dk_42 (dk_at dksJ8_init_0 0 rfl rfl)
theorem dJ8_init_1 : decode cJ8_init 1 = .ok (.aload_n 1, 1) := dk_43 (dk_at dksJ8_init_0 1 rfl rfl)
theorem dJ8_init_2 : decode cJ8_init 2 = .ok (.invokespecial 7, 3) := dk_183 0 7 (dk_at dksJ8_init_0 2 rfl rfl)
theorem dJ8_init_5 : decode cJ8_init 5 = .ok (.return_, 1) := dk_177 (dk_at dksJ8_init_0 5 rfl rfl)
theorem q63 : (Jvm.Cond.initialized "java/lang/ClassCastException") ∈ lw_all := lw_g (lw_at lw_m1 19 rfl) rfl
theorem q204 : (Jvm.Cond.selects "java/lang/ClassCastException" ({ cls := "java/lang/Throwable", name := "fillInStackTrace", desc := "()Ljava/lang/Throwable;" } : Jvm.MethodName) ({ cls := "java/lang/Throwable", name := "fillInStackTrace", desc := "()Ljava/lang/Throwable;" } : Jvm.MethodName)) ∈ lw_all := lw_g (lw_at lw_m1 160 rfl) rfl
theorem q704 : (Jvm.Cond.instantiable "java/lang/ClassCastException" (6 : Nat)) ∈ lw_all := lw_g (lw_at lw_m3 180 rfl) rfl
theorem q705 : (Jvm.Cond.instanceMethod ({ cls := "java/lang/ClassCastException", name := "<init>", desc := "(Ljava/lang/String;)V" } : Jvm.MethodName)) ∈ lw_all := lw_g (lw_at lw_m3 181 rfl) rfl
theorem q706 : (Jvm.Cond.code ({ cls := "java/lang/ClassCastException", name := "<init>", desc := "(Ljava/lang/String;)V" } : Jvm.MethodName) prog_13_method_2_code (2 : Nat) (Option.none : Option Jvm.ClassFile.FieldType)) ∈ lw_all := lw_g (lw_at lw_m3 182 rfl) rfl
theorem q707 : (Jvm.Cond.methodLink "java/lang/ClassCastException" (7 : Nat) ({ cls := "java/lang/RuntimeException", name := "<init>", desc := "(Ljava/lang/String;)V" } : Jvm.MethodName)) ∈ lw_all := lw_g (lw_at lw_m3 183 rfl) rfl
theorem q708 : (Jvm.Cond.lays "java/lang/ClassCastException" "java/lang/Throwable" "backtrace" "Ljava/lang/Object;") ∈ lw_all := lw_g (lw_at lw_m3 184 rfl) rfl
theorem q709 : (Jvm.Cond.lays "java/lang/ClassCastException" "java/lang/Throwable" "detailMessage" "Ljava/lang/String;") ∈ lw_all := lw_g (lw_at lw_m3 185 rfl) rfl
theorem q710 : (Jvm.Cond.lays "java/lang/ClassCastException" "java/lang/Throwable" "cause" "Ljava/lang/Throwable;") ∈ lw_all := lw_g (lw_at lw_m3 186 rfl) rfl
theorem q711 : (Jvm.Cond.lays "java/lang/ClassCastException" "java/lang/Throwable" "stackTrace" "[Ljava/lang/StackTraceElement;") ∈ lw_all := lw_g (lw_at lw_m3 187 rfl) rfl
theorem q712 : (Jvm.Cond.lays "java/lang/ClassCastException" "java/lang/Throwable" "depth" "I") ∈ lw_all := lw_g (lw_at lw_m3 188 rfl) rfl
theorem q713 : (Jvm.Cond.lays "java/lang/ClassCastException" "java/lang/Throwable" "suppressedExceptions" "Ljava/util/List;") ∈ lw_all := lw_g (lw_at lw_m3 189 rfl) rfl
theorem q714 : (Jvm.Cond.superclass "java/lang/ClassCastException" "java/lang/RuntimeException") ∈ lw_all := lw_g (lw_at lw_m3 190 rfl) rfl
theorem q715 : (Jvm.Cond.castable "java/lang/ClassCastException" "java/lang/ClassCastException") ∈ lw_tbl := lw_at lw_m3 191 rfl
theorem q716 : (Jvm.Cond.selects "java/lang/ClassCastException" ({ cls := "java/lang/Throwable", name := "fillInStackTrace", desc := "(I)Ljava/lang/Throwable;" } : Jvm.MethodName) ({ cls := "java/lang/Throwable", name := "fillInStackTrace", desc := "(I)Ljava/lang/Throwable;" } : Jvm.MethodName)) ∈ lw_all := lw_g (lw_at lw_m3 192 rfl) rfl
theorem in_J8 : ∀ w ∈ wsJ80, w ∈ lw_all := lw_in wsJ80 [708, 709, 710, 711, 712, 713] (by decide +kernel) (by decide +kernel)
/-! java/lang/IndexOutOfBoundsException -/
set_option maxRecDepth 100000
def RJ9 : String := "java/lang/IndexOutOfBoundsException"
abbrev cJ9_init : ByteArray := prog_15_method_2_code
def yJ9_init : MethodName := ⟨RJ9, "<init>", "(Ljava/lang/String;)V"⟩
def dkwJ9_init_0 : List UInt8 := [42, 43, 183, 0, 7, 177]
abbrev dktJ9_init_0 : List UInt8 := dkwJ9_init_0 ++ []
theorem dksJ9_init_0 : cJ9_init.data.toList.drop 0 = dktJ9_init_0 := by decide +kernel
theorem dJ9_init_0 : decode cJ9_init 0 = .ok (.aload_n 0, 1) := dk_42 (dk_at dksJ9_init_0 0 rfl rfl)
theorem dJ9_init_1 : decode cJ9_init 1 = .ok (.aload_n 1, 1) := dk_43 (dk_at dksJ9_init_0 1 rfl rfl)
theorem dJ9_init_2 : decode cJ9_init 2 = .ok (.invokespecial 7, 3) := dk_183 0 7 (dk_at dksJ9_init_0 2 rfl rfl)
theorem dJ9_init_5 : decode cJ9_init 5 = .ok (.return_, 1) := dk_177 (dk_at dksJ9_init_0 5 rfl rfl)
theorem q64 : (Jvm.Cond.initialized "java/lang/IndexOutOfBoundsException") ∈ lw_all := lw_g (lw_at lw_m1 20 rfl) rfl
theorem q722 : (Jvm.Cond.instanceMethod ({ cls := "java/lang/IndexOutOfBoundsException", name := "<init>", desc := "(Ljava/lang/String;)V" } : Jvm.MethodName)) ∈ lw_all := lw_g (lw_at lw_m3 198 rfl) rfl
theorem q723 : (Jvm.Cond.code ({ cls := "java/lang/IndexOutOfBoundsException", name := "<init>", desc := "(Ljava/lang/String;)V" } : Jvm.MethodName) prog_15_method_2_code (2 : Nat) (Option.none : Option Jvm.ClassFile.FieldType)) ∈ lw_all := lw_g (lw_at lw_m3 199 rfl) rfl
theorem q724 : (Jvm.Cond.methodLink "java/lang/IndexOutOfBoundsException" (7 : Nat) ({ cls := "java/lang/RuntimeException", name := "<init>", desc := "(Ljava/lang/String;)V" } : Jvm.MethodName)) ∈ lw_all := lw_g (lw_at lw_m3 200 rfl) rfl
theorem q733 : (Jvm.Cond.declares ({ cls := "java/lang/IndexOutOfBoundsException", name := "<init>", desc := "()V" } : Jvm.MethodName)) ∈ lw_tbl := lw_at lw_m3 209 rfl
theorem q734 : (Jvm.Cond.declares ({ cls := "java/lang/IndexOutOfBoundsException", name := "<init>", desc := "(Ljava/lang/String;)V" } : Jvm.MethodName)) ∈ lw_tbl := lw_at lw_m3 210 rfl
theorem q76 : (Jvm.Cond.arrayOver (Jvm.ClassFile.FieldType.object "DebtCoats$Outermost")) ∈ lw_tbl := lw_at lw_m1 32 rfl
set_option maxRecDepth 100000
theorem q104 : (Jvm.Cond.arrayOver (Jvm.ClassFile.FieldType.object "DebtCoats$Wearer")) ∈ lw_tbl := lw_at lw_m1 60 rfl
theorem q143 : (Jvm.Cond.arrayClass Jvm.ClassFile.FieldType.int) ∈ lw_all := lw_g (lw_at lw_m1 99 rfl) rfl
theorem q252 : (Jvm.Cond.arrayOver (Jvm.ClassFile.FieldType.object "DebtCoats$Sheet")) ∈ lw_tbl := lw_at lw_m1 208 rfl
theorem q263 : (Jvm.Cond.arrayClass Jvm.ClassFile.FieldType.byte) ∈ lw_all := lw_g (lw_at lw_m1 219 rfl) rfl
theorem q669 : (Jvm.Cond.arrayClass Jvm.ClassFile.FieldType.short) ∈ lw_all := lw_g (lw_at lw_m3 145 rfl) rfl
theorem q44 : (Jvm.Cond.initialized "DebtCoatsLaw") ∈ lw_all := lw_g (lw_at lw_m1 0 rfl) rfl
set_option maxRecDepth 100000
theorem q67 : (Jvm.Cond.classLink "DebtCoatsLaw" (7 : Nat) "DebtCoats") ∈ lw_all := lw_g (lw_at lw_m1 23 rfl) rfl
theorem q69 : (Jvm.Cond.methodLink "DebtCoatsLaw" (9 : Nat) ({ cls := "DebtCoats", name := "<init>", desc := "()V" } : Jvm.MethodName)) ∈ lw_all := lw_g (lw_at lw_m1 25 rfl) rfl
theorem q340 : (Jvm.Cond.methodLink "DebtCoatsLaw" (13 : Nat) ({ cls := "DebtCoats", name := "person", desc := "(III)I" } : Jvm.MethodName)) ∈ lw_all := lw_g (lw_at lw_m2 56 rfl) rfl
theorem q351 : (Jvm.Cond.methodLink "DebtCoatsLaw" (18 : Nat) ({ cls := "DebtCoats", name := "of", desc := "(II)I" } : Jvm.MethodName)) ∈ lw_all := lw_g (lw_at lw_m2 67 rfl) rfl
theorem q378 : (Jvm.Cond.methodLink "DebtCoatsLaw" (23 : Nat) ({ cls := "DebtCoats", name := "coat", desc := "(III)I" } : Jvm.MethodName)) ∈ lw_all := lw_g (lw_at lw_m2 94 rfl) rfl
theorem q386 : (Jvm.Cond.methodLink "DebtCoatsLaw" (27 : Nat) ({ cls := "DebtCoats", name := "tax", desc := "(III)I" } : Jvm.MethodName)) ∈ lw_all := lw_g (lw_at lw_m2 102 rfl) rfl
theorem q393 : (Jvm.Cond.methodLink "DebtCoatsLaw" (31 : Nat) ({ cls := "DebtCoats", name := "heat", desc := "(II)I" } : Jvm.MethodName)) ∈ lw_all := lw_g (lw_at lw_m2 109 rfl) rfl
theorem q397 : (Jvm.Cond.methodLink "DebtCoatsLaw" (35 : Nat) ({ cls := "DebtCoats", name := "rule", desc := "(II)I" } : Jvm.MethodName)) ∈ lw_all := lw_g (lw_at lw_m2 113 rfl) rfl
theorem q401 : (Jvm.Cond.methodLink "DebtCoatsLaw" (51 : Nat) ({ cls := "DebtCoats", name := "count", desc := "(I)I" } : Jvm.MethodName)) ∈ lw_all := lw_g (lw_at lw_m2 117 rfl) rfl
theorem q405 : (Jvm.Cond.methodLink "DebtCoatsLaw" (41 : Nat) ({ cls := "DebtCoats", name := "type", desc := "(JI)I" } : Jvm.MethodName)) ∈ lw_all := lw_g (lw_at lw_m2 121 rfl) rfl
theorem q410 : (Jvm.Cond.methodLink "DebtCoatsLaw" (46 : Nat) ({ cls := "DebtCoats", name := "coats", desc := "(I)I" } : Jvm.MethodName)) ∈ lw_all := lw_g (lw_at lw_m2 126 rfl) rfl
theorem q446 : (Jvm.Cond.methodLink "DebtCoatsLaw" (55 : Nat) ({ cls := "DebtCoats", name := "take", desc := "(IIIII)I" } : Jvm.MethodName)) ∈ lw_all := lw_g (lw_at lw_m2 162 rfl) rfl
theorem q451 : (Jvm.Cond.methodLink "DebtCoatsLaw" (60 : Nat) ({ cls := "DebtCoats", name := "pay", desc := "(II)I" } : Jvm.MethodName)) ∈ lw_all := lw_g (lw_at lw_m2 167 rfl) rfl
theorem q481 : (Jvm.Cond.methodLink "DebtCoatsLaw" (64 : Nat) ({ cls := "DebtCoats", name := "nights", desc := "(I)I" } : Jvm.MethodName)) ∈ lw_all := lw_g (lw_at lw_m2 197 rfl) rfl
theorem q508 : (Jvm.Cond.methodLink "DebtCoatsLaw" (68 : Nat) ({ cls := "DebtCoats", name := "cut", desc := "(II)I" } : Jvm.MethodName)) ∈ lw_all := lw_g (lw_at lw_m2 224 rfl) rfl
theorem q517 : (Jvm.Cond.methodLink "DebtCoatsLaw" (72 : Nat) ({ cls := "DebtCoats", name := "ring", desc := "(III)I" } : Jvm.MethodName)) ∈ lw_all := lw_g (lw_at lw_m2 233 rfl) rfl
theorem q537 : (Jvm.Cond.methodLink "DebtCoatsLaw" (76 : Nat) ({ cls := "DebtCoats", name := "rings", desc := "(I)I" } : Jvm.MethodName)) ∈ lw_all := lw_g (lw_at lw_m3 13 rfl) rfl
theorem q541 : (Jvm.Cond.methodLink "DebtCoatsLaw" (80 : Nat) ({ cls := "DebtCoats", name := "owed", desc := "(I)I" } : Jvm.MethodName)) ∈ lw_all := lw_g (lw_at lw_m3 17 rfl) rfl
theorem q545 : (Jvm.Cond.methodLink "DebtCoatsLaw" (84 : Nat) ({ cls := "DebtCoats", name := "free", desc := "(II)I" } : Jvm.MethodName)) ∈ lw_all := lw_g (lw_at lw_m3 21 rfl) rfl
theorem q575 : (Jvm.Cond.methodLink "DebtCoatsLaw" (88 : Nat) ({ cls := "DebtCoats", name := "saves", desc := "(II)I" } : Jvm.MethodName)) ∈ lw_all := lw_g (lw_at lw_m3 51 rfl) rfl
theorem q579 : (Jvm.Cond.methodLink "DebtCoatsLaw" (92 : Nat) ({ cls := "DebtCoats", name := "bears", desc := "(I)I" } : Jvm.MethodName)) ∈ lw_all := lw_g (lw_at lw_m3 55 rfl) rfl
theorem q585 : (Jvm.Cond.methodLink "DebtCoatsLaw" (96 : Nat) ({ cls := "DebtCoats", name := "ware", desc := "(II)I" } : Jvm.MethodName)) ∈ lw_all := lw_g (lw_at lw_m3 61 rfl) rfl
theorem q589 : (Jvm.Cond.methodLink "DebtCoatsLaw" (100 : Nat) ({ cls := "DebtCoats", name := "under", desc := "(IIII)I" } : Jvm.MethodName)) ∈ lw_all := lw_g (lw_at lw_m3 65 rfl) rfl
theorem q593 : (Jvm.Cond.methodLink "DebtCoatsLaw" (105 : Nat) ({ cls := "DebtCoats", name := "image", desc := "()I" } : Jvm.MethodName)) ∈ lw_all := lw_g (lw_at lw_m3 69 rfl) rfl
theorem q603 : (Jvm.Cond.methodLink "DebtCoatsLaw" (110 : Nat) ({ cls := "DebtCoats", name := "restore", desc := "()I" } : Jvm.MethodName)) ∈ lw_all := lw_g (lw_at lw_m3 79 rfl) rfl
theorem q607 : (Jvm.Cond.methodLink "DebtCoatsLaw" (114 : Nat) ({ cls := "DebtCoats", name := "judged", desc := "(IIII)I" } : Jvm.MethodName)) ∈ lw_all := lw_g (lw_at lw_m3 83 rfl) rfl
theorem q636 : (Jvm.Cond.methodLink "DebtCoatsLaw" (118 : Nat) ({ cls := "DebtCoats", name := "sheet", desc := "(III)I" } : Jvm.MethodName)) ∈ lw_all := lw_g (lw_at lw_m3 112 rfl) rfl
theorem q670 : (Jvm.Cond.methodLink "DebtCoatsLaw" (122 : Nat) ({ cls := "DebtCoats", name := "drop", desc := "(I)I" } : Jvm.MethodName)) ∈ lw_all := lw_g (lw_at lw_m3 146 rfl) rfl
theorem q674 : (Jvm.Cond.methodLink "DebtCoatsLaw" (126 : Nat) ({ cls := "DebtCoats", name := "item", desc := "(IIII)I" } : Jvm.MethodName)) ∈ lw_all := lw_g (lw_at lw_m3 150 rfl) rfl
theorem q739 : (Jvm.Cond.methodLink "DebtCoatsLaw" (130 : Nat) ({ cls := "DebtCoats", name := "copy", desc := "(IIIII)I" } : Jvm.MethodName)) ∈ lw_all := lw_g (lw_at lw_m3 215 rfl) rfl
theorem q758 : (Jvm.Cond.classLink "DebtCoatsLaw" (10 : Nat) "DebtCoatsModel") ∈ lw_all := lw_g (lw_at lw_m3 234 rfl) rfl
theorem q760 : (Jvm.Cond.methodLink "DebtCoatsLaw" (12 : Nat) ({ cls := "DebtCoatsModel", name := "<init>", desc := "()V" } : Jvm.MethodName)) ∈ lw_all := lw_g (lw_at lw_m3 236 rfl) rfl
theorem q849 : (Jvm.Cond.methodLink "DebtCoatsLaw" (17 : Nat) ({ cls := "DebtCoatsModel", name := "person", desc := "(III)I" } : Jvm.MethodName)) ∈ lw_all := lw_g (lw_at lw_m4 85 rfl) rfl
theorem q859 : (Jvm.Cond.methodLink "DebtCoatsLaw" (22 : Nat) ({ cls := "DebtCoatsModel", name := "of", desc := "(II)I" } : Jvm.MethodName)) ∈ lw_all := lw_g (lw_at lw_m4 95 rfl) rfl
theorem q873 : (Jvm.Cond.methodLink "DebtCoatsLaw" (26 : Nat) ({ cls := "DebtCoatsModel", name := "coat", desc := "(III)I" } : Jvm.MethodName)) ∈ lw_all := lw_g (lw_at lw_m4 109 rfl) rfl
theorem q882 : (Jvm.Cond.methodLink "DebtCoatsLaw" (30 : Nat) ({ cls := "DebtCoatsModel", name := "tax", desc := "(III)I" } : Jvm.MethodName)) ∈ lw_all := lw_g (lw_at lw_m4 118 rfl) rfl
theorem q891 : (Jvm.Cond.methodLink "DebtCoatsLaw" (34 : Nat) ({ cls := "DebtCoatsModel", name := "heat", desc := "(II)I" } : Jvm.MethodName)) ∈ lw_all := lw_g (lw_at lw_m4 127 rfl) rfl
theorem q897 : (Jvm.Cond.methodLink "DebtCoatsLaw" (38 : Nat) ({ cls := "DebtCoatsModel", name := "rule", desc := "(II)I" } : Jvm.MethodName)) ∈ lw_all := lw_g (lw_at lw_m4 133 rfl) rfl
theorem q902 : (Jvm.Cond.methodLink "DebtCoatsLaw" (45 : Nat) ({ cls := "DebtCoatsModel", name := "type", desc := "(JI)I" } : Jvm.MethodName)) ∈ lw_all := lw_g (lw_at lw_m4 138 rfl) rfl
theorem q910 : (Jvm.Cond.methodLink "DebtCoatsLaw" (50 : Nat) ({ cls := "DebtCoatsModel", name := "coats", desc := "(I)I" } : Jvm.MethodName)) ∈ lw_all := lw_g (lw_at lw_m4 146 rfl) rfl
theorem q933 : (Jvm.Cond.methodLink "DebtCoatsLaw" (54 : Nat) ({ cls := "DebtCoatsModel", name := "count", desc := "(I)I" } : Jvm.MethodName)) ∈ lw_all := lw_g (lw_at lw_m4 169 rfl) rfl
theorem q937 : (Jvm.Cond.methodLink "DebtCoatsLaw" (67 : Nat) ({ cls := "DebtCoatsModel", name := "nights", desc := "(I)I" } : Jvm.MethodName)) ∈ lw_all := lw_g (lw_at lw_m4 173 rfl) rfl
theorem q957 : (Jvm.Cond.methodLink "DebtCoatsLaw" (59 : Nat) ({ cls := "DebtCoatsModel", name := "take", desc := "(IIIII)I" } : Jvm.MethodName)) ∈ lw_all := lw_g (lw_at lw_m4 193 rfl) rfl
theorem q962 : (Jvm.Cond.methodLink "DebtCoatsLaw" (63 : Nat) ({ cls := "DebtCoatsModel", name := "pay", desc := "(II)I" } : Jvm.MethodName)) ∈ lw_all := lw_g (lw_at lw_m4 198 rfl) rfl
theorem q974 : (Jvm.Cond.methodLink "DebtCoatsLaw" (71 : Nat) ({ cls := "DebtCoatsModel", name := "cut", desc := "(II)I" } : Jvm.MethodName)) ∈ lw_all := lw_g (lw_at lw_m4 210 rfl) rfl
theorem q982 : (Jvm.Cond.methodLink "DebtCoatsLaw" (75 : Nat) ({ cls := "DebtCoatsModel", name := "ring", desc := "(III)I" } : Jvm.MethodName)) ∈ lw_all := lw_g (lw_at lw_m4 218 rfl) rfl
theorem q998 : (Jvm.Cond.methodLink "DebtCoatsLaw" (79 : Nat) ({ cls := "DebtCoatsModel", name := "rings", desc := "(I)I" } : Jvm.MethodName)) ∈ lw_all := lw_g (lw_at lw_m4 234 rfl) rfl
theorem q1003 : (Jvm.Cond.methodLink "DebtCoatsLaw" (83 : Nat) ({ cls := "DebtCoatsModel", name := "owed", desc := "(I)I" } : Jvm.MethodName)) ∈ lw_all := lw_g (lw_at lw_m4 239 rfl) rfl
theorem q1007 : (Jvm.Cond.methodLink "DebtCoatsLaw" (87 : Nat) ({ cls := "DebtCoatsModel", name := "free", desc := "(II)I" } : Jvm.MethodName)) ∈ lw_all := lw_g (lw_at lw_m5 3 rfl) rfl
theorem q1032 : (Jvm.Cond.methodLink "DebtCoatsLaw" (91 : Nat) ({ cls := "DebtCoatsModel", name := "saves", desc := "(II)I" } : Jvm.MethodName)) ∈ lw_all := lw_g (lw_at lw_m5 28 rfl) rfl
theorem q1036 : (Jvm.Cond.methodLink "DebtCoatsLaw" (95 : Nat) ({ cls := "DebtCoatsModel", name := "bears", desc := "(I)I" } : Jvm.MethodName)) ∈ lw_all := lw_g (lw_at lw_m5 32 rfl) rfl
theorem q1040 : (Jvm.Cond.methodLink "DebtCoatsLaw" (99 : Nat) ({ cls := "DebtCoatsModel", name := "ware", desc := "(II)I" } : Jvm.MethodName)) ∈ lw_all := lw_g (lw_at lw_m5 36 rfl) rfl
theorem q1044 : (Jvm.Cond.methodLink "DebtCoatsLaw" (104 : Nat) ({ cls := "DebtCoatsModel", name := "under", desc := "(IIII)I" } : Jvm.MethodName)) ∈ lw_all := lw_g (lw_at lw_m5 40 rfl) rfl
theorem q1049 : (Jvm.Cond.methodLink "DebtCoatsLaw" (109 : Nat) ({ cls := "DebtCoatsModel", name := "image", desc := "()I" } : Jvm.MethodName)) ∈ lw_all := lw_g (lw_at lw_m5 45 rfl) rfl
theorem q1057 : (Jvm.Cond.methodLink "DebtCoatsLaw" (113 : Nat) ({ cls := "DebtCoatsModel", name := "restore", desc := "()I" } : Jvm.MethodName)) ∈ lw_all := lw_g (lw_at lw_m5 53 rfl) rfl
theorem q1065 : (Jvm.Cond.methodLink "DebtCoatsLaw" (117 : Nat) ({ cls := "DebtCoatsModel", name := "judged", desc := "(IIII)I" } : Jvm.MethodName)) ∈ lw_all := lw_g (lw_at lw_m5 61 rfl) rfl
theorem q1080 : (Jvm.Cond.methodLink "DebtCoatsLaw" (121 : Nat) ({ cls := "DebtCoatsModel", name := "sheet", desc := "(III)I" } : Jvm.MethodName)) ∈ lw_all := lw_g (lw_at lw_m5 76 rfl) rfl
theorem q1084 : (Jvm.Cond.methodLink "DebtCoatsLaw" (125 : Nat) ({ cls := "DebtCoatsModel", name := "drop", desc := "(I)I" } : Jvm.MethodName)) ∈ lw_all := lw_g (lw_at lw_m5 80 rfl) rfl
theorem q1088 : (Jvm.Cond.methodLink "DebtCoatsLaw" (129 : Nat) ({ cls := "DebtCoatsModel", name := "item", desc := "(IIII)I" } : Jvm.MethodName)) ∈ lw_all := lw_g (lw_at lw_m5 84 rfl) rfl
theorem q1092 : (Jvm.Cond.methodLink "DebtCoatsLaw" (133 : Nat) ({ cls := "DebtCoatsModel", name := "copy", desc := "(IIIII)I" } : Jvm.MethodName)) ∈ lw_all := lw_g (lw_at lw_m5 88 rfl) rfl
theorem q1096 : (Jvm.Cond.constantLong "DebtCoatsLaw" (39 : Nat) (4294967295 : Int64)) ∈ lw_all := lw_g (lw_at lw_m5 92 rfl) rfl
theorem q57 : (Jvm.Cond.initialized "java/lang/System") ∈ lw_all := lw_g (lw_at lw_m1 13 rfl) rfl
set_option maxRecDepth 100000
theorem q444 : (Jvm.Cond.static ({ cls := "java/lang/System", name := "arraycopy", desc := "(Ljava/lang/Object;ILjava/lang/Object;II)V" } : Jvm.MethodName)) ∈ lw_all := lw_g (lw_at lw_m2 160 rfl) rfl
theorem q445 : (Jvm.Cond.native ({ cls := "java/lang/System", name := "arraycopy", desc := "(Ljava/lang/Object;ILjava/lang/Object;II)V" } : Jvm.MethodName)) ∈ lw_all := lw_g (lw_at lw_m2 161 rfl) rfl
