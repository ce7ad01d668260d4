/-! DebtCoats -/
set_option maxRecDepth 100000
def RX0 : String := "DebtCoats"
def TX0 : u_T := fun k => match k with
  | 0 => ("DebtCoats", "offs", "[LDebtCoats$Outermost;", true)
  | 1 => ("DebtCoats", "now", "LDebtCoats$World;", true)
  | 2 => ("DebtCoats", "then", "LDebtCoats$World;", true)
  | 3 => ("DebtCoats", "tried", "LDebtCoats$Wearer;", true)
  | 4 => ("DebtCoats", "cutOne", "LDebtCoats$Wearer;", true)
  | 5 => ("DebtCoats", "fault", "LDebtCoats$Fault;", true)
  | 6 => ("DebtCoats", "tape", "[B", true)
  | 7 => ("DebtCoats", "taped", "I", false)
  | 8 => ("DebtCoats", "at", "I", false)
  | 9 => ("DebtCoats", "read", "LDebtCoats$Wearer;", true)
  | 10 => ("DebtCoats", "inHand", "[I", true)
  | 11 => ("DebtCoats", "order", "[I", true)
  | 12 => ("DebtCoats", "bestOrder", "[I", true)
  | 13 => ("DebtCoats", "bestDays", "I", false)
  | 14 => ("DebtCoats", "bestPaid", "I", false)
  | 15 => ("DebtCoats", "paid", "I", false)
  | 16 => ("DebtCoats", "without", "LDebtCoats$Wearer;", true)
  | 17 => ("DebtCoats", "amounts", "[I", true)
  | 18 => ("DebtCoats", "thicks", "[I", true)
  | 19 => ("DebtCoats", "wareMany", "I", false)
  | 20 => ("DebtCoats", "isKept", "Z", false)
  | 21 => ("DebtCoats", "kept", "LDebtCoats$World;", true)
  | 22 => ("DebtCoats", "keptWares", "[I", true)
  | 23 => ("DebtCoats", "keptMany", "I", false)
  | _ => ("DebtCoats", "sheets", "[LDebtCoats$Sheet;", true)
def tyX0 : Nat → FieldType := fun k => match k with
  | 0 => .array (.object "DebtCoats$Outermost")
  | 1 => .object "DebtCoats$World"
  | 2 => .object "DebtCoats$World"
  | 3 => .object "DebtCoats$Wearer"
  | 4 => .object "DebtCoats$Wearer"
  | 5 => .object "DebtCoats$Fault"
  | 6 => .array .byte
  | 7 => .int
  | 8 => .int
  | 9 => .object "DebtCoats$Wearer"
  | 10 => .array .int
  | 11 => .array .int
  | 12 => .array .int
  | 13 => .int
  | 14 => .int
  | 15 => .int
  | 16 => .object "DebtCoats$Wearer"
  | 17 => .array .int
  | 18 => .array .int
  | 19 => .int
  | 20 => .boolean
  | 21 => .object "DebtCoats$World"
  | 22 => .array .int
  | 23 => .int
  | _ => .array (.object "DebtCoats$Sheet")
abbrev wsX00 : List Cond := u_ws RX0 TX0 25
set_option maxRecDepth 100000 in
theorem nmX0 : ∀ a, a < 25 → ∀ b, b < 25 → a ≠ b → (TX0 a).2.1 ≠ (TX0 b).2.1 := by decide +kernel
set_option maxRecDepth 100000 in
theorem tyX0_ok : ∀ k, k < 25 → parseFieldDescriptor (TX0 k).2.2.1 = some (tyX0 k) := by decide +kernel
abbrev cX0_init : ByteArray := prog_1_method_3_code
def yX0_init : MethodName := ⟨RX0, "<init>", "()V"⟩
def dkwX0_init_9 : List UInt8 := [187, 0, 81, 89, 183, 0, 87, 83, 132, 1, 1, 167, 255, 235, 177]
abbrev dktX0_init_9 : List UInt8 := dkwX0_init_9 ++ []
def dkwX0_init_8 : List UInt8 := [181, 0, 78, 42, 7, 189, 0, 81, 181, 0, 83, 3, 60, 27, 7, 162, 0, 22, 42, 180, 0, 83, 27]
abbrev dktX0_init_8 : List UInt8 := dkwX0_init_8 ++ dktX0_init_9
def dkwX0_init_7 : List UInt8 := [16, 8, 188, 10, 181, 0, 72, 42, 187, 0, 22, 89, 183, 0, 24, 181, 0, 75, 42, 16, 16, 188, 10]
abbrev dktX0_init_7 : List UInt8 := dkwX0_init_7 ++ dktX0_init_8
def dkwX0_init_6 : List UInt8 := [181, 0, 63, 42, 187, 0, 32, 89, 183, 0, 34, 181, 0, 66, 42, 16, 8, 188, 10, 181, 0, 69, 42]
abbrev dktX0_init_6 : List UInt8 := dkwX0_init_6 ++ dktX0_init_7
def dkwX0_init_5 : List UInt8 := [181, 0, 53, 42, 7, 188, 10, 181, 0, 56, 42, 16, 6, 188, 10, 181, 0, 60, 42, 16, 6, 188, 10]
abbrev dktX0_init_5 : List UInt8 := dkwX0_init_5 ++ dktX0_init_6
def dkwX0_init_4 : List UInt8 := [183, 0, 44, 181, 0, 45, 42, 16, 80, 188, 8, 181, 0, 49, 42, 187, 0, 32, 89, 183, 0, 34]
abbrev dktX0_init_4 : List UInt8 := dkwX0_init_4 ++ dktX0_init_5
def dkwX0_init_3 : List UInt8 := [183, 0, 34, 181, 0, 35, 42, 187, 0, 32, 89, 183, 0, 34, 181, 0, 39, 42, 187, 0, 42, 89]
abbrev dktX0_init_3 : List UInt8 := dkwX0_init_3 ++ dktX0_init_4
def dkwX0_init_2 : List UInt8 := [183, 0, 24, 181, 0, 25, 42, 187, 0, 22, 89, 183, 0, 24, 181, 0, 29, 42, 187, 0, 32, 89]
abbrev dktX0_init_2 : List UInt8 := dkwX0_init_2 ++ dktX0_init_3
def dkwX0_init_1 : List UInt8 := [89, 183, 0, 12, 83, 89, 5, 187, 0, 13, 89, 183, 0, 15, 83, 181, 0, 16, 42, 187, 0, 22, 89]
abbrev dktX0_init_1 : List UInt8 := dkwX0_init_1 ++ dktX0_init_2
def dkwX0_init_0 : List UInt8 := [42, 183, 0, 1, 42, 6, 189, 0, 7, 89, 3, 187, 0, 7, 89, 183, 0, 9, 83, 89, 4, 187, 0, 10]
abbrev dktX0_init_0 : List UInt8 := dkwX0_init_0 ++ dktX0_init_1
theorem dksX0_init_0 : cX0_init.data.toList.drop 0 = dktX0_init_0 := by decide +kernel
theorem dksX0_init_1 : cX0_init.data.toList.drop 24 = dktX0_init_1 := dk_seg dksX0_init_0 24 rfl rfl
theorem dksX0_init_2 : cX0_init.data.toList.drop 47 = dktX0_init_2 := dk_seg dksX0_init_1 23 rfl rfl
theorem dksX0_init_3 : cX0_init.data.toList.drop 69 = dktX0_init_3 := dk_seg dksX0_init_2 22 rfl rfl
theorem dksX0_init_4 : cX0_init.data.toList.drop 91 = dktX0_init_4 := dk_seg dksX0_init_3 22 rfl rfl
theorem dksX0_init_5 : cX0_init.data.toList.drop 113 = dktX0_init_5 := dk_seg dksX0_init_4 22 rfl rfl
theorem dksX0_init_6 : cX0_init.data.toList.drop 136 = dktX0_init_6 := dk_seg dksX0_init_5 23 rfl rfl
theorem dksX0_init_7 : cX0_init.data.toList.drop 159 = dktX0_init_7 := dk_seg dksX0_init_6 23 rfl rfl
theorem dksX0_init_8 : cX0_init.data.toList.drop 182 = dktX0_init_8 := dk_seg dksX0_init_7 23 rfl rfl
theorem dksX0_init_9 : cX0_init.data.toList.drop 205 = dktX0_init_9 := dk_seg dksX0_init_8 23 rfl rfl
theorem dX0_init_0 : decode cX0_init 0 = .ok (.aload_n 0, 1) := dk_42 (dk_at dksX0_init_0 0 rfl rfl)
theorem dX0_init_1 : decode cX0_init 1 = .ok (.invokespecial 1, 3) := dk_183 0 1 (dk_at dksX0_init_0 1 rfl rfl)
theorem dX0_init_4 : decode cX0_init 4 = .ok (.aload_n 0, 1) := dk_42 (dk_at dksX0_init_0 4 rfl rfl)
theorem dX0_init_5 : decode cX0_init 5 = .ok (.iconst 3, 1) := dk_6 (dk_at dksX0_init_0 5 rfl rfl)
theorem dX0_init_6 : decode cX0_init 6 = .ok (.anewarray 7, 3) := dk_189 0 7 (dk_at dksX0_init_0 6 rfl rfl)
theorem dX0_init_9 : decode cX0_init 9 = .ok (.dup, 1) := dk_89 (dk_at dksX0_init_0 9 rfl rfl)
theorem dX0_init_10 : decode cX0_init 10 = .ok (.iconst 0, 1) := dk_3 (dk_at dksX0_init_0 10 rfl rfl)
theorem dX0_init_11 : decode cX0_init 11 = .ok (.new 7, 3) := dk_187 0 7 (dk_at dksX0_init_0 11 rfl rfl)
theorem dX0_init_14 : decode cX0_init 14 = .ok (.dup, 1) := dk_89 (dk_at dksX0_init_0 14 rfl rfl)
theorem dX0_init_15 : decode cX0_init 15 = .ok (.invokespecial 9, 3) := dk_183 0 9 (dk_at dksX0_init_0 15 rfl rfl)
theorem dX0_init_18 : decode cX0_init 18 = .ok (.aastore, 1) := dk_83 (dk_at dksX0_init_0 18 rfl rfl)
theorem dX0_init_19 : decode cX0_init 19 = .ok (.dup, 1) := dk_89 (dk_at dksX0_init_0 19 rfl rfl)
theorem dX0_init_20 : decode cX0_init 20 = .ok (.iconst 1, 1) := dk_4 (dk_at dksX0_init_0 20 rfl rfl)
theorem dX0_init_21 : decode cX0_init 21 = .ok (.new 10, 3) := dk_187 0 10 (dk_at dksX0_init_0 21 rfl rfl)
theorem dX0_init_24 : decode cX0_init 24 = .ok (.dup, 1) := dk_89 (dk_at dksX0_init_1 0 rfl rfl)
theorem dX0_init_25 : decode cX0_init 25 = .ok (.invokespecial 12, 3) := dk_183 0 12 (dk_at dksX0_init_1 1 rfl rfl)
theorem dX0_init_28 : decode cX0_init 28 = .ok (.aastore, 1) := dk_83 (dk_at dksX0_init_1 4 rfl rfl)
theorem dX0_init_29 : decode cX0_init 29 = .ok (.dup, 1) := dk_89 (dk_at dksX0_init_1 5 rfl rfl)
theorem dX0_init_30 : decode cX0_init 30 = .ok (.iconst 2, 1) := dk_5 (dk_at dksX0_init_1 6 rfl rfl)
theorem dX0_init_31 : decode cX0_init 31 = .ok (.new 13, 3) := dk_187 0 13 (dk_at dksX0_init_1 7 rfl rfl)
theorem dX0_init_34 : decode cX0_init 34 = .ok (.dup, 1) := dk_89 (dk_at dksX0_init_1 10 rfl rfl)
theorem dX0_init_35 : decode cX0_init 35 = .ok (.invokespecial 15, 3) := dk_183 0 15 (dk_at dksX0_init_1 11 rfl rfl)
theorem dX0_init_38 : decode cX0_init 38 = .ok (.aastore, 1) := dk_83 (dk_at dksX0_init_1 14 rfl rfl)
theorem dX0_init_39 : decode cX0_init 39 = .ok (.putfield 16, 3) := dk_181 0 16 (dk_at dksX0_init_1 15 rfl rfl)
theorem dX0_init_42 : decode cX0_init 42 = .ok (.aload_n 0, 1) := dk_42 (dk_at dksX0_init_1 18 rfl rfl)
theorem dX0_init_43 : decode cX0_init 43 = .ok (.new 22, 3) := dk_187 0 22 (dk_at dksX0_init_1 19 rfl rfl)
theorem dX0_init_46 : decode cX0_init 46 = .ok (.dup, 1) := dk_89 (dk_at dksX0_init_1 22 rfl rfl)
theorem dX0_init_47 : decode cX0_init 47 = .ok (.invokespecial 24, 3) := dk_183 0 24 (dk_at dksX0_init_2 0 rfl rfl)
theorem dX0_init_50 : decode cX0_init 50 = .ok (.putfield 25, 3) := dk_181 0 25 (dk_at dksX0_init_2 3 rfl rfl)
theorem dX0_init_53 : decode cX0_init 53 = .ok (.aload_n 0, 1) := dk_42 (dk_at dksX0_init_2 6 rfl rfl)
theorem dX0_init_54 : decode cX0_init 54 = .ok (.new 22, 3) := dk_187 0 22 (dk_at dksX0_init_2 7 rfl rfl)
theorem dX0_init_57 : decode cX0_init 57 = .ok (.dup, 1) := dk_89 (dk_at dksX0_init_2 10 rfl rfl)
theorem dX0_init_58 : decode cX0_init 58 = .ok (.invokespecial 24, 3) := dk_183 0 24 (dk_at dksX0_init_2 11 rfl rfl)
theorem dX0_init_61 : decode cX0_init 61 = .ok (.putfield 29, 3) := dk_181 0 29 (dk_at dksX0_init_2 14 rfl rfl)
theorem dX0_init_64 : decode cX0_init 64 = .ok (.aload_n 0, 1) := dk_42 (dk_at dksX0_init_2 17 rfl rfl)
theorem dX0_init_65 : decode cX0_init 65 = .ok (.new 32, 3) := dk_187 0 32 (dk_at dksX0_init_2 18 rfl rfl)
theorem dX0_init_68 : decode cX0_init 68 = .ok (.dup, 1) := dk_89 (dk_at dksX0_init_2 21 rfl rfl)
theorem dX0_init_69 : decode cX0_init 69 = .ok (.invokespecial 34, 3) := dk_183 0 34 (dk_at dksX0_init_3 0 rfl rfl)
theorem dX0_init_72 : decode cX0_init 72 = .ok (.putfield 35, 3) := dk_181 0 35 (dk_at dksX0_init_3 3 rfl rfl)
theorem dX0_init_75 : decode cX0_init 75 = .ok (.aload_n 0, 1) := dk_42 (dk_at dksX0_init_3 6 rfl rfl)
theorem dX0_init_76 : decode cX0_init 76 = .ok (.new 32, 3) := dk_187 0 32 (dk_at dksX0_init_3 7 rfl rfl)
theorem dX0_init_79 : decode cX0_init 79 = .ok (.dup, 1) := dk_89 (dk_at dksX0_init_3 10 rfl rfl)
theorem dX0_init_80 : decode cX0_init 80 = .ok (.invokespecial 34, 3) := dk_183 0 34 (dk_at dksX0_init_3 11 rfl rfl)
theorem dX0_init_83 : decode cX0_init 83 = .ok (.putfield 39, 3) := dk_181 0 39 (dk_at dksX0_init_3 14 rfl rfl)
theorem dX0_init_86 : decode cX0_init 86 = .ok (.aload_n 0, 1) := dk_42 (dk_at dksX0_init_3 17 rfl rfl)
theorem dX0_init_87 : decode cX0_init 87 = .ok (.new 42, 3) := dk_187 0 42 (dk_at dksX0_init_3 18 rfl rfl)
theorem dX0_init_90 : decode cX0_init 90 = .ok (.dup, 1) := dk_89 (dk_at dksX0_init_3 21 rfl rfl)
theorem dX0_init_91 : decode cX0_init 91 = .ok (.invokespecial 44, 3) := dk_183 0 44 (dk_at dksX0_init_4 0 rfl rfl)
theorem dX0_init_94 : decode cX0_init 94 = .ok (.putfield 45, 3) := dk_181 0 45 (dk_at dksX0_init_4 3 rfl rfl)
theorem dX0_init_97 : decode cX0_init 97 = .ok (.aload_n 0, 1) := dk_42 (dk_at dksX0_init_4 6 rfl rfl)
theorem dX0_init_98 : decode cX0_init 98 = .ok (.bipush 80, 2) := dk_16 80 (dk_at dksX0_init_4 7 rfl rfl)
theorem dX0_init_100 : decode cX0_init 100 = .ok (.newarray .byte, 2) := dk_188_8 (dk_at dksX0_init_4 9 rfl rfl)
theorem dX0_init_102 : decode cX0_init 102 = .ok (.putfield 49, 3) := dk_181 0 49 (dk_at dksX0_init_4 11 rfl rfl)
theorem dX0_init_105 : decode cX0_init 105 = .ok (.aload_n 0, 1) := dk_42 (dk_at dksX0_init_4 14 rfl rfl)
theorem dX0_init_106 : decode cX0_init 106 = .ok (.new 32, 3) := dk_187 0 32 (dk_at dksX0_init_4 15 rfl rfl)
theorem dX0_init_109 : decode cX0_init 109 = .ok (.dup, 1) := dk_89 (dk_at dksX0_init_4 18 rfl rfl)
theorem dX0_init_110 : decode cX0_init 110 = .ok (.invokespecial 34, 3) := dk_183 0 34 (dk_at dksX0_init_4 19 rfl rfl)
theorem dX0_init_113 : decode cX0_init 113 = .ok (.putfield 53, 3) := dk_181 0 53 (dk_at dksX0_init_5 0 rfl rfl)
theorem dX0_init_116 : decode cX0_init 116 = .ok (.aload_n 0, 1) := dk_42 (dk_at dksX0_init_5 3 rfl rfl)
theorem dX0_init_117 : decode cX0_init 117 = .ok (.iconst 4, 1) := dk_7 (dk_at dksX0_init_5 4 rfl rfl)
theorem dX0_init_118 : decode cX0_init 118 = .ok (.newarray .int, 2) := dk_188_10 (dk_at dksX0_init_5 5 rfl rfl)
theorem dX0_init_120 : decode cX0_init 120 = .ok (.putfield 56, 3) := dk_181 0 56 (dk_at dksX0_init_5 7 rfl rfl)
theorem dX0_init_123 : decode cX0_init 123 = .ok (.aload_n 0, 1) := dk_42 (dk_at dksX0_init_5 10 rfl rfl)
theorem dX0_init_124 : decode cX0_init 124 = .ok (.bipush 6, 2) := dk_16 6 (dk_at dksX0_init_5 11 rfl rfl)
theorem dX0_init_126 : decode cX0_init 126 = .ok (.newarray .int, 2) := dk_188_10 (dk_at dksX0_init_5 13 rfl rfl)
theorem dX0_init_128 : decode cX0_init 128 = .ok (.putfield 60, 3) := dk_181 0 60 (dk_at dksX0_init_5 15 rfl rfl)
theorem dX0_init_131 : decode cX0_init 131 = .ok (.aload_n 0, 1) := dk_42 (dk_at dksX0_init_5 18 rfl rfl)
theorem dX0_init_132 : decode cX0_init 132 = .ok (.bipush 6, 2) := dk_16 6 (dk_at dksX0_init_5 19 rfl rfl)
theorem dX0_init_134 : decode cX0_init 134 = .ok (.newarray .int, 2) := dk_188_10 (dk_at dksX0_init_5 21 rfl rfl)
theorem dX0_init_136 : decode cX0_init 136 = .ok (.putfield 63, 3) := dk_181 0 63 (dk_at dksX0_init_6 0 rfl rfl)
theorem dX0_init_139 : decode cX0_init 139 = .ok (.aload_n 0, 1) := dk_42 (dk_at dksX0_init_6 3 rfl rfl)
theorem dX0_init_140 : decode cX0_init 140 = .ok (.new 32, 3) := dk_187 0 32 (dk_at dksX0_init_6 4 rfl rfl)
theorem dX0_init_143 : decode cX0_init 143 = .ok (.dup, 1) := dk_89 (dk_at dksX0_init_6 7 rfl rfl)
theorem dX0_init_144 : decode cX0_init 144 = .ok (.invokespecial 34, 3) := dk_183 0 34 (dk_at dksX0_init_6 8 rfl rfl)
theorem dX0_init_147 : decode cX0_init 147 = .ok (.putfield 66, 3) := dk_181 0 66 (dk_at dksX0_init_6 11 rfl rfl)
theorem dX0_init_150 : decode cX0_init 150 = .ok (.aload_n 0, 1) := dk_42 (dk_at dksX0_init_6 14 rfl rfl)
theorem dX0_init_151 : decode cX0_init 151 = .ok (.bipush 8, 2) := dk_16 8 (dk_at dksX0_init_6 15 rfl rfl)
theorem dX0_init_153 : decode cX0_init 153 = .ok (.newarray .int, 2) := dk_188_10 (dk_at dksX0_init_6 17 rfl rfl)
theorem dX0_init_155 : decode cX0_init 155 = .ok (.putfield 69, 3) := dk_181 0 69 (dk_at dksX0_init_6 19 rfl rfl)
theorem dX0_init_158 : decode cX0_init 158 = .ok (.aload_n 0, 1) := dk_42 (dk_at dksX0_init_6 22 rfl rfl)
theorem dX0_init_159 : decode cX0_init 159 = .ok (.bipush 8, 2) := dk_16 8 (dk_at dksX0_init_7 0 rfl rfl)
theorem dX0_init_161 : decode cX0_init 161 = .ok (.newarray .int, 2) := dk_188_10 (dk_at dksX0_init_7 2 rfl rfl)
theorem dX0_init_163 : decode cX0_init 163 = .ok (.putfield 72, 3) := dk_181 0 72 (dk_at dksX0_init_7 4 rfl rfl)
theorem dX0_init_166 : decode cX0_init 166 = .ok (.aload_n 0, 1) := dk_42 (dk_at dksX0_init_7 7 rfl rfl)
theorem dX0_init_167 : decode cX0_init 167 = .ok (.new 22, 3) := dk_187 0 22 (dk_at dksX0_init_7 8 rfl rfl)
theorem dX0_init_170 : decode cX0_init 170 = .ok (.dup, 1) := dk_89 (dk_at dksX0_init_7 11 rfl rfl)
theorem dX0_init_171 : decode cX0_init 171 = .ok (.invokespecial 24, 3) := dk_183 0 24 (dk_at dksX0_init_7 12 rfl rfl)
theorem dX0_init_174 : decode cX0_init 174 = .ok (.putfield 75, 3) := dk_181 0 75 (dk_at dksX0_init_7 15 rfl rfl)
theorem dX0_init_177 : decode cX0_init 177 = .ok (.aload_n 0, 1) := dk_42 (dk_at dksX0_init_7 18 rfl rfl)
theorem dX0_init_178 : decode cX0_init 178 = .ok (.bipush 16, 2) := dk_16 16 (dk_at dksX0_init_7 19 rfl rfl)
theorem dX0_init_180 : decode cX0_init 180 = .ok (.newarray .int, 2) := dk_188_10 (dk_at dksX0_init_7 21 rfl rfl)
theorem dX0_init_182 : decode cX0_init 182 = .ok (.putfield 78, 3) := dk_181 0 78 (dk_at dksX0_init_8 0 rfl rfl)
theorem dX0_init_185 : decode cX0_init 185 = .ok (.aload_n 0, 1) := dk_42 (dk_at dksX0_init_8 3 rfl rfl)
theorem dX0_init_186 : decode cX0_init 186 = .ok (.iconst 4, 1) := dk_7 (dk_at dksX0_init_8 4 rfl rfl)
theorem dX0_init_187 : decode cX0_init 187 = .ok (.anewarray 81, 3) := dk_189 0 81 (dk_at dksX0_init_8 5 rfl rfl)
theorem dX0_init_190 : decode cX0_init 190 = .ok (.putfield 83, 3) := dk_181 0 83 (dk_at dksX0_init_8 8 rfl rfl)
theorem dX0_init_193 : decode cX0_init 193 = .ok (.iconst 0, 1) := dk_3 (dk_at dksX0_init_8 11 rfl rfl)
theorem dX0_init_194 : decode cX0_init 194 = .ok (.istore_n 1, 1) := dk_60 (dk_at dksX0_init_8 12 rfl rfl)
theorem dX0_init_195 : decode cX0_init 195 = .ok (.iload_n 1, 1) := dk_27 (dk_at dksX0_init_8 13 rfl rfl)
theorem dX0_init_196 : decode cX0_init 196 = .ok (.iconst 4, 1) := dk_7 (dk_at dksX0_init_8 14 rfl rfl)
theorem dX0_init_197 : decode cX0_init 197 = .ok (.if_icmp .ge 22, 3) := dk_162 0 22 (dk_at dksX0_init_8 15 rfl rfl)
theorem dX0_init_200 : decode cX0_init 200 = .ok (.aload_n 0, 1) := dk_42 (dk_at dksX0_init_8 18 rfl rfl)
theorem dX0_init_201 : decode cX0_init 201 = .ok (.getfield 83, 3) := dk_180 0 83 (dk_at dksX0_init_8 19 rfl rfl)
theorem dX0_init_204 : decode cX0_init 204 = .ok (.iload_n 1, 1) := dk_27 (dk_at dksX0_init_8 22 rfl rfl)
theorem dX0_init_205 : decode cX0_init 205 = .ok (.new 81, 3) := dk_187 0 81 (dk_at dksX0_init_9 0 rfl rfl)
theorem dX0_init_208 : decode cX0_init 208 = .ok (.dup, 1) := dk_89 (dk_at dksX0_init_9 3 rfl rfl)
theorem dX0_init_209 : decode cX0_init 209 = .ok (.invokespecial 87, 3) := dk_183 0 87 (dk_at dksX0_init_9 4 rfl rfl)
theorem dX0_init_212 : decode cX0_init 212 = .ok (.aastore, 1) := dk_83 (dk_at dksX0_init_9 7 rfl rfl)
theorem dX0_init_213 : decode cX0_init 213 = .ok (.iinc 1 1, 3) := dk_132 1 1 (dk_at dksX0_init_9 8 rfl rfl)
theorem dX0_init_216 : decode cX0_init 216 = .ok (.goto (-21), 3) := dk_167 255 235 (dk_at dksX0_init_9 11 rfl rfl)
theorem dX0_init_219 : decode cX0_init 219 = .ok (.return_, 1) := dk_177 (dk_at dksX0_init_9 14 rfl rfl)
abbrev cX0_person : ByteArray := prog_1_method_7_code
def yX0_person : MethodName := ⟨RX0, "person", "(III)I"⟩
def dkwX0_person_3 : List UInt8 := [180, 0, 25, 89, 180, 0, 88, 4, 96, 181, 0, 88, 42, 180, 0, 25, 180, 0, 88, 4, 100, 172]
abbrev dktX0_person_3 : List UInt8 := dkwX0_person_3 ++ []
def dkwX0_person_2 : List UInt8 := [42, 180, 0, 25, 180, 0, 100, 42, 180, 0, 25, 180, 0, 88, 50, 27, 28, 29, 182, 0, 105, 42]
abbrev dktX0_person_2 : List UInt8 := dkwX0_person_2 ++ dktX0_person_3
def dkwX0_person_1 : List UInt8 := [16, 60, 184, 0, 92, 154, 0, 5, 2, 172, 42, 180, 0, 25, 180, 0, 88, 8, 160, 0, 6, 16, 253, 172]
abbrev dktX0_person_1 : List UInt8 := dkwX0_person_1 ++ dktX0_person_2
def dkwX0_person_0 : List UInt8 := [27, 3, 17, 39, 15, 184, 0, 92, 153, 0, 23, 28, 3, 16, 99, 184, 0, 92, 153, 0, 13, 29, 4]
abbrev dktX0_person_0 : List UInt8 := dkwX0_person_0 ++ dktX0_person_1
theorem dksX0_person_0 : cX0_person.data.toList.drop 0 = dktX0_person_0 := by decide +kernel
theorem dksX0_person_1 : cX0_person.data.toList.drop 23 = dktX0_person_1 := dk_seg dksX0_person_0 23 rfl rfl
theorem dksX0_person_2 : cX0_person.data.toList.drop 47 = dktX0_person_2 := dk_seg dksX0_person_1 24 rfl rfl
theorem dksX0_person_3 : cX0_person.data.toList.drop 69 = dktX0_person_3 := dk_seg dksX0_person_2 22 rfl rfl
theorem dX0_person_0 : decode cX0_person 0 = .ok (.iload_n 1, 1) := dk_27 (dk_at dksX0_person_0 0 rfl rfl)
theorem dX0_person_1 : decode cX0_person 1 = .ok (.iconst 0, 1) := dk_3 (dk_at dksX0_person_0 1 rfl rfl)
theorem dX0_person_2 : decode cX0_person 2 = .ok (.sipush 9999, 3) := dk_17 39 15 (dk_at dksX0_person_0 2 rfl rfl)
theorem dX0_person_5 : decode cX0_person 5 = .ok (.invokestatic 92, 3) := dk_184 0 92 (dk_at dksX0_person_0 5 rfl rfl)
theorem dX0_person_8 : decode cX0_person 8 = .ok (.ifCond .eq 23, 3) := dk_153 0 23 (dk_at dksX0_person_0 8 rfl rfl)
theorem dX0_person_11 : decode cX0_person 11 = .ok (.iload_n 2, 1) := dk_28 (dk_at dksX0_person_0 11 rfl rfl)
theorem dX0_person_12 : decode cX0_person 12 = .ok (.iconst 0, 1) := dk_3 (dk_at dksX0_person_0 12 rfl rfl)
theorem dX0_person_13 : decode cX0_person 13 = .ok (.bipush 99, 2) := dk_16 99 (dk_at dksX0_person_0 13 rfl rfl)
theorem dX0_person_15 : decode cX0_person 15 = .ok (.invokestatic 92, 3) := dk_184 0 92 (dk_at dksX0_person_0 15 rfl rfl)
theorem dX0_person_18 : decode cX0_person 18 = .ok (.ifCond .eq 13, 3) := dk_153 0 13 (dk_at dksX0_person_0 18 rfl rfl)
theorem dX0_person_21 : decode cX0_person 21 = .ok (.iload_n 3, 1) := dk_29 (dk_at dksX0_person_0 21 rfl rfl)
theorem dX0_person_22 : decode cX0_person 22 = .ok (.iconst 1, 1) := dk_4 (dk_at dksX0_person_0 22 rfl rfl)
theorem dX0_person_23 : decode cX0_person 23 = .ok (.bipush 60, 2) := dk_16 60 (dk_at dksX0_person_1 0 rfl rfl)
theorem dX0_person_25 : decode cX0_person 25 = .ok (.invokestatic 92, 3) := dk_184 0 92 (dk_at dksX0_person_1 2 rfl rfl)
theorem dX0_person_28 : decode cX0_person 28 = .ok (.ifCond .ne 5, 3) := dk_154 0 5 (dk_at dksX0_person_1 5 rfl rfl)
theorem dX0_person_31 : decode cX0_person 31 = .ok (.iconst (-1), 1) := dk_2 (dk_at dksX0_person_1 8 rfl rfl)
theorem dX0_person_32 : decode cX0_person 32 = .ok (.ireturn, 1) := dk_172 (dk_at dksX0_person_1 9 rfl rfl)
theorem dX0_person_33 : decode cX0_person 33 = .ok (.aload_n 0, 1) := dk_42 (dk_at dksX0_person_1 10 rfl rfl)
theorem dX0_person_34 : decode cX0_person 34 = .ok (.getfield 25, 3) := dk_180 0 25 (dk_at dksX0_person_1 11 rfl rfl)
theorem dX0_person_37 : decode cX0_person 37 = .ok (.getfield 88, 3) := dk_180 0 88 (dk_at dksX0_person_1 14 rfl rfl)
theorem dX0_person_40 : decode cX0_person 40 = .ok (.iconst 5, 1) := dk_8 (dk_at dksX0_person_1 17 rfl rfl)
theorem dX0_person_41 : decode cX0_person 41 = .ok (.if_icmp .ne 6, 3) := dk_160 0 6 (dk_at dksX0_person_1 18 rfl rfl)
theorem dX0_person_44 : decode cX0_person 44 = .ok (.bipush (-3), 2) := dk_16 253 (dk_at dksX0_person_1 21 rfl rfl)
theorem dX0_person_46 : decode cX0_person 46 = .ok (.ireturn, 1) := dk_172 (dk_at dksX0_person_1 23 rfl rfl)
theorem dX0_person_47 : decode cX0_person 47 = .ok (.aload_n 0, 1) := dk_42 (dk_at dksX0_person_2 0 rfl rfl)
theorem dX0_person_48 : decode cX0_person 48 = .ok (.getfield 25, 3) := dk_180 0 25 (dk_at dksX0_person_2 1 rfl rfl)
theorem dX0_person_51 : decode cX0_person 51 = .ok (.getfield 100, 3) := dk_180 0 100 (dk_at dksX0_person_2 4 rfl rfl)
theorem dX0_person_54 : decode cX0_person 54 = .ok (.aload_n 0, 1) := dk_42 (dk_at dksX0_person_2 7 rfl rfl)
theorem dX0_person_55 : decode cX0_person 55 = .ok (.getfield 25, 3) := dk_180 0 25 (dk_at dksX0_person_2 8 rfl rfl)
theorem dX0_person_58 : decode cX0_person 58 = .ok (.getfield 88, 3) := dk_180 0 88 (dk_at dksX0_person_2 11 rfl rfl)
theorem dX0_person_61 : decode cX0_person 61 = .ok (.aaload, 1) := dk_50 (dk_at dksX0_person_2 14 rfl rfl)
theorem dX0_person_62 : decode cX0_person 62 = .ok (.iload_n 1, 1) := dk_27 (dk_at dksX0_person_2 15 rfl rfl)
theorem dX0_person_63 : decode cX0_person 63 = .ok (.iload_n 2, 1) := dk_28 (dk_at dksX0_person_2 16 rfl rfl)
theorem dX0_person_64 : decode cX0_person 64 = .ok (.iload_n 3, 1) := dk_29 (dk_at dksX0_person_2 17 rfl rfl)
theorem dX0_person_65 : decode cX0_person 65 = .ok (.invokevirtual 105, 3) := dk_182 0 105 (dk_at dksX0_person_2 18 rfl rfl)
theorem dX0_person_68 : decode cX0_person 68 = .ok (.aload_n 0, 1) := dk_42 (dk_at dksX0_person_2 21 rfl rfl)
theorem dX0_person_69 : decode cX0_person 69 = .ok (.getfield 25, 3) := dk_180 0 25 (dk_at dksX0_person_3 0 rfl rfl)
theorem dX0_person_72 : decode cX0_person 72 = .ok (.dup, 1) := dk_89 (dk_at dksX0_person_3 3 rfl rfl)
theorem dX0_person_73 : decode cX0_person 73 = .ok (.getfield 88, 3) := dk_180 0 88 (dk_at dksX0_person_3 4 rfl rfl)
theorem dX0_person_76 : decode cX0_person 76 = .ok (.iconst 1, 1) := dk_4 (dk_at dksX0_person_3 7 rfl rfl)
theorem dX0_person_77 : decode cX0_person 77 = .ok (.iadd, 1) := dk_96 (dk_at dksX0_person_3 8 rfl rfl)
theorem dX0_person_78 : decode cX0_person 78 = .ok (.putfield 88, 3) := dk_181 0 88 (dk_at dksX0_person_3 9 rfl rfl)
theorem dX0_person_81 : decode cX0_person 81 = .ok (.aload_n 0, 1) := dk_42 (dk_at dksX0_person_3 12 rfl rfl)
theorem dX0_person_82 : decode cX0_person 82 = .ok (.getfield 25, 3) := dk_180 0 25 (dk_at dksX0_person_3 13 rfl rfl)
theorem dX0_person_85 : decode cX0_person 85 = .ok (.getfield 88, 3) := dk_180 0 88 (dk_at dksX0_person_3 16 rfl rfl)
theorem dX0_person_88 : decode cX0_person 88 = .ok (.iconst 1, 1) := dk_4 (dk_at dksX0_person_3 19 rfl rfl)
theorem dX0_person_89 : decode cX0_person 89 = .ok (.isub, 1) := dk_100 (dk_at dksX0_person_3 20 rfl rfl)
theorem dX0_person_90 : decode cX0_person 90 = .ok (.ireturn, 1) := dk_172 (dk_at dksX0_person_3 21 rfl rfl)
abbrev cX0_isIn : ByteArray := prog_1_method_1_code
def yX0_isIn : MethodName := ⟨RX0, "isIn", "(III)Z"⟩
def dkwX0_isIn_0 : List UInt8 := [26, 27, 161, 0, 12, 26, 28, 163, 0, 7, 4, 167, 0, 4, 3, 172]
abbrev dktX0_isIn_0 : List UInt8 := dkwX0_isIn_0 ++ []
theorem dksX0_isIn_0 : cX0_isIn.data.toList.drop 0 = dktX0_isIn_0 := by decide +kernel
theorem dX0_isIn_0 : decode cX0_isIn 0 = .ok (.iload_n 0, 1) := dk_26 (dk_at dksX0_isIn_0 0 rfl rfl)
theorem dX0_isIn_1 : decode cX0_isIn 1 = .ok (.iload_n 1, 1) := dk_27 (dk_at dksX0_isIn_0 1 rfl rfl)
theorem dX0_isIn_2 : decode cX0_isIn 2 = .ok (.if_icmp .lt 12, 3) := dk_161 0 12 (dk_at dksX0_isIn_0 2 rfl rfl)
theorem dX0_isIn_5 : decode cX0_isIn 5 = .ok (.iload_n 0, 1) := dk_26 (dk_at dksX0_isIn_0 5 rfl rfl)
theorem dX0_isIn_6 : decode cX0_isIn 6 = .ok (.iload_n 2, 1) := dk_28 (dk_at dksX0_isIn_0 6 rfl rfl)
theorem dX0_isIn_7 : decode cX0_isIn 7 = .ok (.if_icmp .gt 7, 3) := dk_163 0 7 (dk_at dksX0_isIn_0 7 rfl rfl)
theorem dX0_isIn_10 : decode cX0_isIn 10 = .ok (.iconst 1, 1) := dk_4 (dk_at dksX0_isIn_0 10 rfl rfl)
theorem dX0_isIn_11 : decode cX0_isIn 11 = .ok (.goto 4, 3) := dk_167 0 4 (dk_at dksX0_isIn_0 11 rfl rfl)
theorem dX0_isIn_14 : decode cX0_isIn 14 = .ok (.iconst 0, 1) := dk_3 (dk_at dksX0_isIn_0 14 rfl rfl)
theorem dX0_isIn_15 : decode cX0_isIn 15 = .ok (.ireturn, 1) := dk_172 (dk_at dksX0_isIn_0 15 rfl rfl)
abbrev cX0_of : ByteArray := prog_1_method_8_code
def yX0_of : MethodName := ⟨RX0, "of", "(II)I"⟩
def dkwX0_of_3 : List UInt8 := [172, 45, 16, 252, 184, 0, 122, 172, 45, 180, 0, 126, 172, 2, 172]
abbrev dktX0_of_3 : List UInt8 := dkwX0_of_3 ++ []
def dkwX0_of_2 : List UInt8 := [45, 180, 0, 109, 172, 45, 180, 0, 112, 172, 45, 180, 0, 115, 172, 45, 180, 0, 104, 172, 45, 182, 0, 118]
abbrev dktX0_of_2 : List UInt8 := dkwX0_of_2 ++ dktX0_of_3
def dkwX0_of_1 : List UInt8 := [170, 0, 0, 0, 0, 0, 80, 0, 0, 0, 0, 0, 0, 0, 6, 0, 0, 0, 43, 0, 0, 0, 48, 0, 0, 0, 53, 0, 0, 0, 58, 0, 0, 0, 63, 0, 0, 0, 68, 0, 0, 0, 75]
abbrev dktX0_of_1 : List UInt8 := dkwX0_of_1 ++ dktX0_of_2
def dkwX0_of_0 : List UInt8 := [42, 27, 182, 0, 96, 154, 0, 5, 2, 172, 42, 180, 0, 25, 180, 0, 100, 27, 50, 78, 28]
abbrev dktX0_of_0 : List UInt8 := dkwX0_of_0 ++ dktX0_of_1
theorem dksX0_of_0 : cX0_of.data.toList.drop 0 = dktX0_of_0 := by decide +kernel
theorem dksX0_of_1 : cX0_of.data.toList.drop 21 = dktX0_of_1 := dk_seg dksX0_of_0 21 rfl rfl
theorem dksX0_of_2 : cX0_of.data.toList.drop 64 = dktX0_of_2 := dk_seg dksX0_of_1 43 rfl rfl
theorem dksX0_of_3 : cX0_of.data.toList.drop 88 = dktX0_of_3 := dk_seg dksX0_of_2 24 rfl rfl
theorem dX0_of_0 : decode cX0_of 0 = .ok (.aload_n 0, 1) := dk_42 (dk_at dksX0_of_0 0 rfl rfl)
theorem dX0_of_1 : decode cX0_of 1 = .ok (.iload_n 1, 1) := dk_27 (dk_at dksX0_of_0 1 rfl rfl)
theorem dX0_of_2 : decode cX0_of 2 = .ok (.invokevirtual 96, 3) := dk_182 0 96 (dk_at dksX0_of_0 2 rfl rfl)
theorem dX0_of_5 : decode cX0_of 5 = .ok (.ifCond .ne 5, 3) := dk_154 0 5 (dk_at dksX0_of_0 5 rfl rfl)
theorem dX0_of_8 : decode cX0_of 8 = .ok (.iconst (-1), 1) := dk_2 (dk_at dksX0_of_0 8 rfl rfl)
theorem dX0_of_9 : decode cX0_of 9 = .ok (.ireturn, 1) := dk_172 (dk_at dksX0_of_0 9 rfl rfl)
theorem dX0_of_10 : decode cX0_of 10 = .ok (.aload_n 0, 1) := dk_42 (dk_at dksX0_of_0 10 rfl rfl)
theorem dX0_of_11 : decode cX0_of 11 = .ok (.getfield 25, 3) := dk_180 0 25 (dk_at dksX0_of_0 11 rfl rfl)
theorem dX0_of_14 : decode cX0_of 14 = .ok (.getfield 100, 3) := dk_180 0 100 (dk_at dksX0_of_0 14 rfl rfl)
theorem dX0_of_17 : decode cX0_of 17 = .ok (.iload_n 1, 1) := dk_27 (dk_at dksX0_of_0 17 rfl rfl)
theorem dX0_of_18 : decode cX0_of 18 = .ok (.aaload, 1) := dk_50 (dk_at dksX0_of_0 18 rfl rfl)
theorem dX0_of_19 : decode cX0_of 19 = .ok (.astore_n 3, 1) := dk_78 (dk_at dksX0_of_0 19 rfl rfl)
theorem dX0_of_20 : decode cX0_of 20 = .ok (.iload_n 2, 1) := dk_28 (dk_at dksX0_of_0 20 rfl rfl)
theorem dX0_of_21 : decode cX0_of 21 = .ok (.tableswitch 80 0 6 #[43, 48, 53, 58, 63, 68, 75], 43) := by decide +kernel
theorem dX0_of_64 : decode cX0_of 64 = .ok (.aload_n 3, 1) := dk_45 (dk_at dksX0_of_2 0 rfl rfl)
theorem dX0_of_65 : decode cX0_of 65 = .ok (.getfield 109, 3) := dk_180 0 109 (dk_at dksX0_of_2 1 rfl rfl)
theorem dX0_of_68 : decode cX0_of 68 = .ok (.ireturn, 1) := dk_172 (dk_at dksX0_of_2 4 rfl rfl)
theorem dX0_of_69 : decode cX0_of 69 = .ok (.aload_n 3, 1) := dk_45 (dk_at dksX0_of_2 5 rfl rfl)
theorem dX0_of_70 : decode cX0_of 70 = .ok (.getfield 112, 3) := dk_180 0 112 (dk_at dksX0_of_2 6 rfl rfl)
theorem dX0_of_73 : decode cX0_of 73 = .ok (.ireturn, 1) := dk_172 (dk_at dksX0_of_2 9 rfl rfl)
theorem dX0_of_74 : decode cX0_of 74 = .ok (.aload_n 3, 1) := dk_45 (dk_at dksX0_of_2 10 rfl rfl)
theorem dX0_of_75 : decode cX0_of 75 = .ok (.getfield 115, 3) := dk_180 0 115 (dk_at dksX0_of_2 11 rfl rfl)
theorem dX0_of_78 : decode cX0_of 78 = .ok (.ireturn, 1) := dk_172 (dk_at dksX0_of_2 14 rfl rfl)
theorem dX0_of_79 : decode cX0_of 79 = .ok (.aload_n 3, 1) := dk_45 (dk_at dksX0_of_2 15 rfl rfl)
theorem dX0_of_80 : decode cX0_of 80 = .ok (.getfield 104, 3) := dk_180 0 104 (dk_at dksX0_of_2 16 rfl rfl)
theorem dX0_of_83 : decode cX0_of 83 = .ok (.ireturn, 1) := dk_172 (dk_at dksX0_of_2 19 rfl rfl)
theorem dX0_of_84 : decode cX0_of 84 = .ok (.aload_n 3, 1) := dk_45 (dk_at dksX0_of_2 20 rfl rfl)
theorem dX0_of_85 : decode cX0_of 85 = .ok (.invokevirtual 118, 3) := dk_182 0 118 (dk_at dksX0_of_2 21 rfl rfl)
theorem dX0_of_88 : decode cX0_of 88 = .ok (.ireturn, 1) := dk_172 (dk_at dksX0_of_3 0 rfl rfl)
theorem dX0_of_89 : decode cX0_of 89 = .ok (.aload_n 3, 1) := dk_45 (dk_at dksX0_of_3 1 rfl rfl)
theorem dX0_of_90 : decode cX0_of 90 = .ok (.bipush (-4), 2) := dk_16 252 (dk_at dksX0_of_3 2 rfl rfl)
theorem dX0_of_92 : decode cX0_of 92 = .ok (.invokestatic 122, 3) := dk_184 0 122 (dk_at dksX0_of_3 4 rfl rfl)
theorem dX0_of_95 : decode cX0_of 95 = .ok (.ireturn, 1) := dk_172 (dk_at dksX0_of_3 7 rfl rfl)
theorem dX0_of_96 : decode cX0_of 96 = .ok (.aload_n 3, 1) := dk_45 (dk_at dksX0_of_3 8 rfl rfl)
theorem dX0_of_97 : decode cX0_of 97 = .ok (.getfield 126, 3) := dk_180 0 126 (dk_at dksX0_of_3 9 rfl rfl)
theorem dX0_of_100 : decode cX0_of 100 = .ok (.ireturn, 1) := dk_172 (dk_at dksX0_of_3 12 rfl rfl)
theorem dX0_of_101 : decode cX0_of 101 = .ok (.iconst (-1), 1) := dk_2 (dk_at dksX0_of_3 13 rfl rfl)
theorem dX0_of_102 : decode cX0_of 102 = .ok (.ireturn, 1) := dk_172 (dk_at dksX0_of_3 14 rfl rfl)
abbrev cX0_isPerson : ByteArray := prog_1_method_4_code
def yX0_isPerson : MethodName := ⟨RX0, "isPerson", "(I)Z"⟩
def dkwX0_isPerson_0 : List UInt8 := [27, 3, 42, 180, 0, 25, 180, 0, 88, 4, 100, 184, 0, 92, 172]
abbrev dktX0_isPerson_0 : List UInt8 := dkwX0_isPerson_0 ++ []
theorem dksX0_isPerson_0 : cX0_isPerson.data.toList.drop 0 = dktX0_isPerson_0 := by decide +kernel
theorem dX0_isPerson_0 : decode cX0_isPerson 0 = .ok (.iload_n 1, 1) := dk_27 (dk_at dksX0_isPerson_0 0 rfl rfl)
theorem dX0_isPerson_1 : decode cX0_isPerson 1 = .ok (.iconst 0, 1) := dk_3 (dk_at dksX0_isPerson_0 1 rfl rfl)
theorem dX0_isPerson_2 : decode cX0_isPerson 2 = .ok (.aload_n 0, 1) := dk_42 (dk_at dksX0_isPerson_0 2 rfl rfl)
theorem dX0_isPerson_3 : decode cX0_isPerson 3 = .ok (.getfield 25, 3) := dk_180 0 25 (dk_at dksX0_isPerson_0 3 rfl rfl)
theorem dX0_isPerson_6 : decode cX0_isPerson 6 = .ok (.getfield 88, 3) := dk_180 0 88 (dk_at dksX0_isPerson_0 6 rfl rfl)
theorem dX0_isPerson_9 : decode cX0_isPerson 9 = .ok (.iconst 1, 1) := dk_4 (dk_at dksX0_isPerson_0 9 rfl rfl)
theorem dX0_isPerson_10 : decode cX0_isPerson 10 = .ok (.isub, 1) := dk_100 (dk_at dksX0_isPerson_0 10 rfl rfl)
theorem dX0_isPerson_11 : decode cX0_isPerson 11 = .ok (.invokestatic 92, 3) := dk_184 0 92 (dk_at dksX0_isPerson_0 11 rfl rfl)
theorem dX0_isPerson_14 : decode cX0_isPerson 14 = .ok (.ireturn, 1) := dk_172 (dk_at dksX0_isPerson_0 14 rfl rfl)
abbrev cX0_owedBy : ByteArray := prog_1_method_9_code
def yX0_owedBy : MethodName := ⟨RX0, "owedBy", "(LDebtCoats$Wearer;I)I"⟩
def dkwX0_owedBy_2 : List UInt8 := [184, 0, 137, 172]
abbrev dktX0_owedBy_2 : List UInt8 := dkwX0_owedBy_2 ++ []
def dkwX0_owedBy_1 : List UInt8 := [160, 0, 11, 42, 29, 182, 0, 133, 167, 0, 4, 3, 96, 61, 132, 3, 1, 167, 255, 220, 18, 136, 28]
abbrev dktX0_owedBy_1 : List UInt8 := dkwX0_owedBy_1 ++ dktX0_owedBy_2
def dkwX0_owedBy_0 : List UInt8 := [3, 61, 3, 62, 29, 42, 180, 0, 104, 162, 0, 34, 28, 27, 155, 0, 12, 42, 29, 182, 0, 129, 27]
abbrev dktX0_owedBy_0 : List UInt8 := dkwX0_owedBy_0 ++ dktX0_owedBy_1
theorem dksX0_owedBy_0 : cX0_owedBy.data.toList.drop 0 = dktX0_owedBy_0 := by decide +kernel
theorem dksX0_owedBy_1 : cX0_owedBy.data.toList.drop 23 = dktX0_owedBy_1 := dk_seg dksX0_owedBy_0 23 rfl rfl
theorem dksX0_owedBy_2 : cX0_owedBy.data.toList.drop 46 = dktX0_owedBy_2 := dk_seg dksX0_owedBy_1 23 rfl rfl
theorem dX0_owedBy_0 : decode cX0_owedBy 0 = .ok (.iconst 0, 1) := dk_3 (dk_at dksX0_owedBy_0 0 rfl rfl)
theorem dX0_owedBy_1 : decode cX0_owedBy 1 = .ok (.istore_n 2, 1) := dk_61 (dk_at dksX0_owedBy_0 1 rfl rfl)
theorem dX0_owedBy_2 : decode cX0_owedBy 2 = .ok (.iconst 0, 1) := dk_3 (dk_at dksX0_owedBy_0 2 rfl rfl)
theorem dX0_owedBy_3 : decode cX0_owedBy 3 = .ok (.istore_n 3, 1) := dk_62 (dk_at dksX0_owedBy_0 3 rfl rfl)
theorem dX0_owedBy_4 : decode cX0_owedBy 4 = .ok (.iload_n 3, 1) := dk_29 (dk_at dksX0_owedBy_0 4 rfl rfl)
theorem dX0_owedBy_5 : decode cX0_owedBy 5 = .ok (.aload_n 0, 1) := dk_42 (dk_at dksX0_owedBy_0 5 rfl rfl)
theorem dX0_owedBy_6 : decode cX0_owedBy 6 = .ok (.getfield 104, 3) := dk_180 0 104 (dk_at dksX0_owedBy_0 6 rfl rfl)
theorem dX0_owedBy_9 : decode cX0_owedBy 9 = .ok (.if_icmp .ge 34, 3) := dk_162 0 34 (dk_at dksX0_owedBy_0 9 rfl rfl)
theorem dX0_owedBy_12 : decode cX0_owedBy 12 = .ok (.iload_n 2, 1) := dk_28 (dk_at dksX0_owedBy_0 12 rfl rfl)
theorem dX0_owedBy_13 : decode cX0_owedBy 13 = .ok (.iload_n 1, 1) := dk_27 (dk_at dksX0_owedBy_0 13 rfl rfl)
theorem dX0_owedBy_14 : decode cX0_owedBy 14 = .ok (.ifCond .lt 12, 3) := dk_155 0 12 (dk_at dksX0_owedBy_0 14 rfl rfl)
theorem dX0_owedBy_17 : decode cX0_owedBy 17 = .ok (.aload_n 0, 1) := dk_42 (dk_at dksX0_owedBy_0 17 rfl rfl)
theorem dX0_owedBy_18 : decode cX0_owedBy 18 = .ok (.iload_n 3, 1) := dk_29 (dk_at dksX0_owedBy_0 18 rfl rfl)
theorem dX0_owedBy_19 : decode cX0_owedBy 19 = .ok (.invokevirtual 129, 3) := dk_182 0 129 (dk_at dksX0_owedBy_0 19 rfl rfl)
theorem dX0_owedBy_22 : decode cX0_owedBy 22 = .ok (.iload_n 1, 1) := dk_27 (dk_at dksX0_owedBy_0 22 rfl rfl)
theorem dX0_owedBy_23 : decode cX0_owedBy 23 = .ok (.if_icmp .ne 11, 3) := dk_160 0 11 (dk_at dksX0_owedBy_1 0 rfl rfl)
theorem dX0_owedBy_26 : decode cX0_owedBy 26 = .ok (.aload_n 0, 1) := dk_42 (dk_at dksX0_owedBy_1 3 rfl rfl)
theorem dX0_owedBy_27 : decode cX0_owedBy 27 = .ok (.iload_n 3, 1) := dk_29 (dk_at dksX0_owedBy_1 4 rfl rfl)
theorem dX0_owedBy_28 : decode cX0_owedBy 28 = .ok (.invokevirtual 133, 3) := dk_182 0 133 (dk_at dksX0_owedBy_1 5 rfl rfl)
theorem dX0_owedBy_31 : decode cX0_owedBy 31 = .ok (.goto 4, 3) := dk_167 0 4 (dk_at dksX0_owedBy_1 8 rfl rfl)
theorem dX0_owedBy_34 : decode cX0_owedBy 34 = .ok (.iconst 0, 1) := dk_3 (dk_at dksX0_owedBy_1 11 rfl rfl)
theorem dX0_owedBy_35 : decode cX0_owedBy 35 = .ok (.iadd, 1) := dk_96 (dk_at dksX0_owedBy_1 12 rfl rfl)
theorem dX0_owedBy_36 : decode cX0_owedBy 36 = .ok (.istore_n 2, 1) := dk_61 (dk_at dksX0_owedBy_1 13 rfl rfl)
theorem dX0_owedBy_37 : decode cX0_owedBy 37 = .ok (.iinc 3 1, 3) := dk_132 3 1 (dk_at dksX0_owedBy_1 14 rfl rfl)
theorem dX0_owedBy_40 : decode cX0_owedBy 40 = .ok (.goto (-36), 3) := dk_167 255 220 (dk_at dksX0_owedBy_1 17 rfl rfl)
theorem dX0_owedBy_43 : decode cX0_owedBy 43 = .ok (.ldc 136, 2) := dk_18 136 (dk_at dksX0_owedBy_1 20 rfl rfl)
theorem dX0_owedBy_45 : decode cX0_owedBy 45 = .ok (.iload_n 2, 1) := dk_28 (dk_at dksX0_owedBy_1 22 rfl rfl)
theorem dX0_owedBy_46 : decode cX0_owedBy 46 = .ok (.invokestatic 137, 3) := dk_184 0 137 (dk_at dksX0_owedBy_2 0 rfl rfl)
theorem dX0_owedBy_49 : decode cX0_owedBy 49 = .ok (.ireturn, 1) := dk_172 (dk_at dksX0_owedBy_2 3 rfl rfl)
abbrev cX0_coat : ByteArray := prog_1_method_10_code
def yX0_coat : MethodName := ⟨RX0, "coat", "(III)I"⟩
def dkwX0_coat_1 : List UInt8 := [180, 0, 100, 27, 50, 180, 0, 147, 7, 28, 104, 29, 96, 46, 167, 0, 4, 2, 172]
abbrev dktX0_coat_1 : List UInt8 := dkwX0_coat_1 ++ []
def dkwX0_coat_0 : List UInt8 := [42, 27, 28, 182, 0, 143, 153, 0, 33, 29, 3, 6, 184, 0, 92, 153, 0, 24, 42, 180, 0, 25]
abbrev dktX0_coat_0 : List UInt8 := dkwX0_coat_0 ++ dktX0_coat_1
theorem dksX0_coat_0 : cX0_coat.data.toList.drop 0 = dktX0_coat_0 := by decide +kernel
theorem dksX0_coat_1 : cX0_coat.data.toList.drop 22 = dktX0_coat_1 := dk_seg dksX0_coat_0 22 rfl rfl
theorem dX0_coat_0 : decode cX0_coat 0 = .ok (.aload_n 0, 1) := dk_42 (dk_at dksX0_coat_0 0 rfl rfl)
theorem dX0_coat_1 : decode cX0_coat 1 = .ok (.iload_n 1, 1) := dk_27 (dk_at dksX0_coat_0 1 rfl rfl)
theorem dX0_coat_2 : decode cX0_coat 2 = .ok (.iload_n 2, 1) := dk_28 (dk_at dksX0_coat_0 2 rfl rfl)
theorem dX0_coat_3 : decode cX0_coat 3 = .ok (.invokevirtual 143, 3) := dk_182 0 143 (dk_at dksX0_coat_0 3 rfl rfl)
theorem dX0_coat_6 : decode cX0_coat 6 = .ok (.ifCond .eq 33, 3) := dk_153 0 33 (dk_at dksX0_coat_0 6 rfl rfl)
theorem dX0_coat_9 : decode cX0_coat 9 = .ok (.iload_n 3, 1) := dk_29 (dk_at dksX0_coat_0 9 rfl rfl)
theorem dX0_coat_10 : decode cX0_coat 10 = .ok (.iconst 0, 1) := dk_3 (dk_at dksX0_coat_0 10 rfl rfl)
theorem dX0_coat_11 : decode cX0_coat 11 = .ok (.iconst 3, 1) := dk_6 (dk_at dksX0_coat_0 11 rfl rfl)
theorem dX0_coat_12 : decode cX0_coat 12 = .ok (.invokestatic 92, 3) := dk_184 0 92 (dk_at dksX0_coat_0 12 rfl rfl)
theorem dX0_coat_15 : decode cX0_coat 15 = .ok (.ifCond .eq 24, 3) := dk_153 0 24 (dk_at dksX0_coat_0 15 rfl rfl)
theorem dX0_coat_18 : decode cX0_coat 18 = .ok (.aload_n 0, 1) := dk_42 (dk_at dksX0_coat_0 18 rfl rfl)
theorem dX0_coat_19 : decode cX0_coat 19 = .ok (.getfield 25, 3) := dk_180 0 25 (dk_at dksX0_coat_0 19 rfl rfl)
theorem dX0_coat_22 : decode cX0_coat 22 = .ok (.getfield 100, 3) := dk_180 0 100 (dk_at dksX0_coat_1 0 rfl rfl)
theorem dX0_coat_25 : decode cX0_coat 25 = .ok (.iload_n 1, 1) := dk_27 (dk_at dksX0_coat_1 3 rfl rfl)
theorem dX0_coat_26 : decode cX0_coat 26 = .ok (.aaload, 1) := dk_50 (dk_at dksX0_coat_1 4 rfl rfl)
theorem dX0_coat_27 : decode cX0_coat 27 = .ok (.getfield 147, 3) := dk_180 0 147 (dk_at dksX0_coat_1 5 rfl rfl)
theorem dX0_coat_30 : decode cX0_coat 30 = .ok (.iconst 4, 1) := dk_7 (dk_at dksX0_coat_1 8 rfl rfl)
theorem dX0_coat_31 : decode cX0_coat 31 = .ok (.iload_n 2, 1) := dk_28 (dk_at dksX0_coat_1 9 rfl rfl)
theorem dX0_coat_32 : decode cX0_coat 32 = .ok (.imul, 1) := dk_104 (dk_at dksX0_coat_1 10 rfl rfl)
theorem dX0_coat_33 : decode cX0_coat 33 = .ok (.iload_n 3, 1) := dk_29 (dk_at dksX0_coat_1 11 rfl rfl)
theorem dX0_coat_34 : decode cX0_coat 34 = .ok (.iadd, 1) := dk_96 (dk_at dksX0_coat_1 12 rfl rfl)
theorem dX0_coat_35 : decode cX0_coat 35 = .ok (.iaload, 1) := dk_46 (dk_at dksX0_coat_1 13 rfl rfl)
theorem dX0_coat_36 : decode cX0_coat 36 = .ok (.goto 4, 3) := dk_167 0 4 (dk_at dksX0_coat_1 14 rfl rfl)
theorem dX0_coat_39 : decode cX0_coat 39 = .ok (.iconst (-1), 1) := dk_2 (dk_at dksX0_coat_1 17 rfl rfl)
theorem dX0_coat_40 : decode cX0_coat 40 = .ok (.ireturn, 1) := dk_172 (dk_at dksX0_coat_1 18 rfl rfl)
abbrev cX0_isCoat : ByteArray := prog_1_method_5_code
def yX0_isCoat : MethodName := ⟨RX0, "isCoat", "(II)Z"⟩
def dkwX0_isCoat_1 : List UInt8 := [184, 0, 92, 153, 0, 7, 4, 167, 0, 4, 3, 172]
abbrev dktX0_isCoat_1 : List UInt8 := dkwX0_isCoat_1 ++ []
def dkwX0_isCoat_0 : List UInt8 := [42, 27, 182, 0, 96, 153, 0, 29, 28, 3, 42, 180, 0, 25, 180, 0, 100, 27, 50, 180, 0, 104, 4, 100]
abbrev dktX0_isCoat_0 : List UInt8 := dkwX0_isCoat_0 ++ dktX0_isCoat_1
theorem dksX0_isCoat_0 : cX0_isCoat.data.toList.drop 0 = dktX0_isCoat_0 := by decide +kernel
theorem dksX0_isCoat_1 : cX0_isCoat.data.toList.drop 24 = dktX0_isCoat_1 := dk_seg dksX0_isCoat_0 24 rfl rfl
theorem dX0_isCoat_0 : decode cX0_isCoat 0 = .ok (.aload_n 0, 1) := dk_42 (dk_at dksX0_isCoat_0 0 rfl rfl)
theorem dX0_isCoat_1 : decode cX0_isCoat 1 = .ok (.iload_n 1, 1) := dk_27 (dk_at dksX0_isCoat_0 1 rfl rfl)
theorem dX0_isCoat_2 : decode cX0_isCoat 2 = .ok (.invokevirtual 96, 3) := dk_182 0 96 (dk_at dksX0_isCoat_0 2 rfl rfl)
theorem dX0_isCoat_5 : decode cX0_isCoat 5 = .ok (.ifCond .eq 29, 3) := dk_153 0 29 (dk_at dksX0_isCoat_0 5 rfl rfl)
theorem dX0_isCoat_8 : decode cX0_isCoat 8 = .ok (.iload_n 2, 1) := dk_28 (dk_at dksX0_isCoat_0 8 rfl rfl)
theorem dX0_isCoat_9 : decode cX0_isCoat 9 = .ok (.iconst 0, 1) := dk_3 (dk_at dksX0_isCoat_0 9 rfl rfl)
theorem dX0_isCoat_10 : decode cX0_isCoat 10 = .ok (.aload_n 0, 1) := dk_42 (dk_at dksX0_isCoat_0 10 rfl rfl)
theorem dX0_isCoat_11 : decode cX0_isCoat 11 = .ok (.getfield 25, 3) := dk_180 0 25 (dk_at dksX0_isCoat_0 11 rfl rfl)
theorem dX0_isCoat_14 : decode cX0_isCoat 14 = .ok (.getfield 100, 3) := dk_180 0 100 (dk_at dksX0_isCoat_0 14 rfl rfl)
theorem dX0_isCoat_17 : decode cX0_isCoat 17 = .ok (.iload_n 1, 1) := dk_27 (dk_at dksX0_isCoat_0 17 rfl rfl)
theorem dX0_isCoat_18 : decode cX0_isCoat 18 = .ok (.aaload, 1) := dk_50 (dk_at dksX0_isCoat_0 18 rfl rfl)
theorem dX0_isCoat_19 : decode cX0_isCoat 19 = .ok (.getfield 104, 3) := dk_180 0 104 (dk_at dksX0_isCoat_0 19 rfl rfl)
theorem dX0_isCoat_22 : decode cX0_isCoat 22 = .ok (.iconst 1, 1) := dk_4 (dk_at dksX0_isCoat_0 22 rfl rfl)
theorem dX0_isCoat_23 : decode cX0_isCoat 23 = .ok (.isub, 1) := dk_100 (dk_at dksX0_isCoat_0 23 rfl rfl)
theorem dX0_isCoat_24 : decode cX0_isCoat 24 = .ok (.invokestatic 92, 3) := dk_184 0 92 (dk_at dksX0_isCoat_1 0 rfl rfl)
theorem dX0_isCoat_27 : decode cX0_isCoat 27 = .ok (.ifCond .eq 7, 3) := dk_153 0 7 (dk_at dksX0_isCoat_1 3 rfl rfl)
theorem dX0_isCoat_30 : decode cX0_isCoat 30 = .ok (.iconst 1, 1) := dk_4 (dk_at dksX0_isCoat_1 6 rfl rfl)
theorem dX0_isCoat_31 : decode cX0_isCoat 31 = .ok (.goto 4, 3) := dk_167 0 4 (dk_at dksX0_isCoat_1 7 rfl rfl)
theorem dX0_isCoat_34 : decode cX0_isCoat 34 = .ok (.iconst 0, 1) := dk_3 (dk_at dksX0_isCoat_1 10 rfl rfl)
theorem dX0_isCoat_35 : decode cX0_isCoat 35 = .ok (.ireturn, 1) := dk_172 (dk_at dksX0_isCoat_1 11 rfl rfl)
abbrev cX0_tax : ByteArray := prog_1_method_11_code
def yX0_tax : MethodName := ⟨RX0, "tax", "(III)I"⟩
def dkwX0_tax_2 : List UInt8 := [180, 0, 25, 180, 0, 100, 27, 50, 180, 0, 153, 28, 29, 79, 21, 4, 172]
abbrev dktX0_tax_2 : List UInt8 := dkwX0_tax_2 ++ []
def dkwX0_tax_1 : List UInt8 := [154, 0, 5, 2, 172, 42, 180, 0, 25, 180, 0, 100, 27, 50, 180, 0, 153, 28, 46, 54, 4, 42]
abbrev dktX0_tax_1 : List UInt8 := dkwX0_tax_1 ++ dktX0_tax_2
def dkwX0_tax_0 : List UInt8 := [42, 27, 182, 0, 96, 153, 0, 20, 28, 184, 0, 150, 153, 0, 13, 29, 3, 16, 9, 184, 0, 92]
abbrev dktX0_tax_0 : List UInt8 := dkwX0_tax_0 ++ dktX0_tax_1
theorem dksX0_tax_0 : cX0_tax.data.toList.drop 0 = dktX0_tax_0 := by decide +kernel
theorem dksX0_tax_1 : cX0_tax.data.toList.drop 22 = dktX0_tax_1 := dk_seg dksX0_tax_0 22 rfl rfl
theorem dksX0_tax_2 : cX0_tax.data.toList.drop 44 = dktX0_tax_2 := dk_seg dksX0_tax_1 22 rfl rfl
theorem dX0_tax_0 : decode cX0_tax 0 = .ok (.aload_n 0, 1) := dk_42 (dk_at dksX0_tax_0 0 rfl rfl)
theorem dX0_tax_1 : decode cX0_tax 1 = .ok (.iload_n 1, 1) := dk_27 (dk_at dksX0_tax_0 1 rfl rfl)
theorem dX0_tax_2 : decode cX0_tax 2 = .ok (.invokevirtual 96, 3) := dk_182 0 96 (dk_at dksX0_tax_0 2 rfl rfl)
theorem dX0_tax_5 : decode cX0_tax 5 = .ok (.ifCond .eq 20, 3) := dk_153 0 20 (dk_at dksX0_tax_0 5 rfl rfl)
theorem dX0_tax_8 : decode cX0_tax 8 = .ok (.iload_n 2, 1) := dk_28 (dk_at dksX0_tax_0 8 rfl rfl)
theorem dX0_tax_9 : decode cX0_tax 9 = .ok (.invokestatic 150, 3) := dk_184 0 150 (dk_at dksX0_tax_0 9 rfl rfl)
theorem dX0_tax_12 : decode cX0_tax 12 = .ok (.ifCond .eq 13, 3) := dk_153 0 13 (dk_at dksX0_tax_0 12 rfl rfl)
theorem dX0_tax_15 : decode cX0_tax 15 = .ok (.iload_n 3, 1) := dk_29 (dk_at dksX0_tax_0 15 rfl rfl)
theorem dX0_tax_16 : decode cX0_tax 16 = .ok (.iconst 0, 1) := dk_3 (dk_at dksX0_tax_0 16 rfl rfl)
theorem dX0_tax_17 : decode cX0_tax 17 = .ok (.bipush 9, 2) := dk_16 9 (dk_at dksX0_tax_0 17 rfl rfl)
theorem dX0_tax_19 : decode cX0_tax 19 = .ok (.invokestatic 92, 3) := dk_184 0 92 (dk_at dksX0_tax_0 19 rfl rfl)
theorem dX0_tax_22 : decode cX0_tax 22 = .ok (.ifCond .ne 5, 3) := dk_154 0 5 (dk_at dksX0_tax_1 0 rfl rfl)
theorem dX0_tax_25 : decode cX0_tax 25 = .ok (.iconst (-1), 1) := dk_2 (dk_at dksX0_tax_1 3 rfl rfl)
theorem dX0_tax_26 : decode cX0_tax 26 = .ok (.ireturn, 1) := dk_172 (dk_at dksX0_tax_1 4 rfl rfl)
theorem dX0_tax_27 : decode cX0_tax 27 = .ok (.aload_n 0, 1) := dk_42 (dk_at dksX0_tax_1 5 rfl rfl)
theorem dX0_tax_28 : decode cX0_tax 28 = .ok (.getfield 25, 3) := dk_180 0 25 (dk_at dksX0_tax_1 6 rfl rfl)
theorem dX0_tax_31 : decode cX0_tax 31 = .ok (.getfield 100, 3) := dk_180 0 100 (dk_at dksX0_tax_1 9 rfl rfl)
theorem dX0_tax_34 : decode cX0_tax 34 = .ok (.iload_n 1, 1) := dk_27 (dk_at dksX0_tax_1 12 rfl rfl)
theorem dX0_tax_35 : decode cX0_tax 35 = .ok (.aaload, 1) := dk_50 (dk_at dksX0_tax_1 13 rfl rfl)
theorem dX0_tax_36 : decode cX0_tax 36 = .ok (.getfield 153, 3) := dk_180 0 153 (dk_at dksX0_tax_1 14 rfl rfl)
theorem dX0_tax_39 : decode cX0_tax 39 = .ok (.iload_n 2, 1) := dk_28 (dk_at dksX0_tax_1 17 rfl rfl)
theorem dX0_tax_40 : decode cX0_tax 40 = .ok (.iaload, 1) := dk_46 (dk_at dksX0_tax_1 18 rfl rfl)
theorem dX0_tax_41 : decode cX0_tax 41 = .ok (.istore 4, 2) := dk_54 4 (dk_at dksX0_tax_1 19 rfl rfl)
theorem dX0_tax_43 : decode cX0_tax 43 = .ok (.aload_n 0, 1) := dk_42 (dk_at dksX0_tax_1 21 rfl rfl)
theorem dX0_tax_44 : decode cX0_tax 44 = .ok (.getfield 25, 3) := dk_180 0 25 (dk_at dksX0_tax_2 0 rfl rfl)
theorem dX0_tax_47 : decode cX0_tax 47 = .ok (.getfield 100, 3) := dk_180 0 100 (dk_at dksX0_tax_2 3 rfl rfl)
theorem dX0_tax_50 : decode cX0_tax 50 = .ok (.iload_n 1, 1) := dk_27 (dk_at dksX0_tax_2 6 rfl rfl)
theorem dX0_tax_51 : decode cX0_tax 51 = .ok (.aaload, 1) := dk_50 (dk_at dksX0_tax_2 7 rfl rfl)
theorem dX0_tax_52 : decode cX0_tax 52 = .ok (.getfield 153, 3) := dk_180 0 153 (dk_at dksX0_tax_2 8 rfl rfl)
theorem dX0_tax_55 : decode cX0_tax 55 = .ok (.iload_n 2, 1) := dk_28 (dk_at dksX0_tax_2 11 rfl rfl)
theorem dX0_tax_56 : decode cX0_tax 56 = .ok (.iload_n 3, 1) := dk_29 (dk_at dksX0_tax_2 12 rfl rfl)
theorem dX0_tax_57 : decode cX0_tax 57 = .ok (.iastore, 1) := dk_79 (dk_at dksX0_tax_2 13 rfl rfl)
theorem dX0_tax_58 : decode cX0_tax 58 = .ok (.iload 4, 2) := dk_21 4 (dk_at dksX0_tax_2 14 rfl rfl)
theorem dX0_tax_60 : decode cX0_tax 60 = .ok (.ireturn, 1) := dk_172 (dk_at dksX0_tax_2 16 rfl rfl)
abbrev cX0_isLender : ByteArray := prog_1_method_6_code
def yX0_isLender : MethodName := ⟨RX0, "isLender", "(I)Z"⟩
def dkwX0_isLender_0 : List UInt8 := [26, 3, 7, 184, 0, 92, 172]
abbrev dktX0_isLender_0 : List UInt8 := dkwX0_isLender_0 ++ []
theorem dksX0_isLender_0 : cX0_isLender.data.toList.drop 0 = dktX0_isLender_0 := by decide +kernel
theorem dX0_isLender_0 : decode cX0_isLender 0 = .ok (.iload_n 0, 1) := dk_26 (dk_at dksX0_isLender_0 0 rfl rfl)
theorem dX0_isLender_1 : decode cX0_isLender 1 = .ok (.iconst 0, 1) := dk_3 (dk_at dksX0_isLender_0 1 rfl rfl)
theorem dX0_isLender_2 : decode cX0_isLender 2 = .ok (.iconst 4, 1) := dk_7 (dk_at dksX0_isLender_0 2 rfl rfl)
theorem dX0_isLender_3 : decode cX0_isLender 3 = .ok (.invokestatic 92, 3) := dk_184 0 92 (dk_at dksX0_isLender_0 3 rfl rfl)
theorem dX0_isLender_6 : decode cX0_isLender 6 = .ok (.ireturn, 1) := dk_172 (dk_at dksX0_isLender_0 6 rfl rfl)
abbrev cX0_heat : ByteArray := prog_1_method_12_code
def yX0_heat : MethodName := ⟨RX0, "heat", "(II)I"⟩
def dkwX0_heat_1 : List UInt8 := [180, 0, 25, 180, 0, 156, 27, 46, 62, 42, 180, 0, 25, 180, 0, 156, 27, 28, 79, 29, 172]
abbrev dktX0_heat_1 : List UInt8 := dkwX0_heat_1 ++ []
def dkwX0_heat_0 : List UInt8 := [27, 3, 16, 11, 184, 0, 92, 153, 0, 13, 28, 3, 16, 40, 184, 0, 92, 154, 0, 5, 2, 172, 42]
abbrev dktX0_heat_0 : List UInt8 := dkwX0_heat_0 ++ dktX0_heat_1
theorem dksX0_heat_0 : cX0_heat.data.toList.drop 0 = dktX0_heat_0 := by decide +kernel
theorem dksX0_heat_1 : cX0_heat.data.toList.drop 23 = dktX0_heat_1 := dk_seg dksX0_heat_0 23 rfl rfl
theorem dX0_heat_0 : decode cX0_heat 0 = .ok (.iload_n 1, 1) := dk_27 (dk_at dksX0_heat_0 0 rfl rfl)
theorem dX0_heat_1 : decode cX0_heat 1 = .ok (.iconst 0, 1) := dk_3 (dk_at dksX0_heat_0 1 rfl rfl)
theorem dX0_heat_2 : decode cX0_heat 2 = .ok (.bipush 11, 2) := dk_16 11 (dk_at dksX0_heat_0 2 rfl rfl)
theorem dX0_heat_4 : decode cX0_heat 4 = .ok (.invokestatic 92, 3) := dk_184 0 92 (dk_at dksX0_heat_0 4 rfl rfl)
theorem dX0_heat_7 : decode cX0_heat 7 = .ok (.ifCond .eq 13, 3) := dk_153 0 13 (dk_at dksX0_heat_0 7 rfl rfl)
theorem dX0_heat_10 : decode cX0_heat 10 = .ok (.iload_n 2, 1) := dk_28 (dk_at dksX0_heat_0 10 rfl rfl)
theorem dX0_heat_11 : decode cX0_heat 11 = .ok (.iconst 0, 1) := dk_3 (dk_at dksX0_heat_0 11 rfl rfl)
theorem dX0_heat_12 : decode cX0_heat 12 = .ok (.bipush 40, 2) := dk_16 40 (dk_at dksX0_heat_0 12 rfl rfl)
theorem dX0_heat_14 : decode cX0_heat 14 = .ok (.invokestatic 92, 3) := dk_184 0 92 (dk_at dksX0_heat_0 14 rfl rfl)
theorem dX0_heat_17 : decode cX0_heat 17 = .ok (.ifCond .ne 5, 3) := dk_154 0 5 (dk_at dksX0_heat_0 17 rfl rfl)
theorem dX0_heat_20 : decode cX0_heat 20 = .ok (.iconst (-1), 1) := dk_2 (dk_at dksX0_heat_0 20 rfl rfl)
theorem dX0_heat_21 : decode cX0_heat 21 = .ok (.ireturn, 1) := dk_172 (dk_at dksX0_heat_0 21 rfl rfl)
theorem dX0_heat_22 : decode cX0_heat 22 = .ok (.aload_n 0, 1) := dk_42 (dk_at dksX0_heat_0 22 rfl rfl)
theorem dX0_heat_23 : decode cX0_heat 23 = .ok (.getfield 25, 3) := dk_180 0 25 (dk_at dksX0_heat_1 0 rfl rfl)
theorem dX0_heat_26 : decode cX0_heat 26 = .ok (.getfield 156, 3) := dk_180 0 156 (dk_at dksX0_heat_1 3 rfl rfl)
theorem dX0_heat_29 : decode cX0_heat 29 = .ok (.iload_n 1, 1) := dk_27 (dk_at dksX0_heat_1 6 rfl rfl)
theorem dX0_heat_30 : decode cX0_heat 30 = .ok (.iaload, 1) := dk_46 (dk_at dksX0_heat_1 7 rfl rfl)
theorem dX0_heat_31 : decode cX0_heat 31 = .ok (.istore_n 3, 1) := dk_62 (dk_at dksX0_heat_1 8 rfl rfl)
theorem dX0_heat_32 : decode cX0_heat 32 = .ok (.aload_n 0, 1) := dk_42 (dk_at dksX0_heat_1 9 rfl rfl)
theorem dX0_heat_33 : decode cX0_heat 33 = .ok (.getfield 25, 3) := dk_180 0 25 (dk_at dksX0_heat_1 10 rfl rfl)
theorem dX0_heat_36 : decode cX0_heat 36 = .ok (.getfield 156, 3) := dk_180 0 156 (dk_at dksX0_heat_1 13 rfl rfl)
theorem dX0_heat_39 : decode cX0_heat 39 = .ok (.iload_n 1, 1) := dk_27 (dk_at dksX0_heat_1 16 rfl rfl)
theorem dX0_heat_40 : decode cX0_heat 40 = .ok (.iload_n 2, 1) := dk_28 (dk_at dksX0_heat_1 17 rfl rfl)
theorem dX0_heat_41 : decode cX0_heat 41 = .ok (.iastore, 1) := dk_79 (dk_at dksX0_heat_1 18 rfl rfl)
theorem dX0_heat_42 : decode cX0_heat 42 = .ok (.iload_n 3, 1) := dk_29 (dk_at dksX0_heat_1 19 rfl rfl)
theorem dX0_heat_43 : decode cX0_heat 43 = .ok (.ireturn, 1) := dk_172 (dk_at dksX0_heat_1 20 rfl rfl)
abbrev cX0_rule : ByteArray := prog_1_method_13_code
def yX0_rule : MethodName := ⟨RX0, "rule", "(II)I"⟩
def dkwX0_rule_2 : List UInt8 := [79, 29, 172]
abbrev dktX0_rule_2 : List UInt8 := dkwX0_rule_2 ++ []
def dkwX0_rule_1 : List UInt8 := [154, 0, 5, 2, 172, 42, 180, 0, 25, 180, 0, 159, 27, 46, 62, 42, 180, 0, 25, 180, 0, 159, 27, 28]
abbrev dktX0_rule_1 : List UInt8 := dkwX0_rule_1 ++ dktX0_rule_2
def dkwX0_rule_0 : List UInt8 := [27, 3, 4, 184, 0, 92, 153, 0, 21, 28, 3, 27, 154, 0, 7, 5, 167, 0, 5, 16, 9, 184, 0, 92]
abbrev dktX0_rule_0 : List UInt8 := dkwX0_rule_0 ++ dktX0_rule_1
theorem dksX0_rule_0 : cX0_rule.data.toList.drop 0 = dktX0_rule_0 := by decide +kernel
theorem dksX0_rule_1 : cX0_rule.data.toList.drop 24 = dktX0_rule_1 := dk_seg dksX0_rule_0 24 rfl rfl
theorem dksX0_rule_2 : cX0_rule.data.toList.drop 48 = dktX0_rule_2 := dk_seg dksX0_rule_1 24 rfl rfl
theorem dX0_rule_0 : decode cX0_rule 0 = .ok (.iload_n 1, 1) := dk_27 (dk_at dksX0_rule_0 0 rfl rfl)
theorem dX0_rule_1 : decode cX0_rule 1 = .ok (.iconst 0, 1) := dk_3 (dk_at dksX0_rule_0 1 rfl rfl)
theorem dX0_rule_2 : decode cX0_rule 2 = .ok (.iconst 1, 1) := dk_4 (dk_at dksX0_rule_0 2 rfl rfl)
theorem dX0_rule_3 : decode cX0_rule 3 = .ok (.invokestatic 92, 3) := dk_184 0 92 (dk_at dksX0_rule_0 3 rfl rfl)
theorem dX0_rule_6 : decode cX0_rule 6 = .ok (.ifCond .eq 21, 3) := dk_153 0 21 (dk_at dksX0_rule_0 6 rfl rfl)
theorem dX0_rule_9 : decode cX0_rule 9 = .ok (.iload_n 2, 1) := dk_28 (dk_at dksX0_rule_0 9 rfl rfl)
theorem dX0_rule_10 : decode cX0_rule 10 = .ok (.iconst 0, 1) := dk_3 (dk_at dksX0_rule_0 10 rfl rfl)
theorem dX0_rule_11 : decode cX0_rule 11 = .ok (.iload_n 1, 1) := dk_27 (dk_at dksX0_rule_0 11 rfl rfl)
theorem dX0_rule_12 : decode cX0_rule 12 = .ok (.ifCond .ne 7, 3) := dk_154 0 7 (dk_at dksX0_rule_0 12 rfl rfl)
theorem dX0_rule_15 : decode cX0_rule 15 = .ok (.iconst 2, 1) := dk_5 (dk_at dksX0_rule_0 15 rfl rfl)
theorem dX0_rule_16 : decode cX0_rule 16 = .ok (.goto 5, 3) := dk_167 0 5 (dk_at dksX0_rule_0 16 rfl rfl)
theorem dX0_rule_19 : decode cX0_rule 19 = .ok (.bipush 9, 2) := dk_16 9 (dk_at dksX0_rule_0 19 rfl rfl)
theorem dX0_rule_21 : decode cX0_rule 21 = .ok (.invokestatic 92, 3) := dk_184 0 92 (dk_at dksX0_rule_0 21 rfl rfl)
theorem dX0_rule_24 : decode cX0_rule 24 = .ok (.ifCond .ne 5, 3) := dk_154 0 5 (dk_at dksX0_rule_1 0 rfl rfl)
theorem dX0_rule_27 : decode cX0_rule 27 = .ok (.iconst (-1), 1) := dk_2 (dk_at dksX0_rule_1 3 rfl rfl)
theorem dX0_rule_28 : decode cX0_rule 28 = .ok (.ireturn, 1) := dk_172 (dk_at dksX0_rule_1 4 rfl rfl)
theorem dX0_rule_29 : decode cX0_rule 29 = .ok (.aload_n 0, 1) := dk_42 (dk_at dksX0_rule_1 5 rfl rfl)
theorem dX0_rule_30 : decode cX0_rule 30 = .ok (.getfield 25, 3) := dk_180 0 25 (dk_at dksX0_rule_1 6 rfl rfl)
theorem dX0_rule_33 : decode cX0_rule 33 = .ok (.getfield 159, 3) := dk_180 0 159 (dk_at dksX0_rule_1 9 rfl rfl)
theorem dX0_rule_36 : decode cX0_rule 36 = .ok (.iload_n 1, 1) := dk_27 (dk_at dksX0_rule_1 12 rfl rfl)
theorem dX0_rule_37 : decode cX0_rule 37 = .ok (.iaload, 1) := dk_46 (dk_at dksX0_rule_1 13 rfl rfl)
theorem dX0_rule_38 : decode cX0_rule 38 = .ok (.istore_n 3, 1) := dk_62 (dk_at dksX0_rule_1 14 rfl rfl)
theorem dX0_rule_39 : decode cX0_rule 39 = .ok (.aload_n 0, 1) := dk_42 (dk_at dksX0_rule_1 15 rfl rfl)
theorem dX0_rule_40 : decode cX0_rule 40 = .ok (.getfield 25, 3) := dk_180 0 25 (dk_at dksX0_rule_1 16 rfl rfl)
theorem dX0_rule_43 : decode cX0_rule 43 = .ok (.getfield 159, 3) := dk_180 0 159 (dk_at dksX0_rule_1 19 rfl rfl)
theorem dX0_rule_46 : decode cX0_rule 46 = .ok (.iload_n 1, 1) := dk_27 (dk_at dksX0_rule_1 22 rfl rfl)
theorem dX0_rule_47 : decode cX0_rule 47 = .ok (.iload_n 2, 1) := dk_28 (dk_at dksX0_rule_1 23 rfl rfl)
theorem dX0_rule_48 : decode cX0_rule 48 = .ok (.iastore, 1) := dk_79 (dk_at dksX0_rule_2 0 rfl rfl)
theorem dX0_rule_49 : decode cX0_rule 49 = .ok (.iload_n 3, 1) := dk_29 (dk_at dksX0_rule_2 1 rfl rfl)
theorem dX0_rule_50 : decode cX0_rule 50 = .ok (.ireturn, 1) := dk_172 (dk_at dksX0_rule_2 2 rfl rfl)
abbrev cX0_count : ByteArray := prog_1_method_14_code
def yX0_count : MethodName := ⟨RX0, "count", "(I)I"⟩
def dkwX0_count_5 : List UInt8 := [180, 0, 165, 172, 42, 180, 0, 168, 172, 2, 172]
abbrev dktX0_count_5 : List UInt8 := dkwX0_count_5 ++ []
def dkwX0_count_4 : List UInt8 := [42, 180, 0, 25, 180, 0, 88, 172, 42, 180, 0, 25, 180, 0, 162, 172, 28, 172, 29, 172, 42, 180, 0, 25]
abbrev dktX0_count_4 : List UInt8 := dkwX0_count_4 ++ dktX0_count_5
def dkwX0_count_3 : List UInt8 := [170, 0, 0, 0, 0, 0, 72, 0, 0, 0, 0, 0, 0, 0, 5, 0, 0, 0, 39, 0, 0, 0, 47, 0, 0, 0, 55, 0, 0, 0, 57, 0, 0, 0, 59, 0, 0, 0, 67]
abbrev dktX0_count_3 : List UInt8 := dkwX0_count_3 ++ dktX0_count_4
def dkwX0_count_2 : List UInt8 := [180, 0, 126, 155, 0, 10, 4, 21, 4, 120, 167, 0, 4, 3, 128, 62, 132, 4, 1, 167, 255, 198, 27]
abbrev dktX0_count_2 : List UInt8 := dkwX0_count_2 ++ dktX0_count_3
def dkwX0_count_1 : List UInt8 := [180, 0, 100, 21, 4, 50, 180, 0, 104, 96, 61, 29, 42, 180, 0, 25, 180, 0, 100, 21, 4, 50]
abbrev dktX0_count_1 : List UInt8 := dkwX0_count_1 ++ dktX0_count_2
def dkwX0_count_0 : List UInt8 := [3, 61, 3, 62, 3, 54, 4, 21, 4, 42, 180, 0, 25, 180, 0, 88, 162, 0, 52, 28, 42, 180, 0, 25]
abbrev dktX0_count_0 : List UInt8 := dkwX0_count_0 ++ dktX0_count_1
theorem dksX0_count_0 : cX0_count.data.toList.drop 0 = dktX0_count_0 := by decide +kernel
theorem dksX0_count_1 : cX0_count.data.toList.drop 24 = dktX0_count_1 := dk_seg dksX0_count_0 24 rfl rfl
theorem dksX0_count_2 : cX0_count.data.toList.drop 46 = dktX0_count_2 := dk_seg dksX0_count_1 22 rfl rfl
theorem dksX0_count_3 : cX0_count.data.toList.drop 69 = dktX0_count_3 := dk_seg dksX0_count_2 23 rfl rfl
theorem dksX0_count_4 : cX0_count.data.toList.drop 108 = dktX0_count_4 := dk_seg dksX0_count_3 39 rfl rfl
theorem dksX0_count_5 : cX0_count.data.toList.drop 132 = dktX0_count_5 := dk_seg dksX0_count_4 24 rfl rfl
theorem dX0_count_0 : decode cX0_count 0 = .ok (.iconst 0, 1) := dk_3 (dk_at dksX0_count_0 0 rfl rfl)
theorem dX0_count_1 : decode cX0_count 1 = .ok (.istore_n 2, 1) := dk_61 (dk_at dksX0_count_0 1 rfl rfl)
theorem dX0_count_2 : decode cX0_count 2 = .ok (.iconst 0, 1) := dk_3 (dk_at dksX0_count_0 2 rfl rfl)
theorem dX0_count_3 : decode cX0_count 3 = .ok (.istore_n 3, 1) := dk_62 (dk_at dksX0_count_0 3 rfl rfl)
theorem dX0_count_4 : decode cX0_count 4 = .ok (.iconst 0, 1) := dk_3 (dk_at dksX0_count_0 4 rfl rfl)
theorem dX0_count_5 : decode cX0_count 5 = .ok (.istore 4, 2) := dk_54 4 (dk_at dksX0_count_0 5 rfl rfl)
theorem dX0_count_7 : decode cX0_count 7 = .ok (.iload 4, 2) := dk_21 4 (dk_at dksX0_count_0 7 rfl rfl)
theorem dX0_count_9 : decode cX0_count 9 = .ok (.aload_n 0, 1) := dk_42 (dk_at dksX0_count_0 9 rfl rfl)
theorem dX0_count_10 : decode cX0_count 10 = .ok (.getfield 25, 3) := dk_180 0 25 (dk_at dksX0_count_0 10 rfl rfl)
theorem dX0_count_13 : decode cX0_count 13 = .ok (.getfield 88, 3) := dk_180 0 88 (dk_at dksX0_count_0 13 rfl rfl)
theorem dX0_count_16 : decode cX0_count 16 = .ok (.if_icmp .ge 52, 3) := dk_162 0 52 (dk_at dksX0_count_0 16 rfl rfl)
theorem dX0_count_19 : decode cX0_count 19 = .ok (.iload_n 2, 1) := dk_28 (dk_at dksX0_count_0 19 rfl rfl)
theorem dX0_count_20 : decode cX0_count 20 = .ok (.aload_n 0, 1) := dk_42 (dk_at dksX0_count_0 20 rfl rfl)
theorem dX0_count_21 : decode cX0_count 21 = .ok (.getfield 25, 3) := dk_180 0 25 (dk_at dksX0_count_0 21 rfl rfl)
theorem dX0_count_24 : decode cX0_count 24 = .ok (.getfield 100, 3) := dk_180 0 100 (dk_at dksX0_count_1 0 rfl rfl)
theorem dX0_count_27 : decode cX0_count 27 = .ok (.iload 4, 2) := dk_21 4 (dk_at dksX0_count_1 3 rfl rfl)
theorem dX0_count_29 : decode cX0_count 29 = .ok (.aaload, 1) := dk_50 (dk_at dksX0_count_1 5 rfl rfl)
theorem dX0_count_30 : decode cX0_count 30 = .ok (.getfield 104, 3) := dk_180 0 104 (dk_at dksX0_count_1 6 rfl rfl)
theorem dX0_count_33 : decode cX0_count 33 = .ok (.iadd, 1) := dk_96 (dk_at dksX0_count_1 9 rfl rfl)
theorem dX0_count_34 : decode cX0_count 34 = .ok (.istore_n 2, 1) := dk_61 (dk_at dksX0_count_1 10 rfl rfl)
theorem dX0_count_35 : decode cX0_count 35 = .ok (.iload_n 3, 1) := dk_29 (dk_at dksX0_count_1 11 rfl rfl)
theorem dX0_count_36 : decode cX0_count 36 = .ok (.aload_n 0, 1) := dk_42 (dk_at dksX0_count_1 12 rfl rfl)
theorem dX0_count_37 : decode cX0_count 37 = .ok (.getfield 25, 3) := dk_180 0 25 (dk_at dksX0_count_1 13 rfl rfl)
theorem dX0_count_40 : decode cX0_count 40 = .ok (.getfield 100, 3) := dk_180 0 100 (dk_at dksX0_count_1 16 rfl rfl)
theorem dX0_count_43 : decode cX0_count 43 = .ok (.iload 4, 2) := dk_21 4 (dk_at dksX0_count_1 19 rfl rfl)
theorem dX0_count_45 : decode cX0_count 45 = .ok (.aaload, 1) := dk_50 (dk_at dksX0_count_1 21 rfl rfl)
theorem dX0_count_46 : decode cX0_count 46 = .ok (.getfield 126, 3) := dk_180 0 126 (dk_at dksX0_count_2 0 rfl rfl)
theorem dX0_count_49 : decode cX0_count 49 = .ok (.ifCond .lt 10, 3) := dk_155 0 10 (dk_at dksX0_count_2 3 rfl rfl)
theorem dX0_count_52 : decode cX0_count 52 = .ok (.iconst 1, 1) := dk_4 (dk_at dksX0_count_2 6 rfl rfl)
theorem dX0_count_53 : decode cX0_count 53 = .ok (.iload 4, 2) := dk_21 4 (dk_at dksX0_count_2 7 rfl rfl)
theorem dX0_count_55 : decode cX0_count 55 = .ok (.ishl, 1) := dk_120 (dk_at dksX0_count_2 9 rfl rfl)
theorem dX0_count_56 : decode cX0_count 56 = .ok (.goto 4, 3) := dk_167 0 4 (dk_at dksX0_count_2 10 rfl rfl)
theorem dX0_count_59 : decode cX0_count 59 = .ok (.iconst 0, 1) := dk_3 (dk_at dksX0_count_2 13 rfl rfl)
theorem dX0_count_60 : decode cX0_count 60 = .ok (.ior, 1) := dk_128 (dk_at dksX0_count_2 14 rfl rfl)
theorem dX0_count_61 : decode cX0_count 61 = .ok (.istore_n 3, 1) := dk_62 (dk_at dksX0_count_2 15 rfl rfl)
theorem dX0_count_62 : decode cX0_count 62 = .ok (.iinc 4 1, 3) := dk_132 4 1 (dk_at dksX0_count_2 16 rfl rfl)
theorem dX0_count_65 : decode cX0_count 65 = .ok (.goto (-58), 3) := dk_167 255 198 (dk_at dksX0_count_2 19 rfl rfl)
theorem dX0_count_68 : decode cX0_count 68 = .ok (.iload_n 1, 1) := dk_27 (dk_at dksX0_count_2 22 rfl rfl)
theorem dX0_count_69 : decode cX0_count 69 = .ok (.tableswitch 72 0 5 #[39, 47, 55, 57, 59, 67], 39) := by decide +kernel
theorem dX0_count_108 : decode cX0_count 108 = .ok (.aload_n 0, 1) := dk_42 (dk_at dksX0_count_4 0 rfl rfl)
theorem dX0_count_109 : decode cX0_count 109 = .ok (.getfield 25, 3) := dk_180 0 25 (dk_at dksX0_count_4 1 rfl rfl)
theorem dX0_count_112 : decode cX0_count 112 = .ok (.getfield 88, 3) := dk_180 0 88 (dk_at dksX0_count_4 4 rfl rfl)
theorem dX0_count_115 : decode cX0_count 115 = .ok (.ireturn, 1) := dk_172 (dk_at dksX0_count_4 7 rfl rfl)
theorem dX0_count_116 : decode cX0_count 116 = .ok (.aload_n 0, 1) := dk_42 (dk_at dksX0_count_4 8 rfl rfl)
theorem dX0_count_117 : decode cX0_count 117 = .ok (.getfield 25, 3) := dk_180 0 25 (dk_at dksX0_count_4 9 rfl rfl)
theorem dX0_count_120 : decode cX0_count 120 = .ok (.getfield 162, 3) := dk_180 0 162 (dk_at dksX0_count_4 12 rfl rfl)
theorem dX0_count_123 : decode cX0_count 123 = .ok (.ireturn, 1) := dk_172 (dk_at dksX0_count_4 15 rfl rfl)
theorem dX0_count_124 : decode cX0_count 124 = .ok (.iload_n 2, 1) := dk_28 (dk_at dksX0_count_4 16 rfl rfl)
theorem dX0_count_125 : decode cX0_count 125 = .ok (.ireturn, 1) := dk_172 (dk_at dksX0_count_4 17 rfl rfl)
theorem dX0_count_126 : decode cX0_count 126 = .ok (.iload_n 3, 1) := dk_29 (dk_at dksX0_count_4 18 rfl rfl)
theorem dX0_count_127 : decode cX0_count 127 = .ok (.ireturn, 1) := dk_172 (dk_at dksX0_count_4 19 rfl rfl)
theorem dX0_count_128 : decode cX0_count 128 = .ok (.aload_n 0, 1) := dk_42 (dk_at dksX0_count_4 20 rfl rfl)
theorem dX0_count_129 : decode cX0_count 129 = .ok (.getfield 25, 3) := dk_180 0 25 (dk_at dksX0_count_4 21 rfl rfl)
theorem dX0_count_132 : decode cX0_count 132 = .ok (.getfield 165, 3) := dk_180 0 165 (dk_at dksX0_count_5 0 rfl rfl)
theorem dX0_count_135 : decode cX0_count 135 = .ok (.ireturn, 1) := dk_172 (dk_at dksX0_count_5 3 rfl rfl)
theorem dX0_count_136 : decode cX0_count 136 = .ok (.aload_n 0, 1) := dk_42 (dk_at dksX0_count_5 4 rfl rfl)
theorem dX0_count_137 : decode cX0_count 137 = .ok (.getfield 168, 3) := dk_180 0 168 (dk_at dksX0_count_5 5 rfl rfl)
theorem dX0_count_140 : decode cX0_count 140 = .ok (.ireturn, 1) := dk_172 (dk_at dksX0_count_5 8 rfl rfl)
theorem dX0_count_141 : decode cX0_count 141 = .ok (.iconst (-1), 1) := dk_2 (dk_at dksX0_count_5 9 rfl rfl)
theorem dX0_count_142 : decode cX0_count 142 = .ok (.ireturn, 1) := dk_172 (dk_at dksX0_count_5 10 rfl rfl)
abbrev cX0_type : ByteArray := prog_1_method_15_code
def yX0_type : MethodName := ⟨RX0, "type", "(JI)I"⟩
def dkwX0_type_4 : List UInt8 := [84, 42, 89, 180, 0, 173, 4, 96, 181, 0, 173, 132, 4, 255, 167, 255, 220, 42, 180, 0, 173, 172]
abbrev dktX0_type_4 : List UInt8 := dkwX0_type_4 ++ []
def dkwX0_type_3 : List UInt8 := [54, 4, 21, 4, 155, 0, 37, 42, 180, 0, 49, 42, 180, 0, 173, 31, 16, 8, 21, 4, 104, 123, 136, 145]
abbrev dktX0_type_3 : List UInt8 := dkwX0_type_3 ++ dktX0_type_4
def dkwX0_type_2 : List UInt8 := [132, 4, 255, 167, 255, 224, 42, 180, 0, 173, 29, 96, 16, 80, 164, 0, 6, 16, 253, 172, 29, 4, 100]
abbrev dktX0_type_2 : List UInt8 := dkwX0_type_2 ++ dktX0_type_3
def dkwX0_type_1 : List UInt8 := [16, 8, 21, 4, 104, 123, 20, 0, 171, 127, 136, 16, 32, 16, 126, 184, 0, 92, 154, 0, 5, 2, 172]
abbrev dktX0_type_1 : List UInt8 := dkwX0_type_1 ++ dktX0_type_2
def dkwX0_type_0 : List UInt8 := [29, 4, 16, 8, 184, 0, 92, 154, 0, 5, 2, 172, 29, 4, 100, 54, 4, 21, 4, 155, 0, 33, 31]
abbrev dktX0_type_0 : List UInt8 := dkwX0_type_0 ++ dktX0_type_1
theorem dksX0_type_0 : cX0_type.data.toList.drop 0 = dktX0_type_0 := by decide +kernel
theorem dksX0_type_1 : cX0_type.data.toList.drop 23 = dktX0_type_1 := dk_seg dksX0_type_0 23 rfl rfl
theorem dksX0_type_2 : cX0_type.data.toList.drop 46 = dktX0_type_2 := dk_seg dksX0_type_1 23 rfl rfl
theorem dksX0_type_3 : cX0_type.data.toList.drop 69 = dktX0_type_3 := dk_seg dksX0_type_2 23 rfl rfl
theorem dksX0_type_4 : cX0_type.data.toList.drop 93 = dktX0_type_4 := dk_seg dksX0_type_3 24 rfl rfl
theorem dX0_type_0 : decode cX0_type 0 = .ok (.iload_n 3, 1) := dk_29 (dk_at dksX0_type_0 0 rfl rfl)
theorem dX0_type_1 : decode cX0_type 1 = .ok (.iconst 1, 1) := dk_4 (dk_at dksX0_type_0 1 rfl rfl)
theorem dX0_type_2 : decode cX0_type 2 = .ok (.bipush 8, 2) := dk_16 8 (dk_at dksX0_type_0 2 rfl rfl)
theorem dX0_type_4 : decode cX0_type 4 = .ok (.invokestatic 92, 3) := dk_184 0 92 (dk_at dksX0_type_0 4 rfl rfl)
theorem dX0_type_7 : decode cX0_type 7 = .ok (.ifCond .ne 5, 3) := dk_154 0 5 (dk_at dksX0_type_0 7 rfl rfl)
theorem dX0_type_10 : decode cX0_type 10 = .ok (.iconst (-1), 1) := dk_2 (dk_at dksX0_type_0 10 rfl rfl)
theorem dX0_type_11 : decode cX0_type 11 = .ok (.ireturn, 1) := dk_172 (dk_at dksX0_type_0 11 rfl rfl)
theorem dX0_type_12 : decode cX0_type 12 = .ok (.iload_n 3, 1) := dk_29 (dk_at dksX0_type_0 12 rfl rfl)
theorem dX0_type_13 : decode cX0_type 13 = .ok (.iconst 1, 1) := dk_4 (dk_at dksX0_type_0 13 rfl rfl)
theorem dX0_type_14 : decode cX0_type 14 = .ok (.isub, 1) := dk_100 (dk_at dksX0_type_0 14 rfl rfl)
theorem dX0_type_15 : decode cX0_type 15 = .ok (.istore 4, 2) := dk_54 4 (dk_at dksX0_type_0 15 rfl rfl)
theorem dX0_type_17 : decode cX0_type 17 = .ok (.iload 4, 2) := dk_21 4 (dk_at dksX0_type_0 17 rfl rfl)
theorem dX0_type_19 : decode cX0_type 19 = .ok (.ifCond .lt 33, 3) := dk_155 0 33 (dk_at dksX0_type_0 19 rfl rfl)
theorem dX0_type_22 : decode cX0_type 22 = .ok (.lload_n 1, 1) := dk_31 (dk_at dksX0_type_0 22 rfl rfl)
theorem dX0_type_23 : decode cX0_type 23 = .ok (.bipush 8, 2) := dk_16 8 (dk_at dksX0_type_1 0 rfl rfl)
theorem dX0_type_25 : decode cX0_type 25 = .ok (.iload 4, 2) := dk_21 4 (dk_at dksX0_type_1 2 rfl rfl)
theorem dX0_type_27 : decode cX0_type 27 = .ok (.imul, 1) := dk_104 (dk_at dksX0_type_1 4 rfl rfl)
theorem dX0_type_28 : decode cX0_type 28 = .ok (.lshr, 1) := dk_123 (dk_at dksX0_type_1 5 rfl rfl)
theorem dX0_type_29 : decode cX0_type 29 = .ok (.ldc2_w 171, 3) := dk_20 0 171 (dk_at dksX0_type_1 6 rfl rfl)
theorem dX0_type_32 : decode cX0_type 32 = .ok (.land, 1) := dk_127 (dk_at dksX0_type_1 9 rfl rfl)
theorem dX0_type_33 : decode cX0_type 33 = .ok (.l2i, 1) := dk_136 (dk_at dksX0_type_1 10 rfl rfl)
theorem dX0_type_34 : decode cX0_type 34 = .ok (.bipush 32, 2) := dk_16 32 (dk_at dksX0_type_1 11 rfl rfl)
theorem dX0_type_36 : decode cX0_type 36 = .ok (.bipush 126, 2) := dk_16 126 (dk_at dksX0_type_1 13 rfl rfl)
theorem dX0_type_38 : decode cX0_type 38 = .ok (.invokestatic 92, 3) := dk_184 0 92 (dk_at dksX0_type_1 15 rfl rfl)
theorem dX0_type_41 : decode cX0_type 41 = .ok (.ifCond .ne 5, 3) := dk_154 0 5 (dk_at dksX0_type_1 18 rfl rfl)
theorem dX0_type_44 : decode cX0_type 44 = .ok (.iconst (-1), 1) := dk_2 (dk_at dksX0_type_1 21 rfl rfl)
theorem dX0_type_45 : decode cX0_type 45 = .ok (.ireturn, 1) := dk_172 (dk_at dksX0_type_1 22 rfl rfl)
theorem dX0_type_46 : decode cX0_type 46 = .ok (.iinc 4 (-1), 3) := dk_132 4 255 (dk_at dksX0_type_2 0 rfl rfl)
theorem dX0_type_49 : decode cX0_type 49 = .ok (.goto (-32), 3) := dk_167 255 224 (dk_at dksX0_type_2 3 rfl rfl)
theorem dX0_type_52 : decode cX0_type 52 = .ok (.aload_n 0, 1) := dk_42 (dk_at dksX0_type_2 6 rfl rfl)
theorem dX0_type_53 : decode cX0_type 53 = .ok (.getfield 173, 3) := dk_180 0 173 (dk_at dksX0_type_2 7 rfl rfl)
theorem dX0_type_56 : decode cX0_type 56 = .ok (.iload_n 3, 1) := dk_29 (dk_at dksX0_type_2 10 rfl rfl)
theorem dX0_type_57 : decode cX0_type 57 = .ok (.iadd, 1) := dk_96 (dk_at dksX0_type_2 11 rfl rfl)
theorem dX0_type_58 : decode cX0_type 58 = .ok (.bipush 80, 2) := dk_16 80 (dk_at dksX0_type_2 12 rfl rfl)
theorem dX0_type_60 : decode cX0_type 60 = .ok (.if_icmp .le 6, 3) := dk_164 0 6 (dk_at dksX0_type_2 14 rfl rfl)
theorem dX0_type_63 : decode cX0_type 63 = .ok (.bipush (-3), 2) := dk_16 253 (dk_at dksX0_type_2 17 rfl rfl)
theorem dX0_type_65 : decode cX0_type 65 = .ok (.ireturn, 1) := dk_172 (dk_at dksX0_type_2 19 rfl rfl)
theorem dX0_type_66 : decode cX0_type 66 = .ok (.iload_n 3, 1) := dk_29 (dk_at dksX0_type_2 20 rfl rfl)
theorem dX0_type_67 : decode cX0_type 67 = .ok (.iconst 1, 1) := dk_4 (dk_at dksX0_type_2 21 rfl rfl)
theorem dX0_type_68 : decode cX0_type 68 = .ok (.isub, 1) := dk_100 (dk_at dksX0_type_2 22 rfl rfl)
theorem dX0_type_69 : decode cX0_type 69 = .ok (.istore 4, 2) := dk_54 4 (dk_at dksX0_type_3 0 rfl rfl)
theorem dX0_type_71 : decode cX0_type 71 = .ok (.iload 4, 2) := dk_21 4 (dk_at dksX0_type_3 2 rfl rfl)
theorem dX0_type_73 : decode cX0_type 73 = .ok (.ifCond .lt 37, 3) := dk_155 0 37 (dk_at dksX0_type_3 4 rfl rfl)
theorem dX0_type_76 : decode cX0_type 76 = .ok (.aload_n 0, 1) := dk_42 (dk_at dksX0_type_3 7 rfl rfl)
theorem dX0_type_77 : decode cX0_type 77 = .ok (.getfield 49, 3) := dk_180 0 49 (dk_at dksX0_type_3 8 rfl rfl)
theorem dX0_type_80 : decode cX0_type 80 = .ok (.aload_n 0, 1) := dk_42 (dk_at dksX0_type_3 11 rfl rfl)
theorem dX0_type_81 : decode cX0_type 81 = .ok (.getfield 173, 3) := dk_180 0 173 (dk_at dksX0_type_3 12 rfl rfl)
theorem dX0_type_84 : decode cX0_type 84 = .ok (.lload_n 1, 1) := dk_31 (dk_at dksX0_type_3 15 rfl rfl)
theorem dX0_type_85 : decode cX0_type 85 = .ok (.bipush 8, 2) := dk_16 8 (dk_at dksX0_type_3 16 rfl rfl)
theorem dX0_type_87 : decode cX0_type 87 = .ok (.iload 4, 2) := dk_21 4 (dk_at dksX0_type_3 18 rfl rfl)
theorem dX0_type_89 : decode cX0_type 89 = .ok (.imul, 1) := dk_104 (dk_at dksX0_type_3 20 rfl rfl)
theorem dX0_type_90 : decode cX0_type 90 = .ok (.lshr, 1) := dk_123 (dk_at dksX0_type_3 21 rfl rfl)
theorem dX0_type_91 : decode cX0_type 91 = .ok (.l2i, 1) := dk_136 (dk_at dksX0_type_3 22 rfl rfl)
theorem dX0_type_92 : decode cX0_type 92 = .ok (.i2b, 1) := dk_145 (dk_at dksX0_type_3 23 rfl rfl)
theorem dX0_type_93 : decode cX0_type 93 = .ok (.bastore, 1) := dk_84 (dk_at dksX0_type_4 0 rfl rfl)
theorem dX0_type_94 : decode cX0_type 94 = .ok (.aload_n 0, 1) := dk_42 (dk_at dksX0_type_4 1 rfl rfl)
theorem dX0_type_95 : decode cX0_type 95 = .ok (.dup, 1) := dk_89 (dk_at dksX0_type_4 2 rfl rfl)
theorem dX0_type_96 : decode cX0_type 96 = .ok (.getfield 173, 3) := dk_180 0 173 (dk_at dksX0_type_4 3 rfl rfl)
theorem dX0_type_99 : decode cX0_type 99 = .ok (.iconst 1, 1) := dk_4 (dk_at dksX0_type_4 6 rfl rfl)
theorem dX0_type_100 : decode cX0_type 100 = .ok (.iadd, 1) := dk_96 (dk_at dksX0_type_4 7 rfl rfl)
theorem dX0_type_101 : decode cX0_type 101 = .ok (.putfield 173, 3) := dk_181 0 173 (dk_at dksX0_type_4 8 rfl rfl)
theorem dX0_type_104 : decode cX0_type 104 = .ok (.iinc 4 (-1), 3) := dk_132 4 255 (dk_at dksX0_type_4 11 rfl rfl)
theorem dX0_type_107 : decode cX0_type 107 = .ok (.goto (-36), 3) := dk_167 255 220 (dk_at dksX0_type_4 14 rfl rfl)
theorem dX0_type_110 : decode cX0_type 110 = .ok (.aload_n 0, 1) := dk_42 (dk_at dksX0_type_4 17 rfl rfl)
theorem dX0_type_111 : decode cX0_type 111 = .ok (.getfield 173, 3) := dk_180 0 173 (dk_at dksX0_type_4 18 rfl rfl)
theorem dX0_type_114 : decode cX0_type 114 = .ok (.ireturn, 1) := dk_172 (dk_at dksX0_type_4 21 rfl rfl)
abbrev cX0_coats : ByteArray := prog_1_method_22_code
def yX0_coats : MethodName := ⟨RX0, "coats", "(I)I"⟩
def dkwX0_coats_3 : List UInt8 := [44, 42, 180, 0, 53, 180, 0, 104, 181, 0, 104, 44, 180, 0, 104, 172]
abbrev dktX0_coats_3 : List UInt8 := dkwX0_coats_3 ++ []
def dkwX0_coats_2 : List UInt8 := [180, 0, 53, 180, 0, 147, 3, 44, 180, 0, 147, 3, 7, 42, 180, 0, 53, 180, 0, 104, 104, 184, 0, 206]
abbrev dktX0_coats_2 : List UInt8 := dkwX0_coats_2 ++ dktX0_coats_3
def dkwX0_coats_1 : List UInt8 := [16, 236, 44, 180, 0, 179, 100, 172, 42, 3, 181, 0, 173, 42, 180, 0, 25, 180, 0, 100, 27, 50, 77, 42]
abbrev dktX0_coats_1 : List UInt8 := dkwX0_coats_1 ++ dktX0_coats_2
def dkwX0_coats_0 : List UInt8 := [42, 27, 182, 0, 96, 154, 0, 5, 2, 172, 42, 182, 0, 203, 167, 0, 17, 77, 42, 3, 181, 0, 173]
abbrev dktX0_coats_0 : List UInt8 := dkwX0_coats_0 ++ dktX0_coats_1
theorem dksX0_coats_0 : cX0_coats.data.toList.drop 0 = dktX0_coats_0 := by decide +kernel
theorem dksX0_coats_1 : cX0_coats.data.toList.drop 23 = dktX0_coats_1 := dk_seg dksX0_coats_0 23 rfl rfl
theorem dksX0_coats_2 : cX0_coats.data.toList.drop 47 = dktX0_coats_2 := dk_seg dksX0_coats_1 24 rfl rfl
theorem dksX0_coats_3 : cX0_coats.data.toList.drop 71 = dktX0_coats_3 := dk_seg dksX0_coats_2 24 rfl rfl
theorem dX0_coats_0 : decode cX0_coats 0 = .ok (.aload_n 0, 1) := dk_42 (dk_at dksX0_coats_0 0 rfl rfl)
theorem dX0_coats_1 : decode cX0_coats 1 = .ok (.iload_n 1, 1) := dk_27 (dk_at dksX0_coats_0 1 rfl rfl)
theorem dX0_coats_2 : decode cX0_coats 2 = .ok (.invokevirtual 96, 3) := dk_182 0 96 (dk_at dksX0_coats_0 2 rfl rfl)
theorem dX0_coats_5 : decode cX0_coats 5 = .ok (.ifCond .ne 5, 3) := dk_154 0 5 (dk_at dksX0_coats_0 5 rfl rfl)
theorem dX0_coats_8 : decode cX0_coats 8 = .ok (.iconst (-1), 1) := dk_2 (dk_at dksX0_coats_0 8 rfl rfl)
theorem dX0_coats_9 : decode cX0_coats 9 = .ok (.ireturn, 1) := dk_172 (dk_at dksX0_coats_0 9 rfl rfl)
theorem dX0_coats_10 : decode cX0_coats 10 = .ok (.aload_n 0, 1) := dk_42 (dk_at dksX0_coats_0 10 rfl rfl)
theorem dX0_coats_11 : decode cX0_coats 11 = .ok (.invokevirtual 203, 3) := dk_182 0 203 (dk_at dksX0_coats_0 11 rfl rfl)
theorem dX0_coats_14 : decode cX0_coats 14 = .ok (.goto 17, 3) := dk_167 0 17 (dk_at dksX0_coats_0 14 rfl rfl)
theorem dX0_coats_17 : decode cX0_coats 17 = .ok (.astore_n 2, 1) := dk_77 (dk_at dksX0_coats_0 17 rfl rfl)
theorem dX0_coats_18 : decode cX0_coats 18 = .ok (.aload_n 0, 1) := dk_42 (dk_at dksX0_coats_0 18 rfl rfl)
theorem dX0_coats_19 : decode cX0_coats 19 = .ok (.iconst 0, 1) := dk_3 (dk_at dksX0_coats_0 19 rfl rfl)
theorem dX0_coats_20 : decode cX0_coats 20 = .ok (.putfield 173, 3) := dk_181 0 173 (dk_at dksX0_coats_0 20 rfl rfl)
theorem dX0_coats_23 : decode cX0_coats 23 = .ok (.bipush (-20), 2) := dk_16 236 (dk_at dksX0_coats_1 0 rfl rfl)
theorem dX0_coats_25 : decode cX0_coats 25 = .ok (.aload_n 2, 1) := dk_44 (dk_at dksX0_coats_1 2 rfl rfl)
theorem dX0_coats_26 : decode cX0_coats 26 = .ok (.getfield 179, 3) := dk_180 0 179 (dk_at dksX0_coats_1 3 rfl rfl)
theorem dX0_coats_29 : decode cX0_coats 29 = .ok (.isub, 1) := dk_100 (dk_at dksX0_coats_1 6 rfl rfl)
theorem dX0_coats_30 : decode cX0_coats 30 = .ok (.ireturn, 1) := dk_172 (dk_at dksX0_coats_1 7 rfl rfl)
theorem dX0_coats_31 : decode cX0_coats 31 = .ok (.aload_n 0, 1) := dk_42 (dk_at dksX0_coats_1 8 rfl rfl)
theorem dX0_coats_32 : decode cX0_coats 32 = .ok (.iconst 0, 1) := dk_3 (dk_at dksX0_coats_1 9 rfl rfl)
theorem dX0_coats_33 : decode cX0_coats 33 = .ok (.putfield 173, 3) := dk_181 0 173 (dk_at dksX0_coats_1 10 rfl rfl)
theorem dX0_coats_36 : decode cX0_coats 36 = .ok (.aload_n 0, 1) := dk_42 (dk_at dksX0_coats_1 13 rfl rfl)
theorem dX0_coats_37 : decode cX0_coats 37 = .ok (.getfield 25, 3) := dk_180 0 25 (dk_at dksX0_coats_1 14 rfl rfl)
theorem dX0_coats_40 : decode cX0_coats 40 = .ok (.getfield 100, 3) := dk_180 0 100 (dk_at dksX0_coats_1 17 rfl rfl)
theorem dX0_coats_43 : decode cX0_coats 43 = .ok (.iload_n 1, 1) := dk_27 (dk_at dksX0_coats_1 20 rfl rfl)
theorem dX0_coats_44 : decode cX0_coats 44 = .ok (.aaload, 1) := dk_50 (dk_at dksX0_coats_1 21 rfl rfl)
theorem dX0_coats_45 : decode cX0_coats 45 = .ok (.astore_n 2, 1) := dk_77 (dk_at dksX0_coats_1 22 rfl rfl)
theorem dX0_coats_46 : decode cX0_coats 46 = .ok (.aload_n 0, 1) := dk_42 (dk_at dksX0_coats_1 23 rfl rfl)
theorem dX0_coats_47 : decode cX0_coats 47 = .ok (.getfield 53, 3) := dk_180 0 53 (dk_at dksX0_coats_2 0 rfl rfl)
theorem dX0_coats_50 : decode cX0_coats 50 = .ok (.getfield 147, 3) := dk_180 0 147 (dk_at dksX0_coats_2 3 rfl rfl)
theorem dX0_coats_53 : decode cX0_coats 53 = .ok (.iconst 0, 1) := dk_3 (dk_at dksX0_coats_2 6 rfl rfl)
theorem dX0_coats_54 : decode cX0_coats 54 = .ok (.aload_n 2, 1) := dk_44 (dk_at dksX0_coats_2 7 rfl rfl)
theorem dX0_coats_55 : decode cX0_coats 55 = .ok (.getfield 147, 3) := dk_180 0 147 (dk_at dksX0_coats_2 8 rfl rfl)
theorem dX0_coats_58 : decode cX0_coats 58 = .ok (.iconst 0, 1) := dk_3 (dk_at dksX0_coats_2 11 rfl rfl)
theorem dX0_coats_59 : decode cX0_coats 59 = .ok (.iconst 4, 1) := dk_7 (dk_at dksX0_coats_2 12 rfl rfl)
theorem dX0_coats_60 : decode cX0_coats 60 = .ok (.aload_n 0, 1) := dk_42 (dk_at dksX0_coats_2 13 rfl rfl)
theorem dX0_coats_61 : decode cX0_coats 61 = .ok (.getfield 53, 3) := dk_180 0 53 (dk_at dksX0_coats_2 14 rfl rfl)
theorem dX0_coats_64 : decode cX0_coats 64 = .ok (.getfield 104, 3) := dk_180 0 104 (dk_at dksX0_coats_2 17 rfl rfl)
theorem dX0_coats_67 : decode cX0_coats 67 = .ok (.imul, 1) := dk_104 (dk_at dksX0_coats_2 20 rfl rfl)
theorem dX0_coats_68 : decode cX0_coats 68 = .ok (.invokestatic 206, 3) := dk_184 0 206 (dk_at dksX0_coats_2 21 rfl rfl)
theorem dX0_coats_71 : decode cX0_coats 71 = .ok (.aload_n 2, 1) := dk_44 (dk_at dksX0_coats_3 0 rfl rfl)
theorem dX0_coats_72 : decode cX0_coats 72 = .ok (.aload_n 0, 1) := dk_42 (dk_at dksX0_coats_3 1 rfl rfl)
theorem dX0_coats_73 : decode cX0_coats 73 = .ok (.getfield 53, 3) := dk_180 0 53 (dk_at dksX0_coats_3 2 rfl rfl)
theorem dX0_coats_76 : decode cX0_coats 76 = .ok (.getfield 104, 3) := dk_180 0 104 (dk_at dksX0_coats_3 5 rfl rfl)
theorem dX0_coats_79 : decode cX0_coats 79 = .ok (.putfield 104, 3) := dk_181 0 104 (dk_at dksX0_coats_3 8 rfl rfl)
theorem dX0_coats_82 : decode cX0_coats 82 = .ok (.aload_n 2, 1) := dk_44 (dk_at dksX0_coats_3 11 rfl rfl)
theorem dX0_coats_83 : decode cX0_coats 83 = .ok (.getfield 104, 3) := dk_180 0 104 (dk_at dksX0_coats_3 12 rfl rfl)
theorem dX0_coats_86 : decode cX0_coats 86 = .ok (.ireturn, 1) := dk_172 (dk_at dksX0_coats_3 15 rfl rfl)
abbrev cX0_readCoats : ByteArray := prog_1_method_21_code
def yX0_readCoats : MethodName := ⟨RX0, "readCoats", "()V"⟩
def dkwX0_readCoats_5 : List UInt8 := [4, 167, 0, 4, 3, 60, 167, 255, 147, 42, 182, 0, 182, 155, 0, 8, 42, 182, 0, 186, 191, 177]
abbrev dktX0_readCoats_5 : List UInt8 := dkwX0_readCoats_5 ++ []
def dkwX0_readCoats_4 : List UInt8 := [182, 0, 199, 42, 180, 0, 53, 180, 0, 104, 16, 6, 162, 0, 16, 42, 16, 59, 182, 0, 196, 153, 0, 7]
abbrev dktX0_readCoats_4 : List UInt8 := dkwX0_readCoats_4 ++ dktX0_readCoats_5
def dkwX0_readCoats_3 : List UInt8 := [16, 57, 182, 0, 190, 96, 167, 0, 4, 4, 54, 5, 42, 180, 0, 53, 28, 29, 21, 4, 21, 5]
abbrev dktX0_readCoats_3 : List UInt8 := dkwX0_readCoats_3 ++ dktX0_readCoats_4
def dkwX0_readCoats_2 : List UInt8 := [16, 20, 182, 0, 193, 167, 0, 4, 3, 54, 4, 42, 16, 116, 182, 0, 196, 153, 0, 16, 4, 42, 16, 49]
abbrev dktX0_readCoats_2 : List UInt8 := dkwX0_readCoats_2 ++ dktX0_readCoats_3
def dkwX0_readCoats_1 : List UInt8 := [182, 0, 190, 61, 42, 4, 17, 39, 15, 182, 0, 193, 62, 42, 16, 114, 182, 0, 196, 153, 0, 13, 42, 3]
abbrev dktX0_readCoats_1 : List UInt8 := dkwX0_readCoats_1 ++ dktX0_readCoats_2
def dkwX0_readCoats_0 : List UInt8 := [42, 3, 181, 0, 176, 42, 180, 0, 53, 3, 181, 0, 104, 4, 60, 27, 153, 0, 111, 42, 16, 97, 16, 101]
abbrev dktX0_readCoats_0 : List UInt8 := dkwX0_readCoats_0 ++ dktX0_readCoats_1
theorem dksX0_readCoats_0 : cX0_readCoats.data.toList.drop 0 = dktX0_readCoats_0 := by decide +kernel
theorem dksX0_readCoats_1 : cX0_readCoats.data.toList.drop 24 = dktX0_readCoats_1 := dk_seg dksX0_readCoats_0 24 rfl rfl
theorem dksX0_readCoats_2 : cX0_readCoats.data.toList.drop 48 = dktX0_readCoats_2 := dk_seg dksX0_readCoats_1 24 rfl rfl
theorem dksX0_readCoats_3 : cX0_readCoats.data.toList.drop 72 = dktX0_readCoats_3 := dk_seg dksX0_readCoats_2 24 rfl rfl
theorem dksX0_readCoats_4 : cX0_readCoats.data.toList.drop 94 = dktX0_readCoats_4 := dk_seg dksX0_readCoats_3 22 rfl rfl
theorem dksX0_readCoats_5 : cX0_readCoats.data.toList.drop 118 = dktX0_readCoats_5 := dk_seg dksX0_readCoats_4 24 rfl rfl
theorem dX0_readCoats_0 : decode cX0_readCoats 0 = .ok (.aload_n 0, 1) := dk_42 (dk_at dksX0_readCoats_0 0 rfl rfl)
theorem dX0_readCoats_1 : decode cX0_readCoats 1 = .ok (.iconst 0, 1) := dk_3 (dk_at dksX0_readCoats_0 1 rfl rfl)
theorem dX0_readCoats_2 : decode cX0_readCoats 2 = .ok (.putfield 176, 3) := dk_181 0 176 (dk_at dksX0_readCoats_0 2 rfl rfl)
theorem dX0_readCoats_5 : decode cX0_readCoats 5 = .ok (.aload_n 0, 1) := dk_42 (dk_at dksX0_readCoats_0 5 rfl rfl)
theorem dX0_readCoats_6 : decode cX0_readCoats 6 = .ok (.getfield 53, 3) := dk_180 0 53 (dk_at dksX0_readCoats_0 6 rfl rfl)
theorem dX0_readCoats_9 : decode cX0_readCoats 9 = .ok (.iconst 0, 1) := dk_3 (dk_at dksX0_readCoats_0 9 rfl rfl)
theorem dX0_readCoats_10 : decode cX0_readCoats 10 = .ok (.putfield 104, 3) := dk_181 0 104 (dk_at dksX0_readCoats_0 10 rfl rfl)
theorem dX0_readCoats_13 : decode cX0_readCoats 13 = .ok (.iconst 1, 1) := dk_4 (dk_at dksX0_readCoats_0 13 rfl rfl)
theorem dX0_readCoats_14 : decode cX0_readCoats 14 = .ok (.istore_n 1, 1) := dk_60 (dk_at dksX0_readCoats_0 14 rfl rfl)
theorem dX0_readCoats_15 : decode cX0_readCoats 15 = .ok (.iload_n 1, 1) := dk_27 (dk_at dksX0_readCoats_0 15 rfl rfl)
theorem dX0_readCoats_16 : decode cX0_readCoats 16 = .ok (.ifCond .eq 111, 3) := dk_153 0 111 (dk_at dksX0_readCoats_0 16 rfl rfl)
theorem dX0_readCoats_19 : decode cX0_readCoats 19 = .ok (.aload_n 0, 1) := dk_42 (dk_at dksX0_readCoats_0 19 rfl rfl)
theorem dX0_readCoats_20 : decode cX0_readCoats 20 = .ok (.bipush 97, 2) := dk_16 97 (dk_at dksX0_readCoats_0 20 rfl rfl)
theorem dX0_readCoats_22 : decode cX0_readCoats 22 = .ok (.bipush 101, 2) := dk_16 101 (dk_at dksX0_readCoats_0 22 rfl rfl)
theorem dX0_readCoats_24 : decode cX0_readCoats 24 = .ok (.invokevirtual 190, 3) := dk_182 0 190 (dk_at dksX0_readCoats_1 0 rfl rfl)
theorem dX0_readCoats_27 : decode cX0_readCoats 27 = .ok (.istore_n 2, 1) := dk_61 (dk_at dksX0_readCoats_1 3 rfl rfl)
theorem dX0_readCoats_28 : decode cX0_readCoats 28 = .ok (.aload_n 0, 1) := dk_42 (dk_at dksX0_readCoats_1 4 rfl rfl)
theorem dX0_readCoats_29 : decode cX0_readCoats 29 = .ok (.iconst 1, 1) := dk_4 (dk_at dksX0_readCoats_1 5 rfl rfl)
theorem dX0_readCoats_30 : decode cX0_readCoats 30 = .ok (.sipush 9999, 3) := dk_17 39 15 (dk_at dksX0_readCoats_1 6 rfl rfl)
theorem dX0_readCoats_33 : decode cX0_readCoats 33 = .ok (.invokevirtual 193, 3) := dk_182 0 193 (dk_at dksX0_readCoats_1 9 rfl rfl)
theorem dX0_readCoats_36 : decode cX0_readCoats 36 = .ok (.istore_n 3, 1) := dk_62 (dk_at dksX0_readCoats_1 12 rfl rfl)
theorem dX0_readCoats_37 : decode cX0_readCoats 37 = .ok (.aload_n 0, 1) := dk_42 (dk_at dksX0_readCoats_1 13 rfl rfl)
theorem dX0_readCoats_38 : decode cX0_readCoats 38 = .ok (.bipush 114, 2) := dk_16 114 (dk_at dksX0_readCoats_1 14 rfl rfl)
theorem dX0_readCoats_40 : decode cX0_readCoats 40 = .ok (.invokevirtual 196, 3) := dk_182 0 196 (dk_at dksX0_readCoats_1 16 rfl rfl)
theorem dX0_readCoats_43 : decode cX0_readCoats 43 = .ok (.ifCond .eq 13, 3) := dk_153 0 13 (dk_at dksX0_readCoats_1 19 rfl rfl)
theorem dX0_readCoats_46 : decode cX0_readCoats 46 = .ok (.aload_n 0, 1) := dk_42 (dk_at dksX0_readCoats_1 22 rfl rfl)
theorem dX0_readCoats_47 : decode cX0_readCoats 47 = .ok (.iconst 0, 1) := dk_3 (dk_at dksX0_readCoats_1 23 rfl rfl)
theorem dX0_readCoats_48 : decode cX0_readCoats 48 = .ok (.bipush 20, 2) := dk_16 20 (dk_at dksX0_readCoats_2 0 rfl rfl)
theorem dX0_readCoats_50 : decode cX0_readCoats 50 = .ok (.invokevirtual 193, 3) := dk_182 0 193 (dk_at dksX0_readCoats_2 2 rfl rfl)
theorem dX0_readCoats_53 : decode cX0_readCoats 53 = .ok (.goto 4, 3) := dk_167 0 4 (dk_at dksX0_readCoats_2 5 rfl rfl)
theorem dX0_readCoats_56 : decode cX0_readCoats 56 = .ok (.iconst 0, 1) := dk_3 (dk_at dksX0_readCoats_2 8 rfl rfl)
theorem dX0_readCoats_57 : decode cX0_readCoats 57 = .ok (.istore 4, 2) := dk_54 4 (dk_at dksX0_readCoats_2 9 rfl rfl)
theorem dX0_readCoats_59 : decode cX0_readCoats 59 = .ok (.aload_n 0, 1) := dk_42 (dk_at dksX0_readCoats_2 11 rfl rfl)
theorem dX0_readCoats_60 : decode cX0_readCoats 60 = .ok (.bipush 116, 2) := dk_16 116 (dk_at dksX0_readCoats_2 12 rfl rfl)
theorem dX0_readCoats_62 : decode cX0_readCoats 62 = .ok (.invokevirtual 196, 3) := dk_182 0 196 (dk_at dksX0_readCoats_2 14 rfl rfl)
theorem dX0_readCoats_65 : decode cX0_readCoats 65 = .ok (.ifCond .eq 16, 3) := dk_153 0 16 (dk_at dksX0_readCoats_2 17 rfl rfl)
theorem dX0_readCoats_68 : decode cX0_readCoats 68 = .ok (.iconst 1, 1) := dk_4 (dk_at dksX0_readCoats_2 20 rfl rfl)
theorem dX0_readCoats_69 : decode cX0_readCoats 69 = .ok (.aload_n 0, 1) := dk_42 (dk_at dksX0_readCoats_2 21 rfl rfl)
theorem dX0_readCoats_70 : decode cX0_readCoats 70 = .ok (.bipush 49, 2) := dk_16 49 (dk_at dksX0_readCoats_2 22 rfl rfl)
theorem dX0_readCoats_72 : decode cX0_readCoats 72 = .ok (.bipush 57, 2) := dk_16 57 (dk_at dksX0_readCoats_3 0 rfl rfl)
theorem dX0_readCoats_74 : decode cX0_readCoats 74 = .ok (.invokevirtual 190, 3) := dk_182 0 190 (dk_at dksX0_readCoats_3 2 rfl rfl)
theorem dX0_readCoats_77 : decode cX0_readCoats 77 = .ok (.iadd, 1) := dk_96 (dk_at dksX0_readCoats_3 5 rfl rfl)
theorem dX0_readCoats_78 : decode cX0_readCoats 78 = .ok (.goto 4, 3) := dk_167 0 4 (dk_at dksX0_readCoats_3 6 rfl rfl)
theorem dX0_readCoats_81 : decode cX0_readCoats 81 = .ok (.iconst 1, 1) := dk_4 (dk_at dksX0_readCoats_3 9 rfl rfl)
theorem dX0_readCoats_82 : decode cX0_readCoats 82 = .ok (.istore 5, 2) := dk_54 5 (dk_at dksX0_readCoats_3 10 rfl rfl)
theorem dX0_readCoats_84 : decode cX0_readCoats 84 = .ok (.aload_n 0, 1) := dk_42 (dk_at dksX0_readCoats_3 12 rfl rfl)
theorem dX0_readCoats_85 : decode cX0_readCoats 85 = .ok (.getfield 53, 3) := dk_180 0 53 (dk_at dksX0_readCoats_3 13 rfl rfl)
theorem dX0_readCoats_88 : decode cX0_readCoats 88 = .ok (.iload_n 2, 1) := dk_28 (dk_at dksX0_readCoats_3 16 rfl rfl)
theorem dX0_readCoats_89 : decode cX0_readCoats 89 = .ok (.iload_n 3, 1) := dk_29 (dk_at dksX0_readCoats_3 17 rfl rfl)
theorem dX0_readCoats_90 : decode cX0_readCoats 90 = .ok (.iload 4, 2) := dk_21 4 (dk_at dksX0_readCoats_3 18 rfl rfl)
theorem dX0_readCoats_92 : decode cX0_readCoats 92 = .ok (.iload 5, 2) := dk_21 5 (dk_at dksX0_readCoats_3 20 rfl rfl)
theorem dX0_readCoats_94 : decode cX0_readCoats 94 = .ok (.invokevirtual 199, 3) := dk_182 0 199 (dk_at dksX0_readCoats_4 0 rfl rfl)
theorem dX0_readCoats_97 : decode cX0_readCoats 97 = .ok (.aload_n 0, 1) := dk_42 (dk_at dksX0_readCoats_4 3 rfl rfl)
theorem dX0_readCoats_98 : decode cX0_readCoats 98 = .ok (.getfield 53, 3) := dk_180 0 53 (dk_at dksX0_readCoats_4 4 rfl rfl)
theorem dX0_readCoats_101 : decode cX0_readCoats 101 = .ok (.getfield 104, 3) := dk_180 0 104 (dk_at dksX0_readCoats_4 7 rfl rfl)
theorem dX0_readCoats_104 : decode cX0_readCoats 104 = .ok (.bipush 6, 2) := dk_16 6 (dk_at dksX0_readCoats_4 10 rfl rfl)
theorem dX0_readCoats_106 : decode cX0_readCoats 106 = .ok (.if_icmp .ge 16, 3) := dk_162 0 16 (dk_at dksX0_readCoats_4 12 rfl rfl)
theorem dX0_readCoats_109 : decode cX0_readCoats 109 = .ok (.aload_n 0, 1) := dk_42 (dk_at dksX0_readCoats_4 15 rfl rfl)
theorem dX0_readCoats_110 : decode cX0_readCoats 110 = .ok (.bipush 59, 2) := dk_16 59 (dk_at dksX0_readCoats_4 16 rfl rfl)
theorem dX0_readCoats_112 : decode cX0_readCoats 112 = .ok (.invokevirtual 196, 3) := dk_182 0 196 (dk_at dksX0_readCoats_4 18 rfl rfl)
theorem dX0_readCoats_115 : decode cX0_readCoats 115 = .ok (.ifCond .eq 7, 3) := dk_153 0 7 (dk_at dksX0_readCoats_4 21 rfl rfl)
theorem dX0_readCoats_118 : decode cX0_readCoats 118 = .ok (.iconst 1, 1) := dk_4 (dk_at dksX0_readCoats_5 0 rfl rfl)
theorem dX0_readCoats_119 : decode cX0_readCoats 119 = .ok (.goto 4, 3) := dk_167 0 4 (dk_at dksX0_readCoats_5 1 rfl rfl)
theorem dX0_readCoats_122 : decode cX0_readCoats 122 = .ok (.iconst 0, 1) := dk_3 (dk_at dksX0_readCoats_5 4 rfl rfl)
theorem dX0_readCoats_123 : decode cX0_readCoats 123 = .ok (.istore_n 1, 1) := dk_60 (dk_at dksX0_readCoats_5 5 rfl rfl)
theorem dX0_readCoats_124 : decode cX0_readCoats 124 = .ok (.goto (-109), 3) := dk_167 255 147 (dk_at dksX0_readCoats_5 6 rfl rfl)
theorem dX0_readCoats_127 : decode cX0_readCoats 127 = .ok (.aload_n 0, 1) := dk_42 (dk_at dksX0_readCoats_5 9 rfl rfl)
theorem dX0_readCoats_128 : decode cX0_readCoats 128 = .ok (.invokevirtual 182, 3) := dk_182 0 182 (dk_at dksX0_readCoats_5 10 rfl rfl)
theorem dX0_readCoats_131 : decode cX0_readCoats 131 = .ok (.ifCond .lt 8, 3) := dk_155 0 8 (dk_at dksX0_readCoats_5 13 rfl rfl)
theorem dX0_readCoats_134 : decode cX0_readCoats 134 = .ok (.aload_n 0, 1) := dk_42 (dk_at dksX0_readCoats_5 16 rfl rfl)
theorem dX0_readCoats_135 : decode cX0_readCoats 135 = .ok (.invokevirtual 186, 3) := dk_182 0 186 (dk_at dksX0_readCoats_5 17 rfl rfl)
theorem dX0_readCoats_138 : decode cX0_readCoats 138 = .ok (.athrow, 1) := dk_191 (dk_at dksX0_readCoats_5 20 rfl rfl)
theorem dX0_readCoats_139 : decode cX0_readCoats 139 = .ok (.return_, 1) := dk_177 (dk_at dksX0_readCoats_5 21 rfl rfl)
abbrev cX0_readOne : ByteArray := prog_1_method_20_code
def yX0_readOne : MethodName := ⟨RX0, "readOne", "(II)I"⟩
def dkwX0_readOne_1 : List UInt8 := [4, 96, 181, 0, 176, 29, 27, 100, 172]
abbrev dktX0_readOne_1 : List UInt8 := dkwX0_readOne_1 ++ []
def dkwX0_readOne_0 : List UInt8 := [42, 182, 0, 182, 62, 29, 27, 28, 184, 0, 92, 154, 0, 8, 42, 182, 0, 186, 191, 42, 89, 180, 0, 176]
abbrev dktX0_readOne_0 : List UInt8 := dkwX0_readOne_0 ++ dktX0_readOne_1
theorem dksX0_readOne_0 : cX0_readOne.data.toList.drop 0 = dktX0_readOne_0 := by decide +kernel
theorem dksX0_readOne_1 : cX0_readOne.data.toList.drop 24 = dktX0_readOne_1 := dk_seg dksX0_readOne_0 24 rfl rfl
theorem dX0_readOne_0 : decode cX0_readOne 0 = .ok (.aload_n 0, 1) := dk_42 (dk_at dksX0_readOne_0 0 rfl rfl)
theorem dX0_readOne_1 : decode cX0_readOne 1 = .ok (.invokevirtual 182, 3) := dk_182 0 182 (dk_at dksX0_readOne_0 1 rfl rfl)
theorem dX0_readOne_4 : decode cX0_readOne 4 = .ok (.istore_n 3, 1) := dk_62 (dk_at dksX0_readOne_0 4 rfl rfl)
theorem dX0_readOne_5 : decode cX0_readOne 5 = .ok (.iload_n 3, 1) := dk_29 (dk_at dksX0_readOne_0 5 rfl rfl)
theorem dX0_readOne_6 : decode cX0_readOne 6 = .ok (.iload_n 1, 1) := dk_27 (dk_at dksX0_readOne_0 6 rfl rfl)
theorem dX0_readOne_7 : decode cX0_readOne 7 = .ok (.iload_n 2, 1) := dk_28 (dk_at dksX0_readOne_0 7 rfl rfl)
theorem dX0_readOne_8 : decode cX0_readOne 8 = .ok (.invokestatic 92, 3) := dk_184 0 92 (dk_at dksX0_readOne_0 8 rfl rfl)
theorem dX0_readOne_11 : decode cX0_readOne 11 = .ok (.ifCond .ne 8, 3) := dk_154 0 8 (dk_at dksX0_readOne_0 11 rfl rfl)
theorem dX0_readOne_14 : decode cX0_readOne 14 = .ok (.aload_n 0, 1) := dk_42 (dk_at dksX0_readOne_0 14 rfl rfl)
theorem dX0_readOne_15 : decode cX0_readOne 15 = .ok (.invokevirtual 186, 3) := dk_182 0 186 (dk_at dksX0_readOne_0 15 rfl rfl)
theorem dX0_readOne_18 : decode cX0_readOne 18 = .ok (.athrow, 1) := dk_191 (dk_at dksX0_readOne_0 18 rfl rfl)
theorem dX0_readOne_19 : decode cX0_readOne 19 = .ok (.aload_n 0, 1) := dk_42 (dk_at dksX0_readOne_0 19 rfl rfl)
theorem dX0_readOne_20 : decode cX0_readOne 20 = .ok (.dup, 1) := dk_89 (dk_at dksX0_readOne_0 20 rfl rfl)
theorem dX0_readOne_21 : decode cX0_readOne 21 = .ok (.getfield 176, 3) := dk_180 0 176 (dk_at dksX0_readOne_0 21 rfl rfl)
theorem dX0_readOne_24 : decode cX0_readOne 24 = .ok (.iconst 1, 1) := dk_4 (dk_at dksX0_readOne_1 0 rfl rfl)
theorem dX0_readOne_25 : decode cX0_readOne 25 = .ok (.iadd, 1) := dk_96 (dk_at dksX0_readOne_1 1 rfl rfl)
theorem dX0_readOne_26 : decode cX0_readOne 26 = .ok (.putfield 176, 3) := dk_181 0 176 (dk_at dksX0_readOne_1 2 rfl rfl)
theorem dX0_readOne_29 : decode cX0_readOne 29 = .ok (.iload_n 3, 1) := dk_29 (dk_at dksX0_readOne_1 5 rfl rfl)
theorem dX0_readOne_30 : decode cX0_readOne 30 = .ok (.iload_n 1, 1) := dk_27 (dk_at dksX0_readOne_1 6 rfl rfl)
theorem dX0_readOne_31 : decode cX0_readOne 31 = .ok (.isub, 1) := dk_100 (dk_at dksX0_readOne_1 7 rfl rfl)
theorem dX0_readOne_32 : decode cX0_readOne 32 = .ok (.ireturn, 1) := dk_172 (dk_at dksX0_readOne_1 8 rfl rfl)
abbrev cX0_nextByte : ByteArray := prog_1_method_16_code
def yX0_nextByte : MethodName := ⟨RX0, "nextByte", "()I"⟩
def dkwX0_nextByte_2 : List UInt8 := [162, 0, 15, 42, 180, 0, 49, 42, 180, 0, 176, 51, 167, 0, 4, 2, 172]
abbrev dktX0_nextByte_2 : List UInt8 := dkwX0_nextByte_2 ++ []
def dkwX0_nextByte_1 : List UInt8 := [160, 0, 16, 42, 89, 180, 0, 176, 4, 96, 181, 0, 176, 167, 255, 221, 42, 180, 0, 176, 42, 180, 0, 173]
abbrev dktX0_nextByte_1 : List UInt8 := dkwX0_nextByte_1 ++ dktX0_nextByte_2
def dkwX0_nextByte_0 : List UInt8 := [42, 180, 0, 176, 42, 180, 0, 173, 162, 0, 30, 42, 180, 0, 49, 42, 180, 0, 176, 51, 16, 32]
abbrev dktX0_nextByte_0 : List UInt8 := dkwX0_nextByte_0 ++ dktX0_nextByte_1
theorem dksX0_nextByte_0 : cX0_nextByte.data.toList.drop 0 = dktX0_nextByte_0 := by decide +kernel
theorem dksX0_nextByte_1 : cX0_nextByte.data.toList.drop 22 = dktX0_nextByte_1 := dk_seg dksX0_nextByte_0 22 rfl rfl
theorem dksX0_nextByte_2 : cX0_nextByte.data.toList.drop 46 = dktX0_nextByte_2 := dk_seg dksX0_nextByte_1 24 rfl rfl
theorem dX0_nextByte_0 : decode cX0_nextByte 0 = .ok (.aload_n 0, 1) := dk_42 (dk_at dksX0_nextByte_0 0 rfl rfl)
theorem dX0_nextByte_1 : decode cX0_nextByte 1 = .ok (.getfield 176, 3) := dk_180 0 176 (dk_at dksX0_nextByte_0 1 rfl rfl)
theorem dX0_nextByte_4 : decode cX0_nextByte 4 = .ok (.aload_n 0, 1) := dk_42 (dk_at dksX0_nextByte_0 4 rfl rfl)
theorem dX0_nextByte_5 : decode cX0_nextByte 5 = .ok (.getfield 173, 3) := dk_180 0 173 (dk_at dksX0_nextByte_0 5 rfl rfl)
theorem dX0_nextByte_8 : decode cX0_nextByte 8 = .ok (.if_icmp .ge 30, 3) := dk_162 0 30 (dk_at dksX0_nextByte_0 8 rfl rfl)
theorem dX0_nextByte_11 : decode cX0_nextByte 11 = .ok (.aload_n 0, 1) := dk_42 (dk_at dksX0_nextByte_0 11 rfl rfl)
theorem dX0_nextByte_12 : decode cX0_nextByte 12 = .ok (.getfield 49, 3) := dk_180 0 49 (dk_at dksX0_nextByte_0 12 rfl rfl)
theorem dX0_nextByte_15 : decode cX0_nextByte 15 = .ok (.aload_n 0, 1) := dk_42 (dk_at dksX0_nextByte_0 15 rfl rfl)
theorem dX0_nextByte_16 : decode cX0_nextByte 16 = .ok (.getfield 176, 3) := dk_180 0 176 (dk_at dksX0_nextByte_0 16 rfl rfl)
theorem dX0_nextByte_19 : decode cX0_nextByte 19 = .ok (.baload, 1) := dk_51 (dk_at dksX0_nextByte_0 19 rfl rfl)
theorem dX0_nextByte_20 : decode cX0_nextByte 20 = .ok (.bipush 32, 2) := dk_16 32 (dk_at dksX0_nextByte_0 20 rfl rfl)
theorem dX0_nextByte_22 : decode cX0_nextByte 22 = .ok (.if_icmp .ne 16, 3) := dk_160 0 16 (dk_at dksX0_nextByte_1 0 rfl rfl)
theorem dX0_nextByte_25 : decode cX0_nextByte 25 = .ok (.aload_n 0, 1) := dk_42 (dk_at dksX0_nextByte_1 3 rfl rfl)
theorem dX0_nextByte_26 : decode cX0_nextByte 26 = .ok (.dup, 1) := dk_89 (dk_at dksX0_nextByte_1 4 rfl rfl)
theorem dX0_nextByte_27 : decode cX0_nextByte 27 = .ok (.getfield 176, 3) := dk_180 0 176 (dk_at dksX0_nextByte_1 5 rfl rfl)
theorem dX0_nextByte_30 : decode cX0_nextByte 30 = .ok (.iconst 1, 1) := dk_4 (dk_at dksX0_nextByte_1 8 rfl rfl)
theorem dX0_nextByte_31 : decode cX0_nextByte 31 = .ok (.iadd, 1) := dk_96 (dk_at dksX0_nextByte_1 9 rfl rfl)
theorem dX0_nextByte_32 : decode cX0_nextByte 32 = .ok (.putfield 176, 3) := dk_181 0 176 (dk_at dksX0_nextByte_1 10 rfl rfl)
theorem dX0_nextByte_35 : decode cX0_nextByte 35 = .ok (.goto (-35), 3) := dk_167 255 221 (dk_at dksX0_nextByte_1 13 rfl rfl)
theorem dX0_nextByte_38 : decode cX0_nextByte 38 = .ok (.aload_n 0, 1) := dk_42 (dk_at dksX0_nextByte_1 16 rfl rfl)
theorem dX0_nextByte_39 : decode cX0_nextByte 39 = .ok (.getfield 176, 3) := dk_180 0 176 (dk_at dksX0_nextByte_1 17 rfl rfl)
theorem dX0_nextByte_42 : decode cX0_nextByte 42 = .ok (.aload_n 0, 1) := dk_42 (dk_at dksX0_nextByte_1 20 rfl rfl)
theorem dX0_nextByte_43 : decode cX0_nextByte 43 = .ok (.getfield 173, 3) := dk_180 0 173 (dk_at dksX0_nextByte_1 21 rfl rfl)
theorem dX0_nextByte_46 : decode cX0_nextByte 46 = .ok (.if_icmp .ge 15, 3) := dk_162 0 15 (dk_at dksX0_nextByte_2 0 rfl rfl)
theorem dX0_nextByte_49 : decode cX0_nextByte 49 = .ok (.aload_n 0, 1) := dk_42 (dk_at dksX0_nextByte_2 3 rfl rfl)
theorem dX0_nextByte_50 : decode cX0_nextByte 50 = .ok (.getfield 49, 3) := dk_180 0 49 (dk_at dksX0_nextByte_2 4 rfl rfl)
theorem dX0_nextByte_53 : decode cX0_nextByte 53 = .ok (.aload_n 0, 1) := dk_42 (dk_at dksX0_nextByte_2 7 rfl rfl)
theorem dX0_nextByte_54 : decode cX0_nextByte 54 = .ok (.getfield 176, 3) := dk_180 0 176 (dk_at dksX0_nextByte_2 8 rfl rfl)
theorem dX0_nextByte_57 : decode cX0_nextByte 57 = .ok (.baload, 1) := dk_51 (dk_at dksX0_nextByte_2 11 rfl rfl)
theorem dX0_nextByte_58 : decode cX0_nextByte 58 = .ok (.goto 4, 3) := dk_167 0 4 (dk_at dksX0_nextByte_2 12 rfl rfl)
theorem dX0_nextByte_61 : decode cX0_nextByte 61 = .ok (.iconst (-1), 1) := dk_2 (dk_at dksX0_nextByte_2 15 rfl rfl)
theorem dX0_nextByte_62 : decode cX0_nextByte 62 = .ok (.ireturn, 1) := dk_172 (dk_at dksX0_nextByte_2 16 rfl rfl)
abbrev cX0_wrong : ByteArray := prog_1_method_17_code
def yX0_wrong : MethodName := ⟨RX0, "wrong", "()LDebtCoats$Fault;"⟩
def dkwX0_wrong_0 : List UInt8 := [42, 180, 0, 45, 42, 180, 0, 176, 181, 0, 179, 42, 180, 0, 45, 176]
abbrev dktX0_wrong_0 : List UInt8 := dkwX0_wrong_0 ++ []
theorem dksX0_wrong_0 : cX0_wrong.data.toList.drop 0 = dktX0_wrong_0 := by decide +kernel
theorem dX0_wrong_0 : decode cX0_wrong 0 = .ok (.aload_n 0, 1) := dk_42 (dk_at dksX0_wrong_0 0 rfl rfl)
theorem dX0_wrong_1 : decode cX0_wrong 1 = .ok (.getfield 45, 3) := dk_180 0 45 (dk_at dksX0_wrong_0 1 rfl rfl)
theorem dX0_wrong_4 : decode cX0_wrong 4 = .ok (.aload_n 0, 1) := dk_42 (dk_at dksX0_wrong_0 4 rfl rfl)
theorem dX0_wrong_5 : decode cX0_wrong 5 = .ok (.getfield 176, 3) := dk_180 0 176 (dk_at dksX0_wrong_0 5 rfl rfl)
theorem dX0_wrong_8 : decode cX0_wrong 8 = .ok (.putfield 179, 3) := dk_181 0 179 (dk_at dksX0_wrong_0 8 rfl rfl)
theorem dX0_wrong_11 : decode cX0_wrong 11 = .ok (.aload_n 0, 1) := dk_42 (dk_at dksX0_wrong_0 11 rfl rfl)
theorem dX0_wrong_12 : decode cX0_wrong 12 = .ok (.getfield 45, 3) := dk_180 0 45 (dk_at dksX0_wrong_0 12 rfl rfl)
theorem dX0_wrong_15 : decode cX0_wrong 15 = .ok (.areturn, 1) := dk_176 (dk_at dksX0_wrong_0 15 rfl rfl)
abbrev cX0_readNumber : ByteArray := prog_1_method_19_code
def yX0_readNumber : MethodName := ⟨RX0, "readNumber", "(II)I"⟩
def dkwX0_readNumber_4 : List UInt8 := [184, 0, 92, 154, 0, 13, 42, 29, 181, 0, 176, 42, 182, 0, 186, 191, 21, 4, 172]
abbrev dktX0_readNumber_4 : List UInt8 := dkwX0_readNumber_4 ++ []
def dkwX0_readNumber_3 : List UInt8 := [180, 0, 176, 4, 96, 181, 0, 176, 167, 255, 191, 42, 180, 0, 176, 29, 159, 0, 13, 21, 4, 27, 28]
abbrev dktX0_readNumber_3 : List UInt8 := dkwX0_readNumber_3 ++ dktX0_readNumber_4
def dkwX0_readNumber_2 : List UInt8 := [21, 4, 104, 42, 180, 0, 49, 42, 180, 0, 176, 51, 96, 16, 48, 100, 184, 0, 137, 54, 4, 42, 89]
abbrev dktX0_readNumber_2 : List UInt8 := dkwX0_readNumber_2 ++ dktX0_readNumber_3
def dkwX0_readNumber_1 : List UInt8 := [42, 180, 0, 49, 42, 180, 0, 176, 51, 16, 48, 16, 57, 184, 0, 92, 153, 0, 41, 18, 185, 16, 10]
abbrev dktX0_readNumber_1 : List UInt8 := dkwX0_readNumber_1 ++ dktX0_readNumber_2
def dkwX0_readNumber_0 : List UInt8 := [42, 182, 0, 182, 87, 42, 180, 0, 176, 62, 3, 54, 4, 42, 180, 0, 176, 42, 180, 0, 173, 162, 0, 60]
abbrev dktX0_readNumber_0 : List UInt8 := dkwX0_readNumber_0 ++ dktX0_readNumber_1
theorem dksX0_readNumber_0 : cX0_readNumber.data.toList.drop 0 = dktX0_readNumber_0 := by decide +kernel
theorem dksX0_readNumber_1 : cX0_readNumber.data.toList.drop 24 = dktX0_readNumber_1 := dk_seg dksX0_readNumber_0 24 rfl rfl
theorem dksX0_readNumber_2 : cX0_readNumber.data.toList.drop 47 = dktX0_readNumber_2 := dk_seg dksX0_readNumber_1 23 rfl rfl
theorem dksX0_readNumber_3 : cX0_readNumber.data.toList.drop 70 = dktX0_readNumber_3 := dk_seg dksX0_readNumber_2 23 rfl rfl
theorem dksX0_readNumber_4 : cX0_readNumber.data.toList.drop 93 = dktX0_readNumber_4 := dk_seg dksX0_readNumber_3 23 rfl rfl
theorem dX0_readNumber_0 : decode cX0_readNumber 0 = .ok (.aload_n 0, 1) := dk_42 (dk_at dksX0_readNumber_0 0 rfl rfl)
theorem dX0_readNumber_1 : decode cX0_readNumber 1 = .ok (.invokevirtual 182, 3) := dk_182 0 182 (dk_at dksX0_readNumber_0 1 rfl rfl)
theorem dX0_readNumber_4 : decode cX0_readNumber 4 = .ok (.pop, 1) := dk_87 (dk_at dksX0_readNumber_0 4 rfl rfl)
theorem dX0_readNumber_5 : decode cX0_readNumber 5 = .ok (.aload_n 0, 1) := dk_42 (dk_at dksX0_readNumber_0 5 rfl rfl)
theorem dX0_readNumber_6 : decode cX0_readNumber 6 = .ok (.getfield 176, 3) := dk_180 0 176 (dk_at dksX0_readNumber_0 6 rfl rfl)
theorem dX0_readNumber_9 : decode cX0_readNumber 9 = .ok (.istore_n 3, 1) := dk_62 (dk_at dksX0_readNumber_0 9 rfl rfl)
theorem dX0_readNumber_10 : decode cX0_readNumber 10 = .ok (.iconst 0, 1) := dk_3 (dk_at dksX0_readNumber_0 10 rfl rfl)
theorem dX0_readNumber_11 : decode cX0_readNumber 11 = .ok (.istore 4, 2) := dk_54 4 (dk_at dksX0_readNumber_0 11 rfl rfl)
theorem dX0_readNumber_13 : decode cX0_readNumber 13 = .ok (.aload_n 0, 1) := dk_42 (dk_at dksX0_readNumber_0 13 rfl rfl)
theorem dX0_readNumber_14 : decode cX0_readNumber 14 = .ok (.getfield 176, 3) := dk_180 0 176 (dk_at dksX0_readNumber_0 14 rfl rfl)
theorem dX0_readNumber_17 : decode cX0_readNumber 17 = .ok (.aload_n 0, 1) := dk_42 (dk_at dksX0_readNumber_0 17 rfl rfl)
theorem dX0_readNumber_18 : decode cX0_readNumber 18 = .ok (.getfield 173, 3) := dk_180 0 173 (dk_at dksX0_readNumber_0 18 rfl rfl)
theorem dX0_readNumber_21 : decode cX0_readNumber 21 = .ok (.if_icmp .ge 60, 3) := dk_162 0 60 (dk_at dksX0_readNumber_0 21 rfl rfl)
theorem dX0_readNumber_24 : decode cX0_readNumber 24 = .ok (.aload_n 0, 1) := dk_42 (dk_at dksX0_readNumber_1 0 rfl rfl)
theorem dX0_readNumber_25 : decode cX0_readNumber 25 = .ok (.getfield 49, 3) := dk_180 0 49 (dk_at dksX0_readNumber_1 1 rfl rfl)
theorem dX0_readNumber_28 : decode cX0_readNumber 28 = .ok (.aload_n 0, 1) := dk_42 (dk_at dksX0_readNumber_1 4 rfl rfl)
theorem dX0_readNumber_29 : decode cX0_readNumber 29 = .ok (.getfield 176, 3) := dk_180 0 176 (dk_at dksX0_readNumber_1 5 rfl rfl)
theorem dX0_readNumber_32 : decode cX0_readNumber 32 = .ok (.baload, 1) := dk_51 (dk_at dksX0_readNumber_1 8 rfl rfl)
theorem dX0_readNumber_33 : decode cX0_readNumber 33 = .ok (.bipush 48, 2) := dk_16 48 (dk_at dksX0_readNumber_1 9 rfl rfl)
theorem dX0_readNumber_35 : decode cX0_readNumber 35 = .ok (.bipush 57, 2) := dk_16 57 (dk_at dksX0_readNumber_1 11 rfl rfl)
theorem dX0_readNumber_37 : decode cX0_readNumber 37 = .ok (.invokestatic 92, 3) := dk_184 0 92 (dk_at dksX0_readNumber_1 13 rfl rfl)
theorem dX0_readNumber_40 : decode cX0_readNumber 40 = .ok (.ifCond .eq 41, 3) := dk_153 0 41 (dk_at dksX0_readNumber_1 16 rfl rfl)
theorem dX0_readNumber_43 : decode cX0_readNumber 43 = .ok (.ldc 185, 2) := dk_18 185 (dk_at dksX0_readNumber_1 19 rfl rfl)
theorem dX0_readNumber_45 : decode cX0_readNumber 45 = .ok (.bipush 10, 2) := dk_16 10 (dk_at dksX0_readNumber_1 21 rfl rfl)
theorem dX0_readNumber_47 : decode cX0_readNumber 47 = .ok (.iload 4, 2) := dk_21 4 (dk_at dksX0_readNumber_2 0 rfl rfl)
theorem dX0_readNumber_49 : decode cX0_readNumber 49 = .ok (.imul, 1) := dk_104 (dk_at dksX0_readNumber_2 2 rfl rfl)
theorem dX0_readNumber_50 : decode cX0_readNumber 50 = .ok (.aload_n 0, 1) := dk_42 (dk_at dksX0_readNumber_2 3 rfl rfl)
theorem dX0_readNumber_51 : decode cX0_readNumber 51 = .ok (.getfield 49, 3) := dk_180 0 49 (dk_at dksX0_readNumber_2 4 rfl rfl)
theorem dX0_readNumber_54 : decode cX0_readNumber 54 = .ok (.aload_n 0, 1) := dk_42 (dk_at dksX0_readNumber_2 7 rfl rfl)
theorem dX0_readNumber_55 : decode cX0_readNumber 55 = .ok (.getfield 176, 3) := dk_180 0 176 (dk_at dksX0_readNumber_2 8 rfl rfl)
theorem dX0_readNumber_58 : decode cX0_readNumber 58 = .ok (.baload, 1) := dk_51 (dk_at dksX0_readNumber_2 11 rfl rfl)
theorem dX0_readNumber_59 : decode cX0_readNumber 59 = .ok (.iadd, 1) := dk_96 (dk_at dksX0_readNumber_2 12 rfl rfl)
theorem dX0_readNumber_60 : decode cX0_readNumber 60 = .ok (.bipush 48, 2) := dk_16 48 (dk_at dksX0_readNumber_2 13 rfl rfl)
theorem dX0_readNumber_62 : decode cX0_readNumber 62 = .ok (.isub, 1) := dk_100 (dk_at dksX0_readNumber_2 15 rfl rfl)
theorem dX0_readNumber_63 : decode cX0_readNumber 63 = .ok (.invokestatic 137, 3) := dk_184 0 137 (dk_at dksX0_readNumber_2 16 rfl rfl)
theorem dX0_readNumber_66 : decode cX0_readNumber 66 = .ok (.istore 4, 2) := dk_54 4 (dk_at dksX0_readNumber_2 19 rfl rfl)
theorem dX0_readNumber_68 : decode cX0_readNumber 68 = .ok (.aload_n 0, 1) := dk_42 (dk_at dksX0_readNumber_2 21 rfl rfl)
theorem dX0_readNumber_69 : decode cX0_readNumber 69 = .ok (.dup, 1) := dk_89 (dk_at dksX0_readNumber_2 22 rfl rfl)
theorem dX0_readNumber_70 : decode cX0_readNumber 70 = .ok (.getfield 176, 3) := dk_180 0 176 (dk_at dksX0_readNumber_3 0 rfl rfl)
theorem dX0_readNumber_73 : decode cX0_readNumber 73 = .ok (.iconst 1, 1) := dk_4 (dk_at dksX0_readNumber_3 3 rfl rfl)
theorem dX0_readNumber_74 : decode cX0_readNumber 74 = .ok (.iadd, 1) := dk_96 (dk_at dksX0_readNumber_3 4 rfl rfl)
theorem dX0_readNumber_75 : decode cX0_readNumber 75 = .ok (.putfield 176, 3) := dk_181 0 176 (dk_at dksX0_readNumber_3 5 rfl rfl)
theorem dX0_readNumber_78 : decode cX0_readNumber 78 = .ok (.goto (-65), 3) := dk_167 255 191 (dk_at dksX0_readNumber_3 8 rfl rfl)
theorem dX0_readNumber_81 : decode cX0_readNumber 81 = .ok (.aload_n 0, 1) := dk_42 (dk_at dksX0_readNumber_3 11 rfl rfl)
theorem dX0_readNumber_82 : decode cX0_readNumber 82 = .ok (.getfield 176, 3) := dk_180 0 176 (dk_at dksX0_readNumber_3 12 rfl rfl)
theorem dX0_readNumber_85 : decode cX0_readNumber 85 = .ok (.iload_n 3, 1) := dk_29 (dk_at dksX0_readNumber_3 15 rfl rfl)
theorem dX0_readNumber_86 : decode cX0_readNumber 86 = .ok (.if_icmp .eq 13, 3) := dk_159 0 13 (dk_at dksX0_readNumber_3 16 rfl rfl)
theorem dX0_readNumber_89 : decode cX0_readNumber 89 = .ok (.iload 4, 2) := dk_21 4 (dk_at dksX0_readNumber_3 19 rfl rfl)
theorem dX0_readNumber_91 : decode cX0_readNumber 91 = .ok (.iload_n 1, 1) := dk_27 (dk_at dksX0_readNumber_3 21 rfl rfl)
theorem dX0_readNumber_92 : decode cX0_readNumber 92 = .ok (.iload_n 2, 1) := dk_28 (dk_at dksX0_readNumber_3 22 rfl rfl)
theorem dX0_readNumber_93 : decode cX0_readNumber 93 = .ok (.invokestatic 92, 3) := dk_184 0 92 (dk_at dksX0_readNumber_4 0 rfl rfl)
theorem dX0_readNumber_96 : decode cX0_readNumber 96 = .ok (.ifCond .ne 13, 3) := dk_154 0 13 (dk_at dksX0_readNumber_4 3 rfl rfl)
theorem dX0_readNumber_99 : decode cX0_readNumber 99 = .ok (.aload_n 0, 1) := dk_42 (dk_at dksX0_readNumber_4 6 rfl rfl)
theorem dX0_readNumber_100 : decode cX0_readNumber 100 = .ok (.iload_n 3, 1) := dk_29 (dk_at dksX0_readNumber_4 7 rfl rfl)
theorem dX0_readNumber_101 : decode cX0_readNumber 101 = .ok (.putfield 176, 3) := dk_181 0 176 (dk_at dksX0_readNumber_4 8 rfl rfl)
theorem dX0_readNumber_104 : decode cX0_readNumber 104 = .ok (.aload_n 0, 1) := dk_42 (dk_at dksX0_readNumber_4 11 rfl rfl)
theorem dX0_readNumber_105 : decode cX0_readNumber 105 = .ok (.invokevirtual 186, 3) := dk_182 0 186 (dk_at dksX0_readNumber_4 12 rfl rfl)
theorem dX0_readNumber_108 : decode cX0_readNumber 108 = .ok (.athrow, 1) := dk_191 (dk_at dksX0_readNumber_4 15 rfl rfl)
theorem dX0_readNumber_109 : decode cX0_readNumber 109 = .ok (.iload 4, 2) := dk_21 4 (dk_at dksX0_readNumber_4 16 rfl rfl)
theorem dX0_readNumber_111 : decode cX0_readNumber 111 = .ok (.ireturn, 1) := dk_172 (dk_at dksX0_readNumber_4 18 rfl rfl)
abbrev cX0_takes : ByteArray := prog_1_method_18_code
def yX0_takes : MethodName := ⟨RX0, "takes", "(I)Z"⟩
def dkwX0_takes_1 : List UInt8 := [167, 0, 4, 3, 96, 181, 0, 176, 28, 172]
abbrev dktX0_takes_1 : List UInt8 := dkwX0_takes_1 ++ []
def dkwX0_takes_0 : List UInt8 := [42, 182, 0, 182, 27, 160, 0, 7, 4, 167, 0, 4, 3, 61, 42, 89, 180, 0, 176, 28, 153, 0, 7, 4]
abbrev dktX0_takes_0 : List UInt8 := dkwX0_takes_0 ++ dktX0_takes_1
theorem dksX0_takes_0 : cX0_takes.data.toList.drop 0 = dktX0_takes_0 := by decide +kernel
theorem dksX0_takes_1 : cX0_takes.data.toList.drop 24 = dktX0_takes_1 := dk_seg dksX0_takes_0 24 rfl rfl
theorem dX0_takes_0 : decode cX0_takes 0 = .ok (.aload_n 0, 1) := dk_42 (dk_at dksX0_takes_0 0 rfl rfl)
theorem dX0_takes_1 : decode cX0_takes 1 = .ok (.invokevirtual 182, 3) := dk_182 0 182 (dk_at dksX0_takes_0 1 rfl rfl)
theorem dX0_takes_4 : decode cX0_takes 4 = .ok (.iload_n 1, 1) := dk_27 (dk_at dksX0_takes_0 4 rfl rfl)
theorem dX0_takes_5 : decode cX0_takes 5 = .ok (.if_icmp .ne 7, 3) := dk_160 0 7 (dk_at dksX0_takes_0 5 rfl rfl)
theorem dX0_takes_8 : decode cX0_takes 8 = .ok (.iconst 1, 1) := dk_4 (dk_at dksX0_takes_0 8 rfl rfl)
theorem dX0_takes_9 : decode cX0_takes 9 = .ok (.goto 4, 3) := dk_167 0 4 (dk_at dksX0_takes_0 9 rfl rfl)
theorem dX0_takes_12 : decode cX0_takes 12 = .ok (.iconst 0, 1) := dk_3 (dk_at dksX0_takes_0 12 rfl rfl)
theorem dX0_takes_13 : decode cX0_takes 13 = .ok (.istore_n 2, 1) := dk_61 (dk_at dksX0_takes_0 13 rfl rfl)
theorem dX0_takes_14 : decode cX0_takes 14 = .ok (.aload_n 0, 1) := dk_42 (dk_at dksX0_takes_0 14 rfl rfl)
theorem dX0_takes_15 : decode cX0_takes 15 = .ok (.dup, 1) := dk_89 (dk_at dksX0_takes_0 15 rfl rfl)
theorem dX0_takes_16 : decode cX0_takes 16 = .ok (.getfield 176, 3) := dk_180 0 176 (dk_at dksX0_takes_0 16 rfl rfl)
theorem dX0_takes_19 : decode cX0_takes 19 = .ok (.iload_n 2, 1) := dk_28 (dk_at dksX0_takes_0 19 rfl rfl)
theorem dX0_takes_20 : decode cX0_takes 20 = .ok (.ifCond .eq 7, 3) := dk_153 0 7 (dk_at dksX0_takes_0 20 rfl rfl)
theorem dX0_takes_23 : decode cX0_takes 23 = .ok (.iconst 1, 1) := dk_4 (dk_at dksX0_takes_0 23 rfl rfl)
theorem dX0_takes_24 : decode cX0_takes 24 = .ok (.goto 4, 3) := dk_167 0 4 (dk_at dksX0_takes_1 0 rfl rfl)
theorem dX0_takes_27 : decode cX0_takes 27 = .ok (.iconst 0, 1) := dk_3 (dk_at dksX0_takes_1 3 rfl rfl)
theorem dX0_takes_28 : decode cX0_takes 28 = .ok (.iadd, 1) := dk_96 (dk_at dksX0_takes_1 4 rfl rfl)
theorem dX0_takes_29 : decode cX0_takes 29 = .ok (.putfield 176, 3) := dk_181 0 176 (dk_at dksX0_takes_1 5 rfl rfl)
theorem dX0_takes_32 : decode cX0_takes 32 = .ok (.iload_n 2, 1) := dk_28 (dk_at dksX0_takes_1 8 rfl rfl)
theorem dX0_takes_33 : decode cX0_takes 33 = .ok (.ireturn, 1) := dk_172 (dk_at dksX0_takes_1 9 rfl rfl)
abbrev cX0_take : ByteArray := prog_1_method_23_code
def yX0_take : MethodName := ⟨RX0, "take", "(IIIII)I"⟩
def dkwX0_take_4 : List UInt8 := [180, 0, 109, 29, 96, 184, 0, 137, 181, 0, 109, 25, 6, 180, 0, 104, 172]
abbrev dktX0_take_4 : List UInt8 := dkwX0_take_4 ++ []
def dkwX0_take_3 : List UInt8 := [160, 0, 6, 16, 253, 172, 25, 6, 28, 29, 21, 4, 21, 5, 182, 0, 199, 25, 6, 18, 212, 25, 6]
abbrev dktX0_take_3 : List UInt8 := dkwX0_take_3 ++ dktX0_take_4
def dkwX0_take_2 : List UInt8 := [154, 0, 5, 2, 172, 42, 180, 0, 25, 180, 0, 100, 27, 50, 58, 6, 25, 6, 180, 0, 104, 16, 8]
abbrev dktX0_take_2 : List UInt8 := dkwX0_take_2 ++ dktX0_take_3
def dkwX0_take_1 : List UInt8 := [153, 0, 25, 21, 4, 3, 16, 20, 184, 0, 92, 153, 0, 14, 21, 5, 4, 16, 9, 184, 0, 92]
abbrev dktX0_take_1 : List UInt8 := dkwX0_take_1 ++ dktX0_take_2
def dkwX0_take_0 : List UInt8 := [42, 27, 182, 0, 96, 153, 0, 43, 28, 184, 0, 150, 153, 0, 36, 29, 4, 17, 39, 15, 184, 0, 92]
abbrev dktX0_take_0 : List UInt8 := dkwX0_take_0 ++ dktX0_take_1
theorem dksX0_take_0 : cX0_take.data.toList.drop 0 = dktX0_take_0 := by decide +kernel
theorem dksX0_take_1 : cX0_take.data.toList.drop 23 = dktX0_take_1 := dk_seg dksX0_take_0 23 rfl rfl
theorem dksX0_take_2 : cX0_take.data.toList.drop 45 = dktX0_take_2 := dk_seg dksX0_take_1 22 rfl rfl
theorem dksX0_take_3 : cX0_take.data.toList.drop 68 = dktX0_take_3 := dk_seg dksX0_take_2 23 rfl rfl
theorem dksX0_take_4 : cX0_take.data.toList.drop 91 = dktX0_take_4 := dk_seg dksX0_take_3 23 rfl rfl
theorem dX0_take_0 : decode cX0_take 0 = .ok (.aload_n 0, 1) := dk_42 (dk_at dksX0_take_0 0 rfl rfl)
theorem dX0_take_1 : decode cX0_take 1 = .ok (.iload_n 1, 1) := dk_27 (dk_at dksX0_take_0 1 rfl rfl)
theorem dX0_take_2 : decode cX0_take 2 = .ok (.invokevirtual 96, 3) := dk_182 0 96 (dk_at dksX0_take_0 2 rfl rfl)
theorem dX0_take_5 : decode cX0_take 5 = .ok (.ifCond .eq 43, 3) := dk_153 0 43 (dk_at dksX0_take_0 5 rfl rfl)
theorem dX0_take_8 : decode cX0_take 8 = .ok (.iload_n 2, 1) := dk_28 (dk_at dksX0_take_0 8 rfl rfl)
theorem dX0_take_9 : decode cX0_take 9 = .ok (.invokestatic 150, 3) := dk_184 0 150 (dk_at dksX0_take_0 9 rfl rfl)
theorem dX0_take_12 : decode cX0_take 12 = .ok (.ifCond .eq 36, 3) := dk_153 0 36 (dk_at dksX0_take_0 12 rfl rfl)
theorem dX0_take_15 : decode cX0_take 15 = .ok (.iload_n 3, 1) := dk_29 (dk_at dksX0_take_0 15 rfl rfl)
theorem dX0_take_16 : decode cX0_take 16 = .ok (.iconst 1, 1) := dk_4 (dk_at dksX0_take_0 16 rfl rfl)
theorem dX0_take_17 : decode cX0_take 17 = .ok (.sipush 9999, 3) := dk_17 39 15 (dk_at dksX0_take_0 17 rfl rfl)
theorem dX0_take_20 : decode cX0_take 20 = .ok (.invokestatic 92, 3) := dk_184 0 92 (dk_at dksX0_take_0 20 rfl rfl)
theorem dX0_take_23 : decode cX0_take 23 = .ok (.ifCond .eq 25, 3) := dk_153 0 25 (dk_at dksX0_take_1 0 rfl rfl)
theorem dX0_take_26 : decode cX0_take 26 = .ok (.iload 4, 2) := dk_21 4 (dk_at dksX0_take_1 3 rfl rfl)
theorem dX0_take_28 : decode cX0_take 28 = .ok (.iconst 0, 1) := dk_3 (dk_at dksX0_take_1 5 rfl rfl)
theorem dX0_take_29 : decode cX0_take 29 = .ok (.bipush 20, 2) := dk_16 20 (dk_at dksX0_take_1 6 rfl rfl)
theorem dX0_take_31 : decode cX0_take 31 = .ok (.invokestatic 92, 3) := dk_184 0 92 (dk_at dksX0_take_1 8 rfl rfl)
theorem dX0_take_34 : decode cX0_take 34 = .ok (.ifCond .eq 14, 3) := dk_153 0 14 (dk_at dksX0_take_1 11 rfl rfl)
theorem dX0_take_37 : decode cX0_take 37 = .ok (.iload 5, 2) := dk_21 5 (dk_at dksX0_take_1 14 rfl rfl)
theorem dX0_take_39 : decode cX0_take 39 = .ok (.iconst 1, 1) := dk_4 (dk_at dksX0_take_1 16 rfl rfl)
theorem dX0_take_40 : decode cX0_take 40 = .ok (.bipush 9, 2) := dk_16 9 (dk_at dksX0_take_1 17 rfl rfl)
theorem dX0_take_42 : decode cX0_take 42 = .ok (.invokestatic 92, 3) := dk_184 0 92 (dk_at dksX0_take_1 19 rfl rfl)
theorem dX0_take_45 : decode cX0_take 45 = .ok (.ifCond .ne 5, 3) := dk_154 0 5 (dk_at dksX0_take_2 0 rfl rfl)
theorem dX0_take_48 : decode cX0_take 48 = .ok (.iconst (-1), 1) := dk_2 (dk_at dksX0_take_2 3 rfl rfl)
theorem dX0_take_49 : decode cX0_take 49 = .ok (.ireturn, 1) := dk_172 (dk_at dksX0_take_2 4 rfl rfl)
theorem dX0_take_50 : decode cX0_take 50 = .ok (.aload_n 0, 1) := dk_42 (dk_at dksX0_take_2 5 rfl rfl)
theorem dX0_take_51 : decode cX0_take 51 = .ok (.getfield 25, 3) := dk_180 0 25 (dk_at dksX0_take_2 6 rfl rfl)
theorem dX0_take_54 : decode cX0_take 54 = .ok (.getfield 100, 3) := dk_180 0 100 (dk_at dksX0_take_2 9 rfl rfl)
theorem dX0_take_57 : decode cX0_take 57 = .ok (.iload_n 1, 1) := dk_27 (dk_at dksX0_take_2 12 rfl rfl)
theorem dX0_take_58 : decode cX0_take 58 = .ok (.aaload, 1) := dk_50 (dk_at dksX0_take_2 13 rfl rfl)
theorem dX0_take_59 : decode cX0_take 59 = .ok (.astore 6, 2) := dk_58 6 (dk_at dksX0_take_2 14 rfl rfl)
theorem dX0_take_61 : decode cX0_take 61 = .ok (.aload 6, 2) := dk_25 6 (dk_at dksX0_take_2 16 rfl rfl)
theorem dX0_take_63 : decode cX0_take 63 = .ok (.getfield 104, 3) := dk_180 0 104 (dk_at dksX0_take_2 18 rfl rfl)
theorem dX0_take_66 : decode cX0_take 66 = .ok (.bipush 8, 2) := dk_16 8 (dk_at dksX0_take_2 21 rfl rfl)
theorem dX0_take_68 : decode cX0_take 68 = .ok (.if_icmp .ne 6, 3) := dk_160 0 6 (dk_at dksX0_take_3 0 rfl rfl)
theorem dX0_take_71 : decode cX0_take 71 = .ok (.bipush (-3), 2) := dk_16 253 (dk_at dksX0_take_3 3 rfl rfl)
theorem dX0_take_73 : decode cX0_take 73 = .ok (.ireturn, 1) := dk_172 (dk_at dksX0_take_3 5 rfl rfl)
theorem dX0_take_74 : decode cX0_take 74 = .ok (.aload 6, 2) := dk_25 6 (dk_at dksX0_take_3 6 rfl rfl)
theorem dX0_take_76 : decode cX0_take 76 = .ok (.iload_n 2, 1) := dk_28 (dk_at dksX0_take_3 8 rfl rfl)
theorem dX0_take_77 : decode cX0_take 77 = .ok (.iload_n 3, 1) := dk_29 (dk_at dksX0_take_3 9 rfl rfl)
theorem dX0_take_78 : decode cX0_take 78 = .ok (.iload 4, 2) := dk_21 4 (dk_at dksX0_take_3 10 rfl rfl)
theorem dX0_take_80 : decode cX0_take 80 = .ok (.iload 5, 2) := dk_21 5 (dk_at dksX0_take_3 12 rfl rfl)
theorem dX0_take_82 : decode cX0_take 82 = .ok (.invokevirtual 199, 3) := dk_182 0 199 (dk_at dksX0_take_3 14 rfl rfl)
theorem dX0_take_85 : decode cX0_take 85 = .ok (.aload 6, 2) := dk_25 6 (dk_at dksX0_take_3 17 rfl rfl)
theorem dX0_take_87 : decode cX0_take 87 = .ok (.ldc 212, 2) := dk_18 212 (dk_at dksX0_take_3 19 rfl rfl)
theorem dX0_take_89 : decode cX0_take 89 = .ok (.aload 6, 2) := dk_25 6 (dk_at dksX0_take_3 21 rfl rfl)
theorem dX0_take_91 : decode cX0_take 91 = .ok (.getfield 109, 3) := dk_180 0 109 (dk_at dksX0_take_4 0 rfl rfl)
theorem dX0_take_94 : decode cX0_take 94 = .ok (.iload_n 3, 1) := dk_29 (dk_at dksX0_take_4 3 rfl rfl)
theorem dX0_take_95 : decode cX0_take 95 = .ok (.iadd, 1) := dk_96 (dk_at dksX0_take_4 4 rfl rfl)
theorem dX0_take_96 : decode cX0_take 96 = .ok (.invokestatic 137, 3) := dk_184 0 137 (dk_at dksX0_take_4 5 rfl rfl)
theorem dX0_take_99 : decode cX0_take 99 = .ok (.putfield 109, 3) := dk_181 0 109 (dk_at dksX0_take_4 8 rfl rfl)
theorem dX0_take_102 : decode cX0_take 102 = .ok (.aload 6, 2) := dk_25 6 (dk_at dksX0_take_4 11 rfl rfl)
theorem dX0_take_104 : decode cX0_take 104 = .ok (.getfield 104, 3) := dk_180 0 104 (dk_at dksX0_take_4 13 rfl rfl)
theorem dX0_take_107 : decode cX0_take 107 = .ok (.ireturn, 1) := dk_172 (dk_at dksX0_take_4 16 rfl rfl)
abbrev cX0_pay : ByteArray := prog_1_method_25_code
def yX0_pay : MethodName := ⟨RX0, "pay", "(II)I"⟩
def dkwX0_pay_2 : List UInt8 := [45, 180, 0, 104, 167, 0, 5, 16, 252, 172]
abbrev dktX0_pay_2 : List UInt8 := dkwX0_pay_2 ++ []
def dkwX0_pay_1 : List UInt8 := [182, 0, 213, 45, 28, 182, 0, 217, 154, 0, 8, 16, 254, 167, 0, 20, 45, 28, 182, 0, 221, 153, 0, 10]
abbrev dktX0_pay_1 : List UInt8 := dkwX0_pay_1 ++ dktX0_pay_2
def dkwX0_pay_0 : List UInt8 := [42, 27, 28, 182, 0, 143, 154, 0, 5, 2, 172, 42, 180, 0, 25, 180, 0, 100, 27, 50, 78, 42]
abbrev dktX0_pay_0 : List UInt8 := dkwX0_pay_0 ++ dktX0_pay_1
theorem dksX0_pay_0 : cX0_pay.data.toList.drop 0 = dktX0_pay_0 := by decide +kernel
theorem dksX0_pay_1 : cX0_pay.data.toList.drop 22 = dktX0_pay_1 := dk_seg dksX0_pay_0 22 rfl rfl
theorem dksX0_pay_2 : cX0_pay.data.toList.drop 46 = dktX0_pay_2 := dk_seg dksX0_pay_1 24 rfl rfl
theorem dX0_pay_0 : decode cX0_pay 0 = .ok (.aload_n 0, 1) := dk_42 (dk_at dksX0_pay_0 0 rfl rfl)
theorem dX0_pay_1 : decode cX0_pay 1 = .ok (.iload_n 1, 1) := dk_27 (dk_at dksX0_pay_0 1 rfl rfl)
theorem dX0_pay_2 : decode cX0_pay 2 = .ok (.iload_n 2, 1) := dk_28 (dk_at dksX0_pay_0 2 rfl rfl)
theorem dX0_pay_3 : decode cX0_pay 3 = .ok (.invokevirtual 143, 3) := dk_182 0 143 (dk_at dksX0_pay_0 3 rfl rfl)
theorem dX0_pay_6 : decode cX0_pay 6 = .ok (.ifCond .ne 5, 3) := dk_154 0 5 (dk_at dksX0_pay_0 6 rfl rfl)
theorem dX0_pay_9 : decode cX0_pay 9 = .ok (.iconst (-1), 1) := dk_2 (dk_at dksX0_pay_0 9 rfl rfl)
theorem dX0_pay_10 : decode cX0_pay 10 = .ok (.ireturn, 1) := dk_172 (dk_at dksX0_pay_0 10 rfl rfl)
theorem dX0_pay_11 : decode cX0_pay 11 = .ok (.aload_n 0, 1) := dk_42 (dk_at dksX0_pay_0 11 rfl rfl)
theorem dX0_pay_12 : decode cX0_pay 12 = .ok (.getfield 25, 3) := dk_180 0 25 (dk_at dksX0_pay_0 12 rfl rfl)
theorem dX0_pay_15 : decode cX0_pay 15 = .ok (.getfield 100, 3) := dk_180 0 100 (dk_at dksX0_pay_0 15 rfl rfl)
theorem dX0_pay_18 : decode cX0_pay 18 = .ok (.iload_n 1, 1) := dk_27 (dk_at dksX0_pay_0 18 rfl rfl)
theorem dX0_pay_19 : decode cX0_pay 19 = .ok (.aaload, 1) := dk_50 (dk_at dksX0_pay_0 19 rfl rfl)
theorem dX0_pay_20 : decode cX0_pay 20 = .ok (.astore_n 3, 1) := dk_78 (dk_at dksX0_pay_0 20 rfl rfl)
theorem dX0_pay_21 : decode cX0_pay 21 = .ok (.aload_n 0, 1) := dk_42 (dk_at dksX0_pay_0 21 rfl rfl)
theorem dX0_pay_22 : decode cX0_pay 22 = .ok (.invokevirtual 213, 3) := dk_182 0 213 (dk_at dksX0_pay_1 0 rfl rfl)
theorem dX0_pay_25 : decode cX0_pay 25 = .ok (.aload_n 3, 1) := dk_45 (dk_at dksX0_pay_1 3 rfl rfl)
theorem dX0_pay_26 : decode cX0_pay 26 = .ok (.iload_n 2, 1) := dk_28 (dk_at dksX0_pay_1 4 rfl rfl)
theorem dX0_pay_27 : decode cX0_pay 27 = .ok (.invokevirtual 217, 3) := dk_182 0 217 (dk_at dksX0_pay_1 5 rfl rfl)
theorem dX0_pay_30 : decode cX0_pay 30 = .ok (.ifCond .ne 8, 3) := dk_154 0 8 (dk_at dksX0_pay_1 8 rfl rfl)
theorem dX0_pay_33 : decode cX0_pay 33 = .ok (.bipush (-2), 2) := dk_16 254 (dk_at dksX0_pay_1 11 rfl rfl)
theorem dX0_pay_35 : decode cX0_pay 35 = .ok (.goto 20, 3) := dk_167 0 20 (dk_at dksX0_pay_1 13 rfl rfl)
theorem dX0_pay_38 : decode cX0_pay 38 = .ok (.aload_n 3, 1) := dk_45 (dk_at dksX0_pay_1 16 rfl rfl)
theorem dX0_pay_39 : decode cX0_pay 39 = .ok (.iload_n 2, 1) := dk_28 (dk_at dksX0_pay_1 17 rfl rfl)
theorem dX0_pay_40 : decode cX0_pay 40 = .ok (.invokevirtual 221, 3) := dk_182 0 221 (dk_at dksX0_pay_1 18 rfl rfl)
theorem dX0_pay_43 : decode cX0_pay 43 = .ok (.ifCond .eq 10, 3) := dk_153 0 10 (dk_at dksX0_pay_1 21 rfl rfl)
theorem dX0_pay_46 : decode cX0_pay 46 = .ok (.aload_n 3, 1) := dk_45 (dk_at dksX0_pay_2 0 rfl rfl)
theorem dX0_pay_47 : decode cX0_pay 47 = .ok (.getfield 104, 3) := dk_180 0 104 (dk_at dksX0_pay_2 1 rfl rfl)
theorem dX0_pay_50 : decode cX0_pay 50 = .ok (.goto 5, 3) := dk_167 0 5 (dk_at dksX0_pay_2 4 rfl rfl)
theorem dX0_pay_53 : decode cX0_pay 53 = .ok (.bipush (-4), 2) := dk_16 252 (dk_at dksX0_pay_2 7 rfl rfl)
theorem dX0_pay_55 : decode cX0_pay 55 = .ok (.ireturn, 1) := dk_172 (dk_at dksX0_pay_2 9 rfl rfl)
abbrev cX0_off : ByteArray := prog_1_method_24_code
def yX0_off : MethodName := ⟨RX0, "off", "()LDebtCoats$Outermost;"⟩
def dkwX0_off_0 : List UInt8 := [42, 180, 0, 16, 42, 180, 0, 25, 180, 0, 159, 3, 46, 50, 176]
abbrev dktX0_off_0 : List UInt8 := dkwX0_off_0 ++ []
theorem dksX0_off_0 : cX0_off.data.toList.drop 0 = dktX0_off_0 := by decide +kernel
theorem dX0_off_0 : decode cX0_off 0 = .ok (.aload_n 0, 1) := dk_42 (dk_at dksX0_off_0 0 rfl rfl)
theorem dX0_off_1 : decode cX0_off 1 = .ok (.getfield 16, 3) := dk_180 0 16 (dk_at dksX0_off_0 1 rfl rfl)
theorem dX0_off_4 : decode cX0_off 4 = .ok (.aload_n 0, 1) := dk_42 (dk_at dksX0_off_0 4 rfl rfl)
theorem dX0_off_5 : decode cX0_off 5 = .ok (.getfield 25, 3) := dk_180 0 25 (dk_at dksX0_off_0 5 rfl rfl)
theorem dX0_off_8 : decode cX0_off 8 = .ok (.getfield 159, 3) := dk_180 0 159 (dk_at dksX0_off_0 8 rfl rfl)
theorem dX0_off_11 : decode cX0_off 11 = .ok (.iconst 0, 1) := dk_3 (dk_at dksX0_off_0 11 rfl rfl)
theorem dX0_off_12 : decode cX0_off 12 = .ok (.iaload, 1) := dk_46 (dk_at dksX0_off_0 12 rfl rfl)
theorem dX0_off_13 : decode cX0_off 13 = .ok (.aaload, 1) := dk_50 (dk_at dksX0_off_0 13 rfl rfl)
theorem dX0_off_14 : decode cX0_off 14 = .ok (.areturn, 1) := dk_176 (dk_at dksX0_off_0 14 rfl rfl)
abbrev cX0_nights : ByteArray := prog_1_method_26_code
def yX0_nights : MethodName := ⟨RX0, "nights", "(I)I"⟩
def dkwX0_nights_2 : List UInt8 := [167, 255, 241, 42, 180, 0, 25, 180, 0, 162, 172]
abbrev dktX0_nights_2 : List UInt8 := dkwX0_nights_2 ++ []
def dkwX0_nights_1 : List UInt8 := [164, 0, 6, 16, 253, 172, 3, 61, 28, 27, 162, 0, 16, 42, 180, 0, 25, 182, 0, 224, 132, 2, 1]
abbrev dktX0_nights_1 : List UInt8 := dkwX0_nights_1 ++ dktX0_nights_2
def dkwX0_nights_0 : List UInt8 := [27, 4, 16, 60, 184, 0, 92, 154, 0, 5, 2, 172, 42, 180, 0, 25, 180, 0, 162, 27, 96, 17, 1, 103]
abbrev dktX0_nights_0 : List UInt8 := dkwX0_nights_0 ++ dktX0_nights_1
theorem dksX0_nights_0 : cX0_nights.data.toList.drop 0 = dktX0_nights_0 := by decide +kernel
theorem dksX0_nights_1 : cX0_nights.data.toList.drop 24 = dktX0_nights_1 := dk_seg dksX0_nights_0 24 rfl rfl
theorem dksX0_nights_2 : cX0_nights.data.toList.drop 47 = dktX0_nights_2 := dk_seg dksX0_nights_1 23 rfl rfl
theorem dX0_nights_0 : decode cX0_nights 0 = .ok (.iload_n 1, 1) := dk_27 (dk_at dksX0_nights_0 0 rfl rfl)
theorem dX0_nights_1 : decode cX0_nights 1 = .ok (.iconst 1, 1) := dk_4 (dk_at dksX0_nights_0 1 rfl rfl)
theorem dX0_nights_2 : decode cX0_nights 2 = .ok (.bipush 60, 2) := dk_16 60 (dk_at dksX0_nights_0 2 rfl rfl)
theorem dX0_nights_4 : decode cX0_nights 4 = .ok (.invokestatic 92, 3) := dk_184 0 92 (dk_at dksX0_nights_0 4 rfl rfl)
theorem dX0_nights_7 : decode cX0_nights 7 = .ok (.ifCond .ne 5, 3) := dk_154 0 5 (dk_at dksX0_nights_0 7 rfl rfl)
theorem dX0_nights_10 : decode cX0_nights 10 = .ok (.iconst (-1), 1) := dk_2 (dk_at dksX0_nights_0 10 rfl rfl)
theorem dX0_nights_11 : decode cX0_nights 11 = .ok (.ireturn, 1) := dk_172 (dk_at dksX0_nights_0 11 rfl rfl)
theorem dX0_nights_12 : decode cX0_nights 12 = .ok (.aload_n 0, 1) := dk_42 (dk_at dksX0_nights_0 12 rfl rfl)
theorem dX0_nights_13 : decode cX0_nights 13 = .ok (.getfield 25, 3) := dk_180 0 25 (dk_at dksX0_nights_0 13 rfl rfl)
theorem dX0_nights_16 : decode cX0_nights 16 = .ok (.getfield 162, 3) := dk_180 0 162 (dk_at dksX0_nights_0 16 rfl rfl)
theorem dX0_nights_19 : decode cX0_nights 19 = .ok (.iload_n 1, 1) := dk_27 (dk_at dksX0_nights_0 19 rfl rfl)
theorem dX0_nights_20 : decode cX0_nights 20 = .ok (.iadd, 1) := dk_96 (dk_at dksX0_nights_0 20 rfl rfl)
theorem dX0_nights_21 : decode cX0_nights 21 = .ok (.sipush 359, 3) := dk_17 1 103 (dk_at dksX0_nights_0 21 rfl rfl)
theorem dX0_nights_24 : decode cX0_nights 24 = .ok (.if_icmp .le 6, 3) := dk_164 0 6 (dk_at dksX0_nights_1 0 rfl rfl)
theorem dX0_nights_27 : decode cX0_nights 27 = .ok (.bipush (-3), 2) := dk_16 253 (dk_at dksX0_nights_1 3 rfl rfl)
theorem dX0_nights_29 : decode cX0_nights 29 = .ok (.ireturn, 1) := dk_172 (dk_at dksX0_nights_1 5 rfl rfl)
theorem dX0_nights_30 : decode cX0_nights 30 = .ok (.iconst 0, 1) := dk_3 (dk_at dksX0_nights_1 6 rfl rfl)
theorem dX0_nights_31 : decode cX0_nights 31 = .ok (.istore_n 2, 1) := dk_61 (dk_at dksX0_nights_1 7 rfl rfl)
theorem dX0_nights_32 : decode cX0_nights 32 = .ok (.iload_n 2, 1) := dk_28 (dk_at dksX0_nights_1 8 rfl rfl)
theorem dX0_nights_33 : decode cX0_nights 33 = .ok (.iload_n 1, 1) := dk_27 (dk_at dksX0_nights_1 9 rfl rfl)
theorem dX0_nights_34 : decode cX0_nights 34 = .ok (.if_icmp .ge 16, 3) := dk_162 0 16 (dk_at dksX0_nights_1 10 rfl rfl)
theorem dX0_nights_37 : decode cX0_nights 37 = .ok (.aload_n 0, 1) := dk_42 (dk_at dksX0_nights_1 13 rfl rfl)
theorem dX0_nights_38 : decode cX0_nights 38 = .ok (.getfield 25, 3) := dk_180 0 25 (dk_at dksX0_nights_1 14 rfl rfl)
theorem dX0_nights_41 : decode cX0_nights 41 = .ok (.invokevirtual 224, 3) := dk_182 0 224 (dk_at dksX0_nights_1 17 rfl rfl)
theorem dX0_nights_44 : decode cX0_nights 44 = .ok (.iinc 2 1, 3) := dk_132 2 1 (dk_at dksX0_nights_1 20 rfl rfl)
theorem dX0_nights_47 : decode cX0_nights 47 = .ok (.goto (-15), 3) := dk_167 255 241 (dk_at dksX0_nights_2 0 rfl rfl)
theorem dX0_nights_50 : decode cX0_nights 50 = .ok (.aload_n 0, 1) := dk_42 (dk_at dksX0_nights_2 3 rfl rfl)
theorem dX0_nights_51 : decode cX0_nights 51 = .ok (.getfield 25, 3) := dk_180 0 25 (dk_at dksX0_nights_2 4 rfl rfl)
theorem dX0_nights_54 : decode cX0_nights 54 = .ok (.getfield 162, 3) := dk_180 0 162 (dk_at dksX0_nights_2 7 rfl rfl)
theorem dX0_nights_57 : decode cX0_nights 57 = .ok (.ireturn, 1) := dk_172 (dk_at dksX0_nights_2 10 rfl rfl)
abbrev cX0_cut : ByteArray := prog_1_method_28_code
def yX0_cut : MethodName := ⟨RX0, "cut", "(II)I"⟩
def dkwX0_cut_3 : List UInt8 := [182, 0, 230, 42, 180, 0, 25, 180, 0, 100, 27, 50, 180, 0, 104, 172]
abbrev dktX0_cut_3 : List UInt8 := dkwX0_cut_3 ++ []
def dkwX0_cut_2 : List UInt8 := [180, 0, 25, 89, 180, 0, 165, 4, 96, 181, 0, 165, 42, 180, 0, 25, 180, 0, 100, 27, 50, 28]
abbrev dktX0_cut_2 : List UInt8 := dkwX0_cut_2 ++ dktX0_cut_3
def dkwX0_cut_1 : List UInt8 := [180, 0, 25, 180, 0, 165, 42, 180, 0, 25, 180, 0, 159, 4, 46, 161, 0, 6, 16, 252, 172, 42]
abbrev dktX0_cut_1 : List UInt8 := dkwX0_cut_1 ++ dktX0_cut_2
def dkwX0_cut_0 : List UInt8 := [42, 27, 28, 182, 0, 143, 154, 0, 5, 2, 172, 42, 27, 28, 182, 0, 227, 154, 0, 6, 16, 254, 172, 42]
abbrev dktX0_cut_0 : List UInt8 := dkwX0_cut_0 ++ dktX0_cut_1
theorem dksX0_cut_0 : cX0_cut.data.toList.drop 0 = dktX0_cut_0 := by decide +kernel
theorem dksX0_cut_1 : cX0_cut.data.toList.drop 24 = dktX0_cut_1 := dk_seg dksX0_cut_0 24 rfl rfl
theorem dksX0_cut_2 : cX0_cut.data.toList.drop 46 = dktX0_cut_2 := dk_seg dksX0_cut_1 22 rfl rfl
theorem dksX0_cut_3 : cX0_cut.data.toList.drop 68 = dktX0_cut_3 := dk_seg dksX0_cut_2 22 rfl rfl
theorem dX0_cut_0 : decode cX0_cut 0 = .ok (.aload_n 0, 1) := dk_42 (dk_at dksX0_cut_0 0 rfl rfl)
theorem dX0_cut_1 : decode cX0_cut 1 = .ok (.iload_n 1, 1) := dk_27 (dk_at dksX0_cut_0 1 rfl rfl)
theorem dX0_cut_2 : decode cX0_cut 2 = .ok (.iload_n 2, 1) := dk_28 (dk_at dksX0_cut_0 2 rfl rfl)
theorem dX0_cut_3 : decode cX0_cut 3 = .ok (.invokevirtual 143, 3) := dk_182 0 143 (dk_at dksX0_cut_0 3 rfl rfl)
theorem dX0_cut_6 : decode cX0_cut 6 = .ok (.ifCond .ne 5, 3) := dk_154 0 5 (dk_at dksX0_cut_0 6 rfl rfl)
theorem dX0_cut_9 : decode cX0_cut 9 = .ok (.iconst (-1), 1) := dk_2 (dk_at dksX0_cut_0 9 rfl rfl)
theorem dX0_cut_10 : decode cX0_cut 10 = .ok (.ireturn, 1) := dk_172 (dk_at dksX0_cut_0 10 rfl rfl)
theorem dX0_cut_11 : decode cX0_cut 11 = .ok (.aload_n 0, 1) := dk_42 (dk_at dksX0_cut_0 11 rfl rfl)
theorem dX0_cut_12 : decode cX0_cut 12 = .ok (.iload_n 1, 1) := dk_27 (dk_at dksX0_cut_0 12 rfl rfl)
theorem dX0_cut_13 : decode cX0_cut 13 = .ok (.iload_n 2, 1) := dk_28 (dk_at dksX0_cut_0 13 rfl rfl)
theorem dX0_cut_14 : decode cX0_cut 14 = .ok (.invokevirtual 227, 3) := dk_182 0 227 (dk_at dksX0_cut_0 14 rfl rfl)
theorem dX0_cut_17 : decode cX0_cut 17 = .ok (.ifCond .ne 6, 3) := dk_154 0 6 (dk_at dksX0_cut_0 17 rfl rfl)
theorem dX0_cut_20 : decode cX0_cut 20 = .ok (.bipush (-2), 2) := dk_16 254 (dk_at dksX0_cut_0 20 rfl rfl)
theorem dX0_cut_22 : decode cX0_cut 22 = .ok (.ireturn, 1) := dk_172 (dk_at dksX0_cut_0 22 rfl rfl)
theorem dX0_cut_23 : decode cX0_cut 23 = .ok (.aload_n 0, 1) := dk_42 (dk_at dksX0_cut_0 23 rfl rfl)
theorem dX0_cut_24 : decode cX0_cut 24 = .ok (.getfield 25, 3) := dk_180 0 25 (dk_at dksX0_cut_1 0 rfl rfl)
theorem dX0_cut_27 : decode cX0_cut 27 = .ok (.getfield 165, 3) := dk_180 0 165 (dk_at dksX0_cut_1 3 rfl rfl)
theorem dX0_cut_30 : decode cX0_cut 30 = .ok (.aload_n 0, 1) := dk_42 (dk_at dksX0_cut_1 6 rfl rfl)
theorem dX0_cut_31 : decode cX0_cut 31 = .ok (.getfield 25, 3) := dk_180 0 25 (dk_at dksX0_cut_1 7 rfl rfl)
theorem dX0_cut_34 : decode cX0_cut 34 = .ok (.getfield 159, 3) := dk_180 0 159 (dk_at dksX0_cut_1 10 rfl rfl)
theorem dX0_cut_37 : decode cX0_cut 37 = .ok (.iconst 1, 1) := dk_4 (dk_at dksX0_cut_1 13 rfl rfl)
theorem dX0_cut_38 : decode cX0_cut 38 = .ok (.iaload, 1) := dk_46 (dk_at dksX0_cut_1 14 rfl rfl)
theorem dX0_cut_39 : decode cX0_cut 39 = .ok (.if_icmp .lt 6, 3) := dk_161 0 6 (dk_at dksX0_cut_1 15 rfl rfl)
theorem dX0_cut_42 : decode cX0_cut 42 = .ok (.bipush (-4), 2) := dk_16 252 (dk_at dksX0_cut_1 18 rfl rfl)
theorem dX0_cut_44 : decode cX0_cut 44 = .ok (.ireturn, 1) := dk_172 (dk_at dksX0_cut_1 20 rfl rfl)
theorem dX0_cut_45 : decode cX0_cut 45 = .ok (.aload_n 0, 1) := dk_42 (dk_at dksX0_cut_1 21 rfl rfl)
theorem dX0_cut_46 : decode cX0_cut 46 = .ok (.getfield 25, 3) := dk_180 0 25 (dk_at dksX0_cut_2 0 rfl rfl)
theorem dX0_cut_49 : decode cX0_cut 49 = .ok (.dup, 1) := dk_89 (dk_at dksX0_cut_2 3 rfl rfl)
theorem dX0_cut_50 : decode cX0_cut 50 = .ok (.getfield 165, 3) := dk_180 0 165 (dk_at dksX0_cut_2 4 rfl rfl)
theorem dX0_cut_53 : decode cX0_cut 53 = .ok (.iconst 1, 1) := dk_4 (dk_at dksX0_cut_2 7 rfl rfl)
theorem dX0_cut_54 : decode cX0_cut 54 = .ok (.iadd, 1) := dk_96 (dk_at dksX0_cut_2 8 rfl rfl)
theorem dX0_cut_55 : decode cX0_cut 55 = .ok (.putfield 165, 3) := dk_181 0 165 (dk_at dksX0_cut_2 9 rfl rfl)
theorem dX0_cut_58 : decode cX0_cut 58 = .ok (.aload_n 0, 1) := dk_42 (dk_at dksX0_cut_2 12 rfl rfl)
theorem dX0_cut_59 : decode cX0_cut 59 = .ok (.getfield 25, 3) := dk_180 0 25 (dk_at dksX0_cut_2 13 rfl rfl)
theorem dX0_cut_62 : decode cX0_cut 62 = .ok (.getfield 100, 3) := dk_180 0 100 (dk_at dksX0_cut_2 16 rfl rfl)
theorem dX0_cut_65 : decode cX0_cut 65 = .ok (.iload_n 1, 1) := dk_27 (dk_at dksX0_cut_2 19 rfl rfl)
theorem dX0_cut_66 : decode cX0_cut 66 = .ok (.aaload, 1) := dk_50 (dk_at dksX0_cut_2 20 rfl rfl)
theorem dX0_cut_67 : decode cX0_cut 67 = .ok (.iload_n 2, 1) := dk_28 (dk_at dksX0_cut_2 21 rfl rfl)
theorem dX0_cut_68 : decode cX0_cut 68 = .ok (.invokevirtual 230, 3) := dk_182 0 230 (dk_at dksX0_cut_3 0 rfl rfl)
theorem dX0_cut_71 : decode cX0_cut 71 = .ok (.aload_n 0, 1) := dk_42 (dk_at dksX0_cut_3 3 rfl rfl)
theorem dX0_cut_72 : decode cX0_cut 72 = .ok (.getfield 25, 3) := dk_180 0 25 (dk_at dksX0_cut_3 4 rfl rfl)
theorem dX0_cut_75 : decode cX0_cut 75 = .ok (.getfield 100, 3) := dk_180 0 100 (dk_at dksX0_cut_3 7 rfl rfl)
theorem dX0_cut_78 : decode cX0_cut 78 = .ok (.iload_n 1, 1) := dk_27 (dk_at dksX0_cut_3 10 rfl rfl)
theorem dX0_cut_79 : decode cX0_cut 79 = .ok (.aaload, 1) := dk_50 (dk_at dksX0_cut_3 11 rfl rfl)
theorem dX0_cut_80 : decode cX0_cut 80 = .ok (.getfield 104, 3) := dk_180 0 104 (dk_at dksX0_cut_3 12 rfl rfl)
theorem dX0_cut_83 : decode cX0_cut 83 = .ok (.ireturn, 1) := dk_172 (dk_at dksX0_cut_3 15 rfl rfl)
abbrev cX0_isBetween : ByteArray := prog_1_method_27_code
def yX0_isBetween : MethodName := ⟨RX0, "isBetween", "(II)Z"⟩
def dkwX0_isBetween_0 : List UInt8 := [28, 4, 42, 180, 0, 25, 180, 0, 100, 27, 50, 180, 0, 104, 5, 100, 184, 0, 92, 172]
abbrev dktX0_isBetween_0 : List UInt8 := dkwX0_isBetween_0 ++ []
theorem dksX0_isBetween_0 : cX0_isBetween.data.toList.drop 0 = dktX0_isBetween_0 := by decide +kernel
theorem dX0_isBetween_0 : decode cX0_isBetween 0 = .ok (.iload_n 2, 1) := dk_28 (dk_at dksX0_isBetween_0 0 rfl rfl)
theorem dX0_isBetween_1 : decode cX0_isBetween 1 = .ok (.iconst 1, 1) := dk_4 (dk_at dksX0_isBetween_0 1 rfl rfl)
theorem dX0_isBetween_2 : decode cX0_isBetween 2 = .ok (.aload_n 0, 1) := dk_42 (dk_at dksX0_isBetween_0 2 rfl rfl)
theorem dX0_isBetween_3 : decode cX0_isBetween 3 = .ok (.getfield 25, 3) := dk_180 0 25 (dk_at dksX0_isBetween_0 3 rfl rfl)
theorem dX0_isBetween_6 : decode cX0_isBetween 6 = .ok (.getfield 100, 3) := dk_180 0 100 (dk_at dksX0_isBetween_0 6 rfl rfl)
theorem dX0_isBetween_9 : decode cX0_isBetween 9 = .ok (.iload_n 1, 1) := dk_27 (dk_at dksX0_isBetween_0 9 rfl rfl)
theorem dX0_isBetween_10 : decode cX0_isBetween 10 = .ok (.aaload, 1) := dk_50 (dk_at dksX0_isBetween_0 10 rfl rfl)
theorem dX0_isBetween_11 : decode cX0_isBetween 11 = .ok (.getfield 104, 3) := dk_180 0 104 (dk_at dksX0_isBetween_0 11 rfl rfl)
theorem dX0_isBetween_14 : decode cX0_isBetween 14 = .ok (.iconst 2, 1) := dk_5 (dk_at dksX0_isBetween_0 14 rfl rfl)
theorem dX0_isBetween_15 : decode cX0_isBetween 15 = .ok (.isub, 1) := dk_100 (dk_at dksX0_isBetween_0 15 rfl rfl)
theorem dX0_isBetween_16 : decode cX0_isBetween 16 = .ok (.invokestatic 92, 3) := dk_184 0 92 (dk_at dksX0_isBetween_0 16 rfl rfl)
theorem dX0_isBetween_19 : decode cX0_isBetween 19 = .ok (.ireturn, 1) := dk_172 (dk_at dksX0_isBetween_0 19 rfl rfl)
abbrev cX0_ring : ByteArray := prog_1_method_33_code
def yX0_ring : MethodName := ⟨RX0, "ring", "(III)I"⟩
def dkwX0_ring_6 : List UInt8 := [42, 180, 0, 56, 182, 0, 244, 42, 27, 42, 180, 0, 56, 182, 0, 244, 21, 4, 172]
abbrev dktX0_ring_6 : List UInt8 := dkwX0_ring_6 ++ []
def dkwX0_ring_5 : List UInt8 := [42, 180, 0, 56, 3, 7, 184, 0, 206, 42, 28, 42, 180, 0, 56, 182, 0, 244, 29, 155, 0, 12, 42, 29]
abbrev dktX0_ring_5 : List UInt8 := dkwX0_ring_5 ++ dktX0_ring_6
def dkwX0_ring_4 : List UInt8 := [180, 0, 100, 27, 50, 180, 0, 147, 7, 42, 180, 0, 25, 180, 0, 100, 27, 50, 180, 0, 104, 4, 100, 104]
abbrev dktX0_ring_4 : List UInt8 := dkwX0_ring_4 ++ dktX0_ring_5
def dkwX0_ring_3 : List UInt8 := [16, 254, 172, 42, 27, 28, 29, 182, 0, 240, 54, 4, 21, 4, 156, 0, 6, 16, 252, 172, 42, 180, 0, 25]
abbrev dktX0_ring_3 : List UInt8 := dkwX0_ring_3 ++ dktX0_ring_4
def dkwX0_ring_2 : List UInt8 := [27, 182, 0, 237, 154, 0, 19, 42, 28, 182, 0, 237, 154, 0, 11, 42, 29, 182, 0, 237, 153, 0, 6]
abbrev dktX0_ring_2 : List UInt8 := dkwX0_ring_2 ++ dktX0_ring_3
def dkwX0_ring_1 : List UInt8 := [159, 0, 23, 42, 29, 182, 0, 96, 153, 0, 13, 29, 27, 159, 0, 8, 29, 28, 160, 0, 5, 2, 172, 42]
abbrev dktX0_ring_1 : List UInt8 := dkwX0_ring_1 ++ dktX0_ring_2
def dkwX0_ring_0 : List UInt8 := [42, 27, 182, 0, 96, 153, 0, 39, 42, 28, 182, 0, 96, 153, 0, 31, 27, 28, 159, 0, 26, 29, 2]
abbrev dktX0_ring_0 : List UInt8 := dkwX0_ring_0 ++ dktX0_ring_1
theorem dksX0_ring_0 : cX0_ring.data.toList.drop 0 = dktX0_ring_0 := by decide +kernel
theorem dksX0_ring_1 : cX0_ring.data.toList.drop 23 = dktX0_ring_1 := dk_seg dksX0_ring_0 23 rfl rfl
theorem dksX0_ring_2 : cX0_ring.data.toList.drop 47 = dktX0_ring_2 := dk_seg dksX0_ring_1 24 rfl rfl
theorem dksX0_ring_3 : cX0_ring.data.toList.drop 70 = dktX0_ring_3 := dk_seg dksX0_ring_2 23 rfl rfl
theorem dksX0_ring_4 : cX0_ring.data.toList.drop 94 = dktX0_ring_4 := dk_seg dksX0_ring_3 24 rfl rfl
theorem dksX0_ring_5 : cX0_ring.data.toList.drop 118 = dktX0_ring_5 := dk_seg dksX0_ring_4 24 rfl rfl
theorem dksX0_ring_6 : cX0_ring.data.toList.drop 142 = dktX0_ring_6 := dk_seg dksX0_ring_5 24 rfl rfl
theorem dX0_ring_0 : decode cX0_ring 0 = .ok (.aload_n 0, 1) := dk_42 (dk_at dksX0_ring_0 0 rfl rfl)
theorem dX0_ring_1 : decode cX0_ring 1 = .ok (.iload_n 1, 1) := dk_27 (dk_at dksX0_ring_0 1 rfl rfl)
theorem dX0_ring_2 : decode cX0_ring 2 = .ok (.invokevirtual 96, 3) := dk_182 0 96 (dk_at dksX0_ring_0 2 rfl rfl)
theorem dX0_ring_5 : decode cX0_ring 5 = .ok (.ifCond .eq 39, 3) := dk_153 0 39 (dk_at dksX0_ring_0 5 rfl rfl)
theorem dX0_ring_8 : decode cX0_ring 8 = .ok (.aload_n 0, 1) := dk_42 (dk_at dksX0_ring_0 8 rfl rfl)
theorem dX0_ring_9 : decode cX0_ring 9 = .ok (.iload_n 2, 1) := dk_28 (dk_at dksX0_ring_0 9 rfl rfl)
theorem dX0_ring_10 : decode cX0_ring 10 = .ok (.invokevirtual 96, 3) := dk_182 0 96 (dk_at dksX0_ring_0 10 rfl rfl)
theorem dX0_ring_13 : decode cX0_ring 13 = .ok (.ifCond .eq 31, 3) := dk_153 0 31 (dk_at dksX0_ring_0 13 rfl rfl)
theorem dX0_ring_16 : decode cX0_ring 16 = .ok (.iload_n 1, 1) := dk_27 (dk_at dksX0_ring_0 16 rfl rfl)
theorem dX0_ring_17 : decode cX0_ring 17 = .ok (.iload_n 2, 1) := dk_28 (dk_at dksX0_ring_0 17 rfl rfl)
theorem dX0_ring_18 : decode cX0_ring 18 = .ok (.if_icmp .eq 26, 3) := dk_159 0 26 (dk_at dksX0_ring_0 18 rfl rfl)
theorem dX0_ring_21 : decode cX0_ring 21 = .ok (.iload_n 3, 1) := dk_29 (dk_at dksX0_ring_0 21 rfl rfl)
theorem dX0_ring_22 : decode cX0_ring 22 = .ok (.iconst (-1), 1) := dk_2 (dk_at dksX0_ring_0 22 rfl rfl)
theorem dX0_ring_23 : decode cX0_ring 23 = .ok (.if_icmp .eq 23, 3) := dk_159 0 23 (dk_at dksX0_ring_1 0 rfl rfl)
theorem dX0_ring_26 : decode cX0_ring 26 = .ok (.aload_n 0, 1) := dk_42 (dk_at dksX0_ring_1 3 rfl rfl)
theorem dX0_ring_27 : decode cX0_ring 27 = .ok (.iload_n 3, 1) := dk_29 (dk_at dksX0_ring_1 4 rfl rfl)
theorem dX0_ring_28 : decode cX0_ring 28 = .ok (.invokevirtual 96, 3) := dk_182 0 96 (dk_at dksX0_ring_1 5 rfl rfl)
theorem dX0_ring_31 : decode cX0_ring 31 = .ok (.ifCond .eq 13, 3) := dk_153 0 13 (dk_at dksX0_ring_1 8 rfl rfl)
theorem dX0_ring_34 : decode cX0_ring 34 = .ok (.iload_n 3, 1) := dk_29 (dk_at dksX0_ring_1 11 rfl rfl)
theorem dX0_ring_35 : decode cX0_ring 35 = .ok (.iload_n 1, 1) := dk_27 (dk_at dksX0_ring_1 12 rfl rfl)
theorem dX0_ring_36 : decode cX0_ring 36 = .ok (.if_icmp .eq 8, 3) := dk_159 0 8 (dk_at dksX0_ring_1 13 rfl rfl)
theorem dX0_ring_39 : decode cX0_ring 39 = .ok (.iload_n 3, 1) := dk_29 (dk_at dksX0_ring_1 16 rfl rfl)
theorem dX0_ring_40 : decode cX0_ring 40 = .ok (.iload_n 2, 1) := dk_28 (dk_at dksX0_ring_1 17 rfl rfl)
theorem dX0_ring_41 : decode cX0_ring 41 = .ok (.if_icmp .ne 5, 3) := dk_160 0 5 (dk_at dksX0_ring_1 18 rfl rfl)
theorem dX0_ring_44 : decode cX0_ring 44 = .ok (.iconst (-1), 1) := dk_2 (dk_at dksX0_ring_1 21 rfl rfl)
theorem dX0_ring_45 : decode cX0_ring 45 = .ok (.ireturn, 1) := dk_172 (dk_at dksX0_ring_1 22 rfl rfl)
theorem dX0_ring_46 : decode cX0_ring 46 = .ok (.aload_n 0, 1) := dk_42 (dk_at dksX0_ring_1 23 rfl rfl)
theorem dX0_ring_47 : decode cX0_ring 47 = .ok (.iload_n 1, 1) := dk_27 (dk_at dksX0_ring_2 0 rfl rfl)
theorem dX0_ring_48 : decode cX0_ring 48 = .ok (.invokevirtual 237, 3) := dk_182 0 237 (dk_at dksX0_ring_2 1 rfl rfl)
theorem dX0_ring_51 : decode cX0_ring 51 = .ok (.ifCond .ne 19, 3) := dk_154 0 19 (dk_at dksX0_ring_2 4 rfl rfl)
theorem dX0_ring_54 : decode cX0_ring 54 = .ok (.aload_n 0, 1) := dk_42 (dk_at dksX0_ring_2 7 rfl rfl)
theorem dX0_ring_55 : decode cX0_ring 55 = .ok (.iload_n 2, 1) := dk_28 (dk_at dksX0_ring_2 8 rfl rfl)
theorem dX0_ring_56 : decode cX0_ring 56 = .ok (.invokevirtual 237, 3) := dk_182 0 237 (dk_at dksX0_ring_2 9 rfl rfl)
theorem dX0_ring_59 : decode cX0_ring 59 = .ok (.ifCond .ne 11, 3) := dk_154 0 11 (dk_at dksX0_ring_2 12 rfl rfl)
theorem dX0_ring_62 : decode cX0_ring 62 = .ok (.aload_n 0, 1) := dk_42 (dk_at dksX0_ring_2 15 rfl rfl)
theorem dX0_ring_63 : decode cX0_ring 63 = .ok (.iload_n 3, 1) := dk_29 (dk_at dksX0_ring_2 16 rfl rfl)
theorem dX0_ring_64 : decode cX0_ring 64 = .ok (.invokevirtual 237, 3) := dk_182 0 237 (dk_at dksX0_ring_2 17 rfl rfl)
theorem dX0_ring_67 : decode cX0_ring 67 = .ok (.ifCond .eq 6, 3) := dk_153 0 6 (dk_at dksX0_ring_2 20 rfl rfl)
theorem dX0_ring_70 : decode cX0_ring 70 = .ok (.bipush (-2), 2) := dk_16 254 (dk_at dksX0_ring_3 0 rfl rfl)
theorem dX0_ring_72 : decode cX0_ring 72 = .ok (.ireturn, 1) := dk_172 (dk_at dksX0_ring_3 2 rfl rfl)
theorem dX0_ring_73 : decode cX0_ring 73 = .ok (.aload_n 0, 1) := dk_42 (dk_at dksX0_ring_3 3 rfl rfl)
theorem dX0_ring_74 : decode cX0_ring 74 = .ok (.iload_n 1, 1) := dk_27 (dk_at dksX0_ring_3 4 rfl rfl)
theorem dX0_ring_75 : decode cX0_ring 75 = .ok (.iload_n 2, 1) := dk_28 (dk_at dksX0_ring_3 5 rfl rfl)
theorem dX0_ring_76 : decode cX0_ring 76 = .ok (.iload_n 3, 1) := dk_29 (dk_at dksX0_ring_3 6 rfl rfl)
theorem dX0_ring_77 : decode cX0_ring 77 = .ok (.invokevirtual 240, 3) := dk_182 0 240 (dk_at dksX0_ring_3 7 rfl rfl)
theorem dX0_ring_80 : decode cX0_ring 80 = .ok (.istore 4, 2) := dk_54 4 (dk_at dksX0_ring_3 10 rfl rfl)
theorem dX0_ring_82 : decode cX0_ring 82 = .ok (.iload 4, 2) := dk_21 4 (dk_at dksX0_ring_3 12 rfl rfl)
theorem dX0_ring_84 : decode cX0_ring 84 = .ok (.ifCond .ge 6, 3) := dk_156 0 6 (dk_at dksX0_ring_3 14 rfl rfl)
theorem dX0_ring_87 : decode cX0_ring 87 = .ok (.bipush (-4), 2) := dk_16 252 (dk_at dksX0_ring_3 17 rfl rfl)
theorem dX0_ring_89 : decode cX0_ring 89 = .ok (.ireturn, 1) := dk_172 (dk_at dksX0_ring_3 19 rfl rfl)
theorem dX0_ring_90 : decode cX0_ring 90 = .ok (.aload_n 0, 1) := dk_42 (dk_at dksX0_ring_3 20 rfl rfl)
theorem dX0_ring_91 : decode cX0_ring 91 = .ok (.getfield 25, 3) := dk_180 0 25 (dk_at dksX0_ring_3 21 rfl rfl)
theorem dX0_ring_94 : decode cX0_ring 94 = .ok (.getfield 100, 3) := dk_180 0 100 (dk_at dksX0_ring_4 0 rfl rfl)
theorem dX0_ring_97 : decode cX0_ring 97 = .ok (.iload_n 1, 1) := dk_27 (dk_at dksX0_ring_4 3 rfl rfl)
theorem dX0_ring_98 : decode cX0_ring 98 = .ok (.aaload, 1) := dk_50 (dk_at dksX0_ring_4 4 rfl rfl)
theorem dX0_ring_99 : decode cX0_ring 99 = .ok (.getfield 147, 3) := dk_180 0 147 (dk_at dksX0_ring_4 5 rfl rfl)
theorem dX0_ring_102 : decode cX0_ring 102 = .ok (.iconst 4, 1) := dk_7 (dk_at dksX0_ring_4 8 rfl rfl)
theorem dX0_ring_103 : decode cX0_ring 103 = .ok (.aload_n 0, 1) := dk_42 (dk_at dksX0_ring_4 9 rfl rfl)
theorem dX0_ring_104 : decode cX0_ring 104 = .ok (.getfield 25, 3) := dk_180 0 25 (dk_at dksX0_ring_4 10 rfl rfl)
theorem dX0_ring_107 : decode cX0_ring 107 = .ok (.getfield 100, 3) := dk_180 0 100 (dk_at dksX0_ring_4 13 rfl rfl)
theorem dX0_ring_110 : decode cX0_ring 110 = .ok (.iload_n 1, 1) := dk_27 (dk_at dksX0_ring_4 16 rfl rfl)
theorem dX0_ring_111 : decode cX0_ring 111 = .ok (.aaload, 1) := dk_50 (dk_at dksX0_ring_4 17 rfl rfl)
theorem dX0_ring_112 : decode cX0_ring 112 = .ok (.getfield 104, 3) := dk_180 0 104 (dk_at dksX0_ring_4 18 rfl rfl)
theorem dX0_ring_115 : decode cX0_ring 115 = .ok (.iconst 1, 1) := dk_4 (dk_at dksX0_ring_4 21 rfl rfl)
theorem dX0_ring_116 : decode cX0_ring 116 = .ok (.isub, 1) := dk_100 (dk_at dksX0_ring_4 22 rfl rfl)
theorem dX0_ring_117 : decode cX0_ring 117 = .ok (.imul, 1) := dk_104 (dk_at dksX0_ring_4 23 rfl rfl)
theorem dX0_ring_118 : decode cX0_ring 118 = .ok (.aload_n 0, 1) := dk_42 (dk_at dksX0_ring_5 0 rfl rfl)
theorem dX0_ring_119 : decode cX0_ring 119 = .ok (.getfield 56, 3) := dk_180 0 56 (dk_at dksX0_ring_5 1 rfl rfl)
theorem dX0_ring_122 : decode cX0_ring 122 = .ok (.iconst 0, 1) := dk_3 (dk_at dksX0_ring_5 4 rfl rfl)
theorem dX0_ring_123 : decode cX0_ring 123 = .ok (.iconst 4, 1) := dk_7 (dk_at dksX0_ring_5 5 rfl rfl)
theorem dX0_ring_124 : decode cX0_ring 124 = .ok (.invokestatic 206, 3) := dk_184 0 206 (dk_at dksX0_ring_5 6 rfl rfl)
theorem dX0_ring_127 : decode cX0_ring 127 = .ok (.aload_n 0, 1) := dk_42 (dk_at dksX0_ring_5 9 rfl rfl)
theorem dX0_ring_128 : decode cX0_ring 128 = .ok (.iload_n 2, 1) := dk_28 (dk_at dksX0_ring_5 10 rfl rfl)
theorem dX0_ring_129 : decode cX0_ring 129 = .ok (.aload_n 0, 1) := dk_42 (dk_at dksX0_ring_5 11 rfl rfl)
theorem dX0_ring_130 : decode cX0_ring 130 = .ok (.getfield 56, 3) := dk_180 0 56 (dk_at dksX0_ring_5 12 rfl rfl)
theorem dX0_ring_133 : decode cX0_ring 133 = .ok (.invokevirtual 244, 3) := dk_182 0 244 (dk_at dksX0_ring_5 15 rfl rfl)
theorem dX0_ring_136 : decode cX0_ring 136 = .ok (.iload_n 3, 1) := dk_29 (dk_at dksX0_ring_5 18 rfl rfl)
theorem dX0_ring_137 : decode cX0_ring 137 = .ok (.ifCond .lt 12, 3) := dk_155 0 12 (dk_at dksX0_ring_5 19 rfl rfl)
theorem dX0_ring_140 : decode cX0_ring 140 = .ok (.aload_n 0, 1) := dk_42 (dk_at dksX0_ring_5 22 rfl rfl)
theorem dX0_ring_141 : decode cX0_ring 141 = .ok (.iload_n 3, 1) := dk_29 (dk_at dksX0_ring_5 23 rfl rfl)
theorem dX0_ring_142 : decode cX0_ring 142 = .ok (.aload_n 0, 1) := dk_42 (dk_at dksX0_ring_6 0 rfl rfl)
theorem dX0_ring_143 : decode cX0_ring 143 = .ok (.getfield 56, 3) := dk_180 0 56 (dk_at dksX0_ring_6 1 rfl rfl)
theorem dX0_ring_146 : decode cX0_ring 146 = .ok (.invokevirtual 244, 3) := dk_182 0 244 (dk_at dksX0_ring_6 4 rfl rfl)
theorem dX0_ring_149 : decode cX0_ring 149 = .ok (.aload_n 0, 1) := dk_42 (dk_at dksX0_ring_6 7 rfl rfl)
theorem dX0_ring_150 : decode cX0_ring 150 = .ok (.iload_n 1, 1) := dk_27 (dk_at dksX0_ring_6 8 rfl rfl)
theorem dX0_ring_151 : decode cX0_ring 151 = .ok (.aload_n 0, 1) := dk_42 (dk_at dksX0_ring_6 9 rfl rfl)
theorem dX0_ring_152 : decode cX0_ring 152 = .ok (.getfield 56, 3) := dk_180 0 56 (dk_at dksX0_ring_6 10 rfl rfl)
theorem dX0_ring_155 : decode cX0_ring 155 = .ok (.invokevirtual 244, 3) := dk_182 0 244 (dk_at dksX0_ring_6 13 rfl rfl)
theorem dX0_ring_158 : decode cX0_ring 158 = .ok (.iload 4, 2) := dk_21 4 (dk_at dksX0_ring_6 16 rfl rfl)
theorem dX0_ring_160 : decode cX0_ring 160 = .ok (.ireturn, 1) := dk_172 (dk_at dksX0_ring_6 18 rfl rfl)
abbrev cX0_isBare : ByteArray := prog_1_method_31_code
def yX0_isBare : MethodName := ⟨RX0, "isBare", "(I)Z"⟩
def dkwX0_isBare_1 : List UInt8 := [172]
abbrev dktX0_isBare_1 : List UInt8 := dkwX0_isBare_1 ++ []
def dkwX0_isBare_0 : List UInt8 := [27, 155, 0, 22, 42, 180, 0, 25, 180, 0, 100, 27, 50, 180, 0, 104, 154, 0, 7, 4, 167, 0, 4, 3]
abbrev dktX0_isBare_0 : List UInt8 := dkwX0_isBare_0 ++ dktX0_isBare_1
theorem dksX0_isBare_0 : cX0_isBare.data.toList.drop 0 = dktX0_isBare_0 := by decide +kernel
theorem dksX0_isBare_1 : cX0_isBare.data.toList.drop 24 = dktX0_isBare_1 := dk_seg dksX0_isBare_0 24 rfl rfl
theorem dX0_isBare_0 : decode cX0_isBare 0 = .ok (.iload_n 1, 1) := dk_27 (dk_at dksX0_isBare_0 0 rfl rfl)
theorem dX0_isBare_1 : decode cX0_isBare 1 = .ok (.ifCond .lt 22, 3) := dk_155 0 22 (dk_at dksX0_isBare_0 1 rfl rfl)
theorem dX0_isBare_4 : decode cX0_isBare 4 = .ok (.aload_n 0, 1) := dk_42 (dk_at dksX0_isBare_0 4 rfl rfl)
theorem dX0_isBare_5 : decode cX0_isBare 5 = .ok (.getfield 25, 3) := dk_180 0 25 (dk_at dksX0_isBare_0 5 rfl rfl)
theorem dX0_isBare_8 : decode cX0_isBare 8 = .ok (.getfield 100, 3) := dk_180 0 100 (dk_at dksX0_isBare_0 8 rfl rfl)
theorem dX0_isBare_11 : decode cX0_isBare 11 = .ok (.iload_n 1, 1) := dk_27 (dk_at dksX0_isBare_0 11 rfl rfl)
theorem dX0_isBare_12 : decode cX0_isBare 12 = .ok (.aaload, 1) := dk_50 (dk_at dksX0_isBare_0 12 rfl rfl)
theorem dX0_isBare_13 : decode cX0_isBare 13 = .ok (.getfield 104, 3) := dk_180 0 104 (dk_at dksX0_isBare_0 13 rfl rfl)
theorem dX0_isBare_16 : decode cX0_isBare 16 = .ok (.ifCond .ne 7, 3) := dk_154 0 7 (dk_at dksX0_isBare_0 16 rfl rfl)
theorem dX0_isBare_19 : decode cX0_isBare 19 = .ok (.iconst 1, 1) := dk_4 (dk_at dksX0_isBare_0 19 rfl rfl)
theorem dX0_isBare_20 : decode cX0_isBare 20 = .ok (.goto 4, 3) := dk_167 0 4 (dk_at dksX0_isBare_0 20 rfl rfl)
theorem dX0_isBare_23 : decode cX0_isBare 23 = .ok (.iconst 0, 1) := dk_3 (dk_at dksX0_isBare_0 23 rfl rfl)
theorem dX0_isBare_24 : decode cX0_isBare 24 = .ok (.ireturn, 1) := dk_172 (dk_at dksX0_isBare_1 0 rfl rfl)
abbrev cX0_savedIn : ByteArray := prog_1_method_30_code
def yX0_savedIn : MethodName := ⟨RX0, "savedIn", "(III)I"⟩
def dkwX0_savedIn_3 : List UInt8 := [167, 0, 5, 21, 6, 96, 172]
abbrev dktX0_savedIn_3 : List UInt8 := dkwX0_savedIn_3 ++ []
def dkwX0_savedIn_2 : List UInt8 := [158, 0, 8, 21, 6, 157, 0, 8, 16, 252, 167, 0, 19, 21, 4, 21, 5, 96, 29, 156, 0, 7, 3]
abbrev dktX0_savedIn_2 : List UInt8 := dkwX0_savedIn_2 ++ dktX0_savedIn_3
def dkwX0_savedIn_1 : List UInt8 := [29, 156, 0, 7, 4, 167, 0, 9, 42, 27, 29, 182, 0, 234, 54, 6, 21, 4, 158, 0, 13, 21, 5]
abbrev dktX0_savedIn_1 : List UInt8 := dkwX0_savedIn_1 ++ dktX0_savedIn_2
def dkwX0_savedIn_0 : List UInt8 := [42, 28, 27, 182, 0, 234, 54, 4, 42, 29, 156, 0, 7, 27, 167, 0, 4, 29, 28, 182, 0, 234, 54, 5]
abbrev dktX0_savedIn_0 : List UInt8 := dkwX0_savedIn_0 ++ dktX0_savedIn_1
theorem dksX0_savedIn_0 : cX0_savedIn.data.toList.drop 0 = dktX0_savedIn_0 := by decide +kernel
theorem dksX0_savedIn_1 : cX0_savedIn.data.toList.drop 24 = dktX0_savedIn_1 := dk_seg dksX0_savedIn_0 24 rfl rfl
theorem dksX0_savedIn_2 : cX0_savedIn.data.toList.drop 47 = dktX0_savedIn_2 := dk_seg dksX0_savedIn_1 23 rfl rfl
theorem dksX0_savedIn_3 : cX0_savedIn.data.toList.drop 70 = dktX0_savedIn_3 := dk_seg dksX0_savedIn_2 23 rfl rfl
theorem dX0_savedIn_0 : decode cX0_savedIn 0 = .ok (.aload_n 0, 1) := dk_42 (dk_at dksX0_savedIn_0 0 rfl rfl)
theorem dX0_savedIn_1 : decode cX0_savedIn 1 = .ok (.iload_n 2, 1) := dk_28 (dk_at dksX0_savedIn_0 1 rfl rfl)
theorem dX0_savedIn_2 : decode cX0_savedIn 2 = .ok (.iload_n 1, 1) := dk_27 (dk_at dksX0_savedIn_0 2 rfl rfl)
theorem dX0_savedIn_3 : decode cX0_savedIn 3 = .ok (.invokevirtual 234, 3) := dk_182 0 234 (dk_at dksX0_savedIn_0 3 rfl rfl)
theorem dX0_savedIn_6 : decode cX0_savedIn 6 = .ok (.istore 4, 2) := dk_54 4 (dk_at dksX0_savedIn_0 6 rfl rfl)
theorem dX0_savedIn_8 : decode cX0_savedIn 8 = .ok (.aload_n 0, 1) := dk_42 (dk_at dksX0_savedIn_0 8 rfl rfl)
theorem dX0_savedIn_9 : decode cX0_savedIn 9 = .ok (.iload_n 3, 1) := dk_29 (dk_at dksX0_savedIn_0 9 rfl rfl)
theorem dX0_savedIn_10 : decode cX0_savedIn 10 = .ok (.ifCond .ge 7, 3) := dk_156 0 7 (dk_at dksX0_savedIn_0 10 rfl rfl)
theorem dX0_savedIn_13 : decode cX0_savedIn 13 = .ok (.iload_n 1, 1) := dk_27 (dk_at dksX0_savedIn_0 13 rfl rfl)
theorem dX0_savedIn_14 : decode cX0_savedIn 14 = .ok (.goto 4, 3) := dk_167 0 4 (dk_at dksX0_savedIn_0 14 rfl rfl)
theorem dX0_savedIn_17 : decode cX0_savedIn 17 = .ok (.iload_n 3, 1) := dk_29 (dk_at dksX0_savedIn_0 17 rfl rfl)
theorem dX0_savedIn_18 : decode cX0_savedIn 18 = .ok (.iload_n 2, 1) := dk_28 (dk_at dksX0_savedIn_0 18 rfl rfl)
theorem dX0_savedIn_19 : decode cX0_savedIn 19 = .ok (.invokevirtual 234, 3) := dk_182 0 234 (dk_at dksX0_savedIn_0 19 rfl rfl)
theorem dX0_savedIn_22 : decode cX0_savedIn 22 = .ok (.istore 5, 2) := dk_54 5 (dk_at dksX0_savedIn_0 22 rfl rfl)
theorem dX0_savedIn_24 : decode cX0_savedIn 24 = .ok (.iload_n 3, 1) := dk_29 (dk_at dksX0_savedIn_1 0 rfl rfl)
theorem dX0_savedIn_25 : decode cX0_savedIn 25 = .ok (.ifCond .ge 7, 3) := dk_156 0 7 (dk_at dksX0_savedIn_1 1 rfl rfl)
theorem dX0_savedIn_28 : decode cX0_savedIn 28 = .ok (.iconst 1, 1) := dk_4 (dk_at dksX0_savedIn_1 4 rfl rfl)
theorem dX0_savedIn_29 : decode cX0_savedIn 29 = .ok (.goto 9, 3) := dk_167 0 9 (dk_at dksX0_savedIn_1 5 rfl rfl)
theorem dX0_savedIn_32 : decode cX0_savedIn 32 = .ok (.aload_n 0, 1) := dk_42 (dk_at dksX0_savedIn_1 8 rfl rfl)
theorem dX0_savedIn_33 : decode cX0_savedIn 33 = .ok (.iload_n 1, 1) := dk_27 (dk_at dksX0_savedIn_1 9 rfl rfl)
theorem dX0_savedIn_34 : decode cX0_savedIn 34 = .ok (.iload_n 3, 1) := dk_29 (dk_at dksX0_savedIn_1 10 rfl rfl)
theorem dX0_savedIn_35 : decode cX0_savedIn 35 = .ok (.invokevirtual 234, 3) := dk_182 0 234 (dk_at dksX0_savedIn_1 11 rfl rfl)
theorem dX0_savedIn_38 : decode cX0_savedIn 38 = .ok (.istore 6, 2) := dk_54 6 (dk_at dksX0_savedIn_1 14 rfl rfl)
theorem dX0_savedIn_40 : decode cX0_savedIn 40 = .ok (.iload 4, 2) := dk_21 4 (dk_at dksX0_savedIn_1 16 rfl rfl)
theorem dX0_savedIn_42 : decode cX0_savedIn 42 = .ok (.ifCond .le 13, 3) := dk_158 0 13 (dk_at dksX0_savedIn_1 18 rfl rfl)
theorem dX0_savedIn_45 : decode cX0_savedIn 45 = .ok (.iload 5, 2) := dk_21 5 (dk_at dksX0_savedIn_1 21 rfl rfl)
theorem dX0_savedIn_47 : decode cX0_savedIn 47 = .ok (.ifCond .le 8, 3) := dk_158 0 8 (dk_at dksX0_savedIn_2 0 rfl rfl)
theorem dX0_savedIn_50 : decode cX0_savedIn 50 = .ok (.iload 6, 2) := dk_21 6 (dk_at dksX0_savedIn_2 3 rfl rfl)
theorem dX0_savedIn_52 : decode cX0_savedIn 52 = .ok (.ifCond .gt 8, 3) := dk_157 0 8 (dk_at dksX0_savedIn_2 5 rfl rfl)
theorem dX0_savedIn_55 : decode cX0_savedIn 55 = .ok (.bipush (-4), 2) := dk_16 252 (dk_at dksX0_savedIn_2 8 rfl rfl)
theorem dX0_savedIn_57 : decode cX0_savedIn 57 = .ok (.goto 19, 3) := dk_167 0 19 (dk_at dksX0_savedIn_2 10 rfl rfl)
theorem dX0_savedIn_60 : decode cX0_savedIn 60 = .ok (.iload 4, 2) := dk_21 4 (dk_at dksX0_savedIn_2 13 rfl rfl)
theorem dX0_savedIn_62 : decode cX0_savedIn 62 = .ok (.iload 5, 2) := dk_21 5 (dk_at dksX0_savedIn_2 15 rfl rfl)
theorem dX0_savedIn_64 : decode cX0_savedIn 64 = .ok (.iadd, 1) := dk_96 (dk_at dksX0_savedIn_2 17 rfl rfl)
theorem dX0_savedIn_65 : decode cX0_savedIn 65 = .ok (.iload_n 3, 1) := dk_29 (dk_at dksX0_savedIn_2 18 rfl rfl)
theorem dX0_savedIn_66 : decode cX0_savedIn 66 = .ok (.ifCond .ge 7, 3) := dk_156 0 7 (dk_at dksX0_savedIn_2 19 rfl rfl)
theorem dX0_savedIn_69 : decode cX0_savedIn 69 = .ok (.iconst 0, 1) := dk_3 (dk_at dksX0_savedIn_2 22 rfl rfl)
theorem dX0_savedIn_70 : decode cX0_savedIn 70 = .ok (.goto 5, 3) := dk_167 0 5 (dk_at dksX0_savedIn_3 0 rfl rfl)
theorem dX0_savedIn_73 : decode cX0_savedIn 73 = .ok (.iload 6, 2) := dk_21 6 (dk_at dksX0_savedIn_3 3 rfl rfl)
theorem dX0_savedIn_75 : decode cX0_savedIn 75 = .ok (.iadd, 1) := dk_96 (dk_at dksX0_savedIn_3 5 rfl rfl)
theorem dX0_savedIn_76 : decode cX0_savedIn 76 = .ok (.ireturn, 1) := dk_172 (dk_at dksX0_savedIn_3 6 rfl rfl)
abbrev cX0_savedBy : ByteArray := prog_1_method_29_code
def yX0_savedBy : MethodName := ⟨RX0, "savedBy", "(II)I"⟩
def dkwX0_savedBy_2 : List UInt8 := [180, 0, 104, 4, 100, 182, 0, 129, 46, 100, 172]
abbrev dktX0_savedBy_2 : List UInt8 := dkwX0_savedBy_2 ++ []
def dkwX0_savedBy_1 : List UInt8 := [180, 0, 153, 45, 45, 180, 0, 104, 4, 100, 182, 0, 129, 46, 45, 180, 0, 153, 25, 4, 25, 4]
abbrev dktX0_savedBy_1 : List UInt8 := dkwX0_savedBy_1 ++ dktX0_savedBy_2
def dkwX0_savedBy_0 : List UInt8 := [42, 180, 0, 25, 180, 0, 100, 27, 50, 78, 42, 180, 0, 25, 180, 0, 100, 28, 50, 58, 4, 45]
abbrev dktX0_savedBy_0 : List UInt8 := dkwX0_savedBy_0 ++ dktX0_savedBy_1
theorem dksX0_savedBy_0 : cX0_savedBy.data.toList.drop 0 = dktX0_savedBy_0 := by decide +kernel
theorem dksX0_savedBy_1 : cX0_savedBy.data.toList.drop 22 = dktX0_savedBy_1 := dk_seg dksX0_savedBy_0 22 rfl rfl
theorem dksX0_savedBy_2 : cX0_savedBy.data.toList.drop 44 = dktX0_savedBy_2 := dk_seg dksX0_savedBy_1 22 rfl rfl
theorem dX0_savedBy_0 : decode cX0_savedBy 0 = .ok (.aload_n 0, 1) := dk_42 (dk_at dksX0_savedBy_0 0 rfl rfl)
theorem dX0_savedBy_1 : decode cX0_savedBy 1 = .ok (.getfield 25, 3) := dk_180 0 25 (dk_at dksX0_savedBy_0 1 rfl rfl)
theorem dX0_savedBy_4 : decode cX0_savedBy 4 = .ok (.getfield 100, 3) := dk_180 0 100 (dk_at dksX0_savedBy_0 4 rfl rfl)
theorem dX0_savedBy_7 : decode cX0_savedBy 7 = .ok (.iload_n 1, 1) := dk_27 (dk_at dksX0_savedBy_0 7 rfl rfl)
theorem dX0_savedBy_8 : decode cX0_savedBy 8 = .ok (.aaload, 1) := dk_50 (dk_at dksX0_savedBy_0 8 rfl rfl)
theorem dX0_savedBy_9 : decode cX0_savedBy 9 = .ok (.astore_n 3, 1) := dk_78 (dk_at dksX0_savedBy_0 9 rfl rfl)
theorem dX0_savedBy_10 : decode cX0_savedBy 10 = .ok (.aload_n 0, 1) := dk_42 (dk_at dksX0_savedBy_0 10 rfl rfl)
theorem dX0_savedBy_11 : decode cX0_savedBy 11 = .ok (.getfield 25, 3) := dk_180 0 25 (dk_at dksX0_savedBy_0 11 rfl rfl)
theorem dX0_savedBy_14 : decode cX0_savedBy 14 = .ok (.getfield 100, 3) := dk_180 0 100 (dk_at dksX0_savedBy_0 14 rfl rfl)
theorem dX0_savedBy_17 : decode cX0_savedBy 17 = .ok (.iload_n 2, 1) := dk_28 (dk_at dksX0_savedBy_0 17 rfl rfl)
theorem dX0_savedBy_18 : decode cX0_savedBy 18 = .ok (.aaload, 1) := dk_50 (dk_at dksX0_savedBy_0 18 rfl rfl)
theorem dX0_savedBy_19 : decode cX0_savedBy 19 = .ok (.astore 4, 2) := dk_58 4 (dk_at dksX0_savedBy_0 19 rfl rfl)
theorem dX0_savedBy_21 : decode cX0_savedBy 21 = .ok (.aload_n 3, 1) := dk_45 (dk_at dksX0_savedBy_0 21 rfl rfl)
theorem dX0_savedBy_22 : decode cX0_savedBy 22 = .ok (.getfield 153, 3) := dk_180 0 153 (dk_at dksX0_savedBy_1 0 rfl rfl)
theorem dX0_savedBy_25 : decode cX0_savedBy 25 = .ok (.aload_n 3, 1) := dk_45 (dk_at dksX0_savedBy_1 3 rfl rfl)
theorem dX0_savedBy_26 : decode cX0_savedBy 26 = .ok (.aload_n 3, 1) := dk_45 (dk_at dksX0_savedBy_1 4 rfl rfl)
theorem dX0_savedBy_27 : decode cX0_savedBy 27 = .ok (.getfield 104, 3) := dk_180 0 104 (dk_at dksX0_savedBy_1 5 rfl rfl)
theorem dX0_savedBy_30 : decode cX0_savedBy 30 = .ok (.iconst 1, 1) := dk_4 (dk_at dksX0_savedBy_1 8 rfl rfl)
theorem dX0_savedBy_31 : decode cX0_savedBy 31 = .ok (.isub, 1) := dk_100 (dk_at dksX0_savedBy_1 9 rfl rfl)
theorem dX0_savedBy_32 : decode cX0_savedBy 32 = .ok (.invokevirtual 129, 3) := dk_182 0 129 (dk_at dksX0_savedBy_1 10 rfl rfl)
theorem dX0_savedBy_35 : decode cX0_savedBy 35 = .ok (.iaload, 1) := dk_46 (dk_at dksX0_savedBy_1 13 rfl rfl)
theorem dX0_savedBy_36 : decode cX0_savedBy 36 = .ok (.aload_n 3, 1) := dk_45 (dk_at dksX0_savedBy_1 14 rfl rfl)
theorem dX0_savedBy_37 : decode cX0_savedBy 37 = .ok (.getfield 153, 3) := dk_180 0 153 (dk_at dksX0_savedBy_1 15 rfl rfl)
theorem dX0_savedBy_40 : decode cX0_savedBy 40 = .ok (.aload 4, 2) := dk_25 4 (dk_at dksX0_savedBy_1 18 rfl rfl)
theorem dX0_savedBy_42 : decode cX0_savedBy 42 = .ok (.aload 4, 2) := dk_25 4 (dk_at dksX0_savedBy_1 20 rfl rfl)
theorem dX0_savedBy_44 : decode cX0_savedBy 44 = .ok (.getfield 104, 3) := dk_180 0 104 (dk_at dksX0_savedBy_2 0 rfl rfl)
theorem dX0_savedBy_47 : decode cX0_savedBy 47 = .ok (.iconst 1, 1) := dk_4 (dk_at dksX0_savedBy_2 3 rfl rfl)
theorem dX0_savedBy_48 : decode cX0_savedBy 48 = .ok (.isub, 1) := dk_100 (dk_at dksX0_savedBy_2 4 rfl rfl)
theorem dX0_savedBy_49 : decode cX0_savedBy 49 = .ok (.invokevirtual 129, 3) := dk_182 0 129 (dk_at dksX0_savedBy_2 5 rfl rfl)
theorem dX0_savedBy_52 : decode cX0_savedBy 52 = .ok (.iaload, 1) := dk_46 (dk_at dksX0_savedBy_2 8 rfl rfl)
theorem dX0_savedBy_53 : decode cX0_savedBy 53 = .ok (.isub, 1) := dk_100 (dk_at dksX0_savedBy_2 9 rfl rfl)
theorem dX0_savedBy_54 : decode cX0_savedBy 54 = .ok (.ireturn, 1) := dk_172 (dk_at dksX0_savedBy_2 10 rfl rfl)
abbrev cX0_giveTo : ByteArray := prog_1_method_32_code
def yX0_giveTo : MethodName := ⟨RX0, "giveTo", "(I[I)V"⟩
def dkwX0_giveTo_2 : List UInt8 := [104, 21, 4, 96, 44, 21, 4, 46, 79, 44, 21, 4, 21, 5, 79, 132, 4, 1, 167, 255, 203, 177]
abbrev dktX0_giveTo_2 : List UInt8 := dkwX0_giveTo_2 ++ []
def dkwX0_giveTo_1 : List UInt8 := [45, 180, 0, 104, 4, 100, 104, 21, 4, 96, 46, 54, 5, 45, 180, 0, 147, 7, 45, 180, 0, 104, 4, 100]
abbrev dktX0_giveTo_1 : List UInt8 := dkwX0_giveTo_1 ++ dktX0_giveTo_2
def dkwX0_giveTo_0 : List UInt8 := [42, 180, 0, 25, 180, 0, 100, 27, 50, 78, 3, 54, 4, 21, 4, 7, 162, 0, 53, 45, 180, 0, 147, 7]
abbrev dktX0_giveTo_0 : List UInt8 := dkwX0_giveTo_0 ++ dktX0_giveTo_1
theorem dksX0_giveTo_0 : cX0_giveTo.data.toList.drop 0 = dktX0_giveTo_0 := by decide +kernel
theorem dksX0_giveTo_1 : cX0_giveTo.data.toList.drop 24 = dktX0_giveTo_1 := dk_seg dksX0_giveTo_0 24 rfl rfl
theorem dksX0_giveTo_2 : cX0_giveTo.data.toList.drop 48 = dktX0_giveTo_2 := dk_seg dksX0_giveTo_1 24 rfl rfl
theorem dX0_giveTo_0 : decode cX0_giveTo 0 = .ok (.aload_n 0, 1) := dk_42 (dk_at dksX0_giveTo_0 0 rfl rfl)
theorem dX0_giveTo_1 : decode cX0_giveTo 1 = .ok (.getfield 25, 3) := dk_180 0 25 (dk_at dksX0_giveTo_0 1 rfl rfl)
theorem dX0_giveTo_4 : decode cX0_giveTo 4 = .ok (.getfield 100, 3) := dk_180 0 100 (dk_at dksX0_giveTo_0 4 rfl rfl)
theorem dX0_giveTo_7 : decode cX0_giveTo 7 = .ok (.iload_n 1, 1) := dk_27 (dk_at dksX0_giveTo_0 7 rfl rfl)
theorem dX0_giveTo_8 : decode cX0_giveTo 8 = .ok (.aaload, 1) := dk_50 (dk_at dksX0_giveTo_0 8 rfl rfl)
theorem dX0_giveTo_9 : decode cX0_giveTo 9 = .ok (.astore_n 3, 1) := dk_78 (dk_at dksX0_giveTo_0 9 rfl rfl)
theorem dX0_giveTo_10 : decode cX0_giveTo 10 = .ok (.iconst 0, 1) := dk_3 (dk_at dksX0_giveTo_0 10 rfl rfl)
theorem dX0_giveTo_11 : decode cX0_giveTo 11 = .ok (.istore 4, 2) := dk_54 4 (dk_at dksX0_giveTo_0 11 rfl rfl)
theorem dX0_giveTo_13 : decode cX0_giveTo 13 = .ok (.iload 4, 2) := dk_21 4 (dk_at dksX0_giveTo_0 13 rfl rfl)
theorem dX0_giveTo_15 : decode cX0_giveTo 15 = .ok (.iconst 4, 1) := dk_7 (dk_at dksX0_giveTo_0 15 rfl rfl)
theorem dX0_giveTo_16 : decode cX0_giveTo 16 = .ok (.if_icmp .ge 53, 3) := dk_162 0 53 (dk_at dksX0_giveTo_0 16 rfl rfl)
theorem dX0_giveTo_19 : decode cX0_giveTo 19 = .ok (.aload_n 3, 1) := dk_45 (dk_at dksX0_giveTo_0 19 rfl rfl)
theorem dX0_giveTo_20 : decode cX0_giveTo 20 = .ok (.getfield 147, 3) := dk_180 0 147 (dk_at dksX0_giveTo_0 20 rfl rfl)
theorem dX0_giveTo_23 : decode cX0_giveTo 23 = .ok (.iconst 4, 1) := dk_7 (dk_at dksX0_giveTo_0 23 rfl rfl)
theorem dX0_giveTo_24 : decode cX0_giveTo 24 = .ok (.aload_n 3, 1) := dk_45 (dk_at dksX0_giveTo_1 0 rfl rfl)
theorem dX0_giveTo_25 : decode cX0_giveTo 25 = .ok (.getfield 104, 3) := dk_180 0 104 (dk_at dksX0_giveTo_1 1 rfl rfl)
theorem dX0_giveTo_28 : decode cX0_giveTo 28 = .ok (.iconst 1, 1) := dk_4 (dk_at dksX0_giveTo_1 4 rfl rfl)
theorem dX0_giveTo_29 : decode cX0_giveTo 29 = .ok (.isub, 1) := dk_100 (dk_at dksX0_giveTo_1 5 rfl rfl)
theorem dX0_giveTo_30 : decode cX0_giveTo 30 = .ok (.imul, 1) := dk_104 (dk_at dksX0_giveTo_1 6 rfl rfl)
theorem dX0_giveTo_31 : decode cX0_giveTo 31 = .ok (.iload 4, 2) := dk_21 4 (dk_at dksX0_giveTo_1 7 rfl rfl)
theorem dX0_giveTo_33 : decode cX0_giveTo 33 = .ok (.iadd, 1) := dk_96 (dk_at dksX0_giveTo_1 9 rfl rfl)
theorem dX0_giveTo_34 : decode cX0_giveTo 34 = .ok (.iaload, 1) := dk_46 (dk_at dksX0_giveTo_1 10 rfl rfl)
theorem dX0_giveTo_35 : decode cX0_giveTo 35 = .ok (.istore 5, 2) := dk_54 5 (dk_at dksX0_giveTo_1 11 rfl rfl)
theorem dX0_giveTo_37 : decode cX0_giveTo 37 = .ok (.aload_n 3, 1) := dk_45 (dk_at dksX0_giveTo_1 13 rfl rfl)
theorem dX0_giveTo_38 : decode cX0_giveTo 38 = .ok (.getfield 147, 3) := dk_180 0 147 (dk_at dksX0_giveTo_1 14 rfl rfl)
theorem dX0_giveTo_41 : decode cX0_giveTo 41 = .ok (.iconst 4, 1) := dk_7 (dk_at dksX0_giveTo_1 17 rfl rfl)
theorem dX0_giveTo_42 : decode cX0_giveTo 42 = .ok (.aload_n 3, 1) := dk_45 (dk_at dksX0_giveTo_1 18 rfl rfl)
theorem dX0_giveTo_43 : decode cX0_giveTo 43 = .ok (.getfield 104, 3) := dk_180 0 104 (dk_at dksX0_giveTo_1 19 rfl rfl)
theorem dX0_giveTo_46 : decode cX0_giveTo 46 = .ok (.iconst 1, 1) := dk_4 (dk_at dksX0_giveTo_1 22 rfl rfl)
theorem dX0_giveTo_47 : decode cX0_giveTo 47 = .ok (.isub, 1) := dk_100 (dk_at dksX0_giveTo_1 23 rfl rfl)
theorem dX0_giveTo_48 : decode cX0_giveTo 48 = .ok (.imul, 1) := dk_104 (dk_at dksX0_giveTo_2 0 rfl rfl)
theorem dX0_giveTo_49 : decode cX0_giveTo 49 = .ok (.iload 4, 2) := dk_21 4 (dk_at dksX0_giveTo_2 1 rfl rfl)
theorem dX0_giveTo_51 : decode cX0_giveTo 51 = .ok (.iadd, 1) := dk_96 (dk_at dksX0_giveTo_2 3 rfl rfl)
theorem dX0_giveTo_52 : decode cX0_giveTo 52 = .ok (.aload_n 2, 1) := dk_44 (dk_at dksX0_giveTo_2 4 rfl rfl)
theorem dX0_giveTo_53 : decode cX0_giveTo 53 = .ok (.iload 4, 2) := dk_21 4 (dk_at dksX0_giveTo_2 5 rfl rfl)
theorem dX0_giveTo_55 : decode cX0_giveTo 55 = .ok (.iaload, 1) := dk_46 (dk_at dksX0_giveTo_2 7 rfl rfl)
theorem dX0_giveTo_56 : decode cX0_giveTo 56 = .ok (.iastore, 1) := dk_79 (dk_at dksX0_giveTo_2 8 rfl rfl)
theorem dX0_giveTo_57 : decode cX0_giveTo 57 = .ok (.aload_n 2, 1) := dk_44 (dk_at dksX0_giveTo_2 9 rfl rfl)
theorem dX0_giveTo_58 : decode cX0_giveTo 58 = .ok (.iload 4, 2) := dk_21 4 (dk_at dksX0_giveTo_2 10 rfl rfl)
theorem dX0_giveTo_60 : decode cX0_giveTo 60 = .ok (.iload 5, 2) := dk_21 5 (dk_at dksX0_giveTo_2 12 rfl rfl)
theorem dX0_giveTo_62 : decode cX0_giveTo 62 = .ok (.iastore, 1) := dk_79 (dk_at dksX0_giveTo_2 14 rfl rfl)
theorem dX0_giveTo_63 : decode cX0_giveTo 63 = .ok (.iinc 4 1, 3) := dk_132 4 1 (dk_at dksX0_giveTo_2 15 rfl rfl)
theorem dX0_giveTo_66 : decode cX0_giveTo 66 = .ok (.goto (-53), 3) := dk_167 255 203 (dk_at dksX0_giveTo_2 18 rfl rfl)
theorem dX0_giveTo_69 : decode cX0_giveTo 69 = .ok (.return_, 1) := dk_177 (dk_at dksX0_giveTo_2 21 rfl rfl)
abbrev cX0_rings : ByteArray := prog_1_method_34_code
def yX0_rings : MethodName := ⟨RX0, "rings", "(I)I"⟩
def dkwX0_rings_11 : List UInt8 := [153, 0, 8, 16, 252, 167, 0, 6, 28, 8, 112, 172]
abbrev dktX0_rings_11 : List UInt8 := dkwX0_rings_11 ++ []
def dkwX0_rings_10 : List UInt8 := [16, 25, 108, 8, 112, 167, 0, 29, 27, 4, 160, 0, 11, 28, 8, 108, 8, 112, 167, 0, 16, 21, 4]
abbrev dktX0_rings_10 : List UInt8 := dkwX0_rings_10 ++ dktX0_rings_11
def dkwX0_rings_9 : List UInt8 := [162, 0, 7, 4, 167, 0, 4, 3, 54, 4, 27, 156, 0, 7, 29, 167, 0, 42, 27, 154, 0, 12, 28]
abbrev dktX0_rings_9 : List UInt8 := dkwX0_rings_9 ++ dktX0_rings_10
def dkwX0_rings_8 : List UInt8 := [21, 4, 61, 21, 9, 62, 132, 4, 1, 167, 255, 77, 28, 156, 0, 6, 16, 252, 172, 28, 16, 125]
abbrev dktX0_rings_8 : List UInt8 := dkwX0_rings_8 ++ dktX0_rings_9
def dkwX0_rings_7 : List UInt8 := [42, 21, 5, 21, 6, 21, 7, 182, 0, 240, 167, 0, 5, 16, 252, 54, 9, 21, 9, 29, 164, 0, 9]
abbrev dktX0_rings_7 : List UInt8 := dkwX0_rings_7 ++ dktX0_rings_8
def dkwX0_rings_6 : List UInt8 := [182, 0, 237, 154, 0, 34, 42, 21, 6, 182, 0, 237, 154, 0, 25, 42, 21, 7, 182, 0, 237, 154, 0, 16]
abbrev dktX0_rings_6 : List UInt8 := dkwX0_rings_6 ++ dktX0_rings_7
def dkwX0_rings_5 : List UInt8 := [21, 7, 21, 6, 159, 0, 7, 4, 167, 0, 4, 3, 54, 8, 21, 8, 153, 0, 43, 42, 21, 5]
abbrev dktX0_rings_5 : List UInt8 := dkwX0_rings_5 ++ dktX0_rings_6
def dkwX0_rings_4 : List UInt8 := [162, 0, 35, 21, 7, 155, 0, 26, 42, 21, 7, 182, 0, 96, 153, 0, 21, 21, 5, 21, 7, 162, 0, 14]
abbrev dktX0_rings_4 : List UInt8 := dkwX0_rings_4 ++ dktX0_rings_5
def dkwX0_rings_3 : List UInt8 := [54, 7, 42, 21, 5, 182, 0, 96, 153, 0, 51, 42, 21, 6, 182, 0, 96, 153, 0, 42, 21, 5, 21, 6]
abbrev dktX0_rings_3 : List UInt8 := dkwX0_rings_3 ++ dktX0_rings_4
def dkwX0_rings_2 : List UInt8 := [162, 0, 20, 21, 4, 8, 112, 154, 0, 8, 16, 252, 167, 0, 12, 21, 5, 167, 0, 7, 21, 4, 8, 112]
abbrev dktX0_rings_2 : List UInt8 := dkwX0_rings_2 ++ dktX0_rings_3
def dkwX0_rings_1 : List UInt8 := [162, 0, 177, 21, 4, 16, 25, 108, 8, 112, 54, 5, 21, 4, 8, 108, 8, 112, 54, 6, 21, 4, 16, 125]
abbrev dktX0_rings_1 : List UInt8 := dkwX0_rings_1 ++ dktX0_rings_2
def dkwX0_rings_0 : List UInt8 := [27, 2, 5, 184, 0, 92, 154, 0, 5, 2, 172, 16, 252, 61, 3, 62, 3, 54, 4, 21, 4, 17, 0, 250]
abbrev dktX0_rings_0 : List UInt8 := dkwX0_rings_0 ++ dktX0_rings_1
theorem dksX0_rings_0 : cX0_rings.data.toList.drop 0 = dktX0_rings_0 := by decide +kernel
theorem dksX0_rings_1 : cX0_rings.data.toList.drop 24 = dktX0_rings_1 := dk_seg dksX0_rings_0 24 rfl rfl
theorem dksX0_rings_2 : cX0_rings.data.toList.drop 48 = dktX0_rings_2 := dk_seg dksX0_rings_1 24 rfl rfl
theorem dksX0_rings_3 : cX0_rings.data.toList.drop 72 = dktX0_rings_3 := dk_seg dksX0_rings_2 24 rfl rfl
theorem dksX0_rings_4 : cX0_rings.data.toList.drop 96 = dktX0_rings_4 := dk_seg dksX0_rings_3 24 rfl rfl
theorem dksX0_rings_5 : cX0_rings.data.toList.drop 120 = dktX0_rings_5 := dk_seg dksX0_rings_4 24 rfl rfl
theorem dksX0_rings_6 : cX0_rings.data.toList.drop 142 = dktX0_rings_6 := dk_seg dksX0_rings_5 22 rfl rfl
theorem dksX0_rings_7 : cX0_rings.data.toList.drop 166 = dktX0_rings_7 := dk_seg dksX0_rings_6 24 rfl rfl
theorem dksX0_rings_8 : cX0_rings.data.toList.drop 189 = dktX0_rings_8 := dk_seg dksX0_rings_7 23 rfl rfl
theorem dksX0_rings_9 : cX0_rings.data.toList.drop 211 = dktX0_rings_9 := dk_seg dksX0_rings_8 22 rfl rfl
theorem dksX0_rings_10 : cX0_rings.data.toList.drop 234 = dktX0_rings_10 := dk_seg dksX0_rings_9 23 rfl rfl
theorem dksX0_rings_11 : cX0_rings.data.toList.drop 257 = dktX0_rings_11 := dk_seg dksX0_rings_10 23 rfl rfl
theorem dX0_rings_0 : decode cX0_rings 0 = .ok (.iload_n 1, 1) := dk_27 (dk_at dksX0_rings_0 0 rfl rfl)
theorem dX0_rings_1 : decode cX0_rings 1 = .ok (.iconst (-1), 1) := dk_2 (dk_at dksX0_rings_0 1 rfl rfl)
theorem dX0_rings_2 : decode cX0_rings 2 = .ok (.iconst 2, 1) := dk_5 (dk_at dksX0_rings_0 2 rfl rfl)
theorem dX0_rings_3 : decode cX0_rings 3 = .ok (.invokestatic 92, 3) := dk_184 0 92 (dk_at dksX0_rings_0 3 rfl rfl)
theorem dX0_rings_6 : decode cX0_rings 6 = .ok (.ifCond .ne 5, 3) := dk_154 0 5 (dk_at dksX0_rings_0 6 rfl rfl)
theorem dX0_rings_9 : decode cX0_rings 9 = .ok (.iconst (-1), 1) := dk_2 (dk_at dksX0_rings_0 9 rfl rfl)
theorem dX0_rings_10 : decode cX0_rings 10 = .ok (.ireturn, 1) := dk_172 (dk_at dksX0_rings_0 10 rfl rfl)
theorem dX0_rings_11 : decode cX0_rings 11 = .ok (.bipush (-4), 2) := dk_16 252 (dk_at dksX0_rings_0 11 rfl rfl)
theorem dX0_rings_13 : decode cX0_rings 13 = .ok (.istore_n 2, 1) := dk_61 (dk_at dksX0_rings_0 13 rfl rfl)
theorem dX0_rings_14 : decode cX0_rings 14 = .ok (.iconst 0, 1) := dk_3 (dk_at dksX0_rings_0 14 rfl rfl)
theorem dX0_rings_15 : decode cX0_rings 15 = .ok (.istore_n 3, 1) := dk_62 (dk_at dksX0_rings_0 15 rfl rfl)
theorem dX0_rings_16 : decode cX0_rings 16 = .ok (.iconst 0, 1) := dk_3 (dk_at dksX0_rings_0 16 rfl rfl)
theorem dX0_rings_17 : decode cX0_rings 17 = .ok (.istore 4, 2) := dk_54 4 (dk_at dksX0_rings_0 17 rfl rfl)
theorem dX0_rings_19 : decode cX0_rings 19 = .ok (.iload 4, 2) := dk_21 4 (dk_at dksX0_rings_0 19 rfl rfl)
theorem dX0_rings_21 : decode cX0_rings 21 = .ok (.sipush 250, 3) := dk_17 0 250 (dk_at dksX0_rings_0 21 rfl rfl)
theorem dX0_rings_24 : decode cX0_rings 24 = .ok (.if_icmp .ge 177, 3) := dk_162 0 177 (dk_at dksX0_rings_1 0 rfl rfl)
theorem dX0_rings_27 : decode cX0_rings 27 = .ok (.iload 4, 2) := dk_21 4 (dk_at dksX0_rings_1 3 rfl rfl)
theorem dX0_rings_29 : decode cX0_rings 29 = .ok (.bipush 25, 2) := dk_16 25 (dk_at dksX0_rings_1 5 rfl rfl)
theorem dX0_rings_31 : decode cX0_rings 31 = .ok (.idiv, 1) := dk_108 (dk_at dksX0_rings_1 7 rfl rfl)
theorem dX0_rings_32 : decode cX0_rings 32 = .ok (.iconst 5, 1) := dk_8 (dk_at dksX0_rings_1 8 rfl rfl)
theorem dX0_rings_33 : decode cX0_rings 33 = .ok (.irem, 1) := dk_112 (dk_at dksX0_rings_1 9 rfl rfl)
theorem dX0_rings_34 : decode cX0_rings 34 = .ok (.istore 5, 2) := dk_54 5 (dk_at dksX0_rings_1 10 rfl rfl)
theorem dX0_rings_36 : decode cX0_rings 36 = .ok (.iload 4, 2) := dk_21 4 (dk_at dksX0_rings_1 12 rfl rfl)
theorem dX0_rings_38 : decode cX0_rings 38 = .ok (.iconst 5, 1) := dk_8 (dk_at dksX0_rings_1 14 rfl rfl)
theorem dX0_rings_39 : decode cX0_rings 39 = .ok (.idiv, 1) := dk_108 (dk_at dksX0_rings_1 15 rfl rfl)
theorem dX0_rings_40 : decode cX0_rings 40 = .ok (.iconst 5, 1) := dk_8 (dk_at dksX0_rings_1 16 rfl rfl)
theorem dX0_rings_41 : decode cX0_rings 41 = .ok (.irem, 1) := dk_112 (dk_at dksX0_rings_1 17 rfl rfl)
theorem dX0_rings_42 : decode cX0_rings 42 = .ok (.istore 6, 2) := dk_54 6 (dk_at dksX0_rings_1 18 rfl rfl)
theorem dX0_rings_44 : decode cX0_rings 44 = .ok (.iload 4, 2) := dk_21 4 (dk_at dksX0_rings_1 20 rfl rfl)
theorem dX0_rings_46 : decode cX0_rings 46 = .ok (.bipush 125, 2) := dk_16 125 (dk_at dksX0_rings_1 22 rfl rfl)
theorem dX0_rings_48 : decode cX0_rings 48 = .ok (.if_icmp .ge 20, 3) := dk_162 0 20 (dk_at dksX0_rings_2 0 rfl rfl)
theorem dX0_rings_51 : decode cX0_rings 51 = .ok (.iload 4, 2) := dk_21 4 (dk_at dksX0_rings_2 3 rfl rfl)
theorem dX0_rings_53 : decode cX0_rings 53 = .ok (.iconst 5, 1) := dk_8 (dk_at dksX0_rings_2 5 rfl rfl)
theorem dX0_rings_54 : decode cX0_rings 54 = .ok (.irem, 1) := dk_112 (dk_at dksX0_rings_2 6 rfl rfl)
theorem dX0_rings_55 : decode cX0_rings 55 = .ok (.ifCond .ne 8, 3) := dk_154 0 8 (dk_at dksX0_rings_2 7 rfl rfl)
theorem dX0_rings_58 : decode cX0_rings 58 = .ok (.bipush (-4), 2) := dk_16 252 (dk_at dksX0_rings_2 10 rfl rfl)
theorem dX0_rings_60 : decode cX0_rings 60 = .ok (.goto 12, 3) := dk_167 0 12 (dk_at dksX0_rings_2 12 rfl rfl)
theorem dX0_rings_63 : decode cX0_rings 63 = .ok (.iload 5, 2) := dk_21 5 (dk_at dksX0_rings_2 15 rfl rfl)
theorem dX0_rings_65 : decode cX0_rings 65 = .ok (.goto 7, 3) := dk_167 0 7 (dk_at dksX0_rings_2 17 rfl rfl)
theorem dX0_rings_68 : decode cX0_rings 68 = .ok (.iload 4, 2) := dk_21 4 (dk_at dksX0_rings_2 20 rfl rfl)
theorem dX0_rings_70 : decode cX0_rings 70 = .ok (.iconst 5, 1) := dk_8 (dk_at dksX0_rings_2 22 rfl rfl)
theorem dX0_rings_71 : decode cX0_rings 71 = .ok (.irem, 1) := dk_112 (dk_at dksX0_rings_2 23 rfl rfl)
theorem dX0_rings_72 : decode cX0_rings 72 = .ok (.istore 7, 2) := dk_54 7 (dk_at dksX0_rings_3 0 rfl rfl)
theorem dX0_rings_74 : decode cX0_rings 74 = .ok (.aload_n 0, 1) := dk_42 (dk_at dksX0_rings_3 2 rfl rfl)
theorem dX0_rings_75 : decode cX0_rings 75 = .ok (.iload 5, 2) := dk_21 5 (dk_at dksX0_rings_3 3 rfl rfl)
theorem dX0_rings_77 : decode cX0_rings 77 = .ok (.invokevirtual 96, 3) := dk_182 0 96 (dk_at dksX0_rings_3 5 rfl rfl)
theorem dX0_rings_80 : decode cX0_rings 80 = .ok (.ifCond .eq 51, 3) := dk_153 0 51 (dk_at dksX0_rings_3 8 rfl rfl)
theorem dX0_rings_83 : decode cX0_rings 83 = .ok (.aload_n 0, 1) := dk_42 (dk_at dksX0_rings_3 11 rfl rfl)
theorem dX0_rings_84 : decode cX0_rings 84 = .ok (.iload 6, 2) := dk_21 6 (dk_at dksX0_rings_3 12 rfl rfl)
theorem dX0_rings_86 : decode cX0_rings 86 = .ok (.invokevirtual 96, 3) := dk_182 0 96 (dk_at dksX0_rings_3 14 rfl rfl)
theorem dX0_rings_89 : decode cX0_rings 89 = .ok (.ifCond .eq 42, 3) := dk_153 0 42 (dk_at dksX0_rings_3 17 rfl rfl)
theorem dX0_rings_92 : decode cX0_rings 92 = .ok (.iload 5, 2) := dk_21 5 (dk_at dksX0_rings_3 20 rfl rfl)
theorem dX0_rings_94 : decode cX0_rings 94 = .ok (.iload 6, 2) := dk_21 6 (dk_at dksX0_rings_3 22 rfl rfl)
theorem dX0_rings_96 : decode cX0_rings 96 = .ok (.if_icmp .ge 35, 3) := dk_162 0 35 (dk_at dksX0_rings_4 0 rfl rfl)
theorem dX0_rings_99 : decode cX0_rings 99 = .ok (.iload 7, 2) := dk_21 7 (dk_at dksX0_rings_4 3 rfl rfl)
theorem dX0_rings_101 : decode cX0_rings 101 = .ok (.ifCond .lt 26, 3) := dk_155 0 26 (dk_at dksX0_rings_4 5 rfl rfl)
theorem dX0_rings_104 : decode cX0_rings 104 = .ok (.aload_n 0, 1) := dk_42 (dk_at dksX0_rings_4 8 rfl rfl)
theorem dX0_rings_105 : decode cX0_rings 105 = .ok (.iload 7, 2) := dk_21 7 (dk_at dksX0_rings_4 9 rfl rfl)
theorem dX0_rings_107 : decode cX0_rings 107 = .ok (.invokevirtual 96, 3) := dk_182 0 96 (dk_at dksX0_rings_4 11 rfl rfl)
theorem dX0_rings_110 : decode cX0_rings 110 = .ok (.ifCond .eq 21, 3) := dk_153 0 21 (dk_at dksX0_rings_4 14 rfl rfl)
theorem dX0_rings_113 : decode cX0_rings 113 = .ok (.iload 5, 2) := dk_21 5 (dk_at dksX0_rings_4 17 rfl rfl)
theorem dX0_rings_115 : decode cX0_rings 115 = .ok (.iload 7, 2) := dk_21 7 (dk_at dksX0_rings_4 19 rfl rfl)
theorem dX0_rings_117 : decode cX0_rings 117 = .ok (.if_icmp .ge 14, 3) := dk_162 0 14 (dk_at dksX0_rings_4 21 rfl rfl)
theorem dX0_rings_120 : decode cX0_rings 120 = .ok (.iload 7, 2) := dk_21 7 (dk_at dksX0_rings_5 0 rfl rfl)
theorem dX0_rings_122 : decode cX0_rings 122 = .ok (.iload 6, 2) := dk_21 6 (dk_at dksX0_rings_5 2 rfl rfl)
theorem dX0_rings_124 : decode cX0_rings 124 = .ok (.if_icmp .eq 7, 3) := dk_159 0 7 (dk_at dksX0_rings_5 4 rfl rfl)
theorem dX0_rings_127 : decode cX0_rings 127 = .ok (.iconst 1, 1) := dk_4 (dk_at dksX0_rings_5 7 rfl rfl)
theorem dX0_rings_128 : decode cX0_rings 128 = .ok (.goto 4, 3) := dk_167 0 4 (dk_at dksX0_rings_5 8 rfl rfl)
theorem dX0_rings_131 : decode cX0_rings 131 = .ok (.iconst 0, 1) := dk_3 (dk_at dksX0_rings_5 11 rfl rfl)
theorem dX0_rings_132 : decode cX0_rings 132 = .ok (.istore 8, 2) := dk_54 8 (dk_at dksX0_rings_5 12 rfl rfl)
theorem dX0_rings_134 : decode cX0_rings 134 = .ok (.iload 8, 2) := dk_21 8 (dk_at dksX0_rings_5 14 rfl rfl)
theorem dX0_rings_136 : decode cX0_rings 136 = .ok (.ifCond .eq 43, 3) := dk_153 0 43 (dk_at dksX0_rings_5 16 rfl rfl)
theorem dX0_rings_139 : decode cX0_rings 139 = .ok (.aload_n 0, 1) := dk_42 (dk_at dksX0_rings_5 19 rfl rfl)
theorem dX0_rings_140 : decode cX0_rings 140 = .ok (.iload 5, 2) := dk_21 5 (dk_at dksX0_rings_5 20 rfl rfl)
theorem dX0_rings_142 : decode cX0_rings 142 = .ok (.invokevirtual 237, 3) := dk_182 0 237 (dk_at dksX0_rings_6 0 rfl rfl)
theorem dX0_rings_145 : decode cX0_rings 145 = .ok (.ifCond .ne 34, 3) := dk_154 0 34 (dk_at dksX0_rings_6 3 rfl rfl)
theorem dX0_rings_148 : decode cX0_rings 148 = .ok (.aload_n 0, 1) := dk_42 (dk_at dksX0_rings_6 6 rfl rfl)
theorem dX0_rings_149 : decode cX0_rings 149 = .ok (.iload 6, 2) := dk_21 6 (dk_at dksX0_rings_6 7 rfl rfl)
theorem dX0_rings_151 : decode cX0_rings 151 = .ok (.invokevirtual 237, 3) := dk_182 0 237 (dk_at dksX0_rings_6 9 rfl rfl)
theorem dX0_rings_154 : decode cX0_rings 154 = .ok (.ifCond .ne 25, 3) := dk_154 0 25 (dk_at dksX0_rings_6 12 rfl rfl)
theorem dX0_rings_157 : decode cX0_rings 157 = .ok (.aload_n 0, 1) := dk_42 (dk_at dksX0_rings_6 15 rfl rfl)
theorem dX0_rings_158 : decode cX0_rings 158 = .ok (.iload 7, 2) := dk_21 7 (dk_at dksX0_rings_6 16 rfl rfl)
theorem dX0_rings_160 : decode cX0_rings 160 = .ok (.invokevirtual 237, 3) := dk_182 0 237 (dk_at dksX0_rings_6 18 rfl rfl)
theorem dX0_rings_163 : decode cX0_rings 163 = .ok (.ifCond .ne 16, 3) := dk_154 0 16 (dk_at dksX0_rings_6 21 rfl rfl)
theorem dX0_rings_166 : decode cX0_rings 166 = .ok (.aload_n 0, 1) := dk_42 (dk_at dksX0_rings_7 0 rfl rfl)
theorem dX0_rings_167 : decode cX0_rings 167 = .ok (.iload 5, 2) := dk_21 5 (dk_at dksX0_rings_7 1 rfl rfl)
theorem dX0_rings_169 : decode cX0_rings 169 = .ok (.iload 6, 2) := dk_21 6 (dk_at dksX0_rings_7 3 rfl rfl)
theorem dX0_rings_171 : decode cX0_rings 171 = .ok (.iload 7, 2) := dk_21 7 (dk_at dksX0_rings_7 5 rfl rfl)
theorem dX0_rings_173 : decode cX0_rings 173 = .ok (.invokevirtual 240, 3) := dk_182 0 240 (dk_at dksX0_rings_7 7 rfl rfl)
theorem dX0_rings_176 : decode cX0_rings 176 = .ok (.goto 5, 3) := dk_167 0 5 (dk_at dksX0_rings_7 10 rfl rfl)
theorem dX0_rings_179 : decode cX0_rings 179 = .ok (.bipush (-4), 2) := dk_16 252 (dk_at dksX0_rings_7 13 rfl rfl)
theorem dX0_rings_181 : decode cX0_rings 181 = .ok (.istore 9, 2) := dk_54 9 (dk_at dksX0_rings_7 15 rfl rfl)
theorem dX0_rings_183 : decode cX0_rings 183 = .ok (.iload 9, 2) := dk_21 9 (dk_at dksX0_rings_7 17 rfl rfl)
theorem dX0_rings_185 : decode cX0_rings 185 = .ok (.iload_n 3, 1) := dk_29 (dk_at dksX0_rings_7 19 rfl rfl)
theorem dX0_rings_186 : decode cX0_rings 186 = .ok (.if_icmp .le 9, 3) := dk_164 0 9 (dk_at dksX0_rings_7 20 rfl rfl)
theorem dX0_rings_189 : decode cX0_rings 189 = .ok (.iload 4, 2) := dk_21 4 (dk_at dksX0_rings_8 0 rfl rfl)
theorem dX0_rings_191 : decode cX0_rings 191 = .ok (.istore_n 2, 1) := dk_61 (dk_at dksX0_rings_8 2 rfl rfl)
theorem dX0_rings_192 : decode cX0_rings 192 = .ok (.iload 9, 2) := dk_21 9 (dk_at dksX0_rings_8 3 rfl rfl)
theorem dX0_rings_194 : decode cX0_rings 194 = .ok (.istore_n 3, 1) := dk_62 (dk_at dksX0_rings_8 5 rfl rfl)
theorem dX0_rings_195 : decode cX0_rings 195 = .ok (.iinc 4 1, 3) := dk_132 4 1 (dk_at dksX0_rings_8 6 rfl rfl)
theorem dX0_rings_198 : decode cX0_rings 198 = .ok (.goto (-179), 3) := dk_167 255 77 (dk_at dksX0_rings_8 9 rfl rfl)
theorem dX0_rings_201 : decode cX0_rings 201 = .ok (.iload_n 2, 1) := dk_28 (dk_at dksX0_rings_8 12 rfl rfl)
theorem dX0_rings_202 : decode cX0_rings 202 = .ok (.ifCond .ge 6, 3) := dk_156 0 6 (dk_at dksX0_rings_8 13 rfl rfl)
theorem dX0_rings_205 : decode cX0_rings 205 = .ok (.bipush (-4), 2) := dk_16 252 (dk_at dksX0_rings_8 16 rfl rfl)
theorem dX0_rings_207 : decode cX0_rings 207 = .ok (.ireturn, 1) := dk_172 (dk_at dksX0_rings_8 18 rfl rfl)
theorem dX0_rings_208 : decode cX0_rings 208 = .ok (.iload_n 2, 1) := dk_28 (dk_at dksX0_rings_8 19 rfl rfl)
theorem dX0_rings_209 : decode cX0_rings 209 = .ok (.bipush 125, 2) := dk_16 125 (dk_at dksX0_rings_8 20 rfl rfl)
theorem dX0_rings_211 : decode cX0_rings 211 = .ok (.if_icmp .ge 7, 3) := dk_162 0 7 (dk_at dksX0_rings_9 0 rfl rfl)
theorem dX0_rings_214 : decode cX0_rings 214 = .ok (.iconst 1, 1) := dk_4 (dk_at dksX0_rings_9 3 rfl rfl)
theorem dX0_rings_215 : decode cX0_rings 215 = .ok (.goto 4, 3) := dk_167 0 4 (dk_at dksX0_rings_9 4 rfl rfl)
theorem dX0_rings_218 : decode cX0_rings 218 = .ok (.iconst 0, 1) := dk_3 (dk_at dksX0_rings_9 7 rfl rfl)
theorem dX0_rings_219 : decode cX0_rings 219 = .ok (.istore 4, 2) := dk_54 4 (dk_at dksX0_rings_9 8 rfl rfl)
theorem dX0_rings_221 : decode cX0_rings 221 = .ok (.iload_n 1, 1) := dk_27 (dk_at dksX0_rings_9 10 rfl rfl)
theorem dX0_rings_222 : decode cX0_rings 222 = .ok (.ifCond .ge 7, 3) := dk_156 0 7 (dk_at dksX0_rings_9 11 rfl rfl)
theorem dX0_rings_225 : decode cX0_rings 225 = .ok (.iload_n 3, 1) := dk_29 (dk_at dksX0_rings_9 14 rfl rfl)
theorem dX0_rings_226 : decode cX0_rings 226 = .ok (.goto 42, 3) := dk_167 0 42 (dk_at dksX0_rings_9 15 rfl rfl)
theorem dX0_rings_229 : decode cX0_rings 229 = .ok (.iload_n 1, 1) := dk_27 (dk_at dksX0_rings_9 18 rfl rfl)
theorem dX0_rings_230 : decode cX0_rings 230 = .ok (.ifCond .ne 12, 3) := dk_154 0 12 (dk_at dksX0_rings_9 19 rfl rfl)
theorem dX0_rings_233 : decode cX0_rings 233 = .ok (.iload_n 2, 1) := dk_28 (dk_at dksX0_rings_9 22 rfl rfl)
theorem dX0_rings_234 : decode cX0_rings 234 = .ok (.bipush 25, 2) := dk_16 25 (dk_at dksX0_rings_10 0 rfl rfl)
theorem dX0_rings_236 : decode cX0_rings 236 = .ok (.idiv, 1) := dk_108 (dk_at dksX0_rings_10 2 rfl rfl)
theorem dX0_rings_237 : decode cX0_rings 237 = .ok (.iconst 5, 1) := dk_8 (dk_at dksX0_rings_10 3 rfl rfl)
theorem dX0_rings_238 : decode cX0_rings 238 = .ok (.irem, 1) := dk_112 (dk_at dksX0_rings_10 4 rfl rfl)
theorem dX0_rings_239 : decode cX0_rings 239 = .ok (.goto 29, 3) := dk_167 0 29 (dk_at dksX0_rings_10 5 rfl rfl)
theorem dX0_rings_242 : decode cX0_rings 242 = .ok (.iload_n 1, 1) := dk_27 (dk_at dksX0_rings_10 8 rfl rfl)
theorem dX0_rings_243 : decode cX0_rings 243 = .ok (.iconst 1, 1) := dk_4 (dk_at dksX0_rings_10 9 rfl rfl)
theorem dX0_rings_244 : decode cX0_rings 244 = .ok (.if_icmp .ne 11, 3) := dk_160 0 11 (dk_at dksX0_rings_10 10 rfl rfl)
theorem dX0_rings_247 : decode cX0_rings 247 = .ok (.iload_n 2, 1) := dk_28 (dk_at dksX0_rings_10 13 rfl rfl)
theorem dX0_rings_248 : decode cX0_rings 248 = .ok (.iconst 5, 1) := dk_8 (dk_at dksX0_rings_10 14 rfl rfl)
theorem dX0_rings_249 : decode cX0_rings 249 = .ok (.idiv, 1) := dk_108 (dk_at dksX0_rings_10 15 rfl rfl)
theorem dX0_rings_250 : decode cX0_rings 250 = .ok (.iconst 5, 1) := dk_8 (dk_at dksX0_rings_10 16 rfl rfl)
theorem dX0_rings_251 : decode cX0_rings 251 = .ok (.irem, 1) := dk_112 (dk_at dksX0_rings_10 17 rfl rfl)
theorem dX0_rings_252 : decode cX0_rings 252 = .ok (.goto 16, 3) := dk_167 0 16 (dk_at dksX0_rings_10 18 rfl rfl)
theorem dX0_rings_255 : decode cX0_rings 255 = .ok (.iload 4, 2) := dk_21 4 (dk_at dksX0_rings_10 21 rfl rfl)
theorem dX0_rings_257 : decode cX0_rings 257 = .ok (.ifCond .eq 8, 3) := dk_153 0 8 (dk_at dksX0_rings_11 0 rfl rfl)
theorem dX0_rings_260 : decode cX0_rings 260 = .ok (.bipush (-4), 2) := dk_16 252 (dk_at dksX0_rings_11 3 rfl rfl)
theorem dX0_rings_262 : decode cX0_rings 262 = .ok (.goto 6, 3) := dk_167 0 6 (dk_at dksX0_rings_11 5 rfl rfl)
theorem dX0_rings_265 : decode cX0_rings 265 = .ok (.iload_n 2, 1) := dk_28 (dk_at dksX0_rings_11 8 rfl rfl)
theorem dX0_rings_266 : decode cX0_rings 266 = .ok (.iconst 5, 1) := dk_8 (dk_at dksX0_rings_11 9 rfl rfl)
theorem dX0_rings_267 : decode cX0_rings 267 = .ok (.irem, 1) := dk_112 (dk_at dksX0_rings_11 10 rfl rfl)
theorem dX0_rings_268 : decode cX0_rings 268 = .ok (.ireturn, 1) := dk_172 (dk_at dksX0_rings_11 11 rfl rfl)
abbrev cX0_owed : ByteArray := prog_1_method_35_code
def yX0_owed : MethodName := ⟨RX0, "owed", "(I)I"⟩
def dkwX0_owed_2 : List UInt8 := [28, 184, 0, 137, 172]
abbrev dktX0_owed_2 : List UInt8 := dkwX0_owed_2 ++ []
def dkwX0_owed_1 : List UInt8 := [28, 42, 180, 0, 25, 180, 0, 100, 29, 50, 27, 184, 0, 122, 96, 61, 132, 3, 1, 167, 255, 226, 18, 136]
abbrev dktX0_owed_1 : List UInt8 := dkwX0_owed_1 ++ dktX0_owed_2
def dkwX0_owed_0 : List UInt8 := [27, 184, 0, 150, 154, 0, 5, 2, 172, 3, 61, 3, 62, 29, 42, 180, 0, 25, 180, 0, 88, 162, 0, 25]
abbrev dktX0_owed_0 : List UInt8 := dkwX0_owed_0 ++ dktX0_owed_1
theorem dksX0_owed_0 : cX0_owed.data.toList.drop 0 = dktX0_owed_0 := by decide +kernel
theorem dksX0_owed_1 : cX0_owed.data.toList.drop 24 = dktX0_owed_1 := dk_seg dksX0_owed_0 24 rfl rfl
theorem dksX0_owed_2 : cX0_owed.data.toList.drop 48 = dktX0_owed_2 := dk_seg dksX0_owed_1 24 rfl rfl
theorem dX0_owed_0 : decode cX0_owed 0 = .ok (.iload_n 1, 1) := dk_27 (dk_at dksX0_owed_0 0 rfl rfl)
theorem dX0_owed_1 : decode cX0_owed 1 = .ok (.invokestatic 150, 3) := dk_184 0 150 (dk_at dksX0_owed_0 1 rfl rfl)
theorem dX0_owed_4 : decode cX0_owed 4 = .ok (.ifCond .ne 5, 3) := dk_154 0 5 (dk_at dksX0_owed_0 4 rfl rfl)
theorem dX0_owed_7 : decode cX0_owed 7 = .ok (.iconst (-1), 1) := dk_2 (dk_at dksX0_owed_0 7 rfl rfl)
theorem dX0_owed_8 : decode cX0_owed 8 = .ok (.ireturn, 1) := dk_172 (dk_at dksX0_owed_0 8 rfl rfl)
theorem dX0_owed_9 : decode cX0_owed 9 = .ok (.iconst 0, 1) := dk_3 (dk_at dksX0_owed_0 9 rfl rfl)
theorem dX0_owed_10 : decode cX0_owed 10 = .ok (.istore_n 2, 1) := dk_61 (dk_at dksX0_owed_0 10 rfl rfl)
theorem dX0_owed_11 : decode cX0_owed 11 = .ok (.iconst 0, 1) := dk_3 (dk_at dksX0_owed_0 11 rfl rfl)
theorem dX0_owed_12 : decode cX0_owed 12 = .ok (.istore_n 3, 1) := dk_62 (dk_at dksX0_owed_0 12 rfl rfl)
theorem dX0_owed_13 : decode cX0_owed 13 = .ok (.iload_n 3, 1) := dk_29 (dk_at dksX0_owed_0 13 rfl rfl)
theorem dX0_owed_14 : decode cX0_owed 14 = .ok (.aload_n 0, 1) := dk_42 (dk_at dksX0_owed_0 14 rfl rfl)
theorem dX0_owed_15 : decode cX0_owed 15 = .ok (.getfield 25, 3) := dk_180 0 25 (dk_at dksX0_owed_0 15 rfl rfl)
theorem dX0_owed_18 : decode cX0_owed 18 = .ok (.getfield 88, 3) := dk_180 0 88 (dk_at dksX0_owed_0 18 rfl rfl)
theorem dX0_owed_21 : decode cX0_owed 21 = .ok (.if_icmp .ge 25, 3) := dk_162 0 25 (dk_at dksX0_owed_0 21 rfl rfl)
theorem dX0_owed_24 : decode cX0_owed 24 = .ok (.iload_n 2, 1) := dk_28 (dk_at dksX0_owed_1 0 rfl rfl)
theorem dX0_owed_25 : decode cX0_owed 25 = .ok (.aload_n 0, 1) := dk_42 (dk_at dksX0_owed_1 1 rfl rfl)
theorem dX0_owed_26 : decode cX0_owed 26 = .ok (.getfield 25, 3) := dk_180 0 25 (dk_at dksX0_owed_1 2 rfl rfl)
theorem dX0_owed_29 : decode cX0_owed 29 = .ok (.getfield 100, 3) := dk_180 0 100 (dk_at dksX0_owed_1 5 rfl rfl)
theorem dX0_owed_32 : decode cX0_owed 32 = .ok (.iload_n 3, 1) := dk_29 (dk_at dksX0_owed_1 8 rfl rfl)
theorem dX0_owed_33 : decode cX0_owed 33 = .ok (.aaload, 1) := dk_50 (dk_at dksX0_owed_1 9 rfl rfl)
theorem dX0_owed_34 : decode cX0_owed 34 = .ok (.iload_n 1, 1) := dk_27 (dk_at dksX0_owed_1 10 rfl rfl)
theorem dX0_owed_35 : decode cX0_owed 35 = .ok (.invokestatic 122, 3) := dk_184 0 122 (dk_at dksX0_owed_1 11 rfl rfl)
theorem dX0_owed_38 : decode cX0_owed 38 = .ok (.iadd, 1) := dk_96 (dk_at dksX0_owed_1 14 rfl rfl)
theorem dX0_owed_39 : decode cX0_owed 39 = .ok (.istore_n 2, 1) := dk_61 (dk_at dksX0_owed_1 15 rfl rfl)
theorem dX0_owed_40 : decode cX0_owed 40 = .ok (.iinc 3 1, 3) := dk_132 3 1 (dk_at dksX0_owed_1 16 rfl rfl)
theorem dX0_owed_43 : decode cX0_owed 43 = .ok (.goto (-30), 3) := dk_167 255 226 (dk_at dksX0_owed_1 19 rfl rfl)
theorem dX0_owed_46 : decode cX0_owed 46 = .ok (.ldc 136, 2) := dk_18 136 (dk_at dksX0_owed_1 22 rfl rfl)
theorem dX0_owed_48 : decode cX0_owed 48 = .ok (.iload_n 2, 1) := dk_28 (dk_at dksX0_owed_2 0 rfl rfl)
theorem dX0_owed_49 : decode cX0_owed 49 = .ok (.invokestatic 137, 3) := dk_184 0 137 (dk_at dksX0_owed_2 1 rfl rfl)
theorem dX0_owed_52 : decode cX0_owed 52 = .ok (.ireturn, 1) := dk_172 (dk_at dksX0_owed_2 4 rfl rfl)
abbrev cX0_free : ByteArray := prog_1_method_39_code
def yX0_free : MethodName := ⟨RX0, "free", "(II)I"⟩
def dkwX0_free_4 : List UInt8 := [28, 5, 100, 46, 167, 0, 5, 16, 252, 172]
abbrev dktX0_free_4 : List UInt8 := dkwX0_free_4 ++ []
def dkwX0_free_3 : List UInt8 := [160, 0, 10, 42, 180, 1, 7, 167, 0, 26, 28, 5, 100, 45, 180, 0, 104, 162, 0, 14, 42, 180, 0, 63]
abbrev dktX0_free_3 : List UInt8 := dkwX0_free_3 ++ dktX0_free_4
def dkwX0_free_2 : List UInt8 := [180, 1, 4, 156, 0, 6, 16, 252, 172, 28, 154, 0, 10, 42, 180, 1, 4, 167, 0, 38, 28, 4]
abbrev dktX0_free_2 : List UInt8 := dkwX0_free_2 ++ dktX0_free_3
def dkwX0_free_1 : List UInt8 := [180, 0, 100, 27, 50, 78, 45, 180, 0, 104, 16, 6, 164, 0, 6, 16, 253, 172, 42, 45, 182, 1, 22, 42]
abbrev dktX0_free_1 : List UInt8 := dkwX0_free_1 ++ dktX0_free_2
def dkwX0_free_0 : List UInt8 := [42, 27, 182, 0, 96, 153, 0, 13, 28, 3, 16, 7, 184, 0, 92, 154, 0, 5, 2, 172, 42, 180, 0, 25]
abbrev dktX0_free_0 : List UInt8 := dkwX0_free_0 ++ dktX0_free_1
theorem dksX0_free_0 : cX0_free.data.toList.drop 0 = dktX0_free_0 := by decide +kernel
theorem dksX0_free_1 : cX0_free.data.toList.drop 24 = dktX0_free_1 := dk_seg dksX0_free_0 24 rfl rfl
theorem dksX0_free_2 : cX0_free.data.toList.drop 48 = dktX0_free_2 := dk_seg dksX0_free_1 24 rfl rfl
theorem dksX0_free_3 : cX0_free.data.toList.drop 70 = dktX0_free_3 := dk_seg dksX0_free_2 22 rfl rfl
theorem dksX0_free_4 : cX0_free.data.toList.drop 94 = dktX0_free_4 := dk_seg dksX0_free_3 24 rfl rfl
theorem dX0_free_0 : decode cX0_free 0 = .ok (.aload_n 0, 1) := dk_42 (dk_at dksX0_free_0 0 rfl rfl)
theorem dX0_free_1 : decode cX0_free 1 = .ok (.iload_n 1, 1) := dk_27 (dk_at dksX0_free_0 1 rfl rfl)
theorem dX0_free_2 : decode cX0_free 2 = .ok (.invokevirtual 96, 3) := dk_182 0 96 (dk_at dksX0_free_0 2 rfl rfl)
theorem dX0_free_5 : decode cX0_free 5 = .ok (.ifCond .eq 13, 3) := dk_153 0 13 (dk_at dksX0_free_0 5 rfl rfl)
theorem dX0_free_8 : decode cX0_free 8 = .ok (.iload_n 2, 1) := dk_28 (dk_at dksX0_free_0 8 rfl rfl)
theorem dX0_free_9 : decode cX0_free 9 = .ok (.iconst 0, 1) := dk_3 (dk_at dksX0_free_0 9 rfl rfl)
theorem dX0_free_10 : decode cX0_free 10 = .ok (.bipush 7, 2) := dk_16 7 (dk_at dksX0_free_0 10 rfl rfl)
theorem dX0_free_12 : decode cX0_free 12 = .ok (.invokestatic 92, 3) := dk_184 0 92 (dk_at dksX0_free_0 12 rfl rfl)
theorem dX0_free_15 : decode cX0_free 15 = .ok (.ifCond .ne 5, 3) := dk_154 0 5 (dk_at dksX0_free_0 15 rfl rfl)
theorem dX0_free_18 : decode cX0_free 18 = .ok (.iconst (-1), 1) := dk_2 (dk_at dksX0_free_0 18 rfl rfl)
theorem dX0_free_19 : decode cX0_free 19 = .ok (.ireturn, 1) := dk_172 (dk_at dksX0_free_0 19 rfl rfl)
theorem dX0_free_20 : decode cX0_free 20 = .ok (.aload_n 0, 1) := dk_42 (dk_at dksX0_free_0 20 rfl rfl)
theorem dX0_free_21 : decode cX0_free 21 = .ok (.getfield 25, 3) := dk_180 0 25 (dk_at dksX0_free_0 21 rfl rfl)
theorem dX0_free_24 : decode cX0_free 24 = .ok (.getfield 100, 3) := dk_180 0 100 (dk_at dksX0_free_1 0 rfl rfl)
theorem dX0_free_27 : decode cX0_free 27 = .ok (.iload_n 1, 1) := dk_27 (dk_at dksX0_free_1 3 rfl rfl)
theorem dX0_free_28 : decode cX0_free 28 = .ok (.aaload, 1) := dk_50 (dk_at dksX0_free_1 4 rfl rfl)
theorem dX0_free_29 : decode cX0_free 29 = .ok (.astore_n 3, 1) := dk_78 (dk_at dksX0_free_1 5 rfl rfl)
theorem dX0_free_30 : decode cX0_free 30 = .ok (.aload_n 3, 1) := dk_45 (dk_at dksX0_free_1 6 rfl rfl)
theorem dX0_free_31 : decode cX0_free 31 = .ok (.getfield 104, 3) := dk_180 0 104 (dk_at dksX0_free_1 7 rfl rfl)
theorem dX0_free_34 : decode cX0_free 34 = .ok (.bipush 6, 2) := dk_16 6 (dk_at dksX0_free_1 10 rfl rfl)
theorem dX0_free_36 : decode cX0_free 36 = .ok (.if_icmp .le 6, 3) := dk_164 0 6 (dk_at dksX0_free_1 12 rfl rfl)
theorem dX0_free_39 : decode cX0_free 39 = .ok (.bipush (-3), 2) := dk_16 253 (dk_at dksX0_free_1 15 rfl rfl)
theorem dX0_free_41 : decode cX0_free 41 = .ok (.ireturn, 1) := dk_172 (dk_at dksX0_free_1 17 rfl rfl)
theorem dX0_free_42 : decode cX0_free 42 = .ok (.aload_n 0, 1) := dk_42 (dk_at dksX0_free_1 18 rfl rfl)
theorem dX0_free_43 : decode cX0_free 43 = .ok (.aload_n 3, 1) := dk_45 (dk_at dksX0_free_1 19 rfl rfl)
theorem dX0_free_44 : decode cX0_free 44 = .ok (.invokevirtual 278, 3) := dk_182 1 22 (dk_at dksX0_free_1 20 rfl rfl)
theorem dX0_free_47 : decode cX0_free 47 = .ok (.aload_n 0, 1) := dk_42 (dk_at dksX0_free_1 23 rfl rfl)
theorem dX0_free_48 : decode cX0_free 48 = .ok (.getfield 260, 3) := dk_180 1 4 (dk_at dksX0_free_2 0 rfl rfl)
theorem dX0_free_51 : decode cX0_free 51 = .ok (.ifCond .ge 6, 3) := dk_156 0 6 (dk_at dksX0_free_2 3 rfl rfl)
theorem dX0_free_54 : decode cX0_free 54 = .ok (.bipush (-4), 2) := dk_16 252 (dk_at dksX0_free_2 6 rfl rfl)
theorem dX0_free_56 : decode cX0_free 56 = .ok (.ireturn, 1) := dk_172 (dk_at dksX0_free_2 8 rfl rfl)
theorem dX0_free_57 : decode cX0_free 57 = .ok (.iload_n 2, 1) := dk_28 (dk_at dksX0_free_2 9 rfl rfl)
theorem dX0_free_58 : decode cX0_free 58 = .ok (.ifCond .ne 10, 3) := dk_154 0 10 (dk_at dksX0_free_2 10 rfl rfl)
theorem dX0_free_61 : decode cX0_free 61 = .ok (.aload_n 0, 1) := dk_42 (dk_at dksX0_free_2 13 rfl rfl)
theorem dX0_free_62 : decode cX0_free 62 = .ok (.getfield 260, 3) := dk_180 1 4 (dk_at dksX0_free_2 14 rfl rfl)
theorem dX0_free_65 : decode cX0_free 65 = .ok (.goto 38, 3) := dk_167 0 38 (dk_at dksX0_free_2 17 rfl rfl)
theorem dX0_free_68 : decode cX0_free 68 = .ok (.iload_n 2, 1) := dk_28 (dk_at dksX0_free_2 20 rfl rfl)
theorem dX0_free_69 : decode cX0_free 69 = .ok (.iconst 1, 1) := dk_4 (dk_at dksX0_free_2 21 rfl rfl)
theorem dX0_free_70 : decode cX0_free 70 = .ok (.if_icmp .ne 10, 3) := dk_160 0 10 (dk_at dksX0_free_3 0 rfl rfl)
theorem dX0_free_73 : decode cX0_free 73 = .ok (.aload_n 0, 1) := dk_42 (dk_at dksX0_free_3 3 rfl rfl)
theorem dX0_free_74 : decode cX0_free 74 = .ok (.getfield 263, 3) := dk_180 1 7 (dk_at dksX0_free_3 4 rfl rfl)
theorem dX0_free_77 : decode cX0_free 77 = .ok (.goto 26, 3) := dk_167 0 26 (dk_at dksX0_free_3 7 rfl rfl)
theorem dX0_free_80 : decode cX0_free 80 = .ok (.iload_n 2, 1) := dk_28 (dk_at dksX0_free_3 10 rfl rfl)
theorem dX0_free_81 : decode cX0_free 81 = .ok (.iconst 2, 1) := dk_5 (dk_at dksX0_free_3 11 rfl rfl)
theorem dX0_free_82 : decode cX0_free 82 = .ok (.isub, 1) := dk_100 (dk_at dksX0_free_3 12 rfl rfl)
theorem dX0_free_83 : decode cX0_free 83 = .ok (.aload_n 3, 1) := dk_45 (dk_at dksX0_free_3 13 rfl rfl)
theorem dX0_free_84 : decode cX0_free 84 = .ok (.getfield 104, 3) := dk_180 0 104 (dk_at dksX0_free_3 14 rfl rfl)
theorem dX0_free_87 : decode cX0_free 87 = .ok (.if_icmp .ge 14, 3) := dk_162 0 14 (dk_at dksX0_free_3 17 rfl rfl)
theorem dX0_free_90 : decode cX0_free 90 = .ok (.aload_n 0, 1) := dk_42 (dk_at dksX0_free_3 20 rfl rfl)
theorem dX0_free_91 : decode cX0_free 91 = .ok (.getfield 63, 3) := dk_180 0 63 (dk_at dksX0_free_3 21 rfl rfl)
theorem dX0_free_94 : decode cX0_free 94 = .ok (.iload_n 2, 1) := dk_28 (dk_at dksX0_free_4 0 rfl rfl)
theorem dX0_free_95 : decode cX0_free 95 = .ok (.iconst 2, 1) := dk_5 (dk_at dksX0_free_4 1 rfl rfl)
theorem dX0_free_96 : decode cX0_free 96 = .ok (.isub, 1) := dk_100 (dk_at dksX0_free_4 2 rfl rfl)
theorem dX0_free_97 : decode cX0_free 97 = .ok (.iaload, 1) := dk_46 (dk_at dksX0_free_4 3 rfl rfl)
theorem dX0_free_98 : decode cX0_free 98 = .ok (.goto 5, 3) := dk_167 0 5 (dk_at dksX0_free_4 4 rfl rfl)
theorem dX0_free_101 : decode cX0_free 101 = .ok (.bipush (-4), 2) := dk_16 252 (dk_at dksX0_free_4 7 rfl rfl)
theorem dX0_free_103 : decode cX0_free 103 = .ok (.ireturn, 1) := dk_172 (dk_at dksX0_free_4 9 rfl rfl)
abbrev cX0_findBest : ByteArray := prog_1_method_38_code
def yX0_findBest : MethodName := ⟨RX0, "findBest", "(LDebtCoats$Wearer;)V"⟩
def dkwX0_findBest_1 : List UInt8 := [177]
abbrev dktX0_findBest_1 : List UInt8 := dkwX0_findBest_1 ++ []
def dkwX0_findBest_0 : List UInt8 := [42, 2, 181, 1, 4, 42, 3, 181, 1, 7, 42, 43, 4, 43, 180, 0, 104, 120, 4, 100, 3, 182, 1, 18]
abbrev dktX0_findBest_0 : List UInt8 := dkwX0_findBest_0 ++ dktX0_findBest_1
theorem dksX0_findBest_0 : cX0_findBest.data.toList.drop 0 = dktX0_findBest_0 := by decide +kernel
theorem dksX0_findBest_1 : cX0_findBest.data.toList.drop 24 = dktX0_findBest_1 := dk_seg dksX0_findBest_0 24 rfl rfl
theorem dX0_findBest_0 : decode cX0_findBest 0 = .ok (.aload_n 0, 1) := dk_42 (dk_at dksX0_findBest_0 0 rfl rfl)
theorem dX0_findBest_1 : decode cX0_findBest 1 = .ok (.iconst (-1), 1) := dk_2 (dk_at dksX0_findBest_0 1 rfl rfl)
theorem dX0_findBest_2 : decode cX0_findBest 2 = .ok (.putfield 260, 3) := dk_181 1 4 (dk_at dksX0_findBest_0 2 rfl rfl)
theorem dX0_findBest_5 : decode cX0_findBest 5 = .ok (.aload_n 0, 1) := dk_42 (dk_at dksX0_findBest_0 5 rfl rfl)
theorem dX0_findBest_6 : decode cX0_findBest 6 = .ok (.iconst 0, 1) := dk_3 (dk_at dksX0_findBest_0 6 rfl rfl)
theorem dX0_findBest_7 : decode cX0_findBest 7 = .ok (.putfield 263, 3) := dk_181 1 7 (dk_at dksX0_findBest_0 7 rfl rfl)
theorem dX0_findBest_10 : decode cX0_findBest 10 = .ok (.aload_n 0, 1) := dk_42 (dk_at dksX0_findBest_0 10 rfl rfl)
theorem dX0_findBest_11 : decode cX0_findBest 11 = .ok (.aload_n 1, 1) := dk_43 (dk_at dksX0_findBest_0 11 rfl rfl)
theorem dX0_findBest_12 : decode cX0_findBest 12 = .ok (.iconst 1, 1) := dk_4 (dk_at dksX0_findBest_0 12 rfl rfl)
theorem dX0_findBest_13 : decode cX0_findBest 13 = .ok (.aload_n 1, 1) := dk_43 (dk_at dksX0_findBest_0 13 rfl rfl)
theorem dX0_findBest_14 : decode cX0_findBest 14 = .ok (.getfield 104, 3) := dk_180 0 104 (dk_at dksX0_findBest_0 14 rfl rfl)
theorem dX0_findBest_17 : decode cX0_findBest 17 = .ok (.ishl, 1) := dk_120 (dk_at dksX0_findBest_0 17 rfl rfl)
theorem dX0_findBest_18 : decode cX0_findBest 18 = .ok (.iconst 1, 1) := dk_4 (dk_at dksX0_findBest_0 18 rfl rfl)
theorem dX0_findBest_19 : decode cX0_findBest 19 = .ok (.isub, 1) := dk_100 (dk_at dksX0_findBest_0 19 rfl rfl)
theorem dX0_findBest_20 : decode cX0_findBest 20 = .ok (.iconst 0, 1) := dk_3 (dk_at dksX0_findBest_0 20 rfl rfl)
theorem dX0_findBest_21 : decode cX0_findBest 21 = .ok (.invokevirtual 274, 3) := dk_182 1 18 (dk_at dksX0_findBest_0 21 rfl rfl)
theorem dX0_findBest_24 : decode cX0_findBest 24 = .ok (.return_, 1) := dk_177 (dk_at dksX0_findBest_1 0 rfl rfl)
abbrev cX0_tryOrders : ByteArray := prog_1_method_37_code
def yX0_tryOrders : MethodName := ⟨RX0, "tryOrders", "(LDebtCoats$Wearer;II)V"⟩
def dkwX0_tryOrders_7 : List UInt8 := [132, 5, 1, 167, 255, 179, 177]
abbrev dktX0_tryOrders_7 : List UInt8 := dkwX0_tryOrders_7 ++ []
def dkwX0_tryOrders_6 : List UInt8 := [180, 0, 60, 29, 21, 5, 79, 42, 43, 28, 4, 21, 5, 120, 2, 130, 126, 29, 4, 96, 182, 1, 18]
abbrev dktX0_tryOrders_6 : List UInt8 := dkwX0_tryOrders_6 ++ dktX0_tryOrders_7
def dkwX0_tryOrders_5 : List UInt8 := [42, 182, 0, 213, 25, 4, 28, 4, 21, 5, 120, 4, 100, 126, 184, 1, 10, 182, 0, 217, 153, 0, 27, 42]
abbrev dktX0_tryOrders_5 : List UInt8 := dkwX0_tryOrders_5 ++ dktX0_tryOrders_6
def dkwX0_tryOrders_4 : List UInt8 := [180, 0, 104, 162, 0, 74, 25, 4, 28, 184, 1, 10, 181, 0, 104, 28, 21, 5, 184, 1, 15, 153, 0, 50]
abbrev dktX0_tryOrders_4 : List UInt8 := dkwX0_tryOrders_4 ++ dktX0_tryOrders_5
def dkwX0_tryOrders_3 : List UInt8 := [3, 42, 180, 0, 63, 3, 16, 6, 184, 0, 206, 177, 42, 180, 0, 39, 58, 4, 3, 54, 5, 21, 5, 43]
abbrev dktX0_tryOrders_3 : List UInt8 := dkwX0_tryOrders_3 ++ dktX0_tryOrders_4
def dkwX0_tryOrders_2 : List UInt8 := [180, 1, 7, 162, 0, 32, 42, 21, 4, 181, 1, 4, 42, 42, 180, 0, 252, 181, 1, 7, 42, 180, 0, 60]
abbrev dktX0_tryOrders_2 : List UInt8 := dkwX0_tryOrders_2 ++ dktX0_tryOrders_3
def dkwX0_tryOrders_1 : List UInt8 := [21, 4, 42, 180, 1, 4, 161, 0, 23, 21, 4, 42, 180, 1, 4, 160, 0, 43, 42, 180, 0, 252, 42]
abbrev dktX0_tryOrders_1 : List UInt8 := dkwX0_tryOrders_1 ++ dktX0_tryOrders_2
def dkwX0_tryOrders_0 : List UInt8 := [28, 154, 0, 81, 42, 43, 182, 1, 0, 54, 4, 21, 4, 155, 0, 68, 42, 180, 1, 4, 155, 0, 32]
abbrev dktX0_tryOrders_0 : List UInt8 := dkwX0_tryOrders_0 ++ dktX0_tryOrders_1
theorem dksX0_tryOrders_0 : cX0_tryOrders.data.toList.drop 0 = dktX0_tryOrders_0 := by decide +kernel
theorem dksX0_tryOrders_1 : cX0_tryOrders.data.toList.drop 23 = dktX0_tryOrders_1 := dk_seg dksX0_tryOrders_0 23 rfl rfl
theorem dksX0_tryOrders_2 : cX0_tryOrders.data.toList.drop 46 = dktX0_tryOrders_2 := dk_seg dksX0_tryOrders_1 23 rfl rfl
theorem dksX0_tryOrders_3 : cX0_tryOrders.data.toList.drop 70 = dktX0_tryOrders_3 := dk_seg dksX0_tryOrders_2 24 rfl rfl
theorem dksX0_tryOrders_4 : cX0_tryOrders.data.toList.drop 94 = dktX0_tryOrders_4 := dk_seg dksX0_tryOrders_3 24 rfl rfl
theorem dksX0_tryOrders_5 : cX0_tryOrders.data.toList.drop 118 = dktX0_tryOrders_5 := dk_seg dksX0_tryOrders_4 24 rfl rfl
theorem dksX0_tryOrders_6 : cX0_tryOrders.data.toList.drop 142 = dktX0_tryOrders_6 := dk_seg dksX0_tryOrders_5 24 rfl rfl
theorem dksX0_tryOrders_7 : cX0_tryOrders.data.toList.drop 165 = dktX0_tryOrders_7 := dk_seg dksX0_tryOrders_6 23 rfl rfl
theorem dX0_tryOrders_0 : decode cX0_tryOrders 0 = .ok (.iload_n 2, 1) := dk_28 (dk_at dksX0_tryOrders_0 0 rfl rfl)
theorem dX0_tryOrders_1 : decode cX0_tryOrders 1 = .ok (.ifCond .ne 81, 3) := dk_154 0 81 (dk_at dksX0_tryOrders_0 1 rfl rfl)
theorem dX0_tryOrders_4 : decode cX0_tryOrders 4 = .ok (.aload_n 0, 1) := dk_42 (dk_at dksX0_tryOrders_0 4 rfl rfl)
theorem dX0_tryOrders_5 : decode cX0_tryOrders 5 = .ok (.aload_n 1, 1) := dk_43 (dk_at dksX0_tryOrders_0 5 rfl rfl)
theorem dX0_tryOrders_6 : decode cX0_tryOrders 6 = .ok (.invokevirtual 256, 3) := dk_182 1 0 (dk_at dksX0_tryOrders_0 6 rfl rfl)
theorem dX0_tryOrders_9 : decode cX0_tryOrders 9 = .ok (.istore 4, 2) := dk_54 4 (dk_at dksX0_tryOrders_0 9 rfl rfl)
theorem dX0_tryOrders_11 : decode cX0_tryOrders 11 = .ok (.iload 4, 2) := dk_21 4 (dk_at dksX0_tryOrders_0 11 rfl rfl)
theorem dX0_tryOrders_13 : decode cX0_tryOrders 13 = .ok (.ifCond .lt 68, 3) := dk_155 0 68 (dk_at dksX0_tryOrders_0 13 rfl rfl)
theorem dX0_tryOrders_16 : decode cX0_tryOrders 16 = .ok (.aload_n 0, 1) := dk_42 (dk_at dksX0_tryOrders_0 16 rfl rfl)
theorem dX0_tryOrders_17 : decode cX0_tryOrders 17 = .ok (.getfield 260, 3) := dk_180 1 4 (dk_at dksX0_tryOrders_0 17 rfl rfl)
theorem dX0_tryOrders_20 : decode cX0_tryOrders 20 = .ok (.ifCond .lt 32, 3) := dk_155 0 32 (dk_at dksX0_tryOrders_0 20 rfl rfl)
theorem dX0_tryOrders_23 : decode cX0_tryOrders 23 = .ok (.iload 4, 2) := dk_21 4 (dk_at dksX0_tryOrders_1 0 rfl rfl)
theorem dX0_tryOrders_25 : decode cX0_tryOrders 25 = .ok (.aload_n 0, 1) := dk_42 (dk_at dksX0_tryOrders_1 2 rfl rfl)
theorem dX0_tryOrders_26 : decode cX0_tryOrders 26 = .ok (.getfield 260, 3) := dk_180 1 4 (dk_at dksX0_tryOrders_1 3 rfl rfl)
theorem dX0_tryOrders_29 : decode cX0_tryOrders 29 = .ok (.if_icmp .lt 23, 3) := dk_161 0 23 (dk_at dksX0_tryOrders_1 6 rfl rfl)
theorem dX0_tryOrders_32 : decode cX0_tryOrders 32 = .ok (.iload 4, 2) := dk_21 4 (dk_at dksX0_tryOrders_1 9 rfl rfl)
theorem dX0_tryOrders_34 : decode cX0_tryOrders 34 = .ok (.aload_n 0, 1) := dk_42 (dk_at dksX0_tryOrders_1 11 rfl rfl)
theorem dX0_tryOrders_35 : decode cX0_tryOrders 35 = .ok (.getfield 260, 3) := dk_180 1 4 (dk_at dksX0_tryOrders_1 12 rfl rfl)
theorem dX0_tryOrders_38 : decode cX0_tryOrders 38 = .ok (.if_icmp .ne 43, 3) := dk_160 0 43 (dk_at dksX0_tryOrders_1 15 rfl rfl)
theorem dX0_tryOrders_41 : decode cX0_tryOrders 41 = .ok (.aload_n 0, 1) := dk_42 (dk_at dksX0_tryOrders_1 18 rfl rfl)
theorem dX0_tryOrders_42 : decode cX0_tryOrders 42 = .ok (.getfield 252, 3) := dk_180 0 252 (dk_at dksX0_tryOrders_1 19 rfl rfl)
theorem dX0_tryOrders_45 : decode cX0_tryOrders 45 = .ok (.aload_n 0, 1) := dk_42 (dk_at dksX0_tryOrders_1 22 rfl rfl)
theorem dX0_tryOrders_46 : decode cX0_tryOrders 46 = .ok (.getfield 263, 3) := dk_180 1 7 (dk_at dksX0_tryOrders_2 0 rfl rfl)
theorem dX0_tryOrders_49 : decode cX0_tryOrders 49 = .ok (.if_icmp .ge 32, 3) := dk_162 0 32 (dk_at dksX0_tryOrders_2 3 rfl rfl)
theorem dX0_tryOrders_52 : decode cX0_tryOrders 52 = .ok (.aload_n 0, 1) := dk_42 (dk_at dksX0_tryOrders_2 6 rfl rfl)
theorem dX0_tryOrders_53 : decode cX0_tryOrders 53 = .ok (.iload 4, 2) := dk_21 4 (dk_at dksX0_tryOrders_2 7 rfl rfl)
theorem dX0_tryOrders_55 : decode cX0_tryOrders 55 = .ok (.putfield 260, 3) := dk_181 1 4 (dk_at dksX0_tryOrders_2 9 rfl rfl)
theorem dX0_tryOrders_58 : decode cX0_tryOrders 58 = .ok (.aload_n 0, 1) := dk_42 (dk_at dksX0_tryOrders_2 12 rfl rfl)
theorem dX0_tryOrders_59 : decode cX0_tryOrders 59 = .ok (.aload_n 0, 1) := dk_42 (dk_at dksX0_tryOrders_2 13 rfl rfl)
theorem dX0_tryOrders_60 : decode cX0_tryOrders 60 = .ok (.getfield 252, 3) := dk_180 0 252 (dk_at dksX0_tryOrders_2 14 rfl rfl)
theorem dX0_tryOrders_63 : decode cX0_tryOrders 63 = .ok (.putfield 263, 3) := dk_181 1 7 (dk_at dksX0_tryOrders_2 17 rfl rfl)
theorem dX0_tryOrders_66 : decode cX0_tryOrders 66 = .ok (.aload_n 0, 1) := dk_42 (dk_at dksX0_tryOrders_2 20 rfl rfl)
theorem dX0_tryOrders_67 : decode cX0_tryOrders 67 = .ok (.getfield 60, 3) := dk_180 0 60 (dk_at dksX0_tryOrders_2 21 rfl rfl)
theorem dX0_tryOrders_70 : decode cX0_tryOrders 70 = .ok (.iconst 0, 1) := dk_3 (dk_at dksX0_tryOrders_3 0 rfl rfl)
theorem dX0_tryOrders_71 : decode cX0_tryOrders 71 = .ok (.aload_n 0, 1) := dk_42 (dk_at dksX0_tryOrders_3 1 rfl rfl)
theorem dX0_tryOrders_72 : decode cX0_tryOrders 72 = .ok (.getfield 63, 3) := dk_180 0 63 (dk_at dksX0_tryOrders_3 2 rfl rfl)
theorem dX0_tryOrders_75 : decode cX0_tryOrders 75 = .ok (.iconst 0, 1) := dk_3 (dk_at dksX0_tryOrders_3 5 rfl rfl)
theorem dX0_tryOrders_76 : decode cX0_tryOrders 76 = .ok (.bipush 6, 2) := dk_16 6 (dk_at dksX0_tryOrders_3 6 rfl rfl)
theorem dX0_tryOrders_78 : decode cX0_tryOrders 78 = .ok (.invokestatic 206, 3) := dk_184 0 206 (dk_at dksX0_tryOrders_3 8 rfl rfl)
theorem dX0_tryOrders_81 : decode cX0_tryOrders 81 = .ok (.return_, 1) := dk_177 (dk_at dksX0_tryOrders_3 11 rfl rfl)
theorem dX0_tryOrders_82 : decode cX0_tryOrders 82 = .ok (.aload_n 0, 1) := dk_42 (dk_at dksX0_tryOrders_3 12 rfl rfl)
theorem dX0_tryOrders_83 : decode cX0_tryOrders 83 = .ok (.getfield 39, 3) := dk_180 0 39 (dk_at dksX0_tryOrders_3 13 rfl rfl)
theorem dX0_tryOrders_86 : decode cX0_tryOrders 86 = .ok (.astore 4, 2) := dk_58 4 (dk_at dksX0_tryOrders_3 16 rfl rfl)
theorem dX0_tryOrders_88 : decode cX0_tryOrders 88 = .ok (.iconst 0, 1) := dk_3 (dk_at dksX0_tryOrders_3 18 rfl rfl)
theorem dX0_tryOrders_89 : decode cX0_tryOrders 89 = .ok (.istore 5, 2) := dk_54 5 (dk_at dksX0_tryOrders_3 19 rfl rfl)
theorem dX0_tryOrders_91 : decode cX0_tryOrders 91 = .ok (.iload 5, 2) := dk_21 5 (dk_at dksX0_tryOrders_3 21 rfl rfl)
theorem dX0_tryOrders_93 : decode cX0_tryOrders 93 = .ok (.aload_n 1, 1) := dk_43 (dk_at dksX0_tryOrders_3 23 rfl rfl)
theorem dX0_tryOrders_94 : decode cX0_tryOrders 94 = .ok (.getfield 104, 3) := dk_180 0 104 (dk_at dksX0_tryOrders_4 0 rfl rfl)
theorem dX0_tryOrders_97 : decode cX0_tryOrders 97 = .ok (.if_icmp .ge 74, 3) := dk_162 0 74 (dk_at dksX0_tryOrders_4 3 rfl rfl)
theorem dX0_tryOrders_100 : decode cX0_tryOrders 100 = .ok (.aload 4, 2) := dk_25 4 (dk_at dksX0_tryOrders_4 6 rfl rfl)
theorem dX0_tryOrders_102 : decode cX0_tryOrders 102 = .ok (.iload_n 2, 1) := dk_28 (dk_at dksX0_tryOrders_4 8 rfl rfl)
theorem dX0_tryOrders_103 : decode cX0_tryOrders 103 = .ok (.invokestatic 266, 3) := dk_184 1 10 (dk_at dksX0_tryOrders_4 9 rfl rfl)
theorem dX0_tryOrders_106 : decode cX0_tryOrders 106 = .ok (.putfield 104, 3) := dk_181 0 104 (dk_at dksX0_tryOrders_4 12 rfl rfl)
theorem dX0_tryOrders_109 : decode cX0_tryOrders 109 = .ok (.iload_n 2, 1) := dk_28 (dk_at dksX0_tryOrders_4 15 rfl rfl)
theorem dX0_tryOrders_110 : decode cX0_tryOrders 110 = .ok (.iload 5, 2) := dk_21 5 (dk_at dksX0_tryOrders_4 16 rfl rfl)
theorem dX0_tryOrders_112 : decode cX0_tryOrders 112 = .ok (.invokestatic 271, 3) := dk_184 1 15 (dk_at dksX0_tryOrders_4 18 rfl rfl)
theorem dX0_tryOrders_115 : decode cX0_tryOrders 115 = .ok (.ifCond .eq 50, 3) := dk_153 0 50 (dk_at dksX0_tryOrders_4 21 rfl rfl)
theorem dX0_tryOrders_118 : decode cX0_tryOrders 118 = .ok (.aload_n 0, 1) := dk_42 (dk_at dksX0_tryOrders_5 0 rfl rfl)
theorem dX0_tryOrders_119 : decode cX0_tryOrders 119 = .ok (.invokevirtual 213, 3) := dk_182 0 213 (dk_at dksX0_tryOrders_5 1 rfl rfl)
theorem dX0_tryOrders_122 : decode cX0_tryOrders 122 = .ok (.aload 4, 2) := dk_25 4 (dk_at dksX0_tryOrders_5 4 rfl rfl)
theorem dX0_tryOrders_124 : decode cX0_tryOrders 124 = .ok (.iload_n 2, 1) := dk_28 (dk_at dksX0_tryOrders_5 6 rfl rfl)
theorem dX0_tryOrders_125 : decode cX0_tryOrders 125 = .ok (.iconst 1, 1) := dk_4 (dk_at dksX0_tryOrders_5 7 rfl rfl)
theorem dX0_tryOrders_126 : decode cX0_tryOrders 126 = .ok (.iload 5, 2) := dk_21 5 (dk_at dksX0_tryOrders_5 8 rfl rfl)
theorem dX0_tryOrders_128 : decode cX0_tryOrders 128 = .ok (.ishl, 1) := dk_120 (dk_at dksX0_tryOrders_5 10 rfl rfl)
theorem dX0_tryOrders_129 : decode cX0_tryOrders 129 = .ok (.iconst 1, 1) := dk_4 (dk_at dksX0_tryOrders_5 11 rfl rfl)
theorem dX0_tryOrders_130 : decode cX0_tryOrders 130 = .ok (.isub, 1) := dk_100 (dk_at dksX0_tryOrders_5 12 rfl rfl)
theorem dX0_tryOrders_131 : decode cX0_tryOrders 131 = .ok (.iand, 1) := dk_126 (dk_at dksX0_tryOrders_5 13 rfl rfl)
theorem dX0_tryOrders_132 : decode cX0_tryOrders 132 = .ok (.invokestatic 266, 3) := dk_184 1 10 (dk_at dksX0_tryOrders_5 14 rfl rfl)
theorem dX0_tryOrders_135 : decode cX0_tryOrders 135 = .ok (.invokevirtual 217, 3) := dk_182 0 217 (dk_at dksX0_tryOrders_5 17 rfl rfl)
theorem dX0_tryOrders_138 : decode cX0_tryOrders 138 = .ok (.ifCond .eq 27, 3) := dk_153 0 27 (dk_at dksX0_tryOrders_5 20 rfl rfl)
theorem dX0_tryOrders_141 : decode cX0_tryOrders 141 = .ok (.aload_n 0, 1) := dk_42 (dk_at dksX0_tryOrders_5 23 rfl rfl)
theorem dX0_tryOrders_142 : decode cX0_tryOrders 142 = .ok (.getfield 60, 3) := dk_180 0 60 (dk_at dksX0_tryOrders_6 0 rfl rfl)
theorem dX0_tryOrders_145 : decode cX0_tryOrders 145 = .ok (.iload_n 3, 1) := dk_29 (dk_at dksX0_tryOrders_6 3 rfl rfl)
theorem dX0_tryOrders_146 : decode cX0_tryOrders 146 = .ok (.iload 5, 2) := dk_21 5 (dk_at dksX0_tryOrders_6 4 rfl rfl)
theorem dX0_tryOrders_148 : decode cX0_tryOrders 148 = .ok (.iastore, 1) := dk_79 (dk_at dksX0_tryOrders_6 6 rfl rfl)
theorem dX0_tryOrders_149 : decode cX0_tryOrders 149 = .ok (.aload_n 0, 1) := dk_42 (dk_at dksX0_tryOrders_6 7 rfl rfl)
theorem dX0_tryOrders_150 : decode cX0_tryOrders 150 = .ok (.aload_n 1, 1) := dk_43 (dk_at dksX0_tryOrders_6 8 rfl rfl)
theorem dX0_tryOrders_151 : decode cX0_tryOrders 151 = .ok (.iload_n 2, 1) := dk_28 (dk_at dksX0_tryOrders_6 9 rfl rfl)
theorem dX0_tryOrders_152 : decode cX0_tryOrders 152 = .ok (.iconst 1, 1) := dk_4 (dk_at dksX0_tryOrders_6 10 rfl rfl)
theorem dX0_tryOrders_153 : decode cX0_tryOrders 153 = .ok (.iload 5, 2) := dk_21 5 (dk_at dksX0_tryOrders_6 11 rfl rfl)
theorem dX0_tryOrders_155 : decode cX0_tryOrders 155 = .ok (.ishl, 1) := dk_120 (dk_at dksX0_tryOrders_6 13 rfl rfl)
theorem dX0_tryOrders_156 : decode cX0_tryOrders 156 = .ok (.iconst (-1), 1) := dk_2 (dk_at dksX0_tryOrders_6 14 rfl rfl)
theorem dX0_tryOrders_157 : decode cX0_tryOrders 157 = .ok (.ixor, 1) := dk_130 (dk_at dksX0_tryOrders_6 15 rfl rfl)
theorem dX0_tryOrders_158 : decode cX0_tryOrders 158 = .ok (.iand, 1) := dk_126 (dk_at dksX0_tryOrders_6 16 rfl rfl)
theorem dX0_tryOrders_159 : decode cX0_tryOrders 159 = .ok (.iload_n 3, 1) := dk_29 (dk_at dksX0_tryOrders_6 17 rfl rfl)
theorem dX0_tryOrders_160 : decode cX0_tryOrders 160 = .ok (.iconst 1, 1) := dk_4 (dk_at dksX0_tryOrders_6 18 rfl rfl)
theorem dX0_tryOrders_161 : decode cX0_tryOrders 161 = .ok (.iadd, 1) := dk_96 (dk_at dksX0_tryOrders_6 19 rfl rfl)
theorem dX0_tryOrders_162 : decode cX0_tryOrders 162 = .ok (.invokevirtual 274, 3) := dk_182 1 18 (dk_at dksX0_tryOrders_6 20 rfl rfl)
theorem dX0_tryOrders_165 : decode cX0_tryOrders 165 = .ok (.iinc 5 1, 3) := dk_132 5 1 (dk_at dksX0_tryOrders_7 0 rfl rfl)
theorem dX0_tryOrders_168 : decode cX0_tryOrders 168 = .ok (.goto (-77), 3) := dk_167 255 179 (dk_at dksX0_tryOrders_7 3 rfl rfl)
theorem dX0_tryOrders_171 : decode cX0_tryOrders 171 = .ok (.return_, 1) := dk_177 (dk_at dksX0_tryOrders_7 6 rfl rfl)
abbrev cX0_daysBy : ByteArray := prog_1_method_36_code
def yX0_daysBy : MethodName := ⟨RX0, "daysBy", "(LDebtCoats$Wearer;)I"⟩
def dkwX0_daysBy_7 : List UInt8 := [132, 4, 1, 167, 255, 113, 16, 252, 172]
abbrev dktX0_daysBy_7 : List UInt8 := dkwX0_daysBy_7 ++ []
def dkwX0_daysBy_6 : List UInt8 := [167, 0, 4, 3, 96, 62, 167, 255, 145, 29, 43, 180, 0, 104, 160, 0, 6, 21, 4, 172, 44, 182, 0, 255]
abbrev dktX0_daysBy_6 : List UInt8 := dkwX0_daysBy_6 ++ dktX0_daysBy_7
def dkwX0_daysBy_5 : List UInt8 := [21, 5, 153, 0, 8, 21, 8, 167, 0, 4, 3, 96, 181, 0, 252, 29, 21, 5, 153, 0, 7, 4]
abbrev dktX0_daysBy_5 : List UInt8 := dkwX0_daysBy_5 ++ dktX0_daysBy_6
def dkwX0_daysBy_4 : List UInt8 := [167, 255, 225, 44, 21, 7, 182, 0, 133, 54, 8, 44, 21, 7, 182, 0, 221, 54, 5, 42, 89, 180, 0, 252]
abbrev dktX0_daysBy_4 : List UInt8 := dkwX0_daysBy_4 ++ dktX0_daysBy_5
def dkwX0_daysBy_3 : List UInt8 := [180, 0, 60, 21, 8, 46, 21, 6, 162, 0, 7, 4, 167, 0, 4, 3, 100, 54, 7, 132, 8, 1]
abbrev dktX0_daysBy_3 : List UInt8 := dkwX0_daysBy_3 ++ dktX0_daysBy_4
def dkwX0_daysBy_2 : List UInt8 := [180, 0, 60, 29, 46, 54, 6, 21, 6, 54, 7, 3, 54, 8, 21, 8, 29, 162, 0, 31, 21, 7, 42]
abbrev dktX0_daysBy_2 : List UInt8 := dkwX0_daysBy_2 ++ dktX0_daysBy_3
def dkwX0_daysBy_1 : List UInt8 := [17, 1, 104, 163, 0, 141, 4, 54, 5, 21, 5, 153, 0, 112, 29, 43, 180, 0, 104, 162, 0, 104, 42]
abbrev dktX0_daysBy_1 : List UInt8 := dkwX0_daysBy_1 ++ dktX0_daysBy_2
def dkwX0_daysBy_0 : List UInt8 := [42, 180, 0, 35, 77, 44, 43, 182, 0, 248, 42, 3, 181, 0, 252, 3, 62, 3, 54, 4, 21, 4]
abbrev dktX0_daysBy_0 : List UInt8 := dkwX0_daysBy_0 ++ dktX0_daysBy_1
theorem dksX0_daysBy_0 : cX0_daysBy.data.toList.drop 0 = dktX0_daysBy_0 := by decide +kernel
theorem dksX0_daysBy_1 : cX0_daysBy.data.toList.drop 22 = dktX0_daysBy_1 := dk_seg dksX0_daysBy_0 22 rfl rfl
theorem dksX0_daysBy_2 : cX0_daysBy.data.toList.drop 45 = dktX0_daysBy_2 := dk_seg dksX0_daysBy_1 23 rfl rfl
theorem dksX0_daysBy_3 : cX0_daysBy.data.toList.drop 68 = dktX0_daysBy_3 := dk_seg dksX0_daysBy_2 23 rfl rfl
theorem dksX0_daysBy_4 : cX0_daysBy.data.toList.drop 90 = dktX0_daysBy_4 := dk_seg dksX0_daysBy_3 22 rfl rfl
theorem dksX0_daysBy_5 : cX0_daysBy.data.toList.drop 114 = dktX0_daysBy_5 := dk_seg dksX0_daysBy_4 24 rfl rfl
theorem dksX0_daysBy_6 : cX0_daysBy.data.toList.drop 136 = dktX0_daysBy_6 := dk_seg dksX0_daysBy_5 22 rfl rfl
theorem dksX0_daysBy_7 : cX0_daysBy.data.toList.drop 160 = dktX0_daysBy_7 := dk_seg dksX0_daysBy_6 24 rfl rfl
theorem dX0_daysBy_0 : decode cX0_daysBy 0 = .ok (.aload_n 0, 1) := dk_42 (dk_at dksX0_daysBy_0 0 rfl rfl)
theorem dX0_daysBy_1 : decode cX0_daysBy 1 = .ok (.getfield 35, 3) := dk_180 0 35 (dk_at dksX0_daysBy_0 1 rfl rfl)
theorem dX0_daysBy_4 : decode cX0_daysBy 4 = .ok (.astore_n 2, 1) := dk_77 (dk_at dksX0_daysBy_0 4 rfl rfl)
theorem dX0_daysBy_5 : decode cX0_daysBy 5 = .ok (.aload_n 2, 1) := dk_44 (dk_at dksX0_daysBy_0 5 rfl rfl)
theorem dX0_daysBy_6 : decode cX0_daysBy 6 = .ok (.aload_n 1, 1) := dk_43 (dk_at dksX0_daysBy_0 6 rfl rfl)
theorem dX0_daysBy_7 : decode cX0_daysBy 7 = .ok (.invokevirtual 248, 3) := dk_182 0 248 (dk_at dksX0_daysBy_0 7 rfl rfl)
theorem dX0_daysBy_10 : decode cX0_daysBy 10 = .ok (.aload_n 0, 1) := dk_42 (dk_at dksX0_daysBy_0 10 rfl rfl)
theorem dX0_daysBy_11 : decode cX0_daysBy 11 = .ok (.iconst 0, 1) := dk_3 (dk_at dksX0_daysBy_0 11 rfl rfl)
theorem dX0_daysBy_12 : decode cX0_daysBy 12 = .ok (.putfield 252, 3) := dk_181 0 252 (dk_at dksX0_daysBy_0 12 rfl rfl)
theorem dX0_daysBy_15 : decode cX0_daysBy 15 = .ok (.iconst 0, 1) := dk_3 (dk_at dksX0_daysBy_0 15 rfl rfl)
theorem dX0_daysBy_16 : decode cX0_daysBy 16 = .ok (.istore_n 3, 1) := dk_62 (dk_at dksX0_daysBy_0 16 rfl rfl)
theorem dX0_daysBy_17 : decode cX0_daysBy 17 = .ok (.iconst 0, 1) := dk_3 (dk_at dksX0_daysBy_0 17 rfl rfl)
theorem dX0_daysBy_18 : decode cX0_daysBy 18 = .ok (.istore 4, 2) := dk_54 4 (dk_at dksX0_daysBy_0 18 rfl rfl)
theorem dX0_daysBy_20 : decode cX0_daysBy 20 = .ok (.iload 4, 2) := dk_21 4 (dk_at dksX0_daysBy_0 20 rfl rfl)
theorem dX0_daysBy_22 : decode cX0_daysBy 22 = .ok (.sipush 360, 3) := dk_17 1 104 (dk_at dksX0_daysBy_1 0 rfl rfl)
theorem dX0_daysBy_25 : decode cX0_daysBy 25 = .ok (.if_icmp .gt 141, 3) := dk_163 0 141 (dk_at dksX0_daysBy_1 3 rfl rfl)
theorem dX0_daysBy_28 : decode cX0_daysBy 28 = .ok (.iconst 1, 1) := dk_4 (dk_at dksX0_daysBy_1 6 rfl rfl)
theorem dX0_daysBy_29 : decode cX0_daysBy 29 = .ok (.istore 5, 2) := dk_54 5 (dk_at dksX0_daysBy_1 7 rfl rfl)
theorem dX0_daysBy_31 : decode cX0_daysBy 31 = .ok (.iload 5, 2) := dk_21 5 (dk_at dksX0_daysBy_1 9 rfl rfl)
theorem dX0_daysBy_33 : decode cX0_daysBy 33 = .ok (.ifCond .eq 112, 3) := dk_153 0 112 (dk_at dksX0_daysBy_1 11 rfl rfl)
theorem dX0_daysBy_36 : decode cX0_daysBy 36 = .ok (.iload_n 3, 1) := dk_29 (dk_at dksX0_daysBy_1 14 rfl rfl)
theorem dX0_daysBy_37 : decode cX0_daysBy 37 = .ok (.aload_n 1, 1) := dk_43 (dk_at dksX0_daysBy_1 15 rfl rfl)
theorem dX0_daysBy_38 : decode cX0_daysBy 38 = .ok (.getfield 104, 3) := dk_180 0 104 (dk_at dksX0_daysBy_1 16 rfl rfl)
theorem dX0_daysBy_41 : decode cX0_daysBy 41 = .ok (.if_icmp .ge 104, 3) := dk_162 0 104 (dk_at dksX0_daysBy_1 19 rfl rfl)
theorem dX0_daysBy_44 : decode cX0_daysBy 44 = .ok (.aload_n 0, 1) := dk_42 (dk_at dksX0_daysBy_1 22 rfl rfl)
theorem dX0_daysBy_45 : decode cX0_daysBy 45 = .ok (.getfield 60, 3) := dk_180 0 60 (dk_at dksX0_daysBy_2 0 rfl rfl)
theorem dX0_daysBy_48 : decode cX0_daysBy 48 = .ok (.iload_n 3, 1) := dk_29 (dk_at dksX0_daysBy_2 3 rfl rfl)
theorem dX0_daysBy_49 : decode cX0_daysBy 49 = .ok (.iaload, 1) := dk_46 (dk_at dksX0_daysBy_2 4 rfl rfl)
theorem dX0_daysBy_50 : decode cX0_daysBy 50 = .ok (.istore 6, 2) := dk_54 6 (dk_at dksX0_daysBy_2 5 rfl rfl)
theorem dX0_daysBy_52 : decode cX0_daysBy 52 = .ok (.iload 6, 2) := dk_21 6 (dk_at dksX0_daysBy_2 7 rfl rfl)
theorem dX0_daysBy_54 : decode cX0_daysBy 54 = .ok (.istore 7, 2) := dk_54 7 (dk_at dksX0_daysBy_2 9 rfl rfl)
theorem dX0_daysBy_56 : decode cX0_daysBy 56 = .ok (.iconst 0, 1) := dk_3 (dk_at dksX0_daysBy_2 11 rfl rfl)
theorem dX0_daysBy_57 : decode cX0_daysBy 57 = .ok (.istore 8, 2) := dk_54 8 (dk_at dksX0_daysBy_2 12 rfl rfl)
theorem dX0_daysBy_59 : decode cX0_daysBy 59 = .ok (.iload 8, 2) := dk_21 8 (dk_at dksX0_daysBy_2 14 rfl rfl)
theorem dX0_daysBy_61 : decode cX0_daysBy 61 = .ok (.iload_n 3, 1) := dk_29 (dk_at dksX0_daysBy_2 16 rfl rfl)
theorem dX0_daysBy_62 : decode cX0_daysBy 62 = .ok (.if_icmp .ge 31, 3) := dk_162 0 31 (dk_at dksX0_daysBy_2 17 rfl rfl)
theorem dX0_daysBy_65 : decode cX0_daysBy 65 = .ok (.iload 7, 2) := dk_21 7 (dk_at dksX0_daysBy_2 20 rfl rfl)
theorem dX0_daysBy_67 : decode cX0_daysBy 67 = .ok (.aload_n 0, 1) := dk_42 (dk_at dksX0_daysBy_2 22 rfl rfl)
theorem dX0_daysBy_68 : decode cX0_daysBy 68 = .ok (.getfield 60, 3) := dk_180 0 60 (dk_at dksX0_daysBy_3 0 rfl rfl)
theorem dX0_daysBy_71 : decode cX0_daysBy 71 = .ok (.iload 8, 2) := dk_21 8 (dk_at dksX0_daysBy_3 3 rfl rfl)
theorem dX0_daysBy_73 : decode cX0_daysBy 73 = .ok (.iaload, 1) := dk_46 (dk_at dksX0_daysBy_3 5 rfl rfl)
theorem dX0_daysBy_74 : decode cX0_daysBy 74 = .ok (.iload 6, 2) := dk_21 6 (dk_at dksX0_daysBy_3 6 rfl rfl)
theorem dX0_daysBy_76 : decode cX0_daysBy 76 = .ok (.if_icmp .ge 7, 3) := dk_162 0 7 (dk_at dksX0_daysBy_3 8 rfl rfl)
theorem dX0_daysBy_79 : decode cX0_daysBy 79 = .ok (.iconst 1, 1) := dk_4 (dk_at dksX0_daysBy_3 11 rfl rfl)
theorem dX0_daysBy_80 : decode cX0_daysBy 80 = .ok (.goto 4, 3) := dk_167 0 4 (dk_at dksX0_daysBy_3 12 rfl rfl)
theorem dX0_daysBy_83 : decode cX0_daysBy 83 = .ok (.iconst 0, 1) := dk_3 (dk_at dksX0_daysBy_3 15 rfl rfl)
theorem dX0_daysBy_84 : decode cX0_daysBy 84 = .ok (.isub, 1) := dk_100 (dk_at dksX0_daysBy_3 16 rfl rfl)
theorem dX0_daysBy_85 : decode cX0_daysBy 85 = .ok (.istore 7, 2) := dk_54 7 (dk_at dksX0_daysBy_3 17 rfl rfl)
theorem dX0_daysBy_87 : decode cX0_daysBy 87 = .ok (.iinc 8 1, 3) := dk_132 8 1 (dk_at dksX0_daysBy_3 19 rfl rfl)
theorem dX0_daysBy_90 : decode cX0_daysBy 90 = .ok (.goto (-31), 3) := dk_167 255 225 (dk_at dksX0_daysBy_4 0 rfl rfl)
theorem dX0_daysBy_93 : decode cX0_daysBy 93 = .ok (.aload_n 2, 1) := dk_44 (dk_at dksX0_daysBy_4 3 rfl rfl)
theorem dX0_daysBy_94 : decode cX0_daysBy 94 = .ok (.iload 7, 2) := dk_21 7 (dk_at dksX0_daysBy_4 4 rfl rfl)
theorem dX0_daysBy_96 : decode cX0_daysBy 96 = .ok (.invokevirtual 133, 3) := dk_182 0 133 (dk_at dksX0_daysBy_4 6 rfl rfl)
theorem dX0_daysBy_99 : decode cX0_daysBy 99 = .ok (.istore 8, 2) := dk_54 8 (dk_at dksX0_daysBy_4 9 rfl rfl)
theorem dX0_daysBy_101 : decode cX0_daysBy 101 = .ok (.aload_n 2, 1) := dk_44 (dk_at dksX0_daysBy_4 11 rfl rfl)
theorem dX0_daysBy_102 : decode cX0_daysBy 102 = .ok (.iload 7, 2) := dk_21 7 (dk_at dksX0_daysBy_4 12 rfl rfl)
theorem dX0_daysBy_104 : decode cX0_daysBy 104 = .ok (.invokevirtual 221, 3) := dk_182 0 221 (dk_at dksX0_daysBy_4 14 rfl rfl)
theorem dX0_daysBy_107 : decode cX0_daysBy 107 = .ok (.istore 5, 2) := dk_54 5 (dk_at dksX0_daysBy_4 17 rfl rfl)
theorem dX0_daysBy_109 : decode cX0_daysBy 109 = .ok (.aload_n 0, 1) := dk_42 (dk_at dksX0_daysBy_4 19 rfl rfl)
theorem dX0_daysBy_110 : decode cX0_daysBy 110 = .ok (.dup, 1) := dk_89 (dk_at dksX0_daysBy_4 20 rfl rfl)
theorem dX0_daysBy_111 : decode cX0_daysBy 111 = .ok (.getfield 252, 3) := dk_180 0 252 (dk_at dksX0_daysBy_4 21 rfl rfl)
theorem dX0_daysBy_114 : decode cX0_daysBy 114 = .ok (.iload 5, 2) := dk_21 5 (dk_at dksX0_daysBy_5 0 rfl rfl)
theorem dX0_daysBy_116 : decode cX0_daysBy 116 = .ok (.ifCond .eq 8, 3) := dk_153 0 8 (dk_at dksX0_daysBy_5 2 rfl rfl)
theorem dX0_daysBy_119 : decode cX0_daysBy 119 = .ok (.iload 8, 2) := dk_21 8 (dk_at dksX0_daysBy_5 5 rfl rfl)
theorem dX0_daysBy_121 : decode cX0_daysBy 121 = .ok (.goto 4, 3) := dk_167 0 4 (dk_at dksX0_daysBy_5 7 rfl rfl)
theorem dX0_daysBy_124 : decode cX0_daysBy 124 = .ok (.iconst 0, 1) := dk_3 (dk_at dksX0_daysBy_5 10 rfl rfl)
theorem dX0_daysBy_125 : decode cX0_daysBy 125 = .ok (.iadd, 1) := dk_96 (dk_at dksX0_daysBy_5 11 rfl rfl)
theorem dX0_daysBy_126 : decode cX0_daysBy 126 = .ok (.putfield 252, 3) := dk_181 0 252 (dk_at dksX0_daysBy_5 12 rfl rfl)
theorem dX0_daysBy_129 : decode cX0_daysBy 129 = .ok (.iload_n 3, 1) := dk_29 (dk_at dksX0_daysBy_5 15 rfl rfl)
theorem dX0_daysBy_130 : decode cX0_daysBy 130 = .ok (.iload 5, 2) := dk_21 5 (dk_at dksX0_daysBy_5 16 rfl rfl)
theorem dX0_daysBy_132 : decode cX0_daysBy 132 = .ok (.ifCond .eq 7, 3) := dk_153 0 7 (dk_at dksX0_daysBy_5 18 rfl rfl)
theorem dX0_daysBy_135 : decode cX0_daysBy 135 = .ok (.iconst 1, 1) := dk_4 (dk_at dksX0_daysBy_5 21 rfl rfl)
theorem dX0_daysBy_136 : decode cX0_daysBy 136 = .ok (.goto 4, 3) := dk_167 0 4 (dk_at dksX0_daysBy_6 0 rfl rfl)
theorem dX0_daysBy_139 : decode cX0_daysBy 139 = .ok (.iconst 0, 1) := dk_3 (dk_at dksX0_daysBy_6 3 rfl rfl)
theorem dX0_daysBy_140 : decode cX0_daysBy 140 = .ok (.iadd, 1) := dk_96 (dk_at dksX0_daysBy_6 4 rfl rfl)
theorem dX0_daysBy_141 : decode cX0_daysBy 141 = .ok (.istore_n 3, 1) := dk_62 (dk_at dksX0_daysBy_6 5 rfl rfl)
theorem dX0_daysBy_142 : decode cX0_daysBy 142 = .ok (.goto (-111), 3) := dk_167 255 145 (dk_at dksX0_daysBy_6 6 rfl rfl)
theorem dX0_daysBy_145 : decode cX0_daysBy 145 = .ok (.iload_n 3, 1) := dk_29 (dk_at dksX0_daysBy_6 9 rfl rfl)
theorem dX0_daysBy_146 : decode cX0_daysBy 146 = .ok (.aload_n 1, 1) := dk_43 (dk_at dksX0_daysBy_6 10 rfl rfl)
theorem dX0_daysBy_147 : decode cX0_daysBy 147 = .ok (.getfield 104, 3) := dk_180 0 104 (dk_at dksX0_daysBy_6 11 rfl rfl)
theorem dX0_daysBy_150 : decode cX0_daysBy 150 = .ok (.if_icmp .ne 6, 3) := dk_160 0 6 (dk_at dksX0_daysBy_6 14 rfl rfl)
theorem dX0_daysBy_153 : decode cX0_daysBy 153 = .ok (.iload 4, 2) := dk_21 4 (dk_at dksX0_daysBy_6 17 rfl rfl)
theorem dX0_daysBy_155 : decode cX0_daysBy 155 = .ok (.ireturn, 1) := dk_172 (dk_at dksX0_daysBy_6 19 rfl rfl)
theorem dX0_daysBy_156 : decode cX0_daysBy 156 = .ok (.aload_n 2, 1) := dk_44 (dk_at dksX0_daysBy_6 20 rfl rfl)
theorem dX0_daysBy_157 : decode cX0_daysBy 157 = .ok (.invokevirtual 255, 3) := dk_182 0 255 (dk_at dksX0_daysBy_6 21 rfl rfl)
theorem dX0_daysBy_160 : decode cX0_daysBy 160 = .ok (.iinc 4 1, 3) := dk_132 4 1 (dk_at dksX0_daysBy_7 0 rfl rfl)
theorem dX0_daysBy_163 : decode cX0_daysBy 163 = .ok (.goto (-143), 3) := dk_167 255 113 (dk_at dksX0_daysBy_7 3 rfl rfl)
theorem dX0_daysBy_166 : decode cX0_daysBy 166 = .ok (.bipush (-4), 2) := dk_16 252 (dk_at dksX0_daysBy_7 6 rfl rfl)
theorem dX0_daysBy_168 : decode cX0_daysBy 168 = .ok (.ireturn, 1) := dk_172 (dk_at dksX0_daysBy_7 8 rfl rfl)
abbrev cX0_has : ByteArray := prog_1_method_2_code
def yX0_has : MethodName := ⟨RX0, "has", "(II)Z"⟩
def dkwX0_has_0 : List UInt8 := [26, 27, 122, 4, 126, 4, 160, 0, 7, 4, 167, 0, 4, 3, 172]
abbrev dktX0_has_0 : List UInt8 := dkwX0_has_0 ++ []
theorem dksX0_has_0 : cX0_has.data.toList.drop 0 = dktX0_has_0 := by decide +kernel
theorem dX0_has_0 : decode cX0_has 0 = .ok (.iload_n 0, 1) := dk_26 (dk_at dksX0_has_0 0 rfl rfl)
theorem dX0_has_1 : decode cX0_has 1 = .ok (.iload_n 1, 1) := dk_27 (dk_at dksX0_has_0 1 rfl rfl)
theorem dX0_has_2 : decode cX0_has 2 = .ok (.ishr, 1) := dk_122 (dk_at dksX0_has_0 2 rfl rfl)
theorem dX0_has_3 : decode cX0_has 3 = .ok (.iconst 1, 1) := dk_4 (dk_at dksX0_has_0 3 rfl rfl)
theorem dX0_has_4 : decode cX0_has 4 = .ok (.iand, 1) := dk_126 (dk_at dksX0_has_0 4 rfl rfl)
theorem dX0_has_5 : decode cX0_has 5 = .ok (.iconst 1, 1) := dk_4 (dk_at dksX0_has_0 5 rfl rfl)
theorem dX0_has_6 : decode cX0_has 6 = .ok (.if_icmp .ne 7, 3) := dk_160 0 7 (dk_at dksX0_has_0 6 rfl rfl)
theorem dX0_has_9 : decode cX0_has 9 = .ok (.iconst 1, 1) := dk_4 (dk_at dksX0_has_0 9 rfl rfl)
theorem dX0_has_10 : decode cX0_has 10 = .ok (.goto 4, 3) := dk_167 0 4 (dk_at dksX0_has_0 10 rfl rfl)
theorem dX0_has_13 : decode cX0_has 13 = .ok (.iconst 0, 1) := dk_3 (dk_at dksX0_has_0 13 rfl rfl)
theorem dX0_has_14 : decode cX0_has 14 = .ok (.ireturn, 1) := dk_172 (dk_at dksX0_has_0 14 rfl rfl)
abbrev cX0_saves : ByteArray := prog_1_method_40_code
def yX0_saves : MethodName := ⟨RX0, "saves", "(II)I"⟩
def dkwX0_saves_4 : List UInt8 := [21, 4, 42, 180, 1, 4, 156, 0, 9, 17, 1, 105, 167, 0, 7, 42, 180, 1, 4, 100, 172]
abbrev dktX0_saves_4 : List UInt8 := dkwX0_saves_4 ++ []
def dkwX0_saves_3 : List UInt8 := [180, 0, 66, 45, 182, 0, 248, 42, 180, 0, 66, 28, 182, 0, 230, 42, 42, 180, 0, 66, 182, 1, 22]
abbrev dktX0_saves_3 : List UInt8 := dkwX0_saves_3 ++ dktX0_saves_4
def dkwX0_saves_2 : List UInt8 := [45, 182, 1, 22, 42, 180, 1, 4, 156, 0, 9, 17, 1, 105, 167, 0, 7, 42, 180, 1, 4, 54, 4, 42]
abbrev dktX0_saves_2 : List UInt8 := dkwX0_saves_2 ++ dktX0_saves_3
def dkwX0_saves_1 : List UInt8 := [180, 0, 104, 16, 6, 164, 0, 6, 16, 253, 172, 42, 27, 28, 182, 0, 227, 154, 0, 6, 16, 254, 172, 42]
abbrev dktX0_saves_1 : List UInt8 := dkwX0_saves_1 ++ dktX0_saves_2
def dkwX0_saves_0 : List UInt8 := [42, 27, 28, 182, 0, 143, 154, 0, 5, 2, 172, 42, 180, 0, 25, 180, 0, 100, 27, 50, 78, 45]
abbrev dktX0_saves_0 : List UInt8 := dkwX0_saves_0 ++ dktX0_saves_1
theorem dksX0_saves_0 : cX0_saves.data.toList.drop 0 = dktX0_saves_0 := by decide +kernel
theorem dksX0_saves_1 : cX0_saves.data.toList.drop 22 = dktX0_saves_1 := dk_seg dksX0_saves_0 22 rfl rfl
theorem dksX0_saves_2 : cX0_saves.data.toList.drop 46 = dktX0_saves_2 := dk_seg dksX0_saves_1 24 rfl rfl
theorem dksX0_saves_3 : cX0_saves.data.toList.drop 70 = dktX0_saves_3 := dk_seg dksX0_saves_2 24 rfl rfl
theorem dksX0_saves_4 : cX0_saves.data.toList.drop 93 = dktX0_saves_4 := dk_seg dksX0_saves_3 23 rfl rfl
theorem dX0_saves_0 : decode cX0_saves 0 = .ok (.aload_n 0, 1) := dk_42 (dk_at dksX0_saves_0 0 rfl rfl)
theorem dX0_saves_1 : decode cX0_saves 1 = .ok (.iload_n 1, 1) := dk_27 (dk_at dksX0_saves_0 1 rfl rfl)
theorem dX0_saves_2 : decode cX0_saves 2 = .ok (.iload_n 2, 1) := dk_28 (dk_at dksX0_saves_0 2 rfl rfl)
theorem dX0_saves_3 : decode cX0_saves 3 = .ok (.invokevirtual 143, 3) := dk_182 0 143 (dk_at dksX0_saves_0 3 rfl rfl)
theorem dX0_saves_6 : decode cX0_saves 6 = .ok (.ifCond .ne 5, 3) := dk_154 0 5 (dk_at dksX0_saves_0 6 rfl rfl)
theorem dX0_saves_9 : decode cX0_saves 9 = .ok (.iconst (-1), 1) := dk_2 (dk_at dksX0_saves_0 9 rfl rfl)
theorem dX0_saves_10 : decode cX0_saves 10 = .ok (.ireturn, 1) := dk_172 (dk_at dksX0_saves_0 10 rfl rfl)
theorem dX0_saves_11 : decode cX0_saves 11 = .ok (.aload_n 0, 1) := dk_42 (dk_at dksX0_saves_0 11 rfl rfl)
theorem dX0_saves_12 : decode cX0_saves 12 = .ok (.getfield 25, 3) := dk_180 0 25 (dk_at dksX0_saves_0 12 rfl rfl)
theorem dX0_saves_15 : decode cX0_saves 15 = .ok (.getfield 100, 3) := dk_180 0 100 (dk_at dksX0_saves_0 15 rfl rfl)
theorem dX0_saves_18 : decode cX0_saves 18 = .ok (.iload_n 1, 1) := dk_27 (dk_at dksX0_saves_0 18 rfl rfl)
theorem dX0_saves_19 : decode cX0_saves 19 = .ok (.aaload, 1) := dk_50 (dk_at dksX0_saves_0 19 rfl rfl)
theorem dX0_saves_20 : decode cX0_saves 20 = .ok (.astore_n 3, 1) := dk_78 (dk_at dksX0_saves_0 20 rfl rfl)
theorem dX0_saves_21 : decode cX0_saves 21 = .ok (.aload_n 3, 1) := dk_45 (dk_at dksX0_saves_0 21 rfl rfl)
theorem dX0_saves_22 : decode cX0_saves 22 = .ok (.getfield 104, 3) := dk_180 0 104 (dk_at dksX0_saves_1 0 rfl rfl)
theorem dX0_saves_25 : decode cX0_saves 25 = .ok (.bipush 6, 2) := dk_16 6 (dk_at dksX0_saves_1 3 rfl rfl)
theorem dX0_saves_27 : decode cX0_saves 27 = .ok (.if_icmp .le 6, 3) := dk_164 0 6 (dk_at dksX0_saves_1 5 rfl rfl)
theorem dX0_saves_30 : decode cX0_saves 30 = .ok (.bipush (-3), 2) := dk_16 253 (dk_at dksX0_saves_1 8 rfl rfl)
theorem dX0_saves_32 : decode cX0_saves 32 = .ok (.ireturn, 1) := dk_172 (dk_at dksX0_saves_1 10 rfl rfl)
theorem dX0_saves_33 : decode cX0_saves 33 = .ok (.aload_n 0, 1) := dk_42 (dk_at dksX0_saves_1 11 rfl rfl)
theorem dX0_saves_34 : decode cX0_saves 34 = .ok (.iload_n 1, 1) := dk_27 (dk_at dksX0_saves_1 12 rfl rfl)
theorem dX0_saves_35 : decode cX0_saves 35 = .ok (.iload_n 2, 1) := dk_28 (dk_at dksX0_saves_1 13 rfl rfl)
theorem dX0_saves_36 : decode cX0_saves 36 = .ok (.invokevirtual 227, 3) := dk_182 0 227 (dk_at dksX0_saves_1 14 rfl rfl)
theorem dX0_saves_39 : decode cX0_saves 39 = .ok (.ifCond .ne 6, 3) := dk_154 0 6 (dk_at dksX0_saves_1 17 rfl rfl)
theorem dX0_saves_42 : decode cX0_saves 42 = .ok (.bipush (-2), 2) := dk_16 254 (dk_at dksX0_saves_1 20 rfl rfl)
theorem dX0_saves_44 : decode cX0_saves 44 = .ok (.ireturn, 1) := dk_172 (dk_at dksX0_saves_1 22 rfl rfl)
theorem dX0_saves_45 : decode cX0_saves 45 = .ok (.aload_n 0, 1) := dk_42 (dk_at dksX0_saves_1 23 rfl rfl)
theorem dX0_saves_46 : decode cX0_saves 46 = .ok (.aload_n 3, 1) := dk_45 (dk_at dksX0_saves_2 0 rfl rfl)
theorem dX0_saves_47 : decode cX0_saves 47 = .ok (.invokevirtual 278, 3) := dk_182 1 22 (dk_at dksX0_saves_2 1 rfl rfl)
theorem dX0_saves_50 : decode cX0_saves 50 = .ok (.aload_n 0, 1) := dk_42 (dk_at dksX0_saves_2 4 rfl rfl)
theorem dX0_saves_51 : decode cX0_saves 51 = .ok (.getfield 260, 3) := dk_180 1 4 (dk_at dksX0_saves_2 5 rfl rfl)
theorem dX0_saves_54 : decode cX0_saves 54 = .ok (.ifCond .ge 9, 3) := dk_156 0 9 (dk_at dksX0_saves_2 8 rfl rfl)
theorem dX0_saves_57 : decode cX0_saves 57 = .ok (.sipush 361, 3) := dk_17 1 105 (dk_at dksX0_saves_2 11 rfl rfl)
theorem dX0_saves_60 : decode cX0_saves 60 = .ok (.goto 7, 3) := dk_167 0 7 (dk_at dksX0_saves_2 14 rfl rfl)
theorem dX0_saves_63 : decode cX0_saves 63 = .ok (.aload_n 0, 1) := dk_42 (dk_at dksX0_saves_2 17 rfl rfl)
theorem dX0_saves_64 : decode cX0_saves 64 = .ok (.getfield 260, 3) := dk_180 1 4 (dk_at dksX0_saves_2 18 rfl rfl)
theorem dX0_saves_67 : decode cX0_saves 67 = .ok (.istore 4, 2) := dk_54 4 (dk_at dksX0_saves_2 21 rfl rfl)
theorem dX0_saves_69 : decode cX0_saves 69 = .ok (.aload_n 0, 1) := dk_42 (dk_at dksX0_saves_2 23 rfl rfl)
theorem dX0_saves_70 : decode cX0_saves 70 = .ok (.getfield 66, 3) := dk_180 0 66 (dk_at dksX0_saves_3 0 rfl rfl)
theorem dX0_saves_73 : decode cX0_saves 73 = .ok (.aload_n 3, 1) := dk_45 (dk_at dksX0_saves_3 3 rfl rfl)
theorem dX0_saves_74 : decode cX0_saves 74 = .ok (.invokevirtual 248, 3) := dk_182 0 248 (dk_at dksX0_saves_3 4 rfl rfl)
theorem dX0_saves_77 : decode cX0_saves 77 = .ok (.aload_n 0, 1) := dk_42 (dk_at dksX0_saves_3 7 rfl rfl)
theorem dX0_saves_78 : decode cX0_saves 78 = .ok (.getfield 66, 3) := dk_180 0 66 (dk_at dksX0_saves_3 8 rfl rfl)
theorem dX0_saves_81 : decode cX0_saves 81 = .ok (.iload_n 2, 1) := dk_28 (dk_at dksX0_saves_3 11 rfl rfl)
theorem dX0_saves_82 : decode cX0_saves 82 = .ok (.invokevirtual 230, 3) := dk_182 0 230 (dk_at dksX0_saves_3 12 rfl rfl)
theorem dX0_saves_85 : decode cX0_saves 85 = .ok (.aload_n 0, 1) := dk_42 (dk_at dksX0_saves_3 15 rfl rfl)
theorem dX0_saves_86 : decode cX0_saves 86 = .ok (.aload_n 0, 1) := dk_42 (dk_at dksX0_saves_3 16 rfl rfl)
theorem dX0_saves_87 : decode cX0_saves 87 = .ok (.getfield 66, 3) := dk_180 0 66 (dk_at dksX0_saves_3 17 rfl rfl)
theorem dX0_saves_90 : decode cX0_saves 90 = .ok (.invokevirtual 278, 3) := dk_182 1 22 (dk_at dksX0_saves_3 20 rfl rfl)
theorem dX0_saves_93 : decode cX0_saves 93 = .ok (.iload 4, 2) := dk_21 4 (dk_at dksX0_saves_4 0 rfl rfl)
theorem dX0_saves_95 : decode cX0_saves 95 = .ok (.aload_n 0, 1) := dk_42 (dk_at dksX0_saves_4 2 rfl rfl)
theorem dX0_saves_96 : decode cX0_saves 96 = .ok (.getfield 260, 3) := dk_180 1 4 (dk_at dksX0_saves_4 3 rfl rfl)
theorem dX0_saves_99 : decode cX0_saves 99 = .ok (.ifCond .ge 9, 3) := dk_156 0 9 (dk_at dksX0_saves_4 6 rfl rfl)
theorem dX0_saves_102 : decode cX0_saves 102 = .ok (.sipush 361, 3) := dk_17 1 105 (dk_at dksX0_saves_4 9 rfl rfl)
theorem dX0_saves_105 : decode cX0_saves 105 = .ok (.goto 7, 3) := dk_167 0 7 (dk_at dksX0_saves_4 12 rfl rfl)
theorem dX0_saves_108 : decode cX0_saves 108 = .ok (.aload_n 0, 1) := dk_42 (dk_at dksX0_saves_4 15 rfl rfl)
theorem dX0_saves_109 : decode cX0_saves 109 = .ok (.getfield 260, 3) := dk_180 1 4 (dk_at dksX0_saves_4 16 rfl rfl)
theorem dX0_saves_112 : decode cX0_saves 112 = .ok (.isub, 1) := dk_100 (dk_at dksX0_saves_4 19 rfl rfl)
theorem dX0_saves_113 : decode cX0_saves 113 = .ok (.ireturn, 1) := dk_172 (dk_at dksX0_saves_4 20 rfl rfl)
abbrev cX0_bears : ByteArray := prog_1_method_41_code
def yX0_bears : MethodName := ⟨RX0, "bears", "(I)I"⟩
def dkwX0_bears_2 : List UInt8 := [154, 0, 13, 28, 42, 180, 0, 25, 180, 0, 162, 100, 172, 132, 2, 1, 167, 255, 213, 16, 252, 172]
abbrev dktX0_bears_2 : List UInt8 := dkwX0_bears_2 ++ []
def dkwX0_bears_1 : List UInt8 := [163, 0, 42, 42, 180, 0, 25, 180, 0, 100, 27, 50, 42, 180, 0, 25, 28, 182, 1, 25, 182, 1, 28]
abbrev dktX0_bears_1 : List UInt8 := dkwX0_bears_1 ++ dktX0_bears_2
def dkwX0_bears_0 : List UInt8 := [42, 27, 182, 0, 96, 154, 0, 5, 2, 172, 42, 180, 0, 25, 180, 0, 162, 4, 96, 61, 28, 17, 1, 103]
abbrev dktX0_bears_0 : List UInt8 := dkwX0_bears_0 ++ dktX0_bears_1
theorem dksX0_bears_0 : cX0_bears.data.toList.drop 0 = dktX0_bears_0 := by decide +kernel
theorem dksX0_bears_1 : cX0_bears.data.toList.drop 24 = dktX0_bears_1 := dk_seg dksX0_bears_0 24 rfl rfl
theorem dksX0_bears_2 : cX0_bears.data.toList.drop 47 = dktX0_bears_2 := dk_seg dksX0_bears_1 23 rfl rfl
theorem dX0_bears_0 : decode cX0_bears 0 = .ok (.aload_n 0, 1) := dk_42 (dk_at dksX0_bears_0 0 rfl rfl)
theorem dX0_bears_1 : decode cX0_bears 1 = .ok (.iload_n 1, 1) := dk_27 (dk_at dksX0_bears_0 1 rfl rfl)
theorem dX0_bears_2 : decode cX0_bears 2 = .ok (.invokevirtual 96, 3) := dk_182 0 96 (dk_at dksX0_bears_0 2 rfl rfl)
theorem dX0_bears_5 : decode cX0_bears 5 = .ok (.ifCond .ne 5, 3) := dk_154 0 5 (dk_at dksX0_bears_0 5 rfl rfl)
theorem dX0_bears_8 : decode cX0_bears 8 = .ok (.iconst (-1), 1) := dk_2 (dk_at dksX0_bears_0 8 rfl rfl)
theorem dX0_bears_9 : decode cX0_bears 9 = .ok (.ireturn, 1) := dk_172 (dk_at dksX0_bears_0 9 rfl rfl)
theorem dX0_bears_10 : decode cX0_bears 10 = .ok (.aload_n 0, 1) := dk_42 (dk_at dksX0_bears_0 10 rfl rfl)
theorem dX0_bears_11 : decode cX0_bears 11 = .ok (.getfield 25, 3) := dk_180 0 25 (dk_at dksX0_bears_0 11 rfl rfl)
theorem dX0_bears_14 : decode cX0_bears 14 = .ok (.getfield 162, 3) := dk_180 0 162 (dk_at dksX0_bears_0 14 rfl rfl)
theorem dX0_bears_17 : decode cX0_bears 17 = .ok (.iconst 1, 1) := dk_4 (dk_at dksX0_bears_0 17 rfl rfl)
theorem dX0_bears_18 : decode cX0_bears 18 = .ok (.iadd, 1) := dk_96 (dk_at dksX0_bears_0 18 rfl rfl)
theorem dX0_bears_19 : decode cX0_bears 19 = .ok (.istore_n 2, 1) := dk_61 (dk_at dksX0_bears_0 19 rfl rfl)
theorem dX0_bears_20 : decode cX0_bears 20 = .ok (.iload_n 2, 1) := dk_28 (dk_at dksX0_bears_0 20 rfl rfl)
theorem dX0_bears_21 : decode cX0_bears 21 = .ok (.sipush 359, 3) := dk_17 1 103 (dk_at dksX0_bears_0 21 rfl rfl)
theorem dX0_bears_24 : decode cX0_bears 24 = .ok (.if_icmp .gt 42, 3) := dk_163 0 42 (dk_at dksX0_bears_1 0 rfl rfl)
theorem dX0_bears_27 : decode cX0_bears 27 = .ok (.aload_n 0, 1) := dk_42 (dk_at dksX0_bears_1 3 rfl rfl)
theorem dX0_bears_28 : decode cX0_bears 28 = .ok (.getfield 25, 3) := dk_180 0 25 (dk_at dksX0_bears_1 4 rfl rfl)
theorem dX0_bears_31 : decode cX0_bears 31 = .ok (.getfield 100, 3) := dk_180 0 100 (dk_at dksX0_bears_1 7 rfl rfl)
theorem dX0_bears_34 : decode cX0_bears 34 = .ok (.iload_n 1, 1) := dk_27 (dk_at dksX0_bears_1 10 rfl rfl)
theorem dX0_bears_35 : decode cX0_bears 35 = .ok (.aaload, 1) := dk_50 (dk_at dksX0_bears_1 11 rfl rfl)
theorem dX0_bears_36 : decode cX0_bears 36 = .ok (.aload_n 0, 1) := dk_42 (dk_at dksX0_bears_1 12 rfl rfl)
theorem dX0_bears_37 : decode cX0_bears 37 = .ok (.getfield 25, 3) := dk_180 0 25 (dk_at dksX0_bears_1 13 rfl rfl)
theorem dX0_bears_40 : decode cX0_bears 40 = .ok (.iload_n 2, 1) := dk_28 (dk_at dksX0_bears_1 16 rfl rfl)
theorem dX0_bears_41 : decode cX0_bears 41 = .ok (.invokevirtual 281, 3) := dk_182 1 25 (dk_at dksX0_bears_1 17 rfl rfl)
theorem dX0_bears_44 : decode cX0_bears 44 = .ok (.invokevirtual 284, 3) := dk_182 1 28 (dk_at dksX0_bears_1 20 rfl rfl)
theorem dX0_bears_47 : decode cX0_bears 47 = .ok (.ifCond .ne 13, 3) := dk_154 0 13 (dk_at dksX0_bears_2 0 rfl rfl)
theorem dX0_bears_50 : decode cX0_bears 50 = .ok (.iload_n 2, 1) := dk_28 (dk_at dksX0_bears_2 3 rfl rfl)
theorem dX0_bears_51 : decode cX0_bears 51 = .ok (.aload_n 0, 1) := dk_42 (dk_at dksX0_bears_2 4 rfl rfl)
theorem dX0_bears_52 : decode cX0_bears 52 = .ok (.getfield 25, 3) := dk_180 0 25 (dk_at dksX0_bears_2 5 rfl rfl)
theorem dX0_bears_55 : decode cX0_bears 55 = .ok (.getfield 162, 3) := dk_180 0 162 (dk_at dksX0_bears_2 8 rfl rfl)
theorem dX0_bears_58 : decode cX0_bears 58 = .ok (.isub, 1) := dk_100 (dk_at dksX0_bears_2 11 rfl rfl)
theorem dX0_bears_59 : decode cX0_bears 59 = .ok (.ireturn, 1) := dk_172 (dk_at dksX0_bears_2 12 rfl rfl)
theorem dX0_bears_60 : decode cX0_bears 60 = .ok (.iinc 2 1, 3) := dk_132 2 1 (dk_at dksX0_bears_2 13 rfl rfl)
theorem dX0_bears_63 : decode cX0_bears 63 = .ok (.goto (-43), 3) := dk_167 255 213 (dk_at dksX0_bears_2 16 rfl rfl)
theorem dX0_bears_66 : decode cX0_bears 66 = .ok (.bipush (-4), 2) := dk_16 252 (dk_at dksX0_bears_2 19 rfl rfl)
theorem dX0_bears_68 : decode cX0_bears 68 = .ok (.ireturn, 1) := dk_172 (dk_at dksX0_bears_2 21 rfl rfl)
abbrev cX0_ware : ByteArray := prog_1_method_42_code
def yX0_ware : MethodName := ⟨RX0, "ware", "(II)I"⟩
def dkwX0_ware_3 : List UInt8 := [100, 172]
abbrev dktX0_ware_3 : List UInt8 := dkwX0_ware_3 ++ []
def dkwX0_ware_2 : List UInt8 := [180, 0, 72, 42, 180, 0, 168, 28, 79, 42, 89, 180, 0, 168, 4, 96, 181, 0, 168, 42, 180, 0, 168, 4]
abbrev dktX0_ware_2 : List UInt8 := dkwX0_ware_2 ++ dktX0_ware_3
def dkwX0_ware_1 : List UInt8 := [180, 0, 168, 16, 8, 160, 0, 6, 16, 253, 172, 42, 180, 0, 69, 42, 180, 0, 168, 27, 79, 42]
abbrev dktX0_ware_1 : List UInt8 := dkwX0_ware_1 ++ dktX0_ware_2
def dkwX0_ware_0 : List UInt8 := [27, 4, 17, 39, 15, 184, 0, 92, 153, 0, 13, 28, 4, 16, 9, 184, 0, 92, 154, 0, 5, 2, 172, 42]
abbrev dktX0_ware_0 : List UInt8 := dkwX0_ware_0 ++ dktX0_ware_1
theorem dksX0_ware_0 : cX0_ware.data.toList.drop 0 = dktX0_ware_0 := by decide +kernel
theorem dksX0_ware_1 : cX0_ware.data.toList.drop 24 = dktX0_ware_1 := dk_seg dksX0_ware_0 24 rfl rfl
theorem dksX0_ware_2 : cX0_ware.data.toList.drop 46 = dktX0_ware_2 := dk_seg dksX0_ware_1 22 rfl rfl
theorem dksX0_ware_3 : cX0_ware.data.toList.drop 70 = dktX0_ware_3 := dk_seg dksX0_ware_2 24 rfl rfl
theorem dX0_ware_0 : decode cX0_ware 0 = .ok (.iload_n 1, 1) := dk_27 (dk_at dksX0_ware_0 0 rfl rfl)
theorem dX0_ware_1 : decode cX0_ware 1 = .ok (.iconst 1, 1) := dk_4 (dk_at dksX0_ware_0 1 rfl rfl)
theorem dX0_ware_2 : decode cX0_ware 2 = .ok (.sipush 9999, 3) := dk_17 39 15 (dk_at dksX0_ware_0 2 rfl rfl)
theorem dX0_ware_5 : decode cX0_ware 5 = .ok (.invokestatic 92, 3) := dk_184 0 92 (dk_at dksX0_ware_0 5 rfl rfl)
theorem dX0_ware_8 : decode cX0_ware 8 = .ok (.ifCond .eq 13, 3) := dk_153 0 13 (dk_at dksX0_ware_0 8 rfl rfl)
theorem dX0_ware_11 : decode cX0_ware 11 = .ok (.iload_n 2, 1) := dk_28 (dk_at dksX0_ware_0 11 rfl rfl)
theorem dX0_ware_12 : decode cX0_ware 12 = .ok (.iconst 1, 1) := dk_4 (dk_at dksX0_ware_0 12 rfl rfl)
theorem dX0_ware_13 : decode cX0_ware 13 = .ok (.bipush 9, 2) := dk_16 9 (dk_at dksX0_ware_0 13 rfl rfl)
theorem dX0_ware_15 : decode cX0_ware 15 = .ok (.invokestatic 92, 3) := dk_184 0 92 (dk_at dksX0_ware_0 15 rfl rfl)
theorem dX0_ware_18 : decode cX0_ware 18 = .ok (.ifCond .ne 5, 3) := dk_154 0 5 (dk_at dksX0_ware_0 18 rfl rfl)
theorem dX0_ware_21 : decode cX0_ware 21 = .ok (.iconst (-1), 1) := dk_2 (dk_at dksX0_ware_0 21 rfl rfl)
theorem dX0_ware_22 : decode cX0_ware 22 = .ok (.ireturn, 1) := dk_172 (dk_at dksX0_ware_0 22 rfl rfl)
theorem dX0_ware_23 : decode cX0_ware 23 = .ok (.aload_n 0, 1) := dk_42 (dk_at dksX0_ware_0 23 rfl rfl)
theorem dX0_ware_24 : decode cX0_ware 24 = .ok (.getfield 168, 3) := dk_180 0 168 (dk_at dksX0_ware_1 0 rfl rfl)
theorem dX0_ware_27 : decode cX0_ware 27 = .ok (.bipush 8, 2) := dk_16 8 (dk_at dksX0_ware_1 3 rfl rfl)
theorem dX0_ware_29 : decode cX0_ware 29 = .ok (.if_icmp .ne 6, 3) := dk_160 0 6 (dk_at dksX0_ware_1 5 rfl rfl)
theorem dX0_ware_32 : decode cX0_ware 32 = .ok (.bipush (-3), 2) := dk_16 253 (dk_at dksX0_ware_1 8 rfl rfl)
theorem dX0_ware_34 : decode cX0_ware 34 = .ok (.ireturn, 1) := dk_172 (dk_at dksX0_ware_1 10 rfl rfl)
theorem dX0_ware_35 : decode cX0_ware 35 = .ok (.aload_n 0, 1) := dk_42 (dk_at dksX0_ware_1 11 rfl rfl)
theorem dX0_ware_36 : decode cX0_ware 36 = .ok (.getfield 69, 3) := dk_180 0 69 (dk_at dksX0_ware_1 12 rfl rfl)
theorem dX0_ware_39 : decode cX0_ware 39 = .ok (.aload_n 0, 1) := dk_42 (dk_at dksX0_ware_1 15 rfl rfl)
theorem dX0_ware_40 : decode cX0_ware 40 = .ok (.getfield 168, 3) := dk_180 0 168 (dk_at dksX0_ware_1 16 rfl rfl)
theorem dX0_ware_43 : decode cX0_ware 43 = .ok (.iload_n 1, 1) := dk_27 (dk_at dksX0_ware_1 19 rfl rfl)
theorem dX0_ware_44 : decode cX0_ware 44 = .ok (.iastore, 1) := dk_79 (dk_at dksX0_ware_1 20 rfl rfl)
theorem dX0_ware_45 : decode cX0_ware 45 = .ok (.aload_n 0, 1) := dk_42 (dk_at dksX0_ware_1 21 rfl rfl)
theorem dX0_ware_46 : decode cX0_ware 46 = .ok (.getfield 72, 3) := dk_180 0 72 (dk_at dksX0_ware_2 0 rfl rfl)
theorem dX0_ware_49 : decode cX0_ware 49 = .ok (.aload_n 0, 1) := dk_42 (dk_at dksX0_ware_2 3 rfl rfl)
theorem dX0_ware_50 : decode cX0_ware 50 = .ok (.getfield 168, 3) := dk_180 0 168 (dk_at dksX0_ware_2 4 rfl rfl)
theorem dX0_ware_53 : decode cX0_ware 53 = .ok (.iload_n 2, 1) := dk_28 (dk_at dksX0_ware_2 7 rfl rfl)
theorem dX0_ware_54 : decode cX0_ware 54 = .ok (.iastore, 1) := dk_79 (dk_at dksX0_ware_2 8 rfl rfl)
theorem dX0_ware_55 : decode cX0_ware 55 = .ok (.aload_n 0, 1) := dk_42 (dk_at dksX0_ware_2 9 rfl rfl)
theorem dX0_ware_56 : decode cX0_ware 56 = .ok (.dup, 1) := dk_89 (dk_at dksX0_ware_2 10 rfl rfl)
theorem dX0_ware_57 : decode cX0_ware 57 = .ok (.getfield 168, 3) := dk_180 0 168 (dk_at dksX0_ware_2 11 rfl rfl)
theorem dX0_ware_60 : decode cX0_ware 60 = .ok (.iconst 1, 1) := dk_4 (dk_at dksX0_ware_2 14 rfl rfl)
theorem dX0_ware_61 : decode cX0_ware 61 = .ok (.iadd, 1) := dk_96 (dk_at dksX0_ware_2 15 rfl rfl)
theorem dX0_ware_62 : decode cX0_ware 62 = .ok (.putfield 168, 3) := dk_181 0 168 (dk_at dksX0_ware_2 16 rfl rfl)
theorem dX0_ware_65 : decode cX0_ware 65 = .ok (.aload_n 0, 1) := dk_42 (dk_at dksX0_ware_2 19 rfl rfl)
theorem dX0_ware_66 : decode cX0_ware 66 = .ok (.getfield 168, 3) := dk_180 0 168 (dk_at dksX0_ware_2 20 rfl rfl)
theorem dX0_ware_69 : decode cX0_ware 69 = .ok (.iconst 1, 1) := dk_4 (dk_at dksX0_ware_2 23 rfl rfl)
theorem dX0_ware_70 : decode cX0_ware 70 = .ok (.isub, 1) := dk_100 (dk_at dksX0_ware_3 0 rfl rfl)
theorem dX0_ware_71 : decode cX0_ware 71 = .ok (.ireturn, 1) := dk_172 (dk_at dksX0_ware_3 1 rfl rfl)
abbrev cX0_under : ByteArray := prog_1_method_43_code
def yX0_under : MethodName := ⟨RX0, "under", "(IIII)I"⟩
def dkwX0_under_8 : List UInt8 := [21, 4, 154, 0, 8, 21, 5, 167, 0, 5, 21, 6, 172]
abbrev dktX0_under_8 : List UInt8 := dkwX0_under_8 ++ []
def dkwX0_under_7 : List UInt8 := [21, 5, 154, 0, 8, 21, 7, 167, 0, 5, 21, 6, 54, 6, 132, 5, 1, 132, 7, 1, 167, 255, 128]
abbrev dktX0_under_7 : List UInt8 := dkwX0_under_7 ++ dktX0_under_8
def dkwX0_under_6 : List UInt8 := [167, 255, 192, 21, 7, 27, 184, 1, 15, 153, 0, 32, 21, 8, 29, 160, 0, 26, 21, 9, 28, 160, 0, 20]
abbrev dktX0_under_6 : List UInt8 := dkwX0_under_6 ++ dktX0_under_7
def dkwX0_under_5 : List UInt8 := [184, 1, 15, 153, 0, 13, 42, 180, 0, 72, 21, 10, 46, 167, 0, 4, 3, 96, 54, 9, 132, 10, 1]
abbrev dktX0_under_5 : List UInt8 := dkwX0_under_5 ++ dktX0_under_6
def dkwX0_under_4 : List UInt8 := [153, 0, 13, 42, 180, 0, 69, 21, 10, 46, 167, 0, 4, 3, 96, 54, 8, 21, 9, 21, 7, 21, 10]
abbrev dktX0_under_4 : List UInt8 := dkwX0_under_4 ++ dktX0_under_5
def dkwX0_under_3 : List UInt8 := [54, 9, 3, 54, 10, 21, 10, 42, 180, 0, 168, 162, 0, 61, 21, 8, 21, 7, 21, 10, 184, 1, 15]
abbrev dktX0_under_3 : List UInt8 := dkwX0_under_3 ++ dktX0_under_4
def dkwX0_under_2 : List UInt8 := [54, 5, 16, 252, 54, 6, 4, 54, 7, 21, 7, 4, 42, 180, 0, 168, 120, 162, 0, 123, 3, 54, 8, 3]
abbrev dktX0_under_2 : List UInt8 := dkwX0_under_2 ++ dktX0_under_3
def dkwX0_under_1 : List UInt8 := [29, 4, 18, 185, 184, 0, 92, 153, 0, 13, 21, 4, 3, 4, 184, 0, 92, 154, 0, 5, 2, 172, 3]
abbrev dktX0_under_1 : List UInt8 := dkwX0_under_1 ++ dktX0_under_2
def dkwX0_under_0 : List UInt8 := [27, 3, 42, 180, 0, 168, 4, 100, 184, 0, 92, 153, 0, 33, 28, 4, 16, 99, 184, 0, 92, 153, 0, 23]
abbrev dktX0_under_0 : List UInt8 := dkwX0_under_0 ++ dktX0_under_1
theorem dksX0_under_0 : cX0_under.data.toList.drop 0 = dktX0_under_0 := by decide +kernel
theorem dksX0_under_1 : cX0_under.data.toList.drop 24 = dktX0_under_1 := dk_seg dksX0_under_0 24 rfl rfl
theorem dksX0_under_2 : cX0_under.data.toList.drop 47 = dktX0_under_2 := dk_seg dksX0_under_1 23 rfl rfl
theorem dksX0_under_3 : cX0_under.data.toList.drop 71 = dktX0_under_3 := dk_seg dksX0_under_2 24 rfl rfl
theorem dksX0_under_4 : cX0_under.data.toList.drop 94 = dktX0_under_4 := dk_seg dksX0_under_3 23 rfl rfl
theorem dksX0_under_5 : cX0_under.data.toList.drop 117 = dktX0_under_5 := dk_seg dksX0_under_4 23 rfl rfl
theorem dksX0_under_6 : cX0_under.data.toList.drop 140 = dktX0_under_6 := dk_seg dksX0_under_5 23 rfl rfl
theorem dksX0_under_7 : cX0_under.data.toList.drop 164 = dktX0_under_7 := dk_seg dksX0_under_6 24 rfl rfl
theorem dksX0_under_8 : cX0_under.data.toList.drop 187 = dktX0_under_8 := dk_seg dksX0_under_7 23 rfl rfl
theorem dX0_under_0 : decode cX0_under 0 = .ok (.iload_n 1, 1) := dk_27 (dk_at dksX0_under_0 0 rfl rfl)
theorem dX0_under_1 : decode cX0_under 1 = .ok (.iconst 0, 1) := dk_3 (dk_at dksX0_under_0 1 rfl rfl)
theorem dX0_under_2 : decode cX0_under 2 = .ok (.aload_n 0, 1) := dk_42 (dk_at dksX0_under_0 2 rfl rfl)
theorem dX0_under_3 : decode cX0_under 3 = .ok (.getfield 168, 3) := dk_180 0 168 (dk_at dksX0_under_0 3 rfl rfl)
theorem dX0_under_6 : decode cX0_under 6 = .ok (.iconst 1, 1) := dk_4 (dk_at dksX0_under_0 6 rfl rfl)
theorem dX0_under_7 : decode cX0_under 7 = .ok (.isub, 1) := dk_100 (dk_at dksX0_under_0 7 rfl rfl)
theorem dX0_under_8 : decode cX0_under 8 = .ok (.invokestatic 92, 3) := dk_184 0 92 (dk_at dksX0_under_0 8 rfl rfl)
theorem dX0_under_11 : decode cX0_under 11 = .ok (.ifCond .eq 33, 3) := dk_153 0 33 (dk_at dksX0_under_0 11 rfl rfl)
theorem dX0_under_14 : decode cX0_under 14 = .ok (.iload_n 2, 1) := dk_28 (dk_at dksX0_under_0 14 rfl rfl)
theorem dX0_under_15 : decode cX0_under 15 = .ok (.iconst 1, 1) := dk_4 (dk_at dksX0_under_0 15 rfl rfl)
theorem dX0_under_16 : decode cX0_under 16 = .ok (.bipush 99, 2) := dk_16 99 (dk_at dksX0_under_0 16 rfl rfl)
theorem dX0_under_18 : decode cX0_under 18 = .ok (.invokestatic 92, 3) := dk_184 0 92 (dk_at dksX0_under_0 18 rfl rfl)
theorem dX0_under_21 : decode cX0_under 21 = .ok (.ifCond .eq 23, 3) := dk_153 0 23 (dk_at dksX0_under_0 21 rfl rfl)
theorem dX0_under_24 : decode cX0_under 24 = .ok (.iload_n 3, 1) := dk_29 (dk_at dksX0_under_1 0 rfl rfl)
theorem dX0_under_25 : decode cX0_under 25 = .ok (.iconst 1, 1) := dk_4 (dk_at dksX0_under_1 1 rfl rfl)
theorem dX0_under_26 : decode cX0_under 26 = .ok (.ldc 185, 2) := dk_18 185 (dk_at dksX0_under_1 2 rfl rfl)
theorem dX0_under_28 : decode cX0_under 28 = .ok (.invokestatic 92, 3) := dk_184 0 92 (dk_at dksX0_under_1 4 rfl rfl)
theorem dX0_under_31 : decode cX0_under 31 = .ok (.ifCond .eq 13, 3) := dk_153 0 13 (dk_at dksX0_under_1 7 rfl rfl)
theorem dX0_under_34 : decode cX0_under 34 = .ok (.iload 4, 2) := dk_21 4 (dk_at dksX0_under_1 10 rfl rfl)
theorem dX0_under_36 : decode cX0_under 36 = .ok (.iconst 0, 1) := dk_3 (dk_at dksX0_under_1 12 rfl rfl)
theorem dX0_under_37 : decode cX0_under 37 = .ok (.iconst 1, 1) := dk_4 (dk_at dksX0_under_1 13 rfl rfl)
theorem dX0_under_38 : decode cX0_under 38 = .ok (.invokestatic 92, 3) := dk_184 0 92 (dk_at dksX0_under_1 14 rfl rfl)
theorem dX0_under_41 : decode cX0_under 41 = .ok (.ifCond .ne 5, 3) := dk_154 0 5 (dk_at dksX0_under_1 17 rfl rfl)
theorem dX0_under_44 : decode cX0_under 44 = .ok (.iconst (-1), 1) := dk_2 (dk_at dksX0_under_1 20 rfl rfl)
theorem dX0_under_45 : decode cX0_under 45 = .ok (.ireturn, 1) := dk_172 (dk_at dksX0_under_1 21 rfl rfl)
theorem dX0_under_46 : decode cX0_under 46 = .ok (.iconst 0, 1) := dk_3 (dk_at dksX0_under_1 22 rfl rfl)
theorem dX0_under_47 : decode cX0_under 47 = .ok (.istore 5, 2) := dk_54 5 (dk_at dksX0_under_2 0 rfl rfl)
theorem dX0_under_49 : decode cX0_under 49 = .ok (.bipush (-4), 2) := dk_16 252 (dk_at dksX0_under_2 2 rfl rfl)
theorem dX0_under_51 : decode cX0_under 51 = .ok (.istore 6, 2) := dk_54 6 (dk_at dksX0_under_2 4 rfl rfl)
theorem dX0_under_53 : decode cX0_under 53 = .ok (.iconst 1, 1) := dk_4 (dk_at dksX0_under_2 6 rfl rfl)
theorem dX0_under_54 : decode cX0_under 54 = .ok (.istore 7, 2) := dk_54 7 (dk_at dksX0_under_2 7 rfl rfl)
theorem dX0_under_56 : decode cX0_under 56 = .ok (.iload 7, 2) := dk_21 7 (dk_at dksX0_under_2 9 rfl rfl)
theorem dX0_under_58 : decode cX0_under 58 = .ok (.iconst 1, 1) := dk_4 (dk_at dksX0_under_2 11 rfl rfl)
theorem dX0_under_59 : decode cX0_under 59 = .ok (.aload_n 0, 1) := dk_42 (dk_at dksX0_under_2 12 rfl rfl)
theorem dX0_under_60 : decode cX0_under 60 = .ok (.getfield 168, 3) := dk_180 0 168 (dk_at dksX0_under_2 13 rfl rfl)
theorem dX0_under_63 : decode cX0_under 63 = .ok (.ishl, 1) := dk_120 (dk_at dksX0_under_2 16 rfl rfl)
theorem dX0_under_64 : decode cX0_under 64 = .ok (.if_icmp .ge 123, 3) := dk_162 0 123 (dk_at dksX0_under_2 17 rfl rfl)
theorem dX0_under_67 : decode cX0_under 67 = .ok (.iconst 0, 1) := dk_3 (dk_at dksX0_under_2 20 rfl rfl)
theorem dX0_under_68 : decode cX0_under 68 = .ok (.istore 8, 2) := dk_54 8 (dk_at dksX0_under_2 21 rfl rfl)
theorem dX0_under_70 : decode cX0_under 70 = .ok (.iconst 0, 1) := dk_3 (dk_at dksX0_under_2 23 rfl rfl)
theorem dX0_under_71 : decode cX0_under 71 = .ok (.istore 9, 2) := dk_54 9 (dk_at dksX0_under_3 0 rfl rfl)
theorem dX0_under_73 : decode cX0_under 73 = .ok (.iconst 0, 1) := dk_3 (dk_at dksX0_under_3 2 rfl rfl)
theorem dX0_under_74 : decode cX0_under 74 = .ok (.istore 10, 2) := dk_54 10 (dk_at dksX0_under_3 3 rfl rfl)
theorem dX0_under_76 : decode cX0_under 76 = .ok (.iload 10, 2) := dk_21 10 (dk_at dksX0_under_3 5 rfl rfl)
theorem dX0_under_78 : decode cX0_under 78 = .ok (.aload_n 0, 1) := dk_42 (dk_at dksX0_under_3 7 rfl rfl)
theorem dX0_under_79 : decode cX0_under 79 = .ok (.getfield 168, 3) := dk_180 0 168 (dk_at dksX0_under_3 8 rfl rfl)
theorem dX0_under_82 : decode cX0_under 82 = .ok (.if_icmp .ge 61, 3) := dk_162 0 61 (dk_at dksX0_under_3 11 rfl rfl)
theorem dX0_under_85 : decode cX0_under 85 = .ok (.iload 8, 2) := dk_21 8 (dk_at dksX0_under_3 14 rfl rfl)
theorem dX0_under_87 : decode cX0_under 87 = .ok (.iload 7, 2) := dk_21 7 (dk_at dksX0_under_3 16 rfl rfl)
theorem dX0_under_89 : decode cX0_under 89 = .ok (.iload 10, 2) := dk_21 10 (dk_at dksX0_under_3 18 rfl rfl)
theorem dX0_under_91 : decode cX0_under 91 = .ok (.invokestatic 271, 3) := dk_184 1 15 (dk_at dksX0_under_3 20 rfl rfl)
theorem dX0_under_94 : decode cX0_under 94 = .ok (.ifCond .eq 13, 3) := dk_153 0 13 (dk_at dksX0_under_4 0 rfl rfl)
theorem dX0_under_97 : decode cX0_under 97 = .ok (.aload_n 0, 1) := dk_42 (dk_at dksX0_under_4 3 rfl rfl)
theorem dX0_under_98 : decode cX0_under 98 = .ok (.getfield 69, 3) := dk_180 0 69 (dk_at dksX0_under_4 4 rfl rfl)
theorem dX0_under_101 : decode cX0_under 101 = .ok (.iload 10, 2) := dk_21 10 (dk_at dksX0_under_4 7 rfl rfl)
theorem dX0_under_103 : decode cX0_under 103 = .ok (.iaload, 1) := dk_46 (dk_at dksX0_under_4 9 rfl rfl)
theorem dX0_under_104 : decode cX0_under 104 = .ok (.goto 4, 3) := dk_167 0 4 (dk_at dksX0_under_4 10 rfl rfl)
theorem dX0_under_107 : decode cX0_under 107 = .ok (.iconst 0, 1) := dk_3 (dk_at dksX0_under_4 13 rfl rfl)
theorem dX0_under_108 : decode cX0_under 108 = .ok (.iadd, 1) := dk_96 (dk_at dksX0_under_4 14 rfl rfl)
theorem dX0_under_109 : decode cX0_under 109 = .ok (.istore 8, 2) := dk_54 8 (dk_at dksX0_under_4 15 rfl rfl)
theorem dX0_under_111 : decode cX0_under 111 = .ok (.iload 9, 2) := dk_21 9 (dk_at dksX0_under_4 17 rfl rfl)
theorem dX0_under_113 : decode cX0_under 113 = .ok (.iload 7, 2) := dk_21 7 (dk_at dksX0_under_4 19 rfl rfl)
theorem dX0_under_115 : decode cX0_under 115 = .ok (.iload 10, 2) := dk_21 10 (dk_at dksX0_under_4 21 rfl rfl)
theorem dX0_under_117 : decode cX0_under 117 = .ok (.invokestatic 271, 3) := dk_184 1 15 (dk_at dksX0_under_5 0 rfl rfl)
theorem dX0_under_120 : decode cX0_under 120 = .ok (.ifCond .eq 13, 3) := dk_153 0 13 (dk_at dksX0_under_5 3 rfl rfl)
theorem dX0_under_123 : decode cX0_under 123 = .ok (.aload_n 0, 1) := dk_42 (dk_at dksX0_under_5 6 rfl rfl)
theorem dX0_under_124 : decode cX0_under 124 = .ok (.getfield 72, 3) := dk_180 0 72 (dk_at dksX0_under_5 7 rfl rfl)
theorem dX0_under_127 : decode cX0_under 127 = .ok (.iload 10, 2) := dk_21 10 (dk_at dksX0_under_5 10 rfl rfl)
theorem dX0_under_129 : decode cX0_under 129 = .ok (.iaload, 1) := dk_46 (dk_at dksX0_under_5 12 rfl rfl)
theorem dX0_under_130 : decode cX0_under 130 = .ok (.goto 4, 3) := dk_167 0 4 (dk_at dksX0_under_5 13 rfl rfl)
theorem dX0_under_133 : decode cX0_under 133 = .ok (.iconst 0, 1) := dk_3 (dk_at dksX0_under_5 16 rfl rfl)
theorem dX0_under_134 : decode cX0_under 134 = .ok (.iadd, 1) := dk_96 (dk_at dksX0_under_5 17 rfl rfl)
theorem dX0_under_135 : decode cX0_under 135 = .ok (.istore 9, 2) := dk_54 9 (dk_at dksX0_under_5 18 rfl rfl)
theorem dX0_under_137 : decode cX0_under 137 = .ok (.iinc 10 1, 3) := dk_132 10 1 (dk_at dksX0_under_5 20 rfl rfl)
theorem dX0_under_140 : decode cX0_under 140 = .ok (.goto (-64), 3) := dk_167 255 192 (dk_at dksX0_under_6 0 rfl rfl)
theorem dX0_under_143 : decode cX0_under 143 = .ok (.iload 7, 2) := dk_21 7 (dk_at dksX0_under_6 3 rfl rfl)
theorem dX0_under_145 : decode cX0_under 145 = .ok (.iload_n 1, 1) := dk_27 (dk_at dksX0_under_6 5 rfl rfl)
theorem dX0_under_146 : decode cX0_under 146 = .ok (.invokestatic 271, 3) := dk_184 1 15 (dk_at dksX0_under_6 6 rfl rfl)
theorem dX0_under_149 : decode cX0_under 149 = .ok (.ifCond .eq 32, 3) := dk_153 0 32 (dk_at dksX0_under_6 9 rfl rfl)
theorem dX0_under_152 : decode cX0_under 152 = .ok (.iload 8, 2) := dk_21 8 (dk_at dksX0_under_6 12 rfl rfl)
theorem dX0_under_154 : decode cX0_under 154 = .ok (.iload_n 3, 1) := dk_29 (dk_at dksX0_under_6 14 rfl rfl)
theorem dX0_under_155 : decode cX0_under 155 = .ok (.if_icmp .ne 26, 3) := dk_160 0 26 (dk_at dksX0_under_6 15 rfl rfl)
theorem dX0_under_158 : decode cX0_under 158 = .ok (.iload 9, 2) := dk_21 9 (dk_at dksX0_under_6 18 rfl rfl)
theorem dX0_under_160 : decode cX0_under 160 = .ok (.iload_n 2, 1) := dk_28 (dk_at dksX0_under_6 20 rfl rfl)
theorem dX0_under_161 : decode cX0_under 161 = .ok (.if_icmp .ne 20, 3) := dk_160 0 20 (dk_at dksX0_under_6 21 rfl rfl)
theorem dX0_under_164 : decode cX0_under 164 = .ok (.iload 5, 2) := dk_21 5 (dk_at dksX0_under_7 0 rfl rfl)
theorem dX0_under_166 : decode cX0_under 166 = .ok (.ifCond .ne 8, 3) := dk_154 0 8 (dk_at dksX0_under_7 2 rfl rfl)
theorem dX0_under_169 : decode cX0_under 169 = .ok (.iload 7, 2) := dk_21 7 (dk_at dksX0_under_7 5 rfl rfl)
theorem dX0_under_171 : decode cX0_under 171 = .ok (.goto 5, 3) := dk_167 0 5 (dk_at dksX0_under_7 7 rfl rfl)
theorem dX0_under_174 : decode cX0_under 174 = .ok (.iload 6, 2) := dk_21 6 (dk_at dksX0_under_7 10 rfl rfl)
theorem dX0_under_176 : decode cX0_under 176 = .ok (.istore 6, 2) := dk_54 6 (dk_at dksX0_under_7 12 rfl rfl)
theorem dX0_under_178 : decode cX0_under 178 = .ok (.iinc 5 1, 3) := dk_132 5 1 (dk_at dksX0_under_7 14 rfl rfl)
theorem dX0_under_181 : decode cX0_under 181 = .ok (.iinc 7 1, 3) := dk_132 7 1 (dk_at dksX0_under_7 17 rfl rfl)
theorem dX0_under_184 : decode cX0_under 184 = .ok (.goto (-128), 3) := dk_167 255 128 (dk_at dksX0_under_7 20 rfl rfl)
theorem dX0_under_187 : decode cX0_under 187 = .ok (.iload 4, 2) := dk_21 4 (dk_at dksX0_under_8 0 rfl rfl)
theorem dX0_under_189 : decode cX0_under 189 = .ok (.ifCond .ne 8, 3) := dk_154 0 8 (dk_at dksX0_under_8 2 rfl rfl)
theorem dX0_under_192 : decode cX0_under 192 = .ok (.iload 5, 2) := dk_21 5 (dk_at dksX0_under_8 5 rfl rfl)
theorem dX0_under_194 : decode cX0_under 194 = .ok (.goto 5, 3) := dk_167 0 5 (dk_at dksX0_under_8 7 rfl rfl)
theorem dX0_under_197 : decode cX0_under 197 = .ok (.iload 6, 2) := dk_21 6 (dk_at dksX0_under_8 10 rfl rfl)
theorem dX0_under_199 : decode cX0_under 199 = .ok (.ireturn, 1) := dk_172 (dk_at dksX0_under_8 12 rfl rfl)
abbrev cX0_image : ByteArray := prog_1_method_44_code
def yX0_image : MethodName := ⟨RX0, "image", "()I"⟩
def dkwX0_image_2 : List UInt8 := [181, 1, 34, 42, 4, 181, 1, 37, 4, 172]
abbrev dktX0_image_2 : List UInt8 := dkwX0_image_2 ++ []
def dkwX0_image_1 : List UInt8 := [184, 0, 206, 42, 180, 0, 72, 3, 42, 180, 0, 78, 16, 8, 16, 8, 184, 0, 206, 42, 42, 180, 0, 168]
abbrev dktX0_image_1 : List UInt8 := dkwX0_image_1 ++ dktX0_image_2
def dkwX0_image_0 : List UInt8 := [42, 180, 0, 75, 42, 180, 0, 25, 182, 1, 31, 42, 180, 0, 69, 3, 42, 180, 0, 78, 3, 16, 8]
abbrev dktX0_image_0 : List UInt8 := dkwX0_image_0 ++ dktX0_image_1
theorem dksX0_image_0 : cX0_image.data.toList.drop 0 = dktX0_image_0 := by decide +kernel
theorem dksX0_image_1 : cX0_image.data.toList.drop 23 = dktX0_image_1 := dk_seg dksX0_image_0 23 rfl rfl
theorem dksX0_image_2 : cX0_image.data.toList.drop 47 = dktX0_image_2 := dk_seg dksX0_image_1 24 rfl rfl
theorem dX0_image_0 : decode cX0_image 0 = .ok (.aload_n 0, 1) := dk_42 (dk_at dksX0_image_0 0 rfl rfl)
theorem dX0_image_1 : decode cX0_image 1 = .ok (.getfield 75, 3) := dk_180 0 75 (dk_at dksX0_image_0 1 rfl rfl)
theorem dX0_image_4 : decode cX0_image 4 = .ok (.aload_n 0, 1) := dk_42 (dk_at dksX0_image_0 4 rfl rfl)
theorem dX0_image_5 : decode cX0_image 5 = .ok (.getfield 25, 3) := dk_180 0 25 (dk_at dksX0_image_0 5 rfl rfl)
theorem dX0_image_8 : decode cX0_image 8 = .ok (.invokevirtual 287, 3) := dk_182 1 31 (dk_at dksX0_image_0 8 rfl rfl)
theorem dX0_image_11 : decode cX0_image 11 = .ok (.aload_n 0, 1) := dk_42 (dk_at dksX0_image_0 11 rfl rfl)
theorem dX0_image_12 : decode cX0_image 12 = .ok (.getfield 69, 3) := dk_180 0 69 (dk_at dksX0_image_0 12 rfl rfl)
theorem dX0_image_15 : decode cX0_image 15 = .ok (.iconst 0, 1) := dk_3 (dk_at dksX0_image_0 15 rfl rfl)
theorem dX0_image_16 : decode cX0_image 16 = .ok (.aload_n 0, 1) := dk_42 (dk_at dksX0_image_0 16 rfl rfl)
theorem dX0_image_17 : decode cX0_image 17 = .ok (.getfield 78, 3) := dk_180 0 78 (dk_at dksX0_image_0 17 rfl rfl)
theorem dX0_image_20 : decode cX0_image 20 = .ok (.iconst 0, 1) := dk_3 (dk_at dksX0_image_0 20 rfl rfl)
theorem dX0_image_21 : decode cX0_image 21 = .ok (.bipush 8, 2) := dk_16 8 (dk_at dksX0_image_0 21 rfl rfl)
theorem dX0_image_23 : decode cX0_image 23 = .ok (.invokestatic 206, 3) := dk_184 0 206 (dk_at dksX0_image_1 0 rfl rfl)
theorem dX0_image_26 : decode cX0_image 26 = .ok (.aload_n 0, 1) := dk_42 (dk_at dksX0_image_1 3 rfl rfl)
theorem dX0_image_27 : decode cX0_image 27 = .ok (.getfield 72, 3) := dk_180 0 72 (dk_at dksX0_image_1 4 rfl rfl)
theorem dX0_image_30 : decode cX0_image 30 = .ok (.iconst 0, 1) := dk_3 (dk_at dksX0_image_1 7 rfl rfl)
theorem dX0_image_31 : decode cX0_image 31 = .ok (.aload_n 0, 1) := dk_42 (dk_at dksX0_image_1 8 rfl rfl)
theorem dX0_image_32 : decode cX0_image 32 = .ok (.getfield 78, 3) := dk_180 0 78 (dk_at dksX0_image_1 9 rfl rfl)
theorem dX0_image_35 : decode cX0_image 35 = .ok (.bipush 8, 2) := dk_16 8 (dk_at dksX0_image_1 12 rfl rfl)
theorem dX0_image_37 : decode cX0_image 37 = .ok (.bipush 8, 2) := dk_16 8 (dk_at dksX0_image_1 14 rfl rfl)
theorem dX0_image_39 : decode cX0_image 39 = .ok (.invokestatic 206, 3) := dk_184 0 206 (dk_at dksX0_image_1 16 rfl rfl)
theorem dX0_image_42 : decode cX0_image 42 = .ok (.aload_n 0, 1) := dk_42 (dk_at dksX0_image_1 19 rfl rfl)
theorem dX0_image_43 : decode cX0_image 43 = .ok (.aload_n 0, 1) := dk_42 (dk_at dksX0_image_1 20 rfl rfl)
theorem dX0_image_44 : decode cX0_image 44 = .ok (.getfield 168, 3) := dk_180 0 168 (dk_at dksX0_image_1 21 rfl rfl)
theorem dX0_image_47 : decode cX0_image 47 = .ok (.putfield 290, 3) := dk_181 1 34 (dk_at dksX0_image_2 0 rfl rfl)
theorem dX0_image_50 : decode cX0_image 50 = .ok (.aload_n 0, 1) := dk_42 (dk_at dksX0_image_2 3 rfl rfl)
theorem dX0_image_51 : decode cX0_image 51 = .ok (.iconst 1, 1) := dk_4 (dk_at dksX0_image_2 4 rfl rfl)
theorem dX0_image_52 : decode cX0_image 52 = .ok (.putfield 293, 3) := dk_181 1 37 (dk_at dksX0_image_2 5 rfl rfl)
theorem dX0_image_55 : decode cX0_image 55 = .ok (.iconst 1, 1) := dk_4 (dk_at dksX0_image_2 8 rfl rfl)
theorem dX0_image_56 : decode cX0_image 56 = .ok (.ireturn, 1) := dk_172 (dk_at dksX0_image_2 9 rfl rfl)
abbrev cX0_restore : ByteArray := prog_1_method_45_code
def yX0_restore : MethodName := ⟨RX0, "restore", "()I"⟩
def dkwX0_restore_2 : List UInt8 := [3, 16, 8, 184, 0, 206, 42, 42, 180, 1, 34, 181, 0, 168, 4, 172]
abbrev dktX0_restore_2 : List UInt8 := dkwX0_restore_2 ++ []
def dkwX0_restore_1 : List UInt8 := [180, 0, 78, 3, 42, 180, 0, 69, 3, 16, 8, 184, 0, 206, 42, 180, 0, 78, 16, 8, 42, 180, 0, 72]
abbrev dktX0_restore_1 : List UInt8 := dkwX0_restore_1 ++ dktX0_restore_2
def dkwX0_restore_0 : List UInt8 := [42, 180, 1, 37, 154, 0, 6, 16, 252, 172, 42, 180, 0, 25, 42, 180, 0, 75, 182, 1, 31, 42]
abbrev dktX0_restore_0 : List UInt8 := dkwX0_restore_0 ++ dktX0_restore_1
theorem dksX0_restore_0 : cX0_restore.data.toList.drop 0 = dktX0_restore_0 := by decide +kernel
theorem dksX0_restore_1 : cX0_restore.data.toList.drop 22 = dktX0_restore_1 := dk_seg dksX0_restore_0 22 rfl rfl
theorem dksX0_restore_2 : cX0_restore.data.toList.drop 46 = dktX0_restore_2 := dk_seg dksX0_restore_1 24 rfl rfl
theorem dX0_restore_0 : decode cX0_restore 0 = .ok (.aload_n 0, 1) := dk_42 (dk_at dksX0_restore_0 0 rfl rfl)
theorem dX0_restore_1 : decode cX0_restore 1 = .ok (.getfield 293, 3) := dk_180 1 37 (dk_at dksX0_restore_0 1 rfl rfl)
theorem dX0_restore_4 : decode cX0_restore 4 = .ok (.ifCond .ne 6, 3) := dk_154 0 6 (dk_at dksX0_restore_0 4 rfl rfl)
theorem dX0_restore_7 : decode cX0_restore 7 = .ok (.bipush (-4), 2) := dk_16 252 (dk_at dksX0_restore_0 7 rfl rfl)
theorem dX0_restore_9 : decode cX0_restore 9 = .ok (.ireturn, 1) := dk_172 (dk_at dksX0_restore_0 9 rfl rfl)
theorem dX0_restore_10 : decode cX0_restore 10 = .ok (.aload_n 0, 1) := dk_42 (dk_at dksX0_restore_0 10 rfl rfl)
theorem dX0_restore_11 : decode cX0_restore 11 = .ok (.getfield 25, 3) := dk_180 0 25 (dk_at dksX0_restore_0 11 rfl rfl)
theorem dX0_restore_14 : decode cX0_restore 14 = .ok (.aload_n 0, 1) := dk_42 (dk_at dksX0_restore_0 14 rfl rfl)
theorem dX0_restore_15 : decode cX0_restore 15 = .ok (.getfield 75, 3) := dk_180 0 75 (dk_at dksX0_restore_0 15 rfl rfl)
theorem dX0_restore_18 : decode cX0_restore 18 = .ok (.invokevirtual 287, 3) := dk_182 1 31 (dk_at dksX0_restore_0 18 rfl rfl)
theorem dX0_restore_21 : decode cX0_restore 21 = .ok (.aload_n 0, 1) := dk_42 (dk_at dksX0_restore_0 21 rfl rfl)
theorem dX0_restore_22 : decode cX0_restore 22 = .ok (.getfield 78, 3) := dk_180 0 78 (dk_at dksX0_restore_1 0 rfl rfl)
theorem dX0_restore_25 : decode cX0_restore 25 = .ok (.iconst 0, 1) := dk_3 (dk_at dksX0_restore_1 3 rfl rfl)
theorem dX0_restore_26 : decode cX0_restore 26 = .ok (.aload_n 0, 1) := dk_42 (dk_at dksX0_restore_1 4 rfl rfl)
theorem dX0_restore_27 : decode cX0_restore 27 = .ok (.getfield 69, 3) := dk_180 0 69 (dk_at dksX0_restore_1 5 rfl rfl)
theorem dX0_restore_30 : decode cX0_restore 30 = .ok (.iconst 0, 1) := dk_3 (dk_at dksX0_restore_1 8 rfl rfl)
theorem dX0_restore_31 : decode cX0_restore 31 = .ok (.bipush 8, 2) := dk_16 8 (dk_at dksX0_restore_1 9 rfl rfl)
theorem dX0_restore_33 : decode cX0_restore 33 = .ok (.invokestatic 206, 3) := dk_184 0 206 (dk_at dksX0_restore_1 11 rfl rfl)
theorem dX0_restore_36 : decode cX0_restore 36 = .ok (.aload_n 0, 1) := dk_42 (dk_at dksX0_restore_1 14 rfl rfl)
theorem dX0_restore_37 : decode cX0_restore 37 = .ok (.getfield 78, 3) := dk_180 0 78 (dk_at dksX0_restore_1 15 rfl rfl)
theorem dX0_restore_40 : decode cX0_restore 40 = .ok (.bipush 8, 2) := dk_16 8 (dk_at dksX0_restore_1 18 rfl rfl)
theorem dX0_restore_42 : decode cX0_restore 42 = .ok (.aload_n 0, 1) := dk_42 (dk_at dksX0_restore_1 20 rfl rfl)
theorem dX0_restore_43 : decode cX0_restore 43 = .ok (.getfield 72, 3) := dk_180 0 72 (dk_at dksX0_restore_1 21 rfl rfl)
theorem dX0_restore_46 : decode cX0_restore 46 = .ok (.iconst 0, 1) := dk_3 (dk_at dksX0_restore_2 0 rfl rfl)
theorem dX0_restore_47 : decode cX0_restore 47 = .ok (.bipush 8, 2) := dk_16 8 (dk_at dksX0_restore_2 1 rfl rfl)
theorem dX0_restore_49 : decode cX0_restore 49 = .ok (.invokestatic 206, 3) := dk_184 0 206 (dk_at dksX0_restore_2 3 rfl rfl)
theorem dX0_restore_52 : decode cX0_restore 52 = .ok (.aload_n 0, 1) := dk_42 (dk_at dksX0_restore_2 6 rfl rfl)
theorem dX0_restore_53 : decode cX0_restore 53 = .ok (.aload_n 0, 1) := dk_42 (dk_at dksX0_restore_2 7 rfl rfl)
theorem dX0_restore_54 : decode cX0_restore 54 = .ok (.getfield 290, 3) := dk_180 1 34 (dk_at dksX0_restore_2 8 rfl rfl)
theorem dX0_restore_57 : decode cX0_restore 57 = .ok (.putfield 168, 3) := dk_181 0 168 (dk_at dksX0_restore_2 11 rfl rfl)
theorem dX0_restore_60 : decode cX0_restore 60 = .ok (.iconst 1, 1) := dk_4 (dk_at dksX0_restore_2 14 rfl rfl)
theorem dX0_restore_61 : decode cX0_restore 61 = .ok (.ireturn, 1) := dk_172 (dk_at dksX0_restore_2 15 rfl rfl)
abbrev cX0_judged : ByteArray := prog_1_method_49_code
def yX0_judged : MethodName := ⟨RX0, "judged", "(IIII)I"⟩
def dkwX0_judged_6 : List UInt8 := [182, 1, 60, 154, 0, 6, 21, 6, 172, 132, 6, 1, 167, 255, 199, 16, 252, 172]
abbrev dktX0_judged_6 : List UInt8 := dkwX0_judged_6 ++ []
def dkwX0_judged_5 : List UInt8 := [21, 6, 104, 96, 4, 96, 182, 1, 57, 25, 5, 29, 6, 21, 6, 104, 96, 5, 96, 182, 1, 57]
abbrev dktX0_judged_5 : List UInt8 := dkwX0_judged_5 ++ dktX0_judged_6
def dkwX0_judged_4 : List UInt8 := [21, 6, 21, 4, 162, 0, 56, 42, 25, 5, 29, 6, 21, 6, 104, 96, 182, 1, 57, 25, 5, 29, 6]
abbrev dktX0_judged_4 : List UInt8 := dkwX0_judged_4 ++ dktX0_judged_5
def dkwX0_judged_3 : List UInt8 := [21, 4, 104, 100, 164, 0, 6, 16, 243, 172, 42, 180, 0, 29, 42, 180, 0, 25, 182, 1, 31, 3, 54, 6]
abbrev dktX0_judged_3 : List UInt8 := dkwX0_judged_3 ++ dktX0_judged_4
def dkwX0_judged_2 : List UInt8 := [25, 5, 182, 1, 51, 28, 159, 0, 6, 16, 244, 172, 29, 155, 0, 17, 29, 25, 5, 182, 1, 54, 6]
abbrev dktX0_judged_2 : List UInt8 := dkwX0_judged_2 ++ dktX0_judged_3
def dkwX0_judged_1 : List UInt8 := [154, 0, 5, 2, 172, 42, 180, 0, 83, 27, 50, 58, 5, 25, 5, 180, 1, 47, 199, 0, 6, 16, 245, 172]
abbrev dktX0_judged_1 : List UInt8 := dkwX0_judged_1 ++ dktX0_judged_2
def dkwX0_judged_0 : List UInt8 := [27, 184, 1, 41, 153, 0, 21, 28, 184, 1, 44, 153, 0, 14, 21, 4, 4, 16, 8, 184, 0, 92]
abbrev dktX0_judged_0 : List UInt8 := dkwX0_judged_0 ++ dktX0_judged_1
theorem dksX0_judged_0 : cX0_judged.data.toList.drop 0 = dktX0_judged_0 := by decide +kernel
theorem dksX0_judged_1 : cX0_judged.data.toList.drop 22 = dktX0_judged_1 := dk_seg dksX0_judged_0 22 rfl rfl
theorem dksX0_judged_2 : cX0_judged.data.toList.drop 46 = dktX0_judged_2 := dk_seg dksX0_judged_1 24 rfl rfl
theorem dksX0_judged_3 : cX0_judged.data.toList.drop 69 = dktX0_judged_3 := dk_seg dksX0_judged_2 23 rfl rfl
theorem dksX0_judged_4 : cX0_judged.data.toList.drop 93 = dktX0_judged_4 := dk_seg dksX0_judged_3 24 rfl rfl
theorem dksX0_judged_5 : cX0_judged.data.toList.drop 116 = dktX0_judged_5 := dk_seg dksX0_judged_4 23 rfl rfl
theorem dksX0_judged_6 : cX0_judged.data.toList.drop 138 = dktX0_judged_6 := dk_seg dksX0_judged_5 22 rfl rfl
theorem dX0_judged_0 : decode cX0_judged 0 = .ok (.iload_n 1, 1) := dk_27 (dk_at dksX0_judged_0 0 rfl rfl)
theorem dX0_judged_1 : decode cX0_judged 1 = .ok (.invokestatic 297, 3) := dk_184 1 41 (dk_at dksX0_judged_0 1 rfl rfl)
theorem dX0_judged_4 : decode cX0_judged 4 = .ok (.ifCond .eq 21, 3) := dk_153 0 21 (dk_at dksX0_judged_0 4 rfl rfl)
theorem dX0_judged_7 : decode cX0_judged 7 = .ok (.iload_n 2, 1) := dk_28 (dk_at dksX0_judged_0 7 rfl rfl)
theorem dX0_judged_8 : decode cX0_judged 8 = .ok (.invokestatic 300, 3) := dk_184 1 44 (dk_at dksX0_judged_0 8 rfl rfl)
theorem dX0_judged_11 : decode cX0_judged 11 = .ok (.ifCond .eq 14, 3) := dk_153 0 14 (dk_at dksX0_judged_0 11 rfl rfl)
theorem dX0_judged_14 : decode cX0_judged 14 = .ok (.iload 4, 2) := dk_21 4 (dk_at dksX0_judged_0 14 rfl rfl)
theorem dX0_judged_16 : decode cX0_judged 16 = .ok (.iconst 1, 1) := dk_4 (dk_at dksX0_judged_0 16 rfl rfl)
theorem dX0_judged_17 : decode cX0_judged 17 = .ok (.bipush 8, 2) := dk_16 8 (dk_at dksX0_judged_0 17 rfl rfl)
theorem dX0_judged_19 : decode cX0_judged 19 = .ok (.invokestatic 92, 3) := dk_184 0 92 (dk_at dksX0_judged_0 19 rfl rfl)
theorem dX0_judged_22 : decode cX0_judged 22 = .ok (.ifCond .ne 5, 3) := dk_154 0 5 (dk_at dksX0_judged_1 0 rfl rfl)
theorem dX0_judged_25 : decode cX0_judged 25 = .ok (.iconst (-1), 1) := dk_2 (dk_at dksX0_judged_1 3 rfl rfl)
theorem dX0_judged_26 : decode cX0_judged 26 = .ok (.ireturn, 1) := dk_172 (dk_at dksX0_judged_1 4 rfl rfl)
theorem dX0_judged_27 : decode cX0_judged 27 = .ok (.aload_n 0, 1) := dk_42 (dk_at dksX0_judged_1 5 rfl rfl)
theorem dX0_judged_28 : decode cX0_judged 28 = .ok (.getfield 83, 3) := dk_180 0 83 (dk_at dksX0_judged_1 6 rfl rfl)
theorem dX0_judged_31 : decode cX0_judged 31 = .ok (.iload_n 1, 1) := dk_27 (dk_at dksX0_judged_1 9 rfl rfl)
theorem dX0_judged_32 : decode cX0_judged 32 = .ok (.aaload, 1) := dk_50 (dk_at dksX0_judged_1 10 rfl rfl)
theorem dX0_judged_33 : decode cX0_judged 33 = .ok (.astore 5, 2) := dk_58 5 (dk_at dksX0_judged_1 11 rfl rfl)
theorem dX0_judged_35 : decode cX0_judged 35 = .ok (.aload 5, 2) := dk_25 5 (dk_at dksX0_judged_1 13 rfl rfl)
theorem dX0_judged_37 : decode cX0_judged 37 = .ok (.getfield 303, 3) := dk_180 1 47 (dk_at dksX0_judged_1 15 rfl rfl)
theorem dX0_judged_40 : decode cX0_judged 40 = .ok (.ifnonnull 6, 3) := dk_199 0 6 (dk_at dksX0_judged_1 18 rfl rfl)
theorem dX0_judged_43 : decode cX0_judged 43 = .ok (.bipush (-11), 2) := dk_16 245 (dk_at dksX0_judged_1 21 rfl rfl)
theorem dX0_judged_45 : decode cX0_judged 45 = .ok (.ireturn, 1) := dk_172 (dk_at dksX0_judged_1 23 rfl rfl)
theorem dX0_judged_46 : decode cX0_judged 46 = .ok (.aload 5, 2) := dk_25 5 (dk_at dksX0_judged_2 0 rfl rfl)
theorem dX0_judged_48 : decode cX0_judged 48 = .ok (.invokevirtual 307, 3) := dk_182 1 51 (dk_at dksX0_judged_2 2 rfl rfl)
theorem dX0_judged_51 : decode cX0_judged 51 = .ok (.iload_n 2, 1) := dk_28 (dk_at dksX0_judged_2 5 rfl rfl)
theorem dX0_judged_52 : decode cX0_judged 52 = .ok (.if_icmp .eq 6, 3) := dk_159 0 6 (dk_at dksX0_judged_2 6 rfl rfl)
theorem dX0_judged_55 : decode cX0_judged 55 = .ok (.bipush (-12), 2) := dk_16 244 (dk_at dksX0_judged_2 9 rfl rfl)
theorem dX0_judged_57 : decode cX0_judged 57 = .ok (.ireturn, 1) := dk_172 (dk_at dksX0_judged_2 11 rfl rfl)
theorem dX0_judged_58 : decode cX0_judged 58 = .ok (.iload_n 3, 1) := dk_29 (dk_at dksX0_judged_2 12 rfl rfl)
theorem dX0_judged_59 : decode cX0_judged 59 = .ok (.ifCond .lt 17, 3) := dk_155 0 17 (dk_at dksX0_judged_2 13 rfl rfl)
theorem dX0_judged_62 : decode cX0_judged 62 = .ok (.iload_n 3, 1) := dk_29 (dk_at dksX0_judged_2 16 rfl rfl)
theorem dX0_judged_63 : decode cX0_judged 63 = .ok (.aload 5, 2) := dk_25 5 (dk_at dksX0_judged_2 17 rfl rfl)
theorem dX0_judged_65 : decode cX0_judged 65 = .ok (.invokevirtual 310, 3) := dk_182 1 54 (dk_at dksX0_judged_2 19 rfl rfl)
theorem dX0_judged_68 : decode cX0_judged 68 = .ok (.iconst 3, 1) := dk_6 (dk_at dksX0_judged_2 22 rfl rfl)
theorem dX0_judged_69 : decode cX0_judged 69 = .ok (.iload 4, 2) := dk_21 4 (dk_at dksX0_judged_3 0 rfl rfl)
theorem dX0_judged_71 : decode cX0_judged 71 = .ok (.imul, 1) := dk_104 (dk_at dksX0_judged_3 2 rfl rfl)
theorem dX0_judged_72 : decode cX0_judged 72 = .ok (.isub, 1) := dk_100 (dk_at dksX0_judged_3 3 rfl rfl)
theorem dX0_judged_73 : decode cX0_judged 73 = .ok (.if_icmp .le 6, 3) := dk_164 0 6 (dk_at dksX0_judged_3 4 rfl rfl)
theorem dX0_judged_76 : decode cX0_judged 76 = .ok (.bipush (-13), 2) := dk_16 243 (dk_at dksX0_judged_3 7 rfl rfl)
theorem dX0_judged_78 : decode cX0_judged 78 = .ok (.ireturn, 1) := dk_172 (dk_at dksX0_judged_3 9 rfl rfl)
theorem dX0_judged_79 : decode cX0_judged 79 = .ok (.aload_n 0, 1) := dk_42 (dk_at dksX0_judged_3 10 rfl rfl)
theorem dX0_judged_80 : decode cX0_judged 80 = .ok (.getfield 29, 3) := dk_180 0 29 (dk_at dksX0_judged_3 11 rfl rfl)
theorem dX0_judged_83 : decode cX0_judged 83 = .ok (.aload_n 0, 1) := dk_42 (dk_at dksX0_judged_3 14 rfl rfl)
theorem dX0_judged_84 : decode cX0_judged 84 = .ok (.getfield 25, 3) := dk_180 0 25 (dk_at dksX0_judged_3 15 rfl rfl)
theorem dX0_judged_87 : decode cX0_judged 87 = .ok (.invokevirtual 287, 3) := dk_182 1 31 (dk_at dksX0_judged_3 18 rfl rfl)
theorem dX0_judged_90 : decode cX0_judged 90 = .ok (.iconst 0, 1) := dk_3 (dk_at dksX0_judged_3 21 rfl rfl)
theorem dX0_judged_91 : decode cX0_judged 91 = .ok (.istore 6, 2) := dk_54 6 (dk_at dksX0_judged_3 22 rfl rfl)
theorem dX0_judged_93 : decode cX0_judged 93 = .ok (.iload 6, 2) := dk_21 6 (dk_at dksX0_judged_4 0 rfl rfl)
theorem dX0_judged_95 : decode cX0_judged 95 = .ok (.iload 4, 2) := dk_21 4 (dk_at dksX0_judged_4 2 rfl rfl)
theorem dX0_judged_97 : decode cX0_judged 97 = .ok (.if_icmp .ge 56, 3) := dk_162 0 56 (dk_at dksX0_judged_4 4 rfl rfl)
theorem dX0_judged_100 : decode cX0_judged 100 = .ok (.aload_n 0, 1) := dk_42 (dk_at dksX0_judged_4 7 rfl rfl)
theorem dX0_judged_101 : decode cX0_judged 101 = .ok (.aload 5, 2) := dk_25 5 (dk_at dksX0_judged_4 8 rfl rfl)
theorem dX0_judged_103 : decode cX0_judged 103 = .ok (.iload_n 3, 1) := dk_29 (dk_at dksX0_judged_4 10 rfl rfl)
theorem dX0_judged_104 : decode cX0_judged 104 = .ok (.iconst 3, 1) := dk_6 (dk_at dksX0_judged_4 11 rfl rfl)
theorem dX0_judged_105 : decode cX0_judged 105 = .ok (.iload 6, 2) := dk_21 6 (dk_at dksX0_judged_4 12 rfl rfl)
theorem dX0_judged_107 : decode cX0_judged 107 = .ok (.imul, 1) := dk_104 (dk_at dksX0_judged_4 14 rfl rfl)
theorem dX0_judged_108 : decode cX0_judged 108 = .ok (.iadd, 1) := dk_96 (dk_at dksX0_judged_4 15 rfl rfl)
theorem dX0_judged_109 : decode cX0_judged 109 = .ok (.invokevirtual 313, 3) := dk_182 1 57 (dk_at dksX0_judged_4 16 rfl rfl)
theorem dX0_judged_112 : decode cX0_judged 112 = .ok (.aload 5, 2) := dk_25 5 (dk_at dksX0_judged_4 19 rfl rfl)
theorem dX0_judged_114 : decode cX0_judged 114 = .ok (.iload_n 3, 1) := dk_29 (dk_at dksX0_judged_4 21 rfl rfl)
theorem dX0_judged_115 : decode cX0_judged 115 = .ok (.iconst 3, 1) := dk_6 (dk_at dksX0_judged_4 22 rfl rfl)
theorem dX0_judged_116 : decode cX0_judged 116 = .ok (.iload 6, 2) := dk_21 6 (dk_at dksX0_judged_5 0 rfl rfl)
theorem dX0_judged_118 : decode cX0_judged 118 = .ok (.imul, 1) := dk_104 (dk_at dksX0_judged_5 2 rfl rfl)
theorem dX0_judged_119 : decode cX0_judged 119 = .ok (.iadd, 1) := dk_96 (dk_at dksX0_judged_5 3 rfl rfl)
theorem dX0_judged_120 : decode cX0_judged 120 = .ok (.iconst 1, 1) := dk_4 (dk_at dksX0_judged_5 4 rfl rfl)
theorem dX0_judged_121 : decode cX0_judged 121 = .ok (.iadd, 1) := dk_96 (dk_at dksX0_judged_5 5 rfl rfl)
theorem dX0_judged_122 : decode cX0_judged 122 = .ok (.invokevirtual 313, 3) := dk_182 1 57 (dk_at dksX0_judged_5 6 rfl rfl)
theorem dX0_judged_125 : decode cX0_judged 125 = .ok (.aload 5, 2) := dk_25 5 (dk_at dksX0_judged_5 9 rfl rfl)
theorem dX0_judged_127 : decode cX0_judged 127 = .ok (.iload_n 3, 1) := dk_29 (dk_at dksX0_judged_5 11 rfl rfl)
theorem dX0_judged_128 : decode cX0_judged 128 = .ok (.iconst 3, 1) := dk_6 (dk_at dksX0_judged_5 12 rfl rfl)
theorem dX0_judged_129 : decode cX0_judged 129 = .ok (.iload 6, 2) := dk_21 6 (dk_at dksX0_judged_5 13 rfl rfl)
theorem dX0_judged_131 : decode cX0_judged 131 = .ok (.imul, 1) := dk_104 (dk_at dksX0_judged_5 15 rfl rfl)
theorem dX0_judged_132 : decode cX0_judged 132 = .ok (.iadd, 1) := dk_96 (dk_at dksX0_judged_5 16 rfl rfl)
theorem dX0_judged_133 : decode cX0_judged 133 = .ok (.iconst 2, 1) := dk_5 (dk_at dksX0_judged_5 17 rfl rfl)
theorem dX0_judged_134 : decode cX0_judged 134 = .ok (.iadd, 1) := dk_96 (dk_at dksX0_judged_5 18 rfl rfl)
theorem dX0_judged_135 : decode cX0_judged 135 = .ok (.invokevirtual 313, 3) := dk_182 1 57 (dk_at dksX0_judged_5 19 rfl rfl)
theorem dX0_judged_138 : decode cX0_judged 138 = .ok (.invokevirtual 316, 3) := dk_182 1 60 (dk_at dksX0_judged_6 0 rfl rfl)
theorem dX0_judged_141 : decode cX0_judged 141 = .ok (.ifCond .ne 6, 3) := dk_154 0 6 (dk_at dksX0_judged_6 3 rfl rfl)
theorem dX0_judged_144 : decode cX0_judged 144 = .ok (.iload 6, 2) := dk_21 6 (dk_at dksX0_judged_6 6 rfl rfl)
theorem dX0_judged_146 : decode cX0_judged 146 = .ok (.ireturn, 1) := dk_172 (dk_at dksX0_judged_6 8 rfl rfl)
theorem dX0_judged_147 : decode cX0_judged 147 = .ok (.iinc 6 1, 3) := dk_132 6 1 (dk_at dksX0_judged_6 9 rfl rfl)
theorem dX0_judged_150 : decode cX0_judged 150 = .ok (.goto (-57), 3) := dk_167 255 199 (dk_at dksX0_judged_6 12 rfl rfl)
theorem dX0_judged_153 : decode cX0_judged 153 = .ok (.bipush (-4), 2) := dk_16 252 (dk_at dksX0_judged_6 15 rfl rfl)
theorem dX0_judged_155 : decode cX0_judged 155 = .ok (.ireturn, 1) := dk_172 (dk_at dksX0_judged_6 17 rfl rfl)
abbrev cX0_isSheet : ByteArray := prog_1_method_46_code
def yX0_isSheet : MethodName := ⟨RX0, "isSheet", "(I)Z"⟩
def dkwX0_isSheet_0 : List UInt8 := [26, 3, 6, 184, 0, 92, 172]
abbrev dktX0_isSheet_0 : List UInt8 := dkwX0_isSheet_0 ++ []
theorem dksX0_isSheet_0 : cX0_isSheet.data.toList.drop 0 = dktX0_isSheet_0 := by decide +kernel
theorem dX0_isSheet_0 : decode cX0_isSheet 0 = .ok (.iload_n 0, 1) := dk_26 (dk_at dksX0_isSheet_0 0 rfl rfl)
theorem dX0_isSheet_1 : decode cX0_isSheet 1 = .ok (.iconst 0, 1) := dk_3 (dk_at dksX0_isSheet_0 1 rfl rfl)
theorem dX0_isSheet_2 : decode cX0_isSheet 2 = .ok (.iconst 3, 1) := dk_6 (dk_at dksX0_isSheet_0 2 rfl rfl)
theorem dX0_isSheet_3 : decode cX0_isSheet 3 = .ok (.invokestatic 92, 3) := dk_184 0 92 (dk_at dksX0_isSheet_0 3 rfl rfl)
theorem dX0_isSheet_6 : decode cX0_isSheet 6 = .ok (.ireturn, 1) := dk_172 (dk_at dksX0_isSheet_0 6 rfl rfl)
abbrev cX0_isLane : ByteArray := prog_1_method_47_code
def yX0_isLane : MethodName := ⟨RX0, "isLane", "(I)Z"⟩
def dkwX0_isLane_0 : List UInt8 := [26, 3, 5, 184, 0, 92, 172]
abbrev dktX0_isLane_0 : List UInt8 := dkwX0_isLane_0 ++ []
theorem dksX0_isLane_0 : cX0_isLane.data.toList.drop 0 = dktX0_isLane_0 := by decide +kernel
theorem dX0_isLane_0 : decode cX0_isLane 0 = .ok (.iload_n 0, 1) := dk_26 (dk_at dksX0_isLane_0 0 rfl rfl)
theorem dX0_isLane_1 : decode cX0_isLane 1 = .ok (.iconst 0, 1) := dk_3 (dk_at dksX0_isLane_0 1 rfl rfl)
theorem dX0_isLane_2 : decode cX0_isLane 2 = .ok (.iconst 2, 1) := dk_5 (dk_at dksX0_isLane_0 2 rfl rfl)
theorem dX0_isLane_3 : decode cX0_isLane 3 = .ok (.invokestatic 92, 3) := dk_184 0 92 (dk_at dksX0_isLane_0 3 rfl rfl)
theorem dX0_isLane_6 : decode cX0_isLane 6 = .ok (.ireturn, 1) := dk_172 (dk_at dksX0_isLane_0 6 rfl rfl)
abbrev cX0_canPay : ByteArray := prog_1_method_48_code
def yX0_canPay : MethodName := ⟨RX0, "canPay", "(III)Z"⟩
def dkwX0_canPay_4 : List UInt8 := [182, 0, 221, 153, 0, 7, 4, 167, 0, 4, 3, 172]
abbrev dktX0_canPay_4 : List UInt8 := dkwX0_canPay_4 ++ []
def dkwX0_canPay_3 : List UInt8 := [184, 0, 92, 153, 0, 29, 42, 182, 0, 213, 25, 4, 29, 182, 0, 217, 153, 0, 16, 25, 4, 29]
abbrev dktX0_canPay_3 : List UInt8 := dkwX0_canPay_3 ++ dktX0_canPay_4
def dkwX0_canPay_2 : List UInt8 := [167, 255, 238, 42, 180, 0, 29, 180, 0, 100, 28, 50, 58, 4, 29, 3, 25, 4, 180, 0, 104, 4, 100]
abbrev dktX0_canPay_2 : List UInt8 := dkwX0_canPay_2 ++ dktX0_canPay_3
def dkwX0_canPay_1 : List UInt8 := [154, 0, 5, 3, 172, 42, 180, 0, 29, 180, 0, 162, 27, 162, 0, 13, 42, 180, 0, 29, 182, 0, 224]
abbrev dktX0_canPay_1 : List UInt8 := dkwX0_canPay_1 ++ dktX0_canPay_2
def dkwX0_canPay_0 : List UInt8 := [27, 42, 180, 0, 29, 180, 0, 162, 161, 0, 18, 27, 17, 1, 103, 163, 0, 11, 42, 28, 182, 0, 96]
abbrev dktX0_canPay_0 : List UInt8 := dkwX0_canPay_0 ++ dktX0_canPay_1
theorem dksX0_canPay_0 : cX0_canPay.data.toList.drop 0 = dktX0_canPay_0 := by decide +kernel
theorem dksX0_canPay_1 : cX0_canPay.data.toList.drop 23 = dktX0_canPay_1 := dk_seg dksX0_canPay_0 23 rfl rfl
theorem dksX0_canPay_2 : cX0_canPay.data.toList.drop 46 = dktX0_canPay_2 := dk_seg dksX0_canPay_1 23 rfl rfl
theorem dksX0_canPay_3 : cX0_canPay.data.toList.drop 69 = dktX0_canPay_3 := dk_seg dksX0_canPay_2 23 rfl rfl
theorem dksX0_canPay_4 : cX0_canPay.data.toList.drop 91 = dktX0_canPay_4 := dk_seg dksX0_canPay_3 22 rfl rfl
theorem dX0_canPay_0 : decode cX0_canPay 0 = .ok (.iload_n 1, 1) := dk_27 (dk_at dksX0_canPay_0 0 rfl rfl)
theorem dX0_canPay_1 : decode cX0_canPay 1 = .ok (.aload_n 0, 1) := dk_42 (dk_at dksX0_canPay_0 1 rfl rfl)
theorem dX0_canPay_2 : decode cX0_canPay 2 = .ok (.getfield 29, 3) := dk_180 0 29 (dk_at dksX0_canPay_0 2 rfl rfl)
theorem dX0_canPay_5 : decode cX0_canPay 5 = .ok (.getfield 162, 3) := dk_180 0 162 (dk_at dksX0_canPay_0 5 rfl rfl)
theorem dX0_canPay_8 : decode cX0_canPay 8 = .ok (.if_icmp .lt 18, 3) := dk_161 0 18 (dk_at dksX0_canPay_0 8 rfl rfl)
theorem dX0_canPay_11 : decode cX0_canPay 11 = .ok (.iload_n 1, 1) := dk_27 (dk_at dksX0_canPay_0 11 rfl rfl)
theorem dX0_canPay_12 : decode cX0_canPay 12 = .ok (.sipush 359, 3) := dk_17 1 103 (dk_at dksX0_canPay_0 12 rfl rfl)
theorem dX0_canPay_15 : decode cX0_canPay 15 = .ok (.if_icmp .gt 11, 3) := dk_163 0 11 (dk_at dksX0_canPay_0 15 rfl rfl)
theorem dX0_canPay_18 : decode cX0_canPay 18 = .ok (.aload_n 0, 1) := dk_42 (dk_at dksX0_canPay_0 18 rfl rfl)
theorem dX0_canPay_19 : decode cX0_canPay 19 = .ok (.iload_n 2, 1) := dk_28 (dk_at dksX0_canPay_0 19 rfl rfl)
theorem dX0_canPay_20 : decode cX0_canPay 20 = .ok (.invokevirtual 96, 3) := dk_182 0 96 (dk_at dksX0_canPay_0 20 rfl rfl)
theorem dX0_canPay_23 : decode cX0_canPay 23 = .ok (.ifCond .ne 5, 3) := dk_154 0 5 (dk_at dksX0_canPay_1 0 rfl rfl)
theorem dX0_canPay_26 : decode cX0_canPay 26 = .ok (.iconst 0, 1) := dk_3 (dk_at dksX0_canPay_1 3 rfl rfl)
theorem dX0_canPay_27 : decode cX0_canPay 27 = .ok (.ireturn, 1) := dk_172 (dk_at dksX0_canPay_1 4 rfl rfl)
theorem dX0_canPay_28 : decode cX0_canPay 28 = .ok (.aload_n 0, 1) := dk_42 (dk_at dksX0_canPay_1 5 rfl rfl)
theorem dX0_canPay_29 : decode cX0_canPay 29 = .ok (.getfield 29, 3) := dk_180 0 29 (dk_at dksX0_canPay_1 6 rfl rfl)
theorem dX0_canPay_32 : decode cX0_canPay 32 = .ok (.getfield 162, 3) := dk_180 0 162 (dk_at dksX0_canPay_1 9 rfl rfl)
theorem dX0_canPay_35 : decode cX0_canPay 35 = .ok (.iload_n 1, 1) := dk_27 (dk_at dksX0_canPay_1 12 rfl rfl)
theorem dX0_canPay_36 : decode cX0_canPay 36 = .ok (.if_icmp .ge 13, 3) := dk_162 0 13 (dk_at dksX0_canPay_1 13 rfl rfl)
theorem dX0_canPay_39 : decode cX0_canPay 39 = .ok (.aload_n 0, 1) := dk_42 (dk_at dksX0_canPay_1 16 rfl rfl)
theorem dX0_canPay_40 : decode cX0_canPay 40 = .ok (.getfield 29, 3) := dk_180 0 29 (dk_at dksX0_canPay_1 17 rfl rfl)
theorem dX0_canPay_43 : decode cX0_canPay 43 = .ok (.invokevirtual 224, 3) := dk_182 0 224 (dk_at dksX0_canPay_1 20 rfl rfl)
theorem dX0_canPay_46 : decode cX0_canPay 46 = .ok (.goto (-18), 3) := dk_167 255 238 (dk_at dksX0_canPay_2 0 rfl rfl)
theorem dX0_canPay_49 : decode cX0_canPay 49 = .ok (.aload_n 0, 1) := dk_42 (dk_at dksX0_canPay_2 3 rfl rfl)
theorem dX0_canPay_50 : decode cX0_canPay 50 = .ok (.getfield 29, 3) := dk_180 0 29 (dk_at dksX0_canPay_2 4 rfl rfl)
theorem dX0_canPay_53 : decode cX0_canPay 53 = .ok (.getfield 100, 3) := dk_180 0 100 (dk_at dksX0_canPay_2 7 rfl rfl)
theorem dX0_canPay_56 : decode cX0_canPay 56 = .ok (.iload_n 2, 1) := dk_28 (dk_at dksX0_canPay_2 10 rfl rfl)
theorem dX0_canPay_57 : decode cX0_canPay 57 = .ok (.aaload, 1) := dk_50 (dk_at dksX0_canPay_2 11 rfl rfl)
theorem dX0_canPay_58 : decode cX0_canPay 58 = .ok (.astore 4, 2) := dk_58 4 (dk_at dksX0_canPay_2 12 rfl rfl)
theorem dX0_canPay_60 : decode cX0_canPay 60 = .ok (.iload_n 3, 1) := dk_29 (dk_at dksX0_canPay_2 14 rfl rfl)
theorem dX0_canPay_61 : decode cX0_canPay 61 = .ok (.iconst 0, 1) := dk_3 (dk_at dksX0_canPay_2 15 rfl rfl)
theorem dX0_canPay_62 : decode cX0_canPay 62 = .ok (.aload 4, 2) := dk_25 4 (dk_at dksX0_canPay_2 16 rfl rfl)
theorem dX0_canPay_64 : decode cX0_canPay 64 = .ok (.getfield 104, 3) := dk_180 0 104 (dk_at dksX0_canPay_2 18 rfl rfl)
theorem dX0_canPay_67 : decode cX0_canPay 67 = .ok (.iconst 1, 1) := dk_4 (dk_at dksX0_canPay_2 21 rfl rfl)
theorem dX0_canPay_68 : decode cX0_canPay 68 = .ok (.isub, 1) := dk_100 (dk_at dksX0_canPay_2 22 rfl rfl)
theorem dX0_canPay_69 : decode cX0_canPay 69 = .ok (.invokestatic 92, 3) := dk_184 0 92 (dk_at dksX0_canPay_3 0 rfl rfl)
theorem dX0_canPay_72 : decode cX0_canPay 72 = .ok (.ifCond .eq 29, 3) := dk_153 0 29 (dk_at dksX0_canPay_3 3 rfl rfl)
theorem dX0_canPay_75 : decode cX0_canPay 75 = .ok (.aload_n 0, 1) := dk_42 (dk_at dksX0_canPay_3 6 rfl rfl)
theorem dX0_canPay_76 : decode cX0_canPay 76 = .ok (.invokevirtual 213, 3) := dk_182 0 213 (dk_at dksX0_canPay_3 7 rfl rfl)
theorem dX0_canPay_79 : decode cX0_canPay 79 = .ok (.aload 4, 2) := dk_25 4 (dk_at dksX0_canPay_3 10 rfl rfl)
theorem dX0_canPay_81 : decode cX0_canPay 81 = .ok (.iload_n 3, 1) := dk_29 (dk_at dksX0_canPay_3 12 rfl rfl)
theorem dX0_canPay_82 : decode cX0_canPay 82 = .ok (.invokevirtual 217, 3) := dk_182 0 217 (dk_at dksX0_canPay_3 13 rfl rfl)
theorem dX0_canPay_85 : decode cX0_canPay 85 = .ok (.ifCond .eq 16, 3) := dk_153 0 16 (dk_at dksX0_canPay_3 16 rfl rfl)
theorem dX0_canPay_88 : decode cX0_canPay 88 = .ok (.aload 4, 2) := dk_25 4 (dk_at dksX0_canPay_3 19 rfl rfl)
theorem dX0_canPay_90 : decode cX0_canPay 90 = .ok (.iload_n 3, 1) := dk_29 (dk_at dksX0_canPay_3 21 rfl rfl)
theorem dX0_canPay_91 : decode cX0_canPay 91 = .ok (.invokevirtual 221, 3) := dk_182 0 221 (dk_at dksX0_canPay_4 0 rfl rfl)
theorem dX0_canPay_94 : decode cX0_canPay 94 = .ok (.ifCond .eq 7, 3) := dk_153 0 7 (dk_at dksX0_canPay_4 3 rfl rfl)
theorem dX0_canPay_97 : decode cX0_canPay 97 = .ok (.iconst 1, 1) := dk_4 (dk_at dksX0_canPay_4 6 rfl rfl)
theorem dX0_canPay_98 : decode cX0_canPay 98 = .ok (.goto 4, 3) := dk_167 0 4 (dk_at dksX0_canPay_4 7 rfl rfl)
theorem dX0_canPay_101 : decode cX0_canPay 101 = .ok (.iconst 0, 1) := dk_3 (dk_at dksX0_canPay_4 10 rfl rfl)
theorem dX0_canPay_102 : decode cX0_canPay 102 = .ok (.ireturn, 1) := dk_172 (dk_at dksX0_canPay_4 11 rfl rfl)
abbrev cX0_sheet : ByteArray := prog_1_method_50_code
def yX0_sheet : MethodName := ⟨RX0, "sheet", "(III)I"⟩
def dkwX0_sheet_2 : List UInt8 := [167, 0, 6, 29, 188, 10, 181, 1, 47, 167, 0, 8, 58, 4, 16, 242, 172, 29, 172]
abbrev dktX0_sheet_2 : List UInt8 := dkwX0_sheet_2 ++ []
def dkwX0_sheet_1 : List UInt8 := [180, 0, 83, 27, 50, 28, 154, 0, 9, 29, 188, 8, 167, 0, 17, 28, 4, 160, 0, 9, 29, 188, 9]
abbrev dktX0_sheet_1 : List UInt8 := dkwX0_sheet_1 ++ dktX0_sheet_2
def dkwX0_sheet_0 : List UInt8 := [27, 184, 1, 41, 153, 0, 16, 28, 184, 1, 44, 153, 0, 9, 29, 16, 24, 164, 0, 5, 2, 172, 42]
abbrev dktX0_sheet_0 : List UInt8 := dkwX0_sheet_0 ++ dktX0_sheet_1
theorem dksX0_sheet_0 : cX0_sheet.data.toList.drop 0 = dktX0_sheet_0 := by decide +kernel
theorem dksX0_sheet_1 : cX0_sheet.data.toList.drop 23 = dktX0_sheet_1 := dk_seg dksX0_sheet_0 23 rfl rfl
theorem dksX0_sheet_2 : cX0_sheet.data.toList.drop 46 = dktX0_sheet_2 := dk_seg dksX0_sheet_1 23 rfl rfl
theorem dX0_sheet_0 : decode cX0_sheet 0 = .ok (.iload_n 1, 1) := dk_27 (dk_at dksX0_sheet_0 0 rfl rfl)
theorem dX0_sheet_1 : decode cX0_sheet 1 = .ok (.invokestatic 297, 3) := dk_184 1 41 (dk_at dksX0_sheet_0 1 rfl rfl)
theorem dX0_sheet_4 : decode cX0_sheet 4 = .ok (.ifCond .eq 16, 3) := dk_153 0 16 (dk_at dksX0_sheet_0 4 rfl rfl)
theorem dX0_sheet_7 : decode cX0_sheet 7 = .ok (.iload_n 2, 1) := dk_28 (dk_at dksX0_sheet_0 7 rfl rfl)
theorem dX0_sheet_8 : decode cX0_sheet 8 = .ok (.invokestatic 300, 3) := dk_184 1 44 (dk_at dksX0_sheet_0 8 rfl rfl)
theorem dX0_sheet_11 : decode cX0_sheet 11 = .ok (.ifCond .eq 9, 3) := dk_153 0 9 (dk_at dksX0_sheet_0 11 rfl rfl)
theorem dX0_sheet_14 : decode cX0_sheet 14 = .ok (.iload_n 3, 1) := dk_29 (dk_at dksX0_sheet_0 14 rfl rfl)
theorem dX0_sheet_15 : decode cX0_sheet 15 = .ok (.bipush 24, 2) := dk_16 24 (dk_at dksX0_sheet_0 15 rfl rfl)
theorem dX0_sheet_17 : decode cX0_sheet 17 = .ok (.if_icmp .le 5, 3) := dk_164 0 5 (dk_at dksX0_sheet_0 17 rfl rfl)
theorem dX0_sheet_20 : decode cX0_sheet 20 = .ok (.iconst (-1), 1) := dk_2 (dk_at dksX0_sheet_0 20 rfl rfl)
theorem dX0_sheet_21 : decode cX0_sheet 21 = .ok (.ireturn, 1) := dk_172 (dk_at dksX0_sheet_0 21 rfl rfl)
theorem dX0_sheet_22 : decode cX0_sheet 22 = .ok (.aload_n 0, 1) := dk_42 (dk_at dksX0_sheet_0 22 rfl rfl)
theorem dX0_sheet_23 : decode cX0_sheet 23 = .ok (.getfield 83, 3) := dk_180 0 83 (dk_at dksX0_sheet_1 0 rfl rfl)
theorem dX0_sheet_26 : decode cX0_sheet 26 = .ok (.iload_n 1, 1) := dk_27 (dk_at dksX0_sheet_1 3 rfl rfl)
theorem dX0_sheet_27 : decode cX0_sheet 27 = .ok (.aaload, 1) := dk_50 (dk_at dksX0_sheet_1 4 rfl rfl)
theorem dX0_sheet_28 : decode cX0_sheet 28 = .ok (.iload_n 2, 1) := dk_28 (dk_at dksX0_sheet_1 5 rfl rfl)
theorem dX0_sheet_29 : decode cX0_sheet 29 = .ok (.ifCond .ne 9, 3) := dk_154 0 9 (dk_at dksX0_sheet_1 6 rfl rfl)
theorem dX0_sheet_32 : decode cX0_sheet 32 = .ok (.iload_n 3, 1) := dk_29 (dk_at dksX0_sheet_1 9 rfl rfl)
theorem dX0_sheet_33 : decode cX0_sheet 33 = .ok (.newarray .byte, 2) := dk_188_8 (dk_at dksX0_sheet_1 10 rfl rfl)
theorem dX0_sheet_35 : decode cX0_sheet 35 = .ok (.goto 17, 3) := dk_167 0 17 (dk_at dksX0_sheet_1 12 rfl rfl)
theorem dX0_sheet_38 : decode cX0_sheet 38 = .ok (.iload_n 2, 1) := dk_28 (dk_at dksX0_sheet_1 15 rfl rfl)
theorem dX0_sheet_39 : decode cX0_sheet 39 = .ok (.iconst 1, 1) := dk_4 (dk_at dksX0_sheet_1 16 rfl rfl)
theorem dX0_sheet_40 : decode cX0_sheet 40 = .ok (.if_icmp .ne 9, 3) := dk_160 0 9 (dk_at dksX0_sheet_1 17 rfl rfl)
theorem dX0_sheet_43 : decode cX0_sheet 43 = .ok (.iload_n 3, 1) := dk_29 (dk_at dksX0_sheet_1 20 rfl rfl)
theorem dX0_sheet_44 : decode cX0_sheet 44 = .ok (.newarray .short, 2) := dk_188_9 (dk_at dksX0_sheet_1 21 rfl rfl)
theorem dX0_sheet_46 : decode cX0_sheet 46 = .ok (.goto 6, 3) := dk_167 0 6 (dk_at dksX0_sheet_2 0 rfl rfl)
theorem dX0_sheet_49 : decode cX0_sheet 49 = .ok (.iload_n 3, 1) := dk_29 (dk_at dksX0_sheet_2 3 rfl rfl)
theorem dX0_sheet_50 : decode cX0_sheet 50 = .ok (.newarray .int, 2) := dk_188_10 (dk_at dksX0_sheet_2 4 rfl rfl)
theorem dX0_sheet_52 : decode cX0_sheet 52 = .ok (.putfield 303, 3) := dk_181 1 47 (dk_at dksX0_sheet_2 6 rfl rfl)
theorem dX0_sheet_55 : decode cX0_sheet 55 = .ok (.goto 8, 3) := dk_167 0 8 (dk_at dksX0_sheet_2 9 rfl rfl)
theorem dX0_sheet_58 : decode cX0_sheet 58 = .ok (.astore 4, 2) := dk_58 4 (dk_at dksX0_sheet_2 12 rfl rfl)
theorem dX0_sheet_60 : decode cX0_sheet 60 = .ok (.bipush (-14), 2) := dk_16 242 (dk_at dksX0_sheet_2 14 rfl rfl)
theorem dX0_sheet_62 : decode cX0_sheet 62 = .ok (.ireturn, 1) := dk_172 (dk_at dksX0_sheet_2 16 rfl rfl)
theorem dX0_sheet_63 : decode cX0_sheet 63 = .ok (.iload_n 3, 1) := dk_29 (dk_at dksX0_sheet_2 17 rfl rfl)
theorem dX0_sheet_64 : decode cX0_sheet 64 = .ok (.ireturn, 1) := dk_172 (dk_at dksX0_sheet_2 18 rfl rfl)
abbrev cX0_drop : ByteArray := prog_1_method_51_code
def yX0_drop : MethodName := ⟨RX0, "drop", "(I)I"⟩
def dkwX0_drop_1 : List UInt8 := [42, 180, 0, 83, 27, 50, 182, 1, 54, 61, 42, 180, 0, 83, 27, 50, 1, 181, 1, 47, 28, 172]
abbrev dktX0_drop_1 : List UInt8 := dkwX0_drop_1 ++ []
def dkwX0_drop_0 : List UInt8 := [27, 184, 1, 41, 154, 0, 5, 2, 172, 42, 180, 0, 83, 27, 50, 180, 1, 47, 199, 0, 6, 16, 245, 172]
abbrev dktX0_drop_0 : List UInt8 := dkwX0_drop_0 ++ dktX0_drop_1
theorem dksX0_drop_0 : cX0_drop.data.toList.drop 0 = dktX0_drop_0 := by decide +kernel
theorem dksX0_drop_1 : cX0_drop.data.toList.drop 24 = dktX0_drop_1 := dk_seg dksX0_drop_0 24 rfl rfl
theorem dX0_drop_0 : decode cX0_drop 0 = .ok (.iload_n 1, 1) := dk_27 (dk_at dksX0_drop_0 0 rfl rfl)
theorem dX0_drop_1 : decode cX0_drop 1 = .ok (.invokestatic 297, 3) := dk_184 1 41 (dk_at dksX0_drop_0 1 rfl rfl)
theorem dX0_drop_4 : decode cX0_drop 4 = .ok (.ifCond .ne 5, 3) := dk_154 0 5 (dk_at dksX0_drop_0 4 rfl rfl)
theorem dX0_drop_7 : decode cX0_drop 7 = .ok (.iconst (-1), 1) := dk_2 (dk_at dksX0_drop_0 7 rfl rfl)
theorem dX0_drop_8 : decode cX0_drop 8 = .ok (.ireturn, 1) := dk_172 (dk_at dksX0_drop_0 8 rfl rfl)
theorem dX0_drop_9 : decode cX0_drop 9 = .ok (.aload_n 0, 1) := dk_42 (dk_at dksX0_drop_0 9 rfl rfl)
theorem dX0_drop_10 : decode cX0_drop 10 = .ok (.getfield 83, 3) := dk_180 0 83 (dk_at dksX0_drop_0 10 rfl rfl)
theorem dX0_drop_13 : decode cX0_drop 13 = .ok (.iload_n 1, 1) := dk_27 (dk_at dksX0_drop_0 13 rfl rfl)
theorem dX0_drop_14 : decode cX0_drop 14 = .ok (.aaload, 1) := dk_50 (dk_at dksX0_drop_0 14 rfl rfl)
theorem dX0_drop_15 : decode cX0_drop 15 = .ok (.getfield 303, 3) := dk_180 1 47 (dk_at dksX0_drop_0 15 rfl rfl)
theorem dX0_drop_18 : decode cX0_drop 18 = .ok (.ifnonnull 6, 3) := dk_199 0 6 (dk_at dksX0_drop_0 18 rfl rfl)
theorem dX0_drop_21 : decode cX0_drop 21 = .ok (.bipush (-11), 2) := dk_16 245 (dk_at dksX0_drop_0 21 rfl rfl)
theorem dX0_drop_23 : decode cX0_drop 23 = .ok (.ireturn, 1) := dk_172 (dk_at dksX0_drop_0 23 rfl rfl)
theorem dX0_drop_24 : decode cX0_drop 24 = .ok (.aload_n 0, 1) := dk_42 (dk_at dksX0_drop_1 0 rfl rfl)
theorem dX0_drop_25 : decode cX0_drop 25 = .ok (.getfield 83, 3) := dk_180 0 83 (dk_at dksX0_drop_1 1 rfl rfl)
theorem dX0_drop_28 : decode cX0_drop 28 = .ok (.iload_n 1, 1) := dk_27 (dk_at dksX0_drop_1 4 rfl rfl)
theorem dX0_drop_29 : decode cX0_drop 29 = .ok (.aaload, 1) := dk_50 (dk_at dksX0_drop_1 5 rfl rfl)
theorem dX0_drop_30 : decode cX0_drop 30 = .ok (.invokevirtual 310, 3) := dk_182 1 54 (dk_at dksX0_drop_1 6 rfl rfl)
theorem dX0_drop_33 : decode cX0_drop 33 = .ok (.istore_n 2, 1) := dk_61 (dk_at dksX0_drop_1 9 rfl rfl)
theorem dX0_drop_34 : decode cX0_drop 34 = .ok (.aload_n 0, 1) := dk_42 (dk_at dksX0_drop_1 10 rfl rfl)
theorem dX0_drop_35 : decode cX0_drop 35 = .ok (.getfield 83, 3) := dk_180 0 83 (dk_at dksX0_drop_1 11 rfl rfl)
theorem dX0_drop_38 : decode cX0_drop 38 = .ok (.iload_n 1, 1) := dk_27 (dk_at dksX0_drop_1 14 rfl rfl)
theorem dX0_drop_39 : decode cX0_drop 39 = .ok (.aaload, 1) := dk_50 (dk_at dksX0_drop_1 15 rfl rfl)
theorem dX0_drop_40 : decode cX0_drop 40 = .ok (.aconst_null, 1) := dk_1 (dk_at dksX0_drop_1 16 rfl rfl)
theorem dX0_drop_41 : decode cX0_drop 41 = .ok (.putfield 303, 3) := dk_181 1 47 (dk_at dksX0_drop_1 17 rfl rfl)
theorem dX0_drop_44 : decode cX0_drop 44 = .ok (.iload_n 2, 1) := dk_28 (dk_at dksX0_drop_1 20 rfl rfl)
theorem dX0_drop_45 : decode cX0_drop 45 = .ok (.ireturn, 1) := dk_172 (dk_at dksX0_drop_1 21 rfl rfl)
abbrev cX0_item : ByteArray := prog_1_method_52_code
def yX0_item : MethodName := ⟨RX0, "item", "(IIII)I"⟩
def dkwX0_item_5 : List UInt8 := [58, 5, 16, 243, 172, 4, 172]
abbrev dktX0_item_5 : List UInt8 := dkwX0_item_5 ++ []
def dkwX0_item_4 : List UInt8 := [180, 1, 47, 192, 1, 68, 29, 21, 4, 79, 167, 0, 18, 58, 5, 16, 245, 172, 58, 5, 16, 244, 172]
abbrev dktX0_item_4 : List UInt8 := dkwX0_item_4 ++ dktX0_item_5
def dkwX0_item_3 : List UInt8 := [27, 50, 180, 1, 47, 192, 1, 66, 29, 21, 4, 147, 86, 167, 0, 19, 42, 180, 0, 83, 27, 50]
abbrev dktX0_item_3 : List UInt8 := dkwX0_item_3 ++ dktX0_item_4
def dkwX0_item_2 : List UInt8 := [42, 180, 0, 83, 27, 50, 180, 1, 47, 192, 1, 65, 29, 21, 4, 145, 84, 167, 0, 39, 42, 180, 0, 83]
abbrev dktX0_item_2 : List UInt8 := dkwX0_item_2 ++ dktX0_item_3
def dkwX0_item_1 : List UInt8 := [171, 0, 0, 0, 0, 0, 67, 0, 0, 0, 2, 0, 0, 0, 0, 0, 0, 0, 27, 0, 0, 0, 1, 0, 0, 0, 47]
abbrev dktX0_item_1 : List UInt8 := dkwX0_item_1 ++ dktX0_item_2
def dkwX0_item_0 : List UInt8 := [27, 184, 1, 41, 153, 0, 10, 28, 184, 1, 44, 154, 0, 5, 2, 172, 28]
abbrev dktX0_item_0 : List UInt8 := dkwX0_item_0 ++ dktX0_item_1
theorem dksX0_item_0 : cX0_item.data.toList.drop 0 = dktX0_item_0 := by decide +kernel
theorem dksX0_item_1 : cX0_item.data.toList.drop 17 = dktX0_item_1 := dk_seg dksX0_item_0 17 rfl rfl
theorem dksX0_item_2 : cX0_item.data.toList.drop 44 = dktX0_item_2 := dk_seg dksX0_item_1 27 rfl rfl
theorem dksX0_item_3 : cX0_item.data.toList.drop 68 = dktX0_item_3 := dk_seg dksX0_item_2 24 rfl rfl
theorem dksX0_item_4 : cX0_item.data.toList.drop 90 = dktX0_item_4 := dk_seg dksX0_item_3 22 rfl rfl
theorem dksX0_item_5 : cX0_item.data.toList.drop 113 = dktX0_item_5 := dk_seg dksX0_item_4 23 rfl rfl
theorem dX0_item_0 : decode cX0_item 0 = .ok (.iload_n 1, 1) := dk_27 (dk_at dksX0_item_0 0 rfl rfl)
theorem dX0_item_1 : decode cX0_item 1 = .ok (.invokestatic 297, 3) := dk_184 1 41 (dk_at dksX0_item_0 1 rfl rfl)
theorem dX0_item_4 : decode cX0_item 4 = .ok (.ifCond .eq 10, 3) := dk_153 0 10 (dk_at dksX0_item_0 4 rfl rfl)
theorem dX0_item_7 : decode cX0_item 7 = .ok (.iload_n 2, 1) := dk_28 (dk_at dksX0_item_0 7 rfl rfl)
theorem dX0_item_8 : decode cX0_item 8 = .ok (.invokestatic 300, 3) := dk_184 1 44 (dk_at dksX0_item_0 8 rfl rfl)
theorem dX0_item_11 : decode cX0_item 11 = .ok (.ifCond .ne 5, 3) := dk_154 0 5 (dk_at dksX0_item_0 11 rfl rfl)
theorem dX0_item_14 : decode cX0_item 14 = .ok (.iconst (-1), 1) := dk_2 (dk_at dksX0_item_0 14 rfl rfl)
theorem dX0_item_15 : decode cX0_item 15 = .ok (.ireturn, 1) := dk_172 (dk_at dksX0_item_0 15 rfl rfl)
theorem dX0_item_16 : decode cX0_item 16 = .ok (.iload_n 2, 1) := dk_28 (dk_at dksX0_item_0 16 rfl rfl)
theorem dX0_item_17 : decode cX0_item 17 = .ok (.lookupswitch 67 #[(0, 27), (1, 47)], 27) := by decide +kernel
theorem dX0_item_44 : decode cX0_item 44 = .ok (.aload_n 0, 1) := dk_42 (dk_at dksX0_item_2 0 rfl rfl)
theorem dX0_item_45 : decode cX0_item 45 = .ok (.getfield 83, 3) := dk_180 0 83 (dk_at dksX0_item_2 1 rfl rfl)
theorem dX0_item_48 : decode cX0_item 48 = .ok (.iload_n 1, 1) := dk_27 (dk_at dksX0_item_2 4 rfl rfl)
theorem dX0_item_49 : decode cX0_item 49 = .ok (.aaload, 1) := dk_50 (dk_at dksX0_item_2 5 rfl rfl)
theorem dX0_item_50 : decode cX0_item 50 = .ok (.getfield 303, 3) := dk_180 1 47 (dk_at dksX0_item_2 6 rfl rfl)
theorem dX0_item_53 : decode cX0_item 53 = .ok (.checkcast 321, 3) := dk_192 1 65 (dk_at dksX0_item_2 9 rfl rfl)
theorem dX0_item_56 : decode cX0_item 56 = .ok (.iload_n 3, 1) := dk_29 (dk_at dksX0_item_2 12 rfl rfl)
theorem dX0_item_57 : decode cX0_item 57 = .ok (.iload 4, 2) := dk_21 4 (dk_at dksX0_item_2 13 rfl rfl)
theorem dX0_item_59 : decode cX0_item 59 = .ok (.i2b, 1) := dk_145 (dk_at dksX0_item_2 15 rfl rfl)
theorem dX0_item_60 : decode cX0_item 60 = .ok (.bastore, 1) := dk_84 (dk_at dksX0_item_2 16 rfl rfl)
theorem dX0_item_61 : decode cX0_item 61 = .ok (.goto 39, 3) := dk_167 0 39 (dk_at dksX0_item_2 17 rfl rfl)
theorem dX0_item_64 : decode cX0_item 64 = .ok (.aload_n 0, 1) := dk_42 (dk_at dksX0_item_2 20 rfl rfl)
theorem dX0_item_65 : decode cX0_item 65 = .ok (.getfield 83, 3) := dk_180 0 83 (dk_at dksX0_item_2 21 rfl rfl)
theorem dX0_item_68 : decode cX0_item 68 = .ok (.iload_n 1, 1) := dk_27 (dk_at dksX0_item_3 0 rfl rfl)
theorem dX0_item_69 : decode cX0_item 69 = .ok (.aaload, 1) := dk_50 (dk_at dksX0_item_3 1 rfl rfl)
theorem dX0_item_70 : decode cX0_item 70 = .ok (.getfield 303, 3) := dk_180 1 47 (dk_at dksX0_item_3 2 rfl rfl)
theorem dX0_item_73 : decode cX0_item 73 = .ok (.checkcast 322, 3) := dk_192 1 66 (dk_at dksX0_item_3 5 rfl rfl)
theorem dX0_item_76 : decode cX0_item 76 = .ok (.iload_n 3, 1) := dk_29 (dk_at dksX0_item_3 8 rfl rfl)
theorem dX0_item_77 : decode cX0_item 77 = .ok (.iload 4, 2) := dk_21 4 (dk_at dksX0_item_3 9 rfl rfl)
theorem dX0_item_79 : decode cX0_item 79 = .ok (.i2s, 1) := dk_147 (dk_at dksX0_item_3 11 rfl rfl)
theorem dX0_item_80 : decode cX0_item 80 = .ok (.sastore, 1) := dk_86 (dk_at dksX0_item_3 12 rfl rfl)
theorem dX0_item_81 : decode cX0_item 81 = .ok (.goto 19, 3) := dk_167 0 19 (dk_at dksX0_item_3 13 rfl rfl)
theorem dX0_item_84 : decode cX0_item 84 = .ok (.aload_n 0, 1) := dk_42 (dk_at dksX0_item_3 16 rfl rfl)
theorem dX0_item_85 : decode cX0_item 85 = .ok (.getfield 83, 3) := dk_180 0 83 (dk_at dksX0_item_3 17 rfl rfl)
theorem dX0_item_88 : decode cX0_item 88 = .ok (.iload_n 1, 1) := dk_27 (dk_at dksX0_item_3 20 rfl rfl)
theorem dX0_item_89 : decode cX0_item 89 = .ok (.aaload, 1) := dk_50 (dk_at dksX0_item_3 21 rfl rfl)
theorem dX0_item_90 : decode cX0_item 90 = .ok (.getfield 303, 3) := dk_180 1 47 (dk_at dksX0_item_4 0 rfl rfl)
theorem dX0_item_93 : decode cX0_item 93 = .ok (.checkcast 324, 3) := dk_192 1 68 (dk_at dksX0_item_4 3 rfl rfl)
theorem dX0_item_96 : decode cX0_item 96 = .ok (.iload_n 3, 1) := dk_29 (dk_at dksX0_item_4 6 rfl rfl)
theorem dX0_item_97 : decode cX0_item 97 = .ok (.iload 4, 2) := dk_21 4 (dk_at dksX0_item_4 7 rfl rfl)
theorem dX0_item_99 : decode cX0_item 99 = .ok (.iastore, 1) := dk_79 (dk_at dksX0_item_4 9 rfl rfl)
theorem dX0_item_100 : decode cX0_item 100 = .ok (.goto 18, 3) := dk_167 0 18 (dk_at dksX0_item_4 10 rfl rfl)
theorem dX0_item_103 : decode cX0_item 103 = .ok (.astore 5, 2) := dk_58 5 (dk_at dksX0_item_4 13 rfl rfl)
theorem dX0_item_105 : decode cX0_item 105 = .ok (.bipush (-11), 2) := dk_16 245 (dk_at dksX0_item_4 15 rfl rfl)
theorem dX0_item_107 : decode cX0_item 107 = .ok (.ireturn, 1) := dk_172 (dk_at dksX0_item_4 17 rfl rfl)
theorem dX0_item_108 : decode cX0_item 108 = .ok (.astore 5, 2) := dk_58 5 (dk_at dksX0_item_4 18 rfl rfl)
theorem dX0_item_110 : decode cX0_item 110 = .ok (.bipush (-12), 2) := dk_16 244 (dk_at dksX0_item_4 20 rfl rfl)
theorem dX0_item_112 : decode cX0_item 112 = .ok (.ireturn, 1) := dk_172 (dk_at dksX0_item_4 22 rfl rfl)
theorem dX0_item_113 : decode cX0_item 113 = .ok (.astore 5, 2) := dk_58 5 (dk_at dksX0_item_5 0 rfl rfl)
theorem dX0_item_115 : decode cX0_item 115 = .ok (.bipush (-13), 2) := dk_16 243 (dk_at dksX0_item_5 2 rfl rfl)
theorem dX0_item_117 : decode cX0_item 117 = .ok (.ireturn, 1) := dk_172 (dk_at dksX0_item_5 4 rfl rfl)
theorem dX0_item_118 : decode cX0_item 118 = .ok (.iconst 1, 1) := dk_4 (dk_at dksX0_item_5 5 rfl rfl)
theorem dX0_item_119 : decode cX0_item 119 = .ok (.ireturn, 1) := dk_172 (dk_at dksX0_item_5 6 rfl rfl)
abbrev cX0_copy : ByteArray := prog_1_method_53_code
def yX0_copy : MethodName := ⟨RX0, "copy", "(IIIII)I"⟩
def dkwX0_copy_2 : List UInt8 := [58, 6, 16, 245, 172, 58, 6, 16, 244, 172, 58, 6, 16, 243, 172, 21, 5, 172]
abbrev dktX0_copy_2 : List UInt8 := dkwX0_copy_2 ++ []
def dkwX0_copy_1 : List UInt8 := [180, 1, 47, 28, 42, 180, 0, 83, 29, 50, 180, 1, 47, 21, 4, 21, 5, 184, 0, 206, 167, 0, 18]
abbrev dktX0_copy_1 : List UInt8 := dkwX0_copy_1 ++ dktX0_copy_2
def dkwX0_copy_0 : List UInt8 := [27, 184, 1, 41, 153, 0, 10, 29, 184, 1, 41, 154, 0, 5, 2, 172, 42, 180, 0, 83, 27, 50]
abbrev dktX0_copy_0 : List UInt8 := dkwX0_copy_0 ++ dktX0_copy_1
theorem dksX0_copy_0 : cX0_copy.data.toList.drop 0 = dktX0_copy_0 := by decide +kernel
theorem dksX0_copy_1 : cX0_copy.data.toList.drop 22 = dktX0_copy_1 := dk_seg dksX0_copy_0 22 rfl rfl
theorem dksX0_copy_2 : cX0_copy.data.toList.drop 45 = dktX0_copy_2 := dk_seg dksX0_copy_1 23 rfl rfl
theorem dX0_copy_0 : decode cX0_copy 0 = .ok (.iload_n 1, 1) := dk_27 (dk_at dksX0_copy_0 0 rfl rfl)
theorem dX0_copy_1 : decode cX0_copy 1 = .ok (.invokestatic 297, 3) := dk_184 1 41 (dk_at dksX0_copy_0 1 rfl rfl)
theorem dX0_copy_4 : decode cX0_copy 4 = .ok (.ifCond .eq 10, 3) := dk_153 0 10 (dk_at dksX0_copy_0 4 rfl rfl)
theorem dX0_copy_7 : decode cX0_copy 7 = .ok (.iload_n 3, 1) := dk_29 (dk_at dksX0_copy_0 7 rfl rfl)
theorem dX0_copy_8 : decode cX0_copy 8 = .ok (.invokestatic 297, 3) := dk_184 1 41 (dk_at dksX0_copy_0 8 rfl rfl)
theorem dX0_copy_11 : decode cX0_copy 11 = .ok (.ifCond .ne 5, 3) := dk_154 0 5 (dk_at dksX0_copy_0 11 rfl rfl)
theorem dX0_copy_14 : decode cX0_copy 14 = .ok (.iconst (-1), 1) := dk_2 (dk_at dksX0_copy_0 14 rfl rfl)
theorem dX0_copy_15 : decode cX0_copy 15 = .ok (.ireturn, 1) := dk_172 (dk_at dksX0_copy_0 15 rfl rfl)
theorem dX0_copy_16 : decode cX0_copy 16 = .ok (.aload_n 0, 1) := dk_42 (dk_at dksX0_copy_0 16 rfl rfl)
theorem dX0_copy_17 : decode cX0_copy 17 = .ok (.getfield 83, 3) := dk_180 0 83 (dk_at dksX0_copy_0 17 rfl rfl)
theorem dX0_copy_20 : decode cX0_copy 20 = .ok (.iload_n 1, 1) := dk_27 (dk_at dksX0_copy_0 20 rfl rfl)
theorem dX0_copy_21 : decode cX0_copy 21 = .ok (.aaload, 1) := dk_50 (dk_at dksX0_copy_0 21 rfl rfl)
theorem dX0_copy_22 : decode cX0_copy 22 = .ok (.getfield 303, 3) := dk_180 1 47 (dk_at dksX0_copy_1 0 rfl rfl)
theorem dX0_copy_25 : decode cX0_copy 25 = .ok (.iload_n 2, 1) := dk_28 (dk_at dksX0_copy_1 3 rfl rfl)
theorem dX0_copy_26 : decode cX0_copy 26 = .ok (.aload_n 0, 1) := dk_42 (dk_at dksX0_copy_1 4 rfl rfl)
theorem dX0_copy_27 : decode cX0_copy 27 = .ok (.getfield 83, 3) := dk_180 0 83 (dk_at dksX0_copy_1 5 rfl rfl)
theorem dX0_copy_30 : decode cX0_copy 30 = .ok (.iload_n 3, 1) := dk_29 (dk_at dksX0_copy_1 8 rfl rfl)
theorem dX0_copy_31 : decode cX0_copy 31 = .ok (.aaload, 1) := dk_50 (dk_at dksX0_copy_1 9 rfl rfl)
theorem dX0_copy_32 : decode cX0_copy 32 = .ok (.getfield 303, 3) := dk_180 1 47 (dk_at dksX0_copy_1 10 rfl rfl)
theorem dX0_copy_35 : decode cX0_copy 35 = .ok (.iload 4, 2) := dk_21 4 (dk_at dksX0_copy_1 13 rfl rfl)
theorem dX0_copy_37 : decode cX0_copy 37 = .ok (.iload 5, 2) := dk_21 5 (dk_at dksX0_copy_1 15 rfl rfl)
theorem dX0_copy_39 : decode cX0_copy 39 = .ok (.invokestatic 206, 3) := dk_184 0 206 (dk_at dksX0_copy_1 17 rfl rfl)
theorem dX0_copy_42 : decode cX0_copy 42 = .ok (.goto 18, 3) := dk_167 0 18 (dk_at dksX0_copy_1 20 rfl rfl)
theorem dX0_copy_45 : decode cX0_copy 45 = .ok (.astore 6, 2) := dk_58 6 (dk_at dksX0_copy_2 0 rfl rfl)
theorem dX0_copy_47 : decode cX0_copy 47 = .ok (.bipush (-11), 2) := dk_16 245 (dk_at dksX0_copy_2 2 rfl rfl)
theorem dX0_copy_49 : decode cX0_copy 49 = .ok (.ireturn, 1) := dk_172 (dk_at dksX0_copy_2 4 rfl rfl)
theorem dX0_copy_50 : decode cX0_copy 50 = .ok (.astore 6, 2) := dk_58 6 (dk_at dksX0_copy_2 5 rfl rfl)
theorem dX0_copy_52 : decode cX0_copy 52 = .ok (.bipush (-12), 2) := dk_16 244 (dk_at dksX0_copy_2 7 rfl rfl)
theorem dX0_copy_54 : decode cX0_copy 54 = .ok (.ireturn, 1) := dk_172 (dk_at dksX0_copy_2 9 rfl rfl)
theorem dX0_copy_55 : decode cX0_copy 55 = .ok (.astore 6, 2) := dk_58 6 (dk_at dksX0_copy_2 10 rfl rfl)
theorem dX0_copy_57 : decode cX0_copy 57 = .ok (.bipush (-13), 2) := dk_16 243 (dk_at dksX0_copy_2 12 rfl rfl)
theorem dX0_copy_59 : decode cX0_copy 59 = .ok (.ireturn, 1) := dk_172 (dk_at dksX0_copy_2 14 rfl rfl)
theorem dX0_copy_60 : decode cX0_copy 60 = .ok (.iload 5, 2) := dk_21 5 (dk_at dksX0_copy_2 15 rfl rfl)
theorem dX0_copy_62 : decode cX0_copy 62 = .ok (.ireturn, 1) := dk_172 (dk_at dksX0_copy_2 17 rfl rfl)
theorem q45 : (Jvm.Cond.initialized "DebtCoats") ∈ lw_all := lw_g (lw_at lw_m1 1 rfl) rfl
theorem q68 : (Jvm.Cond.instantiable "DebtCoats" (25 : Nat)) ∈ lw_all := lw_g (lw_at lw_m1 24 rfl) rfl
theorem q70 : (Jvm.Cond.instanceMethod ({ cls := "DebtCoats", name := "<init>", desc := "()V" } : Jvm.MethodName)) ∈ lw_all := lw_g (lw_at lw_m1 26 rfl) rfl
theorem q71 : (Jvm.Cond.code ({ cls := "DebtCoats", name := "<init>", desc := "()V" } : Jvm.MethodName) prog_1_method_3_code (2 : Nat) (Option.none : Option Jvm.ClassFile.FieldType)) ∈ lw_all := lw_g (lw_at lw_m1 27 rfl) rfl
theorem q72 : (Jvm.Cond.methodLink "DebtCoats" (1 : Nat) ({ cls := "java/lang/Object", name := "<init>", desc := "()V" } : Jvm.MethodName)) ∈ lw_all := lw_g (lw_at lw_m1 28 rfl) rfl
theorem q75 : (Jvm.Cond.classLink "DebtCoats" (7 : Nat) "DebtCoats$Outermost") ∈ lw_all := lw_g (lw_at lw_m1 31 rfl) rfl
theorem q78 : (Jvm.Cond.methodLinkNest "DebtCoats" (9 : Nat) ({ cls := "DebtCoats$Outermost", name := "<init>", desc := "()V" } : Jvm.MethodName) "DebtCoats") ∈ lw_tbl := lw_at lw_m1 34 rfl
theorem q83 : (Jvm.Cond.classLink "DebtCoats" (10 : Nat) "DebtCoats$Innermost") ∈ lw_all := lw_g (lw_at lw_m1 39 rfl) rfl
theorem q85 : (Jvm.Cond.methodLinkNest "DebtCoats" (12 : Nat) ({ cls := "DebtCoats$Innermost", name := "<init>", desc := "()V" } : Jvm.MethodName) "DebtCoats") ∈ lw_tbl := lw_at lw_m1 41 rfl
theorem q90 : (Jvm.Cond.classLink "DebtCoats" (13 : Nat) "DebtCoats$AnyBut") ∈ lw_all := lw_g (lw_at lw_m1 46 rfl) rfl
theorem q92 : (Jvm.Cond.methodLinkNest "DebtCoats" (15 : Nat) ({ cls := "DebtCoats$AnyBut", name := "<init>", desc := "()V" } : Jvm.MethodName) "DebtCoats") ∈ lw_tbl := lw_at lw_m1 48 rfl
theorem q97 : (Jvm.Cond.classLink "DebtCoats" (22 : Nat) "DebtCoats$World") ∈ lw_all := lw_g (lw_at lw_m1 53 rfl) rfl
theorem q99 : (Jvm.Cond.methodLinkNest "DebtCoats" (24 : Nat) ({ cls := "DebtCoats$World", name := "<init>", desc := "()V" } : Jvm.MethodName) "DebtCoats") ∈ lw_tbl := lw_at lw_m1 55 rfl
theorem q112 : (Jvm.Cond.fieldLinkNest "DebtCoats" (109 : Nat) "DebtCoats$Wearer" "purse" "I" "DebtCoats") ∈ lw_tbl := lw_at lw_m1 68 rfl
theorem q114 : (Jvm.Cond.fieldLinkNest "DebtCoats" (112 : Nat) "DebtCoats$Wearer" "income" "I" "DebtCoats") ∈ lw_tbl := lw_at lw_m1 70 rfl
theorem q116 : (Jvm.Cond.fieldLinkNest "DebtCoats" (115 : Nat) "DebtCoats$Wearer" "strength" "I" "DebtCoats") ∈ lw_tbl := lw_at lw_m1 72 rfl
theorem q119 : (Jvm.Cond.fieldLinkNest "DebtCoats" (126 : Nat) "DebtCoats$Wearer" "fell" "I" "DebtCoats") ∈ lw_tbl := lw_at lw_m1 75 rfl
theorem q121 : (Jvm.Cond.fieldLinkNest "DebtCoats" (153 : Nat) "DebtCoats$Wearer" "taxes" "[I" "DebtCoats") ∈ lw_tbl := lw_at lw_m1 77 rfl
theorem q123 : (Jvm.Cond.fieldLinkNest "DebtCoats" (147 : Nat) "DebtCoats$Wearer" "coats" "[I" "DebtCoats") ∈ lw_tbl := lw_at lw_m1 79 rfl
theorem q127 : (Jvm.Cond.fieldLinkNest "DebtCoats" (104 : Nat) "DebtCoats$Wearer" "many" "I" "DebtCoats") ∈ lw_tbl := lw_at lw_m1 83 rfl
theorem q145 : (Jvm.Cond.fieldLinkNest "DebtCoats" (100 : Nat) "DebtCoats$World" "people" "[LDebtCoats$Wearer;" "DebtCoats") ∈ lw_tbl := lw_at lw_m1 101 rfl
theorem q147 : (Jvm.Cond.fieldLinkNest "DebtCoats" (156 : Nat) "DebtCoats$World" "heats" "[I" "DebtCoats") ∈ lw_tbl := lw_at lw_m1 103 rfl
theorem q149 : (Jvm.Cond.fieldLinkNest "DebtCoats" (159 : Nat) "DebtCoats$World" "rules" "[I" "DebtCoats") ∈ lw_tbl := lw_at lw_m1 105 rfl
theorem q151 : (Jvm.Cond.fieldLinkNest "DebtCoats" (88 : Nat) "DebtCoats$World" "many" "I" "DebtCoats") ∈ lw_tbl := lw_at lw_m1 107 rfl
theorem q153 : (Jvm.Cond.fieldLinkNest "DebtCoats" (162 : Nat) "DebtCoats$World" "day" "I" "DebtCoats") ∈ lw_tbl := lw_at lw_m1 109 rfl
theorem q155 : (Jvm.Cond.fieldLinkNest "DebtCoats" (165 : Nat) "DebtCoats$World" "cuts" "I" "DebtCoats") ∈ lw_tbl := lw_at lw_m1 111 rfl
theorem q169 : (Jvm.Cond.classLink "DebtCoats" (32 : Nat) "DebtCoats$Wearer") ∈ lw_all := lw_g (lw_at lw_m1 125 rfl) rfl
theorem q170 : (Jvm.Cond.methodLinkNest "DebtCoats" (34 : Nat) ({ cls := "DebtCoats$Wearer", name := "<init>", desc := "()V" } : Jvm.MethodName) "DebtCoats") ∈ lw_tbl := lw_at lw_m1 126 rfl
theorem q171 : (Jvm.Cond.classLink "DebtCoats" (42 : Nat) "DebtCoats$Fault") ∈ lw_all := lw_g (lw_at lw_m1 127 rfl) rfl
theorem q226 : (Jvm.Cond.methodLink "DebtCoats" (44 : Nat) ({ cls := "DebtCoats$Fault", name := "<init>", desc := "()V" } : Jvm.MethodName)) ∈ lw_all := lw_g (lw_at lw_m1 182 rfl) rfl
theorem q235 : (Jvm.Cond.fieldLinkNest "DebtCoats" (179 : Nat) "DebtCoats$Fault" "place" "I" "DebtCoats") ∈ lw_tbl := lw_at lw_m1 191 rfl
theorem q251 : (Jvm.Cond.classLink "DebtCoats" (81 : Nat) "DebtCoats$Sheet") ∈ lw_all := lw_g (lw_at lw_m1 207 rfl) rfl
theorem q254 : (Jvm.Cond.methodLinkNest "DebtCoats" (87 : Nat) ({ cls := "DebtCoats$Sheet", name := "<init>", desc := "()V" } : Jvm.MethodName) "DebtCoats") ∈ lw_tbl := lw_at lw_m1 210 rfl
theorem q259 : (Jvm.Cond.fieldLinkNest "DebtCoats" (303 : Nat) "DebtCoats$Sheet" "row" "Ljava/lang/Object;" "DebtCoats") ∈ lw_tbl := lw_at lw_m1 215 rfl
theorem q264 : (Jvm.Cond.fieldLink "DebtCoats" (16 : Nat) "DebtCoats" "offs" "[LDebtCoats$Outermost;") ∈ lw_all := lw_g (lw_at lw_m1 220 rfl) rfl
theorem q265 : (Jvm.Cond.fieldLink "DebtCoats" (25 : Nat) "DebtCoats" "now" "LDebtCoats$World;") ∈ lw_all := lw_g (lw_at lw_m1 221 rfl) rfl
theorem q266 : (Jvm.Cond.fieldLink "DebtCoats" (29 : Nat) "DebtCoats" "then" "LDebtCoats$World;") ∈ lw_all := lw_g (lw_at lw_m1 222 rfl) rfl
theorem q267 : (Jvm.Cond.fieldLink "DebtCoats" (35 : Nat) "DebtCoats" "tried" "LDebtCoats$Wearer;") ∈ lw_all := lw_g (lw_at lw_m1 223 rfl) rfl
theorem q268 : (Jvm.Cond.fieldLink "DebtCoats" (39 : Nat) "DebtCoats" "cutOne" "LDebtCoats$Wearer;") ∈ lw_all := lw_g (lw_at lw_m1 224 rfl) rfl
theorem q269 : (Jvm.Cond.fieldLink "DebtCoats" (45 : Nat) "DebtCoats" "fault" "LDebtCoats$Fault;") ∈ lw_all := lw_g (lw_at lw_m1 225 rfl) rfl
theorem q270 : (Jvm.Cond.fieldLink "DebtCoats" (49 : Nat) "DebtCoats" "tape" "[B") ∈ lw_all := lw_g (lw_at lw_m1 226 rfl) rfl
theorem q271 : (Jvm.Cond.fieldLink "DebtCoats" (173 : Nat) "DebtCoats" "taped" "I") ∈ lw_all := lw_g (lw_at lw_m1 227 rfl) rfl
theorem q272 : (Jvm.Cond.fieldLink "DebtCoats" (176 : Nat) "DebtCoats" "at" "I") ∈ lw_all := lw_g (lw_at lw_m1 228 rfl) rfl
theorem q273 : (Jvm.Cond.fieldLink "DebtCoats" (53 : Nat) "DebtCoats" "read" "LDebtCoats$Wearer;") ∈ lw_all := lw_g (lw_at lw_m1 229 rfl) rfl
theorem q274 : (Jvm.Cond.fieldLink "DebtCoats" (56 : Nat) "DebtCoats" "inHand" "[I") ∈ lw_all := lw_g (lw_at lw_m1 230 rfl) rfl
theorem q275 : (Jvm.Cond.fieldLink "DebtCoats" (60 : Nat) "DebtCoats" "order" "[I") ∈ lw_all := lw_g (lw_at lw_m1 231 rfl) rfl
theorem q276 : (Jvm.Cond.fieldLink "DebtCoats" (63 : Nat) "DebtCoats" "bestOrder" "[I") ∈ lw_all := lw_g (lw_at lw_m1 232 rfl) rfl
theorem q277 : (Jvm.Cond.fieldLink "DebtCoats" (260 : Nat) "DebtCoats" "bestDays" "I") ∈ lw_all := lw_g (lw_at lw_m1 233 rfl) rfl
theorem q278 : (Jvm.Cond.fieldLink "DebtCoats" (263 : Nat) "DebtCoats" "bestPaid" "I") ∈ lw_all := lw_g (lw_at lw_m1 234 rfl) rfl
theorem q279 : (Jvm.Cond.fieldLink "DebtCoats" (252 : Nat) "DebtCoats" "paid" "I") ∈ lw_all := lw_g (lw_at lw_m1 235 rfl) rfl
theorem q280 : (Jvm.Cond.fieldLink "DebtCoats" (66 : Nat) "DebtCoats" "without" "LDebtCoats$Wearer;") ∈ lw_all := lw_g (lw_at lw_m1 236 rfl) rfl
theorem q281 : (Jvm.Cond.fieldLink "DebtCoats" (69 : Nat) "DebtCoats" "amounts" "[I") ∈ lw_all := lw_g (lw_at lw_m1 237 rfl) rfl
theorem q282 : (Jvm.Cond.fieldLink "DebtCoats" (72 : Nat) "DebtCoats" "thicks" "[I") ∈ lw_all := lw_g (lw_at lw_m1 238 rfl) rfl
theorem q283 : (Jvm.Cond.fieldLink "DebtCoats" (168 : Nat) "DebtCoats" "wareMany" "I") ∈ lw_all := lw_g (lw_at lw_m1 239 rfl) rfl
theorem q284 : (Jvm.Cond.fieldLink "DebtCoats" (293 : Nat) "DebtCoats" "isKept" "Z") ∈ lw_all := lw_g (lw_at lw_m2 0 rfl) rfl
theorem q285 : (Jvm.Cond.fieldLink "DebtCoats" (75 : Nat) "DebtCoats" "kept" "LDebtCoats$World;") ∈ lw_all := lw_g (lw_at lw_m2 1 rfl) rfl
theorem q286 : (Jvm.Cond.fieldLink "DebtCoats" (78 : Nat) "DebtCoats" "keptWares" "[I") ∈ lw_all := lw_g (lw_at lw_m2 2 rfl) rfl
theorem q287 : (Jvm.Cond.fieldLink "DebtCoats" (290 : Nat) "DebtCoats" "keptMany" "I") ∈ lw_all := lw_g (lw_at lw_m2 3 rfl) rfl
theorem q288 : (Jvm.Cond.fieldLink "DebtCoats" (83 : Nat) "DebtCoats" "sheets" "[LDebtCoats$Sheet;") ∈ lw_all := lw_g (lw_at lw_m2 4 rfl) rfl
theorem q289 : (Jvm.Cond.laysFinal "DebtCoats" "DebtCoats" "offs" "[LDebtCoats$Outermost;") ∈ lw_all := lw_g (lw_at lw_m2 5 rfl) rfl
theorem q290 : (Jvm.Cond.soleField "DebtCoats" "offs") ∈ lw_all := lw_g (lw_at lw_m2 6 rfl) rfl
theorem q291 : (Jvm.Cond.laysFinal "DebtCoats" "DebtCoats" "now" "LDebtCoats$World;") ∈ lw_all := lw_g (lw_at lw_m2 7 rfl) rfl
theorem q292 : (Jvm.Cond.soleField "DebtCoats" "now") ∈ lw_all := lw_g (lw_at lw_m2 8 rfl) rfl
theorem q293 : (Jvm.Cond.laysFinal "DebtCoats" "DebtCoats" "then" "LDebtCoats$World;") ∈ lw_all := lw_g (lw_at lw_m2 9 rfl) rfl
theorem q294 : (Jvm.Cond.soleField "DebtCoats" "then") ∈ lw_all := lw_g (lw_at lw_m2 10 rfl) rfl
theorem q295 : (Jvm.Cond.laysFinal "DebtCoats" "DebtCoats" "tried" "LDebtCoats$Wearer;") ∈ lw_all := lw_g (lw_at lw_m2 11 rfl) rfl
theorem q296 : (Jvm.Cond.soleField "DebtCoats" "tried") ∈ lw_all := lw_g (lw_at lw_m2 12 rfl) rfl
theorem q297 : (Jvm.Cond.laysFinal "DebtCoats" "DebtCoats" "cutOne" "LDebtCoats$Wearer;") ∈ lw_all := lw_g (lw_at lw_m2 13 rfl) rfl
theorem q298 : (Jvm.Cond.soleField "DebtCoats" "cutOne") ∈ lw_all := lw_g (lw_at lw_m2 14 rfl) rfl
theorem q299 : (Jvm.Cond.laysFinal "DebtCoats" "DebtCoats" "fault" "LDebtCoats$Fault;") ∈ lw_all := lw_g (lw_at lw_m2 15 rfl) rfl
theorem q300 : (Jvm.Cond.soleField "DebtCoats" "fault") ∈ lw_all := lw_g (lw_at lw_m2 16 rfl) rfl
theorem q301 : (Jvm.Cond.laysFinal "DebtCoats" "DebtCoats" "tape" "[B") ∈ lw_all := lw_g (lw_at lw_m2 17 rfl) rfl
theorem q302 : (Jvm.Cond.soleField "DebtCoats" "tape") ∈ lw_all := lw_g (lw_at lw_m2 18 rfl) rfl
theorem q303 : (Jvm.Cond.lays "DebtCoats" "DebtCoats" "taped" "I") ∈ lw_all := lw_g (lw_at lw_m2 19 rfl) rfl
theorem q304 : (Jvm.Cond.soleField "DebtCoats" "taped") ∈ lw_all := lw_g (lw_at lw_m2 20 rfl) rfl
theorem q305 : (Jvm.Cond.lays "DebtCoats" "DebtCoats" "at" "I") ∈ lw_all := lw_g (lw_at lw_m2 21 rfl) rfl
theorem q306 : (Jvm.Cond.soleField "DebtCoats" "at") ∈ lw_all := lw_g (lw_at lw_m2 22 rfl) rfl
theorem q307 : (Jvm.Cond.laysFinal "DebtCoats" "DebtCoats" "read" "LDebtCoats$Wearer;") ∈ lw_all := lw_g (lw_at lw_m2 23 rfl) rfl
theorem q308 : (Jvm.Cond.soleField "DebtCoats" "read") ∈ lw_all := lw_g (lw_at lw_m2 24 rfl) rfl
theorem q309 : (Jvm.Cond.laysFinal "DebtCoats" "DebtCoats" "inHand" "[I") ∈ lw_all := lw_g (lw_at lw_m2 25 rfl) rfl
theorem q310 : (Jvm.Cond.soleField "DebtCoats" "inHand") ∈ lw_all := lw_g (lw_at lw_m2 26 rfl) rfl
theorem q311 : (Jvm.Cond.laysFinal "DebtCoats" "DebtCoats" "order" "[I") ∈ lw_all := lw_g (lw_at lw_m2 27 rfl) rfl
theorem q312 : (Jvm.Cond.soleField "DebtCoats" "order") ∈ lw_all := lw_g (lw_at lw_m2 28 rfl) rfl
theorem q313 : (Jvm.Cond.laysFinal "DebtCoats" "DebtCoats" "bestOrder" "[I") ∈ lw_all := lw_g (lw_at lw_m2 29 rfl) rfl
theorem q314 : (Jvm.Cond.soleField "DebtCoats" "bestOrder") ∈ lw_all := lw_g (lw_at lw_m2 30 rfl) rfl
theorem q315 : (Jvm.Cond.lays "DebtCoats" "DebtCoats" "bestDays" "I") ∈ lw_all := lw_g (lw_at lw_m2 31 rfl) rfl
theorem q316 : (Jvm.Cond.soleField "DebtCoats" "bestDays") ∈ lw_all := lw_g (lw_at lw_m2 32 rfl) rfl
theorem q317 : (Jvm.Cond.lays "DebtCoats" "DebtCoats" "bestPaid" "I") ∈ lw_all := lw_g (lw_at lw_m2 33 rfl) rfl
theorem q318 : (Jvm.Cond.soleField "DebtCoats" "bestPaid") ∈ lw_all := lw_g (lw_at lw_m2 34 rfl) rfl
theorem q319 : (Jvm.Cond.lays "DebtCoats" "DebtCoats" "paid" "I") ∈ lw_all := lw_g (lw_at lw_m2 35 rfl) rfl
theorem q320 : (Jvm.Cond.soleField "DebtCoats" "paid") ∈ lw_all := lw_g (lw_at lw_m2 36 rfl) rfl
theorem q321 : (Jvm.Cond.laysFinal "DebtCoats" "DebtCoats" "without" "LDebtCoats$Wearer;") ∈ lw_all := lw_g (lw_at lw_m2 37 rfl) rfl
theorem q322 : (Jvm.Cond.soleField "DebtCoats" "without") ∈ lw_all := lw_g (lw_at lw_m2 38 rfl) rfl
theorem q323 : (Jvm.Cond.laysFinal "DebtCoats" "DebtCoats" "amounts" "[I") ∈ lw_all := lw_g (lw_at lw_m2 39 rfl) rfl
theorem q324 : (Jvm.Cond.soleField "DebtCoats" "amounts") ∈ lw_all := lw_g (lw_at lw_m2 40 rfl) rfl
theorem q325 : (Jvm.Cond.laysFinal "DebtCoats" "DebtCoats" "thicks" "[I") ∈ lw_all := lw_g (lw_at lw_m2 41 rfl) rfl
theorem q326 : (Jvm.Cond.soleField "DebtCoats" "thicks") ∈ lw_all := lw_g (lw_at lw_m2 42 rfl) rfl
theorem q327 : (Jvm.Cond.lays "DebtCoats" "DebtCoats" "wareMany" "I") ∈ lw_all := lw_g (lw_at lw_m2 43 rfl) rfl
theorem q328 : (Jvm.Cond.soleField "DebtCoats" "wareMany") ∈ lw_all := lw_g (lw_at lw_m2 44 rfl) rfl
theorem q329 : (Jvm.Cond.lays "DebtCoats" "DebtCoats" "isKept" "Z") ∈ lw_all := lw_g (lw_at lw_m2 45 rfl) rfl
theorem q330 : (Jvm.Cond.soleField "DebtCoats" "isKept") ∈ lw_all := lw_g (lw_at lw_m2 46 rfl) rfl
theorem q331 : (Jvm.Cond.laysFinal "DebtCoats" "DebtCoats" "kept" "LDebtCoats$World;") ∈ lw_all := lw_g (lw_at lw_m2 47 rfl) rfl
theorem q332 : (Jvm.Cond.soleField "DebtCoats" "kept") ∈ lw_all := lw_g (lw_at lw_m2 48 rfl) rfl
theorem q333 : (Jvm.Cond.laysFinal "DebtCoats" "DebtCoats" "keptWares" "[I") ∈ lw_all := lw_g (lw_at lw_m2 49 rfl) rfl
theorem q334 : (Jvm.Cond.soleField "DebtCoats" "keptWares") ∈ lw_all := lw_g (lw_at lw_m2 50 rfl) rfl
theorem q335 : (Jvm.Cond.lays "DebtCoats" "DebtCoats" "keptMany" "I") ∈ lw_all := lw_g (lw_at lw_m2 51 rfl) rfl
theorem q336 : (Jvm.Cond.soleField "DebtCoats" "keptMany") ∈ lw_all := lw_g (lw_at lw_m2 52 rfl) rfl
theorem q337 : (Jvm.Cond.laysFinal "DebtCoats" "DebtCoats" "sheets" "[LDebtCoats$Sheet;") ∈ lw_all := lw_g (lw_at lw_m2 53 rfl) rfl
theorem q338 : (Jvm.Cond.soleField "DebtCoats" "sheets") ∈ lw_all := lw_g (lw_at lw_m2 54 rfl) rfl
theorem q339 : (Jvm.Cond.superclass "DebtCoats" "java/lang/Object") ∈ lw_all := lw_g (lw_at lw_m2 55 rfl) rfl
theorem q341 : (Jvm.Cond.instanceMethod ({ cls := "DebtCoats", name := "person", desc := "(III)I" } : Jvm.MethodName)) ∈ lw_all := lw_g (lw_at lw_m2 57 rfl) rfl
theorem q342 : (Jvm.Cond.selects "DebtCoats" ({ cls := "DebtCoats", name := "person", desc := "(III)I" } : Jvm.MethodName) ({ cls := "DebtCoats", name := "person", desc := "(III)I" } : Jvm.MethodName)) ∈ lw_all := lw_g (lw_at lw_m2 58 rfl) rfl
theorem q343 : (Jvm.Cond.code ({ cls := "DebtCoats", name := "person", desc := "(III)I" } : Jvm.MethodName) prog_1_method_7_code (4 : Nat) (Option.some Jvm.ClassFile.FieldType.int)) ∈ lw_all := lw_g (lw_at lw_m2 59 rfl) rfl
theorem q344 : (Jvm.Cond.methodLink "DebtCoats" (92 : Nat) ({ cls := "DebtCoats", name := "isIn", desc := "(III)Z" } : Jvm.MethodName)) ∈ lw_all := lw_g (lw_at lw_m2 60 rfl) rfl
theorem q345 : (Jvm.Cond.static ({ cls := "DebtCoats", name := "isIn", desc := "(III)Z" } : Jvm.MethodName)) ∈ lw_all := lw_g (lw_at lw_m2 61 rfl) rfl
theorem q346 : (Jvm.Cond.code ({ cls := "DebtCoats", name := "isIn", desc := "(III)Z" } : Jvm.MethodName) prog_1_method_1_code (3 : Nat) (Option.some Jvm.ClassFile.FieldType.boolean)) ∈ lw_all := lw_g (lw_at lw_m2 62 rfl) rfl
theorem q347 : (Jvm.Cond.methodLink "DebtCoats" (105 : Nat) ({ cls := "DebtCoats$Wearer", name := "lay", desc := "(III)V" } : Jvm.MethodName)) ∈ lw_all := lw_g (lw_at lw_m2 63 rfl) rfl
theorem q352 : (Jvm.Cond.instanceMethod ({ cls := "DebtCoats", name := "of", desc := "(II)I" } : Jvm.MethodName)) ∈ lw_all := lw_g (lw_at lw_m2 68 rfl) rfl
theorem q353 : (Jvm.Cond.selects "DebtCoats" ({ cls := "DebtCoats", name := "of", desc := "(II)I" } : Jvm.MethodName) ({ cls := "DebtCoats", name := "of", desc := "(II)I" } : Jvm.MethodName)) ∈ lw_all := lw_g (lw_at lw_m2 69 rfl) rfl
theorem q354 : (Jvm.Cond.code ({ cls := "DebtCoats", name := "of", desc := "(II)I" } : Jvm.MethodName) prog_1_method_8_code (4 : Nat) (Option.some Jvm.ClassFile.FieldType.int)) ∈ lw_all := lw_g (lw_at lw_m2 70 rfl) rfl
theorem q355 : (Jvm.Cond.methodLink "DebtCoats" (96 : Nat) ({ cls := "DebtCoats", name := "isPerson", desc := "(I)Z" } : Jvm.MethodName)) ∈ lw_all := lw_g (lw_at lw_m2 71 rfl) rfl
theorem q356 : (Jvm.Cond.privateMethod ({ cls := "DebtCoats", name := "isPerson", desc := "(I)Z" } : Jvm.MethodName)) ∈ lw_tbl := lw_at lw_m2 72 rfl
theorem q357 : (Jvm.Cond.instanceMethod ({ cls := "DebtCoats", name := "isPerson", desc := "(I)Z" } : Jvm.MethodName)) ∈ lw_all := lw_g (lw_at lw_m2 73 rfl) rfl
theorem q358 : (Jvm.Cond.code ({ cls := "DebtCoats", name := "isPerson", desc := "(I)Z" } : Jvm.MethodName) prog_1_method_4_code (2 : Nat) (Option.some Jvm.ClassFile.FieldType.boolean)) ∈ lw_all := lw_g (lw_at lw_m2 74 rfl) rfl
theorem q359 : (Jvm.Cond.methodLink "DebtCoats" (118 : Nat) ({ cls := "DebtCoats$Wearer", name := "thick", desc := "()I" } : Jvm.MethodName)) ∈ lw_all := lw_g (lw_at lw_m2 75 rfl) rfl
theorem q363 : (Jvm.Cond.methodLink "DebtCoats" (122 : Nat) ({ cls := "DebtCoats", name := "owedBy", desc := "(LDebtCoats$Wearer;I)I" } : Jvm.MethodName)) ∈ lw_all := lw_g (lw_at lw_m2 79 rfl) rfl
theorem q364 : (Jvm.Cond.static ({ cls := "DebtCoats", name := "owedBy", desc := "(LDebtCoats$Wearer;I)I" } : Jvm.MethodName)) ∈ lw_all := lw_g (lw_at lw_m2 80 rfl) rfl
theorem q365 : (Jvm.Cond.code ({ cls := "DebtCoats", name := "owedBy", desc := "(LDebtCoats$Wearer;I)I" } : Jvm.MethodName) prog_1_method_9_code (4 : Nat) (Option.some Jvm.ClassFile.FieldType.int)) ∈ lw_all := lw_g (lw_at lw_m2 81 rfl) rfl
theorem q366 : (Jvm.Cond.methodLink "DebtCoats" (129 : Nat) ({ cls := "DebtCoats$Wearer", name := "lender", desc := "(I)I" } : Jvm.MethodName)) ∈ lw_all := lw_g (lw_at lw_m2 82 rfl) rfl
theorem q370 : (Jvm.Cond.methodLink "DebtCoats" (133 : Nat) ({ cls := "DebtCoats$Wearer", name := "amount", desc := "(I)I" } : Jvm.MethodName)) ∈ lw_all := lw_g (lw_at lw_m2 86 rfl) rfl
theorem q374 : (Jvm.Cond.constant "DebtCoats" (136 : Nat) (9999999 : Int32)) ∈ lw_all := lw_g (lw_at lw_m2 90 rfl) rfl
theorem q375 : (Jvm.Cond.methodLink "DebtCoats" (137 : Nat) ({ cls := "java/lang/Math", name := "min", desc := "(II)I" } : Jvm.MethodName)) ∈ lw_all := lw_g (lw_at lw_m2 91 rfl) rfl
theorem q379 : (Jvm.Cond.instanceMethod ({ cls := "DebtCoats", name := "coat", desc := "(III)I" } : Jvm.MethodName)) ∈ lw_all := lw_g (lw_at lw_m2 95 rfl) rfl
theorem q380 : (Jvm.Cond.selects "DebtCoats" ({ cls := "DebtCoats", name := "coat", desc := "(III)I" } : Jvm.MethodName) ({ cls := "DebtCoats", name := "coat", desc := "(III)I" } : Jvm.MethodName)) ∈ lw_all := lw_g (lw_at lw_m2 96 rfl) rfl
theorem q381 : (Jvm.Cond.code ({ cls := "DebtCoats", name := "coat", desc := "(III)I" } : Jvm.MethodName) prog_1_method_10_code (4 : Nat) (Option.some Jvm.ClassFile.FieldType.int)) ∈ lw_all := lw_g (lw_at lw_m2 97 rfl) rfl
theorem q382 : (Jvm.Cond.methodLink "DebtCoats" (143 : Nat) ({ cls := "DebtCoats", name := "isCoat", desc := "(II)Z" } : Jvm.MethodName)) ∈ lw_all := lw_g (lw_at lw_m2 98 rfl) rfl
theorem q383 : (Jvm.Cond.privateMethod ({ cls := "DebtCoats", name := "isCoat", desc := "(II)Z" } : Jvm.MethodName)) ∈ lw_tbl := lw_at lw_m2 99 rfl
theorem q384 : (Jvm.Cond.instanceMethod ({ cls := "DebtCoats", name := "isCoat", desc := "(II)Z" } : Jvm.MethodName)) ∈ lw_all := lw_g (lw_at lw_m2 100 rfl) rfl
theorem q385 : (Jvm.Cond.code ({ cls := "DebtCoats", name := "isCoat", desc := "(II)Z" } : Jvm.MethodName) prog_1_method_5_code (3 : Nat) (Option.some Jvm.ClassFile.FieldType.boolean)) ∈ lw_all := lw_g (lw_at lw_m2 101 rfl) rfl
theorem q387 : (Jvm.Cond.instanceMethod ({ cls := "DebtCoats", name := "tax", desc := "(III)I" } : Jvm.MethodName)) ∈ lw_all := lw_g (lw_at lw_m2 103 rfl) rfl
theorem q388 : (Jvm.Cond.selects "DebtCoats" ({ cls := "DebtCoats", name := "tax", desc := "(III)I" } : Jvm.MethodName) ({ cls := "DebtCoats", name := "tax", desc := "(III)I" } : Jvm.MethodName)) ∈ lw_all := lw_g (lw_at lw_m2 104 rfl) rfl
theorem q389 : (Jvm.Cond.code ({ cls := "DebtCoats", name := "tax", desc := "(III)I" } : Jvm.MethodName) prog_1_method_11_code (5 : Nat) (Option.some Jvm.ClassFile.FieldType.int)) ∈ lw_all := lw_g (lw_at lw_m2 105 rfl) rfl
theorem q390 : (Jvm.Cond.methodLink "DebtCoats" (150 : Nat) ({ cls := "DebtCoats", name := "isLender", desc := "(I)Z" } : Jvm.MethodName)) ∈ lw_all := lw_g (lw_at lw_m2 106 rfl) rfl
theorem q391 : (Jvm.Cond.static ({ cls := "DebtCoats", name := "isLender", desc := "(I)Z" } : Jvm.MethodName)) ∈ lw_all := lw_g (lw_at lw_m2 107 rfl) rfl
theorem q392 : (Jvm.Cond.code ({ cls := "DebtCoats", name := "isLender", desc := "(I)Z" } : Jvm.MethodName) prog_1_method_6_code (1 : Nat) (Option.some Jvm.ClassFile.FieldType.boolean)) ∈ lw_all := lw_g (lw_at lw_m2 108 rfl) rfl
theorem q394 : (Jvm.Cond.instanceMethod ({ cls := "DebtCoats", name := "heat", desc := "(II)I" } : Jvm.MethodName)) ∈ lw_all := lw_g (lw_at lw_m2 110 rfl) rfl
theorem q395 : (Jvm.Cond.selects "DebtCoats" ({ cls := "DebtCoats", name := "heat", desc := "(II)I" } : Jvm.MethodName) ({ cls := "DebtCoats", name := "heat", desc := "(II)I" } : Jvm.MethodName)) ∈ lw_all := lw_g (lw_at lw_m2 111 rfl) rfl
theorem q396 : (Jvm.Cond.code ({ cls := "DebtCoats", name := "heat", desc := "(II)I" } : Jvm.MethodName) prog_1_method_12_code (4 : Nat) (Option.some Jvm.ClassFile.FieldType.int)) ∈ lw_all := lw_g (lw_at lw_m2 112 rfl) rfl
theorem q398 : (Jvm.Cond.instanceMethod ({ cls := "DebtCoats", name := "rule", desc := "(II)I" } : Jvm.MethodName)) ∈ lw_all := lw_g (lw_at lw_m2 114 rfl) rfl
theorem q399 : (Jvm.Cond.selects "DebtCoats" ({ cls := "DebtCoats", name := "rule", desc := "(II)I" } : Jvm.MethodName) ({ cls := "DebtCoats", name := "rule", desc := "(II)I" } : Jvm.MethodName)) ∈ lw_all := lw_g (lw_at lw_m2 115 rfl) rfl
theorem q400 : (Jvm.Cond.code ({ cls := "DebtCoats", name := "rule", desc := "(II)I" } : Jvm.MethodName) prog_1_method_13_code (4 : Nat) (Option.some Jvm.ClassFile.FieldType.int)) ∈ lw_all := lw_g (lw_at lw_m2 116 rfl) rfl
theorem q402 : (Jvm.Cond.instanceMethod ({ cls := "DebtCoats", name := "count", desc := "(I)I" } : Jvm.MethodName)) ∈ lw_all := lw_g (lw_at lw_m2 118 rfl) rfl
theorem q403 : (Jvm.Cond.selects "DebtCoats" ({ cls := "DebtCoats", name := "count", desc := "(I)I" } : Jvm.MethodName) ({ cls := "DebtCoats", name := "count", desc := "(I)I" } : Jvm.MethodName)) ∈ lw_all := lw_g (lw_at lw_m2 119 rfl) rfl
theorem q404 : (Jvm.Cond.code ({ cls := "DebtCoats", name := "count", desc := "(I)I" } : Jvm.MethodName) prog_1_method_14_code (5 : Nat) (Option.some Jvm.ClassFile.FieldType.int)) ∈ lw_all := lw_g (lw_at lw_m2 120 rfl) rfl
theorem q406 : (Jvm.Cond.instanceMethod ({ cls := "DebtCoats", name := "type", desc := "(JI)I" } : Jvm.MethodName)) ∈ lw_all := lw_g (lw_at lw_m2 122 rfl) rfl
theorem q407 : (Jvm.Cond.selects "DebtCoats" ({ cls := "DebtCoats", name := "type", desc := "(JI)I" } : Jvm.MethodName) ({ cls := "DebtCoats", name := "type", desc := "(JI)I" } : Jvm.MethodName)) ∈ lw_all := lw_g (lw_at lw_m2 123 rfl) rfl
theorem q408 : (Jvm.Cond.code ({ cls := "DebtCoats", name := "type", desc := "(JI)I" } : Jvm.MethodName) prog_1_method_15_code (5 : Nat) (Option.some Jvm.ClassFile.FieldType.int)) ∈ lw_all := lw_g (lw_at lw_m2 124 rfl) rfl
theorem q409 : (Jvm.Cond.constantLong "DebtCoats" (171 : Nat) (255 : Int64)) ∈ lw_all := lw_g (lw_at lw_m2 125 rfl) rfl
theorem q411 : (Jvm.Cond.instanceMethod ({ cls := "DebtCoats", name := "coats", desc := "(I)I" } : Jvm.MethodName)) ∈ lw_all := lw_g (lw_at lw_m2 127 rfl) rfl
theorem q412 : (Jvm.Cond.selects "DebtCoats" ({ cls := "DebtCoats", name := "coats", desc := "(I)I" } : Jvm.MethodName) ({ cls := "DebtCoats", name := "coats", desc := "(I)I" } : Jvm.MethodName)) ∈ lw_all := lw_g (lw_at lw_m2 128 rfl) rfl
theorem q413 : (Jvm.Cond.codeWith ({ cls := "DebtCoats", name := "coats", desc := "(I)I" } : Jvm.MethodName) prog_1_method_22_code (3 : Nat) (Option.some Jvm.ClassFile.FieldType.int) [((10 : Nat), (14 : Nat), (17 : Nat), (42 : Nat))]) ∈ lw_all := lw_g (lw_at lw_m2 129 rfl) rfl
theorem q414 : (Jvm.Cond.methodLink "DebtCoats" (203 : Nat) ({ cls := "DebtCoats", name := "readCoats", desc := "()V" } : Jvm.MethodName)) ∈ lw_all := lw_g (lw_at lw_m2 130 rfl) rfl
theorem q415 : (Jvm.Cond.privateMethod ({ cls := "DebtCoats", name := "readCoats", desc := "()V" } : Jvm.MethodName)) ∈ lw_tbl := lw_at lw_m2 131 rfl
theorem q416 : (Jvm.Cond.instanceMethod ({ cls := "DebtCoats", name := "readCoats", desc := "()V" } : Jvm.MethodName)) ∈ lw_all := lw_g (lw_at lw_m2 132 rfl) rfl
theorem q417 : (Jvm.Cond.code ({ cls := "DebtCoats", name := "readCoats", desc := "()V" } : Jvm.MethodName) prog_1_method_21_code (6 : Nat) (Option.none : Option Jvm.ClassFile.FieldType)) ∈ lw_all := lw_g (lw_at lw_m2 133 rfl) rfl
theorem q418 : (Jvm.Cond.methodLink "DebtCoats" (190 : Nat) ({ cls := "DebtCoats", name := "readOne", desc := "(II)I" } : Jvm.MethodName)) ∈ lw_all := lw_g (lw_at lw_m2 134 rfl) rfl
theorem q419 : (Jvm.Cond.privateMethod ({ cls := "DebtCoats", name := "readOne", desc := "(II)I" } : Jvm.MethodName)) ∈ lw_tbl := lw_at lw_m2 135 rfl
theorem q420 : (Jvm.Cond.instanceMethod ({ cls := "DebtCoats", name := "readOne", desc := "(II)I" } : Jvm.MethodName)) ∈ lw_all := lw_g (lw_at lw_m2 136 rfl) rfl
theorem q421 : (Jvm.Cond.code ({ cls := "DebtCoats", name := "readOne", desc := "(II)I" } : Jvm.MethodName) prog_1_method_20_code (4 : Nat) (Option.some Jvm.ClassFile.FieldType.int)) ∈ lw_all := lw_g (lw_at lw_m2 137 rfl) rfl
theorem q422 : (Jvm.Cond.methodLink "DebtCoats" (182 : Nat) ({ cls := "DebtCoats", name := "nextByte", desc := "()I" } : Jvm.MethodName)) ∈ lw_all := lw_g (lw_at lw_m2 138 rfl) rfl
theorem q423 : (Jvm.Cond.privateMethod ({ cls := "DebtCoats", name := "nextByte", desc := "()I" } : Jvm.MethodName)) ∈ lw_tbl := lw_at lw_m2 139 rfl
theorem q424 : (Jvm.Cond.instanceMethod ({ cls := "DebtCoats", name := "nextByte", desc := "()I" } : Jvm.MethodName)) ∈ lw_all := lw_g (lw_at lw_m2 140 rfl) rfl
theorem q425 : (Jvm.Cond.code ({ cls := "DebtCoats", name := "nextByte", desc := "()I" } : Jvm.MethodName) prog_1_method_16_code (1 : Nat) (Option.some Jvm.ClassFile.FieldType.int)) ∈ lw_all := lw_g (lw_at lw_m2 141 rfl) rfl
theorem q426 : (Jvm.Cond.methodLink "DebtCoats" (186 : Nat) ({ cls := "DebtCoats", name := "wrong", desc := "()LDebtCoats$Fault;" } : Jvm.MethodName)) ∈ lw_all := lw_g (lw_at lw_m2 142 rfl) rfl
theorem q427 : (Jvm.Cond.privateMethod ({ cls := "DebtCoats", name := "wrong", desc := "()LDebtCoats$Fault;" } : Jvm.MethodName)) ∈ lw_tbl := lw_at lw_m2 143 rfl
theorem q428 : (Jvm.Cond.instanceMethod ({ cls := "DebtCoats", name := "wrong", desc := "()LDebtCoats$Fault;" } : Jvm.MethodName)) ∈ lw_all := lw_g (lw_at lw_m2 144 rfl) rfl
theorem q429 : (Jvm.Cond.code ({ cls := "DebtCoats", name := "wrong", desc := "()LDebtCoats$Fault;" } : Jvm.MethodName) prog_1_method_17_code (1 : Nat) (Option.some (Jvm.ClassFile.FieldType.object "DebtCoats$Fault"))) ∈ lw_all := lw_g (lw_at lw_m2 145 rfl) rfl
theorem q430 : (Jvm.Cond.methodLink "DebtCoats" (193 : Nat) ({ cls := "DebtCoats", name := "readNumber", desc := "(II)I" } : Jvm.MethodName)) ∈ lw_all := lw_g (lw_at lw_m2 146 rfl) rfl
theorem q431 : (Jvm.Cond.privateMethod ({ cls := "DebtCoats", name := "readNumber", desc := "(II)I" } : Jvm.MethodName)) ∈ lw_tbl := lw_at lw_m2 147 rfl
theorem q432 : (Jvm.Cond.instanceMethod ({ cls := "DebtCoats", name := "readNumber", desc := "(II)I" } : Jvm.MethodName)) ∈ lw_all := lw_g (lw_at lw_m2 148 rfl) rfl
theorem q433 : (Jvm.Cond.code ({ cls := "DebtCoats", name := "readNumber", desc := "(II)I" } : Jvm.MethodName) prog_1_method_19_code (5 : Nat) (Option.some Jvm.ClassFile.FieldType.int)) ∈ lw_all := lw_g (lw_at lw_m2 149 rfl) rfl
theorem q434 : (Jvm.Cond.constant "DebtCoats" (185 : Nat) (99999 : Int32)) ∈ lw_all := lw_g (lw_at lw_m2 150 rfl) rfl
theorem q435 : (Jvm.Cond.methodLink "DebtCoats" (196 : Nat) ({ cls := "DebtCoats", name := "takes", desc := "(I)Z" } : Jvm.MethodName)) ∈ lw_all := lw_g (lw_at lw_m2 151 rfl) rfl
theorem q436 : (Jvm.Cond.privateMethod ({ cls := "DebtCoats", name := "takes", desc := "(I)Z" } : Jvm.MethodName)) ∈ lw_tbl := lw_at lw_m2 152 rfl
theorem q437 : (Jvm.Cond.instanceMethod ({ cls := "DebtCoats", name := "takes", desc := "(I)Z" } : Jvm.MethodName)) ∈ lw_all := lw_g (lw_at lw_m2 153 rfl) rfl
theorem q438 : (Jvm.Cond.code ({ cls := "DebtCoats", name := "takes", desc := "(I)Z" } : Jvm.MethodName) prog_1_method_18_code (3 : Nat) (Option.some Jvm.ClassFile.FieldType.boolean)) ∈ lw_all := lw_g (lw_at lw_m2 154 rfl) rfl
theorem q439 : (Jvm.Cond.methodLink "DebtCoats" (199 : Nat) ({ cls := "DebtCoats$Wearer", name := "put", desc := "(IIII)V" } : Jvm.MethodName)) ∈ lw_all := lw_g (lw_at lw_m2 155 rfl) rfl
theorem q443 : (Jvm.Cond.methodLink "DebtCoats" (206 : Nat) ({ cls := "java/lang/System", name := "arraycopy", desc := "(Ljava/lang/Object;ILjava/lang/Object;II)V" } : Jvm.MethodName)) ∈ lw_all := lw_g (lw_at lw_m2 159 rfl) rfl
theorem q447 : (Jvm.Cond.instanceMethod ({ cls := "DebtCoats", name := "take", desc := "(IIIII)I" } : Jvm.MethodName)) ∈ lw_all := lw_g (lw_at lw_m2 163 rfl) rfl
theorem q448 : (Jvm.Cond.selects "DebtCoats" ({ cls := "DebtCoats", name := "take", desc := "(IIIII)I" } : Jvm.MethodName) ({ cls := "DebtCoats", name := "take", desc := "(IIIII)I" } : Jvm.MethodName)) ∈ lw_all := lw_g (lw_at lw_m2 164 rfl) rfl
theorem q449 : (Jvm.Cond.code ({ cls := "DebtCoats", name := "take", desc := "(IIIII)I" } : Jvm.MethodName) prog_1_method_23_code (7 : Nat) (Option.some Jvm.ClassFile.FieldType.int)) ∈ lw_all := lw_g (lw_at lw_m2 165 rfl) rfl
theorem q450 : (Jvm.Cond.constant "DebtCoats" (212 : Nat) (999999 : Int32)) ∈ lw_all := lw_g (lw_at lw_m2 166 rfl) rfl
theorem q452 : (Jvm.Cond.instanceMethod ({ cls := "DebtCoats", name := "pay", desc := "(II)I" } : Jvm.MethodName)) ∈ lw_all := lw_g (lw_at lw_m2 168 rfl) rfl
theorem q453 : (Jvm.Cond.selects "DebtCoats" ({ cls := "DebtCoats", name := "pay", desc := "(II)I" } : Jvm.MethodName) ({ cls := "DebtCoats", name := "pay", desc := "(II)I" } : Jvm.MethodName)) ∈ lw_all := lw_g (lw_at lw_m2 169 rfl) rfl
theorem q454 : (Jvm.Cond.code ({ cls := "DebtCoats", name := "pay", desc := "(II)I" } : Jvm.MethodName) prog_1_method_25_code (4 : Nat) (Option.some Jvm.ClassFile.FieldType.int)) ∈ lw_all := lw_g (lw_at lw_m2 170 rfl) rfl
theorem q455 : (Jvm.Cond.methodLink "DebtCoats" (213 : Nat) ({ cls := "DebtCoats", name := "off", desc := "()LDebtCoats$Outermost;" } : Jvm.MethodName)) ∈ lw_all := lw_g (lw_at lw_m2 171 rfl) rfl
theorem q456 : (Jvm.Cond.privateMethod ({ cls := "DebtCoats", name := "off", desc := "()LDebtCoats$Outermost;" } : Jvm.MethodName)) ∈ lw_tbl := lw_at lw_m2 172 rfl
theorem q457 : (Jvm.Cond.instanceMethod ({ cls := "DebtCoats", name := "off", desc := "()LDebtCoats$Outermost;" } : Jvm.MethodName)) ∈ lw_all := lw_g (lw_at lw_m2 173 rfl) rfl
theorem q458 : (Jvm.Cond.code ({ cls := "DebtCoats", name := "off", desc := "()LDebtCoats$Outermost;" } : Jvm.MethodName) prog_1_method_24_code (1 : Nat) (Option.some (Jvm.ClassFile.FieldType.object "DebtCoats$Outermost"))) ∈ lw_all := lw_g (lw_at lw_m2 174 rfl) rfl
theorem q459 : (Jvm.Cond.methodLink "DebtCoats" (217 : Nat) ({ cls := "DebtCoats$Outermost", name := "lets", desc := "(LDebtCoats$Wearer;I)Z" } : Jvm.MethodName)) ∈ lw_all := lw_g (lw_at lw_m2 175 rfl) rfl
theorem q471 : (Jvm.Cond.methodLink "DebtCoats" (221 : Nat) ({ cls := "DebtCoats$Wearer", name := "pays", desc := "(I)Z" } : Jvm.MethodName)) ∈ lw_all := lw_g (lw_at lw_m2 187 rfl) rfl
theorem q482 : (Jvm.Cond.instanceMethod ({ cls := "DebtCoats", name := "nights", desc := "(I)I" } : Jvm.MethodName)) ∈ lw_all := lw_g (lw_at lw_m2 198 rfl) rfl
theorem q483 : (Jvm.Cond.selects "DebtCoats" ({ cls := "DebtCoats", name := "nights", desc := "(I)I" } : Jvm.MethodName) ({ cls := "DebtCoats", name := "nights", desc := "(I)I" } : Jvm.MethodName)) ∈ lw_all := lw_g (lw_at lw_m2 199 rfl) rfl
theorem q484 : (Jvm.Cond.code ({ cls := "DebtCoats", name := "nights", desc := "(I)I" } : Jvm.MethodName) prog_1_method_26_code (3 : Nat) (Option.some Jvm.ClassFile.FieldType.int)) ∈ lw_all := lw_g (lw_at lw_m2 200 rfl) rfl
theorem q485 : (Jvm.Cond.methodLink "DebtCoats" (224 : Nat) ({ cls := "DebtCoats$World", name := "night", desc := "()V" } : Jvm.MethodName)) ∈ lw_all := lw_g (lw_at lw_m2 201 rfl) rfl
theorem q509 : (Jvm.Cond.instanceMethod ({ cls := "DebtCoats", name := "cut", desc := "(II)I" } : Jvm.MethodName)) ∈ lw_all := lw_g (lw_at lw_m2 225 rfl) rfl
theorem q510 : (Jvm.Cond.selects "DebtCoats" ({ cls := "DebtCoats", name := "cut", desc := "(II)I" } : Jvm.MethodName) ({ cls := "DebtCoats", name := "cut", desc := "(II)I" } : Jvm.MethodName)) ∈ lw_all := lw_g (lw_at lw_m2 226 rfl) rfl
theorem q511 : (Jvm.Cond.code ({ cls := "DebtCoats", name := "cut", desc := "(II)I" } : Jvm.MethodName) prog_1_method_28_code (3 : Nat) (Option.some Jvm.ClassFile.FieldType.int)) ∈ lw_all := lw_g (lw_at lw_m2 227 rfl) rfl
theorem q512 : (Jvm.Cond.methodLink "DebtCoats" (227 : Nat) ({ cls := "DebtCoats", name := "isBetween", desc := "(II)Z" } : Jvm.MethodName)) ∈ lw_all := lw_g (lw_at lw_m2 228 rfl) rfl
theorem q513 : (Jvm.Cond.privateMethod ({ cls := "DebtCoats", name := "isBetween", desc := "(II)Z" } : Jvm.MethodName)) ∈ lw_tbl := lw_at lw_m2 229 rfl
theorem q514 : (Jvm.Cond.instanceMethod ({ cls := "DebtCoats", name := "isBetween", desc := "(II)Z" } : Jvm.MethodName)) ∈ lw_all := lw_g (lw_at lw_m2 230 rfl) rfl
theorem q515 : (Jvm.Cond.code ({ cls := "DebtCoats", name := "isBetween", desc := "(II)Z" } : Jvm.MethodName) prog_1_method_27_code (3 : Nat) (Option.some Jvm.ClassFile.FieldType.boolean)) ∈ lw_all := lw_g (lw_at lw_m2 231 rfl) rfl
theorem q516 : (Jvm.Cond.methodLink "DebtCoats" (230 : Nat) ({ cls := "DebtCoats$Wearer", name := "remove", desc := "(I)V" } : Jvm.MethodName)) ∈ lw_all := lw_g (lw_at lw_m2 232 rfl) rfl
theorem q518 : (Jvm.Cond.instanceMethod ({ cls := "DebtCoats", name := "ring", desc := "(III)I" } : Jvm.MethodName)) ∈ lw_all := lw_g (lw_at lw_m2 234 rfl) rfl
theorem q519 : (Jvm.Cond.selects "DebtCoats" ({ cls := "DebtCoats", name := "ring", desc := "(III)I" } : Jvm.MethodName) ({ cls := "DebtCoats", name := "ring", desc := "(III)I" } : Jvm.MethodName)) ∈ lw_all := lw_g (lw_at lw_m2 235 rfl) rfl
theorem q520 : (Jvm.Cond.code ({ cls := "DebtCoats", name := "ring", desc := "(III)I" } : Jvm.MethodName) prog_1_method_33_code (5 : Nat) (Option.some Jvm.ClassFile.FieldType.int)) ∈ lw_all := lw_g (lw_at lw_m2 236 rfl) rfl
theorem q521 : (Jvm.Cond.methodLink "DebtCoats" (237 : Nat) ({ cls := "DebtCoats", name := "isBare", desc := "(I)Z" } : Jvm.MethodName)) ∈ lw_all := lw_g (lw_at lw_m2 237 rfl) rfl
theorem q522 : (Jvm.Cond.privateMethod ({ cls := "DebtCoats", name := "isBare", desc := "(I)Z" } : Jvm.MethodName)) ∈ lw_tbl := lw_at lw_m2 238 rfl
theorem q523 : (Jvm.Cond.instanceMethod ({ cls := "DebtCoats", name := "isBare", desc := "(I)Z" } : Jvm.MethodName)) ∈ lw_all := lw_g (lw_at lw_m2 239 rfl) rfl
theorem q524 : (Jvm.Cond.code ({ cls := "DebtCoats", name := "isBare", desc := "(I)Z" } : Jvm.MethodName) prog_1_method_31_code (2 : Nat) (Option.some Jvm.ClassFile.FieldType.boolean)) ∈ lw_all := lw_g (lw_at lw_m3 0 rfl) rfl
theorem q525 : (Jvm.Cond.methodLink "DebtCoats" (240 : Nat) ({ cls := "DebtCoats", name := "savedIn", desc := "(III)I" } : Jvm.MethodName)) ∈ lw_all := lw_g (lw_at lw_m3 1 rfl) rfl
theorem q526 : (Jvm.Cond.privateMethod ({ cls := "DebtCoats", name := "savedIn", desc := "(III)I" } : Jvm.MethodName)) ∈ lw_tbl := lw_at lw_m3 2 rfl
theorem q527 : (Jvm.Cond.instanceMethod ({ cls := "DebtCoats", name := "savedIn", desc := "(III)I" } : Jvm.MethodName)) ∈ lw_all := lw_g (lw_at lw_m3 3 rfl) rfl
theorem q528 : (Jvm.Cond.code ({ cls := "DebtCoats", name := "savedIn", desc := "(III)I" } : Jvm.MethodName) prog_1_method_30_code (7 : Nat) (Option.some Jvm.ClassFile.FieldType.int)) ∈ lw_all := lw_g (lw_at lw_m3 4 rfl) rfl
theorem q529 : (Jvm.Cond.methodLink "DebtCoats" (234 : Nat) ({ cls := "DebtCoats", name := "savedBy", desc := "(II)I" } : Jvm.MethodName)) ∈ lw_all := lw_g (lw_at lw_m3 5 rfl) rfl
theorem q530 : (Jvm.Cond.privateMethod ({ cls := "DebtCoats", name := "savedBy", desc := "(II)I" } : Jvm.MethodName)) ∈ lw_tbl := lw_at lw_m3 6 rfl
theorem q531 : (Jvm.Cond.instanceMethod ({ cls := "DebtCoats", name := "savedBy", desc := "(II)I" } : Jvm.MethodName)) ∈ lw_all := lw_g (lw_at lw_m3 7 rfl) rfl
theorem q532 : (Jvm.Cond.code ({ cls := "DebtCoats", name := "savedBy", desc := "(II)I" } : Jvm.MethodName) prog_1_method_29_code (5 : Nat) (Option.some Jvm.ClassFile.FieldType.int)) ∈ lw_all := lw_g (lw_at lw_m3 8 rfl) rfl
theorem q533 : (Jvm.Cond.methodLink "DebtCoats" (244 : Nat) ({ cls := "DebtCoats", name := "giveTo", desc := "(I[I)V" } : Jvm.MethodName)) ∈ lw_all := lw_g (lw_at lw_m3 9 rfl) rfl
theorem q534 : (Jvm.Cond.privateMethod ({ cls := "DebtCoats", name := "giveTo", desc := "(I[I)V" } : Jvm.MethodName)) ∈ lw_tbl := lw_at lw_m3 10 rfl
theorem q535 : (Jvm.Cond.instanceMethod ({ cls := "DebtCoats", name := "giveTo", desc := "(I[I)V" } : Jvm.MethodName)) ∈ lw_all := lw_g (lw_at lw_m3 11 rfl) rfl
theorem q536 : (Jvm.Cond.code ({ cls := "DebtCoats", name := "giveTo", desc := "(I[I)V" } : Jvm.MethodName) prog_1_method_32_code (6 : Nat) (Option.none : Option Jvm.ClassFile.FieldType)) ∈ lw_all := lw_g (lw_at lw_m3 12 rfl) rfl
theorem q538 : (Jvm.Cond.instanceMethod ({ cls := "DebtCoats", name := "rings", desc := "(I)I" } : Jvm.MethodName)) ∈ lw_all := lw_g (lw_at lw_m3 14 rfl) rfl
theorem q539 : (Jvm.Cond.selects "DebtCoats" ({ cls := "DebtCoats", name := "rings", desc := "(I)I" } : Jvm.MethodName) ({ cls := "DebtCoats", name := "rings", desc := "(I)I" } : Jvm.MethodName)) ∈ lw_all := lw_g (lw_at lw_m3 15 rfl) rfl
theorem q540 : (Jvm.Cond.code ({ cls := "DebtCoats", name := "rings", desc := "(I)I" } : Jvm.MethodName) prog_1_method_34_code (10 : Nat) (Option.some Jvm.ClassFile.FieldType.int)) ∈ lw_all := lw_g (lw_at lw_m3 16 rfl) rfl
theorem q542 : (Jvm.Cond.instanceMethod ({ cls := "DebtCoats", name := "owed", desc := "(I)I" } : Jvm.MethodName)) ∈ lw_all := lw_g (lw_at lw_m3 18 rfl) rfl
theorem q543 : (Jvm.Cond.selects "DebtCoats" ({ cls := "DebtCoats", name := "owed", desc := "(I)I" } : Jvm.MethodName) ({ cls := "DebtCoats", name := "owed", desc := "(I)I" } : Jvm.MethodName)) ∈ lw_all := lw_g (lw_at lw_m3 19 rfl) rfl
theorem q544 : (Jvm.Cond.code ({ cls := "DebtCoats", name := "owed", desc := "(I)I" } : Jvm.MethodName) prog_1_method_35_code (4 : Nat) (Option.some Jvm.ClassFile.FieldType.int)) ∈ lw_all := lw_g (lw_at lw_m3 20 rfl) rfl
theorem q546 : (Jvm.Cond.instanceMethod ({ cls := "DebtCoats", name := "free", desc := "(II)I" } : Jvm.MethodName)) ∈ lw_all := lw_g (lw_at lw_m3 22 rfl) rfl
theorem q547 : (Jvm.Cond.selects "DebtCoats" ({ cls := "DebtCoats", name := "free", desc := "(II)I" } : Jvm.MethodName) ({ cls := "DebtCoats", name := "free", desc := "(II)I" } : Jvm.MethodName)) ∈ lw_all := lw_g (lw_at lw_m3 23 rfl) rfl
theorem q548 : (Jvm.Cond.code ({ cls := "DebtCoats", name := "free", desc := "(II)I" } : Jvm.MethodName) prog_1_method_39_code (4 : Nat) (Option.some Jvm.ClassFile.FieldType.int)) ∈ lw_all := lw_g (lw_at lw_m3 24 rfl) rfl
theorem q549 : (Jvm.Cond.methodLink "DebtCoats" (278 : Nat) ({ cls := "DebtCoats", name := "findBest", desc := "(LDebtCoats$Wearer;)V" } : Jvm.MethodName)) ∈ lw_all := lw_g (lw_at lw_m3 25 rfl) rfl
theorem q550 : (Jvm.Cond.privateMethod ({ cls := "DebtCoats", name := "findBest", desc := "(LDebtCoats$Wearer;)V" } : Jvm.MethodName)) ∈ lw_tbl := lw_at lw_m3 26 rfl
theorem q551 : (Jvm.Cond.instanceMethod ({ cls := "DebtCoats", name := "findBest", desc := "(LDebtCoats$Wearer;)V" } : Jvm.MethodName)) ∈ lw_all := lw_g (lw_at lw_m3 27 rfl) rfl
theorem q552 : (Jvm.Cond.code ({ cls := "DebtCoats", name := "findBest", desc := "(LDebtCoats$Wearer;)V" } : Jvm.MethodName) prog_1_method_38_code (2 : Nat) (Option.none : Option Jvm.ClassFile.FieldType)) ∈ lw_all := lw_g (lw_at lw_m3 28 rfl) rfl
theorem q553 : (Jvm.Cond.methodLink "DebtCoats" (274 : Nat) ({ cls := "DebtCoats", name := "tryOrders", desc := "(LDebtCoats$Wearer;II)V" } : Jvm.MethodName)) ∈ lw_all := lw_g (lw_at lw_m3 29 rfl) rfl
theorem q554 : (Jvm.Cond.privateMethod ({ cls := "DebtCoats", name := "tryOrders", desc := "(LDebtCoats$Wearer;II)V" } : Jvm.MethodName)) ∈ lw_tbl := lw_at lw_m3 30 rfl
theorem q555 : (Jvm.Cond.instanceMethod ({ cls := "DebtCoats", name := "tryOrders", desc := "(LDebtCoats$Wearer;II)V" } : Jvm.MethodName)) ∈ lw_all := lw_g (lw_at lw_m3 31 rfl) rfl
theorem q556 : (Jvm.Cond.code ({ cls := "DebtCoats", name := "tryOrders", desc := "(LDebtCoats$Wearer;II)V" } : Jvm.MethodName) prog_1_method_37_code (6 : Nat) (Option.none : Option Jvm.ClassFile.FieldType)) ∈ lw_all := lw_g (lw_at lw_m3 32 rfl) rfl
theorem q557 : (Jvm.Cond.methodLink "DebtCoats" (256 : Nat) ({ cls := "DebtCoats", name := "daysBy", desc := "(LDebtCoats$Wearer;)I" } : Jvm.MethodName)) ∈ lw_all := lw_g (lw_at lw_m3 33 rfl) rfl
theorem q558 : (Jvm.Cond.privateMethod ({ cls := "DebtCoats", name := "daysBy", desc := "(LDebtCoats$Wearer;)I" } : Jvm.MethodName)) ∈ lw_tbl := lw_at lw_m3 34 rfl
theorem q559 : (Jvm.Cond.instanceMethod ({ cls := "DebtCoats", name := "daysBy", desc := "(LDebtCoats$Wearer;)I" } : Jvm.MethodName)) ∈ lw_all := lw_g (lw_at lw_m3 35 rfl) rfl
theorem q560 : (Jvm.Cond.code ({ cls := "DebtCoats", name := "daysBy", desc := "(LDebtCoats$Wearer;)I" } : Jvm.MethodName) prog_1_method_36_code (9 : Nat) (Option.some Jvm.ClassFile.FieldType.int)) ∈ lw_all := lw_g (lw_at lw_m3 36 rfl) rfl
theorem q561 : (Jvm.Cond.methodLink "DebtCoats" (248 : Nat) ({ cls := "DebtCoats$Wearer", name := "takeFrom", desc := "(LDebtCoats$Wearer;)V" } : Jvm.MethodName)) ∈ lw_all := lw_g (lw_at lw_m3 37 rfl) rfl
theorem q565 : (Jvm.Cond.methodLink "DebtCoats" (255 : Nat) ({ cls := "DebtCoats$Wearer", name := "night", desc := "()V" } : Jvm.MethodName)) ∈ lw_all := lw_g (lw_at lw_m3 41 rfl) rfl
theorem q566 : (Jvm.Cond.methodLink "DebtCoats" (266 : Nat) ({ cls := "java/lang/Integer", name := "bitCount", desc := "(I)I" } : Jvm.MethodName)) ∈ lw_all := lw_g (lw_at lw_m3 42 rfl) rfl
theorem q572 : (Jvm.Cond.methodLink "DebtCoats" (271 : Nat) ({ cls := "DebtCoats", name := "has", desc := "(II)Z" } : Jvm.MethodName)) ∈ lw_all := lw_g (lw_at lw_m3 48 rfl) rfl
theorem q573 : (Jvm.Cond.static ({ cls := "DebtCoats", name := "has", desc := "(II)Z" } : Jvm.MethodName)) ∈ lw_all := lw_g (lw_at lw_m3 49 rfl) rfl
theorem q574 : (Jvm.Cond.code ({ cls := "DebtCoats", name := "has", desc := "(II)Z" } : Jvm.MethodName) prog_1_method_2_code (2 : Nat) (Option.some Jvm.ClassFile.FieldType.boolean)) ∈ lw_all := lw_g (lw_at lw_m3 50 rfl) rfl
theorem q576 : (Jvm.Cond.instanceMethod ({ cls := "DebtCoats", name := "saves", desc := "(II)I" } : Jvm.MethodName)) ∈ lw_all := lw_g (lw_at lw_m3 52 rfl) rfl
theorem q577 : (Jvm.Cond.selects "DebtCoats" ({ cls := "DebtCoats", name := "saves", desc := "(II)I" } : Jvm.MethodName) ({ cls := "DebtCoats", name := "saves", desc := "(II)I" } : Jvm.MethodName)) ∈ lw_all := lw_g (lw_at lw_m3 53 rfl) rfl
theorem q578 : (Jvm.Cond.code ({ cls := "DebtCoats", name := "saves", desc := "(II)I" } : Jvm.MethodName) prog_1_method_40_code (5 : Nat) (Option.some Jvm.ClassFile.FieldType.int)) ∈ lw_all := lw_g (lw_at lw_m3 54 rfl) rfl
theorem q580 : (Jvm.Cond.instanceMethod ({ cls := "DebtCoats", name := "bears", desc := "(I)I" } : Jvm.MethodName)) ∈ lw_all := lw_g (lw_at lw_m3 56 rfl) rfl
theorem q581 : (Jvm.Cond.selects "DebtCoats" ({ cls := "DebtCoats", name := "bears", desc := "(I)I" } : Jvm.MethodName) ({ cls := "DebtCoats", name := "bears", desc := "(I)I" } : Jvm.MethodName)) ∈ lw_all := lw_g (lw_at lw_m3 57 rfl) rfl
theorem q582 : (Jvm.Cond.code ({ cls := "DebtCoats", name := "bears", desc := "(I)I" } : Jvm.MethodName) prog_1_method_41_code (3 : Nat) (Option.some Jvm.ClassFile.FieldType.int)) ∈ lw_all := lw_g (lw_at lw_m3 58 rfl) rfl
theorem q583 : (Jvm.Cond.methodLink "DebtCoats" (281 : Nat) ({ cls := "DebtCoats$World", name := "heat", desc := "(I)I" } : Jvm.MethodName)) ∈ lw_all := lw_g (lw_at lw_m3 59 rfl) rfl
theorem q584 : (Jvm.Cond.methodLink "DebtCoats" (284 : Nat) ({ cls := "DebtCoats$Wearer", name := "bears", desc := "(I)Z" } : Jvm.MethodName)) ∈ lw_all := lw_g (lw_at lw_m3 60 rfl) rfl
theorem q586 : (Jvm.Cond.instanceMethod ({ cls := "DebtCoats", name := "ware", desc := "(II)I" } : Jvm.MethodName)) ∈ lw_all := lw_g (lw_at lw_m3 62 rfl) rfl
theorem q587 : (Jvm.Cond.selects "DebtCoats" ({ cls := "DebtCoats", name := "ware", desc := "(II)I" } : Jvm.MethodName) ({ cls := "DebtCoats", name := "ware", desc := "(II)I" } : Jvm.MethodName)) ∈ lw_all := lw_g (lw_at lw_m3 63 rfl) rfl
theorem q588 : (Jvm.Cond.code ({ cls := "DebtCoats", name := "ware", desc := "(II)I" } : Jvm.MethodName) prog_1_method_42_code (3 : Nat) (Option.some Jvm.ClassFile.FieldType.int)) ∈ lw_all := lw_g (lw_at lw_m3 64 rfl) rfl
theorem q590 : (Jvm.Cond.instanceMethod ({ cls := "DebtCoats", name := "under", desc := "(IIII)I" } : Jvm.MethodName)) ∈ lw_all := lw_g (lw_at lw_m3 66 rfl) rfl
theorem q591 : (Jvm.Cond.selects "DebtCoats" ({ cls := "DebtCoats", name := "under", desc := "(IIII)I" } : Jvm.MethodName) ({ cls := "DebtCoats", name := "under", desc := "(IIII)I" } : Jvm.MethodName)) ∈ lw_all := lw_g (lw_at lw_m3 67 rfl) rfl
theorem q592 : (Jvm.Cond.code ({ cls := "DebtCoats", name := "under", desc := "(IIII)I" } : Jvm.MethodName) prog_1_method_43_code (11 : Nat) (Option.some Jvm.ClassFile.FieldType.int)) ∈ lw_all := lw_g (lw_at lw_m3 68 rfl) rfl
theorem q594 : (Jvm.Cond.instanceMethod ({ cls := "DebtCoats", name := "image", desc := "()I" } : Jvm.MethodName)) ∈ lw_all := lw_g (lw_at lw_m3 70 rfl) rfl
theorem q595 : (Jvm.Cond.selects "DebtCoats" ({ cls := "DebtCoats", name := "image", desc := "()I" } : Jvm.MethodName) ({ cls := "DebtCoats", name := "image", desc := "()I" } : Jvm.MethodName)) ∈ lw_all := lw_g (lw_at lw_m3 71 rfl) rfl
theorem q596 : (Jvm.Cond.code ({ cls := "DebtCoats", name := "image", desc := "()I" } : Jvm.MethodName) prog_1_method_44_code (1 : Nat) (Option.some Jvm.ClassFile.FieldType.int)) ∈ lw_all := lw_g (lw_at lw_m3 72 rfl) rfl
theorem q597 : (Jvm.Cond.methodLink "DebtCoats" (287 : Nat) ({ cls := "DebtCoats$World", name := "takeFrom", desc := "(LDebtCoats$World;)V" } : Jvm.MethodName)) ∈ lw_all := lw_g (lw_at lw_m3 73 rfl) rfl
theorem q604 : (Jvm.Cond.instanceMethod ({ cls := "DebtCoats", name := "restore", desc := "()I" } : Jvm.MethodName)) ∈ lw_all := lw_g (lw_at lw_m3 80 rfl) rfl
theorem q605 : (Jvm.Cond.selects "DebtCoats" ({ cls := "DebtCoats", name := "restore", desc := "()I" } : Jvm.MethodName) ({ cls := "DebtCoats", name := "restore", desc := "()I" } : Jvm.MethodName)) ∈ lw_all := lw_g (lw_at lw_m3 81 rfl) rfl
theorem q606 : (Jvm.Cond.code ({ cls := "DebtCoats", name := "restore", desc := "()I" } : Jvm.MethodName) prog_1_method_45_code (1 : Nat) (Option.some Jvm.ClassFile.FieldType.int)) ∈ lw_all := lw_g (lw_at lw_m3 82 rfl) rfl
theorem q608 : (Jvm.Cond.instanceMethod ({ cls := "DebtCoats", name := "judged", desc := "(IIII)I" } : Jvm.MethodName)) ∈ lw_all := lw_g (lw_at lw_m3 84 rfl) rfl
theorem q609 : (Jvm.Cond.selects "DebtCoats" ({ cls := "DebtCoats", name := "judged", desc := "(IIII)I" } : Jvm.MethodName) ({ cls := "DebtCoats", name := "judged", desc := "(IIII)I" } : Jvm.MethodName)) ∈ lw_all := lw_g (lw_at lw_m3 85 rfl) rfl
theorem q610 : (Jvm.Cond.code ({ cls := "DebtCoats", name := "judged", desc := "(IIII)I" } : Jvm.MethodName) prog_1_method_49_code (7 : Nat) (Option.some Jvm.ClassFile.FieldType.int)) ∈ lw_all := lw_g (lw_at lw_m3 86 rfl) rfl
theorem q611 : (Jvm.Cond.methodLink "DebtCoats" (297 : Nat) ({ cls := "DebtCoats", name := "isSheet", desc := "(I)Z" } : Jvm.MethodName)) ∈ lw_all := lw_g (lw_at lw_m3 87 rfl) rfl
theorem q612 : (Jvm.Cond.static ({ cls := "DebtCoats", name := "isSheet", desc := "(I)Z" } : Jvm.MethodName)) ∈ lw_all := lw_g (lw_at lw_m3 88 rfl) rfl
theorem q613 : (Jvm.Cond.code ({ cls := "DebtCoats", name := "isSheet", desc := "(I)Z" } : Jvm.MethodName) prog_1_method_46_code (1 : Nat) (Option.some Jvm.ClassFile.FieldType.boolean)) ∈ lw_all := lw_g (lw_at lw_m3 89 rfl) rfl
theorem q614 : (Jvm.Cond.methodLink "DebtCoats" (300 : Nat) ({ cls := "DebtCoats", name := "isLane", desc := "(I)Z" } : Jvm.MethodName)) ∈ lw_all := lw_g (lw_at lw_m3 90 rfl) rfl
theorem q615 : (Jvm.Cond.static ({ cls := "DebtCoats", name := "isLane", desc := "(I)Z" } : Jvm.MethodName)) ∈ lw_all := lw_g (lw_at lw_m3 91 rfl) rfl
theorem q616 : (Jvm.Cond.code ({ cls := "DebtCoats", name := "isLane", desc := "(I)Z" } : Jvm.MethodName) prog_1_method_47_code (1 : Nat) (Option.some Jvm.ClassFile.FieldType.boolean)) ∈ lw_all := lw_g (lw_at lw_m3 92 rfl) rfl
theorem q617 : (Jvm.Cond.methodLink "DebtCoats" (307 : Nat) ({ cls := "DebtCoats$Sheet", name := "lane", desc := "()I" } : Jvm.MethodName)) ∈ lw_all := lw_g (lw_at lw_m3 93 rfl) rfl
theorem q623 : (Jvm.Cond.methodLink "DebtCoats" (310 : Nat) ({ cls := "DebtCoats$Sheet", name := "size", desc := "()I" } : Jvm.MethodName)) ∈ lw_all := lw_g (lw_at lw_m3 99 rfl) rfl
theorem q628 : (Jvm.Cond.methodLink "DebtCoats" (313 : Nat) ({ cls := "DebtCoats$Sheet", name := "get", desc := "(I)I" } : Jvm.MethodName)) ∈ lw_all := lw_g (lw_at lw_m3 104 rfl) rfl
theorem q632 : (Jvm.Cond.methodLink "DebtCoats" (316 : Nat) ({ cls := "DebtCoats", name := "canPay", desc := "(III)Z" } : Jvm.MethodName)) ∈ lw_all := lw_g (lw_at lw_m3 108 rfl) rfl
theorem q633 : (Jvm.Cond.privateMethod ({ cls := "DebtCoats", name := "canPay", desc := "(III)Z" } : Jvm.MethodName)) ∈ lw_tbl := lw_at lw_m3 109 rfl
theorem q634 : (Jvm.Cond.instanceMethod ({ cls := "DebtCoats", name := "canPay", desc := "(III)Z" } : Jvm.MethodName)) ∈ lw_all := lw_g (lw_at lw_m3 110 rfl) rfl
theorem q635 : (Jvm.Cond.code ({ cls := "DebtCoats", name := "canPay", desc := "(III)Z" } : Jvm.MethodName) prog_1_method_48_code (5 : Nat) (Option.some Jvm.ClassFile.FieldType.boolean)) ∈ lw_all := lw_g (lw_at lw_m3 111 rfl) rfl
theorem q637 : (Jvm.Cond.instanceMethod ({ cls := "DebtCoats", name := "sheet", desc := "(III)I" } : Jvm.MethodName)) ∈ lw_all := lw_g (lw_at lw_m3 113 rfl) rfl
theorem q638 : (Jvm.Cond.selects "DebtCoats" ({ cls := "DebtCoats", name := "sheet", desc := "(III)I" } : Jvm.MethodName) ({ cls := "DebtCoats", name := "sheet", desc := "(III)I" } : Jvm.MethodName)) ∈ lw_all := lw_g (lw_at lw_m3 114 rfl) rfl
theorem q639 : (Jvm.Cond.codeWith ({ cls := "DebtCoats", name := "sheet", desc := "(III)I" } : Jvm.MethodName) prog_1_method_50_code (5 : Nat) (Option.some Jvm.ClassFile.FieldType.int) [((22 : Nat), (55 : Nat), (58 : Nat), (319 : Nat))]) ∈ lw_all := lw_g (lw_at lw_m3 115 rfl) rfl
theorem q640 : (Jvm.Cond.classLink "DebtCoats" (319 : Nat) "java/lang/NegativeArraySizeException") ∈ lw_all := lw_g (lw_at lw_m3 116 rfl) rfl
theorem q671 : (Jvm.Cond.instanceMethod ({ cls := "DebtCoats", name := "drop", desc := "(I)I" } : Jvm.MethodName)) ∈ lw_all := lw_g (lw_at lw_m3 147 rfl) rfl
theorem q672 : (Jvm.Cond.selects "DebtCoats" ({ cls := "DebtCoats", name := "drop", desc := "(I)I" } : Jvm.MethodName) ({ cls := "DebtCoats", name := "drop", desc := "(I)I" } : Jvm.MethodName)) ∈ lw_all := lw_g (lw_at lw_m3 148 rfl) rfl
theorem q673 : (Jvm.Cond.code ({ cls := "DebtCoats", name := "drop", desc := "(I)I" } : Jvm.MethodName) prog_1_method_51_code (3 : Nat) (Option.some Jvm.ClassFile.FieldType.int)) ∈ lw_all := lw_g (lw_at lw_m3 149 rfl) rfl
theorem q675 : (Jvm.Cond.instanceMethod ({ cls := "DebtCoats", name := "item", desc := "(IIII)I" } : Jvm.MethodName)) ∈ lw_all := lw_g (lw_at lw_m3 151 rfl) rfl
theorem q676 : (Jvm.Cond.selects "DebtCoats" ({ cls := "DebtCoats", name := "item", desc := "(IIII)I" } : Jvm.MethodName) ({ cls := "DebtCoats", name := "item", desc := "(IIII)I" } : Jvm.MethodName)) ∈ lw_all := lw_g (lw_at lw_m3 152 rfl) rfl
theorem q677 : (Jvm.Cond.codeWith ({ cls := "DebtCoats", name := "item", desc := "(IIII)I" } : Jvm.MethodName) prog_1_method_52_code (6 : Nat) (Option.some Jvm.ClassFile.FieldType.int) [((16 : Nat), (100 : Nat), (103 : Nat), (325 : Nat)), ((16 : Nat), (100 : Nat), (108 : Nat), (327 : Nat)), ((16 : Nat), (100 : Nat), (113 : Nat), (329 : Nat))]) ∈ lw_all := lw_g (lw_at lw_m3 153 rfl) rfl
theorem q678 : (Jvm.Cond.classLink "DebtCoats" (325 : Nat) "java/lang/NullPointerException") ∈ lw_all := lw_g (lw_at lw_m3 154 rfl) rfl
theorem q703 : (Jvm.Cond.classLink "DebtCoats" (327 : Nat) "java/lang/ClassCastException") ∈ lw_all := lw_g (lw_at lw_m3 179 rfl) rfl
theorem q717 : (Jvm.Cond.classLink "DebtCoats" (329 : Nat) "java/lang/ArrayIndexOutOfBoundsException") ∈ lw_all := lw_g (lw_at lw_m3 193 rfl) rfl
theorem q736 : (Jvm.Cond.classLink "DebtCoats" (321 : Nat) "[B") ∈ lw_all := lw_g (lw_at lw_m3 212 rfl) rfl
theorem q737 : (Jvm.Cond.classLink "DebtCoats" (322 : Nat) "[S") ∈ lw_all := lw_g (lw_at lw_m3 213 rfl) rfl
theorem q738 : (Jvm.Cond.classLink "DebtCoats" (324 : Nat) "[I") ∈ lw_all := lw_g (lw_at lw_m3 214 rfl) rfl
theorem q740 : (Jvm.Cond.instanceMethod ({ cls := "DebtCoats", name := "copy", desc := "(IIIII)I" } : Jvm.MethodName)) ∈ lw_all := lw_g (lw_at lw_m3 216 rfl) rfl
theorem q741 : (Jvm.Cond.selects "DebtCoats" ({ cls := "DebtCoats", name := "copy", desc := "(IIIII)I" } : Jvm.MethodName) ({ cls := "DebtCoats", name := "copy", desc := "(IIIII)I" } : Jvm.MethodName)) ∈ lw_all := lw_g (lw_at lw_m3 217 rfl) rfl
theorem q742 : (Jvm.Cond.codeWith ({ cls := "DebtCoats", name := "copy", desc := "(IIIII)I" } : Jvm.MethodName) prog_1_method_53_code (7 : Nat) (Option.some Jvm.ClassFile.FieldType.int) [((16 : Nat), (42 : Nat), (45 : Nat), (325 : Nat)), ((16 : Nat), (42 : Nat), (50 : Nat), (331 : Nat)), ((16 : Nat), (42 : Nat), (55 : Nat), (333 : Nat))]) ∈ lw_all := lw_g (lw_at lw_m3 218 rfl) rfl
theorem q743 : (Jvm.Cond.classLink "DebtCoats" (331 : Nat) "java/lang/ArrayStoreException") ∈ lw_all := lw_g (lw_at lw_m3 219 rfl) rfl
theorem q757 : (Jvm.Cond.classLink "DebtCoats" (333 : Nat) "java/lang/IndexOutOfBoundsException") ∈ lw_all := lw_g (lw_at lw_m3 233 rfl) rfl
theorem in_X0 : ∀ w ∈ wsX00, w ∈ lw_all := lw_in wsX00 [289, 291, 293, 295, 297, 299, 301, 303, 305, 307, 309, 311, 313, 315, 317, 319, 321, 323, 325, 327, 329, 331, 333, 335, 337] (by decide +kernel) (by decide +kernel)
