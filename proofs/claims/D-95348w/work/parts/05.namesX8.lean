/-! DebtCoatsModel -/
set_option maxRecDepth 100000
def RX8 : String := "DebtCoatsModel"
def TX8 : u_T := fun k => match k with
  | 0 => ("DebtCoatsModel", "people", "I", false)
  | 1 => ("DebtCoatsModel", "now", "[I", true)
  | 2 => ("DebtCoatsModel", "tried", "[I", true)
  | 3 => ("DebtCoatsModel", "state", "[I", false)
  | 4 => ("DebtCoatsModel", "taxes", "[I", true)
  | 5 => ("DebtCoatsModel", "heats", "[I", true)
  | 6 => ("DebtCoatsModel", "laws", "[I", true)
  | 7 => ("DebtCoatsModel", "day", "I", false)
  | 8 => ("DebtCoatsModel", "cuts", "I", false)
  | 9 => ("DebtCoatsModel", "wares", "I", false)
  | 10 => ("DebtCoatsModel", "wareAmount", "[I", true)
  | 11 => ("DebtCoatsModel", "wareThick", "[I", true)
  | 12 => ("DebtCoatsModel", "tape", "[I", true)
  | 13 => ("DebtCoatsModel", "taped", "I", false)
  | 14 => ("DebtCoatsModel", "at", "I", false)
  | 15 => ("DebtCoatsModel", "wrong", "Z", false)
  | 16 => ("DebtCoatsModel", "read", "[I", true)
  | 17 => ("DebtCoatsModel", "order", "[I", true)
  | 18 => ("DebtCoatsModel", "bestOrder", "[I", true)
  | 19 => ("DebtCoatsModel", "paid", "I", false)
  | 20 => ("DebtCoatsModel", "bestPaid", "I", false)
  | 21 => ("DebtCoatsModel", "start", "[I", true)
  | 22 => ("DebtCoatsModel", "image", "[I", true)
  | 23 => ("DebtCoatsModel", "isImage", "Z", false)
  | 24 => ("DebtCoatsModel", "lanes", "[I", true)
  | 25 => ("DebtCoatsModel", "sizes", "[I", true)
  | 26 => ("DebtCoatsModel", "items", "[I", true)
  | _ => ("DebtCoatsModel", "moved", "[I", true)
def tyX8 : Nat → FieldType := fun k => match k with
  | 0 => .int
  | 1 => .array .int
  | 2 => .array .int
  | 3 => .array .int
  | 4 => .array .int
  | 5 => .array .int
  | 6 => .array .int
  | 7 => .int
  | 8 => .int
  | 9 => .int
  | 10 => .array .int
  | 11 => .array .int
  | 12 => .array .int
  | 13 => .int
  | 14 => .int
  | 15 => .boolean
  | 16 => .array .int
  | 17 => .array .int
  | 18 => .array .int
  | 19 => .int
  | 20 => .int
  | 21 => .array .int
  | 22 => .array .int
  | 23 => .boolean
  | 24 => .array .int
  | 25 => .array .int
  | 26 => .array .int
  | _ => .array .int
abbrev wsX80 : List Cond := u_ws RX8 TX8 28
set_option maxRecDepth 100000 in
theorem nmX8 : ∀ a, a < 28 → ∀ b, b < 28 → a ≠ b → (TX8 a).2.1 ≠ (TX8 b).2.1 := by decide +kernel
set_option maxRecDepth 100000 in
theorem tyX8_ok : ∀ k, k < 28 → parseFieldDescriptor (TX8 k).2.2.1 = some (tyX8 k) := by decide +kernel
abbrev cX8_init : ByteArray := prog_10_method_3_code
def yX8_init : MethodName := ⟨RX8, "<init>", "()V"⟩
def dkwX8_init_7 : List UInt8 := [167, 255, 241, 177]
abbrev dktX8_init_7 : List UInt8 := dkwX8_init_7 ++ []
def dkwX8_init_6 : List UInt8 := [188, 10, 181, 0, 61, 3, 60, 27, 7, 162, 0, 16, 42, 180, 0, 52, 27, 2, 79, 132, 1, 1]
abbrev dktX8_init_6 : List UInt8 := dkwX8_init_6 ++ dktX8_init_7
def dkwX8_init_5 : List UInt8 := [188, 10, 181, 0, 52, 42, 7, 188, 10, 181, 0, 55, 42, 16, 96, 188, 10, 181, 0, 58, 42, 16, 24]
abbrev dktX8_init_5 : List UInt8 := dkwX8_init_5 ++ dktX8_init_6
def dkwX8_init_4 : List UInt8 := [188, 10, 181, 0, 43, 42, 16, 40, 188, 10, 181, 0, 46, 42, 17, 1, 14, 188, 10, 181, 0, 49, 42, 7]
abbrev dktX8_init_4 : List UInt8 := dkwX8_init_4 ++ dktX8_init_5
def dkwX8_init_3 : List UInt8 := [188, 10, 181, 0, 34, 42, 16, 24, 188, 10, 181, 0, 37, 42, 16, 6, 188, 10, 181, 0, 40, 42, 16, 6]
abbrev dktX8_init_3 : List UInt8 := dkwX8_init_3 ++ dktX8_init_4
def dkwX8_init_2 : List UInt8 := [188, 10, 181, 0, 25, 42, 16, 8, 188, 10, 181, 0, 28, 42, 16, 8, 188, 10, 181, 0, 31, 42, 16, 80]
abbrev dktX8_init_2 : List UInt8 := dkwX8_init_2 ++ dktX8_init_3
def dkwX8_init_1 : List UInt8 := [180, 0, 7, 181, 0, 16, 42, 16, 25, 188, 10, 181, 0, 19, 42, 16, 12, 188, 10, 181, 0, 22, 42, 5]
abbrev dktX8_init_1 : List UInt8 := dkwX8_init_1 ++ dktX8_init_2
def dkwX8_init_0 : List UInt8 := [42, 183, 0, 1, 42, 17, 0, 200, 188, 10, 181, 0, 7, 42, 17, 0, 200, 188, 10, 181, 0, 13, 42, 42]
abbrev dktX8_init_0 : List UInt8 := dkwX8_init_0 ++ dktX8_init_1
theorem dksX8_init_0 : cX8_init.data.toList.drop 0 = dktX8_init_0 := by decide +kernel
theorem dksX8_init_1 : cX8_init.data.toList.drop 24 = dktX8_init_1 := dk_seg dksX8_init_0 24 rfl rfl
theorem dksX8_init_2 : cX8_init.data.toList.drop 48 = dktX8_init_2 := dk_seg dksX8_init_1 24 rfl rfl
theorem dksX8_init_3 : cX8_init.data.toList.drop 72 = dktX8_init_3 := dk_seg dksX8_init_2 24 rfl rfl
theorem dksX8_init_4 : cX8_init.data.toList.drop 96 = dktX8_init_4 := dk_seg dksX8_init_3 24 rfl rfl
theorem dksX8_init_5 : cX8_init.data.toList.drop 120 = dktX8_init_5 := dk_seg dksX8_init_4 24 rfl rfl
theorem dksX8_init_6 : cX8_init.data.toList.drop 143 = dktX8_init_6 := dk_seg dksX8_init_5 23 rfl rfl
theorem dksX8_init_7 : cX8_init.data.toList.drop 165 = dktX8_init_7 := dk_seg dksX8_init_6 22 rfl rfl
theorem dX8_init_0 : decode cX8_init 0 = .ok (.aload_n 0, 1) := dk_42 (dk_at dksX8_init_0 0 rfl rfl)
theorem dX8_init_1 : decode cX8_init 1 = .ok (.invokespecial 1, 3) := dk_183 0 1 (dk_at dksX8_init_0 1 rfl rfl)
theorem dX8_init_4 : decode cX8_init 4 = .ok (.aload_n 0, 1) := dk_42 (dk_at dksX8_init_0 4 rfl rfl)
theorem dX8_init_5 : decode cX8_init 5 = .ok (.sipush 200, 3) := dk_17 0 200 (dk_at dksX8_init_0 5 rfl rfl)
theorem dX8_init_8 : decode cX8_init 8 = .ok (.newarray .int, 2) := dk_188_10 (dk_at dksX8_init_0 8 rfl rfl)
theorem dX8_init_10 : decode cX8_init 10 = .ok (.putfield 7, 3) := dk_181 0 7 (dk_at dksX8_init_0 10 rfl rfl)
theorem dX8_init_13 : decode cX8_init 13 = .ok (.aload_n 0, 1) := dk_42 (dk_at dksX8_init_0 13 rfl rfl)
theorem dX8_init_14 : decode cX8_init 14 = .ok (.sipush 200, 3) := dk_17 0 200 (dk_at dksX8_init_0 14 rfl rfl)
theorem dX8_init_17 : decode cX8_init 17 = .ok (.newarray .int, 2) := dk_188_10 (dk_at dksX8_init_0 17 rfl rfl)
theorem dX8_init_19 : decode cX8_init 19 = .ok (.putfield 13, 3) := dk_181 0 13 (dk_at dksX8_init_0 19 rfl rfl)
theorem dX8_init_22 : decode cX8_init 22 = .ok (.aload_n 0, 1) := dk_42 (dk_at dksX8_init_0 22 rfl rfl)
theorem dX8_init_23 : decode cX8_init 23 = .ok (.aload_n 0, 1) := dk_42 (dk_at dksX8_init_0 23 rfl rfl)
theorem dX8_init_24 : decode cX8_init 24 = .ok (.getfield 7, 3) := dk_180 0 7 (dk_at dksX8_init_1 0 rfl rfl)
theorem dX8_init_27 : decode cX8_init 27 = .ok (.putfield 16, 3) := dk_181 0 16 (dk_at dksX8_init_1 3 rfl rfl)
theorem dX8_init_30 : decode cX8_init 30 = .ok (.aload_n 0, 1) := dk_42 (dk_at dksX8_init_1 6 rfl rfl)
theorem dX8_init_31 : decode cX8_init 31 = .ok (.bipush 25, 2) := dk_16 25 (dk_at dksX8_init_1 7 rfl rfl)
theorem dX8_init_33 : decode cX8_init 33 = .ok (.newarray .int, 2) := dk_188_10 (dk_at dksX8_init_1 9 rfl rfl)
theorem dX8_init_35 : decode cX8_init 35 = .ok (.putfield 19, 3) := dk_181 0 19 (dk_at dksX8_init_1 11 rfl rfl)
theorem dX8_init_38 : decode cX8_init 38 = .ok (.aload_n 0, 1) := dk_42 (dk_at dksX8_init_1 14 rfl rfl)
theorem dX8_init_39 : decode cX8_init 39 = .ok (.bipush 12, 2) := dk_16 12 (dk_at dksX8_init_1 15 rfl rfl)
theorem dX8_init_41 : decode cX8_init 41 = .ok (.newarray .int, 2) := dk_188_10 (dk_at dksX8_init_1 17 rfl rfl)
theorem dX8_init_43 : decode cX8_init 43 = .ok (.putfield 22, 3) := dk_181 0 22 (dk_at dksX8_init_1 19 rfl rfl)
theorem dX8_init_46 : decode cX8_init 46 = .ok (.aload_n 0, 1) := dk_42 (dk_at dksX8_init_1 22 rfl rfl)
theorem dX8_init_47 : decode cX8_init 47 = .ok (.iconst 2, 1) := dk_5 (dk_at dksX8_init_1 23 rfl rfl)
theorem dX8_init_48 : decode cX8_init 48 = .ok (.newarray .int, 2) := dk_188_10 (dk_at dksX8_init_2 0 rfl rfl)
theorem dX8_init_50 : decode cX8_init 50 = .ok (.putfield 25, 3) := dk_181 0 25 (dk_at dksX8_init_2 2 rfl rfl)
theorem dX8_init_53 : decode cX8_init 53 = .ok (.aload_n 0, 1) := dk_42 (dk_at dksX8_init_2 5 rfl rfl)
theorem dX8_init_54 : decode cX8_init 54 = .ok (.bipush 8, 2) := dk_16 8 (dk_at dksX8_init_2 6 rfl rfl)
theorem dX8_init_56 : decode cX8_init 56 = .ok (.newarray .int, 2) := dk_188_10 (dk_at dksX8_init_2 8 rfl rfl)
theorem dX8_init_58 : decode cX8_init 58 = .ok (.putfield 28, 3) := dk_181 0 28 (dk_at dksX8_init_2 10 rfl rfl)
theorem dX8_init_61 : decode cX8_init 61 = .ok (.aload_n 0, 1) := dk_42 (dk_at dksX8_init_2 13 rfl rfl)
theorem dX8_init_62 : decode cX8_init 62 = .ok (.bipush 8, 2) := dk_16 8 (dk_at dksX8_init_2 14 rfl rfl)
theorem dX8_init_64 : decode cX8_init 64 = .ok (.newarray .int, 2) := dk_188_10 (dk_at dksX8_init_2 16 rfl rfl)
theorem dX8_init_66 : decode cX8_init 66 = .ok (.putfield 31, 3) := dk_181 0 31 (dk_at dksX8_init_2 18 rfl rfl)
theorem dX8_init_69 : decode cX8_init 69 = .ok (.aload_n 0, 1) := dk_42 (dk_at dksX8_init_2 21 rfl rfl)
theorem dX8_init_70 : decode cX8_init 70 = .ok (.bipush 80, 2) := dk_16 80 (dk_at dksX8_init_2 22 rfl rfl)
theorem dX8_init_72 : decode cX8_init 72 = .ok (.newarray .int, 2) := dk_188_10 (dk_at dksX8_init_3 0 rfl rfl)
theorem dX8_init_74 : decode cX8_init 74 = .ok (.putfield 34, 3) := dk_181 0 34 (dk_at dksX8_init_3 2 rfl rfl)
theorem dX8_init_77 : decode cX8_init 77 = .ok (.aload_n 0, 1) := dk_42 (dk_at dksX8_init_3 5 rfl rfl)
theorem dX8_init_78 : decode cX8_init 78 = .ok (.bipush 24, 2) := dk_16 24 (dk_at dksX8_init_3 6 rfl rfl)
theorem dX8_init_80 : decode cX8_init 80 = .ok (.newarray .int, 2) := dk_188_10 (dk_at dksX8_init_3 8 rfl rfl)
theorem dX8_init_82 : decode cX8_init 82 = .ok (.putfield 37, 3) := dk_181 0 37 (dk_at dksX8_init_3 10 rfl rfl)
theorem dX8_init_85 : decode cX8_init 85 = .ok (.aload_n 0, 1) := dk_42 (dk_at dksX8_init_3 13 rfl rfl)
theorem dX8_init_86 : decode cX8_init 86 = .ok (.bipush 6, 2) := dk_16 6 (dk_at dksX8_init_3 14 rfl rfl)
theorem dX8_init_88 : decode cX8_init 88 = .ok (.newarray .int, 2) := dk_188_10 (dk_at dksX8_init_3 16 rfl rfl)
theorem dX8_init_90 : decode cX8_init 90 = .ok (.putfield 40, 3) := dk_181 0 40 (dk_at dksX8_init_3 18 rfl rfl)
theorem dX8_init_93 : decode cX8_init 93 = .ok (.aload_n 0, 1) := dk_42 (dk_at dksX8_init_3 21 rfl rfl)
theorem dX8_init_94 : decode cX8_init 94 = .ok (.bipush 6, 2) := dk_16 6 (dk_at dksX8_init_3 22 rfl rfl)
theorem dX8_init_96 : decode cX8_init 96 = .ok (.newarray .int, 2) := dk_188_10 (dk_at dksX8_init_4 0 rfl rfl)
theorem dX8_init_98 : decode cX8_init 98 = .ok (.putfield 43, 3) := dk_181 0 43 (dk_at dksX8_init_4 2 rfl rfl)
theorem dX8_init_101 : decode cX8_init 101 = .ok (.aload_n 0, 1) := dk_42 (dk_at dksX8_init_4 5 rfl rfl)
theorem dX8_init_102 : decode cX8_init 102 = .ok (.bipush 40, 2) := dk_16 40 (dk_at dksX8_init_4 6 rfl rfl)
theorem dX8_init_104 : decode cX8_init 104 = .ok (.newarray .int, 2) := dk_188_10 (dk_at dksX8_init_4 8 rfl rfl)
theorem dX8_init_106 : decode cX8_init 106 = .ok (.putfield 46, 3) := dk_181 0 46 (dk_at dksX8_init_4 10 rfl rfl)
theorem dX8_init_109 : decode cX8_init 109 = .ok (.aload_n 0, 1) := dk_42 (dk_at dksX8_init_4 13 rfl rfl)
theorem dX8_init_110 : decode cX8_init 110 = .ok (.sipush 270, 3) := dk_17 1 14 (dk_at dksX8_init_4 14 rfl rfl)
theorem dX8_init_113 : decode cX8_init 113 = .ok (.newarray .int, 2) := dk_188_10 (dk_at dksX8_init_4 17 rfl rfl)
theorem dX8_init_115 : decode cX8_init 115 = .ok (.putfield 49, 3) := dk_181 0 49 (dk_at dksX8_init_4 19 rfl rfl)
theorem dX8_init_118 : decode cX8_init 118 = .ok (.aload_n 0, 1) := dk_42 (dk_at dksX8_init_4 22 rfl rfl)
theorem dX8_init_119 : decode cX8_init 119 = .ok (.iconst 4, 1) := dk_7 (dk_at dksX8_init_4 23 rfl rfl)
theorem dX8_init_120 : decode cX8_init 120 = .ok (.newarray .int, 2) := dk_188_10 (dk_at dksX8_init_5 0 rfl rfl)
theorem dX8_init_122 : decode cX8_init 122 = .ok (.putfield 52, 3) := dk_181 0 52 (dk_at dksX8_init_5 2 rfl rfl)
theorem dX8_init_125 : decode cX8_init 125 = .ok (.aload_n 0, 1) := dk_42 (dk_at dksX8_init_5 5 rfl rfl)
theorem dX8_init_126 : decode cX8_init 126 = .ok (.iconst 4, 1) := dk_7 (dk_at dksX8_init_5 6 rfl rfl)
theorem dX8_init_127 : decode cX8_init 127 = .ok (.newarray .int, 2) := dk_188_10 (dk_at dksX8_init_5 7 rfl rfl)
theorem dX8_init_129 : decode cX8_init 129 = .ok (.putfield 55, 3) := dk_181 0 55 (dk_at dksX8_init_5 9 rfl rfl)
theorem dX8_init_132 : decode cX8_init 132 = .ok (.aload_n 0, 1) := dk_42 (dk_at dksX8_init_5 12 rfl rfl)
theorem dX8_init_133 : decode cX8_init 133 = .ok (.bipush 96, 2) := dk_16 96 (dk_at dksX8_init_5 13 rfl rfl)
theorem dX8_init_135 : decode cX8_init 135 = .ok (.newarray .int, 2) := dk_188_10 (dk_at dksX8_init_5 15 rfl rfl)
theorem dX8_init_137 : decode cX8_init 137 = .ok (.putfield 58, 3) := dk_181 0 58 (dk_at dksX8_init_5 17 rfl rfl)
theorem dX8_init_140 : decode cX8_init 140 = .ok (.aload_n 0, 1) := dk_42 (dk_at dksX8_init_5 20 rfl rfl)
theorem dX8_init_141 : decode cX8_init 141 = .ok (.bipush 24, 2) := dk_16 24 (dk_at dksX8_init_5 21 rfl rfl)
theorem dX8_init_143 : decode cX8_init 143 = .ok (.newarray .int, 2) := dk_188_10 (dk_at dksX8_init_6 0 rfl rfl)
theorem dX8_init_145 : decode cX8_init 145 = .ok (.putfield 61, 3) := dk_181 0 61 (dk_at dksX8_init_6 2 rfl rfl)
theorem dX8_init_148 : decode cX8_init 148 = .ok (.iconst 0, 1) := dk_3 (dk_at dksX8_init_6 5 rfl rfl)
theorem dX8_init_149 : decode cX8_init 149 = .ok (.istore_n 1, 1) := dk_60 (dk_at dksX8_init_6 6 rfl rfl)
theorem dX8_init_150 : decode cX8_init 150 = .ok (.iload_n 1, 1) := dk_27 (dk_at dksX8_init_6 7 rfl rfl)
theorem dX8_init_151 : decode cX8_init 151 = .ok (.iconst 4, 1) := dk_7 (dk_at dksX8_init_6 8 rfl rfl)
theorem dX8_init_152 : decode cX8_init 152 = .ok (.if_icmp .ge 16, 3) := dk_162 0 16 (dk_at dksX8_init_6 9 rfl rfl)
theorem dX8_init_155 : decode cX8_init 155 = .ok (.aload_n 0, 1) := dk_42 (dk_at dksX8_init_6 12 rfl rfl)
theorem dX8_init_156 : decode cX8_init 156 = .ok (.getfield 52, 3) := dk_180 0 52 (dk_at dksX8_init_6 13 rfl rfl)
theorem dX8_init_159 : decode cX8_init 159 = .ok (.iload_n 1, 1) := dk_27 (dk_at dksX8_init_6 16 rfl rfl)
theorem dX8_init_160 : decode cX8_init 160 = .ok (.iconst (-1), 1) := dk_2 (dk_at dksX8_init_6 17 rfl rfl)
theorem dX8_init_161 : decode cX8_init 161 = .ok (.iastore, 1) := dk_79 (dk_at dksX8_init_6 18 rfl rfl)
theorem dX8_init_162 : decode cX8_init 162 = .ok (.iinc 1 1, 3) := dk_132 1 1 (dk_at dksX8_init_6 19 rfl rfl)
theorem dX8_init_165 : decode cX8_init 165 = .ok (.goto (-15), 3) := dk_167 255 241 (dk_at dksX8_init_7 0 rfl rfl)
theorem dX8_init_168 : decode cX8_init 168 = .ok (.return_, 1) := dk_177 (dk_at dksX8_init_7 3 rfl rfl)
abbrev cX8_person : ByteArray := prog_10_method_6_code
def yX8_person : MethodName := ⟨RX8, "person", "(III)I"⟩
def dkwX8_person_7 : List UInt8 := [167, 255, 232, 42, 89, 180, 0, 64, 4, 96, 181, 0, 64, 42, 180, 0, 64, 4, 100, 172]
abbrev dktX8_person_7 : List UInt8 := dkwX8_person_7 ++ []
def dkwX8_person_6 : List UInt8 := [21, 4, 8, 162, 0, 24, 42, 180, 0, 19, 8, 42, 180, 0, 64, 104, 21, 4, 96, 3, 79, 132, 4, 1]
abbrev dktX8_person_6 : List UInt8 := dkwX8_person_6 ++ dktX8_person_7
def dkwX8_person_5 : List UInt8 := [104, 5, 96, 29, 79, 42, 180, 0, 7, 16, 40, 42, 180, 0, 64, 104, 7, 96, 16, 252, 79, 3, 54, 4]
abbrev dktX8_person_5 : List UInt8 := dkwX8_person_5 ++ dktX8_person_6
def dkwX8_person_4 : List UInt8 := [180, 0, 7, 16, 40, 42, 180, 0, 64, 104, 4, 96, 28, 79, 42, 180, 0, 7, 16, 40, 42, 180, 0, 64]
abbrev dktX8_person_4 : List UInt8 := dkwX8_person_4 ++ dktX8_person_5
def dkwX8_person_3 : List UInt8 := [96, 3, 79, 132, 4, 1, 167, 255, 230, 42, 180, 0, 7, 16, 40, 42, 180, 0, 64, 104, 27, 79, 42]
abbrev dktX8_person_3 : List UInt8 := dkwX8_person_3 ++ dktX8_person_4
def dkwX8_person_2 : List UInt8 := [172, 3, 54, 4, 21, 4, 16, 40, 162, 0, 25, 42, 180, 0, 7, 16, 40, 42, 180, 0, 64, 104, 21, 4]
abbrev dktX8_person_2 : List UInt8 := dkwX8_person_2 ++ dktX8_person_3
def dkwX8_person_1 : List UInt8 := [29, 133, 10, 20, 0, 78, 184, 0, 68, 154, 0, 5, 2, 172, 42, 180, 0, 64, 8, 160, 0, 6, 16, 253]
abbrev dktX8_person_1 : List UInt8 := dkwX8_person_1 ++ dktX8_person_2
def dkwX8_person_0 : List UInt8 := [27, 133, 9, 20, 0, 74, 184, 0, 68, 153, 0, 27, 28, 133, 9, 20, 0, 76, 184, 0, 68, 153, 0, 15]
abbrev dktX8_person_0 : List UInt8 := dkwX8_person_0 ++ dktX8_person_1
theorem dksX8_person_0 : cX8_person.data.toList.drop 0 = dktX8_person_0 := by decide +kernel
theorem dksX8_person_1 : cX8_person.data.toList.drop 24 = dktX8_person_1 := dk_seg dksX8_person_0 24 rfl rfl
theorem dksX8_person_2 : cX8_person.data.toList.drop 48 = dktX8_person_2 := dk_seg dksX8_person_1 24 rfl rfl
theorem dksX8_person_3 : cX8_person.data.toList.drop 72 = dktX8_person_3 := dk_seg dksX8_person_2 24 rfl rfl
theorem dksX8_person_4 : cX8_person.data.toList.drop 95 = dktX8_person_4 := dk_seg dksX8_person_3 23 rfl rfl
theorem dksX8_person_5 : cX8_person.data.toList.drop 119 = dktX8_person_5 := dk_seg dksX8_person_4 24 rfl rfl
theorem dksX8_person_6 : cX8_person.data.toList.drop 143 = dktX8_person_6 := dk_seg dksX8_person_5 24 rfl rfl
theorem dksX8_person_7 : cX8_person.data.toList.drop 167 = dktX8_person_7 := dk_seg dksX8_person_6 24 rfl rfl
theorem dX8_person_0 : decode cX8_person 0 = .ok (.iload_n 1, 1) := dk_27 (dk_at dksX8_person_0 0 rfl rfl)
theorem dX8_person_1 : decode cX8_person 1 = .ok (.i2l, 1) := dk_133 (dk_at dksX8_person_0 1 rfl rfl)
theorem dX8_person_2 : decode cX8_person 2 = .ok (.lconst 0, 1) := dk_9 (dk_at dksX8_person_0 2 rfl rfl)
theorem dX8_person_3 : decode cX8_person 3 = .ok (.ldc2_w 74, 3) := dk_20 0 74 (dk_at dksX8_person_0 3 rfl rfl)
theorem dX8_person_6 : decode cX8_person 6 = .ok (.invokestatic 68, 3) := dk_184 0 68 (dk_at dksX8_person_0 6 rfl rfl)
theorem dX8_person_9 : decode cX8_person 9 = .ok (.ifCond .eq 27, 3) := dk_153 0 27 (dk_at dksX8_person_0 9 rfl rfl)
theorem dX8_person_12 : decode cX8_person 12 = .ok (.iload_n 2, 1) := dk_28 (dk_at dksX8_person_0 12 rfl rfl)
theorem dX8_person_13 : decode cX8_person 13 = .ok (.i2l, 1) := dk_133 (dk_at dksX8_person_0 13 rfl rfl)
theorem dX8_person_14 : decode cX8_person 14 = .ok (.lconst 0, 1) := dk_9 (dk_at dksX8_person_0 14 rfl rfl)
theorem dX8_person_15 : decode cX8_person 15 = .ok (.ldc2_w 76, 3) := dk_20 0 76 (dk_at dksX8_person_0 15 rfl rfl)
theorem dX8_person_18 : decode cX8_person 18 = .ok (.invokestatic 68, 3) := dk_184 0 68 (dk_at dksX8_person_0 18 rfl rfl)
theorem dX8_person_21 : decode cX8_person 21 = .ok (.ifCond .eq 15, 3) := dk_153 0 15 (dk_at dksX8_person_0 21 rfl rfl)
theorem dX8_person_24 : decode cX8_person 24 = .ok (.iload_n 3, 1) := dk_29 (dk_at dksX8_person_1 0 rfl rfl)
theorem dX8_person_25 : decode cX8_person 25 = .ok (.i2l, 1) := dk_133 (dk_at dksX8_person_1 1 rfl rfl)
theorem dX8_person_26 : decode cX8_person 26 = .ok (.lconst 1, 1) := dk_10 (dk_at dksX8_person_1 2 rfl rfl)
theorem dX8_person_27 : decode cX8_person 27 = .ok (.ldc2_w 78, 3) := dk_20 0 78 (dk_at dksX8_person_1 3 rfl rfl)
theorem dX8_person_30 : decode cX8_person 30 = .ok (.invokestatic 68, 3) := dk_184 0 68 (dk_at dksX8_person_1 6 rfl rfl)
theorem dX8_person_33 : decode cX8_person 33 = .ok (.ifCond .ne 5, 3) := dk_154 0 5 (dk_at dksX8_person_1 9 rfl rfl)
theorem dX8_person_36 : decode cX8_person 36 = .ok (.iconst (-1), 1) := dk_2 (dk_at dksX8_person_1 12 rfl rfl)
theorem dX8_person_37 : decode cX8_person 37 = .ok (.ireturn, 1) := dk_172 (dk_at dksX8_person_1 13 rfl rfl)
theorem dX8_person_38 : decode cX8_person 38 = .ok (.aload_n 0, 1) := dk_42 (dk_at dksX8_person_1 14 rfl rfl)
theorem dX8_person_39 : decode cX8_person 39 = .ok (.getfield 64, 3) := dk_180 0 64 (dk_at dksX8_person_1 15 rfl rfl)
theorem dX8_person_42 : decode cX8_person 42 = .ok (.iconst 5, 1) := dk_8 (dk_at dksX8_person_1 18 rfl rfl)
theorem dX8_person_43 : decode cX8_person 43 = .ok (.if_icmp .ne 6, 3) := dk_160 0 6 (dk_at dksX8_person_1 19 rfl rfl)
theorem dX8_person_46 : decode cX8_person 46 = .ok (.bipush (-3), 2) := dk_16 253 (dk_at dksX8_person_1 22 rfl rfl)
theorem dX8_person_48 : decode cX8_person 48 = .ok (.ireturn, 1) := dk_172 (dk_at dksX8_person_2 0 rfl rfl)
theorem dX8_person_49 : decode cX8_person 49 = .ok (.iconst 0, 1) := dk_3 (dk_at dksX8_person_2 1 rfl rfl)
theorem dX8_person_50 : decode cX8_person 50 = .ok (.istore 4, 2) := dk_54 4 (dk_at dksX8_person_2 2 rfl rfl)
theorem dX8_person_52 : decode cX8_person 52 = .ok (.iload 4, 2) := dk_21 4 (dk_at dksX8_person_2 4 rfl rfl)
theorem dX8_person_54 : decode cX8_person 54 = .ok (.bipush 40, 2) := dk_16 40 (dk_at dksX8_person_2 6 rfl rfl)
theorem dX8_person_56 : decode cX8_person 56 = .ok (.if_icmp .ge 25, 3) := dk_162 0 25 (dk_at dksX8_person_2 8 rfl rfl)
theorem dX8_person_59 : decode cX8_person 59 = .ok (.aload_n 0, 1) := dk_42 (dk_at dksX8_person_2 11 rfl rfl)
theorem dX8_person_60 : decode cX8_person 60 = .ok (.getfield 7, 3) := dk_180 0 7 (dk_at dksX8_person_2 12 rfl rfl)
theorem dX8_person_63 : decode cX8_person 63 = .ok (.bipush 40, 2) := dk_16 40 (dk_at dksX8_person_2 15 rfl rfl)
theorem dX8_person_65 : decode cX8_person 65 = .ok (.aload_n 0, 1) := dk_42 (dk_at dksX8_person_2 17 rfl rfl)
theorem dX8_person_66 : decode cX8_person 66 = .ok (.getfield 64, 3) := dk_180 0 64 (dk_at dksX8_person_2 18 rfl rfl)
theorem dX8_person_69 : decode cX8_person 69 = .ok (.imul, 1) := dk_104 (dk_at dksX8_person_2 21 rfl rfl)
theorem dX8_person_70 : decode cX8_person 70 = .ok (.iload 4, 2) := dk_21 4 (dk_at dksX8_person_2 22 rfl rfl)
theorem dX8_person_72 : decode cX8_person 72 = .ok (.iadd, 1) := dk_96 (dk_at dksX8_person_3 0 rfl rfl)
theorem dX8_person_73 : decode cX8_person 73 = .ok (.iconst 0, 1) := dk_3 (dk_at dksX8_person_3 1 rfl rfl)
theorem dX8_person_74 : decode cX8_person 74 = .ok (.iastore, 1) := dk_79 (dk_at dksX8_person_3 2 rfl rfl)
theorem dX8_person_75 : decode cX8_person 75 = .ok (.iinc 4 1, 3) := dk_132 4 1 (dk_at dksX8_person_3 3 rfl rfl)
theorem dX8_person_78 : decode cX8_person 78 = .ok (.goto (-26), 3) := dk_167 255 230 (dk_at dksX8_person_3 6 rfl rfl)
theorem dX8_person_81 : decode cX8_person 81 = .ok (.aload_n 0, 1) := dk_42 (dk_at dksX8_person_3 9 rfl rfl)
theorem dX8_person_82 : decode cX8_person 82 = .ok (.getfield 7, 3) := dk_180 0 7 (dk_at dksX8_person_3 10 rfl rfl)
theorem dX8_person_85 : decode cX8_person 85 = .ok (.bipush 40, 2) := dk_16 40 (dk_at dksX8_person_3 13 rfl rfl)
theorem dX8_person_87 : decode cX8_person 87 = .ok (.aload_n 0, 1) := dk_42 (dk_at dksX8_person_3 15 rfl rfl)
theorem dX8_person_88 : decode cX8_person 88 = .ok (.getfield 64, 3) := dk_180 0 64 (dk_at dksX8_person_3 16 rfl rfl)
theorem dX8_person_91 : decode cX8_person 91 = .ok (.imul, 1) := dk_104 (dk_at dksX8_person_3 19 rfl rfl)
theorem dX8_person_92 : decode cX8_person 92 = .ok (.iload_n 1, 1) := dk_27 (dk_at dksX8_person_3 20 rfl rfl)
theorem dX8_person_93 : decode cX8_person 93 = .ok (.iastore, 1) := dk_79 (dk_at dksX8_person_3 21 rfl rfl)
theorem dX8_person_94 : decode cX8_person 94 = .ok (.aload_n 0, 1) := dk_42 (dk_at dksX8_person_3 22 rfl rfl)
theorem dX8_person_95 : decode cX8_person 95 = .ok (.getfield 7, 3) := dk_180 0 7 (dk_at dksX8_person_4 0 rfl rfl)
theorem dX8_person_98 : decode cX8_person 98 = .ok (.bipush 40, 2) := dk_16 40 (dk_at dksX8_person_4 3 rfl rfl)
theorem dX8_person_100 : decode cX8_person 100 = .ok (.aload_n 0, 1) := dk_42 (dk_at dksX8_person_4 5 rfl rfl)
theorem dX8_person_101 : decode cX8_person 101 = .ok (.getfield 64, 3) := dk_180 0 64 (dk_at dksX8_person_4 6 rfl rfl)
theorem dX8_person_104 : decode cX8_person 104 = .ok (.imul, 1) := dk_104 (dk_at dksX8_person_4 9 rfl rfl)
theorem dX8_person_105 : decode cX8_person 105 = .ok (.iconst 1, 1) := dk_4 (dk_at dksX8_person_4 10 rfl rfl)
theorem dX8_person_106 : decode cX8_person 106 = .ok (.iadd, 1) := dk_96 (dk_at dksX8_person_4 11 rfl rfl)
theorem dX8_person_107 : decode cX8_person 107 = .ok (.iload_n 2, 1) := dk_28 (dk_at dksX8_person_4 12 rfl rfl)
theorem dX8_person_108 : decode cX8_person 108 = .ok (.iastore, 1) := dk_79 (dk_at dksX8_person_4 13 rfl rfl)
theorem dX8_person_109 : decode cX8_person 109 = .ok (.aload_n 0, 1) := dk_42 (dk_at dksX8_person_4 14 rfl rfl)
theorem dX8_person_110 : decode cX8_person 110 = .ok (.getfield 7, 3) := dk_180 0 7 (dk_at dksX8_person_4 15 rfl rfl)
theorem dX8_person_113 : decode cX8_person 113 = .ok (.bipush 40, 2) := dk_16 40 (dk_at dksX8_person_4 18 rfl rfl)
theorem dX8_person_115 : decode cX8_person 115 = .ok (.aload_n 0, 1) := dk_42 (dk_at dksX8_person_4 20 rfl rfl)
theorem dX8_person_116 : decode cX8_person 116 = .ok (.getfield 64, 3) := dk_180 0 64 (dk_at dksX8_person_4 21 rfl rfl)
theorem dX8_person_119 : decode cX8_person 119 = .ok (.imul, 1) := dk_104 (dk_at dksX8_person_5 0 rfl rfl)
theorem dX8_person_120 : decode cX8_person 120 = .ok (.iconst 2, 1) := dk_5 (dk_at dksX8_person_5 1 rfl rfl)
theorem dX8_person_121 : decode cX8_person 121 = .ok (.iadd, 1) := dk_96 (dk_at dksX8_person_5 2 rfl rfl)
theorem dX8_person_122 : decode cX8_person 122 = .ok (.iload_n 3, 1) := dk_29 (dk_at dksX8_person_5 3 rfl rfl)
theorem dX8_person_123 : decode cX8_person 123 = .ok (.iastore, 1) := dk_79 (dk_at dksX8_person_5 4 rfl rfl)
theorem dX8_person_124 : decode cX8_person 124 = .ok (.aload_n 0, 1) := dk_42 (dk_at dksX8_person_5 5 rfl rfl)
theorem dX8_person_125 : decode cX8_person 125 = .ok (.getfield 7, 3) := dk_180 0 7 (dk_at dksX8_person_5 6 rfl rfl)
theorem dX8_person_128 : decode cX8_person 128 = .ok (.bipush 40, 2) := dk_16 40 (dk_at dksX8_person_5 9 rfl rfl)
theorem dX8_person_130 : decode cX8_person 130 = .ok (.aload_n 0, 1) := dk_42 (dk_at dksX8_person_5 11 rfl rfl)
theorem dX8_person_131 : decode cX8_person 131 = .ok (.getfield 64, 3) := dk_180 0 64 (dk_at dksX8_person_5 12 rfl rfl)
theorem dX8_person_134 : decode cX8_person 134 = .ok (.imul, 1) := dk_104 (dk_at dksX8_person_5 15 rfl rfl)
theorem dX8_person_135 : decode cX8_person 135 = .ok (.iconst 4, 1) := dk_7 (dk_at dksX8_person_5 16 rfl rfl)
theorem dX8_person_136 : decode cX8_person 136 = .ok (.iadd, 1) := dk_96 (dk_at dksX8_person_5 17 rfl rfl)
theorem dX8_person_137 : decode cX8_person 137 = .ok (.bipush (-4), 2) := dk_16 252 (dk_at dksX8_person_5 18 rfl rfl)
theorem dX8_person_139 : decode cX8_person 139 = .ok (.iastore, 1) := dk_79 (dk_at dksX8_person_5 20 rfl rfl)
theorem dX8_person_140 : decode cX8_person 140 = .ok (.iconst 0, 1) := dk_3 (dk_at dksX8_person_5 21 rfl rfl)
theorem dX8_person_141 : decode cX8_person 141 = .ok (.istore 4, 2) := dk_54 4 (dk_at dksX8_person_5 22 rfl rfl)
theorem dX8_person_143 : decode cX8_person 143 = .ok (.iload 4, 2) := dk_21 4 (dk_at dksX8_person_6 0 rfl rfl)
theorem dX8_person_145 : decode cX8_person 145 = .ok (.iconst 5, 1) := dk_8 (dk_at dksX8_person_6 2 rfl rfl)
theorem dX8_person_146 : decode cX8_person 146 = .ok (.if_icmp .ge 24, 3) := dk_162 0 24 (dk_at dksX8_person_6 3 rfl rfl)
theorem dX8_person_149 : decode cX8_person 149 = .ok (.aload_n 0, 1) := dk_42 (dk_at dksX8_person_6 6 rfl rfl)
theorem dX8_person_150 : decode cX8_person 150 = .ok (.getfield 19, 3) := dk_180 0 19 (dk_at dksX8_person_6 7 rfl rfl)
theorem dX8_person_153 : decode cX8_person 153 = .ok (.iconst 5, 1) := dk_8 (dk_at dksX8_person_6 10 rfl rfl)
theorem dX8_person_154 : decode cX8_person 154 = .ok (.aload_n 0, 1) := dk_42 (dk_at dksX8_person_6 11 rfl rfl)
theorem dX8_person_155 : decode cX8_person 155 = .ok (.getfield 64, 3) := dk_180 0 64 (dk_at dksX8_person_6 12 rfl rfl)
theorem dX8_person_158 : decode cX8_person 158 = .ok (.imul, 1) := dk_104 (dk_at dksX8_person_6 15 rfl rfl)
theorem dX8_person_159 : decode cX8_person 159 = .ok (.iload 4, 2) := dk_21 4 (dk_at dksX8_person_6 16 rfl rfl)
theorem dX8_person_161 : decode cX8_person 161 = .ok (.iadd, 1) := dk_96 (dk_at dksX8_person_6 18 rfl rfl)
theorem dX8_person_162 : decode cX8_person 162 = .ok (.iconst 0, 1) := dk_3 (dk_at dksX8_person_6 19 rfl rfl)
theorem dX8_person_163 : decode cX8_person 163 = .ok (.iastore, 1) := dk_79 (dk_at dksX8_person_6 20 rfl rfl)
theorem dX8_person_164 : decode cX8_person 164 = .ok (.iinc 4 1, 3) := dk_132 4 1 (dk_at dksX8_person_6 21 rfl rfl)
theorem dX8_person_167 : decode cX8_person 167 = .ok (.goto (-24), 3) := dk_167 255 232 (dk_at dksX8_person_7 0 rfl rfl)
theorem dX8_person_170 : decode cX8_person 170 = .ok (.aload_n 0, 1) := dk_42 (dk_at dksX8_person_7 3 rfl rfl)
theorem dX8_person_171 : decode cX8_person 171 = .ok (.dup, 1) := dk_89 (dk_at dksX8_person_7 4 rfl rfl)
theorem dX8_person_172 : decode cX8_person 172 = .ok (.getfield 64, 3) := dk_180 0 64 (dk_at dksX8_person_7 5 rfl rfl)
theorem dX8_person_175 : decode cX8_person 175 = .ok (.iconst 1, 1) := dk_4 (dk_at dksX8_person_7 8 rfl rfl)
theorem dX8_person_176 : decode cX8_person 176 = .ok (.iadd, 1) := dk_96 (dk_at dksX8_person_7 9 rfl rfl)
theorem dX8_person_177 : decode cX8_person 177 = .ok (.putfield 64, 3) := dk_181 0 64 (dk_at dksX8_person_7 10 rfl rfl)
theorem dX8_person_180 : decode cX8_person 180 = .ok (.aload_n 0, 1) := dk_42 (dk_at dksX8_person_7 13 rfl rfl)
theorem dX8_person_181 : decode cX8_person 181 = .ok (.getfield 64, 3) := dk_180 0 64 (dk_at dksX8_person_7 14 rfl rfl)
theorem dX8_person_184 : decode cX8_person 184 = .ok (.iconst 1, 1) := dk_4 (dk_at dksX8_person_7 17 rfl rfl)
theorem dX8_person_185 : decode cX8_person 185 = .ok (.isub, 1) := dk_100 (dk_at dksX8_person_7 18 rfl rfl)
theorem dX8_person_186 : decode cX8_person 186 = .ok (.ireturn, 1) := dk_172 (dk_at dksX8_person_7 19 rfl rfl)
abbrev cX8_in : ByteArray := prog_10_method_2_code
def yX8_in : MethodName := ⟨RX8, "in", "(JJJ)Z"⟩
def dkwX8_in_0 : List UInt8 := [30, 32, 148, 155, 0, 14, 30, 22, 4, 148, 157, 0, 7, 4, 167, 0, 4, 3, 172]
abbrev dktX8_in_0 : List UInt8 := dkwX8_in_0 ++ []
theorem dksX8_in_0 : cX8_in.data.toList.drop 0 = dktX8_in_0 := by decide +kernel
theorem dX8_in_0 : decode cX8_in 0 = .ok (.lload_n 0, 1) := dk_30 (dk_at dksX8_in_0 0 rfl rfl)
theorem dX8_in_1 : decode cX8_in 1 = .ok (.lload_n 2, 1) := dk_32 (dk_at dksX8_in_0 1 rfl rfl)
theorem dX8_in_2 : decode cX8_in 2 = .ok (.lcmp, 1) := dk_148 (dk_at dksX8_in_0 2 rfl rfl)
theorem dX8_in_3 : decode cX8_in 3 = .ok (.ifCond .lt 14, 3) := dk_155 0 14 (dk_at dksX8_in_0 3 rfl rfl)
theorem dX8_in_6 : decode cX8_in 6 = .ok (.lload_n 0, 1) := dk_30 (dk_at dksX8_in_0 6 rfl rfl)
theorem dX8_in_7 : decode cX8_in 7 = .ok (.lload 4, 2) := dk_22 4 (dk_at dksX8_in_0 7 rfl rfl)
theorem dX8_in_9 : decode cX8_in 9 = .ok (.lcmp, 1) := dk_148 (dk_at dksX8_in_0 9 rfl rfl)
theorem dX8_in_10 : decode cX8_in 10 = .ok (.ifCond .gt 7, 3) := dk_157 0 7 (dk_at dksX8_in_0 10 rfl rfl)
theorem dX8_in_13 : decode cX8_in 13 = .ok (.iconst 1, 1) := dk_4 (dk_at dksX8_in_0 13 rfl rfl)
theorem dX8_in_14 : decode cX8_in 14 = .ok (.goto 4, 3) := dk_167 0 4 (dk_at dksX8_in_0 14 rfl rfl)
theorem dX8_in_17 : decode cX8_in 17 = .ok (.iconst 0, 1) := dk_3 (dk_at dksX8_in_0 17 rfl rfl)
theorem dX8_in_18 : decode cX8_in 18 = .ok (.ireturn, 1) := dk_172 (dk_at dksX8_in_0 18 rfl rfl)
abbrev cX8_of : ByteArray := prog_10_method_8_code
def yX8_of : MethodName := ⟨RX8, "of", "(II)I"⟩
def dkwX8_of_6 : List UInt8 := [46, 172]
abbrev dktX8_of_6 : List UInt8 := dkwX8_of_6 ++ []
def dkwX8_of_5 : List UInt8 := [18, 90, 164, 0, 8, 18, 90, 167, 0, 18, 29, 167, 0, 14, 42, 180, 0, 7, 16, 40, 27, 104, 7, 96]
abbrev dktX8_of_5 : List UInt8 := dkwX8_of_5 ++ dktX8_of_6
def dkwX8_of_4 : List UInt8 := [46, 167, 0, 47, 28, 7, 160, 0, 11, 42, 27, 182, 0, 86, 167, 0, 34, 28, 8, 160, 0, 18, 29]
abbrev dktX8_of_4 : List UInt8 := dkwX8_of_4 ++ dktX8_of_5
def dkwX8_of_3 : List UInt8 := [46, 96, 62, 132, 4, 1, 167, 255, 215, 28, 7, 162, 0, 17, 42, 180, 0, 7, 16, 40, 27, 104, 28, 96]
abbrev dktX8_of_3 : List UInt8 := dkwX8_of_3 ++ dktX8_of_4
def dkwX8_of_2 : List UInt8 := [96, 46, 162, 0, 31, 29, 42, 180, 0, 7, 16, 40, 27, 104, 16, 8, 96, 7, 21, 4, 104, 96, 4, 96]
abbrev dktX8_of_2 : List UInt8 := dkwX8_of_2 ++ dktX8_of_3
def dkwX8_of_1 : List UInt8 := [184, 0, 68, 154, 0, 5, 2, 172, 3, 62, 3, 54, 4, 21, 4, 42, 180, 0, 7, 16, 40, 27, 104, 6]
abbrev dktX8_of_1 : List UInt8 := dkwX8_of_1 ++ dktX8_of_2
def dkwX8_of_0 : List UInt8 := [42, 42, 180, 0, 7, 181, 0, 16, 42, 27, 182, 0, 80, 153, 0, 15, 28, 133, 9, 20, 0, 84]
abbrev dktX8_of_0 : List UInt8 := dkwX8_of_0 ++ dktX8_of_1
theorem dksX8_of_0 : cX8_of.data.toList.drop 0 = dktX8_of_0 := by decide +kernel
theorem dksX8_of_1 : cX8_of.data.toList.drop 22 = dktX8_of_1 := dk_seg dksX8_of_0 22 rfl rfl
theorem dksX8_of_2 : cX8_of.data.toList.drop 46 = dktX8_of_2 := dk_seg dksX8_of_1 24 rfl rfl
theorem dksX8_of_3 : cX8_of.data.toList.drop 70 = dktX8_of_3 := dk_seg dksX8_of_2 24 rfl rfl
theorem dksX8_of_4 : cX8_of.data.toList.drop 94 = dktX8_of_4 := dk_seg dksX8_of_3 24 rfl rfl
theorem dksX8_of_5 : cX8_of.data.toList.drop 117 = dktX8_of_5 := dk_seg dksX8_of_4 23 rfl rfl
theorem dksX8_of_6 : cX8_of.data.toList.drop 141 = dktX8_of_6 := dk_seg dksX8_of_5 24 rfl rfl
theorem dX8_of_0 : decode cX8_of 0 = .ok (.aload_n 0, 1) := dk_42 (dk_at dksX8_of_0 0 rfl rfl)
theorem dX8_of_1 : decode cX8_of 1 = .ok (.aload_n 0, 1) := dk_42 (dk_at dksX8_of_0 1 rfl rfl)
theorem dX8_of_2 : decode cX8_of 2 = .ok (.getfield 7, 3) := dk_180 0 7 (dk_at dksX8_of_0 2 rfl rfl)
theorem dX8_of_5 : decode cX8_of 5 = .ok (.putfield 16, 3) := dk_181 0 16 (dk_at dksX8_of_0 5 rfl rfl)
theorem dX8_of_8 : decode cX8_of 8 = .ok (.aload_n 0, 1) := dk_42 (dk_at dksX8_of_0 8 rfl rfl)
theorem dX8_of_9 : decode cX8_of 9 = .ok (.iload_n 1, 1) := dk_27 (dk_at dksX8_of_0 9 rfl rfl)
theorem dX8_of_10 : decode cX8_of 10 = .ok (.invokevirtual 80, 3) := dk_182 0 80 (dk_at dksX8_of_0 10 rfl rfl)
theorem dX8_of_13 : decode cX8_of 13 = .ok (.ifCond .eq 15, 3) := dk_153 0 15 (dk_at dksX8_of_0 13 rfl rfl)
theorem dX8_of_16 : decode cX8_of 16 = .ok (.iload_n 2, 1) := dk_28 (dk_at dksX8_of_0 16 rfl rfl)
theorem dX8_of_17 : decode cX8_of 17 = .ok (.i2l, 1) := dk_133 (dk_at dksX8_of_0 17 rfl rfl)
theorem dX8_of_18 : decode cX8_of 18 = .ok (.lconst 0, 1) := dk_9 (dk_at dksX8_of_0 18 rfl rfl)
theorem dX8_of_19 : decode cX8_of 19 = .ok (.ldc2_w 84, 3) := dk_20 0 84 (dk_at dksX8_of_0 19 rfl rfl)
theorem dX8_of_22 : decode cX8_of 22 = .ok (.invokestatic 68, 3) := dk_184 0 68 (dk_at dksX8_of_1 0 rfl rfl)
theorem dX8_of_25 : decode cX8_of 25 = .ok (.ifCond .ne 5, 3) := dk_154 0 5 (dk_at dksX8_of_1 3 rfl rfl)
theorem dX8_of_28 : decode cX8_of 28 = .ok (.iconst (-1), 1) := dk_2 (dk_at dksX8_of_1 6 rfl rfl)
theorem dX8_of_29 : decode cX8_of 29 = .ok (.ireturn, 1) := dk_172 (dk_at dksX8_of_1 7 rfl rfl)
theorem dX8_of_30 : decode cX8_of 30 = .ok (.iconst 0, 1) := dk_3 (dk_at dksX8_of_1 8 rfl rfl)
theorem dX8_of_31 : decode cX8_of 31 = .ok (.istore_n 3, 1) := dk_62 (dk_at dksX8_of_1 9 rfl rfl)
theorem dX8_of_32 : decode cX8_of 32 = .ok (.iconst 0, 1) := dk_3 (dk_at dksX8_of_1 10 rfl rfl)
theorem dX8_of_33 : decode cX8_of 33 = .ok (.istore 4, 2) := dk_54 4 (dk_at dksX8_of_1 11 rfl rfl)
theorem dX8_of_35 : decode cX8_of 35 = .ok (.iload 4, 2) := dk_21 4 (dk_at dksX8_of_1 13 rfl rfl)
theorem dX8_of_37 : decode cX8_of 37 = .ok (.aload_n 0, 1) := dk_42 (dk_at dksX8_of_1 15 rfl rfl)
theorem dX8_of_38 : decode cX8_of 38 = .ok (.getfield 7, 3) := dk_180 0 7 (dk_at dksX8_of_1 16 rfl rfl)
theorem dX8_of_41 : decode cX8_of 41 = .ok (.bipush 40, 2) := dk_16 40 (dk_at dksX8_of_1 19 rfl rfl)
theorem dX8_of_43 : decode cX8_of 43 = .ok (.iload_n 1, 1) := dk_27 (dk_at dksX8_of_1 21 rfl rfl)
theorem dX8_of_44 : decode cX8_of 44 = .ok (.imul, 1) := dk_104 (dk_at dksX8_of_1 22 rfl rfl)
theorem dX8_of_45 : decode cX8_of 45 = .ok (.iconst 3, 1) := dk_6 (dk_at dksX8_of_1 23 rfl rfl)
theorem dX8_of_46 : decode cX8_of 46 = .ok (.iadd, 1) := dk_96 (dk_at dksX8_of_2 0 rfl rfl)
theorem dX8_of_47 : decode cX8_of 47 = .ok (.iaload, 1) := dk_46 (dk_at dksX8_of_2 1 rfl rfl)
theorem dX8_of_48 : decode cX8_of 48 = .ok (.if_icmp .ge 31, 3) := dk_162 0 31 (dk_at dksX8_of_2 2 rfl rfl)
theorem dX8_of_51 : decode cX8_of 51 = .ok (.iload_n 3, 1) := dk_29 (dk_at dksX8_of_2 5 rfl rfl)
theorem dX8_of_52 : decode cX8_of 52 = .ok (.aload_n 0, 1) := dk_42 (dk_at dksX8_of_2 6 rfl rfl)
theorem dX8_of_53 : decode cX8_of 53 = .ok (.getfield 7, 3) := dk_180 0 7 (dk_at dksX8_of_2 7 rfl rfl)
theorem dX8_of_56 : decode cX8_of 56 = .ok (.bipush 40, 2) := dk_16 40 (dk_at dksX8_of_2 10 rfl rfl)
theorem dX8_of_58 : decode cX8_of 58 = .ok (.iload_n 1, 1) := dk_27 (dk_at dksX8_of_2 12 rfl rfl)
theorem dX8_of_59 : decode cX8_of 59 = .ok (.imul, 1) := dk_104 (dk_at dksX8_of_2 13 rfl rfl)
theorem dX8_of_60 : decode cX8_of 60 = .ok (.bipush 8, 2) := dk_16 8 (dk_at dksX8_of_2 14 rfl rfl)
theorem dX8_of_62 : decode cX8_of 62 = .ok (.iadd, 1) := dk_96 (dk_at dksX8_of_2 16 rfl rfl)
theorem dX8_of_63 : decode cX8_of 63 = .ok (.iconst 4, 1) := dk_7 (dk_at dksX8_of_2 17 rfl rfl)
theorem dX8_of_64 : decode cX8_of 64 = .ok (.iload 4, 2) := dk_21 4 (dk_at dksX8_of_2 18 rfl rfl)
theorem dX8_of_66 : decode cX8_of 66 = .ok (.imul, 1) := dk_104 (dk_at dksX8_of_2 20 rfl rfl)
theorem dX8_of_67 : decode cX8_of 67 = .ok (.iadd, 1) := dk_96 (dk_at dksX8_of_2 21 rfl rfl)
theorem dX8_of_68 : decode cX8_of 68 = .ok (.iconst 1, 1) := dk_4 (dk_at dksX8_of_2 22 rfl rfl)
theorem dX8_of_69 : decode cX8_of 69 = .ok (.iadd, 1) := dk_96 (dk_at dksX8_of_2 23 rfl rfl)
theorem dX8_of_70 : decode cX8_of 70 = .ok (.iaload, 1) := dk_46 (dk_at dksX8_of_3 0 rfl rfl)
theorem dX8_of_71 : decode cX8_of 71 = .ok (.iadd, 1) := dk_96 (dk_at dksX8_of_3 1 rfl rfl)
theorem dX8_of_72 : decode cX8_of 72 = .ok (.istore_n 3, 1) := dk_62 (dk_at dksX8_of_3 2 rfl rfl)
theorem dX8_of_73 : decode cX8_of 73 = .ok (.iinc 4 1, 3) := dk_132 4 1 (dk_at dksX8_of_3 3 rfl rfl)
theorem dX8_of_76 : decode cX8_of 76 = .ok (.goto (-41), 3) := dk_167 255 215 (dk_at dksX8_of_3 6 rfl rfl)
theorem dX8_of_79 : decode cX8_of 79 = .ok (.iload_n 2, 1) := dk_28 (dk_at dksX8_of_3 9 rfl rfl)
theorem dX8_of_80 : decode cX8_of 80 = .ok (.iconst 4, 1) := dk_7 (dk_at dksX8_of_3 10 rfl rfl)
theorem dX8_of_81 : decode cX8_of 81 = .ok (.if_icmp .ge 17, 3) := dk_162 0 17 (dk_at dksX8_of_3 11 rfl rfl)
theorem dX8_of_84 : decode cX8_of 84 = .ok (.aload_n 0, 1) := dk_42 (dk_at dksX8_of_3 14 rfl rfl)
theorem dX8_of_85 : decode cX8_of 85 = .ok (.getfield 7, 3) := dk_180 0 7 (dk_at dksX8_of_3 15 rfl rfl)
theorem dX8_of_88 : decode cX8_of 88 = .ok (.bipush 40, 2) := dk_16 40 (dk_at dksX8_of_3 18 rfl rfl)
theorem dX8_of_90 : decode cX8_of 90 = .ok (.iload_n 1, 1) := dk_27 (dk_at dksX8_of_3 20 rfl rfl)
theorem dX8_of_91 : decode cX8_of 91 = .ok (.imul, 1) := dk_104 (dk_at dksX8_of_3 21 rfl rfl)
theorem dX8_of_92 : decode cX8_of 92 = .ok (.iload_n 2, 1) := dk_28 (dk_at dksX8_of_3 22 rfl rfl)
theorem dX8_of_93 : decode cX8_of 93 = .ok (.iadd, 1) := dk_96 (dk_at dksX8_of_3 23 rfl rfl)
theorem dX8_of_94 : decode cX8_of 94 = .ok (.iaload, 1) := dk_46 (dk_at dksX8_of_4 0 rfl rfl)
theorem dX8_of_95 : decode cX8_of 95 = .ok (.goto 47, 3) := dk_167 0 47 (dk_at dksX8_of_4 1 rfl rfl)
theorem dX8_of_98 : decode cX8_of 98 = .ok (.iload_n 2, 1) := dk_28 (dk_at dksX8_of_4 4 rfl rfl)
theorem dX8_of_99 : decode cX8_of 99 = .ok (.iconst 4, 1) := dk_7 (dk_at dksX8_of_4 5 rfl rfl)
theorem dX8_of_100 : decode cX8_of 100 = .ok (.if_icmp .ne 11, 3) := dk_160 0 11 (dk_at dksX8_of_4 6 rfl rfl)
theorem dX8_of_103 : decode cX8_of 103 = .ok (.aload_n 0, 1) := dk_42 (dk_at dksX8_of_4 9 rfl rfl)
theorem dX8_of_104 : decode cX8_of 104 = .ok (.iload_n 1, 1) := dk_27 (dk_at dksX8_of_4 10 rfl rfl)
theorem dX8_of_105 : decode cX8_of 105 = .ok (.invokevirtual 86, 3) := dk_182 0 86 (dk_at dksX8_of_4 11 rfl rfl)
theorem dX8_of_108 : decode cX8_of 108 = .ok (.goto 34, 3) := dk_167 0 34 (dk_at dksX8_of_4 14 rfl rfl)
theorem dX8_of_111 : decode cX8_of 111 = .ok (.iload_n 2, 1) := dk_28 (dk_at dksX8_of_4 17 rfl rfl)
theorem dX8_of_112 : decode cX8_of 112 = .ok (.iconst 5, 1) := dk_8 (dk_at dksX8_of_4 18 rfl rfl)
theorem dX8_of_113 : decode cX8_of 113 = .ok (.if_icmp .ne 18, 3) := dk_160 0 18 (dk_at dksX8_of_4 19 rfl rfl)
theorem dX8_of_116 : decode cX8_of 116 = .ok (.iload_n 3, 1) := dk_29 (dk_at dksX8_of_4 22 rfl rfl)
theorem dX8_of_117 : decode cX8_of 117 = .ok (.ldc 90, 2) := dk_18 90 (dk_at dksX8_of_5 0 rfl rfl)
theorem dX8_of_119 : decode cX8_of 119 = .ok (.if_icmp .le 8, 3) := dk_164 0 8 (dk_at dksX8_of_5 2 rfl rfl)
theorem dX8_of_122 : decode cX8_of 122 = .ok (.ldc 90, 2) := dk_18 90 (dk_at dksX8_of_5 5 rfl rfl)
theorem dX8_of_124 : decode cX8_of 124 = .ok (.goto 18, 3) := dk_167 0 18 (dk_at dksX8_of_5 7 rfl rfl)
theorem dX8_of_127 : decode cX8_of 127 = .ok (.iload_n 3, 1) := dk_29 (dk_at dksX8_of_5 10 rfl rfl)
theorem dX8_of_128 : decode cX8_of 128 = .ok (.goto 14, 3) := dk_167 0 14 (dk_at dksX8_of_5 11 rfl rfl)
theorem dX8_of_131 : decode cX8_of 131 = .ok (.aload_n 0, 1) := dk_42 (dk_at dksX8_of_5 14 rfl rfl)
theorem dX8_of_132 : decode cX8_of 132 = .ok (.getfield 7, 3) := dk_180 0 7 (dk_at dksX8_of_5 15 rfl rfl)
theorem dX8_of_135 : decode cX8_of 135 = .ok (.bipush 40, 2) := dk_16 40 (dk_at dksX8_of_5 18 rfl rfl)
theorem dX8_of_137 : decode cX8_of 137 = .ok (.iload_n 1, 1) := dk_27 (dk_at dksX8_of_5 20 rfl rfl)
theorem dX8_of_138 : decode cX8_of 138 = .ok (.imul, 1) := dk_104 (dk_at dksX8_of_5 21 rfl rfl)
theorem dX8_of_139 : decode cX8_of 139 = .ok (.iconst 4, 1) := dk_7 (dk_at dksX8_of_5 22 rfl rfl)
theorem dX8_of_140 : decode cX8_of 140 = .ok (.iadd, 1) := dk_96 (dk_at dksX8_of_5 23 rfl rfl)
theorem dX8_of_141 : decode cX8_of 141 = .ok (.iaload, 1) := dk_46 (dk_at dksX8_of_6 0 rfl rfl)
theorem dX8_of_142 : decode cX8_of 142 = .ok (.ireturn, 1) := dk_172 (dk_at dksX8_of_6 1 rfl rfl)
abbrev cX8_isOne : ByteArray := prog_10_method_4_code
def yX8_isOne : MethodName := ⟨RX8, "isOne", "(I)Z"⟩
def dkwX8_isOne_0 : List UInt8 := [27, 133, 9, 42, 180, 0, 64, 4, 100, 133, 184, 0, 68, 172]
abbrev dktX8_isOne_0 : List UInt8 := dkwX8_isOne_0 ++ []
theorem dksX8_isOne_0 : cX8_isOne.data.toList.drop 0 = dktX8_isOne_0 := by decide +kernel
theorem dX8_isOne_0 : decode cX8_isOne 0 = .ok (.iload_n 1, 1) := dk_27 (dk_at dksX8_isOne_0 0 rfl rfl)
theorem dX8_isOne_1 : decode cX8_isOne 1 = .ok (.i2l, 1) := dk_133 (dk_at dksX8_isOne_0 1 rfl rfl)
theorem dX8_isOne_2 : decode cX8_isOne 2 = .ok (.lconst 0, 1) := dk_9 (dk_at dksX8_isOne_0 2 rfl rfl)
theorem dX8_isOne_3 : decode cX8_isOne 3 = .ok (.aload_n 0, 1) := dk_42 (dk_at dksX8_isOne_0 3 rfl rfl)
theorem dX8_isOne_4 : decode cX8_isOne 4 = .ok (.getfield 64, 3) := dk_180 0 64 (dk_at dksX8_isOne_0 4 rfl rfl)
theorem dX8_isOne_7 : decode cX8_isOne 7 = .ok (.iconst 1, 1) := dk_4 (dk_at dksX8_isOne_0 7 rfl rfl)
theorem dX8_isOne_8 : decode cX8_isOne 8 = .ok (.isub, 1) := dk_100 (dk_at dksX8_isOne_0 8 rfl rfl)
theorem dX8_isOne_9 : decode cX8_isOne 9 = .ok (.i2l, 1) := dk_133 (dk_at dksX8_isOne_0 9 rfl rfl)
theorem dX8_isOne_10 : decode cX8_isOne 10 = .ok (.invokestatic 68, 3) := dk_184 0 68 (dk_at dksX8_isOne_0 10 rfl rfl)
theorem dX8_isOne_13 : decode cX8_isOne 13 = .ok (.ireturn, 1) := dk_172 (dk_at dksX8_isOne_0 13 rfl rfl)
abbrev cX8_thickOf : ByteArray := prog_10_method_7_code
def yX8_thickOf : MethodName := ⟨RX8, "thickOf", "(I)I"⟩
def dkwX8_thickOf_1 : List UInt8 := [16, 40, 27, 104, 16, 8, 96, 7, 29, 104, 96, 6, 96, 46, 96, 61, 132, 3, 1, 167, 255, 217, 28, 172]
abbrev dktX8_thickOf_1 : List UInt8 := dkwX8_thickOf_1 ++ []
def dkwX8_thickOf_0 : List UInt8 := [3, 61, 3, 62, 29, 42, 180, 0, 16, 16, 40, 27, 104, 6, 96, 46, 162, 0, 30, 28, 42, 180, 0, 16]
abbrev dktX8_thickOf_0 : List UInt8 := dkwX8_thickOf_0 ++ dktX8_thickOf_1
theorem dksX8_thickOf_0 : cX8_thickOf.data.toList.drop 0 = dktX8_thickOf_0 := by decide +kernel
theorem dksX8_thickOf_1 : cX8_thickOf.data.toList.drop 24 = dktX8_thickOf_1 := dk_seg dksX8_thickOf_0 24 rfl rfl
theorem dX8_thickOf_0 : decode cX8_thickOf 0 = .ok (.iconst 0, 1) := dk_3 (dk_at dksX8_thickOf_0 0 rfl rfl)
theorem dX8_thickOf_1 : decode cX8_thickOf 1 = .ok (.istore_n 2, 1) := dk_61 (dk_at dksX8_thickOf_0 1 rfl rfl)
theorem dX8_thickOf_2 : decode cX8_thickOf 2 = .ok (.iconst 0, 1) := dk_3 (dk_at dksX8_thickOf_0 2 rfl rfl)
theorem dX8_thickOf_3 : decode cX8_thickOf 3 = .ok (.istore_n 3, 1) := dk_62 (dk_at dksX8_thickOf_0 3 rfl rfl)
theorem dX8_thickOf_4 : decode cX8_thickOf 4 = .ok (.iload_n 3, 1) := dk_29 (dk_at dksX8_thickOf_0 4 rfl rfl)
theorem dX8_thickOf_5 : decode cX8_thickOf 5 = .ok (.aload_n 0, 1) := dk_42 (dk_at dksX8_thickOf_0 5 rfl rfl)
theorem dX8_thickOf_6 : decode cX8_thickOf 6 = .ok (.getfield 16, 3) := dk_180 0 16 (dk_at dksX8_thickOf_0 6 rfl rfl)
theorem dX8_thickOf_9 : decode cX8_thickOf 9 = .ok (.bipush 40, 2) := dk_16 40 (dk_at dksX8_thickOf_0 9 rfl rfl)
theorem dX8_thickOf_11 : decode cX8_thickOf 11 = .ok (.iload_n 1, 1) := dk_27 (dk_at dksX8_thickOf_0 11 rfl rfl)
theorem dX8_thickOf_12 : decode cX8_thickOf 12 = .ok (.imul, 1) := dk_104 (dk_at dksX8_thickOf_0 12 rfl rfl)
theorem dX8_thickOf_13 : decode cX8_thickOf 13 = .ok (.iconst 3, 1) := dk_6 (dk_at dksX8_thickOf_0 13 rfl rfl)
theorem dX8_thickOf_14 : decode cX8_thickOf 14 = .ok (.iadd, 1) := dk_96 (dk_at dksX8_thickOf_0 14 rfl rfl)
theorem dX8_thickOf_15 : decode cX8_thickOf 15 = .ok (.iaload, 1) := dk_46 (dk_at dksX8_thickOf_0 15 rfl rfl)
theorem dX8_thickOf_16 : decode cX8_thickOf 16 = .ok (.if_icmp .ge 30, 3) := dk_162 0 30 (dk_at dksX8_thickOf_0 16 rfl rfl)
theorem dX8_thickOf_19 : decode cX8_thickOf 19 = .ok (.iload_n 2, 1) := dk_28 (dk_at dksX8_thickOf_0 19 rfl rfl)
theorem dX8_thickOf_20 : decode cX8_thickOf 20 = .ok (.aload_n 0, 1) := dk_42 (dk_at dksX8_thickOf_0 20 rfl rfl)
theorem dX8_thickOf_21 : decode cX8_thickOf 21 = .ok (.getfield 16, 3) := dk_180 0 16 (dk_at dksX8_thickOf_0 21 rfl rfl)
theorem dX8_thickOf_24 : decode cX8_thickOf 24 = .ok (.bipush 40, 2) := dk_16 40 (dk_at dksX8_thickOf_1 0 rfl rfl)
theorem dX8_thickOf_26 : decode cX8_thickOf 26 = .ok (.iload_n 1, 1) := dk_27 (dk_at dksX8_thickOf_1 2 rfl rfl)
theorem dX8_thickOf_27 : decode cX8_thickOf 27 = .ok (.imul, 1) := dk_104 (dk_at dksX8_thickOf_1 3 rfl rfl)
theorem dX8_thickOf_28 : decode cX8_thickOf 28 = .ok (.bipush 8, 2) := dk_16 8 (dk_at dksX8_thickOf_1 4 rfl rfl)
theorem dX8_thickOf_30 : decode cX8_thickOf 30 = .ok (.iadd, 1) := dk_96 (dk_at dksX8_thickOf_1 6 rfl rfl)
theorem dX8_thickOf_31 : decode cX8_thickOf 31 = .ok (.iconst 4, 1) := dk_7 (dk_at dksX8_thickOf_1 7 rfl rfl)
theorem dX8_thickOf_32 : decode cX8_thickOf 32 = .ok (.iload_n 3, 1) := dk_29 (dk_at dksX8_thickOf_1 8 rfl rfl)
theorem dX8_thickOf_33 : decode cX8_thickOf 33 = .ok (.imul, 1) := dk_104 (dk_at dksX8_thickOf_1 9 rfl rfl)
theorem dX8_thickOf_34 : decode cX8_thickOf 34 = .ok (.iadd, 1) := dk_96 (dk_at dksX8_thickOf_1 10 rfl rfl)
theorem dX8_thickOf_35 : decode cX8_thickOf 35 = .ok (.iconst 3, 1) := dk_6 (dk_at dksX8_thickOf_1 11 rfl rfl)
theorem dX8_thickOf_36 : decode cX8_thickOf 36 = .ok (.iadd, 1) := dk_96 (dk_at dksX8_thickOf_1 12 rfl rfl)
theorem dX8_thickOf_37 : decode cX8_thickOf 37 = .ok (.iaload, 1) := dk_46 (dk_at dksX8_thickOf_1 13 rfl rfl)
theorem dX8_thickOf_38 : decode cX8_thickOf 38 = .ok (.iadd, 1) := dk_96 (dk_at dksX8_thickOf_1 14 rfl rfl)
theorem dX8_thickOf_39 : decode cX8_thickOf 39 = .ok (.istore_n 2, 1) := dk_61 (dk_at dksX8_thickOf_1 15 rfl rfl)
theorem dX8_thickOf_40 : decode cX8_thickOf 40 = .ok (.iinc 3 1, 3) := dk_132 3 1 (dk_at dksX8_thickOf_1 16 rfl rfl)
theorem dX8_thickOf_43 : decode cX8_thickOf 43 = .ok (.goto (-39), 3) := dk_167 255 217 (dk_at dksX8_thickOf_1 19 rfl rfl)
theorem dX8_thickOf_46 : decode cX8_thickOf 46 = .ok (.iload_n 2, 1) := dk_28 (dk_at dksX8_thickOf_1 22 rfl rfl)
theorem dX8_thickOf_47 : decode cX8_thickOf 47 = .ok (.ireturn, 1) := dk_172 (dk_at dksX8_thickOf_1 23 rfl rfl)
abbrev cX8_coat : ByteArray := prog_10_method_10_code
def yX8_coat : MethodName := ⟨RX8, "coat", "(III)I"⟩
def dkwX8_coat_1 : List UInt8 := [180, 0, 7, 16, 40, 27, 104, 16, 8, 96, 7, 28, 104, 96, 29, 96, 46, 167, 0, 4, 2, 172]
abbrev dktX8_coat_1 : List UInt8 := dkwX8_coat_1 ++ []
def dkwX8_coat_0 : List UInt8 := [42, 27, 28, 182, 0, 91, 153, 0, 36, 29, 133, 9, 20, 0, 95, 184, 0, 68, 153, 0, 24, 42]
abbrev dktX8_coat_0 : List UInt8 := dkwX8_coat_0 ++ dktX8_coat_1
theorem dksX8_coat_0 : cX8_coat.data.toList.drop 0 = dktX8_coat_0 := by decide +kernel
theorem dksX8_coat_1 : cX8_coat.data.toList.drop 22 = dktX8_coat_1 := dk_seg dksX8_coat_0 22 rfl rfl
theorem dX8_coat_0 : decode cX8_coat 0 = .ok (.aload_n 0, 1) := dk_42 (dk_at dksX8_coat_0 0 rfl rfl)
theorem dX8_coat_1 : decode cX8_coat 1 = .ok (.iload_n 1, 1) := dk_27 (dk_at dksX8_coat_0 1 rfl rfl)
theorem dX8_coat_2 : decode cX8_coat 2 = .ok (.iload_n 2, 1) := dk_28 (dk_at dksX8_coat_0 2 rfl rfl)
theorem dX8_coat_3 : decode cX8_coat 3 = .ok (.invokevirtual 91, 3) := dk_182 0 91 (dk_at dksX8_coat_0 3 rfl rfl)
theorem dX8_coat_6 : decode cX8_coat 6 = .ok (.ifCond .eq 36, 3) := dk_153 0 36 (dk_at dksX8_coat_0 6 rfl rfl)
theorem dX8_coat_9 : decode cX8_coat 9 = .ok (.iload_n 3, 1) := dk_29 (dk_at dksX8_coat_0 9 rfl rfl)
theorem dX8_coat_10 : decode cX8_coat 10 = .ok (.i2l, 1) := dk_133 (dk_at dksX8_coat_0 10 rfl rfl)
theorem dX8_coat_11 : decode cX8_coat 11 = .ok (.lconst 0, 1) := dk_9 (dk_at dksX8_coat_0 11 rfl rfl)
theorem dX8_coat_12 : decode cX8_coat 12 = .ok (.ldc2_w 95, 3) := dk_20 0 95 (dk_at dksX8_coat_0 12 rfl rfl)
theorem dX8_coat_15 : decode cX8_coat 15 = .ok (.invokestatic 68, 3) := dk_184 0 68 (dk_at dksX8_coat_0 15 rfl rfl)
theorem dX8_coat_18 : decode cX8_coat 18 = .ok (.ifCond .eq 24, 3) := dk_153 0 24 (dk_at dksX8_coat_0 18 rfl rfl)
theorem dX8_coat_21 : decode cX8_coat 21 = .ok (.aload_n 0, 1) := dk_42 (dk_at dksX8_coat_0 21 rfl rfl)
theorem dX8_coat_22 : decode cX8_coat 22 = .ok (.getfield 7, 3) := dk_180 0 7 (dk_at dksX8_coat_1 0 rfl rfl)
theorem dX8_coat_25 : decode cX8_coat 25 = .ok (.bipush 40, 2) := dk_16 40 (dk_at dksX8_coat_1 3 rfl rfl)
theorem dX8_coat_27 : decode cX8_coat 27 = .ok (.iload_n 1, 1) := dk_27 (dk_at dksX8_coat_1 5 rfl rfl)
theorem dX8_coat_28 : decode cX8_coat 28 = .ok (.imul, 1) := dk_104 (dk_at dksX8_coat_1 6 rfl rfl)
theorem dX8_coat_29 : decode cX8_coat 29 = .ok (.bipush 8, 2) := dk_16 8 (dk_at dksX8_coat_1 7 rfl rfl)
theorem dX8_coat_31 : decode cX8_coat 31 = .ok (.iadd, 1) := dk_96 (dk_at dksX8_coat_1 9 rfl rfl)
theorem dX8_coat_32 : decode cX8_coat 32 = .ok (.iconst 4, 1) := dk_7 (dk_at dksX8_coat_1 10 rfl rfl)
theorem dX8_coat_33 : decode cX8_coat 33 = .ok (.iload_n 2, 1) := dk_28 (dk_at dksX8_coat_1 11 rfl rfl)
theorem dX8_coat_34 : decode cX8_coat 34 = .ok (.imul, 1) := dk_104 (dk_at dksX8_coat_1 12 rfl rfl)
theorem dX8_coat_35 : decode cX8_coat 35 = .ok (.iadd, 1) := dk_96 (dk_at dksX8_coat_1 13 rfl rfl)
theorem dX8_coat_36 : decode cX8_coat 36 = .ok (.iload_n 3, 1) := dk_29 (dk_at dksX8_coat_1 14 rfl rfl)
theorem dX8_coat_37 : decode cX8_coat 37 = .ok (.iadd, 1) := dk_96 (dk_at dksX8_coat_1 15 rfl rfl)
theorem dX8_coat_38 : decode cX8_coat 38 = .ok (.iaload, 1) := dk_46 (dk_at dksX8_coat_1 16 rfl rfl)
theorem dX8_coat_39 : decode cX8_coat 39 = .ok (.goto 4, 3) := dk_167 0 4 (dk_at dksX8_coat_1 17 rfl rfl)
theorem dX8_coat_42 : decode cX8_coat 42 = .ok (.iconst (-1), 1) := dk_2 (dk_at dksX8_coat_1 20 rfl rfl)
theorem dX8_coat_43 : decode cX8_coat 43 = .ok (.ireturn, 1) := dk_172 (dk_at dksX8_coat_1 21 rfl rfl)
abbrev cX8_isCoat : ByteArray := prog_10_method_9_code
def yX8_isCoat : MethodName := ⟨RX8, "isCoat", "(II)Z"⟩
def dkwX8_isCoat_1 : List UInt8 := [133, 184, 0, 68, 153, 0, 7, 4, 167, 0, 4, 3, 172]
abbrev dktX8_isCoat_1 : List UInt8 := dkwX8_isCoat_1 ++ []
def dkwX8_isCoat_0 : List UInt8 := [42, 27, 182, 0, 80, 153, 0, 30, 28, 133, 9, 42, 180, 0, 7, 16, 40, 27, 104, 6, 96, 46, 4, 100]
abbrev dktX8_isCoat_0 : List UInt8 := dkwX8_isCoat_0 ++ dktX8_isCoat_1
theorem dksX8_isCoat_0 : cX8_isCoat.data.toList.drop 0 = dktX8_isCoat_0 := by decide +kernel
theorem dksX8_isCoat_1 : cX8_isCoat.data.toList.drop 24 = dktX8_isCoat_1 := dk_seg dksX8_isCoat_0 24 rfl rfl
theorem dX8_isCoat_0 : decode cX8_isCoat 0 = .ok (.aload_n 0, 1) := dk_42 (dk_at dksX8_isCoat_0 0 rfl rfl)
theorem dX8_isCoat_1 : decode cX8_isCoat 1 = .ok (.iload_n 1, 1) := dk_27 (dk_at dksX8_isCoat_0 1 rfl rfl)
theorem dX8_isCoat_2 : decode cX8_isCoat 2 = .ok (.invokevirtual 80, 3) := dk_182 0 80 (dk_at dksX8_isCoat_0 2 rfl rfl)
theorem dX8_isCoat_5 : decode cX8_isCoat 5 = .ok (.ifCond .eq 30, 3) := dk_153 0 30 (dk_at dksX8_isCoat_0 5 rfl rfl)
theorem dX8_isCoat_8 : decode cX8_isCoat 8 = .ok (.iload_n 2, 1) := dk_28 (dk_at dksX8_isCoat_0 8 rfl rfl)
theorem dX8_isCoat_9 : decode cX8_isCoat 9 = .ok (.i2l, 1) := dk_133 (dk_at dksX8_isCoat_0 9 rfl rfl)
theorem dX8_isCoat_10 : decode cX8_isCoat 10 = .ok (.lconst 0, 1) := dk_9 (dk_at dksX8_isCoat_0 10 rfl rfl)
theorem dX8_isCoat_11 : decode cX8_isCoat 11 = .ok (.aload_n 0, 1) := dk_42 (dk_at dksX8_isCoat_0 11 rfl rfl)
theorem dX8_isCoat_12 : decode cX8_isCoat 12 = .ok (.getfield 7, 3) := dk_180 0 7 (dk_at dksX8_isCoat_0 12 rfl rfl)
theorem dX8_isCoat_15 : decode cX8_isCoat 15 = .ok (.bipush 40, 2) := dk_16 40 (dk_at dksX8_isCoat_0 15 rfl rfl)
theorem dX8_isCoat_17 : decode cX8_isCoat 17 = .ok (.iload_n 1, 1) := dk_27 (dk_at dksX8_isCoat_0 17 rfl rfl)
theorem dX8_isCoat_18 : decode cX8_isCoat 18 = .ok (.imul, 1) := dk_104 (dk_at dksX8_isCoat_0 18 rfl rfl)
theorem dX8_isCoat_19 : decode cX8_isCoat 19 = .ok (.iconst 3, 1) := dk_6 (dk_at dksX8_isCoat_0 19 rfl rfl)
theorem dX8_isCoat_20 : decode cX8_isCoat 20 = .ok (.iadd, 1) := dk_96 (dk_at dksX8_isCoat_0 20 rfl rfl)
theorem dX8_isCoat_21 : decode cX8_isCoat 21 = .ok (.iaload, 1) := dk_46 (dk_at dksX8_isCoat_0 21 rfl rfl)
theorem dX8_isCoat_22 : decode cX8_isCoat 22 = .ok (.iconst 1, 1) := dk_4 (dk_at dksX8_isCoat_0 22 rfl rfl)
theorem dX8_isCoat_23 : decode cX8_isCoat 23 = .ok (.isub, 1) := dk_100 (dk_at dksX8_isCoat_0 23 rfl rfl)
theorem dX8_isCoat_24 : decode cX8_isCoat 24 = .ok (.i2l, 1) := dk_133 (dk_at dksX8_isCoat_1 0 rfl rfl)
theorem dX8_isCoat_25 : decode cX8_isCoat 25 = .ok (.invokestatic 68, 3) := dk_184 0 68 (dk_at dksX8_isCoat_1 1 rfl rfl)
theorem dX8_isCoat_28 : decode cX8_isCoat 28 = .ok (.ifCond .eq 7, 3) := dk_153 0 7 (dk_at dksX8_isCoat_1 4 rfl rfl)
theorem dX8_isCoat_31 : decode cX8_isCoat 31 = .ok (.iconst 1, 1) := dk_4 (dk_at dksX8_isCoat_1 7 rfl rfl)
theorem dX8_isCoat_32 : decode cX8_isCoat 32 = .ok (.goto 4, 3) := dk_167 0 4 (dk_at dksX8_isCoat_1 8 rfl rfl)
theorem dX8_isCoat_35 : decode cX8_isCoat 35 = .ok (.iconst 0, 1) := dk_3 (dk_at dksX8_isCoat_1 11 rfl rfl)
theorem dX8_isCoat_36 : decode cX8_isCoat 36 = .ok (.ireturn, 1) := dk_172 (dk_at dksX8_isCoat_1 12 rfl rfl)
abbrev cX8_tax : ByteArray := prog_10_method_11_code
def yX8_tax : MethodName := ⟨RX8, "tax", "(III)I"⟩
def dkwX8_tax_2 : List UInt8 := [28, 96, 29, 79, 21, 4, 172]
abbrev dktX8_tax_2 : List UInt8 := dkwX8_tax_2 ++ []
def dkwX8_tax_1 : List UInt8 := [154, 0, 5, 2, 172, 42, 180, 0, 19, 8, 27, 104, 28, 96, 46, 54, 4, 42, 180, 0, 19, 8, 27, 104]
abbrev dktX8_tax_1 : List UInt8 := dkwX8_tax_1 ++ dktX8_tax_2
def dkwX8_tax_0 : List UInt8 := [42, 27, 182, 0, 80, 153, 0, 22, 28, 184, 0, 97, 153, 0, 15, 29, 133, 9, 20, 0, 100, 184, 0, 68]
abbrev dktX8_tax_0 : List UInt8 := dkwX8_tax_0 ++ dktX8_tax_1
theorem dksX8_tax_0 : cX8_tax.data.toList.drop 0 = dktX8_tax_0 := by decide +kernel
theorem dksX8_tax_1 : cX8_tax.data.toList.drop 24 = dktX8_tax_1 := dk_seg dksX8_tax_0 24 rfl rfl
theorem dksX8_tax_2 : cX8_tax.data.toList.drop 48 = dktX8_tax_2 := dk_seg dksX8_tax_1 24 rfl rfl
theorem dX8_tax_0 : decode cX8_tax 0 = .ok (.aload_n 0, 1) := dk_42 (dk_at dksX8_tax_0 0 rfl rfl)
theorem dX8_tax_1 : decode cX8_tax 1 = .ok (.iload_n 1, 1) := dk_27 (dk_at dksX8_tax_0 1 rfl rfl)
theorem dX8_tax_2 : decode cX8_tax 2 = .ok (.invokevirtual 80, 3) := dk_182 0 80 (dk_at dksX8_tax_0 2 rfl rfl)
theorem dX8_tax_5 : decode cX8_tax 5 = .ok (.ifCond .eq 22, 3) := dk_153 0 22 (dk_at dksX8_tax_0 5 rfl rfl)
theorem dX8_tax_8 : decode cX8_tax 8 = .ok (.iload_n 2, 1) := dk_28 (dk_at dksX8_tax_0 8 rfl rfl)
theorem dX8_tax_9 : decode cX8_tax 9 = .ok (.invokestatic 97, 3) := dk_184 0 97 (dk_at dksX8_tax_0 9 rfl rfl)
theorem dX8_tax_12 : decode cX8_tax 12 = .ok (.ifCond .eq 15, 3) := dk_153 0 15 (dk_at dksX8_tax_0 12 rfl rfl)
theorem dX8_tax_15 : decode cX8_tax 15 = .ok (.iload_n 3, 1) := dk_29 (dk_at dksX8_tax_0 15 rfl rfl)
theorem dX8_tax_16 : decode cX8_tax 16 = .ok (.i2l, 1) := dk_133 (dk_at dksX8_tax_0 16 rfl rfl)
theorem dX8_tax_17 : decode cX8_tax 17 = .ok (.lconst 0, 1) := dk_9 (dk_at dksX8_tax_0 17 rfl rfl)
theorem dX8_tax_18 : decode cX8_tax 18 = .ok (.ldc2_w 100, 3) := dk_20 0 100 (dk_at dksX8_tax_0 18 rfl rfl)
theorem dX8_tax_21 : decode cX8_tax 21 = .ok (.invokestatic 68, 3) := dk_184 0 68 (dk_at dksX8_tax_0 21 rfl rfl)
theorem dX8_tax_24 : decode cX8_tax 24 = .ok (.ifCond .ne 5, 3) := dk_154 0 5 (dk_at dksX8_tax_1 0 rfl rfl)
theorem dX8_tax_27 : decode cX8_tax 27 = .ok (.iconst (-1), 1) := dk_2 (dk_at dksX8_tax_1 3 rfl rfl)
theorem dX8_tax_28 : decode cX8_tax 28 = .ok (.ireturn, 1) := dk_172 (dk_at dksX8_tax_1 4 rfl rfl)
theorem dX8_tax_29 : decode cX8_tax 29 = .ok (.aload_n 0, 1) := dk_42 (dk_at dksX8_tax_1 5 rfl rfl)
theorem dX8_tax_30 : decode cX8_tax 30 = .ok (.getfield 19, 3) := dk_180 0 19 (dk_at dksX8_tax_1 6 rfl rfl)
theorem dX8_tax_33 : decode cX8_tax 33 = .ok (.iconst 5, 1) := dk_8 (dk_at dksX8_tax_1 9 rfl rfl)
theorem dX8_tax_34 : decode cX8_tax 34 = .ok (.iload_n 1, 1) := dk_27 (dk_at dksX8_tax_1 10 rfl rfl)
theorem dX8_tax_35 : decode cX8_tax 35 = .ok (.imul, 1) := dk_104 (dk_at dksX8_tax_1 11 rfl rfl)
theorem dX8_tax_36 : decode cX8_tax 36 = .ok (.iload_n 2, 1) := dk_28 (dk_at dksX8_tax_1 12 rfl rfl)
theorem dX8_tax_37 : decode cX8_tax 37 = .ok (.iadd, 1) := dk_96 (dk_at dksX8_tax_1 13 rfl rfl)
theorem dX8_tax_38 : decode cX8_tax 38 = .ok (.iaload, 1) := dk_46 (dk_at dksX8_tax_1 14 rfl rfl)
theorem dX8_tax_39 : decode cX8_tax 39 = .ok (.istore 4, 2) := dk_54 4 (dk_at dksX8_tax_1 15 rfl rfl)
theorem dX8_tax_41 : decode cX8_tax 41 = .ok (.aload_n 0, 1) := dk_42 (dk_at dksX8_tax_1 17 rfl rfl)
theorem dX8_tax_42 : decode cX8_tax 42 = .ok (.getfield 19, 3) := dk_180 0 19 (dk_at dksX8_tax_1 18 rfl rfl)
theorem dX8_tax_45 : decode cX8_tax 45 = .ok (.iconst 5, 1) := dk_8 (dk_at dksX8_tax_1 21 rfl rfl)
theorem dX8_tax_46 : decode cX8_tax 46 = .ok (.iload_n 1, 1) := dk_27 (dk_at dksX8_tax_1 22 rfl rfl)
theorem dX8_tax_47 : decode cX8_tax 47 = .ok (.imul, 1) := dk_104 (dk_at dksX8_tax_1 23 rfl rfl)
theorem dX8_tax_48 : decode cX8_tax 48 = .ok (.iload_n 2, 1) := dk_28 (dk_at dksX8_tax_2 0 rfl rfl)
theorem dX8_tax_49 : decode cX8_tax 49 = .ok (.iadd, 1) := dk_96 (dk_at dksX8_tax_2 1 rfl rfl)
theorem dX8_tax_50 : decode cX8_tax 50 = .ok (.iload_n 3, 1) := dk_29 (dk_at dksX8_tax_2 2 rfl rfl)
theorem dX8_tax_51 : decode cX8_tax 51 = .ok (.iastore, 1) := dk_79 (dk_at dksX8_tax_2 3 rfl rfl)
theorem dX8_tax_52 : decode cX8_tax 52 = .ok (.iload 4, 2) := dk_21 4 (dk_at dksX8_tax_2 4 rfl rfl)
theorem dX8_tax_54 : decode cX8_tax 54 = .ok (.ireturn, 1) := dk_172 (dk_at dksX8_tax_2 6 rfl rfl)
abbrev cX8_isLender : ByteArray := prog_10_method_5_code
def yX8_isLender : MethodName := ⟨RX8, "isLender", "(I)Z"⟩
def dkwX8_isLender_0 : List UInt8 := [26, 133, 9, 20, 0, 72, 184, 0, 68, 172]
abbrev dktX8_isLender_0 : List UInt8 := dkwX8_isLender_0 ++ []
theorem dksX8_isLender_0 : cX8_isLender.data.toList.drop 0 = dktX8_isLender_0 := by decide +kernel
theorem dX8_isLender_0 : decode cX8_isLender 0 = .ok (.iload_n 0, 1) := dk_26 (dk_at dksX8_isLender_0 0 rfl rfl)
theorem dX8_isLender_1 : decode cX8_isLender 1 = .ok (.i2l, 1) := dk_133 (dk_at dksX8_isLender_0 1 rfl rfl)
theorem dX8_isLender_2 : decode cX8_isLender 2 = .ok (.lconst 0, 1) := dk_9 (dk_at dksX8_isLender_0 2 rfl rfl)
theorem dX8_isLender_3 : decode cX8_isLender 3 = .ok (.ldc2_w 72, 3) := dk_20 0 72 (dk_at dksX8_isLender_0 3 rfl rfl)
theorem dX8_isLender_6 : decode cX8_isLender 6 = .ok (.invokestatic 68, 3) := dk_184 0 68 (dk_at dksX8_isLender_0 6 rfl rfl)
theorem dX8_isLender_9 : decode cX8_isLender 9 = .ok (.ireturn, 1) := dk_172 (dk_at dksX8_isLender_0 9 rfl rfl)
abbrev cX8_heat : ByteArray := prog_10_method_12_code
def yX8_heat : MethodName := ⟨RX8, "heat", "(II)I"⟩
def dkwX8_heat_1 : List UInt8 := [2, 172, 42, 180, 0, 22, 27, 46, 62, 42, 180, 0, 22, 27, 28, 79, 29, 172]
abbrev dktX8_heat_1 : List UInt8 := dkwX8_heat_1 ++ []
def dkwX8_heat_0 : List UInt8 := [27, 133, 9, 20, 0, 102, 184, 0, 68, 153, 0, 15, 28, 133, 9, 20, 0, 104, 184, 0, 68, 154, 0, 5]
abbrev dktX8_heat_0 : List UInt8 := dkwX8_heat_0 ++ dktX8_heat_1
theorem dksX8_heat_0 : cX8_heat.data.toList.drop 0 = dktX8_heat_0 := by decide +kernel
theorem dksX8_heat_1 : cX8_heat.data.toList.drop 24 = dktX8_heat_1 := dk_seg dksX8_heat_0 24 rfl rfl
theorem dX8_heat_0 : decode cX8_heat 0 = .ok (.iload_n 1, 1) := dk_27 (dk_at dksX8_heat_0 0 rfl rfl)
theorem dX8_heat_1 : decode cX8_heat 1 = .ok (.i2l, 1) := dk_133 (dk_at dksX8_heat_0 1 rfl rfl)
theorem dX8_heat_2 : decode cX8_heat 2 = .ok (.lconst 0, 1) := dk_9 (dk_at dksX8_heat_0 2 rfl rfl)
theorem dX8_heat_3 : decode cX8_heat 3 = .ok (.ldc2_w 102, 3) := dk_20 0 102 (dk_at dksX8_heat_0 3 rfl rfl)
theorem dX8_heat_6 : decode cX8_heat 6 = .ok (.invokestatic 68, 3) := dk_184 0 68 (dk_at dksX8_heat_0 6 rfl rfl)
theorem dX8_heat_9 : decode cX8_heat 9 = .ok (.ifCond .eq 15, 3) := dk_153 0 15 (dk_at dksX8_heat_0 9 rfl rfl)
theorem dX8_heat_12 : decode cX8_heat 12 = .ok (.iload_n 2, 1) := dk_28 (dk_at dksX8_heat_0 12 rfl rfl)
theorem dX8_heat_13 : decode cX8_heat 13 = .ok (.i2l, 1) := dk_133 (dk_at dksX8_heat_0 13 rfl rfl)
theorem dX8_heat_14 : decode cX8_heat 14 = .ok (.lconst 0, 1) := dk_9 (dk_at dksX8_heat_0 14 rfl rfl)
theorem dX8_heat_15 : decode cX8_heat 15 = .ok (.ldc2_w 104, 3) := dk_20 0 104 (dk_at dksX8_heat_0 15 rfl rfl)
theorem dX8_heat_18 : decode cX8_heat 18 = .ok (.invokestatic 68, 3) := dk_184 0 68 (dk_at dksX8_heat_0 18 rfl rfl)
theorem dX8_heat_21 : decode cX8_heat 21 = .ok (.ifCond .ne 5, 3) := dk_154 0 5 (dk_at dksX8_heat_0 21 rfl rfl)
theorem dX8_heat_24 : decode cX8_heat 24 = .ok (.iconst (-1), 1) := dk_2 (dk_at dksX8_heat_1 0 rfl rfl)
theorem dX8_heat_25 : decode cX8_heat 25 = .ok (.ireturn, 1) := dk_172 (dk_at dksX8_heat_1 1 rfl rfl)
theorem dX8_heat_26 : decode cX8_heat 26 = .ok (.aload_n 0, 1) := dk_42 (dk_at dksX8_heat_1 2 rfl rfl)
theorem dX8_heat_27 : decode cX8_heat 27 = .ok (.getfield 22, 3) := dk_180 0 22 (dk_at dksX8_heat_1 3 rfl rfl)
theorem dX8_heat_30 : decode cX8_heat 30 = .ok (.iload_n 1, 1) := dk_27 (dk_at dksX8_heat_1 6 rfl rfl)
theorem dX8_heat_31 : decode cX8_heat 31 = .ok (.iaload, 1) := dk_46 (dk_at dksX8_heat_1 7 rfl rfl)
theorem dX8_heat_32 : decode cX8_heat 32 = .ok (.istore_n 3, 1) := dk_62 (dk_at dksX8_heat_1 8 rfl rfl)
theorem dX8_heat_33 : decode cX8_heat 33 = .ok (.aload_n 0, 1) := dk_42 (dk_at dksX8_heat_1 9 rfl rfl)
theorem dX8_heat_34 : decode cX8_heat 34 = .ok (.getfield 22, 3) := dk_180 0 22 (dk_at dksX8_heat_1 10 rfl rfl)
theorem dX8_heat_37 : decode cX8_heat 37 = .ok (.iload_n 1, 1) := dk_27 (dk_at dksX8_heat_1 13 rfl rfl)
theorem dX8_heat_38 : decode cX8_heat 38 = .ok (.iload_n 2, 1) := dk_28 (dk_at dksX8_heat_1 14 rfl rfl)
theorem dX8_heat_39 : decode cX8_heat 39 = .ok (.iastore, 1) := dk_79 (dk_at dksX8_heat_1 15 rfl rfl)
theorem dX8_heat_40 : decode cX8_heat 40 = .ok (.iload_n 3, 1) := dk_29 (dk_at dksX8_heat_1 16 rfl rfl)
theorem dX8_heat_41 : decode cX8_heat 41 = .ok (.ireturn, 1) := dk_172 (dk_at dksX8_heat_1 17 rfl rfl)
abbrev cX8_rule : ByteArray := prog_10_method_13_code
def yX8_rule : MethodName := ⟨RX8, "rule", "(II)I"⟩
def dkwX8_rule_2 : List UInt8 := [79, 29, 172]
abbrev dktX8_rule_2 : List UInt8 := dkwX8_rule_2 ++ []
def dkwX8_rule_1 : List UInt8 := [20, 0, 100, 184, 0, 68, 154, 0, 5, 2, 172, 42, 180, 0, 25, 27, 46, 62, 42, 180, 0, 25, 27, 28]
abbrev dktX8_rule_1 : List UInt8 := dkwX8_rule_1 ++ dktX8_rule_2
def dkwX8_rule_0 : List UInt8 := [27, 133, 9, 10, 184, 0, 68, 153, 0, 25, 28, 133, 9, 27, 154, 0, 9, 20, 0, 106, 167, 0, 6]
abbrev dktX8_rule_0 : List UInt8 := dkwX8_rule_0 ++ dktX8_rule_1
theorem dksX8_rule_0 : cX8_rule.data.toList.drop 0 = dktX8_rule_0 := by decide +kernel
theorem dksX8_rule_1 : cX8_rule.data.toList.drop 23 = dktX8_rule_1 := dk_seg dksX8_rule_0 23 rfl rfl
theorem dksX8_rule_2 : cX8_rule.data.toList.drop 47 = dktX8_rule_2 := dk_seg dksX8_rule_1 24 rfl rfl
theorem dX8_rule_0 : decode cX8_rule 0 = .ok (.iload_n 1, 1) := dk_27 (dk_at dksX8_rule_0 0 rfl rfl)
theorem dX8_rule_1 : decode cX8_rule 1 = .ok (.i2l, 1) := dk_133 (dk_at dksX8_rule_0 1 rfl rfl)
theorem dX8_rule_2 : decode cX8_rule 2 = .ok (.lconst 0, 1) := dk_9 (dk_at dksX8_rule_0 2 rfl rfl)
theorem dX8_rule_3 : decode cX8_rule 3 = .ok (.lconst 1, 1) := dk_10 (dk_at dksX8_rule_0 3 rfl rfl)
theorem dX8_rule_4 : decode cX8_rule 4 = .ok (.invokestatic 68, 3) := dk_184 0 68 (dk_at dksX8_rule_0 4 rfl rfl)
theorem dX8_rule_7 : decode cX8_rule 7 = .ok (.ifCond .eq 25, 3) := dk_153 0 25 (dk_at dksX8_rule_0 7 rfl rfl)
theorem dX8_rule_10 : decode cX8_rule 10 = .ok (.iload_n 2, 1) := dk_28 (dk_at dksX8_rule_0 10 rfl rfl)
theorem dX8_rule_11 : decode cX8_rule 11 = .ok (.i2l, 1) := dk_133 (dk_at dksX8_rule_0 11 rfl rfl)
theorem dX8_rule_12 : decode cX8_rule 12 = .ok (.lconst 0, 1) := dk_9 (dk_at dksX8_rule_0 12 rfl rfl)
theorem dX8_rule_13 : decode cX8_rule 13 = .ok (.iload_n 1, 1) := dk_27 (dk_at dksX8_rule_0 13 rfl rfl)
theorem dX8_rule_14 : decode cX8_rule 14 = .ok (.ifCond .ne 9, 3) := dk_154 0 9 (dk_at dksX8_rule_0 14 rfl rfl)
theorem dX8_rule_17 : decode cX8_rule 17 = .ok (.ldc2_w 106, 3) := dk_20 0 106 (dk_at dksX8_rule_0 17 rfl rfl)
theorem dX8_rule_20 : decode cX8_rule 20 = .ok (.goto 6, 3) := dk_167 0 6 (dk_at dksX8_rule_0 20 rfl rfl)
theorem dX8_rule_23 : decode cX8_rule 23 = .ok (.ldc2_w 100, 3) := dk_20 0 100 (dk_at dksX8_rule_1 0 rfl rfl)
theorem dX8_rule_26 : decode cX8_rule 26 = .ok (.invokestatic 68, 3) := dk_184 0 68 (dk_at dksX8_rule_1 3 rfl rfl)
theorem dX8_rule_29 : decode cX8_rule 29 = .ok (.ifCond .ne 5, 3) := dk_154 0 5 (dk_at dksX8_rule_1 6 rfl rfl)
theorem dX8_rule_32 : decode cX8_rule 32 = .ok (.iconst (-1), 1) := dk_2 (dk_at dksX8_rule_1 9 rfl rfl)
theorem dX8_rule_33 : decode cX8_rule 33 = .ok (.ireturn, 1) := dk_172 (dk_at dksX8_rule_1 10 rfl rfl)
theorem dX8_rule_34 : decode cX8_rule 34 = .ok (.aload_n 0, 1) := dk_42 (dk_at dksX8_rule_1 11 rfl rfl)
theorem dX8_rule_35 : decode cX8_rule 35 = .ok (.getfield 25, 3) := dk_180 0 25 (dk_at dksX8_rule_1 12 rfl rfl)
theorem dX8_rule_38 : decode cX8_rule 38 = .ok (.iload_n 1, 1) := dk_27 (dk_at dksX8_rule_1 15 rfl rfl)
theorem dX8_rule_39 : decode cX8_rule 39 = .ok (.iaload, 1) := dk_46 (dk_at dksX8_rule_1 16 rfl rfl)
theorem dX8_rule_40 : decode cX8_rule 40 = .ok (.istore_n 3, 1) := dk_62 (dk_at dksX8_rule_1 17 rfl rfl)
theorem dX8_rule_41 : decode cX8_rule 41 = .ok (.aload_n 0, 1) := dk_42 (dk_at dksX8_rule_1 18 rfl rfl)
theorem dX8_rule_42 : decode cX8_rule 42 = .ok (.getfield 25, 3) := dk_180 0 25 (dk_at dksX8_rule_1 19 rfl rfl)
theorem dX8_rule_45 : decode cX8_rule 45 = .ok (.iload_n 1, 1) := dk_27 (dk_at dksX8_rule_1 22 rfl rfl)
theorem dX8_rule_46 : decode cX8_rule 46 = .ok (.iload_n 2, 1) := dk_28 (dk_at dksX8_rule_1 23 rfl rfl)
theorem dX8_rule_47 : decode cX8_rule 47 = .ok (.iastore, 1) := dk_79 (dk_at dksX8_rule_2 0 rfl rfl)
theorem dX8_rule_48 : decode cX8_rule 48 = .ok (.iload_n 3, 1) := dk_29 (dk_at dksX8_rule_2 1 rfl rfl)
theorem dX8_rule_49 : decode cX8_rule 49 = .ok (.ireturn, 1) := dk_172 (dk_at dksX8_rule_2 2 rfl rfl)
abbrev cX8_type : ByteArray := prog_10_method_14_code
def yX8_type : MethodName := ⟨RX8, "type", "(JI)I"⟩
def dkwX8_type_5 : List UInt8 := [180, 0, 116, 172]
abbrev dktX8_type_5 : List UInt8 := dkwX8_type_5 ++ []
def dkwX8_type_4 : List UInt8 := [20, 0, 110, 127, 136, 79, 42, 89, 180, 0, 116, 4, 96, 181, 0, 116, 132, 4, 255, 167, 255, 217, 42]
abbrev dktX8_type_4 : List UInt8 := dkwX8_type_4 ++ dktX8_type_5
def dkwX8_type_3 : List UInt8 := [54, 4, 21, 4, 155, 0, 40, 42, 180, 0, 34, 42, 180, 0, 116, 31, 16, 8, 21, 4, 104, 123]
abbrev dktX8_type_3 : List UInt8 := dkwX8_type_3 ++ dktX8_type_4
def dkwX8_type_2 : List UInt8 := [132, 4, 1, 167, 255, 222, 42, 180, 0, 116, 29, 96, 16, 80, 164, 0, 6, 16, 253, 172, 29, 4, 100]
abbrev dktX8_type_2 : List UInt8 := dkwX8_type_2 ++ dktX8_type_3
def dkwX8_type_1 : List UInt8 := [16, 8, 21, 4, 104, 123, 20, 0, 110, 127, 20, 0, 112, 20, 0, 114, 184, 0, 68, 154, 0, 5, 2, 172]
abbrev dktX8_type_1 : List UInt8 := dkwX8_type_1 ++ dktX8_type_2
def dkwX8_type_0 : List UInt8 := [29, 133, 10, 20, 0, 108, 184, 0, 68, 154, 0, 5, 2, 172, 3, 54, 4, 21, 4, 29, 162, 0, 34, 31]
abbrev dktX8_type_0 : List UInt8 := dkwX8_type_0 ++ dktX8_type_1
theorem dksX8_type_0 : cX8_type.data.toList.drop 0 = dktX8_type_0 := by decide +kernel
theorem dksX8_type_1 : cX8_type.data.toList.drop 24 = dktX8_type_1 := dk_seg dksX8_type_0 24 rfl rfl
theorem dksX8_type_2 : cX8_type.data.toList.drop 48 = dktX8_type_2 := dk_seg dksX8_type_1 24 rfl rfl
theorem dksX8_type_3 : cX8_type.data.toList.drop 71 = dktX8_type_3 := dk_seg dksX8_type_2 23 rfl rfl
theorem dksX8_type_4 : cX8_type.data.toList.drop 93 = dktX8_type_4 := dk_seg dksX8_type_3 22 rfl rfl
theorem dksX8_type_5 : cX8_type.data.toList.drop 116 = dktX8_type_5 := dk_seg dksX8_type_4 23 rfl rfl
theorem dX8_type_0 : decode cX8_type 0 = .ok (.iload_n 3, 1) := dk_29 (dk_at dksX8_type_0 0 rfl rfl)
theorem dX8_type_1 : decode cX8_type 1 = .ok (.i2l, 1) := dk_133 (dk_at dksX8_type_0 1 rfl rfl)
theorem dX8_type_2 : decode cX8_type 2 = .ok (.lconst 1, 1) := dk_10 (dk_at dksX8_type_0 2 rfl rfl)
theorem dX8_type_3 : decode cX8_type 3 = .ok (.ldc2_w 108, 3) := dk_20 0 108 (dk_at dksX8_type_0 3 rfl rfl)
theorem dX8_type_6 : decode cX8_type 6 = .ok (.invokestatic 68, 3) := dk_184 0 68 (dk_at dksX8_type_0 6 rfl rfl)
theorem dX8_type_9 : decode cX8_type 9 = .ok (.ifCond .ne 5, 3) := dk_154 0 5 (dk_at dksX8_type_0 9 rfl rfl)
theorem dX8_type_12 : decode cX8_type 12 = .ok (.iconst (-1), 1) := dk_2 (dk_at dksX8_type_0 12 rfl rfl)
theorem dX8_type_13 : decode cX8_type 13 = .ok (.ireturn, 1) := dk_172 (dk_at dksX8_type_0 13 rfl rfl)
theorem dX8_type_14 : decode cX8_type 14 = .ok (.iconst 0, 1) := dk_3 (dk_at dksX8_type_0 14 rfl rfl)
theorem dX8_type_15 : decode cX8_type 15 = .ok (.istore 4, 2) := dk_54 4 (dk_at dksX8_type_0 15 rfl rfl)
theorem dX8_type_17 : decode cX8_type 17 = .ok (.iload 4, 2) := dk_21 4 (dk_at dksX8_type_0 17 rfl rfl)
theorem dX8_type_19 : decode cX8_type 19 = .ok (.iload_n 3, 1) := dk_29 (dk_at dksX8_type_0 19 rfl rfl)
theorem dX8_type_20 : decode cX8_type 20 = .ok (.if_icmp .ge 34, 3) := dk_162 0 34 (dk_at dksX8_type_0 20 rfl rfl)
theorem dX8_type_23 : decode cX8_type 23 = .ok (.lload_n 1, 1) := dk_31 (dk_at dksX8_type_0 23 rfl rfl)
theorem dX8_type_24 : decode cX8_type 24 = .ok (.bipush 8, 2) := dk_16 8 (dk_at dksX8_type_1 0 rfl rfl)
theorem dX8_type_26 : decode cX8_type 26 = .ok (.iload 4, 2) := dk_21 4 (dk_at dksX8_type_1 2 rfl rfl)
theorem dX8_type_28 : decode cX8_type 28 = .ok (.imul, 1) := dk_104 (dk_at dksX8_type_1 4 rfl rfl)
theorem dX8_type_29 : decode cX8_type 29 = .ok (.lshr, 1) := dk_123 (dk_at dksX8_type_1 5 rfl rfl)
theorem dX8_type_30 : decode cX8_type 30 = .ok (.ldc2_w 110, 3) := dk_20 0 110 (dk_at dksX8_type_1 6 rfl rfl)
theorem dX8_type_33 : decode cX8_type 33 = .ok (.land, 1) := dk_127 (dk_at dksX8_type_1 9 rfl rfl)
theorem dX8_type_34 : decode cX8_type 34 = .ok (.ldc2_w 112, 3) := dk_20 0 112 (dk_at dksX8_type_1 10 rfl rfl)
theorem dX8_type_37 : decode cX8_type 37 = .ok (.ldc2_w 114, 3) := dk_20 0 114 (dk_at dksX8_type_1 13 rfl rfl)
theorem dX8_type_40 : decode cX8_type 40 = .ok (.invokestatic 68, 3) := dk_184 0 68 (dk_at dksX8_type_1 16 rfl rfl)
theorem dX8_type_43 : decode cX8_type 43 = .ok (.ifCond .ne 5, 3) := dk_154 0 5 (dk_at dksX8_type_1 19 rfl rfl)
theorem dX8_type_46 : decode cX8_type 46 = .ok (.iconst (-1), 1) := dk_2 (dk_at dksX8_type_1 22 rfl rfl)
theorem dX8_type_47 : decode cX8_type 47 = .ok (.ireturn, 1) := dk_172 (dk_at dksX8_type_1 23 rfl rfl)
theorem dX8_type_48 : decode cX8_type 48 = .ok (.iinc 4 1, 3) := dk_132 4 1 (dk_at dksX8_type_2 0 rfl rfl)
theorem dX8_type_51 : decode cX8_type 51 = .ok (.goto (-34), 3) := dk_167 255 222 (dk_at dksX8_type_2 3 rfl rfl)
theorem dX8_type_54 : decode cX8_type 54 = .ok (.aload_n 0, 1) := dk_42 (dk_at dksX8_type_2 6 rfl rfl)
theorem dX8_type_55 : decode cX8_type 55 = .ok (.getfield 116, 3) := dk_180 0 116 (dk_at dksX8_type_2 7 rfl rfl)
theorem dX8_type_58 : decode cX8_type 58 = .ok (.iload_n 3, 1) := dk_29 (dk_at dksX8_type_2 10 rfl rfl)
theorem dX8_type_59 : decode cX8_type 59 = .ok (.iadd, 1) := dk_96 (dk_at dksX8_type_2 11 rfl rfl)
theorem dX8_type_60 : decode cX8_type 60 = .ok (.bipush 80, 2) := dk_16 80 (dk_at dksX8_type_2 12 rfl rfl)
theorem dX8_type_62 : decode cX8_type 62 = .ok (.if_icmp .le 6, 3) := dk_164 0 6 (dk_at dksX8_type_2 14 rfl rfl)
theorem dX8_type_65 : decode cX8_type 65 = .ok (.bipush (-3), 2) := dk_16 253 (dk_at dksX8_type_2 17 rfl rfl)
theorem dX8_type_67 : decode cX8_type 67 = .ok (.ireturn, 1) := dk_172 (dk_at dksX8_type_2 19 rfl rfl)
theorem dX8_type_68 : decode cX8_type 68 = .ok (.iload_n 3, 1) := dk_29 (dk_at dksX8_type_2 20 rfl rfl)
theorem dX8_type_69 : decode cX8_type 69 = .ok (.iconst 1, 1) := dk_4 (dk_at dksX8_type_2 21 rfl rfl)
theorem dX8_type_70 : decode cX8_type 70 = .ok (.isub, 1) := dk_100 (dk_at dksX8_type_2 22 rfl rfl)
theorem dX8_type_71 : decode cX8_type 71 = .ok (.istore 4, 2) := dk_54 4 (dk_at dksX8_type_3 0 rfl rfl)
theorem dX8_type_73 : decode cX8_type 73 = .ok (.iload 4, 2) := dk_21 4 (dk_at dksX8_type_3 2 rfl rfl)
theorem dX8_type_75 : decode cX8_type 75 = .ok (.ifCond .lt 40, 3) := dk_155 0 40 (dk_at dksX8_type_3 4 rfl rfl)
theorem dX8_type_78 : decode cX8_type 78 = .ok (.aload_n 0, 1) := dk_42 (dk_at dksX8_type_3 7 rfl rfl)
theorem dX8_type_79 : decode cX8_type 79 = .ok (.getfield 34, 3) := dk_180 0 34 (dk_at dksX8_type_3 8 rfl rfl)
theorem dX8_type_82 : decode cX8_type 82 = .ok (.aload_n 0, 1) := dk_42 (dk_at dksX8_type_3 11 rfl rfl)
theorem dX8_type_83 : decode cX8_type 83 = .ok (.getfield 116, 3) := dk_180 0 116 (dk_at dksX8_type_3 12 rfl rfl)
theorem dX8_type_86 : decode cX8_type 86 = .ok (.lload_n 1, 1) := dk_31 (dk_at dksX8_type_3 15 rfl rfl)
theorem dX8_type_87 : decode cX8_type 87 = .ok (.bipush 8, 2) := dk_16 8 (dk_at dksX8_type_3 16 rfl rfl)
theorem dX8_type_89 : decode cX8_type 89 = .ok (.iload 4, 2) := dk_21 4 (dk_at dksX8_type_3 18 rfl rfl)
theorem dX8_type_91 : decode cX8_type 91 = .ok (.imul, 1) := dk_104 (dk_at dksX8_type_3 20 rfl rfl)
theorem dX8_type_92 : decode cX8_type 92 = .ok (.lshr, 1) := dk_123 (dk_at dksX8_type_3 21 rfl rfl)
theorem dX8_type_93 : decode cX8_type 93 = .ok (.ldc2_w 110, 3) := dk_20 0 110 (dk_at dksX8_type_4 0 rfl rfl)
theorem dX8_type_96 : decode cX8_type 96 = .ok (.land, 1) := dk_127 (dk_at dksX8_type_4 3 rfl rfl)
theorem dX8_type_97 : decode cX8_type 97 = .ok (.l2i, 1) := dk_136 (dk_at dksX8_type_4 4 rfl rfl)
theorem dX8_type_98 : decode cX8_type 98 = .ok (.iastore, 1) := dk_79 (dk_at dksX8_type_4 5 rfl rfl)
theorem dX8_type_99 : decode cX8_type 99 = .ok (.aload_n 0, 1) := dk_42 (dk_at dksX8_type_4 6 rfl rfl)
theorem dX8_type_100 : decode cX8_type 100 = .ok (.dup, 1) := dk_89 (dk_at dksX8_type_4 7 rfl rfl)
theorem dX8_type_101 : decode cX8_type 101 = .ok (.getfield 116, 3) := dk_180 0 116 (dk_at dksX8_type_4 8 rfl rfl)
theorem dX8_type_104 : decode cX8_type 104 = .ok (.iconst 1, 1) := dk_4 (dk_at dksX8_type_4 11 rfl rfl)
theorem dX8_type_105 : decode cX8_type 105 = .ok (.iadd, 1) := dk_96 (dk_at dksX8_type_4 12 rfl rfl)
theorem dX8_type_106 : decode cX8_type 106 = .ok (.putfield 116, 3) := dk_181 0 116 (dk_at dksX8_type_4 13 rfl rfl)
theorem dX8_type_109 : decode cX8_type 109 = .ok (.iinc 4 (-1), 3) := dk_132 4 255 (dk_at dksX8_type_4 16 rfl rfl)
theorem dX8_type_112 : decode cX8_type 112 = .ok (.goto (-39), 3) := dk_167 255 217 (dk_at dksX8_type_4 19 rfl rfl)
theorem dX8_type_115 : decode cX8_type 115 = .ok (.aload_n 0, 1) := dk_42 (dk_at dksX8_type_4 22 rfl rfl)
theorem dX8_type_116 : decode cX8_type 116 = .ok (.getfield 116, 3) := dk_180 0 116 (dk_at dksX8_type_5 0 rfl rfl)
theorem dX8_type_119 : decode cX8_type 119 = .ok (.ireturn, 1) := dk_172 (dk_at dksX8_type_5 3 rfl rfl)
abbrev cX8_coats : ByteArray := prog_10_method_19_code
def yX8_coats : MethodName := ⟨RX8, "coats", "(I)I"⟩
def dkwX8_coats_10 : List UInt8 := [46, 79, 132, 4, 1, 167, 255, 223, 28, 172]
abbrev dktX8_coats_10 : List UInt8 := dkwX8_coats_10 ++ []
def dkwX8_coats_9 : List UInt8 := [104, 162, 0, 31, 42, 180, 0, 7, 16, 40, 27, 104, 16, 8, 96, 21, 4, 96, 42, 180, 0, 37, 21, 4]
abbrev dktX8_coats_9 : List UInt8 := dkwX8_coats_9 ++ dktX8_coats_10
def dkwX8_coats_8 : List UInt8 := [180, 0, 119, 100, 172, 42, 180, 0, 7, 16, 40, 27, 104, 6, 96, 28, 79, 3, 54, 4, 21, 4, 7, 28]
abbrev dktX8_coats_8 : List UInt8 := dkwX8_coats_8 ++ dktX8_coats_9
def dkwX8_coats_7 : List UInt8 := [167, 0, 4, 3, 181, 0, 122, 42, 3, 181, 0, 116, 42, 180, 0, 122, 153, 0, 11, 16, 236, 42]
abbrev dktX8_coats_7 : List UInt8 := dkwX8_coats_7 ++ dktX8_coats_8
def dkwX8_coats_6 : List UInt8 := [167, 0, 4, 3, 62, 167, 255, 131, 42, 42, 180, 0, 122, 154, 0, 10, 42, 182, 0, 126, 153, 0, 7, 4]
abbrev dktX8_coats_6 : List UInt8 := dkwX8_coats_6 ++ dktX8_coats_7
def dkwX8_coats_5 : List UInt8 := [167, 0, 4, 4, 79, 132, 2, 1, 28, 16, 6, 162, 0, 16, 42, 16, 59, 182, 0, 142, 153, 0, 7, 4]
abbrev dktX8_coats_5 : List UInt8 := dkwX8_coats_5 ++ dktX8_coats_6
def dkwX8_coats_4 : List UInt8 := [7, 28, 104, 6, 96, 42, 16, 116, 182, 0, 142, 153, 0, 16, 4, 42, 16, 49, 16, 57, 182, 0, 135, 96]
abbrev dktX8_coats_4 : List UInt8 := dkwX8_coats_4 ++ dktX8_coats_5
def dkwX8_coats_3 : List UInt8 := [16, 114, 182, 0, 142, 153, 0, 13, 42, 3, 16, 20, 182, 0, 139, 167, 0, 4, 3, 79, 42, 180, 0, 37]
abbrev dktX8_coats_3 : List UInt8 := dkwX8_coats_3 ++ dktX8_coats_4
def dkwX8_coats_2 : List UInt8 := [7, 28, 104, 4, 96, 42, 4, 17, 39, 15, 182, 0, 139, 79, 42, 180, 0, 37, 7, 28, 104, 5, 96, 42]
abbrev dktX8_coats_2 : List UInt8 := dkwX8_coats_2 ++ dktX8_coats_3
def dkwX8_coats_1 : List UInt8 := [29, 153, 0, 127, 42, 180, 0, 37, 7, 28, 104, 42, 16, 97, 16, 101, 182, 0, 135, 79, 42, 180, 0, 37]
abbrev dktX8_coats_1 : List UInt8 := dkwX8_coats_1 ++ dktX8_coats_2
def dkwX8_coats_0 : List UInt8 := [42, 27, 182, 0, 80, 154, 0, 5, 2, 172, 42, 3, 181, 0, 119, 42, 3, 181, 0, 122, 3, 61, 4, 62]
abbrev dktX8_coats_0 : List UInt8 := dkwX8_coats_0 ++ dktX8_coats_1
theorem dksX8_coats_0 : cX8_coats.data.toList.drop 0 = dktX8_coats_0 := by decide +kernel
theorem dksX8_coats_1 : cX8_coats.data.toList.drop 24 = dktX8_coats_1 := dk_seg dksX8_coats_0 24 rfl rfl
theorem dksX8_coats_2 : cX8_coats.data.toList.drop 48 = dktX8_coats_2 := dk_seg dksX8_coats_1 24 rfl rfl
theorem dksX8_coats_3 : cX8_coats.data.toList.drop 72 = dktX8_coats_3 := dk_seg dksX8_coats_2 24 rfl rfl
theorem dksX8_coats_4 : cX8_coats.data.toList.drop 96 = dktX8_coats_4 := dk_seg dksX8_coats_3 24 rfl rfl
theorem dksX8_coats_5 : cX8_coats.data.toList.drop 120 = dktX8_coats_5 := dk_seg dksX8_coats_4 24 rfl rfl
theorem dksX8_coats_6 : cX8_coats.data.toList.drop 144 = dktX8_coats_6 := dk_seg dksX8_coats_5 24 rfl rfl
theorem dksX8_coats_7 : cX8_coats.data.toList.drop 168 = dktX8_coats_7 := dk_seg dksX8_coats_6 24 rfl rfl
theorem dksX8_coats_8 : cX8_coats.data.toList.drop 190 = dktX8_coats_8 := dk_seg dksX8_coats_7 22 rfl rfl
theorem dksX8_coats_9 : cX8_coats.data.toList.drop 214 = dktX8_coats_9 := dk_seg dksX8_coats_8 24 rfl rfl
theorem dksX8_coats_10 : cX8_coats.data.toList.drop 238 = dktX8_coats_10 := dk_seg dksX8_coats_9 24 rfl rfl
theorem dX8_coats_0 : decode cX8_coats 0 = .ok (.aload_n 0, 1) := dk_42 (dk_at dksX8_coats_0 0 rfl rfl)
theorem dX8_coats_1 : decode cX8_coats 1 = .ok (.iload_n 1, 1) := dk_27 (dk_at dksX8_coats_0 1 rfl rfl)
theorem dX8_coats_2 : decode cX8_coats 2 = .ok (.invokevirtual 80, 3) := dk_182 0 80 (dk_at dksX8_coats_0 2 rfl rfl)
theorem dX8_coats_5 : decode cX8_coats 5 = .ok (.ifCond .ne 5, 3) := dk_154 0 5 (dk_at dksX8_coats_0 5 rfl rfl)
theorem dX8_coats_8 : decode cX8_coats 8 = .ok (.iconst (-1), 1) := dk_2 (dk_at dksX8_coats_0 8 rfl rfl)
theorem dX8_coats_9 : decode cX8_coats 9 = .ok (.ireturn, 1) := dk_172 (dk_at dksX8_coats_0 9 rfl rfl)
theorem dX8_coats_10 : decode cX8_coats 10 = .ok (.aload_n 0, 1) := dk_42 (dk_at dksX8_coats_0 10 rfl rfl)
theorem dX8_coats_11 : decode cX8_coats 11 = .ok (.iconst 0, 1) := dk_3 (dk_at dksX8_coats_0 11 rfl rfl)
theorem dX8_coats_12 : decode cX8_coats 12 = .ok (.putfield 119, 3) := dk_181 0 119 (dk_at dksX8_coats_0 12 rfl rfl)
theorem dX8_coats_15 : decode cX8_coats 15 = .ok (.aload_n 0, 1) := dk_42 (dk_at dksX8_coats_0 15 rfl rfl)
theorem dX8_coats_16 : decode cX8_coats 16 = .ok (.iconst 0, 1) := dk_3 (dk_at dksX8_coats_0 16 rfl rfl)
theorem dX8_coats_17 : decode cX8_coats 17 = .ok (.putfield 122, 3) := dk_181 0 122 (dk_at dksX8_coats_0 17 rfl rfl)
theorem dX8_coats_20 : decode cX8_coats 20 = .ok (.iconst 0, 1) := dk_3 (dk_at dksX8_coats_0 20 rfl rfl)
theorem dX8_coats_21 : decode cX8_coats 21 = .ok (.istore_n 2, 1) := dk_61 (dk_at dksX8_coats_0 21 rfl rfl)
theorem dX8_coats_22 : decode cX8_coats 22 = .ok (.iconst 1, 1) := dk_4 (dk_at dksX8_coats_0 22 rfl rfl)
theorem dX8_coats_23 : decode cX8_coats 23 = .ok (.istore_n 3, 1) := dk_62 (dk_at dksX8_coats_0 23 rfl rfl)
theorem dX8_coats_24 : decode cX8_coats 24 = .ok (.iload_n 3, 1) := dk_29 (dk_at dksX8_coats_1 0 rfl rfl)
theorem dX8_coats_25 : decode cX8_coats 25 = .ok (.ifCond .eq 127, 3) := dk_153 0 127 (dk_at dksX8_coats_1 1 rfl rfl)
theorem dX8_coats_28 : decode cX8_coats 28 = .ok (.aload_n 0, 1) := dk_42 (dk_at dksX8_coats_1 4 rfl rfl)
theorem dX8_coats_29 : decode cX8_coats 29 = .ok (.getfield 37, 3) := dk_180 0 37 (dk_at dksX8_coats_1 5 rfl rfl)
theorem dX8_coats_32 : decode cX8_coats 32 = .ok (.iconst 4, 1) := dk_7 (dk_at dksX8_coats_1 8 rfl rfl)
theorem dX8_coats_33 : decode cX8_coats 33 = .ok (.iload_n 2, 1) := dk_28 (dk_at dksX8_coats_1 9 rfl rfl)
theorem dX8_coats_34 : decode cX8_coats 34 = .ok (.imul, 1) := dk_104 (dk_at dksX8_coats_1 10 rfl rfl)
theorem dX8_coats_35 : decode cX8_coats 35 = .ok (.aload_n 0, 1) := dk_42 (dk_at dksX8_coats_1 11 rfl rfl)
theorem dX8_coats_36 : decode cX8_coats 36 = .ok (.bipush 97, 2) := dk_16 97 (dk_at dksX8_coats_1 12 rfl rfl)
theorem dX8_coats_38 : decode cX8_coats 38 = .ok (.bipush 101, 2) := dk_16 101 (dk_at dksX8_coats_1 14 rfl rfl)
theorem dX8_coats_40 : decode cX8_coats 40 = .ok (.invokevirtual 135, 3) := dk_182 0 135 (dk_at dksX8_coats_1 16 rfl rfl)
theorem dX8_coats_43 : decode cX8_coats 43 = .ok (.iastore, 1) := dk_79 (dk_at dksX8_coats_1 19 rfl rfl)
theorem dX8_coats_44 : decode cX8_coats 44 = .ok (.aload_n 0, 1) := dk_42 (dk_at dksX8_coats_1 20 rfl rfl)
theorem dX8_coats_45 : decode cX8_coats 45 = .ok (.getfield 37, 3) := dk_180 0 37 (dk_at dksX8_coats_1 21 rfl rfl)
theorem dX8_coats_48 : decode cX8_coats 48 = .ok (.iconst 4, 1) := dk_7 (dk_at dksX8_coats_2 0 rfl rfl)
theorem dX8_coats_49 : decode cX8_coats 49 = .ok (.iload_n 2, 1) := dk_28 (dk_at dksX8_coats_2 1 rfl rfl)
theorem dX8_coats_50 : decode cX8_coats 50 = .ok (.imul, 1) := dk_104 (dk_at dksX8_coats_2 2 rfl rfl)
theorem dX8_coats_51 : decode cX8_coats 51 = .ok (.iconst 1, 1) := dk_4 (dk_at dksX8_coats_2 3 rfl rfl)
theorem dX8_coats_52 : decode cX8_coats 52 = .ok (.iadd, 1) := dk_96 (dk_at dksX8_coats_2 4 rfl rfl)
theorem dX8_coats_53 : decode cX8_coats 53 = .ok (.aload_n 0, 1) := dk_42 (dk_at dksX8_coats_2 5 rfl rfl)
theorem dX8_coats_54 : decode cX8_coats 54 = .ok (.iconst 1, 1) := dk_4 (dk_at dksX8_coats_2 6 rfl rfl)
theorem dX8_coats_55 : decode cX8_coats 55 = .ok (.sipush 9999, 3) := dk_17 39 15 (dk_at dksX8_coats_2 7 rfl rfl)
theorem dX8_coats_58 : decode cX8_coats 58 = .ok (.invokevirtual 139, 3) := dk_182 0 139 (dk_at dksX8_coats_2 10 rfl rfl)
theorem dX8_coats_61 : decode cX8_coats 61 = .ok (.iastore, 1) := dk_79 (dk_at dksX8_coats_2 13 rfl rfl)
theorem dX8_coats_62 : decode cX8_coats 62 = .ok (.aload_n 0, 1) := dk_42 (dk_at dksX8_coats_2 14 rfl rfl)
theorem dX8_coats_63 : decode cX8_coats 63 = .ok (.getfield 37, 3) := dk_180 0 37 (dk_at dksX8_coats_2 15 rfl rfl)
theorem dX8_coats_66 : decode cX8_coats 66 = .ok (.iconst 4, 1) := dk_7 (dk_at dksX8_coats_2 18 rfl rfl)
theorem dX8_coats_67 : decode cX8_coats 67 = .ok (.iload_n 2, 1) := dk_28 (dk_at dksX8_coats_2 19 rfl rfl)
theorem dX8_coats_68 : decode cX8_coats 68 = .ok (.imul, 1) := dk_104 (dk_at dksX8_coats_2 20 rfl rfl)
theorem dX8_coats_69 : decode cX8_coats 69 = .ok (.iconst 2, 1) := dk_5 (dk_at dksX8_coats_2 21 rfl rfl)
theorem dX8_coats_70 : decode cX8_coats 70 = .ok (.iadd, 1) := dk_96 (dk_at dksX8_coats_2 22 rfl rfl)
theorem dX8_coats_71 : decode cX8_coats 71 = .ok (.aload_n 0, 1) := dk_42 (dk_at dksX8_coats_2 23 rfl rfl)
theorem dX8_coats_72 : decode cX8_coats 72 = .ok (.bipush 114, 2) := dk_16 114 (dk_at dksX8_coats_3 0 rfl rfl)
theorem dX8_coats_74 : decode cX8_coats 74 = .ok (.invokevirtual 142, 3) := dk_182 0 142 (dk_at dksX8_coats_3 2 rfl rfl)
theorem dX8_coats_77 : decode cX8_coats 77 = .ok (.ifCond .eq 13, 3) := dk_153 0 13 (dk_at dksX8_coats_3 5 rfl rfl)
theorem dX8_coats_80 : decode cX8_coats 80 = .ok (.aload_n 0, 1) := dk_42 (dk_at dksX8_coats_3 8 rfl rfl)
theorem dX8_coats_81 : decode cX8_coats 81 = .ok (.iconst 0, 1) := dk_3 (dk_at dksX8_coats_3 9 rfl rfl)
theorem dX8_coats_82 : decode cX8_coats 82 = .ok (.bipush 20, 2) := dk_16 20 (dk_at dksX8_coats_3 10 rfl rfl)
theorem dX8_coats_84 : decode cX8_coats 84 = .ok (.invokevirtual 139, 3) := dk_182 0 139 (dk_at dksX8_coats_3 12 rfl rfl)
theorem dX8_coats_87 : decode cX8_coats 87 = .ok (.goto 4, 3) := dk_167 0 4 (dk_at dksX8_coats_3 15 rfl rfl)
theorem dX8_coats_90 : decode cX8_coats 90 = .ok (.iconst 0, 1) := dk_3 (dk_at dksX8_coats_3 18 rfl rfl)
theorem dX8_coats_91 : decode cX8_coats 91 = .ok (.iastore, 1) := dk_79 (dk_at dksX8_coats_3 19 rfl rfl)
theorem dX8_coats_92 : decode cX8_coats 92 = .ok (.aload_n 0, 1) := dk_42 (dk_at dksX8_coats_3 20 rfl rfl)
theorem dX8_coats_93 : decode cX8_coats 93 = .ok (.getfield 37, 3) := dk_180 0 37 (dk_at dksX8_coats_3 21 rfl rfl)
theorem dX8_coats_96 : decode cX8_coats 96 = .ok (.iconst 4, 1) := dk_7 (dk_at dksX8_coats_4 0 rfl rfl)
theorem dX8_coats_97 : decode cX8_coats 97 = .ok (.iload_n 2, 1) := dk_28 (dk_at dksX8_coats_4 1 rfl rfl)
theorem dX8_coats_98 : decode cX8_coats 98 = .ok (.imul, 1) := dk_104 (dk_at dksX8_coats_4 2 rfl rfl)
theorem dX8_coats_99 : decode cX8_coats 99 = .ok (.iconst 3, 1) := dk_6 (dk_at dksX8_coats_4 3 rfl rfl)
theorem dX8_coats_100 : decode cX8_coats 100 = .ok (.iadd, 1) := dk_96 (dk_at dksX8_coats_4 4 rfl rfl)
theorem dX8_coats_101 : decode cX8_coats 101 = .ok (.aload_n 0, 1) := dk_42 (dk_at dksX8_coats_4 5 rfl rfl)
theorem dX8_coats_102 : decode cX8_coats 102 = .ok (.bipush 116, 2) := dk_16 116 (dk_at dksX8_coats_4 6 rfl rfl)
theorem dX8_coats_104 : decode cX8_coats 104 = .ok (.invokevirtual 142, 3) := dk_182 0 142 (dk_at dksX8_coats_4 8 rfl rfl)
theorem dX8_coats_107 : decode cX8_coats 107 = .ok (.ifCond .eq 16, 3) := dk_153 0 16 (dk_at dksX8_coats_4 11 rfl rfl)
theorem dX8_coats_110 : decode cX8_coats 110 = .ok (.iconst 1, 1) := dk_4 (dk_at dksX8_coats_4 14 rfl rfl)
theorem dX8_coats_111 : decode cX8_coats 111 = .ok (.aload_n 0, 1) := dk_42 (dk_at dksX8_coats_4 15 rfl rfl)
theorem dX8_coats_112 : decode cX8_coats 112 = .ok (.bipush 49, 2) := dk_16 49 (dk_at dksX8_coats_4 16 rfl rfl)
theorem dX8_coats_114 : decode cX8_coats 114 = .ok (.bipush 57, 2) := dk_16 57 (dk_at dksX8_coats_4 18 rfl rfl)
theorem dX8_coats_116 : decode cX8_coats 116 = .ok (.invokevirtual 135, 3) := dk_182 0 135 (dk_at dksX8_coats_4 20 rfl rfl)
theorem dX8_coats_119 : decode cX8_coats 119 = .ok (.iadd, 1) := dk_96 (dk_at dksX8_coats_4 23 rfl rfl)
theorem dX8_coats_120 : decode cX8_coats 120 = .ok (.goto 4, 3) := dk_167 0 4 (dk_at dksX8_coats_5 0 rfl rfl)
theorem dX8_coats_123 : decode cX8_coats 123 = .ok (.iconst 1, 1) := dk_4 (dk_at dksX8_coats_5 3 rfl rfl)
theorem dX8_coats_124 : decode cX8_coats 124 = .ok (.iastore, 1) := dk_79 (dk_at dksX8_coats_5 4 rfl rfl)
theorem dX8_coats_125 : decode cX8_coats 125 = .ok (.iinc 2 1, 3) := dk_132 2 1 (dk_at dksX8_coats_5 5 rfl rfl)
theorem dX8_coats_128 : decode cX8_coats 128 = .ok (.iload_n 2, 1) := dk_28 (dk_at dksX8_coats_5 8 rfl rfl)
theorem dX8_coats_129 : decode cX8_coats 129 = .ok (.bipush 6, 2) := dk_16 6 (dk_at dksX8_coats_5 9 rfl rfl)
theorem dX8_coats_131 : decode cX8_coats 131 = .ok (.if_icmp .ge 16, 3) := dk_162 0 16 (dk_at dksX8_coats_5 11 rfl rfl)
theorem dX8_coats_134 : decode cX8_coats 134 = .ok (.aload_n 0, 1) := dk_42 (dk_at dksX8_coats_5 14 rfl rfl)
theorem dX8_coats_135 : decode cX8_coats 135 = .ok (.bipush 59, 2) := dk_16 59 (dk_at dksX8_coats_5 15 rfl rfl)
theorem dX8_coats_137 : decode cX8_coats 137 = .ok (.invokevirtual 142, 3) := dk_182 0 142 (dk_at dksX8_coats_5 17 rfl rfl)
theorem dX8_coats_140 : decode cX8_coats 140 = .ok (.ifCond .eq 7, 3) := dk_153 0 7 (dk_at dksX8_coats_5 20 rfl rfl)
theorem dX8_coats_143 : decode cX8_coats 143 = .ok (.iconst 1, 1) := dk_4 (dk_at dksX8_coats_5 23 rfl rfl)
theorem dX8_coats_144 : decode cX8_coats 144 = .ok (.goto 4, 3) := dk_167 0 4 (dk_at dksX8_coats_6 0 rfl rfl)
theorem dX8_coats_147 : decode cX8_coats 147 = .ok (.iconst 0, 1) := dk_3 (dk_at dksX8_coats_6 3 rfl rfl)
theorem dX8_coats_148 : decode cX8_coats 148 = .ok (.istore_n 3, 1) := dk_62 (dk_at dksX8_coats_6 4 rfl rfl)
theorem dX8_coats_149 : decode cX8_coats 149 = .ok (.goto (-125), 3) := dk_167 255 131 (dk_at dksX8_coats_6 5 rfl rfl)
theorem dX8_coats_152 : decode cX8_coats 152 = .ok (.aload_n 0, 1) := dk_42 (dk_at dksX8_coats_6 8 rfl rfl)
theorem dX8_coats_153 : decode cX8_coats 153 = .ok (.aload_n 0, 1) := dk_42 (dk_at dksX8_coats_6 9 rfl rfl)
theorem dX8_coats_154 : decode cX8_coats 154 = .ok (.getfield 122, 3) := dk_180 0 122 (dk_at dksX8_coats_6 10 rfl rfl)
theorem dX8_coats_157 : decode cX8_coats 157 = .ok (.ifCond .ne 10, 3) := dk_154 0 10 (dk_at dksX8_coats_6 13 rfl rfl)
theorem dX8_coats_160 : decode cX8_coats 160 = .ok (.aload_n 0, 1) := dk_42 (dk_at dksX8_coats_6 16 rfl rfl)
theorem dX8_coats_161 : decode cX8_coats 161 = .ok (.invokevirtual 126, 3) := dk_182 0 126 (dk_at dksX8_coats_6 17 rfl rfl)
theorem dX8_coats_164 : decode cX8_coats 164 = .ok (.ifCond .eq 7, 3) := dk_153 0 7 (dk_at dksX8_coats_6 20 rfl rfl)
theorem dX8_coats_167 : decode cX8_coats 167 = .ok (.iconst 1, 1) := dk_4 (dk_at dksX8_coats_6 23 rfl rfl)
theorem dX8_coats_168 : decode cX8_coats 168 = .ok (.goto 4, 3) := dk_167 0 4 (dk_at dksX8_coats_7 0 rfl rfl)
theorem dX8_coats_171 : decode cX8_coats 171 = .ok (.iconst 0, 1) := dk_3 (dk_at dksX8_coats_7 3 rfl rfl)
theorem dX8_coats_172 : decode cX8_coats 172 = .ok (.putfield 122, 3) := dk_181 0 122 (dk_at dksX8_coats_7 4 rfl rfl)
theorem dX8_coats_175 : decode cX8_coats 175 = .ok (.aload_n 0, 1) := dk_42 (dk_at dksX8_coats_7 7 rfl rfl)
theorem dX8_coats_176 : decode cX8_coats 176 = .ok (.iconst 0, 1) := dk_3 (dk_at dksX8_coats_7 8 rfl rfl)
theorem dX8_coats_177 : decode cX8_coats 177 = .ok (.putfield 116, 3) := dk_181 0 116 (dk_at dksX8_coats_7 9 rfl rfl)
theorem dX8_coats_180 : decode cX8_coats 180 = .ok (.aload_n 0, 1) := dk_42 (dk_at dksX8_coats_7 12 rfl rfl)
theorem dX8_coats_181 : decode cX8_coats 181 = .ok (.getfield 122, 3) := dk_180 0 122 (dk_at dksX8_coats_7 13 rfl rfl)
theorem dX8_coats_184 : decode cX8_coats 184 = .ok (.ifCond .eq 11, 3) := dk_153 0 11 (dk_at dksX8_coats_7 16 rfl rfl)
theorem dX8_coats_187 : decode cX8_coats 187 = .ok (.bipush (-20), 2) := dk_16 236 (dk_at dksX8_coats_7 19 rfl rfl)
theorem dX8_coats_189 : decode cX8_coats 189 = .ok (.aload_n 0, 1) := dk_42 (dk_at dksX8_coats_7 21 rfl rfl)
theorem dX8_coats_190 : decode cX8_coats 190 = .ok (.getfield 119, 3) := dk_180 0 119 (dk_at dksX8_coats_8 0 rfl rfl)
theorem dX8_coats_193 : decode cX8_coats 193 = .ok (.isub, 1) := dk_100 (dk_at dksX8_coats_8 3 rfl rfl)
theorem dX8_coats_194 : decode cX8_coats 194 = .ok (.ireturn, 1) := dk_172 (dk_at dksX8_coats_8 4 rfl rfl)
theorem dX8_coats_195 : decode cX8_coats 195 = .ok (.aload_n 0, 1) := dk_42 (dk_at dksX8_coats_8 5 rfl rfl)
theorem dX8_coats_196 : decode cX8_coats 196 = .ok (.getfield 7, 3) := dk_180 0 7 (dk_at dksX8_coats_8 6 rfl rfl)
theorem dX8_coats_199 : decode cX8_coats 199 = .ok (.bipush 40, 2) := dk_16 40 (dk_at dksX8_coats_8 9 rfl rfl)
theorem dX8_coats_201 : decode cX8_coats 201 = .ok (.iload_n 1, 1) := dk_27 (dk_at dksX8_coats_8 11 rfl rfl)
theorem dX8_coats_202 : decode cX8_coats 202 = .ok (.imul, 1) := dk_104 (dk_at dksX8_coats_8 12 rfl rfl)
theorem dX8_coats_203 : decode cX8_coats 203 = .ok (.iconst 3, 1) := dk_6 (dk_at dksX8_coats_8 13 rfl rfl)
theorem dX8_coats_204 : decode cX8_coats 204 = .ok (.iadd, 1) := dk_96 (dk_at dksX8_coats_8 14 rfl rfl)
theorem dX8_coats_205 : decode cX8_coats 205 = .ok (.iload_n 2, 1) := dk_28 (dk_at dksX8_coats_8 15 rfl rfl)
theorem dX8_coats_206 : decode cX8_coats 206 = .ok (.iastore, 1) := dk_79 (dk_at dksX8_coats_8 16 rfl rfl)
theorem dX8_coats_207 : decode cX8_coats 207 = .ok (.iconst 0, 1) := dk_3 (dk_at dksX8_coats_8 17 rfl rfl)
theorem dX8_coats_208 : decode cX8_coats 208 = .ok (.istore 4, 2) := dk_54 4 (dk_at dksX8_coats_8 18 rfl rfl)
theorem dX8_coats_210 : decode cX8_coats 210 = .ok (.iload 4, 2) := dk_21 4 (dk_at dksX8_coats_8 20 rfl rfl)
theorem dX8_coats_212 : decode cX8_coats 212 = .ok (.iconst 4, 1) := dk_7 (dk_at dksX8_coats_8 22 rfl rfl)
theorem dX8_coats_213 : decode cX8_coats 213 = .ok (.iload_n 2, 1) := dk_28 (dk_at dksX8_coats_8 23 rfl rfl)
theorem dX8_coats_214 : decode cX8_coats 214 = .ok (.imul, 1) := dk_104 (dk_at dksX8_coats_9 0 rfl rfl)
theorem dX8_coats_215 : decode cX8_coats 215 = .ok (.if_icmp .ge 31, 3) := dk_162 0 31 (dk_at dksX8_coats_9 1 rfl rfl)
theorem dX8_coats_218 : decode cX8_coats 218 = .ok (.aload_n 0, 1) := dk_42 (dk_at dksX8_coats_9 4 rfl rfl)
theorem dX8_coats_219 : decode cX8_coats 219 = .ok (.getfield 7, 3) := dk_180 0 7 (dk_at dksX8_coats_9 5 rfl rfl)
theorem dX8_coats_222 : decode cX8_coats 222 = .ok (.bipush 40, 2) := dk_16 40 (dk_at dksX8_coats_9 8 rfl rfl)
theorem dX8_coats_224 : decode cX8_coats 224 = .ok (.iload_n 1, 1) := dk_27 (dk_at dksX8_coats_9 10 rfl rfl)
theorem dX8_coats_225 : decode cX8_coats 225 = .ok (.imul, 1) := dk_104 (dk_at dksX8_coats_9 11 rfl rfl)
theorem dX8_coats_226 : decode cX8_coats 226 = .ok (.bipush 8, 2) := dk_16 8 (dk_at dksX8_coats_9 12 rfl rfl)
theorem dX8_coats_228 : decode cX8_coats 228 = .ok (.iadd, 1) := dk_96 (dk_at dksX8_coats_9 14 rfl rfl)
theorem dX8_coats_229 : decode cX8_coats 229 = .ok (.iload 4, 2) := dk_21 4 (dk_at dksX8_coats_9 15 rfl rfl)
theorem dX8_coats_231 : decode cX8_coats 231 = .ok (.iadd, 1) := dk_96 (dk_at dksX8_coats_9 17 rfl rfl)
theorem dX8_coats_232 : decode cX8_coats 232 = .ok (.aload_n 0, 1) := dk_42 (dk_at dksX8_coats_9 18 rfl rfl)
theorem dX8_coats_233 : decode cX8_coats 233 = .ok (.getfield 37, 3) := dk_180 0 37 (dk_at dksX8_coats_9 19 rfl rfl)
theorem dX8_coats_236 : decode cX8_coats 236 = .ok (.iload 4, 2) := dk_21 4 (dk_at dksX8_coats_9 22 rfl rfl)
theorem dX8_coats_238 : decode cX8_coats 238 = .ok (.iaload, 1) := dk_46 (dk_at dksX8_coats_10 0 rfl rfl)
theorem dX8_coats_239 : decode cX8_coats 239 = .ok (.iastore, 1) := dk_79 (dk_at dksX8_coats_10 1 rfl rfl)
theorem dX8_coats_240 : decode cX8_coats 240 = .ok (.iinc 4 1, 3) := dk_132 4 1 (dk_at dksX8_coats_10 2 rfl rfl)
theorem dX8_coats_243 : decode cX8_coats 243 = .ok (.goto (-33), 3) := dk_167 255 223 (dk_at dksX8_coats_10 5 rfl rfl)
theorem dX8_coats_246 : decode cX8_coats 246 = .ok (.iload_n 2, 1) := dk_28 (dk_at dksX8_coats_10 8 rfl rfl)
theorem dX8_coats_247 : decode cX8_coats 247 = .ok (.ireturn, 1) := dk_172 (dk_at dksX8_coats_10 9 rfl rfl)
abbrev cX8_byteOf : ByteArray := prog_10_method_17_code
def yX8_byteOf : MethodName := ⟨RX8, "byteOf", "(II)I"⟩
def dkwX8_byteOf_2 : List UInt8 := [180, 0, 119, 42, 180, 0, 122, 153, 0, 7, 3, 167, 0, 4, 4, 96, 181, 0, 119, 29, 27, 100, 172]
abbrev dktX8_byteOf_2 : List UInt8 := dkwX8_byteOf_2 ++ []
def dkwX8_byteOf_1 : List UInt8 := [29, 133, 27, 133, 28, 133, 184, 0, 68, 154, 0, 7, 4, 167, 0, 4, 3, 181, 0, 122, 42, 89]
abbrev dktX8_byteOf_1 : List UInt8 := dkwX8_byteOf_1 ++ dktX8_byteOf_2
def dkwX8_byteOf_0 : List UInt8 := [42, 180, 0, 122, 153, 0, 7, 3, 167, 0, 7, 42, 182, 0, 126, 62, 42, 42, 180, 0, 122, 154, 0, 15]
abbrev dktX8_byteOf_0 : List UInt8 := dkwX8_byteOf_0 ++ dktX8_byteOf_1
theorem dksX8_byteOf_0 : cX8_byteOf.data.toList.drop 0 = dktX8_byteOf_0 := by decide +kernel
theorem dksX8_byteOf_1 : cX8_byteOf.data.toList.drop 24 = dktX8_byteOf_1 := dk_seg dksX8_byteOf_0 24 rfl rfl
theorem dksX8_byteOf_2 : cX8_byteOf.data.toList.drop 46 = dktX8_byteOf_2 := dk_seg dksX8_byteOf_1 22 rfl rfl
theorem dX8_byteOf_0 : decode cX8_byteOf 0 = .ok (.aload_n 0, 1) := dk_42 (dk_at dksX8_byteOf_0 0 rfl rfl)
theorem dX8_byteOf_1 : decode cX8_byteOf 1 = .ok (.getfield 122, 3) := dk_180 0 122 (dk_at dksX8_byteOf_0 1 rfl rfl)
theorem dX8_byteOf_4 : decode cX8_byteOf 4 = .ok (.ifCond .eq 7, 3) := dk_153 0 7 (dk_at dksX8_byteOf_0 4 rfl rfl)
theorem dX8_byteOf_7 : decode cX8_byteOf 7 = .ok (.iconst 0, 1) := dk_3 (dk_at dksX8_byteOf_0 7 rfl rfl)
theorem dX8_byteOf_8 : decode cX8_byteOf 8 = .ok (.goto 7, 3) := dk_167 0 7 (dk_at dksX8_byteOf_0 8 rfl rfl)
theorem dX8_byteOf_11 : decode cX8_byteOf 11 = .ok (.aload_n 0, 1) := dk_42 (dk_at dksX8_byteOf_0 11 rfl rfl)
theorem dX8_byteOf_12 : decode cX8_byteOf 12 = .ok (.invokevirtual 126, 3) := dk_182 0 126 (dk_at dksX8_byteOf_0 12 rfl rfl)
theorem dX8_byteOf_15 : decode cX8_byteOf 15 = .ok (.istore_n 3, 1) := dk_62 (dk_at dksX8_byteOf_0 15 rfl rfl)
theorem dX8_byteOf_16 : decode cX8_byteOf 16 = .ok (.aload_n 0, 1) := dk_42 (dk_at dksX8_byteOf_0 16 rfl rfl)
theorem dX8_byteOf_17 : decode cX8_byteOf 17 = .ok (.aload_n 0, 1) := dk_42 (dk_at dksX8_byteOf_0 17 rfl rfl)
theorem dX8_byteOf_18 : decode cX8_byteOf 18 = .ok (.getfield 122, 3) := dk_180 0 122 (dk_at dksX8_byteOf_0 18 rfl rfl)
theorem dX8_byteOf_21 : decode cX8_byteOf 21 = .ok (.ifCond .ne 15, 3) := dk_154 0 15 (dk_at dksX8_byteOf_0 21 rfl rfl)
theorem dX8_byteOf_24 : decode cX8_byteOf 24 = .ok (.iload_n 3, 1) := dk_29 (dk_at dksX8_byteOf_1 0 rfl rfl)
theorem dX8_byteOf_25 : decode cX8_byteOf 25 = .ok (.i2l, 1) := dk_133 (dk_at dksX8_byteOf_1 1 rfl rfl)
theorem dX8_byteOf_26 : decode cX8_byteOf 26 = .ok (.iload_n 1, 1) := dk_27 (dk_at dksX8_byteOf_1 2 rfl rfl)
theorem dX8_byteOf_27 : decode cX8_byteOf 27 = .ok (.i2l, 1) := dk_133 (dk_at dksX8_byteOf_1 3 rfl rfl)
theorem dX8_byteOf_28 : decode cX8_byteOf 28 = .ok (.iload_n 2, 1) := dk_28 (dk_at dksX8_byteOf_1 4 rfl rfl)
theorem dX8_byteOf_29 : decode cX8_byteOf 29 = .ok (.i2l, 1) := dk_133 (dk_at dksX8_byteOf_1 5 rfl rfl)
theorem dX8_byteOf_30 : decode cX8_byteOf 30 = .ok (.invokestatic 68, 3) := dk_184 0 68 (dk_at dksX8_byteOf_1 6 rfl rfl)
theorem dX8_byteOf_33 : decode cX8_byteOf 33 = .ok (.ifCond .ne 7, 3) := dk_154 0 7 (dk_at dksX8_byteOf_1 9 rfl rfl)
theorem dX8_byteOf_36 : decode cX8_byteOf 36 = .ok (.iconst 1, 1) := dk_4 (dk_at dksX8_byteOf_1 12 rfl rfl)
theorem dX8_byteOf_37 : decode cX8_byteOf 37 = .ok (.goto 4, 3) := dk_167 0 4 (dk_at dksX8_byteOf_1 13 rfl rfl)
theorem dX8_byteOf_40 : decode cX8_byteOf 40 = .ok (.iconst 0, 1) := dk_3 (dk_at dksX8_byteOf_1 16 rfl rfl)
theorem dX8_byteOf_41 : decode cX8_byteOf 41 = .ok (.putfield 122, 3) := dk_181 0 122 (dk_at dksX8_byteOf_1 17 rfl rfl)
theorem dX8_byteOf_44 : decode cX8_byteOf 44 = .ok (.aload_n 0, 1) := dk_42 (dk_at dksX8_byteOf_1 20 rfl rfl)
theorem dX8_byteOf_45 : decode cX8_byteOf 45 = .ok (.dup, 1) := dk_89 (dk_at dksX8_byteOf_1 21 rfl rfl)
theorem dX8_byteOf_46 : decode cX8_byteOf 46 = .ok (.getfield 119, 3) := dk_180 0 119 (dk_at dksX8_byteOf_2 0 rfl rfl)
theorem dX8_byteOf_49 : decode cX8_byteOf 49 = .ok (.aload_n 0, 1) := dk_42 (dk_at dksX8_byteOf_2 3 rfl rfl)
theorem dX8_byteOf_50 : decode cX8_byteOf 50 = .ok (.getfield 122, 3) := dk_180 0 122 (dk_at dksX8_byteOf_2 4 rfl rfl)
theorem dX8_byteOf_53 : decode cX8_byteOf 53 = .ok (.ifCond .eq 7, 3) := dk_153 0 7 (dk_at dksX8_byteOf_2 7 rfl rfl)
theorem dX8_byteOf_56 : decode cX8_byteOf 56 = .ok (.iconst 0, 1) := dk_3 (dk_at dksX8_byteOf_2 10 rfl rfl)
theorem dX8_byteOf_57 : decode cX8_byteOf 57 = .ok (.goto 4, 3) := dk_167 0 4 (dk_at dksX8_byteOf_2 11 rfl rfl)
theorem dX8_byteOf_60 : decode cX8_byteOf 60 = .ok (.iconst 1, 1) := dk_4 (dk_at dksX8_byteOf_2 14 rfl rfl)
theorem dX8_byteOf_61 : decode cX8_byteOf 61 = .ok (.iadd, 1) := dk_96 (dk_at dksX8_byteOf_2 15 rfl rfl)
theorem dX8_byteOf_62 : decode cX8_byteOf 62 = .ok (.putfield 119, 3) := dk_181 0 119 (dk_at dksX8_byteOf_2 16 rfl rfl)
theorem dX8_byteOf_65 : decode cX8_byteOf 65 = .ok (.iload_n 3, 1) := dk_29 (dk_at dksX8_byteOf_2 19 rfl rfl)
theorem dX8_byteOf_66 : decode cX8_byteOf 66 = .ok (.iload_n 1, 1) := dk_27 (dk_at dksX8_byteOf_2 20 rfl rfl)
theorem dX8_byteOf_67 : decode cX8_byteOf 67 = .ok (.isub, 1) := dk_100 (dk_at dksX8_byteOf_2 21 rfl rfl)
theorem dX8_byteOf_68 : decode cX8_byteOf 68 = .ok (.ireturn, 1) := dk_172 (dk_at dksX8_byteOf_2 22 rfl rfl)
abbrev cX8_here : ByteArray := prog_10_method_15_code
def yX8_here : MethodName := ⟨RX8, "here", "()I"⟩
def dkwX8_here_2 : List UInt8 := [162, 0, 15, 42, 180, 0, 34, 42, 180, 0, 119, 46, 167, 0, 4, 3, 172]
abbrev dktX8_here_2 : List UInt8 := dkwX8_here_2 ++ []
def dkwX8_here_1 : List UInt8 := [160, 0, 16, 42, 89, 180, 0, 119, 4, 96, 181, 0, 119, 167, 255, 221, 42, 180, 0, 119, 42, 180, 0, 116]
abbrev dktX8_here_1 : List UInt8 := dkwX8_here_1 ++ dktX8_here_2
def dkwX8_here_0 : List UInt8 := [42, 180, 0, 119, 42, 180, 0, 116, 162, 0, 30, 42, 180, 0, 34, 42, 180, 0, 119, 46, 16, 32]
abbrev dktX8_here_0 : List UInt8 := dkwX8_here_0 ++ dktX8_here_1
theorem dksX8_here_0 : cX8_here.data.toList.drop 0 = dktX8_here_0 := by decide +kernel
theorem dksX8_here_1 : cX8_here.data.toList.drop 22 = dktX8_here_1 := dk_seg dksX8_here_0 22 rfl rfl
theorem dksX8_here_2 : cX8_here.data.toList.drop 46 = dktX8_here_2 := dk_seg dksX8_here_1 24 rfl rfl
theorem dX8_here_0 : decode cX8_here 0 = .ok (.aload_n 0, 1) := dk_42 (dk_at dksX8_here_0 0 rfl rfl)
theorem dX8_here_1 : decode cX8_here 1 = .ok (.getfield 119, 3) := dk_180 0 119 (dk_at dksX8_here_0 1 rfl rfl)
theorem dX8_here_4 : decode cX8_here 4 = .ok (.aload_n 0, 1) := dk_42 (dk_at dksX8_here_0 4 rfl rfl)
theorem dX8_here_5 : decode cX8_here 5 = .ok (.getfield 116, 3) := dk_180 0 116 (dk_at dksX8_here_0 5 rfl rfl)
theorem dX8_here_8 : decode cX8_here 8 = .ok (.if_icmp .ge 30, 3) := dk_162 0 30 (dk_at dksX8_here_0 8 rfl rfl)
theorem dX8_here_11 : decode cX8_here 11 = .ok (.aload_n 0, 1) := dk_42 (dk_at dksX8_here_0 11 rfl rfl)
theorem dX8_here_12 : decode cX8_here 12 = .ok (.getfield 34, 3) := dk_180 0 34 (dk_at dksX8_here_0 12 rfl rfl)
theorem dX8_here_15 : decode cX8_here 15 = .ok (.aload_n 0, 1) := dk_42 (dk_at dksX8_here_0 15 rfl rfl)
theorem dX8_here_16 : decode cX8_here 16 = .ok (.getfield 119, 3) := dk_180 0 119 (dk_at dksX8_here_0 16 rfl rfl)
theorem dX8_here_19 : decode cX8_here 19 = .ok (.iaload, 1) := dk_46 (dk_at dksX8_here_0 19 rfl rfl)
theorem dX8_here_20 : decode cX8_here 20 = .ok (.bipush 32, 2) := dk_16 32 (dk_at dksX8_here_0 20 rfl rfl)
theorem dX8_here_22 : decode cX8_here 22 = .ok (.if_icmp .ne 16, 3) := dk_160 0 16 (dk_at dksX8_here_1 0 rfl rfl)
theorem dX8_here_25 : decode cX8_here 25 = .ok (.aload_n 0, 1) := dk_42 (dk_at dksX8_here_1 3 rfl rfl)
theorem dX8_here_26 : decode cX8_here 26 = .ok (.dup, 1) := dk_89 (dk_at dksX8_here_1 4 rfl rfl)
theorem dX8_here_27 : decode cX8_here 27 = .ok (.getfield 119, 3) := dk_180 0 119 (dk_at dksX8_here_1 5 rfl rfl)
theorem dX8_here_30 : decode cX8_here 30 = .ok (.iconst 1, 1) := dk_4 (dk_at dksX8_here_1 8 rfl rfl)
theorem dX8_here_31 : decode cX8_here 31 = .ok (.iadd, 1) := dk_96 (dk_at dksX8_here_1 9 rfl rfl)
theorem dX8_here_32 : decode cX8_here 32 = .ok (.putfield 119, 3) := dk_181 0 119 (dk_at dksX8_here_1 10 rfl rfl)
theorem dX8_here_35 : decode cX8_here 35 = .ok (.goto (-35), 3) := dk_167 255 221 (dk_at dksX8_here_1 13 rfl rfl)
theorem dX8_here_38 : decode cX8_here 38 = .ok (.aload_n 0, 1) := dk_42 (dk_at dksX8_here_1 16 rfl rfl)
theorem dX8_here_39 : decode cX8_here 39 = .ok (.getfield 119, 3) := dk_180 0 119 (dk_at dksX8_here_1 17 rfl rfl)
theorem dX8_here_42 : decode cX8_here 42 = .ok (.aload_n 0, 1) := dk_42 (dk_at dksX8_here_1 20 rfl rfl)
theorem dX8_here_43 : decode cX8_here 43 = .ok (.getfield 116, 3) := dk_180 0 116 (dk_at dksX8_here_1 21 rfl rfl)
theorem dX8_here_46 : decode cX8_here 46 = .ok (.if_icmp .ge 15, 3) := dk_162 0 15 (dk_at dksX8_here_2 0 rfl rfl)
theorem dX8_here_49 : decode cX8_here 49 = .ok (.aload_n 0, 1) := dk_42 (dk_at dksX8_here_2 3 rfl rfl)
theorem dX8_here_50 : decode cX8_here 50 = .ok (.getfield 34, 3) := dk_180 0 34 (dk_at dksX8_here_2 4 rfl rfl)
theorem dX8_here_53 : decode cX8_here 53 = .ok (.aload_n 0, 1) := dk_42 (dk_at dksX8_here_2 7 rfl rfl)
theorem dX8_here_54 : decode cX8_here 54 = .ok (.getfield 119, 3) := dk_180 0 119 (dk_at dksX8_here_2 8 rfl rfl)
theorem dX8_here_57 : decode cX8_here 57 = .ok (.iaload, 1) := dk_46 (dk_at dksX8_here_2 11 rfl rfl)
theorem dX8_here_58 : decode cX8_here 58 = .ok (.goto 4, 3) := dk_167 0 4 (dk_at dksX8_here_2 12 rfl rfl)
theorem dX8_here_61 : decode cX8_here 61 = .ok (.iconst 0, 1) := dk_3 (dk_at dksX8_here_2 15 rfl rfl)
theorem dX8_here_62 : decode cX8_here 62 = .ok (.ireturn, 1) := dk_172 (dk_at dksX8_here_2 16 rfl rfl)
abbrev cX8_number : ByteArray := prog_10_method_18_code
def yX8_number : MethodName := ⟨RX8, "number", "(II)I"⟩
def dkwX8_number_6 : List UInt8 := [180, 0, 122, 153, 0, 7, 29, 167, 0, 7, 42, 180, 0, 119, 181, 0, 119, 21, 4, 172]
abbrev dktX8_number_6 : List UInt8 := dkwX8_number_6 ++ []
def dkwX8_number_5 : List UInt8 := [42, 21, 4, 133, 27, 133, 28, 133, 184, 0, 68, 154, 0, 7, 4, 167, 0, 4, 3, 181, 0, 122, 42, 42]
abbrev dktX8_number_5 : List UInt8 := dkwX8_number_5 ++ dktX8_number_6
def dkwX8_number_4 : List UInt8 := [42, 180, 0, 119, 46, 96, 16, 48, 100, 54, 4, 42, 89, 180, 0, 119, 4, 96, 181, 0, 119, 167, 255, 181]
abbrev dktX8_number_4 : List UInt8 := dkwX8_number_4 ++ dktX8_number_5
def dkwX8_number_3 : List UInt8 := [153, 0, 48, 21, 4, 18, 134, 164, 0, 8, 21, 4, 167, 0, 21, 16, 10, 21, 4, 104, 42, 180, 0, 34]
abbrev dktX8_number_3 : List UInt8 := dkwX8_number_3 ++ dktX8_number_4
def dkwX8_number_2 : List UInt8 := [162, 0, 70, 42, 180, 0, 34, 42, 180, 0, 119, 46, 133, 20, 0, 130, 20, 0, 132, 184, 0, 68]
abbrev dktX8_number_2 : List UInt8 := dkwX8_number_2 ++ dktX8_number_3
def dkwX8_number_1 : List UInt8 := [42, 4, 181, 0, 122, 3, 172, 42, 180, 0, 119, 62, 3, 54, 4, 42, 180, 0, 119, 42, 180, 0, 116]
abbrev dktX8_number_1 : List UInt8 := dkwX8_number_1 ++ dktX8_number_2
def dkwX8_number_0 : List UInt8 := [42, 180, 0, 122, 154, 0, 20, 42, 182, 0, 126, 133, 20, 0, 130, 20, 0, 132, 184, 0, 68, 154, 0, 10]
abbrev dktX8_number_0 : List UInt8 := dkwX8_number_0 ++ dktX8_number_1
theorem dksX8_number_0 : cX8_number.data.toList.drop 0 = dktX8_number_0 := by decide +kernel
theorem dksX8_number_1 : cX8_number.data.toList.drop 24 = dktX8_number_1 := dk_seg dksX8_number_0 24 rfl rfl
theorem dksX8_number_2 : cX8_number.data.toList.drop 47 = dktX8_number_2 := dk_seg dksX8_number_1 23 rfl rfl
theorem dksX8_number_3 : cX8_number.data.toList.drop 69 = dktX8_number_3 := dk_seg dksX8_number_2 22 rfl rfl
theorem dksX8_number_4 : cX8_number.data.toList.drop 93 = dktX8_number_4 := dk_seg dksX8_number_3 24 rfl rfl
theorem dksX8_number_5 : cX8_number.data.toList.drop 117 = dktX8_number_5 := dk_seg dksX8_number_4 24 rfl rfl
theorem dksX8_number_6 : cX8_number.data.toList.drop 141 = dktX8_number_6 := dk_seg dksX8_number_5 24 rfl rfl
theorem dX8_number_0 : decode cX8_number 0 = .ok (.aload_n 0, 1) := dk_42 (dk_at dksX8_number_0 0 rfl rfl)
theorem dX8_number_1 : decode cX8_number 1 = .ok (.getfield 122, 3) := dk_180 0 122 (dk_at dksX8_number_0 1 rfl rfl)
theorem dX8_number_4 : decode cX8_number 4 = .ok (.ifCond .ne 20, 3) := dk_154 0 20 (dk_at dksX8_number_0 4 rfl rfl)
theorem dX8_number_7 : decode cX8_number 7 = .ok (.aload_n 0, 1) := dk_42 (dk_at dksX8_number_0 7 rfl rfl)
theorem dX8_number_8 : decode cX8_number 8 = .ok (.invokevirtual 126, 3) := dk_182 0 126 (dk_at dksX8_number_0 8 rfl rfl)
theorem dX8_number_11 : decode cX8_number 11 = .ok (.i2l, 1) := dk_133 (dk_at dksX8_number_0 11 rfl rfl)
theorem dX8_number_12 : decode cX8_number 12 = .ok (.ldc2_w 130, 3) := dk_20 0 130 (dk_at dksX8_number_0 12 rfl rfl)
theorem dX8_number_15 : decode cX8_number 15 = .ok (.ldc2_w 132, 3) := dk_20 0 132 (dk_at dksX8_number_0 15 rfl rfl)
theorem dX8_number_18 : decode cX8_number 18 = .ok (.invokestatic 68, 3) := dk_184 0 68 (dk_at dksX8_number_0 18 rfl rfl)
theorem dX8_number_21 : decode cX8_number 21 = .ok (.ifCond .ne 10, 3) := dk_154 0 10 (dk_at dksX8_number_0 21 rfl rfl)
theorem dX8_number_24 : decode cX8_number 24 = .ok (.aload_n 0, 1) := dk_42 (dk_at dksX8_number_1 0 rfl rfl)
theorem dX8_number_25 : decode cX8_number 25 = .ok (.iconst 1, 1) := dk_4 (dk_at dksX8_number_1 1 rfl rfl)
theorem dX8_number_26 : decode cX8_number 26 = .ok (.putfield 122, 3) := dk_181 0 122 (dk_at dksX8_number_1 2 rfl rfl)
theorem dX8_number_29 : decode cX8_number 29 = .ok (.iconst 0, 1) := dk_3 (dk_at dksX8_number_1 5 rfl rfl)
theorem dX8_number_30 : decode cX8_number 30 = .ok (.ireturn, 1) := dk_172 (dk_at dksX8_number_1 6 rfl rfl)
theorem dX8_number_31 : decode cX8_number 31 = .ok (.aload_n 0, 1) := dk_42 (dk_at dksX8_number_1 7 rfl rfl)
theorem dX8_number_32 : decode cX8_number 32 = .ok (.getfield 119, 3) := dk_180 0 119 (dk_at dksX8_number_1 8 rfl rfl)
theorem dX8_number_35 : decode cX8_number 35 = .ok (.istore_n 3, 1) := dk_62 (dk_at dksX8_number_1 11 rfl rfl)
theorem dX8_number_36 : decode cX8_number 36 = .ok (.iconst 0, 1) := dk_3 (dk_at dksX8_number_1 12 rfl rfl)
theorem dX8_number_37 : decode cX8_number 37 = .ok (.istore 4, 2) := dk_54 4 (dk_at dksX8_number_1 13 rfl rfl)
theorem dX8_number_39 : decode cX8_number 39 = .ok (.aload_n 0, 1) := dk_42 (dk_at dksX8_number_1 15 rfl rfl)
theorem dX8_number_40 : decode cX8_number 40 = .ok (.getfield 119, 3) := dk_180 0 119 (dk_at dksX8_number_1 16 rfl rfl)
theorem dX8_number_43 : decode cX8_number 43 = .ok (.aload_n 0, 1) := dk_42 (dk_at dksX8_number_1 19 rfl rfl)
theorem dX8_number_44 : decode cX8_number 44 = .ok (.getfield 116, 3) := dk_180 0 116 (dk_at dksX8_number_1 20 rfl rfl)
theorem dX8_number_47 : decode cX8_number 47 = .ok (.if_icmp .ge 70, 3) := dk_162 0 70 (dk_at dksX8_number_2 0 rfl rfl)
theorem dX8_number_50 : decode cX8_number 50 = .ok (.aload_n 0, 1) := dk_42 (dk_at dksX8_number_2 3 rfl rfl)
theorem dX8_number_51 : decode cX8_number 51 = .ok (.getfield 34, 3) := dk_180 0 34 (dk_at dksX8_number_2 4 rfl rfl)
theorem dX8_number_54 : decode cX8_number 54 = .ok (.aload_n 0, 1) := dk_42 (dk_at dksX8_number_2 7 rfl rfl)
theorem dX8_number_55 : decode cX8_number 55 = .ok (.getfield 119, 3) := dk_180 0 119 (dk_at dksX8_number_2 8 rfl rfl)
theorem dX8_number_58 : decode cX8_number 58 = .ok (.iaload, 1) := dk_46 (dk_at dksX8_number_2 11 rfl rfl)
theorem dX8_number_59 : decode cX8_number 59 = .ok (.i2l, 1) := dk_133 (dk_at dksX8_number_2 12 rfl rfl)
theorem dX8_number_60 : decode cX8_number 60 = .ok (.ldc2_w 130, 3) := dk_20 0 130 (dk_at dksX8_number_2 13 rfl rfl)
theorem dX8_number_63 : decode cX8_number 63 = .ok (.ldc2_w 132, 3) := dk_20 0 132 (dk_at dksX8_number_2 16 rfl rfl)
theorem dX8_number_66 : decode cX8_number 66 = .ok (.invokestatic 68, 3) := dk_184 0 68 (dk_at dksX8_number_2 19 rfl rfl)
theorem dX8_number_69 : decode cX8_number 69 = .ok (.ifCond .eq 48, 3) := dk_153 0 48 (dk_at dksX8_number_3 0 rfl rfl)
theorem dX8_number_72 : decode cX8_number 72 = .ok (.iload 4, 2) := dk_21 4 (dk_at dksX8_number_3 3 rfl rfl)
theorem dX8_number_74 : decode cX8_number 74 = .ok (.ldc 134, 2) := dk_18 134 (dk_at dksX8_number_3 5 rfl rfl)
theorem dX8_number_76 : decode cX8_number 76 = .ok (.if_icmp .le 8, 3) := dk_164 0 8 (dk_at dksX8_number_3 7 rfl rfl)
theorem dX8_number_79 : decode cX8_number 79 = .ok (.iload 4, 2) := dk_21 4 (dk_at dksX8_number_3 10 rfl rfl)
theorem dX8_number_81 : decode cX8_number 81 = .ok (.goto 21, 3) := dk_167 0 21 (dk_at dksX8_number_3 12 rfl rfl)
theorem dX8_number_84 : decode cX8_number 84 = .ok (.bipush 10, 2) := dk_16 10 (dk_at dksX8_number_3 15 rfl rfl)
theorem dX8_number_86 : decode cX8_number 86 = .ok (.iload 4, 2) := dk_21 4 (dk_at dksX8_number_3 17 rfl rfl)
theorem dX8_number_88 : decode cX8_number 88 = .ok (.imul, 1) := dk_104 (dk_at dksX8_number_3 19 rfl rfl)
theorem dX8_number_89 : decode cX8_number 89 = .ok (.aload_n 0, 1) := dk_42 (dk_at dksX8_number_3 20 rfl rfl)
theorem dX8_number_90 : decode cX8_number 90 = .ok (.getfield 34, 3) := dk_180 0 34 (dk_at dksX8_number_3 21 rfl rfl)
theorem dX8_number_93 : decode cX8_number 93 = .ok (.aload_n 0, 1) := dk_42 (dk_at dksX8_number_4 0 rfl rfl)
theorem dX8_number_94 : decode cX8_number 94 = .ok (.getfield 119, 3) := dk_180 0 119 (dk_at dksX8_number_4 1 rfl rfl)
theorem dX8_number_97 : decode cX8_number 97 = .ok (.iaload, 1) := dk_46 (dk_at dksX8_number_4 4 rfl rfl)
theorem dX8_number_98 : decode cX8_number 98 = .ok (.iadd, 1) := dk_96 (dk_at dksX8_number_4 5 rfl rfl)
theorem dX8_number_99 : decode cX8_number 99 = .ok (.bipush 48, 2) := dk_16 48 (dk_at dksX8_number_4 6 rfl rfl)
theorem dX8_number_101 : decode cX8_number 101 = .ok (.isub, 1) := dk_100 (dk_at dksX8_number_4 8 rfl rfl)
theorem dX8_number_102 : decode cX8_number 102 = .ok (.istore 4, 2) := dk_54 4 (dk_at dksX8_number_4 9 rfl rfl)
theorem dX8_number_104 : decode cX8_number 104 = .ok (.aload_n 0, 1) := dk_42 (dk_at dksX8_number_4 11 rfl rfl)
theorem dX8_number_105 : decode cX8_number 105 = .ok (.dup, 1) := dk_89 (dk_at dksX8_number_4 12 rfl rfl)
theorem dX8_number_106 : decode cX8_number 106 = .ok (.getfield 119, 3) := dk_180 0 119 (dk_at dksX8_number_4 13 rfl rfl)
theorem dX8_number_109 : decode cX8_number 109 = .ok (.iconst 1, 1) := dk_4 (dk_at dksX8_number_4 16 rfl rfl)
theorem dX8_number_110 : decode cX8_number 110 = .ok (.iadd, 1) := dk_96 (dk_at dksX8_number_4 17 rfl rfl)
theorem dX8_number_111 : decode cX8_number 111 = .ok (.putfield 119, 3) := dk_181 0 119 (dk_at dksX8_number_4 18 rfl rfl)
theorem dX8_number_114 : decode cX8_number 114 = .ok (.goto (-75), 3) := dk_167 255 181 (dk_at dksX8_number_4 21 rfl rfl)
theorem dX8_number_117 : decode cX8_number 117 = .ok (.aload_n 0, 1) := dk_42 (dk_at dksX8_number_5 0 rfl rfl)
theorem dX8_number_118 : decode cX8_number 118 = .ok (.iload 4, 2) := dk_21 4 (dk_at dksX8_number_5 1 rfl rfl)
theorem dX8_number_120 : decode cX8_number 120 = .ok (.i2l, 1) := dk_133 (dk_at dksX8_number_5 3 rfl rfl)
theorem dX8_number_121 : decode cX8_number 121 = .ok (.iload_n 1, 1) := dk_27 (dk_at dksX8_number_5 4 rfl rfl)
theorem dX8_number_122 : decode cX8_number 122 = .ok (.i2l, 1) := dk_133 (dk_at dksX8_number_5 5 rfl rfl)
theorem dX8_number_123 : decode cX8_number 123 = .ok (.iload_n 2, 1) := dk_28 (dk_at dksX8_number_5 6 rfl rfl)
theorem dX8_number_124 : decode cX8_number 124 = .ok (.i2l, 1) := dk_133 (dk_at dksX8_number_5 7 rfl rfl)
theorem dX8_number_125 : decode cX8_number 125 = .ok (.invokestatic 68, 3) := dk_184 0 68 (dk_at dksX8_number_5 8 rfl rfl)
theorem dX8_number_128 : decode cX8_number 128 = .ok (.ifCond .ne 7, 3) := dk_154 0 7 (dk_at dksX8_number_5 11 rfl rfl)
theorem dX8_number_131 : decode cX8_number 131 = .ok (.iconst 1, 1) := dk_4 (dk_at dksX8_number_5 14 rfl rfl)
theorem dX8_number_132 : decode cX8_number 132 = .ok (.goto 4, 3) := dk_167 0 4 (dk_at dksX8_number_5 15 rfl rfl)
theorem dX8_number_135 : decode cX8_number 135 = .ok (.iconst 0, 1) := dk_3 (dk_at dksX8_number_5 18 rfl rfl)
theorem dX8_number_136 : decode cX8_number 136 = .ok (.putfield 122, 3) := dk_181 0 122 (dk_at dksX8_number_5 19 rfl rfl)
theorem dX8_number_139 : decode cX8_number 139 = .ok (.aload_n 0, 1) := dk_42 (dk_at dksX8_number_5 22 rfl rfl)
theorem dX8_number_140 : decode cX8_number 140 = .ok (.aload_n 0, 1) := dk_42 (dk_at dksX8_number_5 23 rfl rfl)
theorem dX8_number_141 : decode cX8_number 141 = .ok (.getfield 122, 3) := dk_180 0 122 (dk_at dksX8_number_6 0 rfl rfl)
theorem dX8_number_144 : decode cX8_number 144 = .ok (.ifCond .eq 7, 3) := dk_153 0 7 (dk_at dksX8_number_6 3 rfl rfl)
theorem dX8_number_147 : decode cX8_number 147 = .ok (.iload_n 3, 1) := dk_29 (dk_at dksX8_number_6 6 rfl rfl)
theorem dX8_number_148 : decode cX8_number 148 = .ok (.goto 7, 3) := dk_167 0 7 (dk_at dksX8_number_6 7 rfl rfl)
theorem dX8_number_151 : decode cX8_number 151 = .ok (.aload_n 0, 1) := dk_42 (dk_at dksX8_number_6 10 rfl rfl)
theorem dX8_number_152 : decode cX8_number 152 = .ok (.getfield 119, 3) := dk_180 0 119 (dk_at dksX8_number_6 11 rfl rfl)
theorem dX8_number_155 : decode cX8_number 155 = .ok (.putfield 119, 3) := dk_181 0 119 (dk_at dksX8_number_6 14 rfl rfl)
theorem dX8_number_158 : decode cX8_number 158 = .ok (.iload 4, 2) := dk_21 4 (dk_at dksX8_number_6 17 rfl rfl)
theorem dX8_number_160 : decode cX8_number 160 = .ok (.ireturn, 1) := dk_172 (dk_at dksX8_number_6 19 rfl rfl)
abbrev cX8_has : ByteArray := prog_10_method_16_code
def yX8_has : MethodName := ⟨RX8, "has", "(I)Z"⟩
def dkwX8_has_1 : List UInt8 := [180, 0, 119, 28, 153, 0, 7, 4, 167, 0, 4, 3, 96, 181, 0, 119, 28, 172]
abbrev dktX8_has_1 : List UInt8 := dkwX8_has_1 ++ []
def dkwX8_has_0 : List UInt8 := [42, 180, 0, 122, 154, 0, 15, 42, 182, 0, 126, 27, 160, 0, 7, 4, 167, 0, 4, 3, 61, 42, 89]
abbrev dktX8_has_0 : List UInt8 := dkwX8_has_0 ++ dktX8_has_1
theorem dksX8_has_0 : cX8_has.data.toList.drop 0 = dktX8_has_0 := by decide +kernel
theorem dksX8_has_1 : cX8_has.data.toList.drop 23 = dktX8_has_1 := dk_seg dksX8_has_0 23 rfl rfl
theorem dX8_has_0 : decode cX8_has 0 = .ok (.aload_n 0, 1) := dk_42 (dk_at dksX8_has_0 0 rfl rfl)
theorem dX8_has_1 : decode cX8_has 1 = .ok (.getfield 122, 3) := dk_180 0 122 (dk_at dksX8_has_0 1 rfl rfl)
theorem dX8_has_4 : decode cX8_has 4 = .ok (.ifCond .ne 15, 3) := dk_154 0 15 (dk_at dksX8_has_0 4 rfl rfl)
theorem dX8_has_7 : decode cX8_has 7 = .ok (.aload_n 0, 1) := dk_42 (dk_at dksX8_has_0 7 rfl rfl)
theorem dX8_has_8 : decode cX8_has 8 = .ok (.invokevirtual 126, 3) := dk_182 0 126 (dk_at dksX8_has_0 8 rfl rfl)
theorem dX8_has_11 : decode cX8_has 11 = .ok (.iload_n 1, 1) := dk_27 (dk_at dksX8_has_0 11 rfl rfl)
theorem dX8_has_12 : decode cX8_has 12 = .ok (.if_icmp .ne 7, 3) := dk_160 0 7 (dk_at dksX8_has_0 12 rfl rfl)
theorem dX8_has_15 : decode cX8_has 15 = .ok (.iconst 1, 1) := dk_4 (dk_at dksX8_has_0 15 rfl rfl)
theorem dX8_has_16 : decode cX8_has 16 = .ok (.goto 4, 3) := dk_167 0 4 (dk_at dksX8_has_0 16 rfl rfl)
theorem dX8_has_19 : decode cX8_has 19 = .ok (.iconst 0, 1) := dk_3 (dk_at dksX8_has_0 19 rfl rfl)
theorem dX8_has_20 : decode cX8_has 20 = .ok (.istore_n 2, 1) := dk_61 (dk_at dksX8_has_0 20 rfl rfl)
theorem dX8_has_21 : decode cX8_has 21 = .ok (.aload_n 0, 1) := dk_42 (dk_at dksX8_has_0 21 rfl rfl)
theorem dX8_has_22 : decode cX8_has 22 = .ok (.dup, 1) := dk_89 (dk_at dksX8_has_0 22 rfl rfl)
theorem dX8_has_23 : decode cX8_has 23 = .ok (.getfield 119, 3) := dk_180 0 119 (dk_at dksX8_has_1 0 rfl rfl)
theorem dX8_has_26 : decode cX8_has 26 = .ok (.iload_n 2, 1) := dk_28 (dk_at dksX8_has_1 3 rfl rfl)
theorem dX8_has_27 : decode cX8_has 27 = .ok (.ifCond .eq 7, 3) := dk_153 0 7 (dk_at dksX8_has_1 4 rfl rfl)
theorem dX8_has_30 : decode cX8_has 30 = .ok (.iconst 1, 1) := dk_4 (dk_at dksX8_has_1 7 rfl rfl)
theorem dX8_has_31 : decode cX8_has 31 = .ok (.goto 4, 3) := dk_167 0 4 (dk_at dksX8_has_1 8 rfl rfl)
theorem dX8_has_34 : decode cX8_has 34 = .ok (.iconst 0, 1) := dk_3 (dk_at dksX8_has_1 11 rfl rfl)
theorem dX8_has_35 : decode cX8_has 35 = .ok (.iadd, 1) := dk_96 (dk_at dksX8_has_1 12 rfl rfl)
theorem dX8_has_36 : decode cX8_has 36 = .ok (.putfield 119, 3) := dk_181 0 119 (dk_at dksX8_has_1 13 rfl rfl)
theorem dX8_has_39 : decode cX8_has 39 = .ok (.iload_n 2, 1) := dk_28 (dk_at dksX8_has_1 16 rfl rfl)
theorem dX8_has_40 : decode cX8_has 40 = .ok (.ireturn, 1) := dk_172 (dk_at dksX8_has_1 17 rfl rfl)
abbrev cX8_count : ByteArray := prog_10_method_20_code
def yX8_count : MethodName := ⟨RX8, "count", "(I)I"⟩
def dkwX8_count_5 : List UInt8 := [2, 172]
abbrev dktX8_count_5 : List UInt8 := dkwX8_count_5 ++ []
def dkwX8_count_4 : List UInt8 := [42, 180, 0, 64, 172, 42, 180, 0, 145, 172, 28, 172, 29, 172, 42, 180, 0, 148, 172, 42, 180, 0, 151, 172]
abbrev dktX8_count_4 : List UInt8 := dkwX8_count_4 ++ dktX8_count_5
def dkwX8_count_3 : List UInt8 := [170, 0, 0, 0, 0, 0, 0, 64, 0, 0, 0, 0, 0, 0, 0, 5, 0, 0, 0, 40, 0, 0, 0, 45, 0, 0, 0, 50, 0, 0, 0, 52, 0, 0, 0, 54, 0, 0, 0, 59]
abbrev dktX8_count_3 : List UInt8 := dkwX8_count_3 ++ dktX8_count_4
def dkwX8_count_2 : List UInt8 := [128, 62, 132, 4, 1, 167, 255, 211, 27]
abbrev dktX8_count_2 : List UInt8 := dkwX8_count_2 ++ dktX8_count_3
def dkwX8_count_1 : List UInt8 := [21, 4, 104, 6, 96, 46, 96, 61, 29, 42, 180, 0, 7, 16, 40, 21, 4, 104, 8, 96, 46, 21, 4, 120]
abbrev dktX8_count_1 : List UInt8 := dkwX8_count_1 ++ dktX8_count_2
def dkwX8_count_0 : List UInt8 := [3, 61, 3, 62, 3, 54, 4, 21, 4, 42, 180, 0, 64, 162, 0, 42, 28, 42, 180, 0, 7, 16, 40]
abbrev dktX8_count_0 : List UInt8 := dkwX8_count_0 ++ dktX8_count_1
theorem dksX8_count_0 : cX8_count.data.toList.drop 0 = dktX8_count_0 := by decide +kernel
theorem dksX8_count_1 : cX8_count.data.toList.drop 23 = dktX8_count_1 := dk_seg dksX8_count_0 23 rfl rfl
theorem dksX8_count_2 : cX8_count.data.toList.drop 47 = dktX8_count_2 := dk_seg dksX8_count_1 24 rfl rfl
theorem dksX8_count_3 : cX8_count.data.toList.drop 56 = dktX8_count_3 := dk_seg dksX8_count_2 9 rfl rfl
theorem dksX8_count_4 : cX8_count.data.toList.drop 96 = dktX8_count_4 := dk_seg dksX8_count_3 40 rfl rfl
theorem dksX8_count_5 : cX8_count.data.toList.drop 120 = dktX8_count_5 := dk_seg dksX8_count_4 24 rfl rfl
theorem dX8_count_0 : decode cX8_count 0 = .ok (.iconst 0, 1) := dk_3 (dk_at dksX8_count_0 0 rfl rfl)
theorem dX8_count_1 : decode cX8_count 1 = .ok (.istore_n 2, 1) := dk_61 (dk_at dksX8_count_0 1 rfl rfl)
theorem dX8_count_2 : decode cX8_count 2 = .ok (.iconst 0, 1) := dk_3 (dk_at dksX8_count_0 2 rfl rfl)
theorem dX8_count_3 : decode cX8_count 3 = .ok (.istore_n 3, 1) := dk_62 (dk_at dksX8_count_0 3 rfl rfl)
theorem dX8_count_4 : decode cX8_count 4 = .ok (.iconst 0, 1) := dk_3 (dk_at dksX8_count_0 4 rfl rfl)
theorem dX8_count_5 : decode cX8_count 5 = .ok (.istore 4, 2) := dk_54 4 (dk_at dksX8_count_0 5 rfl rfl)
theorem dX8_count_7 : decode cX8_count 7 = .ok (.iload 4, 2) := dk_21 4 (dk_at dksX8_count_0 7 rfl rfl)
theorem dX8_count_9 : decode cX8_count 9 = .ok (.aload_n 0, 1) := dk_42 (dk_at dksX8_count_0 9 rfl rfl)
theorem dX8_count_10 : decode cX8_count 10 = .ok (.getfield 64, 3) := dk_180 0 64 (dk_at dksX8_count_0 10 rfl rfl)
theorem dX8_count_13 : decode cX8_count 13 = .ok (.if_icmp .ge 42, 3) := dk_162 0 42 (dk_at dksX8_count_0 13 rfl rfl)
theorem dX8_count_16 : decode cX8_count 16 = .ok (.iload_n 2, 1) := dk_28 (dk_at dksX8_count_0 16 rfl rfl)
theorem dX8_count_17 : decode cX8_count 17 = .ok (.aload_n 0, 1) := dk_42 (dk_at dksX8_count_0 17 rfl rfl)
theorem dX8_count_18 : decode cX8_count 18 = .ok (.getfield 7, 3) := dk_180 0 7 (dk_at dksX8_count_0 18 rfl rfl)
theorem dX8_count_21 : decode cX8_count 21 = .ok (.bipush 40, 2) := dk_16 40 (dk_at dksX8_count_0 21 rfl rfl)
theorem dX8_count_23 : decode cX8_count 23 = .ok (.iload 4, 2) := dk_21 4 (dk_at dksX8_count_1 0 rfl rfl)
theorem dX8_count_25 : decode cX8_count 25 = .ok (.imul, 1) := dk_104 (dk_at dksX8_count_1 2 rfl rfl)
theorem dX8_count_26 : decode cX8_count 26 = .ok (.iconst 3, 1) := dk_6 (dk_at dksX8_count_1 3 rfl rfl)
theorem dX8_count_27 : decode cX8_count 27 = .ok (.iadd, 1) := dk_96 (dk_at dksX8_count_1 4 rfl rfl)
theorem dX8_count_28 : decode cX8_count 28 = .ok (.iaload, 1) := dk_46 (dk_at dksX8_count_1 5 rfl rfl)
theorem dX8_count_29 : decode cX8_count 29 = .ok (.iadd, 1) := dk_96 (dk_at dksX8_count_1 6 rfl rfl)
theorem dX8_count_30 : decode cX8_count 30 = .ok (.istore_n 2, 1) := dk_61 (dk_at dksX8_count_1 7 rfl rfl)
theorem dX8_count_31 : decode cX8_count 31 = .ok (.iload_n 3, 1) := dk_29 (dk_at dksX8_count_1 8 rfl rfl)
theorem dX8_count_32 : decode cX8_count 32 = .ok (.aload_n 0, 1) := dk_42 (dk_at dksX8_count_1 9 rfl rfl)
theorem dX8_count_33 : decode cX8_count 33 = .ok (.getfield 7, 3) := dk_180 0 7 (dk_at dksX8_count_1 10 rfl rfl)
theorem dX8_count_36 : decode cX8_count 36 = .ok (.bipush 40, 2) := dk_16 40 (dk_at dksX8_count_1 13 rfl rfl)
theorem dX8_count_38 : decode cX8_count 38 = .ok (.iload 4, 2) := dk_21 4 (dk_at dksX8_count_1 15 rfl rfl)
theorem dX8_count_40 : decode cX8_count 40 = .ok (.imul, 1) := dk_104 (dk_at dksX8_count_1 17 rfl rfl)
theorem dX8_count_41 : decode cX8_count 41 = .ok (.iconst 5, 1) := dk_8 (dk_at dksX8_count_1 18 rfl rfl)
theorem dX8_count_42 : decode cX8_count 42 = .ok (.iadd, 1) := dk_96 (dk_at dksX8_count_1 19 rfl rfl)
theorem dX8_count_43 : decode cX8_count 43 = .ok (.iaload, 1) := dk_46 (dk_at dksX8_count_1 20 rfl rfl)
theorem dX8_count_44 : decode cX8_count 44 = .ok (.iload 4, 2) := dk_21 4 (dk_at dksX8_count_1 21 rfl rfl)
theorem dX8_count_46 : decode cX8_count 46 = .ok (.ishl, 1) := dk_120 (dk_at dksX8_count_1 23 rfl rfl)
theorem dX8_count_47 : decode cX8_count 47 = .ok (.ior, 1) := dk_128 (dk_at dksX8_count_2 0 rfl rfl)
theorem dX8_count_48 : decode cX8_count 48 = .ok (.istore_n 3, 1) := dk_62 (dk_at dksX8_count_2 1 rfl rfl)
theorem dX8_count_49 : decode cX8_count 49 = .ok (.iinc 4 1, 3) := dk_132 4 1 (dk_at dksX8_count_2 2 rfl rfl)
theorem dX8_count_52 : decode cX8_count 52 = .ok (.goto (-45), 3) := dk_167 255 211 (dk_at dksX8_count_2 5 rfl rfl)
theorem dX8_count_55 : decode cX8_count 55 = .ok (.iload_n 1, 1) := dk_27 (dk_at dksX8_count_2 8 rfl rfl)
theorem dX8_count_56 : decode cX8_count 56 = .ok (.tableswitch 64 0 5 #[40, 45, 50, 52, 54, 59], 40) := by decide +kernel
theorem dX8_count_96 : decode cX8_count 96 = .ok (.aload_n 0, 1) := dk_42 (dk_at dksX8_count_4 0 rfl rfl)
theorem dX8_count_97 : decode cX8_count 97 = .ok (.getfield 64, 3) := dk_180 0 64 (dk_at dksX8_count_4 1 rfl rfl)
theorem dX8_count_100 : decode cX8_count 100 = .ok (.ireturn, 1) := dk_172 (dk_at dksX8_count_4 4 rfl rfl)
theorem dX8_count_101 : decode cX8_count 101 = .ok (.aload_n 0, 1) := dk_42 (dk_at dksX8_count_4 5 rfl rfl)
theorem dX8_count_102 : decode cX8_count 102 = .ok (.getfield 145, 3) := dk_180 0 145 (dk_at dksX8_count_4 6 rfl rfl)
theorem dX8_count_105 : decode cX8_count 105 = .ok (.ireturn, 1) := dk_172 (dk_at dksX8_count_4 9 rfl rfl)
theorem dX8_count_106 : decode cX8_count 106 = .ok (.iload_n 2, 1) := dk_28 (dk_at dksX8_count_4 10 rfl rfl)
theorem dX8_count_107 : decode cX8_count 107 = .ok (.ireturn, 1) := dk_172 (dk_at dksX8_count_4 11 rfl rfl)
theorem dX8_count_108 : decode cX8_count 108 = .ok (.iload_n 3, 1) := dk_29 (dk_at dksX8_count_4 12 rfl rfl)
theorem dX8_count_109 : decode cX8_count 109 = .ok (.ireturn, 1) := dk_172 (dk_at dksX8_count_4 13 rfl rfl)
theorem dX8_count_110 : decode cX8_count 110 = .ok (.aload_n 0, 1) := dk_42 (dk_at dksX8_count_4 14 rfl rfl)
theorem dX8_count_111 : decode cX8_count 111 = .ok (.getfield 148, 3) := dk_180 0 148 (dk_at dksX8_count_4 15 rfl rfl)
theorem dX8_count_114 : decode cX8_count 114 = .ok (.ireturn, 1) := dk_172 (dk_at dksX8_count_4 18 rfl rfl)
theorem dX8_count_115 : decode cX8_count 115 = .ok (.aload_n 0, 1) := dk_42 (dk_at dksX8_count_4 19 rfl rfl)
theorem dX8_count_116 : decode cX8_count 116 = .ok (.getfield 151, 3) := dk_180 0 151 (dk_at dksX8_count_4 20 rfl rfl)
theorem dX8_count_119 : decode cX8_count 119 = .ok (.ireturn, 1) := dk_172 (dk_at dksX8_count_4 23 rfl rfl)
theorem dX8_count_120 : decode cX8_count 120 = .ok (.iconst (-1), 1) := dk_2 (dk_at dksX8_count_5 0 rfl rfl)
theorem dX8_count_121 : decode cX8_count 121 = .ok (.ireturn, 1) := dk_172 (dk_at dksX8_count_5 1 rfl rfl)
abbrev cX8_nights : ByteArray := prog_10_method_25_code
def yX8_nights : MethodName := ⟨RX8, "nights", "(I)I"⟩
def dkwX8_nights_3 : List UInt8 := [180, 0, 145, 172]
abbrev dktX8_nights_3 : List UInt8 := dkwX8_nights_3 ++ []
def dkwX8_nights_2 : List UInt8 := [180, 0, 145, 4, 96, 181, 0, 145, 42, 42, 180, 0, 145, 182, 0, 165, 132, 2, 1, 167, 255, 230, 42]
abbrev dktX8_nights_2 : List UInt8 := dkwX8_nights_2 ++ dktX8_nights_3
def dkwX8_nights_1 : List UInt8 := [164, 0, 6, 16, 253, 172, 42, 42, 180, 0, 7, 181, 0, 16, 3, 61, 28, 27, 162, 0, 27, 42, 89]
abbrev dktX8_nights_1 : List UInt8 := dkwX8_nights_1 ++ dktX8_nights_2
def dkwX8_nights_0 : List UInt8 := [27, 133, 10, 20, 0, 78, 184, 0, 68, 154, 0, 5, 2, 172, 42, 180, 0, 145, 27, 96, 17, 1, 103]
abbrev dktX8_nights_0 : List UInt8 := dkwX8_nights_0 ++ dktX8_nights_1
theorem dksX8_nights_0 : cX8_nights.data.toList.drop 0 = dktX8_nights_0 := by decide +kernel
theorem dksX8_nights_1 : cX8_nights.data.toList.drop 23 = dktX8_nights_1 := dk_seg dksX8_nights_0 23 rfl rfl
theorem dksX8_nights_2 : cX8_nights.data.toList.drop 46 = dktX8_nights_2 := dk_seg dksX8_nights_1 23 rfl rfl
theorem dksX8_nights_3 : cX8_nights.data.toList.drop 69 = dktX8_nights_3 := dk_seg dksX8_nights_2 23 rfl rfl
theorem dX8_nights_0 : decode cX8_nights 0 = .ok (.iload_n 1, 1) := dk_27 (dk_at dksX8_nights_0 0 rfl rfl)
theorem dX8_nights_1 : decode cX8_nights 1 = .ok (.i2l, 1) := dk_133 (dk_at dksX8_nights_0 1 rfl rfl)
theorem dX8_nights_2 : decode cX8_nights 2 = .ok (.lconst 1, 1) := dk_10 (dk_at dksX8_nights_0 2 rfl rfl)
theorem dX8_nights_3 : decode cX8_nights 3 = .ok (.ldc2_w 78, 3) := dk_20 0 78 (dk_at dksX8_nights_0 3 rfl rfl)
theorem dX8_nights_6 : decode cX8_nights 6 = .ok (.invokestatic 68, 3) := dk_184 0 68 (dk_at dksX8_nights_0 6 rfl rfl)
theorem dX8_nights_9 : decode cX8_nights 9 = .ok (.ifCond .ne 5, 3) := dk_154 0 5 (dk_at dksX8_nights_0 9 rfl rfl)
theorem dX8_nights_12 : decode cX8_nights 12 = .ok (.iconst (-1), 1) := dk_2 (dk_at dksX8_nights_0 12 rfl rfl)
theorem dX8_nights_13 : decode cX8_nights 13 = .ok (.ireturn, 1) := dk_172 (dk_at dksX8_nights_0 13 rfl rfl)
theorem dX8_nights_14 : decode cX8_nights 14 = .ok (.aload_n 0, 1) := dk_42 (dk_at dksX8_nights_0 14 rfl rfl)
theorem dX8_nights_15 : decode cX8_nights 15 = .ok (.getfield 145, 3) := dk_180 0 145 (dk_at dksX8_nights_0 15 rfl rfl)
theorem dX8_nights_18 : decode cX8_nights 18 = .ok (.iload_n 1, 1) := dk_27 (dk_at dksX8_nights_0 18 rfl rfl)
theorem dX8_nights_19 : decode cX8_nights 19 = .ok (.iadd, 1) := dk_96 (dk_at dksX8_nights_0 19 rfl rfl)
theorem dX8_nights_20 : decode cX8_nights 20 = .ok (.sipush 359, 3) := dk_17 1 103 (dk_at dksX8_nights_0 20 rfl rfl)
theorem dX8_nights_23 : decode cX8_nights 23 = .ok (.if_icmp .le 6, 3) := dk_164 0 6 (dk_at dksX8_nights_1 0 rfl rfl)
theorem dX8_nights_26 : decode cX8_nights 26 = .ok (.bipush (-3), 2) := dk_16 253 (dk_at dksX8_nights_1 3 rfl rfl)
theorem dX8_nights_28 : decode cX8_nights 28 = .ok (.ireturn, 1) := dk_172 (dk_at dksX8_nights_1 5 rfl rfl)
theorem dX8_nights_29 : decode cX8_nights 29 = .ok (.aload_n 0, 1) := dk_42 (dk_at dksX8_nights_1 6 rfl rfl)
theorem dX8_nights_30 : decode cX8_nights 30 = .ok (.aload_n 0, 1) := dk_42 (dk_at dksX8_nights_1 7 rfl rfl)
theorem dX8_nights_31 : decode cX8_nights 31 = .ok (.getfield 7, 3) := dk_180 0 7 (dk_at dksX8_nights_1 8 rfl rfl)
theorem dX8_nights_34 : decode cX8_nights 34 = .ok (.putfield 16, 3) := dk_181 0 16 (dk_at dksX8_nights_1 11 rfl rfl)
theorem dX8_nights_37 : decode cX8_nights 37 = .ok (.iconst 0, 1) := dk_3 (dk_at dksX8_nights_1 14 rfl rfl)
theorem dX8_nights_38 : decode cX8_nights 38 = .ok (.istore_n 2, 1) := dk_61 (dk_at dksX8_nights_1 15 rfl rfl)
theorem dX8_nights_39 : decode cX8_nights 39 = .ok (.iload_n 2, 1) := dk_28 (dk_at dksX8_nights_1 16 rfl rfl)
theorem dX8_nights_40 : decode cX8_nights 40 = .ok (.iload_n 1, 1) := dk_27 (dk_at dksX8_nights_1 17 rfl rfl)
theorem dX8_nights_41 : decode cX8_nights 41 = .ok (.if_icmp .ge 27, 3) := dk_162 0 27 (dk_at dksX8_nights_1 18 rfl rfl)
theorem dX8_nights_44 : decode cX8_nights 44 = .ok (.aload_n 0, 1) := dk_42 (dk_at dksX8_nights_1 21 rfl rfl)
theorem dX8_nights_45 : decode cX8_nights 45 = .ok (.dup, 1) := dk_89 (dk_at dksX8_nights_1 22 rfl rfl)
theorem dX8_nights_46 : decode cX8_nights 46 = .ok (.getfield 145, 3) := dk_180 0 145 (dk_at dksX8_nights_2 0 rfl rfl)
theorem dX8_nights_49 : decode cX8_nights 49 = .ok (.iconst 1, 1) := dk_4 (dk_at dksX8_nights_2 3 rfl rfl)
theorem dX8_nights_50 : decode cX8_nights 50 = .ok (.iadd, 1) := dk_96 (dk_at dksX8_nights_2 4 rfl rfl)
theorem dX8_nights_51 : decode cX8_nights 51 = .ok (.putfield 145, 3) := dk_181 0 145 (dk_at dksX8_nights_2 5 rfl rfl)
theorem dX8_nights_54 : decode cX8_nights 54 = .ok (.aload_n 0, 1) := dk_42 (dk_at dksX8_nights_2 8 rfl rfl)
theorem dX8_nights_55 : decode cX8_nights 55 = .ok (.aload_n 0, 1) := dk_42 (dk_at dksX8_nights_2 9 rfl rfl)
theorem dX8_nights_56 : decode cX8_nights 56 = .ok (.getfield 145, 3) := dk_180 0 145 (dk_at dksX8_nights_2 10 rfl rfl)
theorem dX8_nights_59 : decode cX8_nights 59 = .ok (.invokevirtual 165, 3) := dk_182 0 165 (dk_at dksX8_nights_2 13 rfl rfl)
theorem dX8_nights_62 : decode cX8_nights 62 = .ok (.iinc 2 1, 3) := dk_132 2 1 (dk_at dksX8_nights_2 16 rfl rfl)
theorem dX8_nights_65 : decode cX8_nights 65 = .ok (.goto (-26), 3) := dk_167 255 230 (dk_at dksX8_nights_2 19 rfl rfl)
theorem dX8_nights_68 : decode cX8_nights 68 = .ok (.aload_n 0, 1) := dk_42 (dk_at dksX8_nights_2 22 rfl rfl)
theorem dX8_nights_69 : decode cX8_nights 69 = .ok (.getfield 145, 3) := dk_180 0 145 (dk_at dksX8_nights_3 0 rfl rfl)
theorem dX8_nights_72 : decode cX8_nights 72 = .ok (.ireturn, 1) := dk_172 (dk_at dksX8_nights_3 3 rfl rfl)
abbrev cX8_sleeps : ByteArray := prog_10_method_24_code
def yX8_sleeps : MethodName := ⟨RX8, "sleeps", "(I)V"⟩
def dkwX8_sleeps_4 : List UInt8 := [28, 104, 7, 96, 46, 79, 132, 2, 1, 167, 255, 174, 177]
abbrev dktX8_sleeps_4 : List UInt8 := dkwX8_sleeps_4 ++ []
def dkwX8_sleeps_3 : List UInt8 := [42, 180, 0, 16, 16, 40, 28, 104, 7, 96, 46, 156, 0, 7, 27, 167, 0, 14, 42, 180, 0, 16, 16, 40]
abbrev dktX8_sleeps_3 : List UInt8 := dkwX8_sleeps_3 ++ dktX8_sleeps_4
def dkwX8_sleeps_2 : List UInt8 := [3, 79, 42, 180, 0, 16, 16, 40, 28, 104, 8, 96, 4, 79, 42, 180, 0, 16, 16, 40, 28, 104, 7, 96]
abbrev dktX8_sleeps_2 : List UInt8 := dkwX8_sleeps_2 ++ dktX8_sleeps_3
def dkwX8_sleeps_1 : List UInt8 := [42, 180, 0, 64, 162, 0, 80, 42, 28, 27, 182, 0, 162, 153, 0, 65, 42, 180, 0, 16, 16, 40, 28, 104]
abbrev dktX8_sleeps_1 : List UInt8 := dkwX8_sleeps_1 ++ dktX8_sleeps_2
def dkwX8_sleeps_0 : List UInt8 := [3, 61, 28, 42, 180, 0, 64, 162, 0, 14, 42, 28, 182, 0, 158, 132, 2, 1, 167, 255, 240, 3, 61, 28]
abbrev dktX8_sleeps_0 : List UInt8 := dkwX8_sleeps_0 ++ dktX8_sleeps_1
theorem dksX8_sleeps_0 : cX8_sleeps.data.toList.drop 0 = dktX8_sleeps_0 := by decide +kernel
theorem dksX8_sleeps_1 : cX8_sleeps.data.toList.drop 24 = dktX8_sleeps_1 := dk_seg dksX8_sleeps_0 24 rfl rfl
theorem dksX8_sleeps_2 : cX8_sleeps.data.toList.drop 48 = dktX8_sleeps_2 := dk_seg dksX8_sleeps_1 24 rfl rfl
theorem dksX8_sleeps_3 : cX8_sleeps.data.toList.drop 72 = dktX8_sleeps_3 := dk_seg dksX8_sleeps_2 24 rfl rfl
theorem dksX8_sleeps_4 : cX8_sleeps.data.toList.drop 96 = dktX8_sleeps_4 := dk_seg dksX8_sleeps_3 24 rfl rfl
theorem dX8_sleeps_0 : decode cX8_sleeps 0 = .ok (.iconst 0, 1) := dk_3 (dk_at dksX8_sleeps_0 0 rfl rfl)
theorem dX8_sleeps_1 : decode cX8_sleeps 1 = .ok (.istore_n 2, 1) := dk_61 (dk_at dksX8_sleeps_0 1 rfl rfl)
theorem dX8_sleeps_2 : decode cX8_sleeps 2 = .ok (.iload_n 2, 1) := dk_28 (dk_at dksX8_sleeps_0 2 rfl rfl)
theorem dX8_sleeps_3 : decode cX8_sleeps 3 = .ok (.aload_n 0, 1) := dk_42 (dk_at dksX8_sleeps_0 3 rfl rfl)
theorem dX8_sleeps_4 : decode cX8_sleeps 4 = .ok (.getfield 64, 3) := dk_180 0 64 (dk_at dksX8_sleeps_0 4 rfl rfl)
theorem dX8_sleeps_7 : decode cX8_sleeps 7 = .ok (.if_icmp .ge 14, 3) := dk_162 0 14 (dk_at dksX8_sleeps_0 7 rfl rfl)
theorem dX8_sleeps_10 : decode cX8_sleeps 10 = .ok (.aload_n 0, 1) := dk_42 (dk_at dksX8_sleeps_0 10 rfl rfl)
theorem dX8_sleeps_11 : decode cX8_sleeps 11 = .ok (.iload_n 2, 1) := dk_28 (dk_at dksX8_sleeps_0 11 rfl rfl)
theorem dX8_sleeps_12 : decode cX8_sleeps 12 = .ok (.invokevirtual 158, 3) := dk_182 0 158 (dk_at dksX8_sleeps_0 12 rfl rfl)
theorem dX8_sleeps_15 : decode cX8_sleeps 15 = .ok (.iinc 2 1, 3) := dk_132 2 1 (dk_at dksX8_sleeps_0 15 rfl rfl)
theorem dX8_sleeps_18 : decode cX8_sleeps 18 = .ok (.goto (-16), 3) := dk_167 255 240 (dk_at dksX8_sleeps_0 18 rfl rfl)
theorem dX8_sleeps_21 : decode cX8_sleeps 21 = .ok (.iconst 0, 1) := dk_3 (dk_at dksX8_sleeps_0 21 rfl rfl)
theorem dX8_sleeps_22 : decode cX8_sleeps 22 = .ok (.istore_n 2, 1) := dk_61 (dk_at dksX8_sleeps_0 22 rfl rfl)
theorem dX8_sleeps_23 : decode cX8_sleeps 23 = .ok (.iload_n 2, 1) := dk_28 (dk_at dksX8_sleeps_0 23 rfl rfl)
theorem dX8_sleeps_24 : decode cX8_sleeps 24 = .ok (.aload_n 0, 1) := dk_42 (dk_at dksX8_sleeps_1 0 rfl rfl)
theorem dX8_sleeps_25 : decode cX8_sleeps 25 = .ok (.getfield 64, 3) := dk_180 0 64 (dk_at dksX8_sleeps_1 1 rfl rfl)
theorem dX8_sleeps_28 : decode cX8_sleeps 28 = .ok (.if_icmp .ge 80, 3) := dk_162 0 80 (dk_at dksX8_sleeps_1 4 rfl rfl)
theorem dX8_sleeps_31 : decode cX8_sleeps 31 = .ok (.aload_n 0, 1) := dk_42 (dk_at dksX8_sleeps_1 7 rfl rfl)
theorem dX8_sleeps_32 : decode cX8_sleeps 32 = .ok (.iload_n 2, 1) := dk_28 (dk_at dksX8_sleeps_1 8 rfl rfl)
theorem dX8_sleeps_33 : decode cX8_sleeps 33 = .ok (.iload_n 1, 1) := dk_27 (dk_at dksX8_sleeps_1 9 rfl rfl)
theorem dX8_sleeps_34 : decode cX8_sleeps 34 = .ok (.invokevirtual 162, 3) := dk_182 0 162 (dk_at dksX8_sleeps_1 10 rfl rfl)
theorem dX8_sleeps_37 : decode cX8_sleeps 37 = .ok (.ifCond .eq 65, 3) := dk_153 0 65 (dk_at dksX8_sleeps_1 13 rfl rfl)
theorem dX8_sleeps_40 : decode cX8_sleeps 40 = .ok (.aload_n 0, 1) := dk_42 (dk_at dksX8_sleeps_1 16 rfl rfl)
theorem dX8_sleeps_41 : decode cX8_sleeps 41 = .ok (.getfield 16, 3) := dk_180 0 16 (dk_at dksX8_sleeps_1 17 rfl rfl)
theorem dX8_sleeps_44 : decode cX8_sleeps 44 = .ok (.bipush 40, 2) := dk_16 40 (dk_at dksX8_sleeps_1 20 rfl rfl)
theorem dX8_sleeps_46 : decode cX8_sleeps 46 = .ok (.iload_n 2, 1) := dk_28 (dk_at dksX8_sleeps_1 22 rfl rfl)
theorem dX8_sleeps_47 : decode cX8_sleeps 47 = .ok (.imul, 1) := dk_104 (dk_at dksX8_sleeps_1 23 rfl rfl)
theorem dX8_sleeps_48 : decode cX8_sleeps 48 = .ok (.iconst 0, 1) := dk_3 (dk_at dksX8_sleeps_2 0 rfl rfl)
theorem dX8_sleeps_49 : decode cX8_sleeps 49 = .ok (.iastore, 1) := dk_79 (dk_at dksX8_sleeps_2 1 rfl rfl)
theorem dX8_sleeps_50 : decode cX8_sleeps 50 = .ok (.aload_n 0, 1) := dk_42 (dk_at dksX8_sleeps_2 2 rfl rfl)
theorem dX8_sleeps_51 : decode cX8_sleeps 51 = .ok (.getfield 16, 3) := dk_180 0 16 (dk_at dksX8_sleeps_2 3 rfl rfl)
theorem dX8_sleeps_54 : decode cX8_sleeps 54 = .ok (.bipush 40, 2) := dk_16 40 (dk_at dksX8_sleeps_2 6 rfl rfl)
theorem dX8_sleeps_56 : decode cX8_sleeps 56 = .ok (.iload_n 2, 1) := dk_28 (dk_at dksX8_sleeps_2 8 rfl rfl)
theorem dX8_sleeps_57 : decode cX8_sleeps 57 = .ok (.imul, 1) := dk_104 (dk_at dksX8_sleeps_2 9 rfl rfl)
theorem dX8_sleeps_58 : decode cX8_sleeps 58 = .ok (.iconst 5, 1) := dk_8 (dk_at dksX8_sleeps_2 10 rfl rfl)
theorem dX8_sleeps_59 : decode cX8_sleeps 59 = .ok (.iadd, 1) := dk_96 (dk_at dksX8_sleeps_2 11 rfl rfl)
theorem dX8_sleeps_60 : decode cX8_sleeps 60 = .ok (.iconst 1, 1) := dk_4 (dk_at dksX8_sleeps_2 12 rfl rfl)
theorem dX8_sleeps_61 : decode cX8_sleeps 61 = .ok (.iastore, 1) := dk_79 (dk_at dksX8_sleeps_2 13 rfl rfl)
theorem dX8_sleeps_62 : decode cX8_sleeps 62 = .ok (.aload_n 0, 1) := dk_42 (dk_at dksX8_sleeps_2 14 rfl rfl)
theorem dX8_sleeps_63 : decode cX8_sleeps 63 = .ok (.getfield 16, 3) := dk_180 0 16 (dk_at dksX8_sleeps_2 15 rfl rfl)
theorem dX8_sleeps_66 : decode cX8_sleeps 66 = .ok (.bipush 40, 2) := dk_16 40 (dk_at dksX8_sleeps_2 18 rfl rfl)
theorem dX8_sleeps_68 : decode cX8_sleeps 68 = .ok (.iload_n 2, 1) := dk_28 (dk_at dksX8_sleeps_2 20 rfl rfl)
theorem dX8_sleeps_69 : decode cX8_sleeps 69 = .ok (.imul, 1) := dk_104 (dk_at dksX8_sleeps_2 21 rfl rfl)
theorem dX8_sleeps_70 : decode cX8_sleeps 70 = .ok (.iconst 4, 1) := dk_7 (dk_at dksX8_sleeps_2 22 rfl rfl)
theorem dX8_sleeps_71 : decode cX8_sleeps 71 = .ok (.iadd, 1) := dk_96 (dk_at dksX8_sleeps_2 23 rfl rfl)
theorem dX8_sleeps_72 : decode cX8_sleeps 72 = .ok (.aload_n 0, 1) := dk_42 (dk_at dksX8_sleeps_3 0 rfl rfl)
theorem dX8_sleeps_73 : decode cX8_sleeps 73 = .ok (.getfield 16, 3) := dk_180 0 16 (dk_at dksX8_sleeps_3 1 rfl rfl)
theorem dX8_sleeps_76 : decode cX8_sleeps 76 = .ok (.bipush 40, 2) := dk_16 40 (dk_at dksX8_sleeps_3 4 rfl rfl)
theorem dX8_sleeps_78 : decode cX8_sleeps 78 = .ok (.iload_n 2, 1) := dk_28 (dk_at dksX8_sleeps_3 6 rfl rfl)
theorem dX8_sleeps_79 : decode cX8_sleeps 79 = .ok (.imul, 1) := dk_104 (dk_at dksX8_sleeps_3 7 rfl rfl)
theorem dX8_sleeps_80 : decode cX8_sleeps 80 = .ok (.iconst 4, 1) := dk_7 (dk_at dksX8_sleeps_3 8 rfl rfl)
theorem dX8_sleeps_81 : decode cX8_sleeps 81 = .ok (.iadd, 1) := dk_96 (dk_at dksX8_sleeps_3 9 rfl rfl)
theorem dX8_sleeps_82 : decode cX8_sleeps 82 = .ok (.iaload, 1) := dk_46 (dk_at dksX8_sleeps_3 10 rfl rfl)
theorem dX8_sleeps_83 : decode cX8_sleeps 83 = .ok (.ifCond .ge 7, 3) := dk_156 0 7 (dk_at dksX8_sleeps_3 11 rfl rfl)
theorem dX8_sleeps_86 : decode cX8_sleeps 86 = .ok (.iload_n 1, 1) := dk_27 (dk_at dksX8_sleeps_3 14 rfl rfl)
theorem dX8_sleeps_87 : decode cX8_sleeps 87 = .ok (.goto 14, 3) := dk_167 0 14 (dk_at dksX8_sleeps_3 15 rfl rfl)
theorem dX8_sleeps_90 : decode cX8_sleeps 90 = .ok (.aload_n 0, 1) := dk_42 (dk_at dksX8_sleeps_3 18 rfl rfl)
theorem dX8_sleeps_91 : decode cX8_sleeps 91 = .ok (.getfield 16, 3) := dk_180 0 16 (dk_at dksX8_sleeps_3 19 rfl rfl)
theorem dX8_sleeps_94 : decode cX8_sleeps 94 = .ok (.bipush 40, 2) := dk_16 40 (dk_at dksX8_sleeps_3 22 rfl rfl)
theorem dX8_sleeps_96 : decode cX8_sleeps 96 = .ok (.iload_n 2, 1) := dk_28 (dk_at dksX8_sleeps_4 0 rfl rfl)
theorem dX8_sleeps_97 : decode cX8_sleeps 97 = .ok (.imul, 1) := dk_104 (dk_at dksX8_sleeps_4 1 rfl rfl)
theorem dX8_sleeps_98 : decode cX8_sleeps 98 = .ok (.iconst 4, 1) := dk_7 (dk_at dksX8_sleeps_4 2 rfl rfl)
theorem dX8_sleeps_99 : decode cX8_sleeps 99 = .ok (.iadd, 1) := dk_96 (dk_at dksX8_sleeps_4 3 rfl rfl)
theorem dX8_sleeps_100 : decode cX8_sleeps 100 = .ok (.iaload, 1) := dk_46 (dk_at dksX8_sleeps_4 4 rfl rfl)
theorem dX8_sleeps_101 : decode cX8_sleeps 101 = .ok (.iastore, 1) := dk_79 (dk_at dksX8_sleeps_4 5 rfl rfl)
theorem dX8_sleeps_102 : decode cX8_sleeps 102 = .ok (.iinc 2 1, 3) := dk_132 2 1 (dk_at dksX8_sleeps_4 6 rfl rfl)
theorem dX8_sleeps_105 : decode cX8_sleeps 105 = .ok (.goto (-82), 3) := dk_167 255 174 (dk_at dksX8_sleeps_4 9 rfl rfl)
theorem dX8_sleeps_108 : decode cX8_sleeps 108 = .ok (.return_, 1) := dk_177 (dk_at dksX8_sleeps_4 12 rfl rfl)
abbrev cX8_rests : ByteArray := prog_10_method_22_code
def yX8_rests : MethodName := ⟨RX8, "rests", "(I)V"⟩
def dkwX8_rests_5 : List UInt8 := [54, 4, 42, 180, 0, 16, 28, 21, 4, 156, 0, 7, 3, 167, 0, 8, 21, 4, 184, 0, 155, 79, 177]
abbrev dktX8_rests_5 : List UInt8 := dkwX8_rests_5 ++ []
def dkwX8_rests_4 : List UInt8 := [62, 132, 4, 1, 167, 255, 166, 42, 180, 0, 16, 28, 46, 42, 180, 0, 16, 28, 4, 96, 46, 96, 29, 100]
abbrev dktX8_rests_4 : List UInt8 := dkwX8_rests_4 ++ dktX8_rests_5
def dkwX8_rests_3 : List UInt8 := [108, 96, 184, 0, 155, 79, 29, 42, 180, 0, 19, 8, 27, 104, 42, 180, 0, 16, 21, 5, 46, 96, 46, 96]
abbrev dktX8_rests_3 : List UInt8 := dkwX8_rests_3 ++ dktX8_rests_4
def dkwX8_rests_2 : List UInt8 := [4, 96, 46, 42, 180, 0, 16, 21, 5, 4, 96, 46, 42, 180, 0, 16, 21, 5, 5, 96, 46, 104, 16, 100]
abbrev dktX8_rests_2 : List UInt8 := dkwX8_rests_2 ++ dktX8_rests_3
def dkwX8_rests_1 : List UInt8 := [16, 8, 96, 7, 21, 4, 104, 96, 54, 5, 42, 180, 0, 16, 21, 5, 4, 96, 42, 180, 0, 16, 21, 5]
abbrev dktX8_rests_1 : List UInt8 := dkwX8_rests_1 ++ dktX8_rests_2
def dkwX8_rests_0 : List UInt8 := [16, 40, 27, 104, 61, 3, 62, 3, 54, 4, 21, 4, 42, 180, 0, 16, 28, 6, 96, 46, 162, 0, 83, 28]
abbrev dktX8_rests_0 : List UInt8 := dkwX8_rests_0 ++ dktX8_rests_1
theorem dksX8_rests_0 : cX8_rests.data.toList.drop 0 = dktX8_rests_0 := by decide +kernel
theorem dksX8_rests_1 : cX8_rests.data.toList.drop 24 = dktX8_rests_1 := dk_seg dksX8_rests_0 24 rfl rfl
theorem dksX8_rests_2 : cX8_rests.data.toList.drop 48 = dktX8_rests_2 := dk_seg dksX8_rests_1 24 rfl rfl
theorem dksX8_rests_3 : cX8_rests.data.toList.drop 72 = dktX8_rests_3 := dk_seg dksX8_rests_2 24 rfl rfl
theorem dksX8_rests_4 : cX8_rests.data.toList.drop 96 = dktX8_rests_4 := dk_seg dksX8_rests_3 24 rfl rfl
theorem dksX8_rests_5 : cX8_rests.data.toList.drop 120 = dktX8_rests_5 := dk_seg dksX8_rests_4 24 rfl rfl
theorem dX8_rests_0 : decode cX8_rests 0 = .ok (.bipush 40, 2) := dk_16 40 (dk_at dksX8_rests_0 0 rfl rfl)
theorem dX8_rests_2 : decode cX8_rests 2 = .ok (.iload_n 1, 1) := dk_27 (dk_at dksX8_rests_0 2 rfl rfl)
theorem dX8_rests_3 : decode cX8_rests 3 = .ok (.imul, 1) := dk_104 (dk_at dksX8_rests_0 3 rfl rfl)
theorem dX8_rests_4 : decode cX8_rests 4 = .ok (.istore_n 2, 1) := dk_61 (dk_at dksX8_rests_0 4 rfl rfl)
theorem dX8_rests_5 : decode cX8_rests 5 = .ok (.iconst 0, 1) := dk_3 (dk_at dksX8_rests_0 5 rfl rfl)
theorem dX8_rests_6 : decode cX8_rests 6 = .ok (.istore_n 3, 1) := dk_62 (dk_at dksX8_rests_0 6 rfl rfl)
theorem dX8_rests_7 : decode cX8_rests 7 = .ok (.iconst 0, 1) := dk_3 (dk_at dksX8_rests_0 7 rfl rfl)
theorem dX8_rests_8 : decode cX8_rests 8 = .ok (.istore 4, 2) := dk_54 4 (dk_at dksX8_rests_0 8 rfl rfl)
theorem dX8_rests_10 : decode cX8_rests 10 = .ok (.iload 4, 2) := dk_21 4 (dk_at dksX8_rests_0 10 rfl rfl)
theorem dX8_rests_12 : decode cX8_rests 12 = .ok (.aload_n 0, 1) := dk_42 (dk_at dksX8_rests_0 12 rfl rfl)
theorem dX8_rests_13 : decode cX8_rests 13 = .ok (.getfield 16, 3) := dk_180 0 16 (dk_at dksX8_rests_0 13 rfl rfl)
theorem dX8_rests_16 : decode cX8_rests 16 = .ok (.iload_n 2, 1) := dk_28 (dk_at dksX8_rests_0 16 rfl rfl)
theorem dX8_rests_17 : decode cX8_rests 17 = .ok (.iconst 3, 1) := dk_6 (dk_at dksX8_rests_0 17 rfl rfl)
theorem dX8_rests_18 : decode cX8_rests 18 = .ok (.iadd, 1) := dk_96 (dk_at dksX8_rests_0 18 rfl rfl)
theorem dX8_rests_19 : decode cX8_rests 19 = .ok (.iaload, 1) := dk_46 (dk_at dksX8_rests_0 19 rfl rfl)
theorem dX8_rests_20 : decode cX8_rests 20 = .ok (.if_icmp .ge 83, 3) := dk_162 0 83 (dk_at dksX8_rests_0 20 rfl rfl)
theorem dX8_rests_23 : decode cX8_rests 23 = .ok (.iload_n 2, 1) := dk_28 (dk_at dksX8_rests_0 23 rfl rfl)
theorem dX8_rests_24 : decode cX8_rests 24 = .ok (.bipush 8, 2) := dk_16 8 (dk_at dksX8_rests_1 0 rfl rfl)
theorem dX8_rests_26 : decode cX8_rests 26 = .ok (.iadd, 1) := dk_96 (dk_at dksX8_rests_1 2 rfl rfl)
theorem dX8_rests_27 : decode cX8_rests 27 = .ok (.iconst 4, 1) := dk_7 (dk_at dksX8_rests_1 3 rfl rfl)
theorem dX8_rests_28 : decode cX8_rests 28 = .ok (.iload 4, 2) := dk_21 4 (dk_at dksX8_rests_1 4 rfl rfl)
theorem dX8_rests_30 : decode cX8_rests 30 = .ok (.imul, 1) := dk_104 (dk_at dksX8_rests_1 6 rfl rfl)
theorem dX8_rests_31 : decode cX8_rests 31 = .ok (.iadd, 1) := dk_96 (dk_at dksX8_rests_1 7 rfl rfl)
theorem dX8_rests_32 : decode cX8_rests 32 = .ok (.istore 5, 2) := dk_54 5 (dk_at dksX8_rests_1 8 rfl rfl)
theorem dX8_rests_34 : decode cX8_rests 34 = .ok (.aload_n 0, 1) := dk_42 (dk_at dksX8_rests_1 10 rfl rfl)
theorem dX8_rests_35 : decode cX8_rests 35 = .ok (.getfield 16, 3) := dk_180 0 16 (dk_at dksX8_rests_1 11 rfl rfl)
theorem dX8_rests_38 : decode cX8_rests 38 = .ok (.iload 5, 2) := dk_21 5 (dk_at dksX8_rests_1 14 rfl rfl)
theorem dX8_rests_40 : decode cX8_rests 40 = .ok (.iconst 1, 1) := dk_4 (dk_at dksX8_rests_1 16 rfl rfl)
theorem dX8_rests_41 : decode cX8_rests 41 = .ok (.iadd, 1) := dk_96 (dk_at dksX8_rests_1 17 rfl rfl)
theorem dX8_rests_42 : decode cX8_rests 42 = .ok (.aload_n 0, 1) := dk_42 (dk_at dksX8_rests_1 18 rfl rfl)
theorem dX8_rests_43 : decode cX8_rests 43 = .ok (.getfield 16, 3) := dk_180 0 16 (dk_at dksX8_rests_1 19 rfl rfl)
theorem dX8_rests_46 : decode cX8_rests 46 = .ok (.iload 5, 2) := dk_21 5 (dk_at dksX8_rests_1 22 rfl rfl)
theorem dX8_rests_48 : decode cX8_rests 48 = .ok (.iconst 1, 1) := dk_4 (dk_at dksX8_rests_2 0 rfl rfl)
theorem dX8_rests_49 : decode cX8_rests 49 = .ok (.iadd, 1) := dk_96 (dk_at dksX8_rests_2 1 rfl rfl)
theorem dX8_rests_50 : decode cX8_rests 50 = .ok (.iaload, 1) := dk_46 (dk_at dksX8_rests_2 2 rfl rfl)
theorem dX8_rests_51 : decode cX8_rests 51 = .ok (.aload_n 0, 1) := dk_42 (dk_at dksX8_rests_2 3 rfl rfl)
theorem dX8_rests_52 : decode cX8_rests 52 = .ok (.getfield 16, 3) := dk_180 0 16 (dk_at dksX8_rests_2 4 rfl rfl)
theorem dX8_rests_55 : decode cX8_rests 55 = .ok (.iload 5, 2) := dk_21 5 (dk_at dksX8_rests_2 7 rfl rfl)
theorem dX8_rests_57 : decode cX8_rests 57 = .ok (.iconst 1, 1) := dk_4 (dk_at dksX8_rests_2 9 rfl rfl)
theorem dX8_rests_58 : decode cX8_rests 58 = .ok (.iadd, 1) := dk_96 (dk_at dksX8_rests_2 10 rfl rfl)
theorem dX8_rests_59 : decode cX8_rests 59 = .ok (.iaload, 1) := dk_46 (dk_at dksX8_rests_2 11 rfl rfl)
theorem dX8_rests_60 : decode cX8_rests 60 = .ok (.aload_n 0, 1) := dk_42 (dk_at dksX8_rests_2 12 rfl rfl)
theorem dX8_rests_61 : decode cX8_rests 61 = .ok (.getfield 16, 3) := dk_180 0 16 (dk_at dksX8_rests_2 13 rfl rfl)
theorem dX8_rests_64 : decode cX8_rests 64 = .ok (.iload 5, 2) := dk_21 5 (dk_at dksX8_rests_2 16 rfl rfl)
theorem dX8_rests_66 : decode cX8_rests 66 = .ok (.iconst 2, 1) := dk_5 (dk_at dksX8_rests_2 18 rfl rfl)
theorem dX8_rests_67 : decode cX8_rests 67 = .ok (.iadd, 1) := dk_96 (dk_at dksX8_rests_2 19 rfl rfl)
theorem dX8_rests_68 : decode cX8_rests 68 = .ok (.iaload, 1) := dk_46 (dk_at dksX8_rests_2 20 rfl rfl)
theorem dX8_rests_69 : decode cX8_rests 69 = .ok (.imul, 1) := dk_104 (dk_at dksX8_rests_2 21 rfl rfl)
theorem dX8_rests_70 : decode cX8_rests 70 = .ok (.bipush 100, 2) := dk_16 100 (dk_at dksX8_rests_2 22 rfl rfl)
theorem dX8_rests_72 : decode cX8_rests 72 = .ok (.idiv, 1) := dk_108 (dk_at dksX8_rests_3 0 rfl rfl)
theorem dX8_rests_73 : decode cX8_rests 73 = .ok (.iadd, 1) := dk_96 (dk_at dksX8_rests_3 1 rfl rfl)
theorem dX8_rests_74 : decode cX8_rests 74 = .ok (.invokestatic 155, 3) := dk_184 0 155 (dk_at dksX8_rests_3 2 rfl rfl)
theorem dX8_rests_77 : decode cX8_rests 77 = .ok (.iastore, 1) := dk_79 (dk_at dksX8_rests_3 5 rfl rfl)
theorem dX8_rests_78 : decode cX8_rests 78 = .ok (.iload_n 3, 1) := dk_29 (dk_at dksX8_rests_3 6 rfl rfl)
theorem dX8_rests_79 : decode cX8_rests 79 = .ok (.aload_n 0, 1) := dk_42 (dk_at dksX8_rests_3 7 rfl rfl)
theorem dX8_rests_80 : decode cX8_rests 80 = .ok (.getfield 19, 3) := dk_180 0 19 (dk_at dksX8_rests_3 8 rfl rfl)
theorem dX8_rests_83 : decode cX8_rests 83 = .ok (.iconst 5, 1) := dk_8 (dk_at dksX8_rests_3 11 rfl rfl)
theorem dX8_rests_84 : decode cX8_rests 84 = .ok (.iload_n 1, 1) := dk_27 (dk_at dksX8_rests_3 12 rfl rfl)
theorem dX8_rests_85 : decode cX8_rests 85 = .ok (.imul, 1) := dk_104 (dk_at dksX8_rests_3 13 rfl rfl)
theorem dX8_rests_86 : decode cX8_rests 86 = .ok (.aload_n 0, 1) := dk_42 (dk_at dksX8_rests_3 14 rfl rfl)
theorem dX8_rests_87 : decode cX8_rests 87 = .ok (.getfield 16, 3) := dk_180 0 16 (dk_at dksX8_rests_3 15 rfl rfl)
theorem dX8_rests_90 : decode cX8_rests 90 = .ok (.iload 5, 2) := dk_21 5 (dk_at dksX8_rests_3 18 rfl rfl)
theorem dX8_rests_92 : decode cX8_rests 92 = .ok (.iaload, 1) := dk_46 (dk_at dksX8_rests_3 20 rfl rfl)
theorem dX8_rests_93 : decode cX8_rests 93 = .ok (.iadd, 1) := dk_96 (dk_at dksX8_rests_3 21 rfl rfl)
theorem dX8_rests_94 : decode cX8_rests 94 = .ok (.iaload, 1) := dk_46 (dk_at dksX8_rests_3 22 rfl rfl)
theorem dX8_rests_95 : decode cX8_rests 95 = .ok (.iadd, 1) := dk_96 (dk_at dksX8_rests_3 23 rfl rfl)
theorem dX8_rests_96 : decode cX8_rests 96 = .ok (.istore_n 3, 1) := dk_62 (dk_at dksX8_rests_4 0 rfl rfl)
theorem dX8_rests_97 : decode cX8_rests 97 = .ok (.iinc 4 1, 3) := dk_132 4 1 (dk_at dksX8_rests_4 1 rfl rfl)
theorem dX8_rests_100 : decode cX8_rests 100 = .ok (.goto (-90), 3) := dk_167 255 166 (dk_at dksX8_rests_4 4 rfl rfl)
theorem dX8_rests_103 : decode cX8_rests 103 = .ok (.aload_n 0, 1) := dk_42 (dk_at dksX8_rests_4 7 rfl rfl)
theorem dX8_rests_104 : decode cX8_rests 104 = .ok (.getfield 16, 3) := dk_180 0 16 (dk_at dksX8_rests_4 8 rfl rfl)
theorem dX8_rests_107 : decode cX8_rests 107 = .ok (.iload_n 2, 1) := dk_28 (dk_at dksX8_rests_4 11 rfl rfl)
theorem dX8_rests_108 : decode cX8_rests 108 = .ok (.iaload, 1) := dk_46 (dk_at dksX8_rests_4 12 rfl rfl)
theorem dX8_rests_109 : decode cX8_rests 109 = .ok (.aload_n 0, 1) := dk_42 (dk_at dksX8_rests_4 13 rfl rfl)
theorem dX8_rests_110 : decode cX8_rests 110 = .ok (.getfield 16, 3) := dk_180 0 16 (dk_at dksX8_rests_4 14 rfl rfl)
theorem dX8_rests_113 : decode cX8_rests 113 = .ok (.iload_n 2, 1) := dk_28 (dk_at dksX8_rests_4 17 rfl rfl)
theorem dX8_rests_114 : decode cX8_rests 114 = .ok (.iconst 1, 1) := dk_4 (dk_at dksX8_rests_4 18 rfl rfl)
theorem dX8_rests_115 : decode cX8_rests 115 = .ok (.iadd, 1) := dk_96 (dk_at dksX8_rests_4 19 rfl rfl)
theorem dX8_rests_116 : decode cX8_rests 116 = .ok (.iaload, 1) := dk_46 (dk_at dksX8_rests_4 20 rfl rfl)
theorem dX8_rests_117 : decode cX8_rests 117 = .ok (.iadd, 1) := dk_96 (dk_at dksX8_rests_4 21 rfl rfl)
theorem dX8_rests_118 : decode cX8_rests 118 = .ok (.iload_n 3, 1) := dk_29 (dk_at dksX8_rests_4 22 rfl rfl)
theorem dX8_rests_119 : decode cX8_rests 119 = .ok (.isub, 1) := dk_100 (dk_at dksX8_rests_4 23 rfl rfl)
theorem dX8_rests_120 : decode cX8_rests 120 = .ok (.istore 4, 2) := dk_54 4 (dk_at dksX8_rests_5 0 rfl rfl)
theorem dX8_rests_122 : decode cX8_rests 122 = .ok (.aload_n 0, 1) := dk_42 (dk_at dksX8_rests_5 2 rfl rfl)
theorem dX8_rests_123 : decode cX8_rests 123 = .ok (.getfield 16, 3) := dk_180 0 16 (dk_at dksX8_rests_5 3 rfl rfl)
theorem dX8_rests_126 : decode cX8_rests 126 = .ok (.iload_n 2, 1) := dk_28 (dk_at dksX8_rests_5 6 rfl rfl)
theorem dX8_rests_127 : decode cX8_rests 127 = .ok (.iload 4, 2) := dk_21 4 (dk_at dksX8_rests_5 7 rfl rfl)
theorem dX8_rests_129 : decode cX8_rests 129 = .ok (.ifCond .ge 7, 3) := dk_156 0 7 (dk_at dksX8_rests_5 9 rfl rfl)
theorem dX8_rests_132 : decode cX8_rests 132 = .ok (.iconst 0, 1) := dk_3 (dk_at dksX8_rests_5 12 rfl rfl)
theorem dX8_rests_133 : decode cX8_rests 133 = .ok (.goto 8, 3) := dk_167 0 8 (dk_at dksX8_rests_5 13 rfl rfl)
theorem dX8_rests_136 : decode cX8_rests 136 = .ok (.iload 4, 2) := dk_21 4 (dk_at dksX8_rests_5 16 rfl rfl)
theorem dX8_rests_138 : decode cX8_rests 138 = .ok (.invokestatic 155, 3) := dk_184 0 155 (dk_at dksX8_rests_5 18 rfl rfl)
theorem dX8_rests_141 : decode cX8_rests 141 = .ok (.iastore, 1) := dk_79 (dk_at dksX8_rests_5 21 rfl rfl)
theorem dX8_rests_142 : decode cX8_rests 142 = .ok (.return_, 1) := dk_177 (dk_at dksX8_rests_5 22 rfl rfl)
abbrev cX8_most : ByteArray := prog_10_method_21_code
def yX8_most : MethodName := ⟨RX8, "most", "(I)I"⟩
def dkwX8_most_0 : List UInt8 := [26, 18, 154, 164, 0, 8, 18, 154, 167, 0, 4, 26, 172]
abbrev dktX8_most_0 : List UInt8 := dkwX8_most_0 ++ []
theorem dksX8_most_0 : cX8_most.data.toList.drop 0 = dktX8_most_0 := by decide +kernel
theorem dX8_most_0 : decode cX8_most 0 = .ok (.iload_n 0, 1) := dk_26 (dk_at dksX8_most_0 0 rfl rfl)
theorem dX8_most_1 : decode cX8_most 1 = .ok (.ldc 154, 2) := dk_18 154 (dk_at dksX8_most_0 1 rfl rfl)
theorem dX8_most_3 : decode cX8_most 3 = .ok (.if_icmp .le 8, 3) := dk_164 0 8 (dk_at dksX8_most_0 3 rfl rfl)
theorem dX8_most_6 : decode cX8_most 6 = .ok (.ldc 154, 2) := dk_18 154 (dk_at dksX8_most_0 6 rfl rfl)
theorem dX8_most_8 : decode cX8_most 8 = .ok (.goto 4, 3) := dk_167 0 4 (dk_at dksX8_most_0 8 rfl rfl)
theorem dX8_most_11 : decode cX8_most 11 = .ok (.iload_n 0, 1) := dk_26 (dk_at dksX8_most_0 11 rfl rfl)
theorem dX8_most_12 : decode cX8_most 12 = .ok (.ireturn, 1) := dk_172 (dk_at dksX8_most_0 12 rfl rfl)
abbrev cX8_isTooHot : ByteArray := prog_10_method_23_code
def yX8_isTooHot : MethodName := ⟨RX8, "isTooHot", "(II)Z"⟩
def dkwX8_isTooHot_1 : List UInt8 := [182, 0, 86, 29, 156, 0, 7, 3, 167, 0, 4, 29, 164, 0, 7, 4, 167, 0, 4, 3, 172]
abbrev dktX8_isTooHot_1 : List UInt8 := dkwX8_isTooHot_1 ++ []
def dkwX8_isTooHot_0 : List UInt8 := [42, 180, 0, 16, 16, 40, 27, 104, 5, 96, 46, 42, 180, 0, 22, 28, 16, 30, 108, 46, 100, 62, 42, 27]
abbrev dktX8_isTooHot_0 : List UInt8 := dkwX8_isTooHot_0 ++ dktX8_isTooHot_1
theorem dksX8_isTooHot_0 : cX8_isTooHot.data.toList.drop 0 = dktX8_isTooHot_0 := by decide +kernel
theorem dksX8_isTooHot_1 : cX8_isTooHot.data.toList.drop 24 = dktX8_isTooHot_1 := dk_seg dksX8_isTooHot_0 24 rfl rfl
theorem dX8_isTooHot_0 : decode cX8_isTooHot 0 = .ok (.aload_n 0, 1) := dk_42 (dk_at dksX8_isTooHot_0 0 rfl rfl)
theorem dX8_isTooHot_1 : decode cX8_isTooHot 1 = .ok (.getfield 16, 3) := dk_180 0 16 (dk_at dksX8_isTooHot_0 1 rfl rfl)
theorem dX8_isTooHot_4 : decode cX8_isTooHot 4 = .ok (.bipush 40, 2) := dk_16 40 (dk_at dksX8_isTooHot_0 4 rfl rfl)
theorem dX8_isTooHot_6 : decode cX8_isTooHot 6 = .ok (.iload_n 1, 1) := dk_27 (dk_at dksX8_isTooHot_0 6 rfl rfl)
theorem dX8_isTooHot_7 : decode cX8_isTooHot 7 = .ok (.imul, 1) := dk_104 (dk_at dksX8_isTooHot_0 7 rfl rfl)
theorem dX8_isTooHot_8 : decode cX8_isTooHot 8 = .ok (.iconst 2, 1) := dk_5 (dk_at dksX8_isTooHot_0 8 rfl rfl)
theorem dX8_isTooHot_9 : decode cX8_isTooHot 9 = .ok (.iadd, 1) := dk_96 (dk_at dksX8_isTooHot_0 9 rfl rfl)
theorem dX8_isTooHot_10 : decode cX8_isTooHot 10 = .ok (.iaload, 1) := dk_46 (dk_at dksX8_isTooHot_0 10 rfl rfl)
theorem dX8_isTooHot_11 : decode cX8_isTooHot 11 = .ok (.aload_n 0, 1) := dk_42 (dk_at dksX8_isTooHot_0 11 rfl rfl)
theorem dX8_isTooHot_12 : decode cX8_isTooHot 12 = .ok (.getfield 22, 3) := dk_180 0 22 (dk_at dksX8_isTooHot_0 12 rfl rfl)
theorem dX8_isTooHot_15 : decode cX8_isTooHot 15 = .ok (.iload_n 2, 1) := dk_28 (dk_at dksX8_isTooHot_0 15 rfl rfl)
theorem dX8_isTooHot_16 : decode cX8_isTooHot 16 = .ok (.bipush 30, 2) := dk_16 30 (dk_at dksX8_isTooHot_0 16 rfl rfl)
theorem dX8_isTooHot_18 : decode cX8_isTooHot 18 = .ok (.idiv, 1) := dk_108 (dk_at dksX8_isTooHot_0 18 rfl rfl)
theorem dX8_isTooHot_19 : decode cX8_isTooHot 19 = .ok (.iaload, 1) := dk_46 (dk_at dksX8_isTooHot_0 19 rfl rfl)
theorem dX8_isTooHot_20 : decode cX8_isTooHot 20 = .ok (.isub, 1) := dk_100 (dk_at dksX8_isTooHot_0 20 rfl rfl)
theorem dX8_isTooHot_21 : decode cX8_isTooHot 21 = .ok (.istore_n 3, 1) := dk_62 (dk_at dksX8_isTooHot_0 21 rfl rfl)
theorem dX8_isTooHot_22 : decode cX8_isTooHot 22 = .ok (.aload_n 0, 1) := dk_42 (dk_at dksX8_isTooHot_0 22 rfl rfl)
theorem dX8_isTooHot_23 : decode cX8_isTooHot 23 = .ok (.iload_n 1, 1) := dk_27 (dk_at dksX8_isTooHot_0 23 rfl rfl)
theorem dX8_isTooHot_24 : decode cX8_isTooHot 24 = .ok (.invokevirtual 86, 3) := dk_182 0 86 (dk_at dksX8_isTooHot_1 0 rfl rfl)
theorem dX8_isTooHot_27 : decode cX8_isTooHot 27 = .ok (.iload_n 3, 1) := dk_29 (dk_at dksX8_isTooHot_1 3 rfl rfl)
theorem dX8_isTooHot_28 : decode cX8_isTooHot 28 = .ok (.ifCond .ge 7, 3) := dk_156 0 7 (dk_at dksX8_isTooHot_1 4 rfl rfl)
theorem dX8_isTooHot_31 : decode cX8_isTooHot 31 = .ok (.iconst 0, 1) := dk_3 (dk_at dksX8_isTooHot_1 7 rfl rfl)
theorem dX8_isTooHot_32 : decode cX8_isTooHot 32 = .ok (.goto 4, 3) := dk_167 0 4 (dk_at dksX8_isTooHot_1 8 rfl rfl)
theorem dX8_isTooHot_35 : decode cX8_isTooHot 35 = .ok (.iload_n 3, 1) := dk_29 (dk_at dksX8_isTooHot_1 11 rfl rfl)
theorem dX8_isTooHot_36 : decode cX8_isTooHot 36 = .ok (.if_icmp .le 7, 3) := dk_164 0 7 (dk_at dksX8_isTooHot_1 12 rfl rfl)
theorem dX8_isTooHot_39 : decode cX8_isTooHot 39 = .ok (.iconst 1, 1) := dk_4 (dk_at dksX8_isTooHot_1 15 rfl rfl)
theorem dX8_isTooHot_40 : decode cX8_isTooHot 40 = .ok (.goto 4, 3) := dk_167 0 4 (dk_at dksX8_isTooHot_1 16 rfl rfl)
theorem dX8_isTooHot_43 : decode cX8_isTooHot 43 = .ok (.iconst 0, 1) := dk_3 (dk_at dksX8_isTooHot_1 19 rfl rfl)
theorem dX8_isTooHot_44 : decode cX8_isTooHot 44 = .ok (.ireturn, 1) := dk_172 (dk_at dksX8_isTooHot_1 20 rfl rfl)
abbrev cX8_take : ByteArray := prog_10_method_26_code
def yX8_take : MethodName := ⟨RX8, "take", "(IIIII)I"⟩
def dkwX8_take_8 : List UInt8 := [4, 96, 172]
abbrev dktX8_take_8 : List UInt8 := dkwX8_take_8 ++ []
def dkwX8_take_7 : List UInt8 := [21, 6, 46, 29, 96, 184, 0, 155, 79, 42, 180, 0, 7, 21, 6, 6, 96, 92, 46, 4, 96, 79, 21, 7]
abbrev dktX8_take_7 : List UInt8 := dkwX8_take_7 ++ dktX8_take_8
def dkwX8_take_6 : List UInt8 := [16, 8, 96, 7, 21, 7, 104, 96, 6, 96, 21, 5, 79, 42, 180, 0, 7, 21, 6, 42, 180, 0, 7]
abbrev dktX8_take_6 : List UInt8 := dkwX8_take_6 ++ dktX8_take_7
def dkwX8_take_5 : List UInt8 := [180, 0, 7, 21, 6, 16, 8, 96, 7, 21, 7, 104, 96, 5, 96, 21, 4, 79, 42, 180, 0, 7, 21, 6]
abbrev dktX8_take_5 : List UInt8 := dkwX8_take_5 ++ dktX8_take_6
def dkwX8_take_4 : List UInt8 := [104, 96, 28, 79, 42, 180, 0, 7, 21, 6, 16, 8, 96, 7, 21, 7, 104, 96, 4, 96, 29, 79, 42]
abbrev dktX8_take_4 : List UInt8 := dkwX8_take_4 ++ dktX8_take_5
def dkwX8_take_3 : List UInt8 := [54, 7, 21, 7, 16, 8, 160, 0, 6, 16, 253, 172, 42, 180, 0, 7, 21, 6, 16, 8, 96, 7, 21, 7]
abbrev dktX8_take_3 : List UInt8 := dkwX8_take_3 ++ dktX8_take_4
def dkwX8_take_2 : List UInt8 := [184, 0, 68, 154, 0, 5, 2, 172, 16, 40, 27, 104, 54, 6, 42, 180, 0, 7, 21, 6, 6, 96, 46]
abbrev dktX8_take_2 : List UInt8 := dkwX8_take_2 ++ dktX8_take_3
def dkwX8_take_1 : List UInt8 := [153, 0, 29, 21, 4, 133, 9, 20, 0, 168, 184, 0, 68, 153, 0, 16, 21, 5, 133, 10, 20, 0, 100]
abbrev dktX8_take_1 : List UInt8 := dkwX8_take_1 ++ dktX8_take_2
def dkwX8_take_0 : List UInt8 := [42, 27, 182, 0, 80, 153, 0, 48, 28, 184, 0, 97, 153, 0, 41, 29, 133, 10, 20, 0, 74, 184, 0, 68]
abbrev dktX8_take_0 : List UInt8 := dkwX8_take_0 ++ dktX8_take_1
theorem dksX8_take_0 : cX8_take.data.toList.drop 0 = dktX8_take_0 := by decide +kernel
theorem dksX8_take_1 : cX8_take.data.toList.drop 24 = dktX8_take_1 := dk_seg dksX8_take_0 24 rfl rfl
theorem dksX8_take_2 : cX8_take.data.toList.drop 47 = dktX8_take_2 := dk_seg dksX8_take_1 23 rfl rfl
theorem dksX8_take_3 : cX8_take.data.toList.drop 70 = dktX8_take_3 := dk_seg dksX8_take_2 23 rfl rfl
theorem dksX8_take_4 : cX8_take.data.toList.drop 94 = dktX8_take_4 := dk_seg dksX8_take_3 24 rfl rfl
theorem dksX8_take_5 : cX8_take.data.toList.drop 117 = dktX8_take_5 := dk_seg dksX8_take_4 23 rfl rfl
theorem dksX8_take_6 : cX8_take.data.toList.drop 141 = dktX8_take_6 := dk_seg dksX8_take_5 24 rfl rfl
theorem dksX8_take_7 : cX8_take.data.toList.drop 164 = dktX8_take_7 := dk_seg dksX8_take_6 23 rfl rfl
theorem dksX8_take_8 : cX8_take.data.toList.drop 188 = dktX8_take_8 := dk_seg dksX8_take_7 24 rfl rfl
theorem dX8_take_0 : decode cX8_take 0 = .ok (.aload_n 0, 1) := dk_42 (dk_at dksX8_take_0 0 rfl rfl)
theorem dX8_take_1 : decode cX8_take 1 = .ok (.iload_n 1, 1) := dk_27 (dk_at dksX8_take_0 1 rfl rfl)
theorem dX8_take_2 : decode cX8_take 2 = .ok (.invokevirtual 80, 3) := dk_182 0 80 (dk_at dksX8_take_0 2 rfl rfl)
theorem dX8_take_5 : decode cX8_take 5 = .ok (.ifCond .eq 48, 3) := dk_153 0 48 (dk_at dksX8_take_0 5 rfl rfl)
theorem dX8_take_8 : decode cX8_take 8 = .ok (.iload_n 2, 1) := dk_28 (dk_at dksX8_take_0 8 rfl rfl)
theorem dX8_take_9 : decode cX8_take 9 = .ok (.invokestatic 97, 3) := dk_184 0 97 (dk_at dksX8_take_0 9 rfl rfl)
theorem dX8_take_12 : decode cX8_take 12 = .ok (.ifCond .eq 41, 3) := dk_153 0 41 (dk_at dksX8_take_0 12 rfl rfl)
theorem dX8_take_15 : decode cX8_take 15 = .ok (.iload_n 3, 1) := dk_29 (dk_at dksX8_take_0 15 rfl rfl)
theorem dX8_take_16 : decode cX8_take 16 = .ok (.i2l, 1) := dk_133 (dk_at dksX8_take_0 16 rfl rfl)
theorem dX8_take_17 : decode cX8_take 17 = .ok (.lconst 1, 1) := dk_10 (dk_at dksX8_take_0 17 rfl rfl)
theorem dX8_take_18 : decode cX8_take 18 = .ok (.ldc2_w 74, 3) := dk_20 0 74 (dk_at dksX8_take_0 18 rfl rfl)
theorem dX8_take_21 : decode cX8_take 21 = .ok (.invokestatic 68, 3) := dk_184 0 68 (dk_at dksX8_take_0 21 rfl rfl)
theorem dX8_take_24 : decode cX8_take 24 = .ok (.ifCond .eq 29, 3) := dk_153 0 29 (dk_at dksX8_take_1 0 rfl rfl)
theorem dX8_take_27 : decode cX8_take 27 = .ok (.iload 4, 2) := dk_21 4 (dk_at dksX8_take_1 3 rfl rfl)
theorem dX8_take_29 : decode cX8_take 29 = .ok (.i2l, 1) := dk_133 (dk_at dksX8_take_1 5 rfl rfl)
theorem dX8_take_30 : decode cX8_take 30 = .ok (.lconst 0, 1) := dk_9 (dk_at dksX8_take_1 6 rfl rfl)
theorem dX8_take_31 : decode cX8_take 31 = .ok (.ldc2_w 168, 3) := dk_20 0 168 (dk_at dksX8_take_1 7 rfl rfl)
theorem dX8_take_34 : decode cX8_take 34 = .ok (.invokestatic 68, 3) := dk_184 0 68 (dk_at dksX8_take_1 10 rfl rfl)
theorem dX8_take_37 : decode cX8_take 37 = .ok (.ifCond .eq 16, 3) := dk_153 0 16 (dk_at dksX8_take_1 13 rfl rfl)
theorem dX8_take_40 : decode cX8_take 40 = .ok (.iload 5, 2) := dk_21 5 (dk_at dksX8_take_1 16 rfl rfl)
theorem dX8_take_42 : decode cX8_take 42 = .ok (.i2l, 1) := dk_133 (dk_at dksX8_take_1 18 rfl rfl)
theorem dX8_take_43 : decode cX8_take 43 = .ok (.lconst 1, 1) := dk_10 (dk_at dksX8_take_1 19 rfl rfl)
theorem dX8_take_44 : decode cX8_take 44 = .ok (.ldc2_w 100, 3) := dk_20 0 100 (dk_at dksX8_take_1 20 rfl rfl)
theorem dX8_take_47 : decode cX8_take 47 = .ok (.invokestatic 68, 3) := dk_184 0 68 (dk_at dksX8_take_2 0 rfl rfl)
theorem dX8_take_50 : decode cX8_take 50 = .ok (.ifCond .ne 5, 3) := dk_154 0 5 (dk_at dksX8_take_2 3 rfl rfl)
theorem dX8_take_53 : decode cX8_take 53 = .ok (.iconst (-1), 1) := dk_2 (dk_at dksX8_take_2 6 rfl rfl)
theorem dX8_take_54 : decode cX8_take 54 = .ok (.ireturn, 1) := dk_172 (dk_at dksX8_take_2 7 rfl rfl)
theorem dX8_take_55 : decode cX8_take 55 = .ok (.bipush 40, 2) := dk_16 40 (dk_at dksX8_take_2 8 rfl rfl)
theorem dX8_take_57 : decode cX8_take 57 = .ok (.iload_n 1, 1) := dk_27 (dk_at dksX8_take_2 10 rfl rfl)
theorem dX8_take_58 : decode cX8_take 58 = .ok (.imul, 1) := dk_104 (dk_at dksX8_take_2 11 rfl rfl)
theorem dX8_take_59 : decode cX8_take 59 = .ok (.istore 6, 2) := dk_54 6 (dk_at dksX8_take_2 12 rfl rfl)
theorem dX8_take_61 : decode cX8_take 61 = .ok (.aload_n 0, 1) := dk_42 (dk_at dksX8_take_2 14 rfl rfl)
theorem dX8_take_62 : decode cX8_take 62 = .ok (.getfield 7, 3) := dk_180 0 7 (dk_at dksX8_take_2 15 rfl rfl)
theorem dX8_take_65 : decode cX8_take 65 = .ok (.iload 6, 2) := dk_21 6 (dk_at dksX8_take_2 18 rfl rfl)
theorem dX8_take_67 : decode cX8_take 67 = .ok (.iconst 3, 1) := dk_6 (dk_at dksX8_take_2 20 rfl rfl)
theorem dX8_take_68 : decode cX8_take 68 = .ok (.iadd, 1) := dk_96 (dk_at dksX8_take_2 21 rfl rfl)
theorem dX8_take_69 : decode cX8_take 69 = .ok (.iaload, 1) := dk_46 (dk_at dksX8_take_2 22 rfl rfl)
theorem dX8_take_70 : decode cX8_take 70 = .ok (.istore 7, 2) := dk_54 7 (dk_at dksX8_take_3 0 rfl rfl)
theorem dX8_take_72 : decode cX8_take 72 = .ok (.iload 7, 2) := dk_21 7 (dk_at dksX8_take_3 2 rfl rfl)
theorem dX8_take_74 : decode cX8_take 74 = .ok (.bipush 8, 2) := dk_16 8 (dk_at dksX8_take_3 4 rfl rfl)
theorem dX8_take_76 : decode cX8_take 76 = .ok (.if_icmp .ne 6, 3) := dk_160 0 6 (dk_at dksX8_take_3 6 rfl rfl)
theorem dX8_take_79 : decode cX8_take 79 = .ok (.bipush (-3), 2) := dk_16 253 (dk_at dksX8_take_3 9 rfl rfl)
theorem dX8_take_81 : decode cX8_take 81 = .ok (.ireturn, 1) := dk_172 (dk_at dksX8_take_3 11 rfl rfl)
theorem dX8_take_82 : decode cX8_take 82 = .ok (.aload_n 0, 1) := dk_42 (dk_at dksX8_take_3 12 rfl rfl)
theorem dX8_take_83 : decode cX8_take 83 = .ok (.getfield 7, 3) := dk_180 0 7 (dk_at dksX8_take_3 13 rfl rfl)
theorem dX8_take_86 : decode cX8_take 86 = .ok (.iload 6, 2) := dk_21 6 (dk_at dksX8_take_3 16 rfl rfl)
theorem dX8_take_88 : decode cX8_take 88 = .ok (.bipush 8, 2) := dk_16 8 (dk_at dksX8_take_3 18 rfl rfl)
theorem dX8_take_90 : decode cX8_take 90 = .ok (.iadd, 1) := dk_96 (dk_at dksX8_take_3 20 rfl rfl)
theorem dX8_take_91 : decode cX8_take 91 = .ok (.iconst 4, 1) := dk_7 (dk_at dksX8_take_3 21 rfl rfl)
theorem dX8_take_92 : decode cX8_take 92 = .ok (.iload 7, 2) := dk_21 7 (dk_at dksX8_take_3 22 rfl rfl)
theorem dX8_take_94 : decode cX8_take 94 = .ok (.imul, 1) := dk_104 (dk_at dksX8_take_4 0 rfl rfl)
theorem dX8_take_95 : decode cX8_take 95 = .ok (.iadd, 1) := dk_96 (dk_at dksX8_take_4 1 rfl rfl)
theorem dX8_take_96 : decode cX8_take 96 = .ok (.iload_n 2, 1) := dk_28 (dk_at dksX8_take_4 2 rfl rfl)
theorem dX8_take_97 : decode cX8_take 97 = .ok (.iastore, 1) := dk_79 (dk_at dksX8_take_4 3 rfl rfl)
theorem dX8_take_98 : decode cX8_take 98 = .ok (.aload_n 0, 1) := dk_42 (dk_at dksX8_take_4 4 rfl rfl)
theorem dX8_take_99 : decode cX8_take 99 = .ok (.getfield 7, 3) := dk_180 0 7 (dk_at dksX8_take_4 5 rfl rfl)
theorem dX8_take_102 : decode cX8_take 102 = .ok (.iload 6, 2) := dk_21 6 (dk_at dksX8_take_4 8 rfl rfl)
theorem dX8_take_104 : decode cX8_take 104 = .ok (.bipush 8, 2) := dk_16 8 (dk_at dksX8_take_4 10 rfl rfl)
theorem dX8_take_106 : decode cX8_take 106 = .ok (.iadd, 1) := dk_96 (dk_at dksX8_take_4 12 rfl rfl)
theorem dX8_take_107 : decode cX8_take 107 = .ok (.iconst 4, 1) := dk_7 (dk_at dksX8_take_4 13 rfl rfl)
theorem dX8_take_108 : decode cX8_take 108 = .ok (.iload 7, 2) := dk_21 7 (dk_at dksX8_take_4 14 rfl rfl)
theorem dX8_take_110 : decode cX8_take 110 = .ok (.imul, 1) := dk_104 (dk_at dksX8_take_4 16 rfl rfl)
theorem dX8_take_111 : decode cX8_take 111 = .ok (.iadd, 1) := dk_96 (dk_at dksX8_take_4 17 rfl rfl)
theorem dX8_take_112 : decode cX8_take 112 = .ok (.iconst 1, 1) := dk_4 (dk_at dksX8_take_4 18 rfl rfl)
theorem dX8_take_113 : decode cX8_take 113 = .ok (.iadd, 1) := dk_96 (dk_at dksX8_take_4 19 rfl rfl)
theorem dX8_take_114 : decode cX8_take 114 = .ok (.iload_n 3, 1) := dk_29 (dk_at dksX8_take_4 20 rfl rfl)
theorem dX8_take_115 : decode cX8_take 115 = .ok (.iastore, 1) := dk_79 (dk_at dksX8_take_4 21 rfl rfl)
theorem dX8_take_116 : decode cX8_take 116 = .ok (.aload_n 0, 1) := dk_42 (dk_at dksX8_take_4 22 rfl rfl)
theorem dX8_take_117 : decode cX8_take 117 = .ok (.getfield 7, 3) := dk_180 0 7 (dk_at dksX8_take_5 0 rfl rfl)
theorem dX8_take_120 : decode cX8_take 120 = .ok (.iload 6, 2) := dk_21 6 (dk_at dksX8_take_5 3 rfl rfl)
theorem dX8_take_122 : decode cX8_take 122 = .ok (.bipush 8, 2) := dk_16 8 (dk_at dksX8_take_5 5 rfl rfl)
theorem dX8_take_124 : decode cX8_take 124 = .ok (.iadd, 1) := dk_96 (dk_at dksX8_take_5 7 rfl rfl)
theorem dX8_take_125 : decode cX8_take 125 = .ok (.iconst 4, 1) := dk_7 (dk_at dksX8_take_5 8 rfl rfl)
theorem dX8_take_126 : decode cX8_take 126 = .ok (.iload 7, 2) := dk_21 7 (dk_at dksX8_take_5 9 rfl rfl)
theorem dX8_take_128 : decode cX8_take 128 = .ok (.imul, 1) := dk_104 (dk_at dksX8_take_5 11 rfl rfl)
theorem dX8_take_129 : decode cX8_take 129 = .ok (.iadd, 1) := dk_96 (dk_at dksX8_take_5 12 rfl rfl)
theorem dX8_take_130 : decode cX8_take 130 = .ok (.iconst 2, 1) := dk_5 (dk_at dksX8_take_5 13 rfl rfl)
theorem dX8_take_131 : decode cX8_take 131 = .ok (.iadd, 1) := dk_96 (dk_at dksX8_take_5 14 rfl rfl)
theorem dX8_take_132 : decode cX8_take 132 = .ok (.iload 4, 2) := dk_21 4 (dk_at dksX8_take_5 15 rfl rfl)
theorem dX8_take_134 : decode cX8_take 134 = .ok (.iastore, 1) := dk_79 (dk_at dksX8_take_5 17 rfl rfl)
theorem dX8_take_135 : decode cX8_take 135 = .ok (.aload_n 0, 1) := dk_42 (dk_at dksX8_take_5 18 rfl rfl)
theorem dX8_take_136 : decode cX8_take 136 = .ok (.getfield 7, 3) := dk_180 0 7 (dk_at dksX8_take_5 19 rfl rfl)
theorem dX8_take_139 : decode cX8_take 139 = .ok (.iload 6, 2) := dk_21 6 (dk_at dksX8_take_5 22 rfl rfl)
theorem dX8_take_141 : decode cX8_take 141 = .ok (.bipush 8, 2) := dk_16 8 (dk_at dksX8_take_6 0 rfl rfl)
theorem dX8_take_143 : decode cX8_take 143 = .ok (.iadd, 1) := dk_96 (dk_at dksX8_take_6 2 rfl rfl)
theorem dX8_take_144 : decode cX8_take 144 = .ok (.iconst 4, 1) := dk_7 (dk_at dksX8_take_6 3 rfl rfl)
theorem dX8_take_145 : decode cX8_take 145 = .ok (.iload 7, 2) := dk_21 7 (dk_at dksX8_take_6 4 rfl rfl)
theorem dX8_take_147 : decode cX8_take 147 = .ok (.imul, 1) := dk_104 (dk_at dksX8_take_6 6 rfl rfl)
theorem dX8_take_148 : decode cX8_take 148 = .ok (.iadd, 1) := dk_96 (dk_at dksX8_take_6 7 rfl rfl)
theorem dX8_take_149 : decode cX8_take 149 = .ok (.iconst 3, 1) := dk_6 (dk_at dksX8_take_6 8 rfl rfl)
theorem dX8_take_150 : decode cX8_take 150 = .ok (.iadd, 1) := dk_96 (dk_at dksX8_take_6 9 rfl rfl)
theorem dX8_take_151 : decode cX8_take 151 = .ok (.iload 5, 2) := dk_21 5 (dk_at dksX8_take_6 10 rfl rfl)
theorem dX8_take_153 : decode cX8_take 153 = .ok (.iastore, 1) := dk_79 (dk_at dksX8_take_6 12 rfl rfl)
theorem dX8_take_154 : decode cX8_take 154 = .ok (.aload_n 0, 1) := dk_42 (dk_at dksX8_take_6 13 rfl rfl)
theorem dX8_take_155 : decode cX8_take 155 = .ok (.getfield 7, 3) := dk_180 0 7 (dk_at dksX8_take_6 14 rfl rfl)
theorem dX8_take_158 : decode cX8_take 158 = .ok (.iload 6, 2) := dk_21 6 (dk_at dksX8_take_6 17 rfl rfl)
theorem dX8_take_160 : decode cX8_take 160 = .ok (.aload_n 0, 1) := dk_42 (dk_at dksX8_take_6 19 rfl rfl)
theorem dX8_take_161 : decode cX8_take 161 = .ok (.getfield 7, 3) := dk_180 0 7 (dk_at dksX8_take_6 20 rfl rfl)
theorem dX8_take_164 : decode cX8_take 164 = .ok (.iload 6, 2) := dk_21 6 (dk_at dksX8_take_7 0 rfl rfl)
theorem dX8_take_166 : decode cX8_take 166 = .ok (.iaload, 1) := dk_46 (dk_at dksX8_take_7 2 rfl rfl)
theorem dX8_take_167 : decode cX8_take 167 = .ok (.iload_n 3, 1) := dk_29 (dk_at dksX8_take_7 3 rfl rfl)
theorem dX8_take_168 : decode cX8_take 168 = .ok (.iadd, 1) := dk_96 (dk_at dksX8_take_7 4 rfl rfl)
theorem dX8_take_169 : decode cX8_take 169 = .ok (.invokestatic 155, 3) := dk_184 0 155 (dk_at dksX8_take_7 5 rfl rfl)
theorem dX8_take_172 : decode cX8_take 172 = .ok (.iastore, 1) := dk_79 (dk_at dksX8_take_7 8 rfl rfl)
theorem dX8_take_173 : decode cX8_take 173 = .ok (.aload_n 0, 1) := dk_42 (dk_at dksX8_take_7 9 rfl rfl)
theorem dX8_take_174 : decode cX8_take 174 = .ok (.getfield 7, 3) := dk_180 0 7 (dk_at dksX8_take_7 10 rfl rfl)
theorem dX8_take_177 : decode cX8_take 177 = .ok (.iload 6, 2) := dk_21 6 (dk_at dksX8_take_7 13 rfl rfl)
theorem dX8_take_179 : decode cX8_take 179 = .ok (.iconst 3, 1) := dk_6 (dk_at dksX8_take_7 15 rfl rfl)
theorem dX8_take_180 : decode cX8_take 180 = .ok (.iadd, 1) := dk_96 (dk_at dksX8_take_7 16 rfl rfl)
theorem dX8_take_181 : decode cX8_take 181 = .ok (.dup2, 1) := dk_92 (dk_at dksX8_take_7 17 rfl rfl)
theorem dX8_take_182 : decode cX8_take 182 = .ok (.iaload, 1) := dk_46 (dk_at dksX8_take_7 18 rfl rfl)
theorem dX8_take_183 : decode cX8_take 183 = .ok (.iconst 1, 1) := dk_4 (dk_at dksX8_take_7 19 rfl rfl)
theorem dX8_take_184 : decode cX8_take 184 = .ok (.iadd, 1) := dk_96 (dk_at dksX8_take_7 20 rfl rfl)
theorem dX8_take_185 : decode cX8_take 185 = .ok (.iastore, 1) := dk_79 (dk_at dksX8_take_7 21 rfl rfl)
theorem dX8_take_186 : decode cX8_take 186 = .ok (.iload 7, 2) := dk_21 7 (dk_at dksX8_take_7 22 rfl rfl)
theorem dX8_take_188 : decode cX8_take 188 = .ok (.iconst 1, 1) := dk_4 (dk_at dksX8_take_8 0 rfl rfl)
theorem dX8_take_189 : decode cX8_take 189 = .ok (.iadd, 1) := dk_96 (dk_at dksX8_take_8 1 rfl rfl)
theorem dX8_take_190 : decode cX8_take 190 = .ok (.ireturn, 1) := dk_172 (dk_at dksX8_take_8 2 rfl rfl)
abbrev cX8_pay : ByteArray := prog_10_method_29_code
def yX8_pay : MethodName := ⟨RX8, "pay", "(II)I"⟩
def dkwX8_pay_4 : List UInt8 := [29, 6, 96, 46, 172]
abbrev dktX8_pay_4 : List UInt8 := dkwX8_pay_4 ++ []
def dkwX8_pay_3 : List UInt8 := [181, 0, 16, 42, 180, 0, 7, 29, 92, 46, 21, 4, 100, 79, 42, 27, 28, 182, 0, 173, 42, 180, 0, 7]
abbrev dktX8_pay_3 : List UInt8 := dkwX8_pay_3 ++ dktX8_pay_4
def dkwX8_pay_2 : List UInt8 := [96, 46, 54, 4, 42, 180, 0, 7, 29, 46, 21, 4, 162, 0, 6, 16, 252, 172, 42, 42, 180, 0, 7]
abbrev dktX8_pay_2 : List UInt8 := dkwX8_pay_2 ++ dktX8_pay_3
def dkwX8_pay_1 : List UInt8 := [96, 46, 182, 0, 170, 154, 0, 6, 16, 254, 172, 42, 180, 0, 7, 29, 16, 8, 96, 7, 28, 104, 96, 4]
abbrev dktX8_pay_1 : List UInt8 := dkwX8_pay_1 ++ dktX8_pay_2
def dkwX8_pay_0 : List UInt8 := [42, 27, 28, 182, 0, 91, 154, 0, 5, 2, 172, 16, 40, 27, 104, 62, 42, 28, 42, 180, 0, 7, 29, 6]
abbrev dktX8_pay_0 : List UInt8 := dkwX8_pay_0 ++ dktX8_pay_1
theorem dksX8_pay_0 : cX8_pay.data.toList.drop 0 = dktX8_pay_0 := by decide +kernel
theorem dksX8_pay_1 : cX8_pay.data.toList.drop 24 = dktX8_pay_1 := dk_seg dksX8_pay_0 24 rfl rfl
theorem dksX8_pay_2 : cX8_pay.data.toList.drop 48 = dktX8_pay_2 := dk_seg dksX8_pay_1 24 rfl rfl
theorem dksX8_pay_3 : cX8_pay.data.toList.drop 71 = dktX8_pay_3 := dk_seg dksX8_pay_2 23 rfl rfl
theorem dksX8_pay_4 : cX8_pay.data.toList.drop 95 = dktX8_pay_4 := dk_seg dksX8_pay_3 24 rfl rfl
theorem dX8_pay_0 : decode cX8_pay 0 = .ok (.aload_n 0, 1) := dk_42 (dk_at dksX8_pay_0 0 rfl rfl)
theorem dX8_pay_1 : decode cX8_pay 1 = .ok (.iload_n 1, 1) := dk_27 (dk_at dksX8_pay_0 1 rfl rfl)
theorem dX8_pay_2 : decode cX8_pay 2 = .ok (.iload_n 2, 1) := dk_28 (dk_at dksX8_pay_0 2 rfl rfl)
theorem dX8_pay_3 : decode cX8_pay 3 = .ok (.invokevirtual 91, 3) := dk_182 0 91 (dk_at dksX8_pay_0 3 rfl rfl)
theorem dX8_pay_6 : decode cX8_pay 6 = .ok (.ifCond .ne 5, 3) := dk_154 0 5 (dk_at dksX8_pay_0 6 rfl rfl)
theorem dX8_pay_9 : decode cX8_pay 9 = .ok (.iconst (-1), 1) := dk_2 (dk_at dksX8_pay_0 9 rfl rfl)
theorem dX8_pay_10 : decode cX8_pay 10 = .ok (.ireturn, 1) := dk_172 (dk_at dksX8_pay_0 10 rfl rfl)
theorem dX8_pay_11 : decode cX8_pay 11 = .ok (.bipush 40, 2) := dk_16 40 (dk_at dksX8_pay_0 11 rfl rfl)
theorem dX8_pay_13 : decode cX8_pay 13 = .ok (.iload_n 1, 1) := dk_27 (dk_at dksX8_pay_0 13 rfl rfl)
theorem dX8_pay_14 : decode cX8_pay 14 = .ok (.imul, 1) := dk_104 (dk_at dksX8_pay_0 14 rfl rfl)
theorem dX8_pay_15 : decode cX8_pay 15 = .ok (.istore_n 3, 1) := dk_62 (dk_at dksX8_pay_0 15 rfl rfl)
theorem dX8_pay_16 : decode cX8_pay 16 = .ok (.aload_n 0, 1) := dk_42 (dk_at dksX8_pay_0 16 rfl rfl)
theorem dX8_pay_17 : decode cX8_pay 17 = .ok (.iload_n 2, 1) := dk_28 (dk_at dksX8_pay_0 17 rfl rfl)
theorem dX8_pay_18 : decode cX8_pay 18 = .ok (.aload_n 0, 1) := dk_42 (dk_at dksX8_pay_0 18 rfl rfl)
theorem dX8_pay_19 : decode cX8_pay 19 = .ok (.getfield 7, 3) := dk_180 0 7 (dk_at dksX8_pay_0 19 rfl rfl)
theorem dX8_pay_22 : decode cX8_pay 22 = .ok (.iload_n 3, 1) := dk_29 (dk_at dksX8_pay_0 22 rfl rfl)
theorem dX8_pay_23 : decode cX8_pay 23 = .ok (.iconst 3, 1) := dk_6 (dk_at dksX8_pay_0 23 rfl rfl)
theorem dX8_pay_24 : decode cX8_pay 24 = .ok (.iadd, 1) := dk_96 (dk_at dksX8_pay_1 0 rfl rfl)
theorem dX8_pay_25 : decode cX8_pay 25 = .ok (.iaload, 1) := dk_46 (dk_at dksX8_pay_1 1 rfl rfl)
theorem dX8_pay_26 : decode cX8_pay 26 = .ok (.invokevirtual 170, 3) := dk_182 0 170 (dk_at dksX8_pay_1 2 rfl rfl)
theorem dX8_pay_29 : decode cX8_pay 29 = .ok (.ifCond .ne 6, 3) := dk_154 0 6 (dk_at dksX8_pay_1 5 rfl rfl)
theorem dX8_pay_32 : decode cX8_pay 32 = .ok (.bipush (-2), 2) := dk_16 254 (dk_at dksX8_pay_1 8 rfl rfl)
theorem dX8_pay_34 : decode cX8_pay 34 = .ok (.ireturn, 1) := dk_172 (dk_at dksX8_pay_1 10 rfl rfl)
theorem dX8_pay_35 : decode cX8_pay 35 = .ok (.aload_n 0, 1) := dk_42 (dk_at dksX8_pay_1 11 rfl rfl)
theorem dX8_pay_36 : decode cX8_pay 36 = .ok (.getfield 7, 3) := dk_180 0 7 (dk_at dksX8_pay_1 12 rfl rfl)
theorem dX8_pay_39 : decode cX8_pay 39 = .ok (.iload_n 3, 1) := dk_29 (dk_at dksX8_pay_1 15 rfl rfl)
theorem dX8_pay_40 : decode cX8_pay 40 = .ok (.bipush 8, 2) := dk_16 8 (dk_at dksX8_pay_1 16 rfl rfl)
theorem dX8_pay_42 : decode cX8_pay 42 = .ok (.iadd, 1) := dk_96 (dk_at dksX8_pay_1 18 rfl rfl)
theorem dX8_pay_43 : decode cX8_pay 43 = .ok (.iconst 4, 1) := dk_7 (dk_at dksX8_pay_1 19 rfl rfl)
theorem dX8_pay_44 : decode cX8_pay 44 = .ok (.iload_n 2, 1) := dk_28 (dk_at dksX8_pay_1 20 rfl rfl)
theorem dX8_pay_45 : decode cX8_pay 45 = .ok (.imul, 1) := dk_104 (dk_at dksX8_pay_1 21 rfl rfl)
theorem dX8_pay_46 : decode cX8_pay 46 = .ok (.iadd, 1) := dk_96 (dk_at dksX8_pay_1 22 rfl rfl)
theorem dX8_pay_47 : decode cX8_pay 47 = .ok (.iconst 1, 1) := dk_4 (dk_at dksX8_pay_1 23 rfl rfl)
theorem dX8_pay_48 : decode cX8_pay 48 = .ok (.iadd, 1) := dk_96 (dk_at dksX8_pay_2 0 rfl rfl)
theorem dX8_pay_49 : decode cX8_pay 49 = .ok (.iaload, 1) := dk_46 (dk_at dksX8_pay_2 1 rfl rfl)
theorem dX8_pay_50 : decode cX8_pay 50 = .ok (.istore 4, 2) := dk_54 4 (dk_at dksX8_pay_2 2 rfl rfl)
theorem dX8_pay_52 : decode cX8_pay 52 = .ok (.aload_n 0, 1) := dk_42 (dk_at dksX8_pay_2 4 rfl rfl)
theorem dX8_pay_53 : decode cX8_pay 53 = .ok (.getfield 7, 3) := dk_180 0 7 (dk_at dksX8_pay_2 5 rfl rfl)
theorem dX8_pay_56 : decode cX8_pay 56 = .ok (.iload_n 3, 1) := dk_29 (dk_at dksX8_pay_2 8 rfl rfl)
theorem dX8_pay_57 : decode cX8_pay 57 = .ok (.iaload, 1) := dk_46 (dk_at dksX8_pay_2 9 rfl rfl)
theorem dX8_pay_58 : decode cX8_pay 58 = .ok (.iload 4, 2) := dk_21 4 (dk_at dksX8_pay_2 10 rfl rfl)
theorem dX8_pay_60 : decode cX8_pay 60 = .ok (.if_icmp .ge 6, 3) := dk_162 0 6 (dk_at dksX8_pay_2 12 rfl rfl)
theorem dX8_pay_63 : decode cX8_pay 63 = .ok (.bipush (-4), 2) := dk_16 252 (dk_at dksX8_pay_2 15 rfl rfl)
theorem dX8_pay_65 : decode cX8_pay 65 = .ok (.ireturn, 1) := dk_172 (dk_at dksX8_pay_2 17 rfl rfl)
theorem dX8_pay_66 : decode cX8_pay 66 = .ok (.aload_n 0, 1) := dk_42 (dk_at dksX8_pay_2 18 rfl rfl)
theorem dX8_pay_67 : decode cX8_pay 67 = .ok (.aload_n 0, 1) := dk_42 (dk_at dksX8_pay_2 19 rfl rfl)
theorem dX8_pay_68 : decode cX8_pay 68 = .ok (.getfield 7, 3) := dk_180 0 7 (dk_at dksX8_pay_2 20 rfl rfl)
theorem dX8_pay_71 : decode cX8_pay 71 = .ok (.putfield 16, 3) := dk_181 0 16 (dk_at dksX8_pay_3 0 rfl rfl)
theorem dX8_pay_74 : decode cX8_pay 74 = .ok (.aload_n 0, 1) := dk_42 (dk_at dksX8_pay_3 3 rfl rfl)
theorem dX8_pay_75 : decode cX8_pay 75 = .ok (.getfield 7, 3) := dk_180 0 7 (dk_at dksX8_pay_3 4 rfl rfl)
theorem dX8_pay_78 : decode cX8_pay 78 = .ok (.iload_n 3, 1) := dk_29 (dk_at dksX8_pay_3 7 rfl rfl)
theorem dX8_pay_79 : decode cX8_pay 79 = .ok (.dup2, 1) := dk_92 (dk_at dksX8_pay_3 8 rfl rfl)
theorem dX8_pay_80 : decode cX8_pay 80 = .ok (.iaload, 1) := dk_46 (dk_at dksX8_pay_3 9 rfl rfl)
theorem dX8_pay_81 : decode cX8_pay 81 = .ok (.iload 4, 2) := dk_21 4 (dk_at dksX8_pay_3 10 rfl rfl)
theorem dX8_pay_83 : decode cX8_pay 83 = .ok (.isub, 1) := dk_100 (dk_at dksX8_pay_3 12 rfl rfl)
theorem dX8_pay_84 : decode cX8_pay 84 = .ok (.iastore, 1) := dk_79 (dk_at dksX8_pay_3 13 rfl rfl)
theorem dX8_pay_85 : decode cX8_pay 85 = .ok (.aload_n 0, 1) := dk_42 (dk_at dksX8_pay_3 14 rfl rfl)
theorem dX8_pay_86 : decode cX8_pay 86 = .ok (.iload_n 1, 1) := dk_27 (dk_at dksX8_pay_3 15 rfl rfl)
theorem dX8_pay_87 : decode cX8_pay 87 = .ok (.iload_n 2, 1) := dk_28 (dk_at dksX8_pay_3 16 rfl rfl)
theorem dX8_pay_88 : decode cX8_pay 88 = .ok (.invokevirtual 173, 3) := dk_182 0 173 (dk_at dksX8_pay_3 17 rfl rfl)
theorem dX8_pay_91 : decode cX8_pay 91 = .ok (.aload_n 0, 1) := dk_42 (dk_at dksX8_pay_3 20 rfl rfl)
theorem dX8_pay_92 : decode cX8_pay 92 = .ok (.getfield 7, 3) := dk_180 0 7 (dk_at dksX8_pay_3 21 rfl rfl)
theorem dX8_pay_95 : decode cX8_pay 95 = .ok (.iload_n 3, 1) := dk_29 (dk_at dksX8_pay_4 0 rfl rfl)
theorem dX8_pay_96 : decode cX8_pay 96 = .ok (.iconst 3, 1) := dk_6 (dk_at dksX8_pay_4 1 rfl rfl)
theorem dX8_pay_97 : decode cX8_pay 97 = .ok (.iadd, 1) := dk_96 (dk_at dksX8_pay_4 2 rfl rfl)
theorem dX8_pay_98 : decode cX8_pay 98 = .ok (.iaload, 1) := dk_46 (dk_at dksX8_pay_4 3 rfl rfl)
theorem dX8_pay_99 : decode cX8_pay 99 = .ok (.ireturn, 1) := dk_172 (dk_at dksX8_pay_4 4 rfl rfl)
abbrev cX8_mayOff : ByteArray := prog_10_method_27_code
def yX8_mayOff : MethodName := ⟨RX8, "mayOff", "(II)Z"⟩
def dkwX8_mayOff_2 : List UInt8 := [157, 0, 8, 28, 4, 160, 0, 7, 4, 167, 0, 4, 3, 172]
abbrev dktX8_mayOff_2 : List UInt8 := dkwX8_mayOff_2 ++ []
def dkwX8_mayOff_1 : List UInt8 := [42, 180, 0, 25, 3, 46, 4, 160, 0, 15, 27, 154, 0, 7, 4, 167, 0, 21, 3, 167, 0, 17, 27]
abbrev dktX8_mayOff_1 : List UInt8 := dkwX8_mayOff_1 ++ dktX8_mayOff_2
def dkwX8_mayOff_0 : List UInt8 := [42, 180, 0, 25, 3, 46, 154, 0, 18, 27, 28, 4, 100, 160, 0, 7, 4, 167, 0, 43, 3, 167, 0, 39]
abbrev dktX8_mayOff_0 : List UInt8 := dkwX8_mayOff_0 ++ dktX8_mayOff_1
theorem dksX8_mayOff_0 : cX8_mayOff.data.toList.drop 0 = dktX8_mayOff_0 := by decide +kernel
theorem dksX8_mayOff_1 : cX8_mayOff.data.toList.drop 24 = dktX8_mayOff_1 := dk_seg dksX8_mayOff_0 24 rfl rfl
theorem dksX8_mayOff_2 : cX8_mayOff.data.toList.drop 47 = dktX8_mayOff_2 := dk_seg dksX8_mayOff_1 23 rfl rfl
theorem dX8_mayOff_0 : decode cX8_mayOff 0 = .ok (.aload_n 0, 1) := dk_42 (dk_at dksX8_mayOff_0 0 rfl rfl)
theorem dX8_mayOff_1 : decode cX8_mayOff 1 = .ok (.getfield 25, 3) := dk_180 0 25 (dk_at dksX8_mayOff_0 1 rfl rfl)
theorem dX8_mayOff_4 : decode cX8_mayOff 4 = .ok (.iconst 0, 1) := dk_3 (dk_at dksX8_mayOff_0 4 rfl rfl)
theorem dX8_mayOff_5 : decode cX8_mayOff 5 = .ok (.iaload, 1) := dk_46 (dk_at dksX8_mayOff_0 5 rfl rfl)
theorem dX8_mayOff_6 : decode cX8_mayOff 6 = .ok (.ifCond .ne 18, 3) := dk_154 0 18 (dk_at dksX8_mayOff_0 6 rfl rfl)
theorem dX8_mayOff_9 : decode cX8_mayOff 9 = .ok (.iload_n 1, 1) := dk_27 (dk_at dksX8_mayOff_0 9 rfl rfl)
theorem dX8_mayOff_10 : decode cX8_mayOff 10 = .ok (.iload_n 2, 1) := dk_28 (dk_at dksX8_mayOff_0 10 rfl rfl)
theorem dX8_mayOff_11 : decode cX8_mayOff 11 = .ok (.iconst 1, 1) := dk_4 (dk_at dksX8_mayOff_0 11 rfl rfl)
theorem dX8_mayOff_12 : decode cX8_mayOff 12 = .ok (.isub, 1) := dk_100 (dk_at dksX8_mayOff_0 12 rfl rfl)
theorem dX8_mayOff_13 : decode cX8_mayOff 13 = .ok (.if_icmp .ne 7, 3) := dk_160 0 7 (dk_at dksX8_mayOff_0 13 rfl rfl)
theorem dX8_mayOff_16 : decode cX8_mayOff 16 = .ok (.iconst 1, 1) := dk_4 (dk_at dksX8_mayOff_0 16 rfl rfl)
theorem dX8_mayOff_17 : decode cX8_mayOff 17 = .ok (.goto 43, 3) := dk_167 0 43 (dk_at dksX8_mayOff_0 17 rfl rfl)
theorem dX8_mayOff_20 : decode cX8_mayOff 20 = .ok (.iconst 0, 1) := dk_3 (dk_at dksX8_mayOff_0 20 rfl rfl)
theorem dX8_mayOff_21 : decode cX8_mayOff 21 = .ok (.goto 39, 3) := dk_167 0 39 (dk_at dksX8_mayOff_0 21 rfl rfl)
theorem dX8_mayOff_24 : decode cX8_mayOff 24 = .ok (.aload_n 0, 1) := dk_42 (dk_at dksX8_mayOff_1 0 rfl rfl)
theorem dX8_mayOff_25 : decode cX8_mayOff 25 = .ok (.getfield 25, 3) := dk_180 0 25 (dk_at dksX8_mayOff_1 1 rfl rfl)
theorem dX8_mayOff_28 : decode cX8_mayOff 28 = .ok (.iconst 0, 1) := dk_3 (dk_at dksX8_mayOff_1 4 rfl rfl)
theorem dX8_mayOff_29 : decode cX8_mayOff 29 = .ok (.iaload, 1) := dk_46 (dk_at dksX8_mayOff_1 5 rfl rfl)
theorem dX8_mayOff_30 : decode cX8_mayOff 30 = .ok (.iconst 1, 1) := dk_4 (dk_at dksX8_mayOff_1 6 rfl rfl)
theorem dX8_mayOff_31 : decode cX8_mayOff 31 = .ok (.if_icmp .ne 15, 3) := dk_160 0 15 (dk_at dksX8_mayOff_1 7 rfl rfl)
theorem dX8_mayOff_34 : decode cX8_mayOff 34 = .ok (.iload_n 1, 1) := dk_27 (dk_at dksX8_mayOff_1 10 rfl rfl)
theorem dX8_mayOff_35 : decode cX8_mayOff 35 = .ok (.ifCond .ne 7, 3) := dk_154 0 7 (dk_at dksX8_mayOff_1 11 rfl rfl)
theorem dX8_mayOff_38 : decode cX8_mayOff 38 = .ok (.iconst 1, 1) := dk_4 (dk_at dksX8_mayOff_1 14 rfl rfl)
theorem dX8_mayOff_39 : decode cX8_mayOff 39 = .ok (.goto 21, 3) := dk_167 0 21 (dk_at dksX8_mayOff_1 15 rfl rfl)
theorem dX8_mayOff_42 : decode cX8_mayOff 42 = .ok (.iconst 0, 1) := dk_3 (dk_at dksX8_mayOff_1 18 rfl rfl)
theorem dX8_mayOff_43 : decode cX8_mayOff 43 = .ok (.goto 17, 3) := dk_167 0 17 (dk_at dksX8_mayOff_1 19 rfl rfl)
theorem dX8_mayOff_46 : decode cX8_mayOff 46 = .ok (.iload_n 1, 1) := dk_27 (dk_at dksX8_mayOff_1 22 rfl rfl)
theorem dX8_mayOff_47 : decode cX8_mayOff 47 = .ok (.ifCond .gt 8, 3) := dk_157 0 8 (dk_at dksX8_mayOff_2 0 rfl rfl)
theorem dX8_mayOff_50 : decode cX8_mayOff 50 = .ok (.iload_n 2, 1) := dk_28 (dk_at dksX8_mayOff_2 3 rfl rfl)
theorem dX8_mayOff_51 : decode cX8_mayOff 51 = .ok (.iconst 1, 1) := dk_4 (dk_at dksX8_mayOff_2 4 rfl rfl)
theorem dX8_mayOff_52 : decode cX8_mayOff 52 = .ok (.if_icmp .ne 7, 3) := dk_160 0 7 (dk_at dksX8_mayOff_2 5 rfl rfl)
theorem dX8_mayOff_55 : decode cX8_mayOff 55 = .ok (.iconst 1, 1) := dk_4 (dk_at dksX8_mayOff_2 8 rfl rfl)
theorem dX8_mayOff_56 : decode cX8_mayOff 56 = .ok (.goto 4, 3) := dk_167 0 4 (dk_at dksX8_mayOff_2 9 rfl rfl)
theorem dX8_mayOff_59 : decode cX8_mayOff 59 = .ok (.iconst 0, 1) := dk_3 (dk_at dksX8_mayOff_2 12 rfl rfl)
theorem dX8_mayOff_60 : decode cX8_mayOff 60 = .ok (.ireturn, 1) := dk_172 (dk_at dksX8_mayOff_2 13 rfl rfl)
abbrev cX8_off : ByteArray := prog_10_method_28_code
def yX8_off : MethodName := ⟨RX8, "off", "(II)V"⟩
def dkwX8_off_2 : List UInt8 := [42, 180, 0, 16, 29, 16, 12, 96, 21, 4, 96, 46, 79, 132, 4, 1, 167, 255, 214, 177]
abbrev dktX8_off_2 : List UInt8 := dkwX8_off_2 ++ []
def dkwX8_off_1 : List UInt8 := [7, 42, 180, 0, 16, 29, 6, 96, 46, 104, 162, 0, 33, 42, 180, 0, 16, 29, 16, 8, 96, 21, 4, 96]
abbrev dktX8_off_1 : List UInt8 := dkwX8_off_1 ++ dktX8_off_2
def dkwX8_off_0 : List UInt8 := [16, 40, 27, 104, 62, 42, 180, 0, 16, 29, 6, 96, 92, 46, 4, 100, 79, 7, 28, 104, 54, 4, 21, 4]
abbrev dktX8_off_0 : List UInt8 := dkwX8_off_0 ++ dktX8_off_1
theorem dksX8_off_0 : cX8_off.data.toList.drop 0 = dktX8_off_0 := by decide +kernel
theorem dksX8_off_1 : cX8_off.data.toList.drop 24 = dktX8_off_1 := dk_seg dksX8_off_0 24 rfl rfl
theorem dksX8_off_2 : cX8_off.data.toList.drop 48 = dktX8_off_2 := dk_seg dksX8_off_1 24 rfl rfl
theorem dX8_off_0 : decode cX8_off 0 = .ok (.bipush 40, 2) := dk_16 40 (dk_at dksX8_off_0 0 rfl rfl)
theorem dX8_off_2 : decode cX8_off 2 = .ok (.iload_n 1, 1) := dk_27 (dk_at dksX8_off_0 2 rfl rfl)
theorem dX8_off_3 : decode cX8_off 3 = .ok (.imul, 1) := dk_104 (dk_at dksX8_off_0 3 rfl rfl)
theorem dX8_off_4 : decode cX8_off 4 = .ok (.istore_n 3, 1) := dk_62 (dk_at dksX8_off_0 4 rfl rfl)
theorem dX8_off_5 : decode cX8_off 5 = .ok (.aload_n 0, 1) := dk_42 (dk_at dksX8_off_0 5 rfl rfl)
theorem dX8_off_6 : decode cX8_off 6 = .ok (.getfield 16, 3) := dk_180 0 16 (dk_at dksX8_off_0 6 rfl rfl)
theorem dX8_off_9 : decode cX8_off 9 = .ok (.iload_n 3, 1) := dk_29 (dk_at dksX8_off_0 9 rfl rfl)
theorem dX8_off_10 : decode cX8_off 10 = .ok (.iconst 3, 1) := dk_6 (dk_at dksX8_off_0 10 rfl rfl)
theorem dX8_off_11 : decode cX8_off 11 = .ok (.iadd, 1) := dk_96 (dk_at dksX8_off_0 11 rfl rfl)
theorem dX8_off_12 : decode cX8_off 12 = .ok (.dup2, 1) := dk_92 (dk_at dksX8_off_0 12 rfl rfl)
theorem dX8_off_13 : decode cX8_off 13 = .ok (.iaload, 1) := dk_46 (dk_at dksX8_off_0 13 rfl rfl)
theorem dX8_off_14 : decode cX8_off 14 = .ok (.iconst 1, 1) := dk_4 (dk_at dksX8_off_0 14 rfl rfl)
theorem dX8_off_15 : decode cX8_off 15 = .ok (.isub, 1) := dk_100 (dk_at dksX8_off_0 15 rfl rfl)
theorem dX8_off_16 : decode cX8_off 16 = .ok (.iastore, 1) := dk_79 (dk_at dksX8_off_0 16 rfl rfl)
theorem dX8_off_17 : decode cX8_off 17 = .ok (.iconst 4, 1) := dk_7 (dk_at dksX8_off_0 17 rfl rfl)
theorem dX8_off_18 : decode cX8_off 18 = .ok (.iload_n 2, 1) := dk_28 (dk_at dksX8_off_0 18 rfl rfl)
theorem dX8_off_19 : decode cX8_off 19 = .ok (.imul, 1) := dk_104 (dk_at dksX8_off_0 19 rfl rfl)
theorem dX8_off_20 : decode cX8_off 20 = .ok (.istore 4, 2) := dk_54 4 (dk_at dksX8_off_0 20 rfl rfl)
theorem dX8_off_22 : decode cX8_off 22 = .ok (.iload 4, 2) := dk_21 4 (dk_at dksX8_off_0 22 rfl rfl)
theorem dX8_off_24 : decode cX8_off 24 = .ok (.iconst 4, 1) := dk_7 (dk_at dksX8_off_1 0 rfl rfl)
theorem dX8_off_25 : decode cX8_off 25 = .ok (.aload_n 0, 1) := dk_42 (dk_at dksX8_off_1 1 rfl rfl)
theorem dX8_off_26 : decode cX8_off 26 = .ok (.getfield 16, 3) := dk_180 0 16 (dk_at dksX8_off_1 2 rfl rfl)
theorem dX8_off_29 : decode cX8_off 29 = .ok (.iload_n 3, 1) := dk_29 (dk_at dksX8_off_1 5 rfl rfl)
theorem dX8_off_30 : decode cX8_off 30 = .ok (.iconst 3, 1) := dk_6 (dk_at dksX8_off_1 6 rfl rfl)
theorem dX8_off_31 : decode cX8_off 31 = .ok (.iadd, 1) := dk_96 (dk_at dksX8_off_1 7 rfl rfl)
theorem dX8_off_32 : decode cX8_off 32 = .ok (.iaload, 1) := dk_46 (dk_at dksX8_off_1 8 rfl rfl)
theorem dX8_off_33 : decode cX8_off 33 = .ok (.imul, 1) := dk_104 (dk_at dksX8_off_1 9 rfl rfl)
theorem dX8_off_34 : decode cX8_off 34 = .ok (.if_icmp .ge 33, 3) := dk_162 0 33 (dk_at dksX8_off_1 10 rfl rfl)
theorem dX8_off_37 : decode cX8_off 37 = .ok (.aload_n 0, 1) := dk_42 (dk_at dksX8_off_1 13 rfl rfl)
theorem dX8_off_38 : decode cX8_off 38 = .ok (.getfield 16, 3) := dk_180 0 16 (dk_at dksX8_off_1 14 rfl rfl)
theorem dX8_off_41 : decode cX8_off 41 = .ok (.iload_n 3, 1) := dk_29 (dk_at dksX8_off_1 17 rfl rfl)
theorem dX8_off_42 : decode cX8_off 42 = .ok (.bipush 8, 2) := dk_16 8 (dk_at dksX8_off_1 18 rfl rfl)
theorem dX8_off_44 : decode cX8_off 44 = .ok (.iadd, 1) := dk_96 (dk_at dksX8_off_1 20 rfl rfl)
theorem dX8_off_45 : decode cX8_off 45 = .ok (.iload 4, 2) := dk_21 4 (dk_at dksX8_off_1 21 rfl rfl)
theorem dX8_off_47 : decode cX8_off 47 = .ok (.iadd, 1) := dk_96 (dk_at dksX8_off_1 23 rfl rfl)
theorem dX8_off_48 : decode cX8_off 48 = .ok (.aload_n 0, 1) := dk_42 (dk_at dksX8_off_2 0 rfl rfl)
theorem dX8_off_49 : decode cX8_off 49 = .ok (.getfield 16, 3) := dk_180 0 16 (dk_at dksX8_off_2 1 rfl rfl)
theorem dX8_off_52 : decode cX8_off 52 = .ok (.iload_n 3, 1) := dk_29 (dk_at dksX8_off_2 4 rfl rfl)
theorem dX8_off_53 : decode cX8_off 53 = .ok (.bipush 12, 2) := dk_16 12 (dk_at dksX8_off_2 5 rfl rfl)
theorem dX8_off_55 : decode cX8_off 55 = .ok (.iadd, 1) := dk_96 (dk_at dksX8_off_2 7 rfl rfl)
theorem dX8_off_56 : decode cX8_off 56 = .ok (.iload 4, 2) := dk_21 4 (dk_at dksX8_off_2 8 rfl rfl)
theorem dX8_off_58 : decode cX8_off 58 = .ok (.iadd, 1) := dk_96 (dk_at dksX8_off_2 10 rfl rfl)
theorem dX8_off_59 : decode cX8_off 59 = .ok (.iaload, 1) := dk_46 (dk_at dksX8_off_2 11 rfl rfl)
theorem dX8_off_60 : decode cX8_off 60 = .ok (.iastore, 1) := dk_79 (dk_at dksX8_off_2 12 rfl rfl)
theorem dX8_off_61 : decode cX8_off 61 = .ok (.iinc 4 1, 3) := dk_132 4 1 (dk_at dksX8_off_2 13 rfl rfl)
theorem dX8_off_64 : decode cX8_off 64 = .ok (.goto (-42), 3) := dk_167 255 214 (dk_at dksX8_off_2 16 rfl rfl)
theorem dX8_off_67 : decode cX8_off 67 = .ok (.return_, 1) := dk_177 (dk_at dksX8_off_2 19 rfl rfl)
abbrev cX8_cut : ByteArray := prog_10_method_31_code
def yX8_cut : MethodName := ⟨RX8, "cut", "(II)I"⟩
def dkwX8_cut_3 : List UInt8 := [96, 46, 172]
abbrev dktX8_cut_3 : List UInt8 := dkwX8_cut_3 ++ []
def dkwX8_cut_2 : List UInt8 := [27, 28, 182, 0, 173, 42, 89, 180, 0, 148, 4, 96, 181, 0, 148, 42, 180, 0, 7, 16, 40, 27, 104, 6]
abbrev dktX8_cut_2 : List UInt8 := dkwX8_cut_2 ++ dktX8_cut_3
def dkwX8_cut_1 : List UInt8 := [180, 0, 148, 42, 180, 0, 25, 4, 46, 161, 0, 6, 16, 252, 172, 42, 42, 180, 0, 7, 181, 0, 16, 42]
abbrev dktX8_cut_1 : List UInt8 := dkwX8_cut_1 ++ dktX8_cut_2
def dkwX8_cut_0 : List UInt8 := [42, 27, 28, 182, 0, 91, 154, 0, 5, 2, 172, 42, 27, 28, 182, 0, 177, 154, 0, 6, 16, 254, 172, 42]
abbrev dktX8_cut_0 : List UInt8 := dkwX8_cut_0 ++ dktX8_cut_1
theorem dksX8_cut_0 : cX8_cut.data.toList.drop 0 = dktX8_cut_0 := by decide +kernel
theorem dksX8_cut_1 : cX8_cut.data.toList.drop 24 = dktX8_cut_1 := dk_seg dksX8_cut_0 24 rfl rfl
theorem dksX8_cut_2 : cX8_cut.data.toList.drop 48 = dktX8_cut_2 := dk_seg dksX8_cut_1 24 rfl rfl
theorem dksX8_cut_3 : cX8_cut.data.toList.drop 72 = dktX8_cut_3 := dk_seg dksX8_cut_2 24 rfl rfl
theorem dX8_cut_0 : decode cX8_cut 0 = .ok (.aload_n 0, 1) := dk_42 (dk_at dksX8_cut_0 0 rfl rfl)
theorem dX8_cut_1 : decode cX8_cut 1 = .ok (.iload_n 1, 1) := dk_27 (dk_at dksX8_cut_0 1 rfl rfl)
theorem dX8_cut_2 : decode cX8_cut 2 = .ok (.iload_n 2, 1) := dk_28 (dk_at dksX8_cut_0 2 rfl rfl)
theorem dX8_cut_3 : decode cX8_cut 3 = .ok (.invokevirtual 91, 3) := dk_182 0 91 (dk_at dksX8_cut_0 3 rfl rfl)
theorem dX8_cut_6 : decode cX8_cut 6 = .ok (.ifCond .ne 5, 3) := dk_154 0 5 (dk_at dksX8_cut_0 6 rfl rfl)
theorem dX8_cut_9 : decode cX8_cut 9 = .ok (.iconst (-1), 1) := dk_2 (dk_at dksX8_cut_0 9 rfl rfl)
theorem dX8_cut_10 : decode cX8_cut 10 = .ok (.ireturn, 1) := dk_172 (dk_at dksX8_cut_0 10 rfl rfl)
theorem dX8_cut_11 : decode cX8_cut 11 = .ok (.aload_n 0, 1) := dk_42 (dk_at dksX8_cut_0 11 rfl rfl)
theorem dX8_cut_12 : decode cX8_cut 12 = .ok (.iload_n 1, 1) := dk_27 (dk_at dksX8_cut_0 12 rfl rfl)
theorem dX8_cut_13 : decode cX8_cut 13 = .ok (.iload_n 2, 1) := dk_28 (dk_at dksX8_cut_0 13 rfl rfl)
theorem dX8_cut_14 : decode cX8_cut 14 = .ok (.invokevirtual 177, 3) := dk_182 0 177 (dk_at dksX8_cut_0 14 rfl rfl)
theorem dX8_cut_17 : decode cX8_cut 17 = .ok (.ifCond .ne 6, 3) := dk_154 0 6 (dk_at dksX8_cut_0 17 rfl rfl)
theorem dX8_cut_20 : decode cX8_cut 20 = .ok (.bipush (-2), 2) := dk_16 254 (dk_at dksX8_cut_0 20 rfl rfl)
theorem dX8_cut_22 : decode cX8_cut 22 = .ok (.ireturn, 1) := dk_172 (dk_at dksX8_cut_0 22 rfl rfl)
theorem dX8_cut_23 : decode cX8_cut 23 = .ok (.aload_n 0, 1) := dk_42 (dk_at dksX8_cut_0 23 rfl rfl)
theorem dX8_cut_24 : decode cX8_cut 24 = .ok (.getfield 148, 3) := dk_180 0 148 (dk_at dksX8_cut_1 0 rfl rfl)
theorem dX8_cut_27 : decode cX8_cut 27 = .ok (.aload_n 0, 1) := dk_42 (dk_at dksX8_cut_1 3 rfl rfl)
theorem dX8_cut_28 : decode cX8_cut 28 = .ok (.getfield 25, 3) := dk_180 0 25 (dk_at dksX8_cut_1 4 rfl rfl)
theorem dX8_cut_31 : decode cX8_cut 31 = .ok (.iconst 1, 1) := dk_4 (dk_at dksX8_cut_1 7 rfl rfl)
theorem dX8_cut_32 : decode cX8_cut 32 = .ok (.iaload, 1) := dk_46 (dk_at dksX8_cut_1 8 rfl rfl)
theorem dX8_cut_33 : decode cX8_cut 33 = .ok (.if_icmp .lt 6, 3) := dk_161 0 6 (dk_at dksX8_cut_1 9 rfl rfl)
theorem dX8_cut_36 : decode cX8_cut 36 = .ok (.bipush (-4), 2) := dk_16 252 (dk_at dksX8_cut_1 12 rfl rfl)
theorem dX8_cut_38 : decode cX8_cut 38 = .ok (.ireturn, 1) := dk_172 (dk_at dksX8_cut_1 14 rfl rfl)
theorem dX8_cut_39 : decode cX8_cut 39 = .ok (.aload_n 0, 1) := dk_42 (dk_at dksX8_cut_1 15 rfl rfl)
theorem dX8_cut_40 : decode cX8_cut 40 = .ok (.aload_n 0, 1) := dk_42 (dk_at dksX8_cut_1 16 rfl rfl)
theorem dX8_cut_41 : decode cX8_cut 41 = .ok (.getfield 7, 3) := dk_180 0 7 (dk_at dksX8_cut_1 17 rfl rfl)
theorem dX8_cut_44 : decode cX8_cut 44 = .ok (.putfield 16, 3) := dk_181 0 16 (dk_at dksX8_cut_1 20 rfl rfl)
theorem dX8_cut_47 : decode cX8_cut 47 = .ok (.aload_n 0, 1) := dk_42 (dk_at dksX8_cut_1 23 rfl rfl)
theorem dX8_cut_48 : decode cX8_cut 48 = .ok (.iload_n 1, 1) := dk_27 (dk_at dksX8_cut_2 0 rfl rfl)
theorem dX8_cut_49 : decode cX8_cut 49 = .ok (.iload_n 2, 1) := dk_28 (dk_at dksX8_cut_2 1 rfl rfl)
theorem dX8_cut_50 : decode cX8_cut 50 = .ok (.invokevirtual 173, 3) := dk_182 0 173 (dk_at dksX8_cut_2 2 rfl rfl)
theorem dX8_cut_53 : decode cX8_cut 53 = .ok (.aload_n 0, 1) := dk_42 (dk_at dksX8_cut_2 5 rfl rfl)
theorem dX8_cut_54 : decode cX8_cut 54 = .ok (.dup, 1) := dk_89 (dk_at dksX8_cut_2 6 rfl rfl)
theorem dX8_cut_55 : decode cX8_cut 55 = .ok (.getfield 148, 3) := dk_180 0 148 (dk_at dksX8_cut_2 7 rfl rfl)
theorem dX8_cut_58 : decode cX8_cut 58 = .ok (.iconst 1, 1) := dk_4 (dk_at dksX8_cut_2 10 rfl rfl)
theorem dX8_cut_59 : decode cX8_cut 59 = .ok (.iadd, 1) := dk_96 (dk_at dksX8_cut_2 11 rfl rfl)
theorem dX8_cut_60 : decode cX8_cut 60 = .ok (.putfield 148, 3) := dk_181 0 148 (dk_at dksX8_cut_2 12 rfl rfl)
theorem dX8_cut_63 : decode cX8_cut 63 = .ok (.aload_n 0, 1) := dk_42 (dk_at dksX8_cut_2 15 rfl rfl)
theorem dX8_cut_64 : decode cX8_cut 64 = .ok (.getfield 7, 3) := dk_180 0 7 (dk_at dksX8_cut_2 16 rfl rfl)
theorem dX8_cut_67 : decode cX8_cut 67 = .ok (.bipush 40, 2) := dk_16 40 (dk_at dksX8_cut_2 19 rfl rfl)
theorem dX8_cut_69 : decode cX8_cut 69 = .ok (.iload_n 1, 1) := dk_27 (dk_at dksX8_cut_2 21 rfl rfl)
theorem dX8_cut_70 : decode cX8_cut 70 = .ok (.imul, 1) := dk_104 (dk_at dksX8_cut_2 22 rfl rfl)
theorem dX8_cut_71 : decode cX8_cut 71 = .ok (.iconst 3, 1) := dk_6 (dk_at dksX8_cut_2 23 rfl rfl)
theorem dX8_cut_72 : decode cX8_cut 72 = .ok (.iadd, 1) := dk_96 (dk_at dksX8_cut_3 0 rfl rfl)
theorem dX8_cut_73 : decode cX8_cut 73 = .ok (.iaload, 1) := dk_46 (dk_at dksX8_cut_3 1 rfl rfl)
theorem dX8_cut_74 : decode cX8_cut 74 = .ok (.ireturn, 1) := dk_172 (dk_at dksX8_cut_3 2 rfl rfl)
abbrev cX8_isBetween : ByteArray := prog_10_method_30_code
def yX8_isBetween : MethodName := ⟨RX8, "isBetween", "(II)Z"⟩
def dkwX8_isBetween_1 : List UInt8 := [167, 0, 4, 3, 172]
abbrev dktX8_isBetween_1 : List UInt8 := dkwX8_isBetween_1 ++ []
def dkwX8_isBetween_0 : List UInt8 := [28, 158, 0, 24, 28, 42, 180, 0, 7, 16, 40, 27, 104, 6, 96, 46, 4, 100, 162, 0, 7, 4]
abbrev dktX8_isBetween_0 : List UInt8 := dkwX8_isBetween_0 ++ dktX8_isBetween_1
theorem dksX8_isBetween_0 : cX8_isBetween.data.toList.drop 0 = dktX8_isBetween_0 := by decide +kernel
theorem dksX8_isBetween_1 : cX8_isBetween.data.toList.drop 22 = dktX8_isBetween_1 := dk_seg dksX8_isBetween_0 22 rfl rfl
theorem dX8_isBetween_0 : decode cX8_isBetween 0 = .ok (.iload_n 2, 1) := dk_28 (dk_at dksX8_isBetween_0 0 rfl rfl)
theorem dX8_isBetween_1 : decode cX8_isBetween 1 = .ok (.ifCond .le 24, 3) := dk_158 0 24 (dk_at dksX8_isBetween_0 1 rfl rfl)
theorem dX8_isBetween_4 : decode cX8_isBetween 4 = .ok (.iload_n 2, 1) := dk_28 (dk_at dksX8_isBetween_0 4 rfl rfl)
theorem dX8_isBetween_5 : decode cX8_isBetween 5 = .ok (.aload_n 0, 1) := dk_42 (dk_at dksX8_isBetween_0 5 rfl rfl)
theorem dX8_isBetween_6 : decode cX8_isBetween 6 = .ok (.getfield 7, 3) := dk_180 0 7 (dk_at dksX8_isBetween_0 6 rfl rfl)
theorem dX8_isBetween_9 : decode cX8_isBetween 9 = .ok (.bipush 40, 2) := dk_16 40 (dk_at dksX8_isBetween_0 9 rfl rfl)
theorem dX8_isBetween_11 : decode cX8_isBetween 11 = .ok (.iload_n 1, 1) := dk_27 (dk_at dksX8_isBetween_0 11 rfl rfl)
theorem dX8_isBetween_12 : decode cX8_isBetween 12 = .ok (.imul, 1) := dk_104 (dk_at dksX8_isBetween_0 12 rfl rfl)
theorem dX8_isBetween_13 : decode cX8_isBetween 13 = .ok (.iconst 3, 1) := dk_6 (dk_at dksX8_isBetween_0 13 rfl rfl)
theorem dX8_isBetween_14 : decode cX8_isBetween 14 = .ok (.iadd, 1) := dk_96 (dk_at dksX8_isBetween_0 14 rfl rfl)
theorem dX8_isBetween_15 : decode cX8_isBetween 15 = .ok (.iaload, 1) := dk_46 (dk_at dksX8_isBetween_0 15 rfl rfl)
theorem dX8_isBetween_16 : decode cX8_isBetween 16 = .ok (.iconst 1, 1) := dk_4 (dk_at dksX8_isBetween_0 16 rfl rfl)
theorem dX8_isBetween_17 : decode cX8_isBetween 17 = .ok (.isub, 1) := dk_100 (dk_at dksX8_isBetween_0 17 rfl rfl)
theorem dX8_isBetween_18 : decode cX8_isBetween 18 = .ok (.if_icmp .ge 7, 3) := dk_162 0 7 (dk_at dksX8_isBetween_0 18 rfl rfl)
theorem dX8_isBetween_21 : decode cX8_isBetween 21 = .ok (.iconst 1, 1) := dk_4 (dk_at dksX8_isBetween_0 21 rfl rfl)
theorem dX8_isBetween_22 : decode cX8_isBetween 22 = .ok (.goto 4, 3) := dk_167 0 4 (dk_at dksX8_isBetween_1 0 rfl rfl)
theorem dX8_isBetween_25 : decode cX8_isBetween 25 = .ok (.iconst 0, 1) := dk_3 (dk_at dksX8_isBetween_1 3 rfl rfl)
theorem dX8_isBetween_26 : decode cX8_isBetween 26 = .ok (.ireturn, 1) := dk_172 (dk_at dksX8_isBetween_1 4 rfl rfl)
abbrev cX8_ring : ByteArray := prog_10_method_35_code
def yX8_ring : MethodName := ⟨RX8, "ring", "(III)I"⟩
def dkwX8_ring_11 : List UInt8 := [172]
abbrev dktX8_ring_11 : List UInt8 := dkwX8_ring_11 ++ []
def dkwX8_ring_10 : List UInt8 := [79, 42, 180, 0, 7, 42, 27, 182, 0, 180, 21, 7, 96, 21, 8, 79, 132, 7, 1, 167, 255, 139, 21, 5]
abbrev dktX8_ring_10 : List UInt8 := dkwX8_ring_10 ++ dktX8_ring_11
def dkwX8_ring_9 : List UInt8 := [180, 0, 7, 42, 28, 182, 0, 180, 21, 7, 96, 42, 180, 0, 7, 42, 27, 182, 0, 180, 21, 7, 96, 46]
abbrev dktX8_ring_9 : List UInt8 := dkwX8_ring_9 ++ dktX8_ring_10
def dkwX8_ring_8 : List UInt8 := [46, 167, 0, 16, 42, 180, 0, 7, 42, 28, 182, 0, 180, 21, 7, 96, 46, 79, 29, 155, 0, 29, 42]
abbrev dktX8_ring_8 : List UInt8 := dkwX8_ring_8 ++ dktX8_ring_9
def dkwX8_ring_7 : List UInt8 := [21, 6, 182, 0, 180, 21, 7, 96, 29, 156, 0, 19, 42, 180, 0, 7, 42, 27, 182, 0, 180, 21, 7, 96]
abbrev dktX8_ring_7 : List UInt8 := dkwX8_ring_7 ++ dktX8_ring_8
def dkwX8_ring_6 : List UInt8 := [162, 0, 117, 42, 180, 0, 7, 42, 21, 6, 182, 0, 180, 21, 7, 96, 46, 54, 8, 42, 180, 0, 7, 42]
abbrev dktX8_ring_6 : List UInt8 := dkwX8_ring_6 ++ dktX8_ring_7
def dkwX8_ring_5 : List UInt8 := [154, 0, 6, 16, 252, 172, 29, 156, 0, 7, 28, 167, 0, 4, 29, 54, 6, 3, 54, 7, 21, 7, 7]
abbrev dktX8_ring_5 : List UInt8 := dkwX8_ring_5 ++ dktX8_ring_6
def dkwX8_ring_4 : List UInt8 := [29, 104, 6, 96, 46, 154, 0, 6, 16, 254, 172, 42, 27, 28, 29, 182, 0, 186, 54, 5, 21, 5]
abbrev dktX8_ring_4 : List UInt8 := dkwX8_ring_4 ++ dktX8_ring_5
def dkwX8_ring_3 : List UInt8 := [42, 180, 0, 7, 16, 40, 28, 104, 6, 96, 46, 153, 0, 21, 29, 155, 0, 20, 42, 180, 0, 7, 16, 40]
abbrev dktX8_ring_3 : List UInt8 := dkwX8_ring_3 ++ dktX8_ring_4
def dkwX8_ring_2 : List UInt8 := [153, 0, 8, 21, 4, 153, 0, 5, 2, 172, 42, 180, 0, 7, 16, 40, 27, 104, 6, 96, 46, 153, 0, 35]
abbrev dktX8_ring_2 : List UInt8 := dkwX8_ring_2 ++ dktX8_ring_3
def dkwX8_ring_1 : List UInt8 := [182, 0, 80, 153, 0, 29, 42, 28, 182, 0, 80, 153, 0, 21, 29, 2, 159, 0, 11, 42, 29, 182, 0, 80]
abbrev dktX8_ring_1 : List UInt8 := dkwX8_ring_1 ++ dktX8_ring_2
def dkwX8_ring_0 : List UInt8 := [27, 28, 159, 0, 13, 27, 29, 159, 0, 8, 28, 29, 160, 0, 7, 4, 167, 0, 4, 3, 54, 4, 42, 27]
abbrev dktX8_ring_0 : List UInt8 := dkwX8_ring_0 ++ dktX8_ring_1
theorem dksX8_ring_0 : cX8_ring.data.toList.drop 0 = dktX8_ring_0 := by decide +kernel
theorem dksX8_ring_1 : cX8_ring.data.toList.drop 24 = dktX8_ring_1 := dk_seg dksX8_ring_0 24 rfl rfl
theorem dksX8_ring_2 : cX8_ring.data.toList.drop 48 = dktX8_ring_2 := dk_seg dksX8_ring_1 24 rfl rfl
theorem dksX8_ring_3 : cX8_ring.data.toList.drop 72 = dktX8_ring_3 := dk_seg dksX8_ring_2 24 rfl rfl
theorem dksX8_ring_4 : cX8_ring.data.toList.drop 96 = dktX8_ring_4 := dk_seg dksX8_ring_3 24 rfl rfl
theorem dksX8_ring_5 : cX8_ring.data.toList.drop 118 = dktX8_ring_5 := dk_seg dksX8_ring_4 22 rfl rfl
theorem dksX8_ring_6 : cX8_ring.data.toList.drop 141 = dktX8_ring_6 := dk_seg dksX8_ring_5 23 rfl rfl
theorem dksX8_ring_7 : cX8_ring.data.toList.drop 165 = dktX8_ring_7 := dk_seg dksX8_ring_6 24 rfl rfl
theorem dksX8_ring_8 : cX8_ring.data.toList.drop 189 = dktX8_ring_8 := dk_seg dksX8_ring_7 24 rfl rfl
theorem dksX8_ring_9 : cX8_ring.data.toList.drop 212 = dktX8_ring_9 := dk_seg dksX8_ring_8 23 rfl rfl
theorem dksX8_ring_10 : cX8_ring.data.toList.drop 236 = dktX8_ring_10 := dk_seg dksX8_ring_9 24 rfl rfl
theorem dksX8_ring_11 : cX8_ring.data.toList.drop 260 = dktX8_ring_11 := dk_seg dksX8_ring_10 24 rfl rfl
theorem dX8_ring_0 : decode cX8_ring 0 = .ok (.iload_n 1, 1) := dk_27 (dk_at dksX8_ring_0 0 rfl rfl)
theorem dX8_ring_1 : decode cX8_ring 1 = .ok (.iload_n 2, 1) := dk_28 (dk_at dksX8_ring_0 1 rfl rfl)
theorem dX8_ring_2 : decode cX8_ring 2 = .ok (.if_icmp .eq 13, 3) := dk_159 0 13 (dk_at dksX8_ring_0 2 rfl rfl)
theorem dX8_ring_5 : decode cX8_ring 5 = .ok (.iload_n 1, 1) := dk_27 (dk_at dksX8_ring_0 5 rfl rfl)
theorem dX8_ring_6 : decode cX8_ring 6 = .ok (.iload_n 3, 1) := dk_29 (dk_at dksX8_ring_0 6 rfl rfl)
theorem dX8_ring_7 : decode cX8_ring 7 = .ok (.if_icmp .eq 8, 3) := dk_159 0 8 (dk_at dksX8_ring_0 7 rfl rfl)
theorem dX8_ring_10 : decode cX8_ring 10 = .ok (.iload_n 2, 1) := dk_28 (dk_at dksX8_ring_0 10 rfl rfl)
theorem dX8_ring_11 : decode cX8_ring 11 = .ok (.iload_n 3, 1) := dk_29 (dk_at dksX8_ring_0 11 rfl rfl)
theorem dX8_ring_12 : decode cX8_ring 12 = .ok (.if_icmp .ne 7, 3) := dk_160 0 7 (dk_at dksX8_ring_0 12 rfl rfl)
theorem dX8_ring_15 : decode cX8_ring 15 = .ok (.iconst 1, 1) := dk_4 (dk_at dksX8_ring_0 15 rfl rfl)
theorem dX8_ring_16 : decode cX8_ring 16 = .ok (.goto 4, 3) := dk_167 0 4 (dk_at dksX8_ring_0 16 rfl rfl)
theorem dX8_ring_19 : decode cX8_ring 19 = .ok (.iconst 0, 1) := dk_3 (dk_at dksX8_ring_0 19 rfl rfl)
theorem dX8_ring_20 : decode cX8_ring 20 = .ok (.istore 4, 2) := dk_54 4 (dk_at dksX8_ring_0 20 rfl rfl)
theorem dX8_ring_22 : decode cX8_ring 22 = .ok (.aload_n 0, 1) := dk_42 (dk_at dksX8_ring_0 22 rfl rfl)
theorem dX8_ring_23 : decode cX8_ring 23 = .ok (.iload_n 1, 1) := dk_27 (dk_at dksX8_ring_0 23 rfl rfl)
theorem dX8_ring_24 : decode cX8_ring 24 = .ok (.invokevirtual 80, 3) := dk_182 0 80 (dk_at dksX8_ring_1 0 rfl rfl)
theorem dX8_ring_27 : decode cX8_ring 27 = .ok (.ifCond .eq 29, 3) := dk_153 0 29 (dk_at dksX8_ring_1 3 rfl rfl)
theorem dX8_ring_30 : decode cX8_ring 30 = .ok (.aload_n 0, 1) := dk_42 (dk_at dksX8_ring_1 6 rfl rfl)
theorem dX8_ring_31 : decode cX8_ring 31 = .ok (.iload_n 2, 1) := dk_28 (dk_at dksX8_ring_1 7 rfl rfl)
theorem dX8_ring_32 : decode cX8_ring 32 = .ok (.invokevirtual 80, 3) := dk_182 0 80 (dk_at dksX8_ring_1 8 rfl rfl)
theorem dX8_ring_35 : decode cX8_ring 35 = .ok (.ifCond .eq 21, 3) := dk_153 0 21 (dk_at dksX8_ring_1 11 rfl rfl)
theorem dX8_ring_38 : decode cX8_ring 38 = .ok (.iload_n 3, 1) := dk_29 (dk_at dksX8_ring_1 14 rfl rfl)
theorem dX8_ring_39 : decode cX8_ring 39 = .ok (.iconst (-1), 1) := dk_2 (dk_at dksX8_ring_1 15 rfl rfl)
theorem dX8_ring_40 : decode cX8_ring 40 = .ok (.if_icmp .eq 11, 3) := dk_159 0 11 (dk_at dksX8_ring_1 16 rfl rfl)
theorem dX8_ring_43 : decode cX8_ring 43 = .ok (.aload_n 0, 1) := dk_42 (dk_at dksX8_ring_1 19 rfl rfl)
theorem dX8_ring_44 : decode cX8_ring 44 = .ok (.iload_n 3, 1) := dk_29 (dk_at dksX8_ring_1 20 rfl rfl)
theorem dX8_ring_45 : decode cX8_ring 45 = .ok (.invokevirtual 80, 3) := dk_182 0 80 (dk_at dksX8_ring_1 21 rfl rfl)
theorem dX8_ring_48 : decode cX8_ring 48 = .ok (.ifCond .eq 8, 3) := dk_153 0 8 (dk_at dksX8_ring_2 0 rfl rfl)
theorem dX8_ring_51 : decode cX8_ring 51 = .ok (.iload 4, 2) := dk_21 4 (dk_at dksX8_ring_2 3 rfl rfl)
theorem dX8_ring_53 : decode cX8_ring 53 = .ok (.ifCond .eq 5, 3) := dk_153 0 5 (dk_at dksX8_ring_2 5 rfl rfl)
theorem dX8_ring_56 : decode cX8_ring 56 = .ok (.iconst (-1), 1) := dk_2 (dk_at dksX8_ring_2 8 rfl rfl)
theorem dX8_ring_57 : decode cX8_ring 57 = .ok (.ireturn, 1) := dk_172 (dk_at dksX8_ring_2 9 rfl rfl)
theorem dX8_ring_58 : decode cX8_ring 58 = .ok (.aload_n 0, 1) := dk_42 (dk_at dksX8_ring_2 10 rfl rfl)
theorem dX8_ring_59 : decode cX8_ring 59 = .ok (.getfield 7, 3) := dk_180 0 7 (dk_at dksX8_ring_2 11 rfl rfl)
theorem dX8_ring_62 : decode cX8_ring 62 = .ok (.bipush 40, 2) := dk_16 40 (dk_at dksX8_ring_2 14 rfl rfl)
theorem dX8_ring_64 : decode cX8_ring 64 = .ok (.iload_n 1, 1) := dk_27 (dk_at dksX8_ring_2 16 rfl rfl)
theorem dX8_ring_65 : decode cX8_ring 65 = .ok (.imul, 1) := dk_104 (dk_at dksX8_ring_2 17 rfl rfl)
theorem dX8_ring_66 : decode cX8_ring 66 = .ok (.iconst 3, 1) := dk_6 (dk_at dksX8_ring_2 18 rfl rfl)
theorem dX8_ring_67 : decode cX8_ring 67 = .ok (.iadd, 1) := dk_96 (dk_at dksX8_ring_2 19 rfl rfl)
theorem dX8_ring_68 : decode cX8_ring 68 = .ok (.iaload, 1) := dk_46 (dk_at dksX8_ring_2 20 rfl rfl)
theorem dX8_ring_69 : decode cX8_ring 69 = .ok (.ifCond .eq 35, 3) := dk_153 0 35 (dk_at dksX8_ring_2 21 rfl rfl)
theorem dX8_ring_72 : decode cX8_ring 72 = .ok (.aload_n 0, 1) := dk_42 (dk_at dksX8_ring_3 0 rfl rfl)
theorem dX8_ring_73 : decode cX8_ring 73 = .ok (.getfield 7, 3) := dk_180 0 7 (dk_at dksX8_ring_3 1 rfl rfl)
theorem dX8_ring_76 : decode cX8_ring 76 = .ok (.bipush 40, 2) := dk_16 40 (dk_at dksX8_ring_3 4 rfl rfl)
theorem dX8_ring_78 : decode cX8_ring 78 = .ok (.iload_n 2, 1) := dk_28 (dk_at dksX8_ring_3 6 rfl rfl)
theorem dX8_ring_79 : decode cX8_ring 79 = .ok (.imul, 1) := dk_104 (dk_at dksX8_ring_3 7 rfl rfl)
theorem dX8_ring_80 : decode cX8_ring 80 = .ok (.iconst 3, 1) := dk_6 (dk_at dksX8_ring_3 8 rfl rfl)
theorem dX8_ring_81 : decode cX8_ring 81 = .ok (.iadd, 1) := dk_96 (dk_at dksX8_ring_3 9 rfl rfl)
theorem dX8_ring_82 : decode cX8_ring 82 = .ok (.iaload, 1) := dk_46 (dk_at dksX8_ring_3 10 rfl rfl)
theorem dX8_ring_83 : decode cX8_ring 83 = .ok (.ifCond .eq 21, 3) := dk_153 0 21 (dk_at dksX8_ring_3 11 rfl rfl)
theorem dX8_ring_86 : decode cX8_ring 86 = .ok (.iload_n 3, 1) := dk_29 (dk_at dksX8_ring_3 14 rfl rfl)
theorem dX8_ring_87 : decode cX8_ring 87 = .ok (.ifCond .lt 20, 3) := dk_155 0 20 (dk_at dksX8_ring_3 15 rfl rfl)
theorem dX8_ring_90 : decode cX8_ring 90 = .ok (.aload_n 0, 1) := dk_42 (dk_at dksX8_ring_3 18 rfl rfl)
theorem dX8_ring_91 : decode cX8_ring 91 = .ok (.getfield 7, 3) := dk_180 0 7 (dk_at dksX8_ring_3 19 rfl rfl)
theorem dX8_ring_94 : decode cX8_ring 94 = .ok (.bipush 40, 2) := dk_16 40 (dk_at dksX8_ring_3 22 rfl rfl)
theorem dX8_ring_96 : decode cX8_ring 96 = .ok (.iload_n 3, 1) := dk_29 (dk_at dksX8_ring_4 0 rfl rfl)
theorem dX8_ring_97 : decode cX8_ring 97 = .ok (.imul, 1) := dk_104 (dk_at dksX8_ring_4 1 rfl rfl)
theorem dX8_ring_98 : decode cX8_ring 98 = .ok (.iconst 3, 1) := dk_6 (dk_at dksX8_ring_4 2 rfl rfl)
theorem dX8_ring_99 : decode cX8_ring 99 = .ok (.iadd, 1) := dk_96 (dk_at dksX8_ring_4 3 rfl rfl)
theorem dX8_ring_100 : decode cX8_ring 100 = .ok (.iaload, 1) := dk_46 (dk_at dksX8_ring_4 4 rfl rfl)
theorem dX8_ring_101 : decode cX8_ring 101 = .ok (.ifCond .ne 6, 3) := dk_154 0 6 (dk_at dksX8_ring_4 5 rfl rfl)
theorem dX8_ring_104 : decode cX8_ring 104 = .ok (.bipush (-2), 2) := dk_16 254 (dk_at dksX8_ring_4 8 rfl rfl)
theorem dX8_ring_106 : decode cX8_ring 106 = .ok (.ireturn, 1) := dk_172 (dk_at dksX8_ring_4 10 rfl rfl)
theorem dX8_ring_107 : decode cX8_ring 107 = .ok (.aload_n 0, 1) := dk_42 (dk_at dksX8_ring_4 11 rfl rfl)
theorem dX8_ring_108 : decode cX8_ring 108 = .ok (.iload_n 1, 1) := dk_27 (dk_at dksX8_ring_4 12 rfl rfl)
theorem dX8_ring_109 : decode cX8_ring 109 = .ok (.iload_n 2, 1) := dk_28 (dk_at dksX8_ring_4 13 rfl rfl)
theorem dX8_ring_110 : decode cX8_ring 110 = .ok (.iload_n 3, 1) := dk_29 (dk_at dksX8_ring_4 14 rfl rfl)
theorem dX8_ring_111 : decode cX8_ring 111 = .ok (.invokevirtual 186, 3) := dk_182 0 186 (dk_at dksX8_ring_4 15 rfl rfl)
theorem dX8_ring_114 : decode cX8_ring 114 = .ok (.istore 5, 2) := dk_54 5 (dk_at dksX8_ring_4 18 rfl rfl)
theorem dX8_ring_116 : decode cX8_ring 116 = .ok (.iload 5, 2) := dk_21 5 (dk_at dksX8_ring_4 20 rfl rfl)
theorem dX8_ring_118 : decode cX8_ring 118 = .ok (.ifCond .ne 6, 3) := dk_154 0 6 (dk_at dksX8_ring_5 0 rfl rfl)
theorem dX8_ring_121 : decode cX8_ring 121 = .ok (.bipush (-4), 2) := dk_16 252 (dk_at dksX8_ring_5 3 rfl rfl)
theorem dX8_ring_123 : decode cX8_ring 123 = .ok (.ireturn, 1) := dk_172 (dk_at dksX8_ring_5 5 rfl rfl)
theorem dX8_ring_124 : decode cX8_ring 124 = .ok (.iload_n 3, 1) := dk_29 (dk_at dksX8_ring_5 6 rfl rfl)
theorem dX8_ring_125 : decode cX8_ring 125 = .ok (.ifCond .ge 7, 3) := dk_156 0 7 (dk_at dksX8_ring_5 7 rfl rfl)
theorem dX8_ring_128 : decode cX8_ring 128 = .ok (.iload_n 2, 1) := dk_28 (dk_at dksX8_ring_5 10 rfl rfl)
theorem dX8_ring_129 : decode cX8_ring 129 = .ok (.goto 4, 3) := dk_167 0 4 (dk_at dksX8_ring_5 11 rfl rfl)
theorem dX8_ring_132 : decode cX8_ring 132 = .ok (.iload_n 3, 1) := dk_29 (dk_at dksX8_ring_5 14 rfl rfl)
theorem dX8_ring_133 : decode cX8_ring 133 = .ok (.istore 6, 2) := dk_54 6 (dk_at dksX8_ring_5 15 rfl rfl)
theorem dX8_ring_135 : decode cX8_ring 135 = .ok (.iconst 0, 1) := dk_3 (dk_at dksX8_ring_5 17 rfl rfl)
theorem dX8_ring_136 : decode cX8_ring 136 = .ok (.istore 7, 2) := dk_54 7 (dk_at dksX8_ring_5 18 rfl rfl)
theorem dX8_ring_138 : decode cX8_ring 138 = .ok (.iload 7, 2) := dk_21 7 (dk_at dksX8_ring_5 20 rfl rfl)
theorem dX8_ring_140 : decode cX8_ring 140 = .ok (.iconst 4, 1) := dk_7 (dk_at dksX8_ring_5 22 rfl rfl)
theorem dX8_ring_141 : decode cX8_ring 141 = .ok (.if_icmp .ge 117, 3) := dk_162 0 117 (dk_at dksX8_ring_6 0 rfl rfl)
theorem dX8_ring_144 : decode cX8_ring 144 = .ok (.aload_n 0, 1) := dk_42 (dk_at dksX8_ring_6 3 rfl rfl)
theorem dX8_ring_145 : decode cX8_ring 145 = .ok (.getfield 7, 3) := dk_180 0 7 (dk_at dksX8_ring_6 4 rfl rfl)
theorem dX8_ring_148 : decode cX8_ring 148 = .ok (.aload_n 0, 1) := dk_42 (dk_at dksX8_ring_6 7 rfl rfl)
theorem dX8_ring_149 : decode cX8_ring 149 = .ok (.iload 6, 2) := dk_21 6 (dk_at dksX8_ring_6 8 rfl rfl)
theorem dX8_ring_151 : decode cX8_ring 151 = .ok (.invokevirtual 180, 3) := dk_182 0 180 (dk_at dksX8_ring_6 10 rfl rfl)
theorem dX8_ring_154 : decode cX8_ring 154 = .ok (.iload 7, 2) := dk_21 7 (dk_at dksX8_ring_6 13 rfl rfl)
theorem dX8_ring_156 : decode cX8_ring 156 = .ok (.iadd, 1) := dk_96 (dk_at dksX8_ring_6 15 rfl rfl)
theorem dX8_ring_157 : decode cX8_ring 157 = .ok (.iaload, 1) := dk_46 (dk_at dksX8_ring_6 16 rfl rfl)
theorem dX8_ring_158 : decode cX8_ring 158 = .ok (.istore 8, 2) := dk_54 8 (dk_at dksX8_ring_6 17 rfl rfl)
theorem dX8_ring_160 : decode cX8_ring 160 = .ok (.aload_n 0, 1) := dk_42 (dk_at dksX8_ring_6 19 rfl rfl)
theorem dX8_ring_161 : decode cX8_ring 161 = .ok (.getfield 7, 3) := dk_180 0 7 (dk_at dksX8_ring_6 20 rfl rfl)
theorem dX8_ring_164 : decode cX8_ring 164 = .ok (.aload_n 0, 1) := dk_42 (dk_at dksX8_ring_6 23 rfl rfl)
theorem dX8_ring_165 : decode cX8_ring 165 = .ok (.iload 6, 2) := dk_21 6 (dk_at dksX8_ring_7 0 rfl rfl)
theorem dX8_ring_167 : decode cX8_ring 167 = .ok (.invokevirtual 180, 3) := dk_182 0 180 (dk_at dksX8_ring_7 2 rfl rfl)
theorem dX8_ring_170 : decode cX8_ring 170 = .ok (.iload 7, 2) := dk_21 7 (dk_at dksX8_ring_7 5 rfl rfl)
theorem dX8_ring_172 : decode cX8_ring 172 = .ok (.iadd, 1) := dk_96 (dk_at dksX8_ring_7 7 rfl rfl)
theorem dX8_ring_173 : decode cX8_ring 173 = .ok (.iload_n 3, 1) := dk_29 (dk_at dksX8_ring_7 8 rfl rfl)
theorem dX8_ring_174 : decode cX8_ring 174 = .ok (.ifCond .ge 19, 3) := dk_156 0 19 (dk_at dksX8_ring_7 9 rfl rfl)
theorem dX8_ring_177 : decode cX8_ring 177 = .ok (.aload_n 0, 1) := dk_42 (dk_at dksX8_ring_7 12 rfl rfl)
theorem dX8_ring_178 : decode cX8_ring 178 = .ok (.getfield 7, 3) := dk_180 0 7 (dk_at dksX8_ring_7 13 rfl rfl)
theorem dX8_ring_181 : decode cX8_ring 181 = .ok (.aload_n 0, 1) := dk_42 (dk_at dksX8_ring_7 16 rfl rfl)
theorem dX8_ring_182 : decode cX8_ring 182 = .ok (.iload_n 1, 1) := dk_27 (dk_at dksX8_ring_7 17 rfl rfl)
theorem dX8_ring_183 : decode cX8_ring 183 = .ok (.invokevirtual 180, 3) := dk_182 0 180 (dk_at dksX8_ring_7 18 rfl rfl)
theorem dX8_ring_186 : decode cX8_ring 186 = .ok (.iload 7, 2) := dk_21 7 (dk_at dksX8_ring_7 21 rfl rfl)
theorem dX8_ring_188 : decode cX8_ring 188 = .ok (.iadd, 1) := dk_96 (dk_at dksX8_ring_7 23 rfl rfl)
theorem dX8_ring_189 : decode cX8_ring 189 = .ok (.iaload, 1) := dk_46 (dk_at dksX8_ring_8 0 rfl rfl)
theorem dX8_ring_190 : decode cX8_ring 190 = .ok (.goto 16, 3) := dk_167 0 16 (dk_at dksX8_ring_8 1 rfl rfl)
theorem dX8_ring_193 : decode cX8_ring 193 = .ok (.aload_n 0, 1) := dk_42 (dk_at dksX8_ring_8 4 rfl rfl)
theorem dX8_ring_194 : decode cX8_ring 194 = .ok (.getfield 7, 3) := dk_180 0 7 (dk_at dksX8_ring_8 5 rfl rfl)
theorem dX8_ring_197 : decode cX8_ring 197 = .ok (.aload_n 0, 1) := dk_42 (dk_at dksX8_ring_8 8 rfl rfl)
theorem dX8_ring_198 : decode cX8_ring 198 = .ok (.iload_n 2, 1) := dk_28 (dk_at dksX8_ring_8 9 rfl rfl)
theorem dX8_ring_199 : decode cX8_ring 199 = .ok (.invokevirtual 180, 3) := dk_182 0 180 (dk_at dksX8_ring_8 10 rfl rfl)
theorem dX8_ring_202 : decode cX8_ring 202 = .ok (.iload 7, 2) := dk_21 7 (dk_at dksX8_ring_8 13 rfl rfl)
theorem dX8_ring_204 : decode cX8_ring 204 = .ok (.iadd, 1) := dk_96 (dk_at dksX8_ring_8 15 rfl rfl)
theorem dX8_ring_205 : decode cX8_ring 205 = .ok (.iaload, 1) := dk_46 (dk_at dksX8_ring_8 16 rfl rfl)
theorem dX8_ring_206 : decode cX8_ring 206 = .ok (.iastore, 1) := dk_79 (dk_at dksX8_ring_8 17 rfl rfl)
theorem dX8_ring_207 : decode cX8_ring 207 = .ok (.iload_n 3, 1) := dk_29 (dk_at dksX8_ring_8 18 rfl rfl)
theorem dX8_ring_208 : decode cX8_ring 208 = .ok (.ifCond .lt 29, 3) := dk_155 0 29 (dk_at dksX8_ring_8 19 rfl rfl)
theorem dX8_ring_211 : decode cX8_ring 211 = .ok (.aload_n 0, 1) := dk_42 (dk_at dksX8_ring_8 22 rfl rfl)
theorem dX8_ring_212 : decode cX8_ring 212 = .ok (.getfield 7, 3) := dk_180 0 7 (dk_at dksX8_ring_9 0 rfl rfl)
theorem dX8_ring_215 : decode cX8_ring 215 = .ok (.aload_n 0, 1) := dk_42 (dk_at dksX8_ring_9 3 rfl rfl)
theorem dX8_ring_216 : decode cX8_ring 216 = .ok (.iload_n 2, 1) := dk_28 (dk_at dksX8_ring_9 4 rfl rfl)
theorem dX8_ring_217 : decode cX8_ring 217 = .ok (.invokevirtual 180, 3) := dk_182 0 180 (dk_at dksX8_ring_9 5 rfl rfl)
theorem dX8_ring_220 : decode cX8_ring 220 = .ok (.iload 7, 2) := dk_21 7 (dk_at dksX8_ring_9 8 rfl rfl)
theorem dX8_ring_222 : decode cX8_ring 222 = .ok (.iadd, 1) := dk_96 (dk_at dksX8_ring_9 10 rfl rfl)
theorem dX8_ring_223 : decode cX8_ring 223 = .ok (.aload_n 0, 1) := dk_42 (dk_at dksX8_ring_9 11 rfl rfl)
theorem dX8_ring_224 : decode cX8_ring 224 = .ok (.getfield 7, 3) := dk_180 0 7 (dk_at dksX8_ring_9 12 rfl rfl)
theorem dX8_ring_227 : decode cX8_ring 227 = .ok (.aload_n 0, 1) := dk_42 (dk_at dksX8_ring_9 15 rfl rfl)
theorem dX8_ring_228 : decode cX8_ring 228 = .ok (.iload_n 1, 1) := dk_27 (dk_at dksX8_ring_9 16 rfl rfl)
theorem dX8_ring_229 : decode cX8_ring 229 = .ok (.invokevirtual 180, 3) := dk_182 0 180 (dk_at dksX8_ring_9 17 rfl rfl)
theorem dX8_ring_232 : decode cX8_ring 232 = .ok (.iload 7, 2) := dk_21 7 (dk_at dksX8_ring_9 20 rfl rfl)
theorem dX8_ring_234 : decode cX8_ring 234 = .ok (.iadd, 1) := dk_96 (dk_at dksX8_ring_9 22 rfl rfl)
theorem dX8_ring_235 : decode cX8_ring 235 = .ok (.iaload, 1) := dk_46 (dk_at dksX8_ring_9 23 rfl rfl)
theorem dX8_ring_236 : decode cX8_ring 236 = .ok (.iastore, 1) := dk_79 (dk_at dksX8_ring_10 0 rfl rfl)
theorem dX8_ring_237 : decode cX8_ring 237 = .ok (.aload_n 0, 1) := dk_42 (dk_at dksX8_ring_10 1 rfl rfl)
theorem dX8_ring_238 : decode cX8_ring 238 = .ok (.getfield 7, 3) := dk_180 0 7 (dk_at dksX8_ring_10 2 rfl rfl)
theorem dX8_ring_241 : decode cX8_ring 241 = .ok (.aload_n 0, 1) := dk_42 (dk_at dksX8_ring_10 5 rfl rfl)
theorem dX8_ring_242 : decode cX8_ring 242 = .ok (.iload_n 1, 1) := dk_27 (dk_at dksX8_ring_10 6 rfl rfl)
theorem dX8_ring_243 : decode cX8_ring 243 = .ok (.invokevirtual 180, 3) := dk_182 0 180 (dk_at dksX8_ring_10 7 rfl rfl)
theorem dX8_ring_246 : decode cX8_ring 246 = .ok (.iload 7, 2) := dk_21 7 (dk_at dksX8_ring_10 10 rfl rfl)
theorem dX8_ring_248 : decode cX8_ring 248 = .ok (.iadd, 1) := dk_96 (dk_at dksX8_ring_10 12 rfl rfl)
theorem dX8_ring_249 : decode cX8_ring 249 = .ok (.iload 8, 2) := dk_21 8 (dk_at dksX8_ring_10 13 rfl rfl)
theorem dX8_ring_251 : decode cX8_ring 251 = .ok (.iastore, 1) := dk_79 (dk_at dksX8_ring_10 15 rfl rfl)
theorem dX8_ring_252 : decode cX8_ring 252 = .ok (.iinc 7 1, 3) := dk_132 7 1 (dk_at dksX8_ring_10 16 rfl rfl)
theorem dX8_ring_255 : decode cX8_ring 255 = .ok (.goto (-117), 3) := dk_167 255 139 (dk_at dksX8_ring_10 19 rfl rfl)
theorem dX8_ring_258 : decode cX8_ring 258 = .ok (.iload 5, 2) := dk_21 5 (dk_at dksX8_ring_10 22 rfl rfl)
theorem dX8_ring_260 : decode cX8_ring 260 = .ok (.ireturn, 1) := dk_172 (dk_at dksX8_ring_11 0 rfl rfl)
abbrev cX8_saved : ByteArray := prog_10_method_34_code
def yX8_saved : MethodName := ⟨RX8, "saved", "(III)I"⟩
def dkwX8_saved_3 : List UInt8 := [29, 156, 0, 7, 3, 167, 0, 5, 21, 6, 96, 172]
abbrev dktX8_saved_3 : List UInt8 := dkwX8_saved_3 ++ []
def dkwX8_saved_2 : List UInt8 := [161, 0, 15, 21, 6, 4, 161, 0, 9, 21, 7, 4, 162, 0, 7, 3, 167, 0, 19, 21, 5, 21, 7, 96]
abbrev dktX8_saved_2 : List UInt8 := dkwX8_saved_2 ++ dktX8_saved_3
def dkwX8_saved_1 : List UInt8 := [167, 0, 9, 42, 29, 28, 182, 0, 183, 54, 6, 42, 27, 21, 4, 182, 0, 183, 54, 7, 21, 5, 4]
abbrev dktX8_saved_1 : List UInt8 := dkwX8_saved_1 ++ dktX8_saved_2
def dkwX8_saved_0 : List UInt8 := [29, 156, 0, 7, 28, 167, 0, 4, 29, 54, 4, 42, 28, 27, 182, 0, 183, 54, 5, 29, 156, 0, 7, 4]
abbrev dktX8_saved_0 : List UInt8 := dkwX8_saved_0 ++ dktX8_saved_1
theorem dksX8_saved_0 : cX8_saved.data.toList.drop 0 = dktX8_saved_0 := by decide +kernel
theorem dksX8_saved_1 : cX8_saved.data.toList.drop 24 = dktX8_saved_1 := dk_seg dksX8_saved_0 24 rfl rfl
theorem dksX8_saved_2 : cX8_saved.data.toList.drop 47 = dktX8_saved_2 := dk_seg dksX8_saved_1 23 rfl rfl
theorem dksX8_saved_3 : cX8_saved.data.toList.drop 71 = dktX8_saved_3 := dk_seg dksX8_saved_2 24 rfl rfl
theorem dX8_saved_0 : decode cX8_saved 0 = .ok (.iload_n 3, 1) := dk_29 (dk_at dksX8_saved_0 0 rfl rfl)
theorem dX8_saved_1 : decode cX8_saved 1 = .ok (.ifCond .ge 7, 3) := dk_156 0 7 (dk_at dksX8_saved_0 1 rfl rfl)
theorem dX8_saved_4 : decode cX8_saved 4 = .ok (.iload_n 2, 1) := dk_28 (dk_at dksX8_saved_0 4 rfl rfl)
theorem dX8_saved_5 : decode cX8_saved 5 = .ok (.goto 4, 3) := dk_167 0 4 (dk_at dksX8_saved_0 5 rfl rfl)
theorem dX8_saved_8 : decode cX8_saved 8 = .ok (.iload_n 3, 1) := dk_29 (dk_at dksX8_saved_0 8 rfl rfl)
theorem dX8_saved_9 : decode cX8_saved 9 = .ok (.istore 4, 2) := dk_54 4 (dk_at dksX8_saved_0 9 rfl rfl)
theorem dX8_saved_11 : decode cX8_saved 11 = .ok (.aload_n 0, 1) := dk_42 (dk_at dksX8_saved_0 11 rfl rfl)
theorem dX8_saved_12 : decode cX8_saved 12 = .ok (.iload_n 2, 1) := dk_28 (dk_at dksX8_saved_0 12 rfl rfl)
theorem dX8_saved_13 : decode cX8_saved 13 = .ok (.iload_n 1, 1) := dk_27 (dk_at dksX8_saved_0 13 rfl rfl)
theorem dX8_saved_14 : decode cX8_saved 14 = .ok (.invokevirtual 183, 3) := dk_182 0 183 (dk_at dksX8_saved_0 14 rfl rfl)
theorem dX8_saved_17 : decode cX8_saved 17 = .ok (.istore 5, 2) := dk_54 5 (dk_at dksX8_saved_0 17 rfl rfl)
theorem dX8_saved_19 : decode cX8_saved 19 = .ok (.iload_n 3, 1) := dk_29 (dk_at dksX8_saved_0 19 rfl rfl)
theorem dX8_saved_20 : decode cX8_saved 20 = .ok (.ifCond .ge 7, 3) := dk_156 0 7 (dk_at dksX8_saved_0 20 rfl rfl)
theorem dX8_saved_23 : decode cX8_saved 23 = .ok (.iconst 1, 1) := dk_4 (dk_at dksX8_saved_0 23 rfl rfl)
theorem dX8_saved_24 : decode cX8_saved 24 = .ok (.goto 9, 3) := dk_167 0 9 (dk_at dksX8_saved_1 0 rfl rfl)
theorem dX8_saved_27 : decode cX8_saved 27 = .ok (.aload_n 0, 1) := dk_42 (dk_at dksX8_saved_1 3 rfl rfl)
theorem dX8_saved_28 : decode cX8_saved 28 = .ok (.iload_n 3, 1) := dk_29 (dk_at dksX8_saved_1 4 rfl rfl)
theorem dX8_saved_29 : decode cX8_saved 29 = .ok (.iload_n 2, 1) := dk_28 (dk_at dksX8_saved_1 5 rfl rfl)
theorem dX8_saved_30 : decode cX8_saved 30 = .ok (.invokevirtual 183, 3) := dk_182 0 183 (dk_at dksX8_saved_1 6 rfl rfl)
theorem dX8_saved_33 : decode cX8_saved 33 = .ok (.istore 6, 2) := dk_54 6 (dk_at dksX8_saved_1 9 rfl rfl)
theorem dX8_saved_35 : decode cX8_saved 35 = .ok (.aload_n 0, 1) := dk_42 (dk_at dksX8_saved_1 11 rfl rfl)
theorem dX8_saved_36 : decode cX8_saved 36 = .ok (.iload_n 1, 1) := dk_27 (dk_at dksX8_saved_1 12 rfl rfl)
theorem dX8_saved_37 : decode cX8_saved 37 = .ok (.iload 4, 2) := dk_21 4 (dk_at dksX8_saved_1 13 rfl rfl)
theorem dX8_saved_39 : decode cX8_saved 39 = .ok (.invokevirtual 183, 3) := dk_182 0 183 (dk_at dksX8_saved_1 15 rfl rfl)
theorem dX8_saved_42 : decode cX8_saved 42 = .ok (.istore 7, 2) := dk_54 7 (dk_at dksX8_saved_1 18 rfl rfl)
theorem dX8_saved_44 : decode cX8_saved 44 = .ok (.iload 5, 2) := dk_21 5 (dk_at dksX8_saved_1 20 rfl rfl)
theorem dX8_saved_46 : decode cX8_saved 46 = .ok (.iconst 1, 1) := dk_4 (dk_at dksX8_saved_1 22 rfl rfl)
theorem dX8_saved_47 : decode cX8_saved 47 = .ok (.if_icmp .lt 15, 3) := dk_161 0 15 (dk_at dksX8_saved_2 0 rfl rfl)
theorem dX8_saved_50 : decode cX8_saved 50 = .ok (.iload 6, 2) := dk_21 6 (dk_at dksX8_saved_2 3 rfl rfl)
theorem dX8_saved_52 : decode cX8_saved 52 = .ok (.iconst 1, 1) := dk_4 (dk_at dksX8_saved_2 5 rfl rfl)
theorem dX8_saved_53 : decode cX8_saved 53 = .ok (.if_icmp .lt 9, 3) := dk_161 0 9 (dk_at dksX8_saved_2 6 rfl rfl)
theorem dX8_saved_56 : decode cX8_saved 56 = .ok (.iload 7, 2) := dk_21 7 (dk_at dksX8_saved_2 9 rfl rfl)
theorem dX8_saved_58 : decode cX8_saved 58 = .ok (.iconst 1, 1) := dk_4 (dk_at dksX8_saved_2 11 rfl rfl)
theorem dX8_saved_59 : decode cX8_saved 59 = .ok (.if_icmp .ge 7, 3) := dk_162 0 7 (dk_at dksX8_saved_2 12 rfl rfl)
theorem dX8_saved_62 : decode cX8_saved 62 = .ok (.iconst 0, 1) := dk_3 (dk_at dksX8_saved_2 15 rfl rfl)
theorem dX8_saved_63 : decode cX8_saved 63 = .ok (.goto 19, 3) := dk_167 0 19 (dk_at dksX8_saved_2 16 rfl rfl)
theorem dX8_saved_66 : decode cX8_saved 66 = .ok (.iload 5, 2) := dk_21 5 (dk_at dksX8_saved_2 19 rfl rfl)
theorem dX8_saved_68 : decode cX8_saved 68 = .ok (.iload 7, 2) := dk_21 7 (dk_at dksX8_saved_2 21 rfl rfl)
theorem dX8_saved_70 : decode cX8_saved 70 = .ok (.iadd, 1) := dk_96 (dk_at dksX8_saved_2 23 rfl rfl)
theorem dX8_saved_71 : decode cX8_saved 71 = .ok (.iload_n 3, 1) := dk_29 (dk_at dksX8_saved_3 0 rfl rfl)
theorem dX8_saved_72 : decode cX8_saved 72 = .ok (.ifCond .ge 7, 3) := dk_156 0 7 (dk_at dksX8_saved_3 1 rfl rfl)
theorem dX8_saved_75 : decode cX8_saved 75 = .ok (.iconst 0, 1) := dk_3 (dk_at dksX8_saved_3 4 rfl rfl)
theorem dX8_saved_76 : decode cX8_saved 76 = .ok (.goto 5, 3) := dk_167 0 5 (dk_at dksX8_saved_3 5 rfl rfl)
theorem dX8_saved_79 : decode cX8_saved 79 = .ok (.iload 6, 2) := dk_21 6 (dk_at dksX8_saved_3 8 rfl rfl)
theorem dX8_saved_81 : decode cX8_saved 81 = .ok (.iadd, 1) := dk_96 (dk_at dksX8_saved_3 10 rfl rfl)
theorem dX8_saved_82 : decode cX8_saved 82 = .ok (.ireturn, 1) := dk_172 (dk_at dksX8_saved_3 11 rfl rfl)
abbrev cX8_gains : ByteArray := prog_10_method_33_code
def yX8_gains : MethodName := ⟨RX8, "gains", "(II)I"⟩
def dkwX8_gains_1 : List UInt8 := [27, 104, 42, 180, 0, 7, 42, 28, 182, 0, 180, 46, 96, 46, 100, 172]
abbrev dktX8_gains_1 : List UInt8 := dkwX8_gains_1 ++ []
def dkwX8_gains_0 : List UInt8 := [42, 180, 0, 19, 8, 27, 104, 42, 180, 0, 7, 42, 27, 182, 0, 180, 46, 96, 46, 42, 180, 0, 19, 8]
abbrev dktX8_gains_0 : List UInt8 := dkwX8_gains_0 ++ dktX8_gains_1
theorem dksX8_gains_0 : cX8_gains.data.toList.drop 0 = dktX8_gains_0 := by decide +kernel
theorem dksX8_gains_1 : cX8_gains.data.toList.drop 24 = dktX8_gains_1 := dk_seg dksX8_gains_0 24 rfl rfl
theorem dX8_gains_0 : decode cX8_gains 0 = .ok (.aload_n 0, 1) := dk_42 (dk_at dksX8_gains_0 0 rfl rfl)
theorem dX8_gains_1 : decode cX8_gains 1 = .ok (.getfield 19, 3) := dk_180 0 19 (dk_at dksX8_gains_0 1 rfl rfl)
theorem dX8_gains_4 : decode cX8_gains 4 = .ok (.iconst 5, 1) := dk_8 (dk_at dksX8_gains_0 4 rfl rfl)
theorem dX8_gains_5 : decode cX8_gains 5 = .ok (.iload_n 1, 1) := dk_27 (dk_at dksX8_gains_0 5 rfl rfl)
theorem dX8_gains_6 : decode cX8_gains 6 = .ok (.imul, 1) := dk_104 (dk_at dksX8_gains_0 6 rfl rfl)
theorem dX8_gains_7 : decode cX8_gains 7 = .ok (.aload_n 0, 1) := dk_42 (dk_at dksX8_gains_0 7 rfl rfl)
theorem dX8_gains_8 : decode cX8_gains 8 = .ok (.getfield 7, 3) := dk_180 0 7 (dk_at dksX8_gains_0 8 rfl rfl)
theorem dX8_gains_11 : decode cX8_gains 11 = .ok (.aload_n 0, 1) := dk_42 (dk_at dksX8_gains_0 11 rfl rfl)
theorem dX8_gains_12 : decode cX8_gains 12 = .ok (.iload_n 1, 1) := dk_27 (dk_at dksX8_gains_0 12 rfl rfl)
theorem dX8_gains_13 : decode cX8_gains 13 = .ok (.invokevirtual 180, 3) := dk_182 0 180 (dk_at dksX8_gains_0 13 rfl rfl)
theorem dX8_gains_16 : decode cX8_gains 16 = .ok (.iaload, 1) := dk_46 (dk_at dksX8_gains_0 16 rfl rfl)
theorem dX8_gains_17 : decode cX8_gains 17 = .ok (.iadd, 1) := dk_96 (dk_at dksX8_gains_0 17 rfl rfl)
theorem dX8_gains_18 : decode cX8_gains 18 = .ok (.iaload, 1) := dk_46 (dk_at dksX8_gains_0 18 rfl rfl)
theorem dX8_gains_19 : decode cX8_gains 19 = .ok (.aload_n 0, 1) := dk_42 (dk_at dksX8_gains_0 19 rfl rfl)
theorem dX8_gains_20 : decode cX8_gains 20 = .ok (.getfield 19, 3) := dk_180 0 19 (dk_at dksX8_gains_0 20 rfl rfl)
theorem dX8_gains_23 : decode cX8_gains 23 = .ok (.iconst 5, 1) := dk_8 (dk_at dksX8_gains_0 23 rfl rfl)
theorem dX8_gains_24 : decode cX8_gains 24 = .ok (.iload_n 1, 1) := dk_27 (dk_at dksX8_gains_1 0 rfl rfl)
theorem dX8_gains_25 : decode cX8_gains 25 = .ok (.imul, 1) := dk_104 (dk_at dksX8_gains_1 1 rfl rfl)
theorem dX8_gains_26 : decode cX8_gains 26 = .ok (.aload_n 0, 1) := dk_42 (dk_at dksX8_gains_1 2 rfl rfl)
theorem dX8_gains_27 : decode cX8_gains 27 = .ok (.getfield 7, 3) := dk_180 0 7 (dk_at dksX8_gains_1 3 rfl rfl)
theorem dX8_gains_30 : decode cX8_gains 30 = .ok (.aload_n 0, 1) := dk_42 (dk_at dksX8_gains_1 6 rfl rfl)
theorem dX8_gains_31 : decode cX8_gains 31 = .ok (.iload_n 2, 1) := dk_28 (dk_at dksX8_gains_1 7 rfl rfl)
theorem dX8_gains_32 : decode cX8_gains 32 = .ok (.invokevirtual 180, 3) := dk_182 0 180 (dk_at dksX8_gains_1 8 rfl rfl)
theorem dX8_gains_35 : decode cX8_gains 35 = .ok (.iaload, 1) := dk_46 (dk_at dksX8_gains_1 11 rfl rfl)
theorem dX8_gains_36 : decode cX8_gains 36 = .ok (.iadd, 1) := dk_96 (dk_at dksX8_gains_1 12 rfl rfl)
theorem dX8_gains_37 : decode cX8_gains 37 = .ok (.iaload, 1) := dk_46 (dk_at dksX8_gains_1 13 rfl rfl)
theorem dX8_gains_38 : decode cX8_gains 38 = .ok (.isub, 1) := dk_100 (dk_at dksX8_gains_1 14 rfl rfl)
theorem dX8_gains_39 : decode cX8_gains 39 = .ok (.ireturn, 1) := dk_172 (dk_at dksX8_gains_1 15 rfl rfl)
abbrev cX8_outer : ByteArray := prog_10_method_32_code
def yX8_outer : MethodName := ⟨RX8, "outer", "(I)I"⟩
def dkwX8_outer_0 : List UInt8 := [16, 40, 27, 104, 16, 8, 96, 7, 42, 180, 0, 7, 16, 40, 27, 104, 6, 96, 46, 4, 100, 104, 96, 172]
abbrev dktX8_outer_0 : List UInt8 := dkwX8_outer_0 ++ []
theorem dksX8_outer_0 : cX8_outer.data.toList.drop 0 = dktX8_outer_0 := by decide +kernel
theorem dX8_outer_0 : decode cX8_outer 0 = .ok (.bipush 40, 2) := dk_16 40 (dk_at dksX8_outer_0 0 rfl rfl)
theorem dX8_outer_2 : decode cX8_outer 2 = .ok (.iload_n 1, 1) := dk_27 (dk_at dksX8_outer_0 2 rfl rfl)
theorem dX8_outer_3 : decode cX8_outer 3 = .ok (.imul, 1) := dk_104 (dk_at dksX8_outer_0 3 rfl rfl)
theorem dX8_outer_4 : decode cX8_outer 4 = .ok (.bipush 8, 2) := dk_16 8 (dk_at dksX8_outer_0 4 rfl rfl)
theorem dX8_outer_6 : decode cX8_outer 6 = .ok (.iadd, 1) := dk_96 (dk_at dksX8_outer_0 6 rfl rfl)
theorem dX8_outer_7 : decode cX8_outer 7 = .ok (.iconst 4, 1) := dk_7 (dk_at dksX8_outer_0 7 rfl rfl)
theorem dX8_outer_8 : decode cX8_outer 8 = .ok (.aload_n 0, 1) := dk_42 (dk_at dksX8_outer_0 8 rfl rfl)
theorem dX8_outer_9 : decode cX8_outer 9 = .ok (.getfield 7, 3) := dk_180 0 7 (dk_at dksX8_outer_0 9 rfl rfl)
theorem dX8_outer_12 : decode cX8_outer 12 = .ok (.bipush 40, 2) := dk_16 40 (dk_at dksX8_outer_0 12 rfl rfl)
theorem dX8_outer_14 : decode cX8_outer 14 = .ok (.iload_n 1, 1) := dk_27 (dk_at dksX8_outer_0 14 rfl rfl)
theorem dX8_outer_15 : decode cX8_outer 15 = .ok (.imul, 1) := dk_104 (dk_at dksX8_outer_0 15 rfl rfl)
theorem dX8_outer_16 : decode cX8_outer 16 = .ok (.iconst 3, 1) := dk_6 (dk_at dksX8_outer_0 16 rfl rfl)
theorem dX8_outer_17 : decode cX8_outer 17 = .ok (.iadd, 1) := dk_96 (dk_at dksX8_outer_0 17 rfl rfl)
theorem dX8_outer_18 : decode cX8_outer 18 = .ok (.iaload, 1) := dk_46 (dk_at dksX8_outer_0 18 rfl rfl)
theorem dX8_outer_19 : decode cX8_outer 19 = .ok (.iconst 1, 1) := dk_4 (dk_at dksX8_outer_0 19 rfl rfl)
theorem dX8_outer_20 : decode cX8_outer 20 = .ok (.isub, 1) := dk_100 (dk_at dksX8_outer_0 20 rfl rfl)
theorem dX8_outer_21 : decode cX8_outer 21 = .ok (.imul, 1) := dk_104 (dk_at dksX8_outer_0 21 rfl rfl)
theorem dX8_outer_22 : decode cX8_outer 22 = .ok (.iadd, 1) := dk_96 (dk_at dksX8_outer_0 22 rfl rfl)
theorem dX8_outer_23 : decode cX8_outer 23 = .ok (.ireturn, 1) := dk_172 (dk_at dksX8_outer_0 23 rfl rfl)
abbrev cX8_rings : ByteArray := prog_10_method_36_code
def yX8_rings : MethodName := ⟨RX8, "rings", "(I)I"⟩
def dkwX8_rings_15 : List UInt8 := [160, 0, 12, 21, 4, 8, 108, 8, 112, 167, 0, 7, 21, 4, 8, 112, 172]
abbrev dktX8_rings_15 : List UInt8 := dkwX8_rings_15 ++ []
def dkwX8_rings_14 : List UInt8 := [112, 167, 0, 38, 16, 252, 167, 0, 33, 27, 154, 0, 11, 21, 4, 16, 25, 108, 167, 0, 21, 27, 4]
abbrev dktX8_rings_14 : List UInt8 := dkwX8_rings_14 ++ dktX8_rings_15
def dkwX8_rings_13 : List UInt8 := [16, 25, 162, 0, 31, 27, 154, 0, 10, 21, 4, 8, 108, 167, 0, 50, 27, 4, 160, 0, 10, 21, 4, 8]
abbrev dktX8_rings_13 : List UInt8 := dkwX8_rings_13 ++ dktX8_rings_14
def dkwX8_rings_12 : List UInt8 := [27, 2, 160, 0, 5, 28, 172, 29, 16, 25, 162, 0, 7, 29, 167, 0, 7, 29, 16, 25, 100, 54, 4, 29]
abbrev dktX8_rings_12 : List UInt8 := dkwX8_rings_12 ++ dktX8_rings_13
def dkwX8_rings_11 : List UInt8 := [28, 164, 0, 8, 21, 9, 167, 0, 4, 28, 61, 132, 4, 1, 167, 255, 7, 29, 156, 0, 6, 16, 252, 172]
abbrev dktX8_rings_11 : List UInt8 := dkwX8_rings_11 ++ dktX8_rings_12
def dkwX8_rings_10 : List UInt8 := [182, 0, 186, 167, 0, 4, 3, 54, 9, 21, 9, 28, 164, 0, 8, 21, 4, 167, 0, 4, 29, 62, 21, 9]
abbrev dktX8_rings_10 : List UInt8 := dkwX8_rings_10 ++ dktX8_rings_11
def dkwX8_rings_9 : List UInt8 := [158, 0, 7, 4, 167, 0, 4, 3, 54, 8, 21, 8, 153, 0, 16, 42, 21, 5, 21, 6, 21, 7]
abbrev dktX8_rings_9 : List UInt8 := dkwX8_rings_9 ++ dktX8_rings_10
def dkwX8_rings_8 : List UInt8 := [6, 96, 46, 158, 0, 27, 21, 7, 155, 0, 18, 42, 180, 0, 7, 16, 40, 21, 7, 104, 6, 96, 46]
abbrev dktX8_rings_8 : List UInt8 := dkwX8_rings_8 ++ dktX8_rings_9
def dkwX8_rings_7 : List UInt8 := [42, 180, 0, 7, 16, 40, 21, 5, 104, 6, 96, 46, 158, 0, 42, 42, 180, 0, 7, 16, 40, 21, 6, 104]
abbrev dktX8_rings_7 : List UInt8 := dkwX8_rings_7 ++ dktX8_rings_8
def dkwX8_rings_6 : List UInt8 := [21, 7, 155, 0, 10, 21, 5, 21, 7, 162, 0, 7, 4, 167, 0, 4, 3, 54, 8, 21, 8, 153, 0, 57]
abbrev dktX8_rings_6 : List UInt8 := dkwX8_rings_6 ++ dktX8_rings_7
def dkwX8_rings_5 : List UInt8 := [21, 7, 42, 180, 0, 64, 162, 0, 33, 21, 5, 21, 6, 162, 0, 26, 21, 6, 21, 7, 159, 0, 19]
abbrev dktX8_rings_5 : List UInt8 := dkwX8_rings_5 ++ dktX8_rings_6
def dkwX8_rings_4 : List UInt8 := [100, 8, 112, 54, 7, 21, 5, 42, 180, 0, 64, 162, 0, 51, 21, 6, 42, 180, 0, 64, 162, 0, 42]
abbrev dktX8_rings_4 : List UInt8 := dkwX8_rings_4 ++ dktX8_rings_5
def dkwX8_rings_3 : List UInt8 := [16, 25, 100, 8, 108, 8, 112, 54, 6, 21, 4, 16, 25, 162, 0, 7, 2, 167, 0, 10, 21, 4, 16, 25]
abbrev dktX8_rings_3 : List UInt8 := dkwX8_rings_3 ++ dktX8_rings_4
def dkwX8_rings_2 : List UInt8 := [16, 25, 100, 16, 25, 108, 54, 5, 21, 4, 16, 25, 162, 0, 10, 21, 4, 8, 112, 167, 0, 12, 21, 4]
abbrev dktX8_rings_2 : List UInt8 := dkwX8_rings_2 ++ dktX8_rings_3
def dkwX8_rings_1 : List UInt8 := [21, 4, 17, 0, 150, 162, 0, 247, 21, 4, 16, 25, 162, 0, 10, 21, 4, 8, 108, 167, 0, 11, 21, 4]
abbrev dktX8_rings_1 : List UInt8 := dkwX8_rings_1 ++ dktX8_rings_2
def dkwX8_rings_0 : List UInt8 := [27, 133, 20, 0, 190, 20, 0, 106, 184, 0, 68, 154, 0, 5, 2, 172, 3, 61, 16, 252, 62, 3, 54, 4]
abbrev dktX8_rings_0 : List UInt8 := dkwX8_rings_0 ++ dktX8_rings_1
theorem dksX8_rings_0 : cX8_rings.data.toList.drop 0 = dktX8_rings_0 := by decide +kernel
theorem dksX8_rings_1 : cX8_rings.data.toList.drop 24 = dktX8_rings_1 := dk_seg dksX8_rings_0 24 rfl rfl
theorem dksX8_rings_2 : cX8_rings.data.toList.drop 48 = dktX8_rings_2 := dk_seg dksX8_rings_1 24 rfl rfl
theorem dksX8_rings_3 : cX8_rings.data.toList.drop 72 = dktX8_rings_3 := dk_seg dksX8_rings_2 24 rfl rfl
theorem dksX8_rings_4 : cX8_rings.data.toList.drop 96 = dktX8_rings_4 := dk_seg dksX8_rings_3 24 rfl rfl
theorem dksX8_rings_5 : cX8_rings.data.toList.drop 119 = dktX8_rings_5 := dk_seg dksX8_rings_4 23 rfl rfl
theorem dksX8_rings_6 : cX8_rings.data.toList.drop 142 = dktX8_rings_6 := dk_seg dksX8_rings_5 23 rfl rfl
theorem dksX8_rings_7 : cX8_rings.data.toList.drop 166 = dktX8_rings_7 := dk_seg dksX8_rings_6 24 rfl rfl
theorem dksX8_rings_8 : cX8_rings.data.toList.drop 190 = dktX8_rings_8 := dk_seg dksX8_rings_7 24 rfl rfl
theorem dksX8_rings_9 : cX8_rings.data.toList.drop 213 = dktX8_rings_9 := dk_seg dksX8_rings_8 23 rfl rfl
theorem dksX8_rings_10 : cX8_rings.data.toList.drop 235 = dktX8_rings_10 := dk_seg dksX8_rings_9 22 rfl rfl
theorem dksX8_rings_11 : cX8_rings.data.toList.drop 259 = dktX8_rings_11 := dk_seg dksX8_rings_10 24 rfl rfl
theorem dksX8_rings_12 : cX8_rings.data.toList.drop 283 = dktX8_rings_12 := dk_seg dksX8_rings_11 24 rfl rfl
theorem dksX8_rings_13 : cX8_rings.data.toList.drop 307 = dktX8_rings_13 := dk_seg dksX8_rings_12 24 rfl rfl
theorem dksX8_rings_14 : cX8_rings.data.toList.drop 331 = dktX8_rings_14 := dk_seg dksX8_rings_13 24 rfl rfl
theorem dksX8_rings_15 : cX8_rings.data.toList.drop 354 = dktX8_rings_15 := dk_seg dksX8_rings_14 23 rfl rfl
theorem dX8_rings_0 : decode cX8_rings 0 = .ok (.iload_n 1, 1) := dk_27 (dk_at dksX8_rings_0 0 rfl rfl)
theorem dX8_rings_1 : decode cX8_rings 1 = .ok (.i2l, 1) := dk_133 (dk_at dksX8_rings_0 1 rfl rfl)
theorem dX8_rings_2 : decode cX8_rings 2 = .ok (.ldc2_w 190, 3) := dk_20 0 190 (dk_at dksX8_rings_0 2 rfl rfl)
theorem dX8_rings_5 : decode cX8_rings 5 = .ok (.ldc2_w 106, 3) := dk_20 0 106 (dk_at dksX8_rings_0 5 rfl rfl)
theorem dX8_rings_8 : decode cX8_rings 8 = .ok (.invokestatic 68, 3) := dk_184 0 68 (dk_at dksX8_rings_0 8 rfl rfl)
theorem dX8_rings_11 : decode cX8_rings 11 = .ok (.ifCond .ne 5, 3) := dk_154 0 5 (dk_at dksX8_rings_0 11 rfl rfl)
theorem dX8_rings_14 : decode cX8_rings 14 = .ok (.iconst (-1), 1) := dk_2 (dk_at dksX8_rings_0 14 rfl rfl)
theorem dX8_rings_15 : decode cX8_rings 15 = .ok (.ireturn, 1) := dk_172 (dk_at dksX8_rings_0 15 rfl rfl)
theorem dX8_rings_16 : decode cX8_rings 16 = .ok (.iconst 0, 1) := dk_3 (dk_at dksX8_rings_0 16 rfl rfl)
theorem dX8_rings_17 : decode cX8_rings 17 = .ok (.istore_n 2, 1) := dk_61 (dk_at dksX8_rings_0 17 rfl rfl)
theorem dX8_rings_18 : decode cX8_rings 18 = .ok (.bipush (-4), 2) := dk_16 252 (dk_at dksX8_rings_0 18 rfl rfl)
theorem dX8_rings_20 : decode cX8_rings 20 = .ok (.istore_n 3, 1) := dk_62 (dk_at dksX8_rings_0 20 rfl rfl)
theorem dX8_rings_21 : decode cX8_rings 21 = .ok (.iconst 0, 1) := dk_3 (dk_at dksX8_rings_0 21 rfl rfl)
theorem dX8_rings_22 : decode cX8_rings 22 = .ok (.istore 4, 2) := dk_54 4 (dk_at dksX8_rings_0 22 rfl rfl)
theorem dX8_rings_24 : decode cX8_rings 24 = .ok (.iload 4, 2) := dk_21 4 (dk_at dksX8_rings_1 0 rfl rfl)
theorem dX8_rings_26 : decode cX8_rings 26 = .ok (.sipush 150, 3) := dk_17 0 150 (dk_at dksX8_rings_1 2 rfl rfl)
theorem dX8_rings_29 : decode cX8_rings 29 = .ok (.if_icmp .ge 247, 3) := dk_162 0 247 (dk_at dksX8_rings_1 5 rfl rfl)
theorem dX8_rings_32 : decode cX8_rings 32 = .ok (.iload 4, 2) := dk_21 4 (dk_at dksX8_rings_1 8 rfl rfl)
theorem dX8_rings_34 : decode cX8_rings 34 = .ok (.bipush 25, 2) := dk_16 25 (dk_at dksX8_rings_1 10 rfl rfl)
theorem dX8_rings_36 : decode cX8_rings 36 = .ok (.if_icmp .ge 10, 3) := dk_162 0 10 (dk_at dksX8_rings_1 12 rfl rfl)
theorem dX8_rings_39 : decode cX8_rings 39 = .ok (.iload 4, 2) := dk_21 4 (dk_at dksX8_rings_1 15 rfl rfl)
theorem dX8_rings_41 : decode cX8_rings 41 = .ok (.iconst 5, 1) := dk_8 (dk_at dksX8_rings_1 17 rfl rfl)
theorem dX8_rings_42 : decode cX8_rings 42 = .ok (.idiv, 1) := dk_108 (dk_at dksX8_rings_1 18 rfl rfl)
theorem dX8_rings_43 : decode cX8_rings 43 = .ok (.goto 11, 3) := dk_167 0 11 (dk_at dksX8_rings_1 19 rfl rfl)
theorem dX8_rings_46 : decode cX8_rings 46 = .ok (.iload 4, 2) := dk_21 4 (dk_at dksX8_rings_1 22 rfl rfl)
theorem dX8_rings_48 : decode cX8_rings 48 = .ok (.bipush 25, 2) := dk_16 25 (dk_at dksX8_rings_2 0 rfl rfl)
theorem dX8_rings_50 : decode cX8_rings 50 = .ok (.isub, 1) := dk_100 (dk_at dksX8_rings_2 2 rfl rfl)
theorem dX8_rings_51 : decode cX8_rings 51 = .ok (.bipush 25, 2) := dk_16 25 (dk_at dksX8_rings_2 3 rfl rfl)
theorem dX8_rings_53 : decode cX8_rings 53 = .ok (.idiv, 1) := dk_108 (dk_at dksX8_rings_2 5 rfl rfl)
theorem dX8_rings_54 : decode cX8_rings 54 = .ok (.istore 5, 2) := dk_54 5 (dk_at dksX8_rings_2 6 rfl rfl)
theorem dX8_rings_56 : decode cX8_rings 56 = .ok (.iload 4, 2) := dk_21 4 (dk_at dksX8_rings_2 8 rfl rfl)
theorem dX8_rings_58 : decode cX8_rings 58 = .ok (.bipush 25, 2) := dk_16 25 (dk_at dksX8_rings_2 10 rfl rfl)
theorem dX8_rings_60 : decode cX8_rings 60 = .ok (.if_icmp .ge 10, 3) := dk_162 0 10 (dk_at dksX8_rings_2 12 rfl rfl)
theorem dX8_rings_63 : decode cX8_rings 63 = .ok (.iload 4, 2) := dk_21 4 (dk_at dksX8_rings_2 15 rfl rfl)
theorem dX8_rings_65 : decode cX8_rings 65 = .ok (.iconst 5, 1) := dk_8 (dk_at dksX8_rings_2 17 rfl rfl)
theorem dX8_rings_66 : decode cX8_rings 66 = .ok (.irem, 1) := dk_112 (dk_at dksX8_rings_2 18 rfl rfl)
theorem dX8_rings_67 : decode cX8_rings 67 = .ok (.goto 12, 3) := dk_167 0 12 (dk_at dksX8_rings_2 19 rfl rfl)
theorem dX8_rings_70 : decode cX8_rings 70 = .ok (.iload 4, 2) := dk_21 4 (dk_at dksX8_rings_2 22 rfl rfl)
theorem dX8_rings_72 : decode cX8_rings 72 = .ok (.bipush 25, 2) := dk_16 25 (dk_at dksX8_rings_3 0 rfl rfl)
theorem dX8_rings_74 : decode cX8_rings 74 = .ok (.isub, 1) := dk_100 (dk_at dksX8_rings_3 2 rfl rfl)
theorem dX8_rings_75 : decode cX8_rings 75 = .ok (.iconst 5, 1) := dk_8 (dk_at dksX8_rings_3 3 rfl rfl)
theorem dX8_rings_76 : decode cX8_rings 76 = .ok (.idiv, 1) := dk_108 (dk_at dksX8_rings_3 4 rfl rfl)
theorem dX8_rings_77 : decode cX8_rings 77 = .ok (.iconst 5, 1) := dk_8 (dk_at dksX8_rings_3 5 rfl rfl)
theorem dX8_rings_78 : decode cX8_rings 78 = .ok (.irem, 1) := dk_112 (dk_at dksX8_rings_3 6 rfl rfl)
theorem dX8_rings_79 : decode cX8_rings 79 = .ok (.istore 6, 2) := dk_54 6 (dk_at dksX8_rings_3 7 rfl rfl)
theorem dX8_rings_81 : decode cX8_rings 81 = .ok (.iload 4, 2) := dk_21 4 (dk_at dksX8_rings_3 9 rfl rfl)
theorem dX8_rings_83 : decode cX8_rings 83 = .ok (.bipush 25, 2) := dk_16 25 (dk_at dksX8_rings_3 11 rfl rfl)
theorem dX8_rings_85 : decode cX8_rings 85 = .ok (.if_icmp .ge 7, 3) := dk_162 0 7 (dk_at dksX8_rings_3 13 rfl rfl)
theorem dX8_rings_88 : decode cX8_rings 88 = .ok (.iconst (-1), 1) := dk_2 (dk_at dksX8_rings_3 16 rfl rfl)
theorem dX8_rings_89 : decode cX8_rings 89 = .ok (.goto 10, 3) := dk_167 0 10 (dk_at dksX8_rings_3 17 rfl rfl)
theorem dX8_rings_92 : decode cX8_rings 92 = .ok (.iload 4, 2) := dk_21 4 (dk_at dksX8_rings_3 20 rfl rfl)
theorem dX8_rings_94 : decode cX8_rings 94 = .ok (.bipush 25, 2) := dk_16 25 (dk_at dksX8_rings_3 22 rfl rfl)
theorem dX8_rings_96 : decode cX8_rings 96 = .ok (.isub, 1) := dk_100 (dk_at dksX8_rings_4 0 rfl rfl)
theorem dX8_rings_97 : decode cX8_rings 97 = .ok (.iconst 5, 1) := dk_8 (dk_at dksX8_rings_4 1 rfl rfl)
theorem dX8_rings_98 : decode cX8_rings 98 = .ok (.irem, 1) := dk_112 (dk_at dksX8_rings_4 2 rfl rfl)
theorem dX8_rings_99 : decode cX8_rings 99 = .ok (.istore 7, 2) := dk_54 7 (dk_at dksX8_rings_4 3 rfl rfl)
theorem dX8_rings_101 : decode cX8_rings 101 = .ok (.iload 5, 2) := dk_21 5 (dk_at dksX8_rings_4 5 rfl rfl)
theorem dX8_rings_103 : decode cX8_rings 103 = .ok (.aload_n 0, 1) := dk_42 (dk_at dksX8_rings_4 7 rfl rfl)
theorem dX8_rings_104 : decode cX8_rings 104 = .ok (.getfield 64, 3) := dk_180 0 64 (dk_at dksX8_rings_4 8 rfl rfl)
theorem dX8_rings_107 : decode cX8_rings 107 = .ok (.if_icmp .ge 51, 3) := dk_162 0 51 (dk_at dksX8_rings_4 11 rfl rfl)
theorem dX8_rings_110 : decode cX8_rings 110 = .ok (.iload 6, 2) := dk_21 6 (dk_at dksX8_rings_4 14 rfl rfl)
theorem dX8_rings_112 : decode cX8_rings 112 = .ok (.aload_n 0, 1) := dk_42 (dk_at dksX8_rings_4 16 rfl rfl)
theorem dX8_rings_113 : decode cX8_rings 113 = .ok (.getfield 64, 3) := dk_180 0 64 (dk_at dksX8_rings_4 17 rfl rfl)
theorem dX8_rings_116 : decode cX8_rings 116 = .ok (.if_icmp .ge 42, 3) := dk_162 0 42 (dk_at dksX8_rings_4 20 rfl rfl)
theorem dX8_rings_119 : decode cX8_rings 119 = .ok (.iload 7, 2) := dk_21 7 (dk_at dksX8_rings_5 0 rfl rfl)
theorem dX8_rings_121 : decode cX8_rings 121 = .ok (.aload_n 0, 1) := dk_42 (dk_at dksX8_rings_5 2 rfl rfl)
theorem dX8_rings_122 : decode cX8_rings 122 = .ok (.getfield 64, 3) := dk_180 0 64 (dk_at dksX8_rings_5 3 rfl rfl)
theorem dX8_rings_125 : decode cX8_rings 125 = .ok (.if_icmp .ge 33, 3) := dk_162 0 33 (dk_at dksX8_rings_5 6 rfl rfl)
theorem dX8_rings_128 : decode cX8_rings 128 = .ok (.iload 5, 2) := dk_21 5 (dk_at dksX8_rings_5 9 rfl rfl)
theorem dX8_rings_130 : decode cX8_rings 130 = .ok (.iload 6, 2) := dk_21 6 (dk_at dksX8_rings_5 11 rfl rfl)
theorem dX8_rings_132 : decode cX8_rings 132 = .ok (.if_icmp .ge 26, 3) := dk_162 0 26 (dk_at dksX8_rings_5 13 rfl rfl)
theorem dX8_rings_135 : decode cX8_rings 135 = .ok (.iload 6, 2) := dk_21 6 (dk_at dksX8_rings_5 16 rfl rfl)
theorem dX8_rings_137 : decode cX8_rings 137 = .ok (.iload 7, 2) := dk_21 7 (dk_at dksX8_rings_5 18 rfl rfl)
theorem dX8_rings_139 : decode cX8_rings 139 = .ok (.if_icmp .eq 19, 3) := dk_159 0 19 (dk_at dksX8_rings_5 20 rfl rfl)
theorem dX8_rings_142 : decode cX8_rings 142 = .ok (.iload 7, 2) := dk_21 7 (dk_at dksX8_rings_6 0 rfl rfl)
theorem dX8_rings_144 : decode cX8_rings 144 = .ok (.ifCond .lt 10, 3) := dk_155 0 10 (dk_at dksX8_rings_6 2 rfl rfl)
theorem dX8_rings_147 : decode cX8_rings 147 = .ok (.iload 5, 2) := dk_21 5 (dk_at dksX8_rings_6 5 rfl rfl)
theorem dX8_rings_149 : decode cX8_rings 149 = .ok (.iload 7, 2) := dk_21 7 (dk_at dksX8_rings_6 7 rfl rfl)
theorem dX8_rings_151 : decode cX8_rings 151 = .ok (.if_icmp .ge 7, 3) := dk_162 0 7 (dk_at dksX8_rings_6 9 rfl rfl)
theorem dX8_rings_154 : decode cX8_rings 154 = .ok (.iconst 1, 1) := dk_4 (dk_at dksX8_rings_6 12 rfl rfl)
theorem dX8_rings_155 : decode cX8_rings 155 = .ok (.goto 4, 3) := dk_167 0 4 (dk_at dksX8_rings_6 13 rfl rfl)
theorem dX8_rings_158 : decode cX8_rings 158 = .ok (.iconst 0, 1) := dk_3 (dk_at dksX8_rings_6 16 rfl rfl)
theorem dX8_rings_159 : decode cX8_rings 159 = .ok (.istore 8, 2) := dk_54 8 (dk_at dksX8_rings_6 17 rfl rfl)
theorem dX8_rings_161 : decode cX8_rings 161 = .ok (.iload 8, 2) := dk_21 8 (dk_at dksX8_rings_6 19 rfl rfl)
theorem dX8_rings_163 : decode cX8_rings 163 = .ok (.ifCond .eq 57, 3) := dk_153 0 57 (dk_at dksX8_rings_6 21 rfl rfl)
theorem dX8_rings_166 : decode cX8_rings 166 = .ok (.aload_n 0, 1) := dk_42 (dk_at dksX8_rings_7 0 rfl rfl)
theorem dX8_rings_167 : decode cX8_rings 167 = .ok (.getfield 7, 3) := dk_180 0 7 (dk_at dksX8_rings_7 1 rfl rfl)
theorem dX8_rings_170 : decode cX8_rings 170 = .ok (.bipush 40, 2) := dk_16 40 (dk_at dksX8_rings_7 4 rfl rfl)
theorem dX8_rings_172 : decode cX8_rings 172 = .ok (.iload 5, 2) := dk_21 5 (dk_at dksX8_rings_7 6 rfl rfl)
theorem dX8_rings_174 : decode cX8_rings 174 = .ok (.imul, 1) := dk_104 (dk_at dksX8_rings_7 8 rfl rfl)
theorem dX8_rings_175 : decode cX8_rings 175 = .ok (.iconst 3, 1) := dk_6 (dk_at dksX8_rings_7 9 rfl rfl)
theorem dX8_rings_176 : decode cX8_rings 176 = .ok (.iadd, 1) := dk_96 (dk_at dksX8_rings_7 10 rfl rfl)
theorem dX8_rings_177 : decode cX8_rings 177 = .ok (.iaload, 1) := dk_46 (dk_at dksX8_rings_7 11 rfl rfl)
theorem dX8_rings_178 : decode cX8_rings 178 = .ok (.ifCond .le 42, 3) := dk_158 0 42 (dk_at dksX8_rings_7 12 rfl rfl)
theorem dX8_rings_181 : decode cX8_rings 181 = .ok (.aload_n 0, 1) := dk_42 (dk_at dksX8_rings_7 15 rfl rfl)
theorem dX8_rings_182 : decode cX8_rings 182 = .ok (.getfield 7, 3) := dk_180 0 7 (dk_at dksX8_rings_7 16 rfl rfl)
theorem dX8_rings_185 : decode cX8_rings 185 = .ok (.bipush 40, 2) := dk_16 40 (dk_at dksX8_rings_7 19 rfl rfl)
theorem dX8_rings_187 : decode cX8_rings 187 = .ok (.iload 6, 2) := dk_21 6 (dk_at dksX8_rings_7 21 rfl rfl)
theorem dX8_rings_189 : decode cX8_rings 189 = .ok (.imul, 1) := dk_104 (dk_at dksX8_rings_7 23 rfl rfl)
theorem dX8_rings_190 : decode cX8_rings 190 = .ok (.iconst 3, 1) := dk_6 (dk_at dksX8_rings_8 0 rfl rfl)
theorem dX8_rings_191 : decode cX8_rings 191 = .ok (.iadd, 1) := dk_96 (dk_at dksX8_rings_8 1 rfl rfl)
theorem dX8_rings_192 : decode cX8_rings 192 = .ok (.iaload, 1) := dk_46 (dk_at dksX8_rings_8 2 rfl rfl)
theorem dX8_rings_193 : decode cX8_rings 193 = .ok (.ifCond .le 27, 3) := dk_158 0 27 (dk_at dksX8_rings_8 3 rfl rfl)
theorem dX8_rings_196 : decode cX8_rings 196 = .ok (.iload 7, 2) := dk_21 7 (dk_at dksX8_rings_8 6 rfl rfl)
theorem dX8_rings_198 : decode cX8_rings 198 = .ok (.ifCond .lt 18, 3) := dk_155 0 18 (dk_at dksX8_rings_8 8 rfl rfl)
theorem dX8_rings_201 : decode cX8_rings 201 = .ok (.aload_n 0, 1) := dk_42 (dk_at dksX8_rings_8 11 rfl rfl)
theorem dX8_rings_202 : decode cX8_rings 202 = .ok (.getfield 7, 3) := dk_180 0 7 (dk_at dksX8_rings_8 12 rfl rfl)
theorem dX8_rings_205 : decode cX8_rings 205 = .ok (.bipush 40, 2) := dk_16 40 (dk_at dksX8_rings_8 15 rfl rfl)
theorem dX8_rings_207 : decode cX8_rings 207 = .ok (.iload 7, 2) := dk_21 7 (dk_at dksX8_rings_8 17 rfl rfl)
theorem dX8_rings_209 : decode cX8_rings 209 = .ok (.imul, 1) := dk_104 (dk_at dksX8_rings_8 19 rfl rfl)
theorem dX8_rings_210 : decode cX8_rings 210 = .ok (.iconst 3, 1) := dk_6 (dk_at dksX8_rings_8 20 rfl rfl)
theorem dX8_rings_211 : decode cX8_rings 211 = .ok (.iadd, 1) := dk_96 (dk_at dksX8_rings_8 21 rfl rfl)
theorem dX8_rings_212 : decode cX8_rings 212 = .ok (.iaload, 1) := dk_46 (dk_at dksX8_rings_8 22 rfl rfl)
theorem dX8_rings_213 : decode cX8_rings 213 = .ok (.ifCond .le 7, 3) := dk_158 0 7 (dk_at dksX8_rings_9 0 rfl rfl)
theorem dX8_rings_216 : decode cX8_rings 216 = .ok (.iconst 1, 1) := dk_4 (dk_at dksX8_rings_9 3 rfl rfl)
theorem dX8_rings_217 : decode cX8_rings 217 = .ok (.goto 4, 3) := dk_167 0 4 (dk_at dksX8_rings_9 4 rfl rfl)
theorem dX8_rings_220 : decode cX8_rings 220 = .ok (.iconst 0, 1) := dk_3 (dk_at dksX8_rings_9 7 rfl rfl)
theorem dX8_rings_221 : decode cX8_rings 221 = .ok (.istore 8, 2) := dk_54 8 (dk_at dksX8_rings_9 8 rfl rfl)
theorem dX8_rings_223 : decode cX8_rings 223 = .ok (.iload 8, 2) := dk_21 8 (dk_at dksX8_rings_9 10 rfl rfl)
theorem dX8_rings_225 : decode cX8_rings 225 = .ok (.ifCond .eq 16, 3) := dk_153 0 16 (dk_at dksX8_rings_9 12 rfl rfl)
theorem dX8_rings_228 : decode cX8_rings 228 = .ok (.aload_n 0, 1) := dk_42 (dk_at dksX8_rings_9 15 rfl rfl)
theorem dX8_rings_229 : decode cX8_rings 229 = .ok (.iload 5, 2) := dk_21 5 (dk_at dksX8_rings_9 16 rfl rfl)
theorem dX8_rings_231 : decode cX8_rings 231 = .ok (.iload 6, 2) := dk_21 6 (dk_at dksX8_rings_9 18 rfl rfl)
theorem dX8_rings_233 : decode cX8_rings 233 = .ok (.iload 7, 2) := dk_21 7 (dk_at dksX8_rings_9 20 rfl rfl)
theorem dX8_rings_235 : decode cX8_rings 235 = .ok (.invokevirtual 186, 3) := dk_182 0 186 (dk_at dksX8_rings_10 0 rfl rfl)
theorem dX8_rings_238 : decode cX8_rings 238 = .ok (.goto 4, 3) := dk_167 0 4 (dk_at dksX8_rings_10 3 rfl rfl)
theorem dX8_rings_241 : decode cX8_rings 241 = .ok (.iconst 0, 1) := dk_3 (dk_at dksX8_rings_10 6 rfl rfl)
theorem dX8_rings_242 : decode cX8_rings 242 = .ok (.istore 9, 2) := dk_54 9 (dk_at dksX8_rings_10 7 rfl rfl)
theorem dX8_rings_244 : decode cX8_rings 244 = .ok (.iload 9, 2) := dk_21 9 (dk_at dksX8_rings_10 9 rfl rfl)
theorem dX8_rings_246 : decode cX8_rings 246 = .ok (.iload_n 2, 1) := dk_28 (dk_at dksX8_rings_10 11 rfl rfl)
theorem dX8_rings_247 : decode cX8_rings 247 = .ok (.if_icmp .le 8, 3) := dk_164 0 8 (dk_at dksX8_rings_10 12 rfl rfl)
theorem dX8_rings_250 : decode cX8_rings 250 = .ok (.iload 4, 2) := dk_21 4 (dk_at dksX8_rings_10 15 rfl rfl)
theorem dX8_rings_252 : decode cX8_rings 252 = .ok (.goto 4, 3) := dk_167 0 4 (dk_at dksX8_rings_10 17 rfl rfl)
theorem dX8_rings_255 : decode cX8_rings 255 = .ok (.iload_n 3, 1) := dk_29 (dk_at dksX8_rings_10 20 rfl rfl)
theorem dX8_rings_256 : decode cX8_rings 256 = .ok (.istore_n 3, 1) := dk_62 (dk_at dksX8_rings_10 21 rfl rfl)
theorem dX8_rings_257 : decode cX8_rings 257 = .ok (.iload 9, 2) := dk_21 9 (dk_at dksX8_rings_10 22 rfl rfl)
theorem dX8_rings_259 : decode cX8_rings 259 = .ok (.iload_n 2, 1) := dk_28 (dk_at dksX8_rings_11 0 rfl rfl)
theorem dX8_rings_260 : decode cX8_rings 260 = .ok (.if_icmp .le 8, 3) := dk_164 0 8 (dk_at dksX8_rings_11 1 rfl rfl)
theorem dX8_rings_263 : decode cX8_rings 263 = .ok (.iload 9, 2) := dk_21 9 (dk_at dksX8_rings_11 4 rfl rfl)
theorem dX8_rings_265 : decode cX8_rings 265 = .ok (.goto 4, 3) := dk_167 0 4 (dk_at dksX8_rings_11 6 rfl rfl)
theorem dX8_rings_268 : decode cX8_rings 268 = .ok (.iload_n 2, 1) := dk_28 (dk_at dksX8_rings_11 9 rfl rfl)
theorem dX8_rings_269 : decode cX8_rings 269 = .ok (.istore_n 2, 1) := dk_61 (dk_at dksX8_rings_11 10 rfl rfl)
theorem dX8_rings_270 : decode cX8_rings 270 = .ok (.iinc 4 1, 3) := dk_132 4 1 (dk_at dksX8_rings_11 11 rfl rfl)
theorem dX8_rings_273 : decode cX8_rings 273 = .ok (.goto (-249), 3) := dk_167 255 7 (dk_at dksX8_rings_11 14 rfl rfl)
theorem dX8_rings_276 : decode cX8_rings 276 = .ok (.iload_n 3, 1) := dk_29 (dk_at dksX8_rings_11 17 rfl rfl)
theorem dX8_rings_277 : decode cX8_rings 277 = .ok (.ifCond .ge 6, 3) := dk_156 0 6 (dk_at dksX8_rings_11 18 rfl rfl)
theorem dX8_rings_280 : decode cX8_rings 280 = .ok (.bipush (-4), 2) := dk_16 252 (dk_at dksX8_rings_11 21 rfl rfl)
theorem dX8_rings_282 : decode cX8_rings 282 = .ok (.ireturn, 1) := dk_172 (dk_at dksX8_rings_11 23 rfl rfl)
theorem dX8_rings_283 : decode cX8_rings 283 = .ok (.iload_n 1, 1) := dk_27 (dk_at dksX8_rings_12 0 rfl rfl)
theorem dX8_rings_284 : decode cX8_rings 284 = .ok (.iconst (-1), 1) := dk_2 (dk_at dksX8_rings_12 1 rfl rfl)
theorem dX8_rings_285 : decode cX8_rings 285 = .ok (.if_icmp .ne 5, 3) := dk_160 0 5 (dk_at dksX8_rings_12 2 rfl rfl)
theorem dX8_rings_288 : decode cX8_rings 288 = .ok (.iload_n 2, 1) := dk_28 (dk_at dksX8_rings_12 5 rfl rfl)
theorem dX8_rings_289 : decode cX8_rings 289 = .ok (.ireturn, 1) := dk_172 (dk_at dksX8_rings_12 6 rfl rfl)
theorem dX8_rings_290 : decode cX8_rings 290 = .ok (.iload_n 3, 1) := dk_29 (dk_at dksX8_rings_12 7 rfl rfl)
theorem dX8_rings_291 : decode cX8_rings 291 = .ok (.bipush 25, 2) := dk_16 25 (dk_at dksX8_rings_12 8 rfl rfl)
theorem dX8_rings_293 : decode cX8_rings 293 = .ok (.if_icmp .ge 7, 3) := dk_162 0 7 (dk_at dksX8_rings_12 10 rfl rfl)
theorem dX8_rings_296 : decode cX8_rings 296 = .ok (.iload_n 3, 1) := dk_29 (dk_at dksX8_rings_12 13 rfl rfl)
theorem dX8_rings_297 : decode cX8_rings 297 = .ok (.goto 7, 3) := dk_167 0 7 (dk_at dksX8_rings_12 14 rfl rfl)
theorem dX8_rings_300 : decode cX8_rings 300 = .ok (.iload_n 3, 1) := dk_29 (dk_at dksX8_rings_12 17 rfl rfl)
theorem dX8_rings_301 : decode cX8_rings 301 = .ok (.bipush 25, 2) := dk_16 25 (dk_at dksX8_rings_12 18 rfl rfl)
theorem dX8_rings_303 : decode cX8_rings 303 = .ok (.isub, 1) := dk_100 (dk_at dksX8_rings_12 20 rfl rfl)
theorem dX8_rings_304 : decode cX8_rings 304 = .ok (.istore 4, 2) := dk_54 4 (dk_at dksX8_rings_12 21 rfl rfl)
theorem dX8_rings_306 : decode cX8_rings 306 = .ok (.iload_n 3, 1) := dk_29 (dk_at dksX8_rings_12 23 rfl rfl)
theorem dX8_rings_307 : decode cX8_rings 307 = .ok (.bipush 25, 2) := dk_16 25 (dk_at dksX8_rings_13 0 rfl rfl)
theorem dX8_rings_309 : decode cX8_rings 309 = .ok (.if_icmp .ge 31, 3) := dk_162 0 31 (dk_at dksX8_rings_13 2 rfl rfl)
theorem dX8_rings_312 : decode cX8_rings 312 = .ok (.iload_n 1, 1) := dk_27 (dk_at dksX8_rings_13 5 rfl rfl)
theorem dX8_rings_313 : decode cX8_rings 313 = .ok (.ifCond .ne 10, 3) := dk_154 0 10 (dk_at dksX8_rings_13 6 rfl rfl)
theorem dX8_rings_316 : decode cX8_rings 316 = .ok (.iload 4, 2) := dk_21 4 (dk_at dksX8_rings_13 9 rfl rfl)
theorem dX8_rings_318 : decode cX8_rings 318 = .ok (.iconst 5, 1) := dk_8 (dk_at dksX8_rings_13 11 rfl rfl)
theorem dX8_rings_319 : decode cX8_rings 319 = .ok (.idiv, 1) := dk_108 (dk_at dksX8_rings_13 12 rfl rfl)
theorem dX8_rings_320 : decode cX8_rings 320 = .ok (.goto 50, 3) := dk_167 0 50 (dk_at dksX8_rings_13 13 rfl rfl)
theorem dX8_rings_323 : decode cX8_rings 323 = .ok (.iload_n 1, 1) := dk_27 (dk_at dksX8_rings_13 16 rfl rfl)
theorem dX8_rings_324 : decode cX8_rings 324 = .ok (.iconst 1, 1) := dk_4 (dk_at dksX8_rings_13 17 rfl rfl)
theorem dX8_rings_325 : decode cX8_rings 325 = .ok (.if_icmp .ne 10, 3) := dk_160 0 10 (dk_at dksX8_rings_13 18 rfl rfl)
theorem dX8_rings_328 : decode cX8_rings 328 = .ok (.iload 4, 2) := dk_21 4 (dk_at dksX8_rings_13 21 rfl rfl)
theorem dX8_rings_330 : decode cX8_rings 330 = .ok (.iconst 5, 1) := dk_8 (dk_at dksX8_rings_13 23 rfl rfl)
theorem dX8_rings_331 : decode cX8_rings 331 = .ok (.irem, 1) := dk_112 (dk_at dksX8_rings_14 0 rfl rfl)
theorem dX8_rings_332 : decode cX8_rings 332 = .ok (.goto 38, 3) := dk_167 0 38 (dk_at dksX8_rings_14 1 rfl rfl)
theorem dX8_rings_335 : decode cX8_rings 335 = .ok (.bipush (-4), 2) := dk_16 252 (dk_at dksX8_rings_14 4 rfl rfl)
theorem dX8_rings_337 : decode cX8_rings 337 = .ok (.goto 33, 3) := dk_167 0 33 (dk_at dksX8_rings_14 6 rfl rfl)
theorem dX8_rings_340 : decode cX8_rings 340 = .ok (.iload_n 1, 1) := dk_27 (dk_at dksX8_rings_14 9 rfl rfl)
theorem dX8_rings_341 : decode cX8_rings 341 = .ok (.ifCond .ne 11, 3) := dk_154 0 11 (dk_at dksX8_rings_14 10 rfl rfl)
theorem dX8_rings_344 : decode cX8_rings 344 = .ok (.iload 4, 2) := dk_21 4 (dk_at dksX8_rings_14 13 rfl rfl)
theorem dX8_rings_346 : decode cX8_rings 346 = .ok (.bipush 25, 2) := dk_16 25 (dk_at dksX8_rings_14 15 rfl rfl)
theorem dX8_rings_348 : decode cX8_rings 348 = .ok (.idiv, 1) := dk_108 (dk_at dksX8_rings_14 17 rfl rfl)
theorem dX8_rings_349 : decode cX8_rings 349 = .ok (.goto 21, 3) := dk_167 0 21 (dk_at dksX8_rings_14 18 rfl rfl)
theorem dX8_rings_352 : decode cX8_rings 352 = .ok (.iload_n 1, 1) := dk_27 (dk_at dksX8_rings_14 21 rfl rfl)
theorem dX8_rings_353 : decode cX8_rings 353 = .ok (.iconst 1, 1) := dk_4 (dk_at dksX8_rings_14 22 rfl rfl)
theorem dX8_rings_354 : decode cX8_rings 354 = .ok (.if_icmp .ne 12, 3) := dk_160 0 12 (dk_at dksX8_rings_15 0 rfl rfl)
theorem dX8_rings_357 : decode cX8_rings 357 = .ok (.iload 4, 2) := dk_21 4 (dk_at dksX8_rings_15 3 rfl rfl)
theorem dX8_rings_359 : decode cX8_rings 359 = .ok (.iconst 5, 1) := dk_8 (dk_at dksX8_rings_15 5 rfl rfl)
theorem dX8_rings_360 : decode cX8_rings 360 = .ok (.idiv, 1) := dk_108 (dk_at dksX8_rings_15 6 rfl rfl)
theorem dX8_rings_361 : decode cX8_rings 361 = .ok (.iconst 5, 1) := dk_8 (dk_at dksX8_rings_15 7 rfl rfl)
theorem dX8_rings_362 : decode cX8_rings 362 = .ok (.irem, 1) := dk_112 (dk_at dksX8_rings_15 8 rfl rfl)
theorem dX8_rings_363 : decode cX8_rings 363 = .ok (.goto 7, 3) := dk_167 0 7 (dk_at dksX8_rings_15 9 rfl rfl)
theorem dX8_rings_366 : decode cX8_rings 366 = .ok (.iload 4, 2) := dk_21 4 (dk_at dksX8_rings_15 12 rfl rfl)
theorem dX8_rings_368 : decode cX8_rings 368 = .ok (.iconst 5, 1) := dk_8 (dk_at dksX8_rings_15 14 rfl rfl)
theorem dX8_rings_369 : decode cX8_rings 369 = .ok (.irem, 1) := dk_112 (dk_at dksX8_rings_15 15 rfl rfl)
theorem dX8_rings_370 : decode cX8_rings 370 = .ok (.ireturn, 1) := dk_172 (dk_at dksX8_rings_15 16 rfl rfl)
abbrev cX8_owed : ByteArray := prog_10_method_37_code
def yX8_owed : MethodName := ⟨RX8, "owed", "(I)I"⟩
def dkwX8_owed_4 : List UInt8 := [164, 0, 8, 18, 90, 167, 0, 4, 28, 172]
abbrev dktX8_owed_4 : List UInt8 := dkwX8_owed_4 ++ []
def dkwX8_owed_3 : List UInt8 := [4, 96, 46, 167, 0, 4, 3, 96, 61, 132, 4, 1, 167, 255, 196, 132, 3, 1, 167, 255, 179, 28, 18, 90]
abbrev dktX8_owed_3 : List UInt8 := dkwX8_owed_3 ++ dktX8_owed_4
def dkwX8_owed_2 : List UInt8 := [21, 4, 104, 96, 54, 5, 28, 42, 180, 0, 7, 21, 5, 46, 27, 160, 0, 15, 42, 180, 0, 7, 21, 5]
abbrev dktX8_owed_2 : List UInt8 := dkwX8_owed_2 ++ dktX8_owed_3
def dkwX8_owed_1 : List UInt8 := [21, 4, 42, 180, 0, 7, 16, 40, 29, 104, 6, 96, 46, 162, 0, 50, 16, 40, 29, 104, 16, 8, 96, 7]
abbrev dktX8_owed_1 : List UInt8 := dkwX8_owed_1 ++ dktX8_owed_2
def dkwX8_owed_0 : List UInt8 := [27, 184, 0, 97, 154, 0, 5, 2, 172, 3, 61, 3, 62, 29, 42, 180, 0, 64, 162, 0, 75, 3, 54, 4]
abbrev dktX8_owed_0 : List UInt8 := dkwX8_owed_0 ++ dktX8_owed_1
theorem dksX8_owed_0 : cX8_owed.data.toList.drop 0 = dktX8_owed_0 := by decide +kernel
theorem dksX8_owed_1 : cX8_owed.data.toList.drop 24 = dktX8_owed_1 := dk_seg dksX8_owed_0 24 rfl rfl
theorem dksX8_owed_2 : cX8_owed.data.toList.drop 48 = dktX8_owed_2 := dk_seg dksX8_owed_1 24 rfl rfl
theorem dksX8_owed_3 : cX8_owed.data.toList.drop 72 = dktX8_owed_3 := dk_seg dksX8_owed_2 24 rfl rfl
theorem dksX8_owed_4 : cX8_owed.data.toList.drop 96 = dktX8_owed_4 := dk_seg dksX8_owed_3 24 rfl rfl
theorem dX8_owed_0 : decode cX8_owed 0 = .ok (.iload_n 1, 1) := dk_27 (dk_at dksX8_owed_0 0 rfl rfl)
theorem dX8_owed_1 : decode cX8_owed 1 = .ok (.invokestatic 97, 3) := dk_184 0 97 (dk_at dksX8_owed_0 1 rfl rfl)
theorem dX8_owed_4 : decode cX8_owed 4 = .ok (.ifCond .ne 5, 3) := dk_154 0 5 (dk_at dksX8_owed_0 4 rfl rfl)
theorem dX8_owed_7 : decode cX8_owed 7 = .ok (.iconst (-1), 1) := dk_2 (dk_at dksX8_owed_0 7 rfl rfl)
theorem dX8_owed_8 : decode cX8_owed 8 = .ok (.ireturn, 1) := dk_172 (dk_at dksX8_owed_0 8 rfl rfl)
theorem dX8_owed_9 : decode cX8_owed 9 = .ok (.iconst 0, 1) := dk_3 (dk_at dksX8_owed_0 9 rfl rfl)
theorem dX8_owed_10 : decode cX8_owed 10 = .ok (.istore_n 2, 1) := dk_61 (dk_at dksX8_owed_0 10 rfl rfl)
theorem dX8_owed_11 : decode cX8_owed 11 = .ok (.iconst 0, 1) := dk_3 (dk_at dksX8_owed_0 11 rfl rfl)
theorem dX8_owed_12 : decode cX8_owed 12 = .ok (.istore_n 3, 1) := dk_62 (dk_at dksX8_owed_0 12 rfl rfl)
theorem dX8_owed_13 : decode cX8_owed 13 = .ok (.iload_n 3, 1) := dk_29 (dk_at dksX8_owed_0 13 rfl rfl)
theorem dX8_owed_14 : decode cX8_owed 14 = .ok (.aload_n 0, 1) := dk_42 (dk_at dksX8_owed_0 14 rfl rfl)
theorem dX8_owed_15 : decode cX8_owed 15 = .ok (.getfield 64, 3) := dk_180 0 64 (dk_at dksX8_owed_0 15 rfl rfl)
theorem dX8_owed_18 : decode cX8_owed 18 = .ok (.if_icmp .ge 75, 3) := dk_162 0 75 (dk_at dksX8_owed_0 18 rfl rfl)
theorem dX8_owed_21 : decode cX8_owed 21 = .ok (.iconst 0, 1) := dk_3 (dk_at dksX8_owed_0 21 rfl rfl)
theorem dX8_owed_22 : decode cX8_owed 22 = .ok (.istore 4, 2) := dk_54 4 (dk_at dksX8_owed_0 22 rfl rfl)
theorem dX8_owed_24 : decode cX8_owed 24 = .ok (.iload 4, 2) := dk_21 4 (dk_at dksX8_owed_1 0 rfl rfl)
theorem dX8_owed_26 : decode cX8_owed 26 = .ok (.aload_n 0, 1) := dk_42 (dk_at dksX8_owed_1 2 rfl rfl)
theorem dX8_owed_27 : decode cX8_owed 27 = .ok (.getfield 7, 3) := dk_180 0 7 (dk_at dksX8_owed_1 3 rfl rfl)
theorem dX8_owed_30 : decode cX8_owed 30 = .ok (.bipush 40, 2) := dk_16 40 (dk_at dksX8_owed_1 6 rfl rfl)
theorem dX8_owed_32 : decode cX8_owed 32 = .ok (.iload_n 3, 1) := dk_29 (dk_at dksX8_owed_1 8 rfl rfl)
theorem dX8_owed_33 : decode cX8_owed 33 = .ok (.imul, 1) := dk_104 (dk_at dksX8_owed_1 9 rfl rfl)
theorem dX8_owed_34 : decode cX8_owed 34 = .ok (.iconst 3, 1) := dk_6 (dk_at dksX8_owed_1 10 rfl rfl)
theorem dX8_owed_35 : decode cX8_owed 35 = .ok (.iadd, 1) := dk_96 (dk_at dksX8_owed_1 11 rfl rfl)
theorem dX8_owed_36 : decode cX8_owed 36 = .ok (.iaload, 1) := dk_46 (dk_at dksX8_owed_1 12 rfl rfl)
theorem dX8_owed_37 : decode cX8_owed 37 = .ok (.if_icmp .ge 50, 3) := dk_162 0 50 (dk_at dksX8_owed_1 13 rfl rfl)
theorem dX8_owed_40 : decode cX8_owed 40 = .ok (.bipush 40, 2) := dk_16 40 (dk_at dksX8_owed_1 16 rfl rfl)
theorem dX8_owed_42 : decode cX8_owed 42 = .ok (.iload_n 3, 1) := dk_29 (dk_at dksX8_owed_1 18 rfl rfl)
theorem dX8_owed_43 : decode cX8_owed 43 = .ok (.imul, 1) := dk_104 (dk_at dksX8_owed_1 19 rfl rfl)
theorem dX8_owed_44 : decode cX8_owed 44 = .ok (.bipush 8, 2) := dk_16 8 (dk_at dksX8_owed_1 20 rfl rfl)
theorem dX8_owed_46 : decode cX8_owed 46 = .ok (.iadd, 1) := dk_96 (dk_at dksX8_owed_1 22 rfl rfl)
theorem dX8_owed_47 : decode cX8_owed 47 = .ok (.iconst 4, 1) := dk_7 (dk_at dksX8_owed_1 23 rfl rfl)
theorem dX8_owed_48 : decode cX8_owed 48 = .ok (.iload 4, 2) := dk_21 4 (dk_at dksX8_owed_2 0 rfl rfl)
theorem dX8_owed_50 : decode cX8_owed 50 = .ok (.imul, 1) := dk_104 (dk_at dksX8_owed_2 2 rfl rfl)
theorem dX8_owed_51 : decode cX8_owed 51 = .ok (.iadd, 1) := dk_96 (dk_at dksX8_owed_2 3 rfl rfl)
theorem dX8_owed_52 : decode cX8_owed 52 = .ok (.istore 5, 2) := dk_54 5 (dk_at dksX8_owed_2 4 rfl rfl)
theorem dX8_owed_54 : decode cX8_owed 54 = .ok (.iload_n 2, 1) := dk_28 (dk_at dksX8_owed_2 6 rfl rfl)
theorem dX8_owed_55 : decode cX8_owed 55 = .ok (.aload_n 0, 1) := dk_42 (dk_at dksX8_owed_2 7 rfl rfl)
theorem dX8_owed_56 : decode cX8_owed 56 = .ok (.getfield 7, 3) := dk_180 0 7 (dk_at dksX8_owed_2 8 rfl rfl)
theorem dX8_owed_59 : decode cX8_owed 59 = .ok (.iload 5, 2) := dk_21 5 (dk_at dksX8_owed_2 11 rfl rfl)
theorem dX8_owed_61 : decode cX8_owed 61 = .ok (.iaload, 1) := dk_46 (dk_at dksX8_owed_2 13 rfl rfl)
theorem dX8_owed_62 : decode cX8_owed 62 = .ok (.iload_n 1, 1) := dk_27 (dk_at dksX8_owed_2 14 rfl rfl)
theorem dX8_owed_63 : decode cX8_owed 63 = .ok (.if_icmp .ne 15, 3) := dk_160 0 15 (dk_at dksX8_owed_2 15 rfl rfl)
theorem dX8_owed_66 : decode cX8_owed 66 = .ok (.aload_n 0, 1) := dk_42 (dk_at dksX8_owed_2 18 rfl rfl)
theorem dX8_owed_67 : decode cX8_owed 67 = .ok (.getfield 7, 3) := dk_180 0 7 (dk_at dksX8_owed_2 19 rfl rfl)
theorem dX8_owed_70 : decode cX8_owed 70 = .ok (.iload 5, 2) := dk_21 5 (dk_at dksX8_owed_2 22 rfl rfl)
theorem dX8_owed_72 : decode cX8_owed 72 = .ok (.iconst 1, 1) := dk_4 (dk_at dksX8_owed_3 0 rfl rfl)
theorem dX8_owed_73 : decode cX8_owed 73 = .ok (.iadd, 1) := dk_96 (dk_at dksX8_owed_3 1 rfl rfl)
theorem dX8_owed_74 : decode cX8_owed 74 = .ok (.iaload, 1) := dk_46 (dk_at dksX8_owed_3 2 rfl rfl)
theorem dX8_owed_75 : decode cX8_owed 75 = .ok (.goto 4, 3) := dk_167 0 4 (dk_at dksX8_owed_3 3 rfl rfl)
theorem dX8_owed_78 : decode cX8_owed 78 = .ok (.iconst 0, 1) := dk_3 (dk_at dksX8_owed_3 6 rfl rfl)
theorem dX8_owed_79 : decode cX8_owed 79 = .ok (.iadd, 1) := dk_96 (dk_at dksX8_owed_3 7 rfl rfl)
theorem dX8_owed_80 : decode cX8_owed 80 = .ok (.istore_n 2, 1) := dk_61 (dk_at dksX8_owed_3 8 rfl rfl)
theorem dX8_owed_81 : decode cX8_owed 81 = .ok (.iinc 4 1, 3) := dk_132 4 1 (dk_at dksX8_owed_3 9 rfl rfl)
theorem dX8_owed_84 : decode cX8_owed 84 = .ok (.goto (-60), 3) := dk_167 255 196 (dk_at dksX8_owed_3 12 rfl rfl)
theorem dX8_owed_87 : decode cX8_owed 87 = .ok (.iinc 3 1, 3) := dk_132 3 1 (dk_at dksX8_owed_3 15 rfl rfl)
theorem dX8_owed_90 : decode cX8_owed 90 = .ok (.goto (-77), 3) := dk_167 255 179 (dk_at dksX8_owed_3 18 rfl rfl)
theorem dX8_owed_93 : decode cX8_owed 93 = .ok (.iload_n 2, 1) := dk_28 (dk_at dksX8_owed_3 21 rfl rfl)
theorem dX8_owed_94 : decode cX8_owed 94 = .ok (.ldc 90, 2) := dk_18 90 (dk_at dksX8_owed_3 22 rfl rfl)
theorem dX8_owed_96 : decode cX8_owed 96 = .ok (.if_icmp .le 8, 3) := dk_164 0 8 (dk_at dksX8_owed_4 0 rfl rfl)
theorem dX8_owed_99 : decode cX8_owed 99 = .ok (.ldc 90, 2) := dk_18 90 (dk_at dksX8_owed_4 3 rfl rfl)
theorem dX8_owed_101 : decode cX8_owed 101 = .ok (.goto 4, 3) := dk_167 0 4 (dk_at dksX8_owed_4 5 rfl rfl)
theorem dX8_owed_104 : decode cX8_owed 104 = .ok (.iload_n 2, 1) := dk_28 (dk_at dksX8_owed_4 8 rfl rfl)
theorem dX8_owed_105 : decode cX8_owed 105 = .ok (.ireturn, 1) := dk_172 (dk_at dksX8_owed_4 9 rfl rfl)
abbrev cX8_free : ByteArray := prog_10_method_43_code
def yX8_free : MethodName := ⟨RX8, "free", "(II)I"⟩
def dkwX8_free_4 : List UInt8 := [180, 0, 201, 167, 0, 11, 42, 180, 0, 43, 28, 5, 100, 46, 172]
abbrev dktX8_free_4 : List UInt8 := dkwX8_free_4 ++ []
def dkwX8_free_3 : List UInt8 := [5, 100, 29, 161, 0, 6, 16, 252, 172, 28, 154, 0, 8, 21, 4, 167, 0, 23, 28, 4, 160, 0, 10, 42]
abbrev dktX8_free_3 : List UInt8 := dkwX8_free_3 ++ dktX8_free_4
def dkwX8_free_2 : List UInt8 := [182, 0, 209, 42, 27, 182, 0, 212, 54, 4, 21, 4, 17, 1, 104, 163, 0, 15, 28, 4, 164, 0, 13, 28]
abbrev dktX8_free_2 : List UInt8 := dkwX8_free_2 ++ dktX8_free_3
def dkwX8_free_1 : List UInt8 := [180, 0, 7, 16, 40, 27, 104, 6, 96, 46, 62, 29, 16, 6, 164, 0, 6, 16, 253, 172, 42, 27]
abbrev dktX8_free_1 : List UInt8 := dkwX8_free_1 ++ dktX8_free_2
def dkwX8_free_0 : List UInt8 := [42, 27, 182, 0, 80, 153, 0, 15, 28, 133, 9, 20, 0, 207, 184, 0, 68, 154, 0, 5, 2, 172, 42]
abbrev dktX8_free_0 : List UInt8 := dkwX8_free_0 ++ dktX8_free_1
theorem dksX8_free_0 : cX8_free.data.toList.drop 0 = dktX8_free_0 := by decide +kernel
theorem dksX8_free_1 : cX8_free.data.toList.drop 23 = dktX8_free_1 := dk_seg dksX8_free_0 23 rfl rfl
theorem dksX8_free_2 : cX8_free.data.toList.drop 45 = dktX8_free_2 := dk_seg dksX8_free_1 22 rfl rfl
theorem dksX8_free_3 : cX8_free.data.toList.drop 69 = dktX8_free_3 := dk_seg dksX8_free_2 24 rfl rfl
theorem dksX8_free_4 : cX8_free.data.toList.drop 93 = dktX8_free_4 := dk_seg dksX8_free_3 24 rfl rfl
theorem dX8_free_0 : decode cX8_free 0 = .ok (.aload_n 0, 1) := dk_42 (dk_at dksX8_free_0 0 rfl rfl)
theorem dX8_free_1 : decode cX8_free 1 = .ok (.iload_n 1, 1) := dk_27 (dk_at dksX8_free_0 1 rfl rfl)
theorem dX8_free_2 : decode cX8_free 2 = .ok (.invokevirtual 80, 3) := dk_182 0 80 (dk_at dksX8_free_0 2 rfl rfl)
theorem dX8_free_5 : decode cX8_free 5 = .ok (.ifCond .eq 15, 3) := dk_153 0 15 (dk_at dksX8_free_0 5 rfl rfl)
theorem dX8_free_8 : decode cX8_free 8 = .ok (.iload_n 2, 1) := dk_28 (dk_at dksX8_free_0 8 rfl rfl)
theorem dX8_free_9 : decode cX8_free 9 = .ok (.i2l, 1) := dk_133 (dk_at dksX8_free_0 9 rfl rfl)
theorem dX8_free_10 : decode cX8_free 10 = .ok (.lconst 0, 1) := dk_9 (dk_at dksX8_free_0 10 rfl rfl)
theorem dX8_free_11 : decode cX8_free 11 = .ok (.ldc2_w 207, 3) := dk_20 0 207 (dk_at dksX8_free_0 11 rfl rfl)
theorem dX8_free_14 : decode cX8_free 14 = .ok (.invokestatic 68, 3) := dk_184 0 68 (dk_at dksX8_free_0 14 rfl rfl)
theorem dX8_free_17 : decode cX8_free 17 = .ok (.ifCond .ne 5, 3) := dk_154 0 5 (dk_at dksX8_free_0 17 rfl rfl)
theorem dX8_free_20 : decode cX8_free 20 = .ok (.iconst (-1), 1) := dk_2 (dk_at dksX8_free_0 20 rfl rfl)
theorem dX8_free_21 : decode cX8_free 21 = .ok (.ireturn, 1) := dk_172 (dk_at dksX8_free_0 21 rfl rfl)
theorem dX8_free_22 : decode cX8_free 22 = .ok (.aload_n 0, 1) := dk_42 (dk_at dksX8_free_0 22 rfl rfl)
theorem dX8_free_23 : decode cX8_free 23 = .ok (.getfield 7, 3) := dk_180 0 7 (dk_at dksX8_free_1 0 rfl rfl)
theorem dX8_free_26 : decode cX8_free 26 = .ok (.bipush 40, 2) := dk_16 40 (dk_at dksX8_free_1 3 rfl rfl)
theorem dX8_free_28 : decode cX8_free 28 = .ok (.iload_n 1, 1) := dk_27 (dk_at dksX8_free_1 5 rfl rfl)
theorem dX8_free_29 : decode cX8_free 29 = .ok (.imul, 1) := dk_104 (dk_at dksX8_free_1 6 rfl rfl)
theorem dX8_free_30 : decode cX8_free 30 = .ok (.iconst 3, 1) := dk_6 (dk_at dksX8_free_1 7 rfl rfl)
theorem dX8_free_31 : decode cX8_free 31 = .ok (.iadd, 1) := dk_96 (dk_at dksX8_free_1 8 rfl rfl)
theorem dX8_free_32 : decode cX8_free 32 = .ok (.iaload, 1) := dk_46 (dk_at dksX8_free_1 9 rfl rfl)
theorem dX8_free_33 : decode cX8_free 33 = .ok (.istore_n 3, 1) := dk_62 (dk_at dksX8_free_1 10 rfl rfl)
theorem dX8_free_34 : decode cX8_free 34 = .ok (.iload_n 3, 1) := dk_29 (dk_at dksX8_free_1 11 rfl rfl)
theorem dX8_free_35 : decode cX8_free 35 = .ok (.bipush 6, 2) := dk_16 6 (dk_at dksX8_free_1 12 rfl rfl)
theorem dX8_free_37 : decode cX8_free 37 = .ok (.if_icmp .le 6, 3) := dk_164 0 6 (dk_at dksX8_free_1 14 rfl rfl)
theorem dX8_free_40 : decode cX8_free 40 = .ok (.bipush (-3), 2) := dk_16 253 (dk_at dksX8_free_1 17 rfl rfl)
theorem dX8_free_42 : decode cX8_free 42 = .ok (.ireturn, 1) := dk_172 (dk_at dksX8_free_1 19 rfl rfl)
theorem dX8_free_43 : decode cX8_free 43 = .ok (.aload_n 0, 1) := dk_42 (dk_at dksX8_free_1 20 rfl rfl)
theorem dX8_free_44 : decode cX8_free 44 = .ok (.iload_n 1, 1) := dk_27 (dk_at dksX8_free_1 21 rfl rfl)
theorem dX8_free_45 : decode cX8_free 45 = .ok (.invokevirtual 209, 3) := dk_182 0 209 (dk_at dksX8_free_2 0 rfl rfl)
theorem dX8_free_48 : decode cX8_free 48 = .ok (.aload_n 0, 1) := dk_42 (dk_at dksX8_free_2 3 rfl rfl)
theorem dX8_free_49 : decode cX8_free 49 = .ok (.iload_n 1, 1) := dk_27 (dk_at dksX8_free_2 4 rfl rfl)
theorem dX8_free_50 : decode cX8_free 50 = .ok (.invokevirtual 212, 3) := dk_182 0 212 (dk_at dksX8_free_2 5 rfl rfl)
theorem dX8_free_53 : decode cX8_free 53 = .ok (.istore 4, 2) := dk_54 4 (dk_at dksX8_free_2 8 rfl rfl)
theorem dX8_free_55 : decode cX8_free 55 = .ok (.iload 4, 2) := dk_21 4 (dk_at dksX8_free_2 10 rfl rfl)
theorem dX8_free_57 : decode cX8_free 57 = .ok (.sipush 360, 3) := dk_17 1 104 (dk_at dksX8_free_2 12 rfl rfl)
theorem dX8_free_60 : decode cX8_free 60 = .ok (.if_icmp .gt 15, 3) := dk_163 0 15 (dk_at dksX8_free_2 15 rfl rfl)
theorem dX8_free_63 : decode cX8_free 63 = .ok (.iload_n 2, 1) := dk_28 (dk_at dksX8_free_2 18 rfl rfl)
theorem dX8_free_64 : decode cX8_free 64 = .ok (.iconst 1, 1) := dk_4 (dk_at dksX8_free_2 19 rfl rfl)
theorem dX8_free_65 : decode cX8_free 65 = .ok (.if_icmp .le 13, 3) := dk_164 0 13 (dk_at dksX8_free_2 20 rfl rfl)
theorem dX8_free_68 : decode cX8_free 68 = .ok (.iload_n 2, 1) := dk_28 (dk_at dksX8_free_2 23 rfl rfl)
theorem dX8_free_69 : decode cX8_free 69 = .ok (.iconst 2, 1) := dk_5 (dk_at dksX8_free_3 0 rfl rfl)
theorem dX8_free_70 : decode cX8_free 70 = .ok (.isub, 1) := dk_100 (dk_at dksX8_free_3 1 rfl rfl)
theorem dX8_free_71 : decode cX8_free 71 = .ok (.iload_n 3, 1) := dk_29 (dk_at dksX8_free_3 2 rfl rfl)
theorem dX8_free_72 : decode cX8_free 72 = .ok (.if_icmp .lt 6, 3) := dk_161 0 6 (dk_at dksX8_free_3 3 rfl rfl)
theorem dX8_free_75 : decode cX8_free 75 = .ok (.bipush (-4), 2) := dk_16 252 (dk_at dksX8_free_3 6 rfl rfl)
theorem dX8_free_77 : decode cX8_free 77 = .ok (.ireturn, 1) := dk_172 (dk_at dksX8_free_3 8 rfl rfl)
theorem dX8_free_78 : decode cX8_free 78 = .ok (.iload_n 2, 1) := dk_28 (dk_at dksX8_free_3 9 rfl rfl)
theorem dX8_free_79 : decode cX8_free 79 = .ok (.ifCond .ne 8, 3) := dk_154 0 8 (dk_at dksX8_free_3 10 rfl rfl)
theorem dX8_free_82 : decode cX8_free 82 = .ok (.iload 4, 2) := dk_21 4 (dk_at dksX8_free_3 13 rfl rfl)
theorem dX8_free_84 : decode cX8_free 84 = .ok (.goto 23, 3) := dk_167 0 23 (dk_at dksX8_free_3 15 rfl rfl)
theorem dX8_free_87 : decode cX8_free 87 = .ok (.iload_n 2, 1) := dk_28 (dk_at dksX8_free_3 18 rfl rfl)
theorem dX8_free_88 : decode cX8_free 88 = .ok (.iconst 1, 1) := dk_4 (dk_at dksX8_free_3 19 rfl rfl)
theorem dX8_free_89 : decode cX8_free 89 = .ok (.if_icmp .ne 10, 3) := dk_160 0 10 (dk_at dksX8_free_3 20 rfl rfl)
theorem dX8_free_92 : decode cX8_free 92 = .ok (.aload_n 0, 1) := dk_42 (dk_at dksX8_free_3 23 rfl rfl)
theorem dX8_free_93 : decode cX8_free 93 = .ok (.getfield 201, 3) := dk_180 0 201 (dk_at dksX8_free_4 0 rfl rfl)
theorem dX8_free_96 : decode cX8_free 96 = .ok (.goto 11, 3) := dk_167 0 11 (dk_at dksX8_free_4 3 rfl rfl)
theorem dX8_free_99 : decode cX8_free 99 = .ok (.aload_n 0, 1) := dk_42 (dk_at dksX8_free_4 6 rfl rfl)
theorem dX8_free_100 : decode cX8_free 100 = .ok (.getfield 43, 3) := dk_180 0 43 (dk_at dksX8_free_4 7 rfl rfl)
theorem dX8_free_103 : decode cX8_free 103 = .ok (.iload_n 2, 1) := dk_28 (dk_at dksX8_free_4 10 rfl rfl)
theorem dX8_free_104 : decode cX8_free 104 = .ok (.iconst 2, 1) := dk_5 (dk_at dksX8_free_4 11 rfl rfl)
theorem dX8_free_105 : decode cX8_free 105 = .ok (.isub, 1) := dk_100 (dk_at dksX8_free_4 12 rfl rfl)
theorem dX8_free_106 : decode cX8_free 106 = .ok (.iaload, 1) := dk_46 (dk_at dksX8_free_4 13 rfl rfl)
theorem dX8_free_107 : decode cX8_free 107 = .ok (.ireturn, 1) := dk_172 (dk_at dksX8_free_4 14 rfl rfl)
abbrev cX8_starts : ByteArray := prog_10_method_40_code
def yX8_starts : MethodName := ⟨RX8, "starts", "(I)V"⟩
def dkwX8_starts_1 : List UInt8 := [79, 132, 2, 1, 167, 255, 230, 177]
abbrev dktX8_starts_1 : List UInt8 := dkwX8_starts_1 ++ []
def dkwX8_starts_0 : List UInt8 := [3, 61, 28, 16, 40, 162, 0, 26, 42, 180, 0, 46, 28, 42, 180, 0, 7, 16, 40, 27, 104, 28, 96, 46]
abbrev dktX8_starts_0 : List UInt8 := dkwX8_starts_0 ++ dktX8_starts_1
theorem dksX8_starts_0 : cX8_starts.data.toList.drop 0 = dktX8_starts_0 := by decide +kernel
theorem dksX8_starts_1 : cX8_starts.data.toList.drop 24 = dktX8_starts_1 := dk_seg dksX8_starts_0 24 rfl rfl
theorem dX8_starts_0 : decode cX8_starts 0 = .ok (.iconst 0, 1) := dk_3 (dk_at dksX8_starts_0 0 rfl rfl)
theorem dX8_starts_1 : decode cX8_starts 1 = .ok (.istore_n 2, 1) := dk_61 (dk_at dksX8_starts_0 1 rfl rfl)
theorem dX8_starts_2 : decode cX8_starts 2 = .ok (.iload_n 2, 1) := dk_28 (dk_at dksX8_starts_0 2 rfl rfl)
theorem dX8_starts_3 : decode cX8_starts 3 = .ok (.bipush 40, 2) := dk_16 40 (dk_at dksX8_starts_0 3 rfl rfl)
theorem dX8_starts_5 : decode cX8_starts 5 = .ok (.if_icmp .ge 26, 3) := dk_162 0 26 (dk_at dksX8_starts_0 5 rfl rfl)
theorem dX8_starts_8 : decode cX8_starts 8 = .ok (.aload_n 0, 1) := dk_42 (dk_at dksX8_starts_0 8 rfl rfl)
theorem dX8_starts_9 : decode cX8_starts 9 = .ok (.getfield 46, 3) := dk_180 0 46 (dk_at dksX8_starts_0 9 rfl rfl)
theorem dX8_starts_12 : decode cX8_starts 12 = .ok (.iload_n 2, 1) := dk_28 (dk_at dksX8_starts_0 12 rfl rfl)
theorem dX8_starts_13 : decode cX8_starts 13 = .ok (.aload_n 0, 1) := dk_42 (dk_at dksX8_starts_0 13 rfl rfl)
theorem dX8_starts_14 : decode cX8_starts 14 = .ok (.getfield 7, 3) := dk_180 0 7 (dk_at dksX8_starts_0 14 rfl rfl)
theorem dX8_starts_17 : decode cX8_starts 17 = .ok (.bipush 40, 2) := dk_16 40 (dk_at dksX8_starts_0 17 rfl rfl)
theorem dX8_starts_19 : decode cX8_starts 19 = .ok (.iload_n 1, 1) := dk_27 (dk_at dksX8_starts_0 19 rfl rfl)
theorem dX8_starts_20 : decode cX8_starts 20 = .ok (.imul, 1) := dk_104 (dk_at dksX8_starts_0 20 rfl rfl)
theorem dX8_starts_21 : decode cX8_starts 21 = .ok (.iload_n 2, 1) := dk_28 (dk_at dksX8_starts_0 21 rfl rfl)
theorem dX8_starts_22 : decode cX8_starts 22 = .ok (.iadd, 1) := dk_96 (dk_at dksX8_starts_0 22 rfl rfl)
theorem dX8_starts_23 : decode cX8_starts 23 = .ok (.iaload, 1) := dk_46 (dk_at dksX8_starts_0 23 rfl rfl)
theorem dX8_starts_24 : decode cX8_starts 24 = .ok (.iastore, 1) := dk_79 (dk_at dksX8_starts_1 0 rfl rfl)
theorem dX8_starts_25 : decode cX8_starts 25 = .ok (.iinc 2 1, 3) := dk_132 2 1 (dk_at dksX8_starts_1 1 rfl rfl)
theorem dX8_starts_28 : decode cX8_starts 28 = .ok (.goto (-26), 3) := dk_167 255 230 (dk_at dksX8_starts_1 4 rfl rfl)
theorem dX8_starts_31 : decode cX8_starts 31 = .ok (.return_, 1) := dk_177 (dk_at dksX8_starts_1 7 rfl rfl)
abbrev cX8_bestFree : ByteArray := prog_10_method_42_code
def yX8_bestFree : MethodName := ⟨RX8, "bestFree", "(I)I"⟩
def dkwX8_bestFree_6 : List UInt8 := [46, 79, 132, 7, 1, 167, 255, 233, 42, 28, 182, 0, 204, 54, 4, 167, 255, 139, 29, 172]
abbrev dktX8_bestFree_6 : List UInt8 := dkwX8_bestFree_6 ++ []
def dkwX8_bestFree_5 : List UInt8 := [181, 0, 201, 3, 54, 7, 21, 7, 28, 162, 0, 23, 42, 180, 0, 43, 21, 7, 42, 180, 0, 40, 21, 7]
abbrev dktX8_bestFree_5 : List UInt8 := dkwX8_bestFree_5 ++ dktX8_bestFree_6
def dkwX8_bestFree_4 : List UInt8 := [162, 0, 7, 4, 167, 0, 4, 3, 54, 6, 21, 6, 153, 0, 43, 21, 5, 62, 42, 42, 180, 0, 192]
abbrev dktX8_bestFree_4 : List UInt8 := dkwX8_bestFree_4 ++ dktX8_bestFree_5
def dkwX8_bestFree_3 : List UInt8 := [21, 5, 17, 1, 105, 162, 0, 24, 21, 5, 29, 160, 0, 18, 42, 180, 0, 192, 42, 180, 0, 201]
abbrev dktX8_bestFree_3 : List UInt8 := dkwX8_bestFree_3 ++ dktX8_bestFree_4
def dkwX8_bestFree_2 : List UInt8 := [153, 0, 12, 42, 27, 28, 182, 0, 198, 167, 0, 6, 17, 1, 105, 54, 5, 21, 5, 29, 161, 0, 28]
abbrev dktX8_bestFree_2 : List UInt8 := dkwX8_bestFree_2 ++ dktX8_bestFree_3
def dkwX8_bestFree_1 : List UInt8 := [21, 4, 21, 4, 79, 132, 4, 1, 167, 255, 238, 4, 54, 4, 21, 4, 153, 0, 118, 42, 28, 182, 0, 195]
abbrev dktX8_bestFree_1 : List UInt8 := dkwX8_bestFree_1 ++ dktX8_bestFree_2
def dkwX8_bestFree_0 : List UInt8 := [42, 180, 0, 46, 6, 46, 61, 17, 1, 105, 62, 3, 54, 4, 21, 4, 28, 162, 0, 18, 42, 180, 0, 40]
abbrev dktX8_bestFree_0 : List UInt8 := dkwX8_bestFree_0 ++ dktX8_bestFree_1
theorem dksX8_bestFree_0 : cX8_bestFree.data.toList.drop 0 = dktX8_bestFree_0 := by decide +kernel
theorem dksX8_bestFree_1 : cX8_bestFree.data.toList.drop 24 = dktX8_bestFree_1 := dk_seg dksX8_bestFree_0 24 rfl rfl
theorem dksX8_bestFree_2 : cX8_bestFree.data.toList.drop 48 = dktX8_bestFree_2 := dk_seg dksX8_bestFree_1 24 rfl rfl
theorem dksX8_bestFree_3 : cX8_bestFree.data.toList.drop 71 = dktX8_bestFree_3 := dk_seg dksX8_bestFree_2 23 rfl rfl
theorem dksX8_bestFree_4 : cX8_bestFree.data.toList.drop 93 = dktX8_bestFree_4 := dk_seg dksX8_bestFree_3 22 rfl rfl
theorem dksX8_bestFree_5 : cX8_bestFree.data.toList.drop 116 = dktX8_bestFree_5 := dk_seg dksX8_bestFree_4 23 rfl rfl
theorem dksX8_bestFree_6 : cX8_bestFree.data.toList.drop 140 = dktX8_bestFree_6 := dk_seg dksX8_bestFree_5 24 rfl rfl
theorem dX8_bestFree_0 : decode cX8_bestFree 0 = .ok (.aload_n 0, 1) := dk_42 (dk_at dksX8_bestFree_0 0 rfl rfl)
theorem dX8_bestFree_1 : decode cX8_bestFree 1 = .ok (.getfield 46, 3) := dk_180 0 46 (dk_at dksX8_bestFree_0 1 rfl rfl)
theorem dX8_bestFree_4 : decode cX8_bestFree 4 = .ok (.iconst 3, 1) := dk_6 (dk_at dksX8_bestFree_0 4 rfl rfl)
theorem dX8_bestFree_5 : decode cX8_bestFree 5 = .ok (.iaload, 1) := dk_46 (dk_at dksX8_bestFree_0 5 rfl rfl)
theorem dX8_bestFree_6 : decode cX8_bestFree 6 = .ok (.istore_n 2, 1) := dk_61 (dk_at dksX8_bestFree_0 6 rfl rfl)
theorem dX8_bestFree_7 : decode cX8_bestFree 7 = .ok (.sipush 361, 3) := dk_17 1 105 (dk_at dksX8_bestFree_0 7 rfl rfl)
theorem dX8_bestFree_10 : decode cX8_bestFree 10 = .ok (.istore_n 3, 1) := dk_62 (dk_at dksX8_bestFree_0 10 rfl rfl)
theorem dX8_bestFree_11 : decode cX8_bestFree 11 = .ok (.iconst 0, 1) := dk_3 (dk_at dksX8_bestFree_0 11 rfl rfl)
theorem dX8_bestFree_12 : decode cX8_bestFree 12 = .ok (.istore 4, 2) := dk_54 4 (dk_at dksX8_bestFree_0 12 rfl rfl)
theorem dX8_bestFree_14 : decode cX8_bestFree 14 = .ok (.iload 4, 2) := dk_21 4 (dk_at dksX8_bestFree_0 14 rfl rfl)
theorem dX8_bestFree_16 : decode cX8_bestFree 16 = .ok (.iload_n 2, 1) := dk_28 (dk_at dksX8_bestFree_0 16 rfl rfl)
theorem dX8_bestFree_17 : decode cX8_bestFree 17 = .ok (.if_icmp .ge 18, 3) := dk_162 0 18 (dk_at dksX8_bestFree_0 17 rfl rfl)
theorem dX8_bestFree_20 : decode cX8_bestFree 20 = .ok (.aload_n 0, 1) := dk_42 (dk_at dksX8_bestFree_0 20 rfl rfl)
theorem dX8_bestFree_21 : decode cX8_bestFree 21 = .ok (.getfield 40, 3) := dk_180 0 40 (dk_at dksX8_bestFree_0 21 rfl rfl)
theorem dX8_bestFree_24 : decode cX8_bestFree 24 = .ok (.iload 4, 2) := dk_21 4 (dk_at dksX8_bestFree_1 0 rfl rfl)
theorem dX8_bestFree_26 : decode cX8_bestFree 26 = .ok (.iload 4, 2) := dk_21 4 (dk_at dksX8_bestFree_1 2 rfl rfl)
theorem dX8_bestFree_28 : decode cX8_bestFree 28 = .ok (.iastore, 1) := dk_79 (dk_at dksX8_bestFree_1 4 rfl rfl)
theorem dX8_bestFree_29 : decode cX8_bestFree 29 = .ok (.iinc 4 1, 3) := dk_132 4 1 (dk_at dksX8_bestFree_1 5 rfl rfl)
theorem dX8_bestFree_32 : decode cX8_bestFree 32 = .ok (.goto (-18), 3) := dk_167 255 238 (dk_at dksX8_bestFree_1 8 rfl rfl)
theorem dX8_bestFree_35 : decode cX8_bestFree 35 = .ok (.iconst 1, 1) := dk_4 (dk_at dksX8_bestFree_1 11 rfl rfl)
theorem dX8_bestFree_36 : decode cX8_bestFree 36 = .ok (.istore 4, 2) := dk_54 4 (dk_at dksX8_bestFree_1 12 rfl rfl)
theorem dX8_bestFree_38 : decode cX8_bestFree 38 = .ok (.iload 4, 2) := dk_21 4 (dk_at dksX8_bestFree_1 14 rfl rfl)
theorem dX8_bestFree_40 : decode cX8_bestFree 40 = .ok (.ifCond .eq 118, 3) := dk_153 0 118 (dk_at dksX8_bestFree_1 16 rfl rfl)
theorem dX8_bestFree_43 : decode cX8_bestFree 43 = .ok (.aload_n 0, 1) := dk_42 (dk_at dksX8_bestFree_1 19 rfl rfl)
theorem dX8_bestFree_44 : decode cX8_bestFree 44 = .ok (.iload_n 2, 1) := dk_28 (dk_at dksX8_bestFree_1 20 rfl rfl)
theorem dX8_bestFree_45 : decode cX8_bestFree 45 = .ok (.invokevirtual 195, 3) := dk_182 0 195 (dk_at dksX8_bestFree_1 21 rfl rfl)
theorem dX8_bestFree_48 : decode cX8_bestFree 48 = .ok (.ifCond .eq 12, 3) := dk_153 0 12 (dk_at dksX8_bestFree_2 0 rfl rfl)
theorem dX8_bestFree_51 : decode cX8_bestFree 51 = .ok (.aload_n 0, 1) := dk_42 (dk_at dksX8_bestFree_2 3 rfl rfl)
theorem dX8_bestFree_52 : decode cX8_bestFree 52 = .ok (.iload_n 1, 1) := dk_27 (dk_at dksX8_bestFree_2 4 rfl rfl)
theorem dX8_bestFree_53 : decode cX8_bestFree 53 = .ok (.iload_n 2, 1) := dk_28 (dk_at dksX8_bestFree_2 5 rfl rfl)
theorem dX8_bestFree_54 : decode cX8_bestFree 54 = .ok (.invokevirtual 198, 3) := dk_182 0 198 (dk_at dksX8_bestFree_2 6 rfl rfl)
theorem dX8_bestFree_57 : decode cX8_bestFree 57 = .ok (.goto 6, 3) := dk_167 0 6 (dk_at dksX8_bestFree_2 9 rfl rfl)
theorem dX8_bestFree_60 : decode cX8_bestFree 60 = .ok (.sipush 361, 3) := dk_17 1 105 (dk_at dksX8_bestFree_2 12 rfl rfl)
theorem dX8_bestFree_63 : decode cX8_bestFree 63 = .ok (.istore 5, 2) := dk_54 5 (dk_at dksX8_bestFree_2 15 rfl rfl)
theorem dX8_bestFree_65 : decode cX8_bestFree 65 = .ok (.iload 5, 2) := dk_21 5 (dk_at dksX8_bestFree_2 17 rfl rfl)
theorem dX8_bestFree_67 : decode cX8_bestFree 67 = .ok (.iload_n 3, 1) := dk_29 (dk_at dksX8_bestFree_2 19 rfl rfl)
theorem dX8_bestFree_68 : decode cX8_bestFree 68 = .ok (.if_icmp .lt 28, 3) := dk_161 0 28 (dk_at dksX8_bestFree_2 20 rfl rfl)
theorem dX8_bestFree_71 : decode cX8_bestFree 71 = .ok (.iload 5, 2) := dk_21 5 (dk_at dksX8_bestFree_3 0 rfl rfl)
theorem dX8_bestFree_73 : decode cX8_bestFree 73 = .ok (.sipush 361, 3) := dk_17 1 105 (dk_at dksX8_bestFree_3 2 rfl rfl)
theorem dX8_bestFree_76 : decode cX8_bestFree 76 = .ok (.if_icmp .ge 24, 3) := dk_162 0 24 (dk_at dksX8_bestFree_3 5 rfl rfl)
theorem dX8_bestFree_79 : decode cX8_bestFree 79 = .ok (.iload 5, 2) := dk_21 5 (dk_at dksX8_bestFree_3 8 rfl rfl)
theorem dX8_bestFree_81 : decode cX8_bestFree 81 = .ok (.iload_n 3, 1) := dk_29 (dk_at dksX8_bestFree_3 10 rfl rfl)
theorem dX8_bestFree_82 : decode cX8_bestFree 82 = .ok (.if_icmp .ne 18, 3) := dk_160 0 18 (dk_at dksX8_bestFree_3 11 rfl rfl)
theorem dX8_bestFree_85 : decode cX8_bestFree 85 = .ok (.aload_n 0, 1) := dk_42 (dk_at dksX8_bestFree_3 14 rfl rfl)
theorem dX8_bestFree_86 : decode cX8_bestFree 86 = .ok (.getfield 192, 3) := dk_180 0 192 (dk_at dksX8_bestFree_3 15 rfl rfl)
theorem dX8_bestFree_89 : decode cX8_bestFree 89 = .ok (.aload_n 0, 1) := dk_42 (dk_at dksX8_bestFree_3 18 rfl rfl)
theorem dX8_bestFree_90 : decode cX8_bestFree 90 = .ok (.getfield 201, 3) := dk_180 0 201 (dk_at dksX8_bestFree_3 19 rfl rfl)
theorem dX8_bestFree_93 : decode cX8_bestFree 93 = .ok (.if_icmp .ge 7, 3) := dk_162 0 7 (dk_at dksX8_bestFree_4 0 rfl rfl)
theorem dX8_bestFree_96 : decode cX8_bestFree 96 = .ok (.iconst 1, 1) := dk_4 (dk_at dksX8_bestFree_4 3 rfl rfl)
theorem dX8_bestFree_97 : decode cX8_bestFree 97 = .ok (.goto 4, 3) := dk_167 0 4 (dk_at dksX8_bestFree_4 4 rfl rfl)
theorem dX8_bestFree_100 : decode cX8_bestFree 100 = .ok (.iconst 0, 1) := dk_3 (dk_at dksX8_bestFree_4 7 rfl rfl)
theorem dX8_bestFree_101 : decode cX8_bestFree 101 = .ok (.istore 6, 2) := dk_54 6 (dk_at dksX8_bestFree_4 8 rfl rfl)
theorem dX8_bestFree_103 : decode cX8_bestFree 103 = .ok (.iload 6, 2) := dk_21 6 (dk_at dksX8_bestFree_4 10 rfl rfl)
theorem dX8_bestFree_105 : decode cX8_bestFree 105 = .ok (.ifCond .eq 43, 3) := dk_153 0 43 (dk_at dksX8_bestFree_4 12 rfl rfl)
theorem dX8_bestFree_108 : decode cX8_bestFree 108 = .ok (.iload 5, 2) := dk_21 5 (dk_at dksX8_bestFree_4 15 rfl rfl)
theorem dX8_bestFree_110 : decode cX8_bestFree 110 = .ok (.istore_n 3, 1) := dk_62 (dk_at dksX8_bestFree_4 17 rfl rfl)
theorem dX8_bestFree_111 : decode cX8_bestFree 111 = .ok (.aload_n 0, 1) := dk_42 (dk_at dksX8_bestFree_4 18 rfl rfl)
theorem dX8_bestFree_112 : decode cX8_bestFree 112 = .ok (.aload_n 0, 1) := dk_42 (dk_at dksX8_bestFree_4 19 rfl rfl)
theorem dX8_bestFree_113 : decode cX8_bestFree 113 = .ok (.getfield 192, 3) := dk_180 0 192 (dk_at dksX8_bestFree_4 20 rfl rfl)
theorem dX8_bestFree_116 : decode cX8_bestFree 116 = .ok (.putfield 201, 3) := dk_181 0 201 (dk_at dksX8_bestFree_5 0 rfl rfl)
theorem dX8_bestFree_119 : decode cX8_bestFree 119 = .ok (.iconst 0, 1) := dk_3 (dk_at dksX8_bestFree_5 3 rfl rfl)
theorem dX8_bestFree_120 : decode cX8_bestFree 120 = .ok (.istore 7, 2) := dk_54 7 (dk_at dksX8_bestFree_5 4 rfl rfl)
theorem dX8_bestFree_122 : decode cX8_bestFree 122 = .ok (.iload 7, 2) := dk_21 7 (dk_at dksX8_bestFree_5 6 rfl rfl)
theorem dX8_bestFree_124 : decode cX8_bestFree 124 = .ok (.iload_n 2, 1) := dk_28 (dk_at dksX8_bestFree_5 8 rfl rfl)
theorem dX8_bestFree_125 : decode cX8_bestFree 125 = .ok (.if_icmp .ge 23, 3) := dk_162 0 23 (dk_at dksX8_bestFree_5 9 rfl rfl)
theorem dX8_bestFree_128 : decode cX8_bestFree 128 = .ok (.aload_n 0, 1) := dk_42 (dk_at dksX8_bestFree_5 12 rfl rfl)
theorem dX8_bestFree_129 : decode cX8_bestFree 129 = .ok (.getfield 43, 3) := dk_180 0 43 (dk_at dksX8_bestFree_5 13 rfl rfl)
theorem dX8_bestFree_132 : decode cX8_bestFree 132 = .ok (.iload 7, 2) := dk_21 7 (dk_at dksX8_bestFree_5 16 rfl rfl)
theorem dX8_bestFree_134 : decode cX8_bestFree 134 = .ok (.aload_n 0, 1) := dk_42 (dk_at dksX8_bestFree_5 18 rfl rfl)
theorem dX8_bestFree_135 : decode cX8_bestFree 135 = .ok (.getfield 40, 3) := dk_180 0 40 (dk_at dksX8_bestFree_5 19 rfl rfl)
theorem dX8_bestFree_138 : decode cX8_bestFree 138 = .ok (.iload 7, 2) := dk_21 7 (dk_at dksX8_bestFree_5 22 rfl rfl)
theorem dX8_bestFree_140 : decode cX8_bestFree 140 = .ok (.iaload, 1) := dk_46 (dk_at dksX8_bestFree_6 0 rfl rfl)
theorem dX8_bestFree_141 : decode cX8_bestFree 141 = .ok (.iastore, 1) := dk_79 (dk_at dksX8_bestFree_6 1 rfl rfl)
theorem dX8_bestFree_142 : decode cX8_bestFree 142 = .ok (.iinc 7 1, 3) := dk_132 7 1 (dk_at dksX8_bestFree_6 2 rfl rfl)
theorem dX8_bestFree_145 : decode cX8_bestFree 145 = .ok (.goto (-23), 3) := dk_167 255 233 (dk_at dksX8_bestFree_6 5 rfl rfl)
theorem dX8_bestFree_148 : decode cX8_bestFree 148 = .ok (.aload_n 0, 1) := dk_42 (dk_at dksX8_bestFree_6 8 rfl rfl)
theorem dX8_bestFree_149 : decode cX8_bestFree 149 = .ok (.iload_n 2, 1) := dk_28 (dk_at dksX8_bestFree_6 9 rfl rfl)
theorem dX8_bestFree_150 : decode cX8_bestFree 150 = .ok (.invokevirtual 204, 3) := dk_182 0 204 (dk_at dksX8_bestFree_6 10 rfl rfl)
theorem dX8_bestFree_153 : decode cX8_bestFree 153 = .ok (.istore 4, 2) := dk_54 4 (dk_at dksX8_bestFree_6 13 rfl rfl)
theorem dX8_bestFree_155 : decode cX8_bestFree 155 = .ok (.goto (-117), 3) := dk_167 255 139 (dk_at dksX8_bestFree_6 15 rfl rfl)
theorem dX8_bestFree_158 : decode cX8_bestFree 158 = .ok (.iload_n 3, 1) := dk_29 (dk_at dksX8_bestFree_6 18 rfl rfl)
theorem dX8_bestFree_159 : decode cX8_bestFree 159 = .ok (.ireturn, 1) := dk_172 (dk_at dksX8_bestFree_6 19 rfl rfl)
abbrev cX8_isLawful : ByteArray := prog_10_method_41_code
def yX8_isLawful : MethodName := ⟨RX8, "isLawful", "(I)Z"⟩
def dkwX8_isLawful_3 : List UInt8 := [157, 0, 10, 29, 27, 4, 100, 160, 0, 7, 4, 167, 0, 4, 3, 61, 132, 3, 1, 167, 255, 173, 28, 172]
abbrev dktX8_isLawful_3 : List UInt8 := dkwX8_isLawful_3 ++ []
def dkwX8_isLawful_2 : List UInt8 := [160, 0, 16, 42, 180, 0, 40, 29, 46, 29, 160, 0, 26, 167, 0, 19, 42, 180, 0, 40, 29, 46]
abbrev dktX8_isLawful_2 : List UInt8 := dkwX8_isLawful_2 ++ dktX8_isLawful_3
def dkwX8_isLawful_1 : List UInt8 := [180, 0, 40, 29, 46, 27, 4, 100, 29, 100, 160, 0, 49, 167, 0, 42, 42, 180, 0, 25, 3, 46, 4]
abbrev dktX8_isLawful_1 : List UInt8 := dkwX8_isLawful_1 ++ dktX8_isLawful_2
def dkwX8_isLawful_0 : List UInt8 := [4, 61, 3, 62, 29, 27, 162, 0, 84, 28, 153, 0, 72, 42, 180, 0, 25, 3, 46, 154, 0, 20, 42]
abbrev dktX8_isLawful_0 : List UInt8 := dkwX8_isLawful_0 ++ dktX8_isLawful_1
theorem dksX8_isLawful_0 : cX8_isLawful.data.toList.drop 0 = dktX8_isLawful_0 := by decide +kernel
theorem dksX8_isLawful_1 : cX8_isLawful.data.toList.drop 23 = dktX8_isLawful_1 := dk_seg dksX8_isLawful_0 23 rfl rfl
theorem dksX8_isLawful_2 : cX8_isLawful.data.toList.drop 46 = dktX8_isLawful_2 := dk_seg dksX8_isLawful_1 23 rfl rfl
theorem dksX8_isLawful_3 : cX8_isLawful.data.toList.drop 68 = dktX8_isLawful_3 := dk_seg dksX8_isLawful_2 22 rfl rfl
theorem dX8_isLawful_0 : decode cX8_isLawful 0 = .ok (.iconst 1, 1) := dk_4 (dk_at dksX8_isLawful_0 0 rfl rfl)
theorem dX8_isLawful_1 : decode cX8_isLawful 1 = .ok (.istore_n 2, 1) := dk_61 (dk_at dksX8_isLawful_0 1 rfl rfl)
theorem dX8_isLawful_2 : decode cX8_isLawful 2 = .ok (.iconst 0, 1) := dk_3 (dk_at dksX8_isLawful_0 2 rfl rfl)
theorem dX8_isLawful_3 : decode cX8_isLawful 3 = .ok (.istore_n 3, 1) := dk_62 (dk_at dksX8_isLawful_0 3 rfl rfl)
theorem dX8_isLawful_4 : decode cX8_isLawful 4 = .ok (.iload_n 3, 1) := dk_29 (dk_at dksX8_isLawful_0 4 rfl rfl)
theorem dX8_isLawful_5 : decode cX8_isLawful 5 = .ok (.iload_n 1, 1) := dk_27 (dk_at dksX8_isLawful_0 5 rfl rfl)
theorem dX8_isLawful_6 : decode cX8_isLawful 6 = .ok (.if_icmp .ge 84, 3) := dk_162 0 84 (dk_at dksX8_isLawful_0 6 rfl rfl)
theorem dX8_isLawful_9 : decode cX8_isLawful 9 = .ok (.iload_n 2, 1) := dk_28 (dk_at dksX8_isLawful_0 9 rfl rfl)
theorem dX8_isLawful_10 : decode cX8_isLawful 10 = .ok (.ifCond .eq 72, 3) := dk_153 0 72 (dk_at dksX8_isLawful_0 10 rfl rfl)
theorem dX8_isLawful_13 : decode cX8_isLawful 13 = .ok (.aload_n 0, 1) := dk_42 (dk_at dksX8_isLawful_0 13 rfl rfl)
theorem dX8_isLawful_14 : decode cX8_isLawful 14 = .ok (.getfield 25, 3) := dk_180 0 25 (dk_at dksX8_isLawful_0 14 rfl rfl)
theorem dX8_isLawful_17 : decode cX8_isLawful 17 = .ok (.iconst 0, 1) := dk_3 (dk_at dksX8_isLawful_0 17 rfl rfl)
theorem dX8_isLawful_18 : decode cX8_isLawful 18 = .ok (.iaload, 1) := dk_46 (dk_at dksX8_isLawful_0 18 rfl rfl)
theorem dX8_isLawful_19 : decode cX8_isLawful 19 = .ok (.ifCond .ne 20, 3) := dk_154 0 20 (dk_at dksX8_isLawful_0 19 rfl rfl)
theorem dX8_isLawful_22 : decode cX8_isLawful 22 = .ok (.aload_n 0, 1) := dk_42 (dk_at dksX8_isLawful_0 22 rfl rfl)
theorem dX8_isLawful_23 : decode cX8_isLawful 23 = .ok (.getfield 40, 3) := dk_180 0 40 (dk_at dksX8_isLawful_1 0 rfl rfl)
theorem dX8_isLawful_26 : decode cX8_isLawful 26 = .ok (.iload_n 3, 1) := dk_29 (dk_at dksX8_isLawful_1 3 rfl rfl)
theorem dX8_isLawful_27 : decode cX8_isLawful 27 = .ok (.iaload, 1) := dk_46 (dk_at dksX8_isLawful_1 4 rfl rfl)
theorem dX8_isLawful_28 : decode cX8_isLawful 28 = .ok (.iload_n 1, 1) := dk_27 (dk_at dksX8_isLawful_1 5 rfl rfl)
theorem dX8_isLawful_29 : decode cX8_isLawful 29 = .ok (.iconst 1, 1) := dk_4 (dk_at dksX8_isLawful_1 6 rfl rfl)
theorem dX8_isLawful_30 : decode cX8_isLawful 30 = .ok (.isub, 1) := dk_100 (dk_at dksX8_isLawful_1 7 rfl rfl)
theorem dX8_isLawful_31 : decode cX8_isLawful 31 = .ok (.iload_n 3, 1) := dk_29 (dk_at dksX8_isLawful_1 8 rfl rfl)
theorem dX8_isLawful_32 : decode cX8_isLawful 32 = .ok (.isub, 1) := dk_100 (dk_at dksX8_isLawful_1 9 rfl rfl)
theorem dX8_isLawful_33 : decode cX8_isLawful 33 = .ok (.if_icmp .ne 49, 3) := dk_160 0 49 (dk_at dksX8_isLawful_1 10 rfl rfl)
theorem dX8_isLawful_36 : decode cX8_isLawful 36 = .ok (.goto 42, 3) := dk_167 0 42 (dk_at dksX8_isLawful_1 13 rfl rfl)
theorem dX8_isLawful_39 : decode cX8_isLawful 39 = .ok (.aload_n 0, 1) := dk_42 (dk_at dksX8_isLawful_1 16 rfl rfl)
theorem dX8_isLawful_40 : decode cX8_isLawful 40 = .ok (.getfield 25, 3) := dk_180 0 25 (dk_at dksX8_isLawful_1 17 rfl rfl)
theorem dX8_isLawful_43 : decode cX8_isLawful 43 = .ok (.iconst 0, 1) := dk_3 (dk_at dksX8_isLawful_1 20 rfl rfl)
theorem dX8_isLawful_44 : decode cX8_isLawful 44 = .ok (.iaload, 1) := dk_46 (dk_at dksX8_isLawful_1 21 rfl rfl)
theorem dX8_isLawful_45 : decode cX8_isLawful 45 = .ok (.iconst 1, 1) := dk_4 (dk_at dksX8_isLawful_1 22 rfl rfl)
theorem dX8_isLawful_46 : decode cX8_isLawful 46 = .ok (.if_icmp .ne 16, 3) := dk_160 0 16 (dk_at dksX8_isLawful_2 0 rfl rfl)
theorem dX8_isLawful_49 : decode cX8_isLawful 49 = .ok (.aload_n 0, 1) := dk_42 (dk_at dksX8_isLawful_2 3 rfl rfl)
theorem dX8_isLawful_50 : decode cX8_isLawful 50 = .ok (.getfield 40, 3) := dk_180 0 40 (dk_at dksX8_isLawful_2 4 rfl rfl)
theorem dX8_isLawful_53 : decode cX8_isLawful 53 = .ok (.iload_n 3, 1) := dk_29 (dk_at dksX8_isLawful_2 7 rfl rfl)
theorem dX8_isLawful_54 : decode cX8_isLawful 54 = .ok (.iaload, 1) := dk_46 (dk_at dksX8_isLawful_2 8 rfl rfl)
theorem dX8_isLawful_55 : decode cX8_isLawful 55 = .ok (.iload_n 3, 1) := dk_29 (dk_at dksX8_isLawful_2 9 rfl rfl)
theorem dX8_isLawful_56 : decode cX8_isLawful 56 = .ok (.if_icmp .ne 26, 3) := dk_160 0 26 (dk_at dksX8_isLawful_2 10 rfl rfl)
theorem dX8_isLawful_59 : decode cX8_isLawful 59 = .ok (.goto 19, 3) := dk_167 0 19 (dk_at dksX8_isLawful_2 13 rfl rfl)
theorem dX8_isLawful_62 : decode cX8_isLawful 62 = .ok (.aload_n 0, 1) := dk_42 (dk_at dksX8_isLawful_2 16 rfl rfl)
theorem dX8_isLawful_63 : decode cX8_isLawful 63 = .ok (.getfield 40, 3) := dk_180 0 40 (dk_at dksX8_isLawful_2 17 rfl rfl)
theorem dX8_isLawful_66 : decode cX8_isLawful 66 = .ok (.iload_n 3, 1) := dk_29 (dk_at dksX8_isLawful_2 20 rfl rfl)
theorem dX8_isLawful_67 : decode cX8_isLawful 67 = .ok (.iaload, 1) := dk_46 (dk_at dksX8_isLawful_2 21 rfl rfl)
theorem dX8_isLawful_68 : decode cX8_isLawful 68 = .ok (.ifCond .gt 10, 3) := dk_157 0 10 (dk_at dksX8_isLawful_3 0 rfl rfl)
theorem dX8_isLawful_71 : decode cX8_isLawful 71 = .ok (.iload_n 3, 1) := dk_29 (dk_at dksX8_isLawful_3 3 rfl rfl)
theorem dX8_isLawful_72 : decode cX8_isLawful 72 = .ok (.iload_n 1, 1) := dk_27 (dk_at dksX8_isLawful_3 4 rfl rfl)
theorem dX8_isLawful_73 : decode cX8_isLawful 73 = .ok (.iconst 1, 1) := dk_4 (dk_at dksX8_isLawful_3 5 rfl rfl)
theorem dX8_isLawful_74 : decode cX8_isLawful 74 = .ok (.isub, 1) := dk_100 (dk_at dksX8_isLawful_3 6 rfl rfl)
theorem dX8_isLawful_75 : decode cX8_isLawful 75 = .ok (.if_icmp .ne 7, 3) := dk_160 0 7 (dk_at dksX8_isLawful_3 7 rfl rfl)
theorem dX8_isLawful_78 : decode cX8_isLawful 78 = .ok (.iconst 1, 1) := dk_4 (dk_at dksX8_isLawful_3 10 rfl rfl)
theorem dX8_isLawful_79 : decode cX8_isLawful 79 = .ok (.goto 4, 3) := dk_167 0 4 (dk_at dksX8_isLawful_3 11 rfl rfl)
theorem dX8_isLawful_82 : decode cX8_isLawful 82 = .ok (.iconst 0, 1) := dk_3 (dk_at dksX8_isLawful_3 14 rfl rfl)
theorem dX8_isLawful_83 : decode cX8_isLawful 83 = .ok (.istore_n 2, 1) := dk_61 (dk_at dksX8_isLawful_3 15 rfl rfl)
theorem dX8_isLawful_84 : decode cX8_isLawful 84 = .ok (.iinc 3 1, 3) := dk_132 3 1 (dk_at dksX8_isLawful_3 16 rfl rfl)
theorem dX8_isLawful_87 : decode cX8_isLawful 87 = .ok (.goto (-83), 3) := dk_167 255 173 (dk_at dksX8_isLawful_3 19 rfl rfl)
theorem dX8_isLawful_90 : decode cX8_isLawful 90 = .ok (.iload_n 2, 1) := dk_28 (dk_at dksX8_isLawful_3 22 rfl rfl)
theorem dX8_isLawful_91 : decode cX8_isLawful 91 = .ok (.ireturn, 1) := dk_172 (dk_at dksX8_isLawful_3 23 rfl rfl)
abbrev cX8_freeBy : ByteArray := prog_10_method_39_code
def yX8_freeBy : MethodName := ⟨RX8, "freeBy", "(II)I"⟩
def dkwX8_freeBy_10 : List UInt8 := [182, 0, 158, 132, 5, 1, 167, 255, 72, 17, 1, 105, 172]
abbrev dktX8_freeBy_10 : List UInt8 := dkwX8_freeBy_10 ++ []
def dkwX8_freeBy_9 : List UInt8 := [162, 0, 7, 4, 167, 0, 4, 3, 54, 6, 167, 255, 113, 21, 4, 28, 160, 0, 6, 21, 5, 172, 42, 27]
abbrev dktX8_freeBy_9 : List UInt8 := dkwX8_freeBy_9 ++ dktX8_freeBy_10
def dkwX8_freeBy_8 : List UInt8 := [180, 0, 192, 21, 8, 96, 181, 0, 192, 42, 27, 21, 7, 182, 0, 173, 132, 4, 1, 21, 4, 28]
abbrev dktX8_freeBy_8 : List UInt8 := dkwX8_freeBy_8 ++ dktX8_freeBy_9
def dkwX8_freeBy_7 : List UInt8 := [167, 0, 4, 3, 54, 6, 21, 6, 153, 0, 48, 42, 180, 0, 13, 29, 92, 46, 21, 8, 100, 79, 42, 89]
abbrev dktX8_freeBy_7 : List UInt8 := dkwX8_freeBy_7 ++ dktX8_freeBy_8
def dkwX8_freeBy_6 : List UInt8 := [96, 7, 21, 7, 104, 96, 4, 96, 46, 54, 8, 42, 180, 0, 13, 29, 46, 21, 8, 161, 0, 7, 4]
abbrev dktX8_freeBy_6 : List UInt8 := dkwX8_freeBy_6 ++ dktX8_freeBy_7
def dkwX8_freeBy_5 : List UInt8 := [162, 0, 7, 4, 167, 0, 4, 3, 100, 54, 7, 132, 8, 1, 167, 255, 219, 42, 180, 0, 13, 29, 16, 8]
abbrev dktX8_freeBy_5 : List UInt8 := dkwX8_freeBy_5 ++ dktX8_freeBy_6
def dkwX8_freeBy_4 : List UInt8 := [21, 8, 21, 4, 162, 0, 36, 21, 7, 42, 180, 0, 40, 21, 8, 46, 42, 180, 0, 40, 21, 4, 46]
abbrev dktX8_freeBy_4 : List UInt8 := dkwX8_freeBy_4 ++ dktX8_freeBy_5
def dkwX8_freeBy_3 : List UInt8 := [167, 0, 4, 3, 54, 6, 21, 6, 153, 0, 144, 42, 180, 0, 40, 21, 4, 46, 54, 7, 3, 54, 8]
abbrev dktX8_freeBy_3 : List UInt8 := dkwX8_freeBy_3 ++ dktX8_freeBy_4
def dkwX8_freeBy_2 : List UInt8 := [181, 0, 192, 3, 54, 4, 3, 54, 5, 21, 5, 17, 1, 104, 163, 0, 182, 21, 4, 28, 162, 0, 7, 4]
abbrev dktX8_freeBy_2 : List UInt8 := dkwX8_freeBy_2 ++ dktX8_freeBy_3
def dkwX8_freeBy_1 : List UInt8 := [180, 0, 46, 21, 4, 46, 79, 132, 4, 1, 167, 255, 230, 42, 42, 180, 0, 13, 181, 0, 16, 42, 3]
abbrev dktX8_freeBy_1 : List UInt8 := dkwX8_freeBy_1 ++ dktX8_freeBy_2
def dkwX8_freeBy_0 : List UInt8 := [16, 40, 27, 104, 62, 3, 54, 4, 21, 4, 16, 40, 162, 0, 25, 42, 180, 0, 13, 29, 21, 4, 96, 42]
abbrev dktX8_freeBy_0 : List UInt8 := dkwX8_freeBy_0 ++ dktX8_freeBy_1
theorem dksX8_freeBy_0 : cX8_freeBy.data.toList.drop 0 = dktX8_freeBy_0 := by decide +kernel
theorem dksX8_freeBy_1 : cX8_freeBy.data.toList.drop 24 = dktX8_freeBy_1 := dk_seg dksX8_freeBy_0 24 rfl rfl
theorem dksX8_freeBy_2 : cX8_freeBy.data.toList.drop 47 = dktX8_freeBy_2 := dk_seg dksX8_freeBy_1 23 rfl rfl
theorem dksX8_freeBy_3 : cX8_freeBy.data.toList.drop 71 = dktX8_freeBy_3 := dk_seg dksX8_freeBy_2 24 rfl rfl
theorem dksX8_freeBy_4 : cX8_freeBy.data.toList.drop 94 = dktX8_freeBy_4 := dk_seg dksX8_freeBy_3 23 rfl rfl
theorem dksX8_freeBy_5 : cX8_freeBy.data.toList.drop 117 = dktX8_freeBy_5 := dk_seg dksX8_freeBy_4 23 rfl rfl
theorem dksX8_freeBy_6 : cX8_freeBy.data.toList.drop 141 = dktX8_freeBy_6 := dk_seg dksX8_freeBy_5 24 rfl rfl
theorem dksX8_freeBy_7 : cX8_freeBy.data.toList.drop 164 = dktX8_freeBy_7 := dk_seg dksX8_freeBy_6 23 rfl rfl
theorem dksX8_freeBy_8 : cX8_freeBy.data.toList.drop 188 = dktX8_freeBy_8 := dk_seg dksX8_freeBy_7 24 rfl rfl
theorem dksX8_freeBy_9 : cX8_freeBy.data.toList.drop 210 = dktX8_freeBy_9 := dk_seg dksX8_freeBy_8 22 rfl rfl
theorem dksX8_freeBy_10 : cX8_freeBy.data.toList.drop 234 = dktX8_freeBy_10 := dk_seg dksX8_freeBy_9 24 rfl rfl
theorem dX8_freeBy_0 : decode cX8_freeBy 0 = .ok (.bipush 40, 2) := dk_16 40 (dk_at dksX8_freeBy_0 0 rfl rfl)
theorem dX8_freeBy_2 : decode cX8_freeBy 2 = .ok (.iload_n 1, 1) := dk_27 (dk_at dksX8_freeBy_0 2 rfl rfl)
theorem dX8_freeBy_3 : decode cX8_freeBy 3 = .ok (.imul, 1) := dk_104 (dk_at dksX8_freeBy_0 3 rfl rfl)
theorem dX8_freeBy_4 : decode cX8_freeBy 4 = .ok (.istore_n 3, 1) := dk_62 (dk_at dksX8_freeBy_0 4 rfl rfl)
theorem dX8_freeBy_5 : decode cX8_freeBy 5 = .ok (.iconst 0, 1) := dk_3 (dk_at dksX8_freeBy_0 5 rfl rfl)
theorem dX8_freeBy_6 : decode cX8_freeBy 6 = .ok (.istore 4, 2) := dk_54 4 (dk_at dksX8_freeBy_0 6 rfl rfl)
theorem dX8_freeBy_8 : decode cX8_freeBy 8 = .ok (.iload 4, 2) := dk_21 4 (dk_at dksX8_freeBy_0 8 rfl rfl)
theorem dX8_freeBy_10 : decode cX8_freeBy 10 = .ok (.bipush 40, 2) := dk_16 40 (dk_at dksX8_freeBy_0 10 rfl rfl)
theorem dX8_freeBy_12 : decode cX8_freeBy 12 = .ok (.if_icmp .ge 25, 3) := dk_162 0 25 (dk_at dksX8_freeBy_0 12 rfl rfl)
theorem dX8_freeBy_15 : decode cX8_freeBy 15 = .ok (.aload_n 0, 1) := dk_42 (dk_at dksX8_freeBy_0 15 rfl rfl)
theorem dX8_freeBy_16 : decode cX8_freeBy 16 = .ok (.getfield 13, 3) := dk_180 0 13 (dk_at dksX8_freeBy_0 16 rfl rfl)
theorem dX8_freeBy_19 : decode cX8_freeBy 19 = .ok (.iload_n 3, 1) := dk_29 (dk_at dksX8_freeBy_0 19 rfl rfl)
theorem dX8_freeBy_20 : decode cX8_freeBy 20 = .ok (.iload 4, 2) := dk_21 4 (dk_at dksX8_freeBy_0 20 rfl rfl)
theorem dX8_freeBy_22 : decode cX8_freeBy 22 = .ok (.iadd, 1) := dk_96 (dk_at dksX8_freeBy_0 22 rfl rfl)
theorem dX8_freeBy_23 : decode cX8_freeBy 23 = .ok (.aload_n 0, 1) := dk_42 (dk_at dksX8_freeBy_0 23 rfl rfl)
theorem dX8_freeBy_24 : decode cX8_freeBy 24 = .ok (.getfield 46, 3) := dk_180 0 46 (dk_at dksX8_freeBy_1 0 rfl rfl)
theorem dX8_freeBy_27 : decode cX8_freeBy 27 = .ok (.iload 4, 2) := dk_21 4 (dk_at dksX8_freeBy_1 3 rfl rfl)
theorem dX8_freeBy_29 : decode cX8_freeBy 29 = .ok (.iaload, 1) := dk_46 (dk_at dksX8_freeBy_1 5 rfl rfl)
theorem dX8_freeBy_30 : decode cX8_freeBy 30 = .ok (.iastore, 1) := dk_79 (dk_at dksX8_freeBy_1 6 rfl rfl)
theorem dX8_freeBy_31 : decode cX8_freeBy 31 = .ok (.iinc 4 1, 3) := dk_132 4 1 (dk_at dksX8_freeBy_1 7 rfl rfl)
theorem dX8_freeBy_34 : decode cX8_freeBy 34 = .ok (.goto (-26), 3) := dk_167 255 230 (dk_at dksX8_freeBy_1 10 rfl rfl)
theorem dX8_freeBy_37 : decode cX8_freeBy 37 = .ok (.aload_n 0, 1) := dk_42 (dk_at dksX8_freeBy_1 13 rfl rfl)
theorem dX8_freeBy_38 : decode cX8_freeBy 38 = .ok (.aload_n 0, 1) := dk_42 (dk_at dksX8_freeBy_1 14 rfl rfl)
theorem dX8_freeBy_39 : decode cX8_freeBy 39 = .ok (.getfield 13, 3) := dk_180 0 13 (dk_at dksX8_freeBy_1 15 rfl rfl)
theorem dX8_freeBy_42 : decode cX8_freeBy 42 = .ok (.putfield 16, 3) := dk_181 0 16 (dk_at dksX8_freeBy_1 18 rfl rfl)
theorem dX8_freeBy_45 : decode cX8_freeBy 45 = .ok (.aload_n 0, 1) := dk_42 (dk_at dksX8_freeBy_1 21 rfl rfl)
theorem dX8_freeBy_46 : decode cX8_freeBy 46 = .ok (.iconst 0, 1) := dk_3 (dk_at dksX8_freeBy_1 22 rfl rfl)
theorem dX8_freeBy_47 : decode cX8_freeBy 47 = .ok (.putfield 192, 3) := dk_181 0 192 (dk_at dksX8_freeBy_2 0 rfl rfl)
theorem dX8_freeBy_50 : decode cX8_freeBy 50 = .ok (.iconst 0, 1) := dk_3 (dk_at dksX8_freeBy_2 3 rfl rfl)
theorem dX8_freeBy_51 : decode cX8_freeBy 51 = .ok (.istore 4, 2) := dk_54 4 (dk_at dksX8_freeBy_2 4 rfl rfl)
theorem dX8_freeBy_53 : decode cX8_freeBy 53 = .ok (.iconst 0, 1) := dk_3 (dk_at dksX8_freeBy_2 6 rfl rfl)
theorem dX8_freeBy_54 : decode cX8_freeBy 54 = .ok (.istore 5, 2) := dk_54 5 (dk_at dksX8_freeBy_2 7 rfl rfl)
theorem dX8_freeBy_56 : decode cX8_freeBy 56 = .ok (.iload 5, 2) := dk_21 5 (dk_at dksX8_freeBy_2 9 rfl rfl)
theorem dX8_freeBy_58 : decode cX8_freeBy 58 = .ok (.sipush 360, 3) := dk_17 1 104 (dk_at dksX8_freeBy_2 11 rfl rfl)
theorem dX8_freeBy_61 : decode cX8_freeBy 61 = .ok (.if_icmp .gt 182, 3) := dk_163 0 182 (dk_at dksX8_freeBy_2 14 rfl rfl)
theorem dX8_freeBy_64 : decode cX8_freeBy 64 = .ok (.iload 4, 2) := dk_21 4 (dk_at dksX8_freeBy_2 17 rfl rfl)
theorem dX8_freeBy_66 : decode cX8_freeBy 66 = .ok (.iload_n 2, 1) := dk_28 (dk_at dksX8_freeBy_2 19 rfl rfl)
theorem dX8_freeBy_67 : decode cX8_freeBy 67 = .ok (.if_icmp .ge 7, 3) := dk_162 0 7 (dk_at dksX8_freeBy_2 20 rfl rfl)
theorem dX8_freeBy_70 : decode cX8_freeBy 70 = .ok (.iconst 1, 1) := dk_4 (dk_at dksX8_freeBy_2 23 rfl rfl)
theorem dX8_freeBy_71 : decode cX8_freeBy 71 = .ok (.goto 4, 3) := dk_167 0 4 (dk_at dksX8_freeBy_3 0 rfl rfl)
theorem dX8_freeBy_74 : decode cX8_freeBy 74 = .ok (.iconst 0, 1) := dk_3 (dk_at dksX8_freeBy_3 3 rfl rfl)
theorem dX8_freeBy_75 : decode cX8_freeBy 75 = .ok (.istore 6, 2) := dk_54 6 (dk_at dksX8_freeBy_3 4 rfl rfl)
theorem dX8_freeBy_77 : decode cX8_freeBy 77 = .ok (.iload 6, 2) := dk_21 6 (dk_at dksX8_freeBy_3 6 rfl rfl)
theorem dX8_freeBy_79 : decode cX8_freeBy 79 = .ok (.ifCond .eq 144, 3) := dk_153 0 144 (dk_at dksX8_freeBy_3 8 rfl rfl)
theorem dX8_freeBy_82 : decode cX8_freeBy 82 = .ok (.aload_n 0, 1) := dk_42 (dk_at dksX8_freeBy_3 11 rfl rfl)
theorem dX8_freeBy_83 : decode cX8_freeBy 83 = .ok (.getfield 40, 3) := dk_180 0 40 (dk_at dksX8_freeBy_3 12 rfl rfl)
theorem dX8_freeBy_86 : decode cX8_freeBy 86 = .ok (.iload 4, 2) := dk_21 4 (dk_at dksX8_freeBy_3 15 rfl rfl)
theorem dX8_freeBy_88 : decode cX8_freeBy 88 = .ok (.iaload, 1) := dk_46 (dk_at dksX8_freeBy_3 17 rfl rfl)
theorem dX8_freeBy_89 : decode cX8_freeBy 89 = .ok (.istore 7, 2) := dk_54 7 (dk_at dksX8_freeBy_3 18 rfl rfl)
theorem dX8_freeBy_91 : decode cX8_freeBy 91 = .ok (.iconst 0, 1) := dk_3 (dk_at dksX8_freeBy_3 20 rfl rfl)
theorem dX8_freeBy_92 : decode cX8_freeBy 92 = .ok (.istore 8, 2) := dk_54 8 (dk_at dksX8_freeBy_3 21 rfl rfl)
theorem dX8_freeBy_94 : decode cX8_freeBy 94 = .ok (.iload 8, 2) := dk_21 8 (dk_at dksX8_freeBy_4 0 rfl rfl)
theorem dX8_freeBy_96 : decode cX8_freeBy 96 = .ok (.iload 4, 2) := dk_21 4 (dk_at dksX8_freeBy_4 2 rfl rfl)
theorem dX8_freeBy_98 : decode cX8_freeBy 98 = .ok (.if_icmp .ge 36, 3) := dk_162 0 36 (dk_at dksX8_freeBy_4 4 rfl rfl)
theorem dX8_freeBy_101 : decode cX8_freeBy 101 = .ok (.iload 7, 2) := dk_21 7 (dk_at dksX8_freeBy_4 7 rfl rfl)
theorem dX8_freeBy_103 : decode cX8_freeBy 103 = .ok (.aload_n 0, 1) := dk_42 (dk_at dksX8_freeBy_4 9 rfl rfl)
theorem dX8_freeBy_104 : decode cX8_freeBy 104 = .ok (.getfield 40, 3) := dk_180 0 40 (dk_at dksX8_freeBy_4 10 rfl rfl)
theorem dX8_freeBy_107 : decode cX8_freeBy 107 = .ok (.iload 8, 2) := dk_21 8 (dk_at dksX8_freeBy_4 13 rfl rfl)
theorem dX8_freeBy_109 : decode cX8_freeBy 109 = .ok (.iaload, 1) := dk_46 (dk_at dksX8_freeBy_4 15 rfl rfl)
theorem dX8_freeBy_110 : decode cX8_freeBy 110 = .ok (.aload_n 0, 1) := dk_42 (dk_at dksX8_freeBy_4 16 rfl rfl)
theorem dX8_freeBy_111 : decode cX8_freeBy 111 = .ok (.getfield 40, 3) := dk_180 0 40 (dk_at dksX8_freeBy_4 17 rfl rfl)
theorem dX8_freeBy_114 : decode cX8_freeBy 114 = .ok (.iload 4, 2) := dk_21 4 (dk_at dksX8_freeBy_4 20 rfl rfl)
theorem dX8_freeBy_116 : decode cX8_freeBy 116 = .ok (.iaload, 1) := dk_46 (dk_at dksX8_freeBy_4 22 rfl rfl)
theorem dX8_freeBy_117 : decode cX8_freeBy 117 = .ok (.if_icmp .ge 7, 3) := dk_162 0 7 (dk_at dksX8_freeBy_5 0 rfl rfl)
theorem dX8_freeBy_120 : decode cX8_freeBy 120 = .ok (.iconst 1, 1) := dk_4 (dk_at dksX8_freeBy_5 3 rfl rfl)
theorem dX8_freeBy_121 : decode cX8_freeBy 121 = .ok (.goto 4, 3) := dk_167 0 4 (dk_at dksX8_freeBy_5 4 rfl rfl)
theorem dX8_freeBy_124 : decode cX8_freeBy 124 = .ok (.iconst 0, 1) := dk_3 (dk_at dksX8_freeBy_5 7 rfl rfl)
theorem dX8_freeBy_125 : decode cX8_freeBy 125 = .ok (.isub, 1) := dk_100 (dk_at dksX8_freeBy_5 8 rfl rfl)
theorem dX8_freeBy_126 : decode cX8_freeBy 126 = .ok (.istore 7, 2) := dk_54 7 (dk_at dksX8_freeBy_5 9 rfl rfl)
theorem dX8_freeBy_128 : decode cX8_freeBy 128 = .ok (.iinc 8 1, 3) := dk_132 8 1 (dk_at dksX8_freeBy_5 11 rfl rfl)
theorem dX8_freeBy_131 : decode cX8_freeBy 131 = .ok (.goto (-37), 3) := dk_167 255 219 (dk_at dksX8_freeBy_5 14 rfl rfl)
theorem dX8_freeBy_134 : decode cX8_freeBy 134 = .ok (.aload_n 0, 1) := dk_42 (dk_at dksX8_freeBy_5 17 rfl rfl)
theorem dX8_freeBy_135 : decode cX8_freeBy 135 = .ok (.getfield 13, 3) := dk_180 0 13 (dk_at dksX8_freeBy_5 18 rfl rfl)
theorem dX8_freeBy_138 : decode cX8_freeBy 138 = .ok (.iload_n 3, 1) := dk_29 (dk_at dksX8_freeBy_5 21 rfl rfl)
theorem dX8_freeBy_139 : decode cX8_freeBy 139 = .ok (.bipush 8, 2) := dk_16 8 (dk_at dksX8_freeBy_5 22 rfl rfl)
theorem dX8_freeBy_141 : decode cX8_freeBy 141 = .ok (.iadd, 1) := dk_96 (dk_at dksX8_freeBy_6 0 rfl rfl)
theorem dX8_freeBy_142 : decode cX8_freeBy 142 = .ok (.iconst 4, 1) := dk_7 (dk_at dksX8_freeBy_6 1 rfl rfl)
theorem dX8_freeBy_143 : decode cX8_freeBy 143 = .ok (.iload 7, 2) := dk_21 7 (dk_at dksX8_freeBy_6 2 rfl rfl)
theorem dX8_freeBy_145 : decode cX8_freeBy 145 = .ok (.imul, 1) := dk_104 (dk_at dksX8_freeBy_6 4 rfl rfl)
theorem dX8_freeBy_146 : decode cX8_freeBy 146 = .ok (.iadd, 1) := dk_96 (dk_at dksX8_freeBy_6 5 rfl rfl)
theorem dX8_freeBy_147 : decode cX8_freeBy 147 = .ok (.iconst 1, 1) := dk_4 (dk_at dksX8_freeBy_6 6 rfl rfl)
theorem dX8_freeBy_148 : decode cX8_freeBy 148 = .ok (.iadd, 1) := dk_96 (dk_at dksX8_freeBy_6 7 rfl rfl)
theorem dX8_freeBy_149 : decode cX8_freeBy 149 = .ok (.iaload, 1) := dk_46 (dk_at dksX8_freeBy_6 8 rfl rfl)
theorem dX8_freeBy_150 : decode cX8_freeBy 150 = .ok (.istore 8, 2) := dk_54 8 (dk_at dksX8_freeBy_6 9 rfl rfl)
theorem dX8_freeBy_152 : decode cX8_freeBy 152 = .ok (.aload_n 0, 1) := dk_42 (dk_at dksX8_freeBy_6 11 rfl rfl)
theorem dX8_freeBy_153 : decode cX8_freeBy 153 = .ok (.getfield 13, 3) := dk_180 0 13 (dk_at dksX8_freeBy_6 12 rfl rfl)
theorem dX8_freeBy_156 : decode cX8_freeBy 156 = .ok (.iload_n 3, 1) := dk_29 (dk_at dksX8_freeBy_6 15 rfl rfl)
theorem dX8_freeBy_157 : decode cX8_freeBy 157 = .ok (.iaload, 1) := dk_46 (dk_at dksX8_freeBy_6 16 rfl rfl)
theorem dX8_freeBy_158 : decode cX8_freeBy 158 = .ok (.iload 8, 2) := dk_21 8 (dk_at dksX8_freeBy_6 17 rfl rfl)
theorem dX8_freeBy_160 : decode cX8_freeBy 160 = .ok (.if_icmp .lt 7, 3) := dk_161 0 7 (dk_at dksX8_freeBy_6 19 rfl rfl)
theorem dX8_freeBy_163 : decode cX8_freeBy 163 = .ok (.iconst 1, 1) := dk_4 (dk_at dksX8_freeBy_6 22 rfl rfl)
theorem dX8_freeBy_164 : decode cX8_freeBy 164 = .ok (.goto 4, 3) := dk_167 0 4 (dk_at dksX8_freeBy_7 0 rfl rfl)
theorem dX8_freeBy_167 : decode cX8_freeBy 167 = .ok (.iconst 0, 1) := dk_3 (dk_at dksX8_freeBy_7 3 rfl rfl)
theorem dX8_freeBy_168 : decode cX8_freeBy 168 = .ok (.istore 6, 2) := dk_54 6 (dk_at dksX8_freeBy_7 4 rfl rfl)
theorem dX8_freeBy_170 : decode cX8_freeBy 170 = .ok (.iload 6, 2) := dk_21 6 (dk_at dksX8_freeBy_7 6 rfl rfl)
theorem dX8_freeBy_172 : decode cX8_freeBy 172 = .ok (.ifCond .eq 48, 3) := dk_153 0 48 (dk_at dksX8_freeBy_7 8 rfl rfl)
theorem dX8_freeBy_175 : decode cX8_freeBy 175 = .ok (.aload_n 0, 1) := dk_42 (dk_at dksX8_freeBy_7 11 rfl rfl)
theorem dX8_freeBy_176 : decode cX8_freeBy 176 = .ok (.getfield 13, 3) := dk_180 0 13 (dk_at dksX8_freeBy_7 12 rfl rfl)
theorem dX8_freeBy_179 : decode cX8_freeBy 179 = .ok (.iload_n 3, 1) := dk_29 (dk_at dksX8_freeBy_7 15 rfl rfl)
theorem dX8_freeBy_180 : decode cX8_freeBy 180 = .ok (.dup2, 1) := dk_92 (dk_at dksX8_freeBy_7 16 rfl rfl)
theorem dX8_freeBy_181 : decode cX8_freeBy 181 = .ok (.iaload, 1) := dk_46 (dk_at dksX8_freeBy_7 17 rfl rfl)
theorem dX8_freeBy_182 : decode cX8_freeBy 182 = .ok (.iload 8, 2) := dk_21 8 (dk_at dksX8_freeBy_7 18 rfl rfl)
theorem dX8_freeBy_184 : decode cX8_freeBy 184 = .ok (.isub, 1) := dk_100 (dk_at dksX8_freeBy_7 20 rfl rfl)
theorem dX8_freeBy_185 : decode cX8_freeBy 185 = .ok (.iastore, 1) := dk_79 (dk_at dksX8_freeBy_7 21 rfl rfl)
theorem dX8_freeBy_186 : decode cX8_freeBy 186 = .ok (.aload_n 0, 1) := dk_42 (dk_at dksX8_freeBy_7 22 rfl rfl)
theorem dX8_freeBy_187 : decode cX8_freeBy 187 = .ok (.dup, 1) := dk_89 (dk_at dksX8_freeBy_7 23 rfl rfl)
theorem dX8_freeBy_188 : decode cX8_freeBy 188 = .ok (.getfield 192, 3) := dk_180 0 192 (dk_at dksX8_freeBy_8 0 rfl rfl)
theorem dX8_freeBy_191 : decode cX8_freeBy 191 = .ok (.iload 8, 2) := dk_21 8 (dk_at dksX8_freeBy_8 3 rfl rfl)
theorem dX8_freeBy_193 : decode cX8_freeBy 193 = .ok (.iadd, 1) := dk_96 (dk_at dksX8_freeBy_8 5 rfl rfl)
theorem dX8_freeBy_194 : decode cX8_freeBy 194 = .ok (.putfield 192, 3) := dk_181 0 192 (dk_at dksX8_freeBy_8 6 rfl rfl)
theorem dX8_freeBy_197 : decode cX8_freeBy 197 = .ok (.aload_n 0, 1) := dk_42 (dk_at dksX8_freeBy_8 9 rfl rfl)
theorem dX8_freeBy_198 : decode cX8_freeBy 198 = .ok (.iload_n 1, 1) := dk_27 (dk_at dksX8_freeBy_8 10 rfl rfl)
theorem dX8_freeBy_199 : decode cX8_freeBy 199 = .ok (.iload 7, 2) := dk_21 7 (dk_at dksX8_freeBy_8 11 rfl rfl)
theorem dX8_freeBy_201 : decode cX8_freeBy 201 = .ok (.invokevirtual 173, 3) := dk_182 0 173 (dk_at dksX8_freeBy_8 13 rfl rfl)
theorem dX8_freeBy_204 : decode cX8_freeBy 204 = .ok (.iinc 4 1, 3) := dk_132 4 1 (dk_at dksX8_freeBy_8 16 rfl rfl)
theorem dX8_freeBy_207 : decode cX8_freeBy 207 = .ok (.iload 4, 2) := dk_21 4 (dk_at dksX8_freeBy_8 19 rfl rfl)
theorem dX8_freeBy_209 : decode cX8_freeBy 209 = .ok (.iload_n 2, 1) := dk_28 (dk_at dksX8_freeBy_8 21 rfl rfl)
theorem dX8_freeBy_210 : decode cX8_freeBy 210 = .ok (.if_icmp .ge 7, 3) := dk_162 0 7 (dk_at dksX8_freeBy_9 0 rfl rfl)
theorem dX8_freeBy_213 : decode cX8_freeBy 213 = .ok (.iconst 1, 1) := dk_4 (dk_at dksX8_freeBy_9 3 rfl rfl)
theorem dX8_freeBy_214 : decode cX8_freeBy 214 = .ok (.goto 4, 3) := dk_167 0 4 (dk_at dksX8_freeBy_9 4 rfl rfl)
theorem dX8_freeBy_217 : decode cX8_freeBy 217 = .ok (.iconst 0, 1) := dk_3 (dk_at dksX8_freeBy_9 7 rfl rfl)
theorem dX8_freeBy_218 : decode cX8_freeBy 218 = .ok (.istore 6, 2) := dk_54 6 (dk_at dksX8_freeBy_9 8 rfl rfl)
theorem dX8_freeBy_220 : decode cX8_freeBy 220 = .ok (.goto (-143), 3) := dk_167 255 113 (dk_at dksX8_freeBy_9 10 rfl rfl)
theorem dX8_freeBy_223 : decode cX8_freeBy 223 = .ok (.iload 4, 2) := dk_21 4 (dk_at dksX8_freeBy_9 13 rfl rfl)
theorem dX8_freeBy_225 : decode cX8_freeBy 225 = .ok (.iload_n 2, 1) := dk_28 (dk_at dksX8_freeBy_9 15 rfl rfl)
theorem dX8_freeBy_226 : decode cX8_freeBy 226 = .ok (.if_icmp .ne 6, 3) := dk_160 0 6 (dk_at dksX8_freeBy_9 16 rfl rfl)
theorem dX8_freeBy_229 : decode cX8_freeBy 229 = .ok (.iload 5, 2) := dk_21 5 (dk_at dksX8_freeBy_9 19 rfl rfl)
theorem dX8_freeBy_231 : decode cX8_freeBy 231 = .ok (.ireturn, 1) := dk_172 (dk_at dksX8_freeBy_9 21 rfl rfl)
theorem dX8_freeBy_232 : decode cX8_freeBy 232 = .ok (.aload_n 0, 1) := dk_42 (dk_at dksX8_freeBy_9 22 rfl rfl)
theorem dX8_freeBy_233 : decode cX8_freeBy 233 = .ok (.iload_n 1, 1) := dk_27 (dk_at dksX8_freeBy_9 23 rfl rfl)
theorem dX8_freeBy_234 : decode cX8_freeBy 234 = .ok (.invokevirtual 158, 3) := dk_182 0 158 (dk_at dksX8_freeBy_10 0 rfl rfl)
theorem dX8_freeBy_237 : decode cX8_freeBy 237 = .ok (.iinc 5 1, 3) := dk_132 5 1 (dk_at dksX8_freeBy_10 3 rfl rfl)
theorem dX8_freeBy_240 : decode cX8_freeBy 240 = .ok (.goto (-184), 3) := dk_167 255 72 (dk_at dksX8_freeBy_10 6 rfl rfl)
theorem dX8_freeBy_243 : decode cX8_freeBy 243 = .ok (.sipush 361, 3) := dk_17 1 105 (dk_at dksX8_freeBy_10 9 rfl rfl)
theorem dX8_freeBy_246 : decode cX8_freeBy 246 = .ok (.ireturn, 1) := dk_172 (dk_at dksX8_freeBy_10 12 rfl rfl)
abbrev cX8_turns : ByteArray := prog_10_method_38_code
def yX8_turns : MethodName := ⟨RX8, "turns", "(I)Z"⟩
def dkwX8_turns_6 : List UInt8 := [132, 5, 1, 132, 6, 255, 167, 255, 211, 4, 172]
abbrev dktX8_turns_6 : List UInt8 := dkwX8_turns_6 ++ []
def dkwX8_turns_5 : List UInt8 := [180, 0, 40, 21, 5, 42, 180, 0, 40, 21, 6, 46, 79, 42, 180, 0, 40, 21, 6, 21, 4, 79]
abbrev dktX8_turns_5 : List UInt8 := dkwX8_turns_5 ++ dktX8_turns_6
def dkwX8_turns_4 : List UInt8 := [54, 5, 27, 4, 100, 54, 6, 21, 5, 21, 6, 162, 0, 44, 42, 180, 0, 40, 21, 5, 46, 54, 4, 42]
abbrev dktX8_turns_4 : List UInt8 := dkwX8_turns_4 ++ dktX8_turns_5
def dkwX8_turns_3 : List UInt8 := [42, 180, 0, 40, 28, 42, 180, 0, 40, 29, 46, 79, 42, 180, 0, 40, 29, 21, 4, 79, 28, 4, 96]
abbrev dktX8_turns_3 : List UInt8 := dkwX8_turns_3 ++ dktX8_turns_4
def dkwX8_turns_2 : List UInt8 := [46, 42, 180, 0, 40, 28, 46, 162, 0, 9, 132, 3, 255, 167, 255, 238, 42, 180, 0, 40, 28, 46, 54, 4]
abbrev dktX8_turns_2 : List UInt8 := dkwX8_turns_2 ++ dktX8_turns_3
def dkwX8_turns_1 : List UInt8 := [164, 0, 9, 132, 2, 255, 167, 255, 232, 28, 156, 0, 5, 3, 172, 27, 4, 100, 62, 42, 180, 0, 40, 29]
abbrev dktX8_turns_1 : List UInt8 := dkwX8_turns_1 ++ dktX8_turns_2
def dkwX8_turns_0 : List UInt8 := [27, 5, 100, 61, 28, 155, 0, 26, 42, 180, 0, 40, 28, 46, 42, 180, 0, 40, 28, 4, 96, 46]
abbrev dktX8_turns_0 : List UInt8 := dkwX8_turns_0 ++ dktX8_turns_1
theorem dksX8_turns_0 : cX8_turns.data.toList.drop 0 = dktX8_turns_0 := by decide +kernel
theorem dksX8_turns_1 : cX8_turns.data.toList.drop 22 = dktX8_turns_1 := dk_seg dksX8_turns_0 22 rfl rfl
theorem dksX8_turns_2 : cX8_turns.data.toList.drop 46 = dktX8_turns_2 := dk_seg dksX8_turns_1 24 rfl rfl
theorem dksX8_turns_3 : cX8_turns.data.toList.drop 70 = dktX8_turns_3 := dk_seg dksX8_turns_2 24 rfl rfl
theorem dksX8_turns_4 : cX8_turns.data.toList.drop 93 = dktX8_turns_4 := dk_seg dksX8_turns_3 23 rfl rfl
theorem dksX8_turns_5 : cX8_turns.data.toList.drop 117 = dktX8_turns_5 := dk_seg dksX8_turns_4 24 rfl rfl
theorem dksX8_turns_6 : cX8_turns.data.toList.drop 139 = dktX8_turns_6 := dk_seg dksX8_turns_5 22 rfl rfl
theorem dX8_turns_0 : decode cX8_turns 0 = .ok (.iload_n 1, 1) := dk_27 (dk_at dksX8_turns_0 0 rfl rfl)
theorem dX8_turns_1 : decode cX8_turns 1 = .ok (.iconst 2, 1) := dk_5 (dk_at dksX8_turns_0 1 rfl rfl)
theorem dX8_turns_2 : decode cX8_turns 2 = .ok (.isub, 1) := dk_100 (dk_at dksX8_turns_0 2 rfl rfl)
theorem dX8_turns_3 : decode cX8_turns 3 = .ok (.istore_n 2, 1) := dk_61 (dk_at dksX8_turns_0 3 rfl rfl)
theorem dX8_turns_4 : decode cX8_turns 4 = .ok (.iload_n 2, 1) := dk_28 (dk_at dksX8_turns_0 4 rfl rfl)
theorem dX8_turns_5 : decode cX8_turns 5 = .ok (.ifCond .lt 26, 3) := dk_155 0 26 (dk_at dksX8_turns_0 5 rfl rfl)
theorem dX8_turns_8 : decode cX8_turns 8 = .ok (.aload_n 0, 1) := dk_42 (dk_at dksX8_turns_0 8 rfl rfl)
theorem dX8_turns_9 : decode cX8_turns 9 = .ok (.getfield 40, 3) := dk_180 0 40 (dk_at dksX8_turns_0 9 rfl rfl)
theorem dX8_turns_12 : decode cX8_turns 12 = .ok (.iload_n 2, 1) := dk_28 (dk_at dksX8_turns_0 12 rfl rfl)
theorem dX8_turns_13 : decode cX8_turns 13 = .ok (.iaload, 1) := dk_46 (dk_at dksX8_turns_0 13 rfl rfl)
theorem dX8_turns_14 : decode cX8_turns 14 = .ok (.aload_n 0, 1) := dk_42 (dk_at dksX8_turns_0 14 rfl rfl)
theorem dX8_turns_15 : decode cX8_turns 15 = .ok (.getfield 40, 3) := dk_180 0 40 (dk_at dksX8_turns_0 15 rfl rfl)
theorem dX8_turns_18 : decode cX8_turns 18 = .ok (.iload_n 2, 1) := dk_28 (dk_at dksX8_turns_0 18 rfl rfl)
theorem dX8_turns_19 : decode cX8_turns 19 = .ok (.iconst 1, 1) := dk_4 (dk_at dksX8_turns_0 19 rfl rfl)
theorem dX8_turns_20 : decode cX8_turns 20 = .ok (.iadd, 1) := dk_96 (dk_at dksX8_turns_0 20 rfl rfl)
theorem dX8_turns_21 : decode cX8_turns 21 = .ok (.iaload, 1) := dk_46 (dk_at dksX8_turns_0 21 rfl rfl)
theorem dX8_turns_22 : decode cX8_turns 22 = .ok (.if_icmp .le 9, 3) := dk_164 0 9 (dk_at dksX8_turns_1 0 rfl rfl)
theorem dX8_turns_25 : decode cX8_turns 25 = .ok (.iinc 2 (-1), 3) := dk_132 2 255 (dk_at dksX8_turns_1 3 rfl rfl)
theorem dX8_turns_28 : decode cX8_turns 28 = .ok (.goto (-24), 3) := dk_167 255 232 (dk_at dksX8_turns_1 6 rfl rfl)
theorem dX8_turns_31 : decode cX8_turns 31 = .ok (.iload_n 2, 1) := dk_28 (dk_at dksX8_turns_1 9 rfl rfl)
theorem dX8_turns_32 : decode cX8_turns 32 = .ok (.ifCond .ge 5, 3) := dk_156 0 5 (dk_at dksX8_turns_1 10 rfl rfl)
theorem dX8_turns_35 : decode cX8_turns 35 = .ok (.iconst 0, 1) := dk_3 (dk_at dksX8_turns_1 13 rfl rfl)
theorem dX8_turns_36 : decode cX8_turns 36 = .ok (.ireturn, 1) := dk_172 (dk_at dksX8_turns_1 14 rfl rfl)
theorem dX8_turns_37 : decode cX8_turns 37 = .ok (.iload_n 1, 1) := dk_27 (dk_at dksX8_turns_1 15 rfl rfl)
theorem dX8_turns_38 : decode cX8_turns 38 = .ok (.iconst 1, 1) := dk_4 (dk_at dksX8_turns_1 16 rfl rfl)
theorem dX8_turns_39 : decode cX8_turns 39 = .ok (.isub, 1) := dk_100 (dk_at dksX8_turns_1 17 rfl rfl)
theorem dX8_turns_40 : decode cX8_turns 40 = .ok (.istore_n 3, 1) := dk_62 (dk_at dksX8_turns_1 18 rfl rfl)
theorem dX8_turns_41 : decode cX8_turns 41 = .ok (.aload_n 0, 1) := dk_42 (dk_at dksX8_turns_1 19 rfl rfl)
theorem dX8_turns_42 : decode cX8_turns 42 = .ok (.getfield 40, 3) := dk_180 0 40 (dk_at dksX8_turns_1 20 rfl rfl)
theorem dX8_turns_45 : decode cX8_turns 45 = .ok (.iload_n 3, 1) := dk_29 (dk_at dksX8_turns_1 23 rfl rfl)
theorem dX8_turns_46 : decode cX8_turns 46 = .ok (.iaload, 1) := dk_46 (dk_at dksX8_turns_2 0 rfl rfl)
theorem dX8_turns_47 : decode cX8_turns 47 = .ok (.aload_n 0, 1) := dk_42 (dk_at dksX8_turns_2 1 rfl rfl)
theorem dX8_turns_48 : decode cX8_turns 48 = .ok (.getfield 40, 3) := dk_180 0 40 (dk_at dksX8_turns_2 2 rfl rfl)
theorem dX8_turns_51 : decode cX8_turns 51 = .ok (.iload_n 2, 1) := dk_28 (dk_at dksX8_turns_2 5 rfl rfl)
theorem dX8_turns_52 : decode cX8_turns 52 = .ok (.iaload, 1) := dk_46 (dk_at dksX8_turns_2 6 rfl rfl)
theorem dX8_turns_53 : decode cX8_turns 53 = .ok (.if_icmp .ge 9, 3) := dk_162 0 9 (dk_at dksX8_turns_2 7 rfl rfl)
theorem dX8_turns_56 : decode cX8_turns 56 = .ok (.iinc 3 (-1), 3) := dk_132 3 255 (dk_at dksX8_turns_2 10 rfl rfl)
theorem dX8_turns_59 : decode cX8_turns 59 = .ok (.goto (-18), 3) := dk_167 255 238 (dk_at dksX8_turns_2 13 rfl rfl)
theorem dX8_turns_62 : decode cX8_turns 62 = .ok (.aload_n 0, 1) := dk_42 (dk_at dksX8_turns_2 16 rfl rfl)
theorem dX8_turns_63 : decode cX8_turns 63 = .ok (.getfield 40, 3) := dk_180 0 40 (dk_at dksX8_turns_2 17 rfl rfl)
theorem dX8_turns_66 : decode cX8_turns 66 = .ok (.iload_n 2, 1) := dk_28 (dk_at dksX8_turns_2 20 rfl rfl)
theorem dX8_turns_67 : decode cX8_turns 67 = .ok (.iaload, 1) := dk_46 (dk_at dksX8_turns_2 21 rfl rfl)
theorem dX8_turns_68 : decode cX8_turns 68 = .ok (.istore 4, 2) := dk_54 4 (dk_at dksX8_turns_2 22 rfl rfl)
theorem dX8_turns_70 : decode cX8_turns 70 = .ok (.aload_n 0, 1) := dk_42 (dk_at dksX8_turns_3 0 rfl rfl)
theorem dX8_turns_71 : decode cX8_turns 71 = .ok (.getfield 40, 3) := dk_180 0 40 (dk_at dksX8_turns_3 1 rfl rfl)
theorem dX8_turns_74 : decode cX8_turns 74 = .ok (.iload_n 2, 1) := dk_28 (dk_at dksX8_turns_3 4 rfl rfl)
theorem dX8_turns_75 : decode cX8_turns 75 = .ok (.aload_n 0, 1) := dk_42 (dk_at dksX8_turns_3 5 rfl rfl)
theorem dX8_turns_76 : decode cX8_turns 76 = .ok (.getfield 40, 3) := dk_180 0 40 (dk_at dksX8_turns_3 6 rfl rfl)
theorem dX8_turns_79 : decode cX8_turns 79 = .ok (.iload_n 3, 1) := dk_29 (dk_at dksX8_turns_3 9 rfl rfl)
theorem dX8_turns_80 : decode cX8_turns 80 = .ok (.iaload, 1) := dk_46 (dk_at dksX8_turns_3 10 rfl rfl)
theorem dX8_turns_81 : decode cX8_turns 81 = .ok (.iastore, 1) := dk_79 (dk_at dksX8_turns_3 11 rfl rfl)
theorem dX8_turns_82 : decode cX8_turns 82 = .ok (.aload_n 0, 1) := dk_42 (dk_at dksX8_turns_3 12 rfl rfl)
theorem dX8_turns_83 : decode cX8_turns 83 = .ok (.getfield 40, 3) := dk_180 0 40 (dk_at dksX8_turns_3 13 rfl rfl)
theorem dX8_turns_86 : decode cX8_turns 86 = .ok (.iload_n 3, 1) := dk_29 (dk_at dksX8_turns_3 16 rfl rfl)
theorem dX8_turns_87 : decode cX8_turns 87 = .ok (.iload 4, 2) := dk_21 4 (dk_at dksX8_turns_3 17 rfl rfl)
theorem dX8_turns_89 : decode cX8_turns 89 = .ok (.iastore, 1) := dk_79 (dk_at dksX8_turns_3 19 rfl rfl)
theorem dX8_turns_90 : decode cX8_turns 90 = .ok (.iload_n 2, 1) := dk_28 (dk_at dksX8_turns_3 20 rfl rfl)
theorem dX8_turns_91 : decode cX8_turns 91 = .ok (.iconst 1, 1) := dk_4 (dk_at dksX8_turns_3 21 rfl rfl)
theorem dX8_turns_92 : decode cX8_turns 92 = .ok (.iadd, 1) := dk_96 (dk_at dksX8_turns_3 22 rfl rfl)
theorem dX8_turns_93 : decode cX8_turns 93 = .ok (.istore 5, 2) := dk_54 5 (dk_at dksX8_turns_4 0 rfl rfl)
theorem dX8_turns_95 : decode cX8_turns 95 = .ok (.iload_n 1, 1) := dk_27 (dk_at dksX8_turns_4 2 rfl rfl)
theorem dX8_turns_96 : decode cX8_turns 96 = .ok (.iconst 1, 1) := dk_4 (dk_at dksX8_turns_4 3 rfl rfl)
theorem dX8_turns_97 : decode cX8_turns 97 = .ok (.isub, 1) := dk_100 (dk_at dksX8_turns_4 4 rfl rfl)
theorem dX8_turns_98 : decode cX8_turns 98 = .ok (.istore 6, 2) := dk_54 6 (dk_at dksX8_turns_4 5 rfl rfl)
theorem dX8_turns_100 : decode cX8_turns 100 = .ok (.iload 5, 2) := dk_21 5 (dk_at dksX8_turns_4 7 rfl rfl)
theorem dX8_turns_102 : decode cX8_turns 102 = .ok (.iload 6, 2) := dk_21 6 (dk_at dksX8_turns_4 9 rfl rfl)
theorem dX8_turns_104 : decode cX8_turns 104 = .ok (.if_icmp .ge 44, 3) := dk_162 0 44 (dk_at dksX8_turns_4 11 rfl rfl)
theorem dX8_turns_107 : decode cX8_turns 107 = .ok (.aload_n 0, 1) := dk_42 (dk_at dksX8_turns_4 14 rfl rfl)
theorem dX8_turns_108 : decode cX8_turns 108 = .ok (.getfield 40, 3) := dk_180 0 40 (dk_at dksX8_turns_4 15 rfl rfl)
theorem dX8_turns_111 : decode cX8_turns 111 = .ok (.iload 5, 2) := dk_21 5 (dk_at dksX8_turns_4 18 rfl rfl)
theorem dX8_turns_113 : decode cX8_turns 113 = .ok (.iaload, 1) := dk_46 (dk_at dksX8_turns_4 20 rfl rfl)
theorem dX8_turns_114 : decode cX8_turns 114 = .ok (.istore 4, 2) := dk_54 4 (dk_at dksX8_turns_4 21 rfl rfl)
theorem dX8_turns_116 : decode cX8_turns 116 = .ok (.aload_n 0, 1) := dk_42 (dk_at dksX8_turns_4 23 rfl rfl)
theorem dX8_turns_117 : decode cX8_turns 117 = .ok (.getfield 40, 3) := dk_180 0 40 (dk_at dksX8_turns_5 0 rfl rfl)
theorem dX8_turns_120 : decode cX8_turns 120 = .ok (.iload 5, 2) := dk_21 5 (dk_at dksX8_turns_5 3 rfl rfl)
theorem dX8_turns_122 : decode cX8_turns 122 = .ok (.aload_n 0, 1) := dk_42 (dk_at dksX8_turns_5 5 rfl rfl)
theorem dX8_turns_123 : decode cX8_turns 123 = .ok (.getfield 40, 3) := dk_180 0 40 (dk_at dksX8_turns_5 6 rfl rfl)
theorem dX8_turns_126 : decode cX8_turns 126 = .ok (.iload 6, 2) := dk_21 6 (dk_at dksX8_turns_5 9 rfl rfl)
theorem dX8_turns_128 : decode cX8_turns 128 = .ok (.iaload, 1) := dk_46 (dk_at dksX8_turns_5 11 rfl rfl)
theorem dX8_turns_129 : decode cX8_turns 129 = .ok (.iastore, 1) := dk_79 (dk_at dksX8_turns_5 12 rfl rfl)
theorem dX8_turns_130 : decode cX8_turns 130 = .ok (.aload_n 0, 1) := dk_42 (dk_at dksX8_turns_5 13 rfl rfl)
theorem dX8_turns_131 : decode cX8_turns 131 = .ok (.getfield 40, 3) := dk_180 0 40 (dk_at dksX8_turns_5 14 rfl rfl)
theorem dX8_turns_134 : decode cX8_turns 134 = .ok (.iload 6, 2) := dk_21 6 (dk_at dksX8_turns_5 17 rfl rfl)
theorem dX8_turns_136 : decode cX8_turns 136 = .ok (.iload 4, 2) := dk_21 4 (dk_at dksX8_turns_5 19 rfl rfl)
theorem dX8_turns_138 : decode cX8_turns 138 = .ok (.iastore, 1) := dk_79 (dk_at dksX8_turns_5 21 rfl rfl)
theorem dX8_turns_139 : decode cX8_turns 139 = .ok (.iinc 5 1, 3) := dk_132 5 1 (dk_at dksX8_turns_6 0 rfl rfl)
theorem dX8_turns_142 : decode cX8_turns 142 = .ok (.iinc 6 (-1), 3) := dk_132 6 255 (dk_at dksX8_turns_6 3 rfl rfl)
theorem dX8_turns_145 : decode cX8_turns 145 = .ok (.goto (-45), 3) := dk_167 255 211 (dk_at dksX8_turns_6 6 rfl rfl)
theorem dX8_turns_148 : decode cX8_turns 148 = .ok (.iconst 1, 1) := dk_4 (dk_at dksX8_turns_6 9 rfl rfl)
theorem dX8_turns_149 : decode cX8_turns 149 = .ok (.ireturn, 1) := dk_172 (dk_at dksX8_turns_6 10 rfl rfl)
abbrev cX8_saves : ByteArray := prog_10_method_44_code
def yX8_saves : MethodName := ⟨RX8, "saves", "(II)I"⟩
def dkwX8_saves_4 : List UInt8 := [21, 4, 96, 46, 79, 132, 4, 1, 167, 255, 220, 29, 42, 27, 182, 0, 212, 100, 172]
abbrev dktX8_saves_4 : List UInt8 := dkwX8_saves_4 ++ []
def dkwX8_saves_3 : List UInt8 := [180, 0, 46, 6, 46, 104, 162, 0, 29, 42, 180, 0, 46, 16, 8, 21, 4, 96, 42, 180, 0, 46, 16, 12]
abbrev dktX8_saves_3 : List UInt8 := dkwX8_saves_3 ++ dktX8_saves_4
def dkwX8_saves_2 : List UInt8 := [27, 182, 0, 212, 62, 42, 180, 0, 46, 6, 92, 46, 4, 100, 79, 7, 28, 104, 54, 4, 21, 4, 7, 42]
abbrev dktX8_saves_2 : List UInt8 := dkwX8_saves_2 ++ dktX8_saves_3
def dkwX8_saves_1 : List UInt8 := [164, 0, 6, 16, 253, 172, 42, 27, 28, 182, 0, 177, 154, 0, 6, 16, 254, 172, 42, 27, 182, 0, 209, 42]
abbrev dktX8_saves_1 : List UInt8 := dkwX8_saves_1 ++ dktX8_saves_2
def dkwX8_saves_0 : List UInt8 := [42, 27, 28, 182, 0, 91, 154, 0, 5, 2, 172, 42, 180, 0, 7, 16, 40, 27, 104, 6, 96, 46, 16, 6]
abbrev dktX8_saves_0 : List UInt8 := dkwX8_saves_0 ++ dktX8_saves_1
theorem dksX8_saves_0 : cX8_saves.data.toList.drop 0 = dktX8_saves_0 := by decide +kernel
theorem dksX8_saves_1 : cX8_saves.data.toList.drop 24 = dktX8_saves_1 := dk_seg dksX8_saves_0 24 rfl rfl
theorem dksX8_saves_2 : cX8_saves.data.toList.drop 48 = dktX8_saves_2 := dk_seg dksX8_saves_1 24 rfl rfl
theorem dksX8_saves_3 : cX8_saves.data.toList.drop 72 = dktX8_saves_3 := dk_seg dksX8_saves_2 24 rfl rfl
theorem dksX8_saves_4 : cX8_saves.data.toList.drop 96 = dktX8_saves_4 := dk_seg dksX8_saves_3 24 rfl rfl
theorem dX8_saves_0 : decode cX8_saves 0 = .ok (.aload_n 0, 1) := dk_42 (dk_at dksX8_saves_0 0 rfl rfl)
theorem dX8_saves_1 : decode cX8_saves 1 = .ok (.iload_n 1, 1) := dk_27 (dk_at dksX8_saves_0 1 rfl rfl)
theorem dX8_saves_2 : decode cX8_saves 2 = .ok (.iload_n 2, 1) := dk_28 (dk_at dksX8_saves_0 2 rfl rfl)
theorem dX8_saves_3 : decode cX8_saves 3 = .ok (.invokevirtual 91, 3) := dk_182 0 91 (dk_at dksX8_saves_0 3 rfl rfl)
theorem dX8_saves_6 : decode cX8_saves 6 = .ok (.ifCond .ne 5, 3) := dk_154 0 5 (dk_at dksX8_saves_0 6 rfl rfl)
theorem dX8_saves_9 : decode cX8_saves 9 = .ok (.iconst (-1), 1) := dk_2 (dk_at dksX8_saves_0 9 rfl rfl)
theorem dX8_saves_10 : decode cX8_saves 10 = .ok (.ireturn, 1) := dk_172 (dk_at dksX8_saves_0 10 rfl rfl)
theorem dX8_saves_11 : decode cX8_saves 11 = .ok (.aload_n 0, 1) := dk_42 (dk_at dksX8_saves_0 11 rfl rfl)
theorem dX8_saves_12 : decode cX8_saves 12 = .ok (.getfield 7, 3) := dk_180 0 7 (dk_at dksX8_saves_0 12 rfl rfl)
theorem dX8_saves_15 : decode cX8_saves 15 = .ok (.bipush 40, 2) := dk_16 40 (dk_at dksX8_saves_0 15 rfl rfl)
theorem dX8_saves_17 : decode cX8_saves 17 = .ok (.iload_n 1, 1) := dk_27 (dk_at dksX8_saves_0 17 rfl rfl)
theorem dX8_saves_18 : decode cX8_saves 18 = .ok (.imul, 1) := dk_104 (dk_at dksX8_saves_0 18 rfl rfl)
theorem dX8_saves_19 : decode cX8_saves 19 = .ok (.iconst 3, 1) := dk_6 (dk_at dksX8_saves_0 19 rfl rfl)
theorem dX8_saves_20 : decode cX8_saves 20 = .ok (.iadd, 1) := dk_96 (dk_at dksX8_saves_0 20 rfl rfl)
theorem dX8_saves_21 : decode cX8_saves 21 = .ok (.iaload, 1) := dk_46 (dk_at dksX8_saves_0 21 rfl rfl)
theorem dX8_saves_22 : decode cX8_saves 22 = .ok (.bipush 6, 2) := dk_16 6 (dk_at dksX8_saves_0 22 rfl rfl)
theorem dX8_saves_24 : decode cX8_saves 24 = .ok (.if_icmp .le 6, 3) := dk_164 0 6 (dk_at dksX8_saves_1 0 rfl rfl)
theorem dX8_saves_27 : decode cX8_saves 27 = .ok (.bipush (-3), 2) := dk_16 253 (dk_at dksX8_saves_1 3 rfl rfl)
theorem dX8_saves_29 : decode cX8_saves 29 = .ok (.ireturn, 1) := dk_172 (dk_at dksX8_saves_1 5 rfl rfl)
theorem dX8_saves_30 : decode cX8_saves 30 = .ok (.aload_n 0, 1) := dk_42 (dk_at dksX8_saves_1 6 rfl rfl)
theorem dX8_saves_31 : decode cX8_saves 31 = .ok (.iload_n 1, 1) := dk_27 (dk_at dksX8_saves_1 7 rfl rfl)
theorem dX8_saves_32 : decode cX8_saves 32 = .ok (.iload_n 2, 1) := dk_28 (dk_at dksX8_saves_1 8 rfl rfl)
theorem dX8_saves_33 : decode cX8_saves 33 = .ok (.invokevirtual 177, 3) := dk_182 0 177 (dk_at dksX8_saves_1 9 rfl rfl)
theorem dX8_saves_36 : decode cX8_saves 36 = .ok (.ifCond .ne 6, 3) := dk_154 0 6 (dk_at dksX8_saves_1 12 rfl rfl)
theorem dX8_saves_39 : decode cX8_saves 39 = .ok (.bipush (-2), 2) := dk_16 254 (dk_at dksX8_saves_1 15 rfl rfl)
theorem dX8_saves_41 : decode cX8_saves 41 = .ok (.ireturn, 1) := dk_172 (dk_at dksX8_saves_1 17 rfl rfl)
theorem dX8_saves_42 : decode cX8_saves 42 = .ok (.aload_n 0, 1) := dk_42 (dk_at dksX8_saves_1 18 rfl rfl)
theorem dX8_saves_43 : decode cX8_saves 43 = .ok (.iload_n 1, 1) := dk_27 (dk_at dksX8_saves_1 19 rfl rfl)
theorem dX8_saves_44 : decode cX8_saves 44 = .ok (.invokevirtual 209, 3) := dk_182 0 209 (dk_at dksX8_saves_1 20 rfl rfl)
theorem dX8_saves_47 : decode cX8_saves 47 = .ok (.aload_n 0, 1) := dk_42 (dk_at dksX8_saves_1 23 rfl rfl)
theorem dX8_saves_48 : decode cX8_saves 48 = .ok (.iload_n 1, 1) := dk_27 (dk_at dksX8_saves_2 0 rfl rfl)
theorem dX8_saves_49 : decode cX8_saves 49 = .ok (.invokevirtual 212, 3) := dk_182 0 212 (dk_at dksX8_saves_2 1 rfl rfl)
theorem dX8_saves_52 : decode cX8_saves 52 = .ok (.istore_n 3, 1) := dk_62 (dk_at dksX8_saves_2 4 rfl rfl)
theorem dX8_saves_53 : decode cX8_saves 53 = .ok (.aload_n 0, 1) := dk_42 (dk_at dksX8_saves_2 5 rfl rfl)
theorem dX8_saves_54 : decode cX8_saves 54 = .ok (.getfield 46, 3) := dk_180 0 46 (dk_at dksX8_saves_2 6 rfl rfl)
theorem dX8_saves_57 : decode cX8_saves 57 = .ok (.iconst 3, 1) := dk_6 (dk_at dksX8_saves_2 9 rfl rfl)
theorem dX8_saves_58 : decode cX8_saves 58 = .ok (.dup2, 1) := dk_92 (dk_at dksX8_saves_2 10 rfl rfl)
theorem dX8_saves_59 : decode cX8_saves 59 = .ok (.iaload, 1) := dk_46 (dk_at dksX8_saves_2 11 rfl rfl)
theorem dX8_saves_60 : decode cX8_saves 60 = .ok (.iconst 1, 1) := dk_4 (dk_at dksX8_saves_2 12 rfl rfl)
theorem dX8_saves_61 : decode cX8_saves 61 = .ok (.isub, 1) := dk_100 (dk_at dksX8_saves_2 13 rfl rfl)
theorem dX8_saves_62 : decode cX8_saves 62 = .ok (.iastore, 1) := dk_79 (dk_at dksX8_saves_2 14 rfl rfl)
theorem dX8_saves_63 : decode cX8_saves 63 = .ok (.iconst 4, 1) := dk_7 (dk_at dksX8_saves_2 15 rfl rfl)
theorem dX8_saves_64 : decode cX8_saves 64 = .ok (.iload_n 2, 1) := dk_28 (dk_at dksX8_saves_2 16 rfl rfl)
theorem dX8_saves_65 : decode cX8_saves 65 = .ok (.imul, 1) := dk_104 (dk_at dksX8_saves_2 17 rfl rfl)
theorem dX8_saves_66 : decode cX8_saves 66 = .ok (.istore 4, 2) := dk_54 4 (dk_at dksX8_saves_2 18 rfl rfl)
theorem dX8_saves_68 : decode cX8_saves 68 = .ok (.iload 4, 2) := dk_21 4 (dk_at dksX8_saves_2 20 rfl rfl)
theorem dX8_saves_70 : decode cX8_saves 70 = .ok (.iconst 4, 1) := dk_7 (dk_at dksX8_saves_2 22 rfl rfl)
theorem dX8_saves_71 : decode cX8_saves 71 = .ok (.aload_n 0, 1) := dk_42 (dk_at dksX8_saves_2 23 rfl rfl)
theorem dX8_saves_72 : decode cX8_saves 72 = .ok (.getfield 46, 3) := dk_180 0 46 (dk_at dksX8_saves_3 0 rfl rfl)
theorem dX8_saves_75 : decode cX8_saves 75 = .ok (.iconst 3, 1) := dk_6 (dk_at dksX8_saves_3 3 rfl rfl)
theorem dX8_saves_76 : decode cX8_saves 76 = .ok (.iaload, 1) := dk_46 (dk_at dksX8_saves_3 4 rfl rfl)
theorem dX8_saves_77 : decode cX8_saves 77 = .ok (.imul, 1) := dk_104 (dk_at dksX8_saves_3 5 rfl rfl)
theorem dX8_saves_78 : decode cX8_saves 78 = .ok (.if_icmp .ge 29, 3) := dk_162 0 29 (dk_at dksX8_saves_3 6 rfl rfl)
theorem dX8_saves_81 : decode cX8_saves 81 = .ok (.aload_n 0, 1) := dk_42 (dk_at dksX8_saves_3 9 rfl rfl)
theorem dX8_saves_82 : decode cX8_saves 82 = .ok (.getfield 46, 3) := dk_180 0 46 (dk_at dksX8_saves_3 10 rfl rfl)
theorem dX8_saves_85 : decode cX8_saves 85 = .ok (.bipush 8, 2) := dk_16 8 (dk_at dksX8_saves_3 13 rfl rfl)
theorem dX8_saves_87 : decode cX8_saves 87 = .ok (.iload 4, 2) := dk_21 4 (dk_at dksX8_saves_3 15 rfl rfl)
theorem dX8_saves_89 : decode cX8_saves 89 = .ok (.iadd, 1) := dk_96 (dk_at dksX8_saves_3 17 rfl rfl)
theorem dX8_saves_90 : decode cX8_saves 90 = .ok (.aload_n 0, 1) := dk_42 (dk_at dksX8_saves_3 18 rfl rfl)
theorem dX8_saves_91 : decode cX8_saves 91 = .ok (.getfield 46, 3) := dk_180 0 46 (dk_at dksX8_saves_3 19 rfl rfl)
theorem dX8_saves_94 : decode cX8_saves 94 = .ok (.bipush 12, 2) := dk_16 12 (dk_at dksX8_saves_3 22 rfl rfl)
theorem dX8_saves_96 : decode cX8_saves 96 = .ok (.iload 4, 2) := dk_21 4 (dk_at dksX8_saves_4 0 rfl rfl)
theorem dX8_saves_98 : decode cX8_saves 98 = .ok (.iadd, 1) := dk_96 (dk_at dksX8_saves_4 2 rfl rfl)
theorem dX8_saves_99 : decode cX8_saves 99 = .ok (.iaload, 1) := dk_46 (dk_at dksX8_saves_4 3 rfl rfl)
theorem dX8_saves_100 : decode cX8_saves 100 = .ok (.iastore, 1) := dk_79 (dk_at dksX8_saves_4 4 rfl rfl)
theorem dX8_saves_101 : decode cX8_saves 101 = .ok (.iinc 4 1, 3) := dk_132 4 1 (dk_at dksX8_saves_4 5 rfl rfl)
theorem dX8_saves_104 : decode cX8_saves 104 = .ok (.goto (-36), 3) := dk_167 255 220 (dk_at dksX8_saves_4 8 rfl rfl)
theorem dX8_saves_107 : decode cX8_saves 107 = .ok (.iload_n 3, 1) := dk_29 (dk_at dksX8_saves_4 11 rfl rfl)
theorem dX8_saves_108 : decode cX8_saves 108 = .ok (.aload_n 0, 1) := dk_42 (dk_at dksX8_saves_4 12 rfl rfl)
theorem dX8_saves_109 : decode cX8_saves 109 = .ok (.iload_n 1, 1) := dk_27 (dk_at dksX8_saves_4 13 rfl rfl)
theorem dX8_saves_110 : decode cX8_saves 110 = .ok (.invokevirtual 212, 3) := dk_182 0 212 (dk_at dksX8_saves_4 14 rfl rfl)
theorem dX8_saves_113 : decode cX8_saves 113 = .ok (.isub, 1) := dk_100 (dk_at dksX8_saves_4 17 rfl rfl)
theorem dX8_saves_114 : decode cX8_saves 114 = .ok (.ireturn, 1) := dk_172 (dk_at dksX8_saves_4 18 rfl rfl)
abbrev cX8_bears : ByteArray := prog_10_method_45_code
def yX8_bears : MethodName := ⟨RX8, "bears", "(I)I"⟩
def dkwX8_bears_2 : List UInt8 := [132, 2, 1, 167, 255, 230, 16, 252, 172]
abbrev dktX8_bears_2 : List UInt8 := dkwX8_bears_2 ++ []
def dkwX8_bears_1 : List UInt8 := [61, 28, 17, 1, 104, 162, 0, 25, 42, 27, 28, 182, 0, 162, 153, 0, 10, 28, 42, 180, 0, 145, 100, 172]
abbrev dktX8_bears_1 : List UInt8 := dkwX8_bears_1 ++ dktX8_bears_2
def dkwX8_bears_0 : List UInt8 := [42, 27, 182, 0, 80, 154, 0, 5, 2, 172, 42, 42, 180, 0, 7, 181, 0, 16, 42, 180, 0, 145, 4, 96]
abbrev dktX8_bears_0 : List UInt8 := dkwX8_bears_0 ++ dktX8_bears_1
theorem dksX8_bears_0 : cX8_bears.data.toList.drop 0 = dktX8_bears_0 := by decide +kernel
theorem dksX8_bears_1 : cX8_bears.data.toList.drop 24 = dktX8_bears_1 := dk_seg dksX8_bears_0 24 rfl rfl
theorem dksX8_bears_2 : cX8_bears.data.toList.drop 48 = dktX8_bears_2 := dk_seg dksX8_bears_1 24 rfl rfl
theorem dX8_bears_0 : decode cX8_bears 0 = .ok (.aload_n 0, 1) := dk_42 (dk_at dksX8_bears_0 0 rfl rfl)
theorem dX8_bears_1 : decode cX8_bears 1 = .ok (.iload_n 1, 1) := dk_27 (dk_at dksX8_bears_0 1 rfl rfl)
theorem dX8_bears_2 : decode cX8_bears 2 = .ok (.invokevirtual 80, 3) := dk_182 0 80 (dk_at dksX8_bears_0 2 rfl rfl)
theorem dX8_bears_5 : decode cX8_bears 5 = .ok (.ifCond .ne 5, 3) := dk_154 0 5 (dk_at dksX8_bears_0 5 rfl rfl)
theorem dX8_bears_8 : decode cX8_bears 8 = .ok (.iconst (-1), 1) := dk_2 (dk_at dksX8_bears_0 8 rfl rfl)
theorem dX8_bears_9 : decode cX8_bears 9 = .ok (.ireturn, 1) := dk_172 (dk_at dksX8_bears_0 9 rfl rfl)
theorem dX8_bears_10 : decode cX8_bears 10 = .ok (.aload_n 0, 1) := dk_42 (dk_at dksX8_bears_0 10 rfl rfl)
theorem dX8_bears_11 : decode cX8_bears 11 = .ok (.aload_n 0, 1) := dk_42 (dk_at dksX8_bears_0 11 rfl rfl)
theorem dX8_bears_12 : decode cX8_bears 12 = .ok (.getfield 7, 3) := dk_180 0 7 (dk_at dksX8_bears_0 12 rfl rfl)
theorem dX8_bears_15 : decode cX8_bears 15 = .ok (.putfield 16, 3) := dk_181 0 16 (dk_at dksX8_bears_0 15 rfl rfl)
theorem dX8_bears_18 : decode cX8_bears 18 = .ok (.aload_n 0, 1) := dk_42 (dk_at dksX8_bears_0 18 rfl rfl)
theorem dX8_bears_19 : decode cX8_bears 19 = .ok (.getfield 145, 3) := dk_180 0 145 (dk_at dksX8_bears_0 19 rfl rfl)
theorem dX8_bears_22 : decode cX8_bears 22 = .ok (.iconst 1, 1) := dk_4 (dk_at dksX8_bears_0 22 rfl rfl)
theorem dX8_bears_23 : decode cX8_bears 23 = .ok (.iadd, 1) := dk_96 (dk_at dksX8_bears_0 23 rfl rfl)
theorem dX8_bears_24 : decode cX8_bears 24 = .ok (.istore_n 2, 1) := dk_61 (dk_at dksX8_bears_1 0 rfl rfl)
theorem dX8_bears_25 : decode cX8_bears 25 = .ok (.iload_n 2, 1) := dk_28 (dk_at dksX8_bears_1 1 rfl rfl)
theorem dX8_bears_26 : decode cX8_bears 26 = .ok (.sipush 360, 3) := dk_17 1 104 (dk_at dksX8_bears_1 2 rfl rfl)
theorem dX8_bears_29 : decode cX8_bears 29 = .ok (.if_icmp .ge 25, 3) := dk_162 0 25 (dk_at dksX8_bears_1 5 rfl rfl)
theorem dX8_bears_32 : decode cX8_bears 32 = .ok (.aload_n 0, 1) := dk_42 (dk_at dksX8_bears_1 8 rfl rfl)
theorem dX8_bears_33 : decode cX8_bears 33 = .ok (.iload_n 1, 1) := dk_27 (dk_at dksX8_bears_1 9 rfl rfl)
theorem dX8_bears_34 : decode cX8_bears 34 = .ok (.iload_n 2, 1) := dk_28 (dk_at dksX8_bears_1 10 rfl rfl)
theorem dX8_bears_35 : decode cX8_bears 35 = .ok (.invokevirtual 162, 3) := dk_182 0 162 (dk_at dksX8_bears_1 11 rfl rfl)
theorem dX8_bears_38 : decode cX8_bears 38 = .ok (.ifCond .eq 10, 3) := dk_153 0 10 (dk_at dksX8_bears_1 14 rfl rfl)
theorem dX8_bears_41 : decode cX8_bears 41 = .ok (.iload_n 2, 1) := dk_28 (dk_at dksX8_bears_1 17 rfl rfl)
theorem dX8_bears_42 : decode cX8_bears 42 = .ok (.aload_n 0, 1) := dk_42 (dk_at dksX8_bears_1 18 rfl rfl)
theorem dX8_bears_43 : decode cX8_bears 43 = .ok (.getfield 145, 3) := dk_180 0 145 (dk_at dksX8_bears_1 19 rfl rfl)
theorem dX8_bears_46 : decode cX8_bears 46 = .ok (.isub, 1) := dk_100 (dk_at dksX8_bears_1 22 rfl rfl)
theorem dX8_bears_47 : decode cX8_bears 47 = .ok (.ireturn, 1) := dk_172 (dk_at dksX8_bears_1 23 rfl rfl)
theorem dX8_bears_48 : decode cX8_bears 48 = .ok (.iinc 2 1, 3) := dk_132 2 1 (dk_at dksX8_bears_2 0 rfl rfl)
theorem dX8_bears_51 : decode cX8_bears 51 = .ok (.goto (-26), 3) := dk_167 255 230 (dk_at dksX8_bears_2 3 rfl rfl)
theorem dX8_bears_54 : decode cX8_bears 54 = .ok (.bipush (-4), 2) := dk_16 252 (dk_at dksX8_bears_2 6 rfl rfl)
theorem dX8_bears_56 : decode cX8_bears 56 = .ok (.ireturn, 1) := dk_172 (dk_at dksX8_bears_2 8 rfl rfl)
abbrev cX8_ware : ByteArray := prog_10_method_46_code
def yX8_ware : MethodName := ⟨RX8, "ware", "(II)I"⟩
def dkwX8_ware_3 : List UInt8 := [4, 100, 172]
abbrev dktX8_ware_3 : List UInt8 := dkwX8_ware_3 ++ []
def dkwX8_ware_2 : List UInt8 := [42, 180, 0, 31, 42, 180, 0, 151, 28, 79, 42, 89, 180, 0, 151, 4, 96, 181, 0, 151, 42, 180, 0, 151]
abbrev dktX8_ware_2 : List UInt8 := dkwX8_ware_2 ++ dktX8_ware_3
def dkwX8_ware_1 : List UInt8 := [2, 172, 42, 180, 0, 151, 16, 8, 160, 0, 6, 16, 253, 172, 42, 180, 0, 28, 42, 180, 0, 151, 27, 79]
abbrev dktX8_ware_1 : List UInt8 := dkwX8_ware_1 ++ dktX8_ware_2
def dkwX8_ware_0 : List UInt8 := [27, 133, 10, 20, 0, 74, 184, 0, 68, 153, 0, 15, 28, 133, 10, 20, 0, 100, 184, 0, 68, 154, 0, 5]
abbrev dktX8_ware_0 : List UInt8 := dkwX8_ware_0 ++ dktX8_ware_1
theorem dksX8_ware_0 : cX8_ware.data.toList.drop 0 = dktX8_ware_0 := by decide +kernel
theorem dksX8_ware_1 : cX8_ware.data.toList.drop 24 = dktX8_ware_1 := dk_seg dksX8_ware_0 24 rfl rfl
theorem dksX8_ware_2 : cX8_ware.data.toList.drop 48 = dktX8_ware_2 := dk_seg dksX8_ware_1 24 rfl rfl
theorem dksX8_ware_3 : cX8_ware.data.toList.drop 72 = dktX8_ware_3 := dk_seg dksX8_ware_2 24 rfl rfl
theorem dX8_ware_0 : decode cX8_ware 0 = .ok (.iload_n 1, 1) := dk_27 (dk_at dksX8_ware_0 0 rfl rfl)
theorem dX8_ware_1 : decode cX8_ware 1 = .ok (.i2l, 1) := dk_133 (dk_at dksX8_ware_0 1 rfl rfl)
theorem dX8_ware_2 : decode cX8_ware 2 = .ok (.lconst 1, 1) := dk_10 (dk_at dksX8_ware_0 2 rfl rfl)
theorem dX8_ware_3 : decode cX8_ware 3 = .ok (.ldc2_w 74, 3) := dk_20 0 74 (dk_at dksX8_ware_0 3 rfl rfl)
theorem dX8_ware_6 : decode cX8_ware 6 = .ok (.invokestatic 68, 3) := dk_184 0 68 (dk_at dksX8_ware_0 6 rfl rfl)
theorem dX8_ware_9 : decode cX8_ware 9 = .ok (.ifCond .eq 15, 3) := dk_153 0 15 (dk_at dksX8_ware_0 9 rfl rfl)
theorem dX8_ware_12 : decode cX8_ware 12 = .ok (.iload_n 2, 1) := dk_28 (dk_at dksX8_ware_0 12 rfl rfl)
theorem dX8_ware_13 : decode cX8_ware 13 = .ok (.i2l, 1) := dk_133 (dk_at dksX8_ware_0 13 rfl rfl)
theorem dX8_ware_14 : decode cX8_ware 14 = .ok (.lconst 1, 1) := dk_10 (dk_at dksX8_ware_0 14 rfl rfl)
theorem dX8_ware_15 : decode cX8_ware 15 = .ok (.ldc2_w 100, 3) := dk_20 0 100 (dk_at dksX8_ware_0 15 rfl rfl)
theorem dX8_ware_18 : decode cX8_ware 18 = .ok (.invokestatic 68, 3) := dk_184 0 68 (dk_at dksX8_ware_0 18 rfl rfl)
theorem dX8_ware_21 : decode cX8_ware 21 = .ok (.ifCond .ne 5, 3) := dk_154 0 5 (dk_at dksX8_ware_0 21 rfl rfl)
theorem dX8_ware_24 : decode cX8_ware 24 = .ok (.iconst (-1), 1) := dk_2 (dk_at dksX8_ware_1 0 rfl rfl)
theorem dX8_ware_25 : decode cX8_ware 25 = .ok (.ireturn, 1) := dk_172 (dk_at dksX8_ware_1 1 rfl rfl)
theorem dX8_ware_26 : decode cX8_ware 26 = .ok (.aload_n 0, 1) := dk_42 (dk_at dksX8_ware_1 2 rfl rfl)
theorem dX8_ware_27 : decode cX8_ware 27 = .ok (.getfield 151, 3) := dk_180 0 151 (dk_at dksX8_ware_1 3 rfl rfl)
theorem dX8_ware_30 : decode cX8_ware 30 = .ok (.bipush 8, 2) := dk_16 8 (dk_at dksX8_ware_1 6 rfl rfl)
theorem dX8_ware_32 : decode cX8_ware 32 = .ok (.if_icmp .ne 6, 3) := dk_160 0 6 (dk_at dksX8_ware_1 8 rfl rfl)
theorem dX8_ware_35 : decode cX8_ware 35 = .ok (.bipush (-3), 2) := dk_16 253 (dk_at dksX8_ware_1 11 rfl rfl)
theorem dX8_ware_37 : decode cX8_ware 37 = .ok (.ireturn, 1) := dk_172 (dk_at dksX8_ware_1 13 rfl rfl)
theorem dX8_ware_38 : decode cX8_ware 38 = .ok (.aload_n 0, 1) := dk_42 (dk_at dksX8_ware_1 14 rfl rfl)
theorem dX8_ware_39 : decode cX8_ware 39 = .ok (.getfield 28, 3) := dk_180 0 28 (dk_at dksX8_ware_1 15 rfl rfl)
theorem dX8_ware_42 : decode cX8_ware 42 = .ok (.aload_n 0, 1) := dk_42 (dk_at dksX8_ware_1 18 rfl rfl)
theorem dX8_ware_43 : decode cX8_ware 43 = .ok (.getfield 151, 3) := dk_180 0 151 (dk_at dksX8_ware_1 19 rfl rfl)
theorem dX8_ware_46 : decode cX8_ware 46 = .ok (.iload_n 1, 1) := dk_27 (dk_at dksX8_ware_1 22 rfl rfl)
theorem dX8_ware_47 : decode cX8_ware 47 = .ok (.iastore, 1) := dk_79 (dk_at dksX8_ware_1 23 rfl rfl)
theorem dX8_ware_48 : decode cX8_ware 48 = .ok (.aload_n 0, 1) := dk_42 (dk_at dksX8_ware_2 0 rfl rfl)
theorem dX8_ware_49 : decode cX8_ware 49 = .ok (.getfield 31, 3) := dk_180 0 31 (dk_at dksX8_ware_2 1 rfl rfl)
theorem dX8_ware_52 : decode cX8_ware 52 = .ok (.aload_n 0, 1) := dk_42 (dk_at dksX8_ware_2 4 rfl rfl)
theorem dX8_ware_53 : decode cX8_ware 53 = .ok (.getfield 151, 3) := dk_180 0 151 (dk_at dksX8_ware_2 5 rfl rfl)
theorem dX8_ware_56 : decode cX8_ware 56 = .ok (.iload_n 2, 1) := dk_28 (dk_at dksX8_ware_2 8 rfl rfl)
theorem dX8_ware_57 : decode cX8_ware 57 = .ok (.iastore, 1) := dk_79 (dk_at dksX8_ware_2 9 rfl rfl)
theorem dX8_ware_58 : decode cX8_ware 58 = .ok (.aload_n 0, 1) := dk_42 (dk_at dksX8_ware_2 10 rfl rfl)
theorem dX8_ware_59 : decode cX8_ware 59 = .ok (.dup, 1) := dk_89 (dk_at dksX8_ware_2 11 rfl rfl)
theorem dX8_ware_60 : decode cX8_ware 60 = .ok (.getfield 151, 3) := dk_180 0 151 (dk_at dksX8_ware_2 12 rfl rfl)
theorem dX8_ware_63 : decode cX8_ware 63 = .ok (.iconst 1, 1) := dk_4 (dk_at dksX8_ware_2 15 rfl rfl)
theorem dX8_ware_64 : decode cX8_ware 64 = .ok (.iadd, 1) := dk_96 (dk_at dksX8_ware_2 16 rfl rfl)
theorem dX8_ware_65 : decode cX8_ware 65 = .ok (.putfield 151, 3) := dk_181 0 151 (dk_at dksX8_ware_2 17 rfl rfl)
theorem dX8_ware_68 : decode cX8_ware 68 = .ok (.aload_n 0, 1) := dk_42 (dk_at dksX8_ware_2 20 rfl rfl)
theorem dX8_ware_69 : decode cX8_ware 69 = .ok (.getfield 151, 3) := dk_180 0 151 (dk_at dksX8_ware_2 21 rfl rfl)
theorem dX8_ware_72 : decode cX8_ware 72 = .ok (.iconst 1, 1) := dk_4 (dk_at dksX8_ware_3 0 rfl rfl)
theorem dX8_ware_73 : decode cX8_ware 73 = .ok (.isub, 1) := dk_100 (dk_at dksX8_ware_3 1 rfl rfl)
theorem dX8_ware_74 : decode cX8_ware 74 = .ok (.ireturn, 1) := dk_172 (dk_at dksX8_ware_3 2 rfl rfl)
abbrev cX8_under : ByteArray := prog_10_method_47_code
def yX8_under : MethodName := ⟨RX8, "under", "(IIII)I"⟩
def dkwX8_under_9 : List UInt8 := [154, 0, 8, 21, 5, 167, 0, 5, 21, 6, 172]
abbrev dktX8_under_9 : List UInt8 := dkwX8_under_9 ++ []
def dkwX8_under_8 : List UInt8 := [54, 5, 21, 10, 153, 0, 8, 21, 7, 167, 0, 5, 21, 6, 54, 6, 132, 7, 255, 167, 255, 126, 21, 4]
abbrev dktX8_under_8 : List UInt8 := dkwX8_under_8 ++ dktX8_under_9
def dkwX8_under_7 : List UInt8 := [160, 0, 7, 4, 167, 0, 4, 3, 54, 10, 21, 5, 21, 10, 153, 0, 7, 4, 167, 0, 4, 3, 96]
abbrev dktX8_under_7 : List UInt8 := dkwX8_under_7 ++ dktX8_under_8
def dkwX8_under_6 : List UInt8 := [167, 255, 204, 21, 7, 27, 122, 4, 126, 4, 160, 0, 19, 21, 8, 29, 160, 0, 13, 21, 9, 28]
abbrev dktX8_under_6 : List UInt8 := dkwX8_under_6 ++ dktX8_under_7
def dkwX8_under_5 : List UInt8 := [21, 9, 21, 7, 21, 10, 122, 4, 126, 42, 180, 0, 31, 21, 10, 46, 104, 96, 54, 9, 132, 10, 1]
abbrev dktX8_under_5 : List UInt8 := dkwX8_under_5 ++ dktX8_under_6
def dkwX8_under_4 : List UInt8 := [162, 0, 49, 21, 8, 21, 7, 21, 10, 122, 4, 126, 42, 180, 0, 28, 21, 10, 46, 104, 96, 54, 8]
abbrev dktX8_under_4 : List UInt8 := dkwX8_under_4 ++ dktX8_under_5
def dkwX8_under_3 : List UInt8 := [54, 7, 21, 7, 158, 0, 131, 3, 54, 8, 3, 54, 9, 3, 54, 10, 21, 10, 42, 180, 0, 151]
abbrev dktX8_under_3 : List UInt8 := dkwX8_under_3 ++ dktX8_under_4
def dkwX8_under_2 : List UInt8 := [184, 0, 68, 154, 0, 5, 2, 172, 3, 54, 5, 16, 252, 54, 6, 4, 42, 180, 0, 151, 120, 4, 100]
abbrev dktX8_under_2 : List UInt8 := dkwX8_under_2 ++ dktX8_under_3
def dkwX8_under_1 : List UInt8 := [184, 0, 68, 153, 0, 26, 29, 133, 10, 20, 0, 215, 184, 0, 68, 153, 0, 14, 21, 4, 133, 9, 10]
abbrev dktX8_under_1 : List UInt8 := dkwX8_under_1 ++ dktX8_under_2
def dkwX8_under_0 : List UInt8 := [27, 133, 9, 42, 180, 0, 151, 4, 100, 133, 184, 0, 68, 153, 0, 38, 28, 133, 10, 20, 0, 76]
abbrev dktX8_under_0 : List UInt8 := dkwX8_under_0 ++ dktX8_under_1
theorem dksX8_under_0 : cX8_under.data.toList.drop 0 = dktX8_under_0 := by decide +kernel
theorem dksX8_under_1 : cX8_under.data.toList.drop 22 = dktX8_under_1 := dk_seg dksX8_under_0 22 rfl rfl
theorem dksX8_under_2 : cX8_under.data.toList.drop 45 = dktX8_under_2 := dk_seg dksX8_under_1 23 rfl rfl
theorem dksX8_under_3 : cX8_under.data.toList.drop 68 = dktX8_under_3 := dk_seg dksX8_under_2 23 rfl rfl
theorem dksX8_under_4 : cX8_under.data.toList.drop 90 = dktX8_under_4 := dk_seg dksX8_under_3 22 rfl rfl
theorem dksX8_under_5 : cX8_under.data.toList.drop 113 = dktX8_under_5 := dk_seg dksX8_under_4 23 rfl rfl
theorem dksX8_under_6 : cX8_under.data.toList.drop 136 = dktX8_under_6 := dk_seg dksX8_under_5 23 rfl rfl
theorem dksX8_under_7 : cX8_under.data.toList.drop 158 = dktX8_under_7 := dk_seg dksX8_under_6 22 rfl rfl
theorem dksX8_under_8 : cX8_under.data.toList.drop 181 = dktX8_under_8 := dk_seg dksX8_under_7 23 rfl rfl
theorem dksX8_under_9 : cX8_under.data.toList.drop 205 = dktX8_under_9 := dk_seg dksX8_under_8 24 rfl rfl
theorem dX8_under_0 : decode cX8_under 0 = .ok (.iload_n 1, 1) := dk_27 (dk_at dksX8_under_0 0 rfl rfl)
theorem dX8_under_1 : decode cX8_under 1 = .ok (.i2l, 1) := dk_133 (dk_at dksX8_under_0 1 rfl rfl)
theorem dX8_under_2 : decode cX8_under 2 = .ok (.lconst 0, 1) := dk_9 (dk_at dksX8_under_0 2 rfl rfl)
theorem dX8_under_3 : decode cX8_under 3 = .ok (.aload_n 0, 1) := dk_42 (dk_at dksX8_under_0 3 rfl rfl)
theorem dX8_under_4 : decode cX8_under 4 = .ok (.getfield 151, 3) := dk_180 0 151 (dk_at dksX8_under_0 4 rfl rfl)
theorem dX8_under_7 : decode cX8_under 7 = .ok (.iconst 1, 1) := dk_4 (dk_at dksX8_under_0 7 rfl rfl)
theorem dX8_under_8 : decode cX8_under 8 = .ok (.isub, 1) := dk_100 (dk_at dksX8_under_0 8 rfl rfl)
theorem dX8_under_9 : decode cX8_under 9 = .ok (.i2l, 1) := dk_133 (dk_at dksX8_under_0 9 rfl rfl)
theorem dX8_under_10 : decode cX8_under 10 = .ok (.invokestatic 68, 3) := dk_184 0 68 (dk_at dksX8_under_0 10 rfl rfl)
theorem dX8_under_13 : decode cX8_under 13 = .ok (.ifCond .eq 38, 3) := dk_153 0 38 (dk_at dksX8_under_0 13 rfl rfl)
theorem dX8_under_16 : decode cX8_under 16 = .ok (.iload_n 2, 1) := dk_28 (dk_at dksX8_under_0 16 rfl rfl)
theorem dX8_under_17 : decode cX8_under 17 = .ok (.i2l, 1) := dk_133 (dk_at dksX8_under_0 17 rfl rfl)
theorem dX8_under_18 : decode cX8_under 18 = .ok (.lconst 1, 1) := dk_10 (dk_at dksX8_under_0 18 rfl rfl)
theorem dX8_under_19 : decode cX8_under 19 = .ok (.ldc2_w 76, 3) := dk_20 0 76 (dk_at dksX8_under_0 19 rfl rfl)
theorem dX8_under_22 : decode cX8_under 22 = .ok (.invokestatic 68, 3) := dk_184 0 68 (dk_at dksX8_under_1 0 rfl rfl)
theorem dX8_under_25 : decode cX8_under 25 = .ok (.ifCond .eq 26, 3) := dk_153 0 26 (dk_at dksX8_under_1 3 rfl rfl)
theorem dX8_under_28 : decode cX8_under 28 = .ok (.iload_n 3, 1) := dk_29 (dk_at dksX8_under_1 6 rfl rfl)
theorem dX8_under_29 : decode cX8_under 29 = .ok (.i2l, 1) := dk_133 (dk_at dksX8_under_1 7 rfl rfl)
theorem dX8_under_30 : decode cX8_under 30 = .ok (.lconst 1, 1) := dk_10 (dk_at dksX8_under_1 8 rfl rfl)
theorem dX8_under_31 : decode cX8_under 31 = .ok (.ldc2_w 215, 3) := dk_20 0 215 (dk_at dksX8_under_1 9 rfl rfl)
theorem dX8_under_34 : decode cX8_under 34 = .ok (.invokestatic 68, 3) := dk_184 0 68 (dk_at dksX8_under_1 12 rfl rfl)
theorem dX8_under_37 : decode cX8_under 37 = .ok (.ifCond .eq 14, 3) := dk_153 0 14 (dk_at dksX8_under_1 15 rfl rfl)
theorem dX8_under_40 : decode cX8_under 40 = .ok (.iload 4, 2) := dk_21 4 (dk_at dksX8_under_1 18 rfl rfl)
theorem dX8_under_42 : decode cX8_under 42 = .ok (.i2l, 1) := dk_133 (dk_at dksX8_under_1 20 rfl rfl)
theorem dX8_under_43 : decode cX8_under 43 = .ok (.lconst 0, 1) := dk_9 (dk_at dksX8_under_1 21 rfl rfl)
theorem dX8_under_44 : decode cX8_under 44 = .ok (.lconst 1, 1) := dk_10 (dk_at dksX8_under_1 22 rfl rfl)
theorem dX8_under_45 : decode cX8_under 45 = .ok (.invokestatic 68, 3) := dk_184 0 68 (dk_at dksX8_under_2 0 rfl rfl)
theorem dX8_under_48 : decode cX8_under 48 = .ok (.ifCond .ne 5, 3) := dk_154 0 5 (dk_at dksX8_under_2 3 rfl rfl)
theorem dX8_under_51 : decode cX8_under 51 = .ok (.iconst (-1), 1) := dk_2 (dk_at dksX8_under_2 6 rfl rfl)
theorem dX8_under_52 : decode cX8_under 52 = .ok (.ireturn, 1) := dk_172 (dk_at dksX8_under_2 7 rfl rfl)
theorem dX8_under_53 : decode cX8_under 53 = .ok (.iconst 0, 1) := dk_3 (dk_at dksX8_under_2 8 rfl rfl)
theorem dX8_under_54 : decode cX8_under 54 = .ok (.istore 5, 2) := dk_54 5 (dk_at dksX8_under_2 9 rfl rfl)
theorem dX8_under_56 : decode cX8_under 56 = .ok (.bipush (-4), 2) := dk_16 252 (dk_at dksX8_under_2 11 rfl rfl)
theorem dX8_under_58 : decode cX8_under 58 = .ok (.istore 6, 2) := dk_54 6 (dk_at dksX8_under_2 13 rfl rfl)
theorem dX8_under_60 : decode cX8_under 60 = .ok (.iconst 1, 1) := dk_4 (dk_at dksX8_under_2 15 rfl rfl)
theorem dX8_under_61 : decode cX8_under 61 = .ok (.aload_n 0, 1) := dk_42 (dk_at dksX8_under_2 16 rfl rfl)
theorem dX8_under_62 : decode cX8_under 62 = .ok (.getfield 151, 3) := dk_180 0 151 (dk_at dksX8_under_2 17 rfl rfl)
theorem dX8_under_65 : decode cX8_under 65 = .ok (.ishl, 1) := dk_120 (dk_at dksX8_under_2 20 rfl rfl)
theorem dX8_under_66 : decode cX8_under 66 = .ok (.iconst 1, 1) := dk_4 (dk_at dksX8_under_2 21 rfl rfl)
theorem dX8_under_67 : decode cX8_under 67 = .ok (.isub, 1) := dk_100 (dk_at dksX8_under_2 22 rfl rfl)
theorem dX8_under_68 : decode cX8_under 68 = .ok (.istore 7, 2) := dk_54 7 (dk_at dksX8_under_3 0 rfl rfl)
theorem dX8_under_70 : decode cX8_under 70 = .ok (.iload 7, 2) := dk_21 7 (dk_at dksX8_under_3 2 rfl rfl)
theorem dX8_under_72 : decode cX8_under 72 = .ok (.ifCond .le 131, 3) := dk_158 0 131 (dk_at dksX8_under_3 4 rfl rfl)
theorem dX8_under_75 : decode cX8_under 75 = .ok (.iconst 0, 1) := dk_3 (dk_at dksX8_under_3 7 rfl rfl)
theorem dX8_under_76 : decode cX8_under 76 = .ok (.istore 8, 2) := dk_54 8 (dk_at dksX8_under_3 8 rfl rfl)
theorem dX8_under_78 : decode cX8_under 78 = .ok (.iconst 0, 1) := dk_3 (dk_at dksX8_under_3 10 rfl rfl)
theorem dX8_under_79 : decode cX8_under 79 = .ok (.istore 9, 2) := dk_54 9 (dk_at dksX8_under_3 11 rfl rfl)
theorem dX8_under_81 : decode cX8_under 81 = .ok (.iconst 0, 1) := dk_3 (dk_at dksX8_under_3 13 rfl rfl)
theorem dX8_under_82 : decode cX8_under 82 = .ok (.istore 10, 2) := dk_54 10 (dk_at dksX8_under_3 14 rfl rfl)
theorem dX8_under_84 : decode cX8_under 84 = .ok (.iload 10, 2) := dk_21 10 (dk_at dksX8_under_3 16 rfl rfl)
theorem dX8_under_86 : decode cX8_under 86 = .ok (.aload_n 0, 1) := dk_42 (dk_at dksX8_under_3 18 rfl rfl)
theorem dX8_under_87 : decode cX8_under 87 = .ok (.getfield 151, 3) := dk_180 0 151 (dk_at dksX8_under_3 19 rfl rfl)
theorem dX8_under_90 : decode cX8_under 90 = .ok (.if_icmp .ge 49, 3) := dk_162 0 49 (dk_at dksX8_under_4 0 rfl rfl)
theorem dX8_under_93 : decode cX8_under 93 = .ok (.iload 8, 2) := dk_21 8 (dk_at dksX8_under_4 3 rfl rfl)
theorem dX8_under_95 : decode cX8_under 95 = .ok (.iload 7, 2) := dk_21 7 (dk_at dksX8_under_4 5 rfl rfl)
theorem dX8_under_97 : decode cX8_under 97 = .ok (.iload 10, 2) := dk_21 10 (dk_at dksX8_under_4 7 rfl rfl)
theorem dX8_under_99 : decode cX8_under 99 = .ok (.ishr, 1) := dk_122 (dk_at dksX8_under_4 9 rfl rfl)
theorem dX8_under_100 : decode cX8_under 100 = .ok (.iconst 1, 1) := dk_4 (dk_at dksX8_under_4 10 rfl rfl)
theorem dX8_under_101 : decode cX8_under 101 = .ok (.iand, 1) := dk_126 (dk_at dksX8_under_4 11 rfl rfl)
theorem dX8_under_102 : decode cX8_under 102 = .ok (.aload_n 0, 1) := dk_42 (dk_at dksX8_under_4 12 rfl rfl)
theorem dX8_under_103 : decode cX8_under 103 = .ok (.getfield 28, 3) := dk_180 0 28 (dk_at dksX8_under_4 13 rfl rfl)
theorem dX8_under_106 : decode cX8_under 106 = .ok (.iload 10, 2) := dk_21 10 (dk_at dksX8_under_4 16 rfl rfl)
theorem dX8_under_108 : decode cX8_under 108 = .ok (.iaload, 1) := dk_46 (dk_at dksX8_under_4 18 rfl rfl)
theorem dX8_under_109 : decode cX8_under 109 = .ok (.imul, 1) := dk_104 (dk_at dksX8_under_4 19 rfl rfl)
theorem dX8_under_110 : decode cX8_under 110 = .ok (.iadd, 1) := dk_96 (dk_at dksX8_under_4 20 rfl rfl)
theorem dX8_under_111 : decode cX8_under 111 = .ok (.istore 8, 2) := dk_54 8 (dk_at dksX8_under_4 21 rfl rfl)
theorem dX8_under_113 : decode cX8_under 113 = .ok (.iload 9, 2) := dk_21 9 (dk_at dksX8_under_5 0 rfl rfl)
theorem dX8_under_115 : decode cX8_under 115 = .ok (.iload 7, 2) := dk_21 7 (dk_at dksX8_under_5 2 rfl rfl)
theorem dX8_under_117 : decode cX8_under 117 = .ok (.iload 10, 2) := dk_21 10 (dk_at dksX8_under_5 4 rfl rfl)
theorem dX8_under_119 : decode cX8_under 119 = .ok (.ishr, 1) := dk_122 (dk_at dksX8_under_5 6 rfl rfl)
theorem dX8_under_120 : decode cX8_under 120 = .ok (.iconst 1, 1) := dk_4 (dk_at dksX8_under_5 7 rfl rfl)
theorem dX8_under_121 : decode cX8_under 121 = .ok (.iand, 1) := dk_126 (dk_at dksX8_under_5 8 rfl rfl)
theorem dX8_under_122 : decode cX8_under 122 = .ok (.aload_n 0, 1) := dk_42 (dk_at dksX8_under_5 9 rfl rfl)
theorem dX8_under_123 : decode cX8_under 123 = .ok (.getfield 31, 3) := dk_180 0 31 (dk_at dksX8_under_5 10 rfl rfl)
theorem dX8_under_126 : decode cX8_under 126 = .ok (.iload 10, 2) := dk_21 10 (dk_at dksX8_under_5 13 rfl rfl)
theorem dX8_under_128 : decode cX8_under 128 = .ok (.iaload, 1) := dk_46 (dk_at dksX8_under_5 15 rfl rfl)
theorem dX8_under_129 : decode cX8_under 129 = .ok (.imul, 1) := dk_104 (dk_at dksX8_under_5 16 rfl rfl)
theorem dX8_under_130 : decode cX8_under 130 = .ok (.iadd, 1) := dk_96 (dk_at dksX8_under_5 17 rfl rfl)
theorem dX8_under_131 : decode cX8_under 131 = .ok (.istore 9, 2) := dk_54 9 (dk_at dksX8_under_5 18 rfl rfl)
theorem dX8_under_133 : decode cX8_under 133 = .ok (.iinc 10 1, 3) := dk_132 10 1 (dk_at dksX8_under_5 20 rfl rfl)
theorem dX8_under_136 : decode cX8_under 136 = .ok (.goto (-52), 3) := dk_167 255 204 (dk_at dksX8_under_6 0 rfl rfl)
theorem dX8_under_139 : decode cX8_under 139 = .ok (.iload 7, 2) := dk_21 7 (dk_at dksX8_under_6 3 rfl rfl)
theorem dX8_under_141 : decode cX8_under 141 = .ok (.iload_n 1, 1) := dk_27 (dk_at dksX8_under_6 5 rfl rfl)
theorem dX8_under_142 : decode cX8_under 142 = .ok (.ishr, 1) := dk_122 (dk_at dksX8_under_6 6 rfl rfl)
theorem dX8_under_143 : decode cX8_under 143 = .ok (.iconst 1, 1) := dk_4 (dk_at dksX8_under_6 7 rfl rfl)
theorem dX8_under_144 : decode cX8_under 144 = .ok (.iand, 1) := dk_126 (dk_at dksX8_under_6 8 rfl rfl)
theorem dX8_under_145 : decode cX8_under 145 = .ok (.iconst 1, 1) := dk_4 (dk_at dksX8_under_6 9 rfl rfl)
theorem dX8_under_146 : decode cX8_under 146 = .ok (.if_icmp .ne 19, 3) := dk_160 0 19 (dk_at dksX8_under_6 10 rfl rfl)
theorem dX8_under_149 : decode cX8_under 149 = .ok (.iload 8, 2) := dk_21 8 (dk_at dksX8_under_6 13 rfl rfl)
theorem dX8_under_151 : decode cX8_under 151 = .ok (.iload_n 3, 1) := dk_29 (dk_at dksX8_under_6 15 rfl rfl)
theorem dX8_under_152 : decode cX8_under 152 = .ok (.if_icmp .ne 13, 3) := dk_160 0 13 (dk_at dksX8_under_6 16 rfl rfl)
theorem dX8_under_155 : decode cX8_under 155 = .ok (.iload 9, 2) := dk_21 9 (dk_at dksX8_under_6 19 rfl rfl)
theorem dX8_under_157 : decode cX8_under 157 = .ok (.iload_n 2, 1) := dk_28 (dk_at dksX8_under_6 21 rfl rfl)
theorem dX8_under_158 : decode cX8_under 158 = .ok (.if_icmp .ne 7, 3) := dk_160 0 7 (dk_at dksX8_under_7 0 rfl rfl)
theorem dX8_under_161 : decode cX8_under 161 = .ok (.iconst 1, 1) := dk_4 (dk_at dksX8_under_7 3 rfl rfl)
theorem dX8_under_162 : decode cX8_under 162 = .ok (.goto 4, 3) := dk_167 0 4 (dk_at dksX8_under_7 4 rfl rfl)
theorem dX8_under_165 : decode cX8_under 165 = .ok (.iconst 0, 1) := dk_3 (dk_at dksX8_under_7 7 rfl rfl)
theorem dX8_under_166 : decode cX8_under 166 = .ok (.istore 10, 2) := dk_54 10 (dk_at dksX8_under_7 8 rfl rfl)
theorem dX8_under_168 : decode cX8_under 168 = .ok (.iload 5, 2) := dk_21 5 (dk_at dksX8_under_7 10 rfl rfl)
theorem dX8_under_170 : decode cX8_under 170 = .ok (.iload 10, 2) := dk_21 10 (dk_at dksX8_under_7 12 rfl rfl)
theorem dX8_under_172 : decode cX8_under 172 = .ok (.ifCond .eq 7, 3) := dk_153 0 7 (dk_at dksX8_under_7 14 rfl rfl)
theorem dX8_under_175 : decode cX8_under 175 = .ok (.iconst 1, 1) := dk_4 (dk_at dksX8_under_7 17 rfl rfl)
theorem dX8_under_176 : decode cX8_under 176 = .ok (.goto 4, 3) := dk_167 0 4 (dk_at dksX8_under_7 18 rfl rfl)
theorem dX8_under_179 : decode cX8_under 179 = .ok (.iconst 0, 1) := dk_3 (dk_at dksX8_under_7 21 rfl rfl)
theorem dX8_under_180 : decode cX8_under 180 = .ok (.iadd, 1) := dk_96 (dk_at dksX8_under_7 22 rfl rfl)
theorem dX8_under_181 : decode cX8_under 181 = .ok (.istore 5, 2) := dk_54 5 (dk_at dksX8_under_8 0 rfl rfl)
theorem dX8_under_183 : decode cX8_under 183 = .ok (.iload 10, 2) := dk_21 10 (dk_at dksX8_under_8 2 rfl rfl)
theorem dX8_under_185 : decode cX8_under 185 = .ok (.ifCond .eq 8, 3) := dk_153 0 8 (dk_at dksX8_under_8 4 rfl rfl)
theorem dX8_under_188 : decode cX8_under 188 = .ok (.iload 7, 2) := dk_21 7 (dk_at dksX8_under_8 7 rfl rfl)
theorem dX8_under_190 : decode cX8_under 190 = .ok (.goto 5, 3) := dk_167 0 5 (dk_at dksX8_under_8 9 rfl rfl)
theorem dX8_under_193 : decode cX8_under 193 = .ok (.iload 6, 2) := dk_21 6 (dk_at dksX8_under_8 12 rfl rfl)
theorem dX8_under_195 : decode cX8_under 195 = .ok (.istore 6, 2) := dk_54 6 (dk_at dksX8_under_8 14 rfl rfl)
theorem dX8_under_197 : decode cX8_under 197 = .ok (.iinc 7 (-1), 3) := dk_132 7 255 (dk_at dksX8_under_8 16 rfl rfl)
theorem dX8_under_200 : decode cX8_under 200 = .ok (.goto (-130), 3) := dk_167 255 126 (dk_at dksX8_under_8 19 rfl rfl)
theorem dX8_under_203 : decode cX8_under 203 = .ok (.iload 4, 2) := dk_21 4 (dk_at dksX8_under_8 22 rfl rfl)
theorem dX8_under_205 : decode cX8_under 205 = .ok (.ifCond .ne 8, 3) := dk_154 0 8 (dk_at dksX8_under_9 0 rfl rfl)
theorem dX8_under_208 : decode cX8_under 208 = .ok (.iload 5, 2) := dk_21 5 (dk_at dksX8_under_9 3 rfl rfl)
theorem dX8_under_210 : decode cX8_under 210 = .ok (.goto 5, 3) := dk_167 0 5 (dk_at dksX8_under_9 5 rfl rfl)
theorem dX8_under_213 : decode cX8_under 213 = .ok (.iload 6, 2) := dk_21 6 (dk_at dksX8_under_9 8 rfl rfl)
theorem dX8_under_215 : decode cX8_under 215 = .ok (.ireturn, 1) := dk_172 (dk_at dksX8_under_9 10 rfl rfl)
abbrev cX8_image : ByteArray := prog_10_method_50_code
def yX8_image : MethodName := ⟨RX8, "image", "()I"⟩
def dkwX8_image_4 : List UInt8 := [42, 180, 0, 49, 27, 6, 96, 42, 180, 0, 151, 79, 42, 4, 181, 0, 221, 4, 172]
abbrev dktX8_image_4 : List UInt8 := dkwX8_image_4 ++ []
def dkwX8_image_3 : List UInt8 := [42, 180, 0, 49, 27, 4, 96, 42, 180, 0, 145, 79, 42, 180, 0, 49, 27, 5, 96, 42, 180, 0, 148, 79]
abbrev dktX8_image_3 : List UInt8 := dkwX8_image_3 ++ dktX8_image_4
def dkwX8_image_2 : List UInt8 := [182, 0, 217, 60, 42, 42, 180, 0, 31, 27, 182, 0, 217, 60, 42, 180, 0, 49, 27, 42, 180, 0, 64, 79]
abbrev dktX8_image_2 : List UInt8 := dkwX8_image_2 ++ dktX8_image_3
def dkwX8_image_1 : List UInt8 := [180, 0, 22, 27, 182, 0, 217, 60, 42, 42, 180, 0, 25, 27, 182, 0, 217, 60, 42, 42, 180, 0, 28, 27]
abbrev dktX8_image_1 : List UInt8 := dkwX8_image_1 ++ dktX8_image_2
def dkwX8_image_0 : List UInt8 := [42, 42, 180, 0, 7, 3, 182, 0, 217, 60, 42, 42, 180, 0, 19, 27, 182, 0, 217, 60, 42, 42]
abbrev dktX8_image_0 : List UInt8 := dkwX8_image_0 ++ dktX8_image_1
theorem dksX8_image_0 : cX8_image.data.toList.drop 0 = dktX8_image_0 := by decide +kernel
theorem dksX8_image_1 : cX8_image.data.toList.drop 22 = dktX8_image_1 := dk_seg dksX8_image_0 22 rfl rfl
theorem dksX8_image_2 : cX8_image.data.toList.drop 46 = dktX8_image_2 := dk_seg dksX8_image_1 24 rfl rfl
theorem dksX8_image_3 : cX8_image.data.toList.drop 70 = dktX8_image_3 := dk_seg dksX8_image_2 24 rfl rfl
theorem dksX8_image_4 : cX8_image.data.toList.drop 94 = dktX8_image_4 := dk_seg dksX8_image_3 24 rfl rfl
theorem dX8_image_0 : decode cX8_image 0 = .ok (.aload_n 0, 1) := dk_42 (dk_at dksX8_image_0 0 rfl rfl)
theorem dX8_image_1 : decode cX8_image 1 = .ok (.aload_n 0, 1) := dk_42 (dk_at dksX8_image_0 1 rfl rfl)
theorem dX8_image_2 : decode cX8_image 2 = .ok (.getfield 7, 3) := dk_180 0 7 (dk_at dksX8_image_0 2 rfl rfl)
theorem dX8_image_5 : decode cX8_image 5 = .ok (.iconst 0, 1) := dk_3 (dk_at dksX8_image_0 5 rfl rfl)
theorem dX8_image_6 : decode cX8_image 6 = .ok (.invokevirtual 217, 3) := dk_182 0 217 (dk_at dksX8_image_0 6 rfl rfl)
theorem dX8_image_9 : decode cX8_image 9 = .ok (.istore_n 1, 1) := dk_60 (dk_at dksX8_image_0 9 rfl rfl)
theorem dX8_image_10 : decode cX8_image 10 = .ok (.aload_n 0, 1) := dk_42 (dk_at dksX8_image_0 10 rfl rfl)
theorem dX8_image_11 : decode cX8_image 11 = .ok (.aload_n 0, 1) := dk_42 (dk_at dksX8_image_0 11 rfl rfl)
theorem dX8_image_12 : decode cX8_image 12 = .ok (.getfield 19, 3) := dk_180 0 19 (dk_at dksX8_image_0 12 rfl rfl)
theorem dX8_image_15 : decode cX8_image 15 = .ok (.iload_n 1, 1) := dk_27 (dk_at dksX8_image_0 15 rfl rfl)
theorem dX8_image_16 : decode cX8_image 16 = .ok (.invokevirtual 217, 3) := dk_182 0 217 (dk_at dksX8_image_0 16 rfl rfl)
theorem dX8_image_19 : decode cX8_image 19 = .ok (.istore_n 1, 1) := dk_60 (dk_at dksX8_image_0 19 rfl rfl)
theorem dX8_image_20 : decode cX8_image 20 = .ok (.aload_n 0, 1) := dk_42 (dk_at dksX8_image_0 20 rfl rfl)
theorem dX8_image_21 : decode cX8_image 21 = .ok (.aload_n 0, 1) := dk_42 (dk_at dksX8_image_0 21 rfl rfl)
theorem dX8_image_22 : decode cX8_image 22 = .ok (.getfield 22, 3) := dk_180 0 22 (dk_at dksX8_image_1 0 rfl rfl)
theorem dX8_image_25 : decode cX8_image 25 = .ok (.iload_n 1, 1) := dk_27 (dk_at dksX8_image_1 3 rfl rfl)
theorem dX8_image_26 : decode cX8_image 26 = .ok (.invokevirtual 217, 3) := dk_182 0 217 (dk_at dksX8_image_1 4 rfl rfl)
theorem dX8_image_29 : decode cX8_image 29 = .ok (.istore_n 1, 1) := dk_60 (dk_at dksX8_image_1 7 rfl rfl)
theorem dX8_image_30 : decode cX8_image 30 = .ok (.aload_n 0, 1) := dk_42 (dk_at dksX8_image_1 8 rfl rfl)
theorem dX8_image_31 : decode cX8_image 31 = .ok (.aload_n 0, 1) := dk_42 (dk_at dksX8_image_1 9 rfl rfl)
theorem dX8_image_32 : decode cX8_image 32 = .ok (.getfield 25, 3) := dk_180 0 25 (dk_at dksX8_image_1 10 rfl rfl)
theorem dX8_image_35 : decode cX8_image 35 = .ok (.iload_n 1, 1) := dk_27 (dk_at dksX8_image_1 13 rfl rfl)
theorem dX8_image_36 : decode cX8_image 36 = .ok (.invokevirtual 217, 3) := dk_182 0 217 (dk_at dksX8_image_1 14 rfl rfl)
theorem dX8_image_39 : decode cX8_image 39 = .ok (.istore_n 1, 1) := dk_60 (dk_at dksX8_image_1 17 rfl rfl)
theorem dX8_image_40 : decode cX8_image 40 = .ok (.aload_n 0, 1) := dk_42 (dk_at dksX8_image_1 18 rfl rfl)
theorem dX8_image_41 : decode cX8_image 41 = .ok (.aload_n 0, 1) := dk_42 (dk_at dksX8_image_1 19 rfl rfl)
theorem dX8_image_42 : decode cX8_image 42 = .ok (.getfield 28, 3) := dk_180 0 28 (dk_at dksX8_image_1 20 rfl rfl)
theorem dX8_image_45 : decode cX8_image 45 = .ok (.iload_n 1, 1) := dk_27 (dk_at dksX8_image_1 23 rfl rfl)
theorem dX8_image_46 : decode cX8_image 46 = .ok (.invokevirtual 217, 3) := dk_182 0 217 (dk_at dksX8_image_2 0 rfl rfl)
theorem dX8_image_49 : decode cX8_image 49 = .ok (.istore_n 1, 1) := dk_60 (dk_at dksX8_image_2 3 rfl rfl)
theorem dX8_image_50 : decode cX8_image 50 = .ok (.aload_n 0, 1) := dk_42 (dk_at dksX8_image_2 4 rfl rfl)
theorem dX8_image_51 : decode cX8_image 51 = .ok (.aload_n 0, 1) := dk_42 (dk_at dksX8_image_2 5 rfl rfl)
theorem dX8_image_52 : decode cX8_image 52 = .ok (.getfield 31, 3) := dk_180 0 31 (dk_at dksX8_image_2 6 rfl rfl)
theorem dX8_image_55 : decode cX8_image 55 = .ok (.iload_n 1, 1) := dk_27 (dk_at dksX8_image_2 9 rfl rfl)
theorem dX8_image_56 : decode cX8_image 56 = .ok (.invokevirtual 217, 3) := dk_182 0 217 (dk_at dksX8_image_2 10 rfl rfl)
theorem dX8_image_59 : decode cX8_image 59 = .ok (.istore_n 1, 1) := dk_60 (dk_at dksX8_image_2 13 rfl rfl)
theorem dX8_image_60 : decode cX8_image 60 = .ok (.aload_n 0, 1) := dk_42 (dk_at dksX8_image_2 14 rfl rfl)
theorem dX8_image_61 : decode cX8_image 61 = .ok (.getfield 49, 3) := dk_180 0 49 (dk_at dksX8_image_2 15 rfl rfl)
theorem dX8_image_64 : decode cX8_image 64 = .ok (.iload_n 1, 1) := dk_27 (dk_at dksX8_image_2 18 rfl rfl)
theorem dX8_image_65 : decode cX8_image 65 = .ok (.aload_n 0, 1) := dk_42 (dk_at dksX8_image_2 19 rfl rfl)
theorem dX8_image_66 : decode cX8_image 66 = .ok (.getfield 64, 3) := dk_180 0 64 (dk_at dksX8_image_2 20 rfl rfl)
theorem dX8_image_69 : decode cX8_image 69 = .ok (.iastore, 1) := dk_79 (dk_at dksX8_image_2 23 rfl rfl)
theorem dX8_image_70 : decode cX8_image 70 = .ok (.aload_n 0, 1) := dk_42 (dk_at dksX8_image_3 0 rfl rfl)
theorem dX8_image_71 : decode cX8_image 71 = .ok (.getfield 49, 3) := dk_180 0 49 (dk_at dksX8_image_3 1 rfl rfl)
theorem dX8_image_74 : decode cX8_image 74 = .ok (.iload_n 1, 1) := dk_27 (dk_at dksX8_image_3 4 rfl rfl)
theorem dX8_image_75 : decode cX8_image 75 = .ok (.iconst 1, 1) := dk_4 (dk_at dksX8_image_3 5 rfl rfl)
theorem dX8_image_76 : decode cX8_image 76 = .ok (.iadd, 1) := dk_96 (dk_at dksX8_image_3 6 rfl rfl)
theorem dX8_image_77 : decode cX8_image 77 = .ok (.aload_n 0, 1) := dk_42 (dk_at dksX8_image_3 7 rfl rfl)
theorem dX8_image_78 : decode cX8_image 78 = .ok (.getfield 145, 3) := dk_180 0 145 (dk_at dksX8_image_3 8 rfl rfl)
theorem dX8_image_81 : decode cX8_image 81 = .ok (.iastore, 1) := dk_79 (dk_at dksX8_image_3 11 rfl rfl)
theorem dX8_image_82 : decode cX8_image 82 = .ok (.aload_n 0, 1) := dk_42 (dk_at dksX8_image_3 12 rfl rfl)
theorem dX8_image_83 : decode cX8_image 83 = .ok (.getfield 49, 3) := dk_180 0 49 (dk_at dksX8_image_3 13 rfl rfl)
theorem dX8_image_86 : decode cX8_image 86 = .ok (.iload_n 1, 1) := dk_27 (dk_at dksX8_image_3 16 rfl rfl)
theorem dX8_image_87 : decode cX8_image 87 = .ok (.iconst 2, 1) := dk_5 (dk_at dksX8_image_3 17 rfl rfl)
theorem dX8_image_88 : decode cX8_image 88 = .ok (.iadd, 1) := dk_96 (dk_at dksX8_image_3 18 rfl rfl)
theorem dX8_image_89 : decode cX8_image 89 = .ok (.aload_n 0, 1) := dk_42 (dk_at dksX8_image_3 19 rfl rfl)
theorem dX8_image_90 : decode cX8_image 90 = .ok (.getfield 148, 3) := dk_180 0 148 (dk_at dksX8_image_3 20 rfl rfl)
theorem dX8_image_93 : decode cX8_image 93 = .ok (.iastore, 1) := dk_79 (dk_at dksX8_image_3 23 rfl rfl)
theorem dX8_image_94 : decode cX8_image 94 = .ok (.aload_n 0, 1) := dk_42 (dk_at dksX8_image_4 0 rfl rfl)
theorem dX8_image_95 : decode cX8_image 95 = .ok (.getfield 49, 3) := dk_180 0 49 (dk_at dksX8_image_4 1 rfl rfl)
theorem dX8_image_98 : decode cX8_image 98 = .ok (.iload_n 1, 1) := dk_27 (dk_at dksX8_image_4 4 rfl rfl)
theorem dX8_image_99 : decode cX8_image 99 = .ok (.iconst 3, 1) := dk_6 (dk_at dksX8_image_4 5 rfl rfl)
theorem dX8_image_100 : decode cX8_image 100 = .ok (.iadd, 1) := dk_96 (dk_at dksX8_image_4 6 rfl rfl)
theorem dX8_image_101 : decode cX8_image 101 = .ok (.aload_n 0, 1) := dk_42 (dk_at dksX8_image_4 7 rfl rfl)
theorem dX8_image_102 : decode cX8_image 102 = .ok (.getfield 151, 3) := dk_180 0 151 (dk_at dksX8_image_4 8 rfl rfl)
theorem dX8_image_105 : decode cX8_image 105 = .ok (.iastore, 1) := dk_79 (dk_at dksX8_image_4 11 rfl rfl)
theorem dX8_image_106 : decode cX8_image 106 = .ok (.aload_n 0, 1) := dk_42 (dk_at dksX8_image_4 12 rfl rfl)
theorem dX8_image_107 : decode cX8_image 107 = .ok (.iconst 1, 1) := dk_4 (dk_at dksX8_image_4 13 rfl rfl)
theorem dX8_image_108 : decode cX8_image 108 = .ok (.putfield 221, 3) := dk_181 0 221 (dk_at dksX8_image_4 14 rfl rfl)
theorem dX8_image_111 : decode cX8_image 111 = .ok (.iconst 1, 1) := dk_4 (dk_at dksX8_image_4 17 rfl rfl)
theorem dX8_image_112 : decode cX8_image 112 = .ok (.ireturn, 1) := dk_172 (dk_at dksX8_image_4 18 rfl rfl)
abbrev cX8_lay : ByteArray := prog_10_method_48_code
def yX8_lay : MethodName := ⟨RX8, "lay", "([II)I"⟩
def dkwX8_lay_1 : List UInt8 := [167, 255, 236, 28, 43, 190, 96, 172]
abbrev dktX8_lay_1 : List UInt8 := dkwX8_lay_1 ++ []
def dkwX8_lay_0 : List UInt8 := [3, 62, 29, 43, 190, 162, 0, 20, 42, 180, 0, 49, 28, 29, 96, 43, 29, 46, 79, 132, 3, 1]
abbrev dktX8_lay_0 : List UInt8 := dkwX8_lay_0 ++ dktX8_lay_1
theorem dksX8_lay_0 : cX8_lay.data.toList.drop 0 = dktX8_lay_0 := by decide +kernel
theorem dksX8_lay_1 : cX8_lay.data.toList.drop 22 = dktX8_lay_1 := dk_seg dksX8_lay_0 22 rfl rfl
theorem dX8_lay_0 : decode cX8_lay 0 = .ok (.iconst 0, 1) := dk_3 (dk_at dksX8_lay_0 0 rfl rfl)
theorem dX8_lay_1 : decode cX8_lay 1 = .ok (.istore_n 3, 1) := dk_62 (dk_at dksX8_lay_0 1 rfl rfl)
theorem dX8_lay_2 : decode cX8_lay 2 = .ok (.iload_n 3, 1) := dk_29 (dk_at dksX8_lay_0 2 rfl rfl)
theorem dX8_lay_3 : decode cX8_lay 3 = .ok (.aload_n 1, 1) := dk_43 (dk_at dksX8_lay_0 3 rfl rfl)
theorem dX8_lay_4 : decode cX8_lay 4 = .ok (.arraylength, 1) := dk_190 (dk_at dksX8_lay_0 4 rfl rfl)
theorem dX8_lay_5 : decode cX8_lay 5 = .ok (.if_icmp .ge 20, 3) := dk_162 0 20 (dk_at dksX8_lay_0 5 rfl rfl)
theorem dX8_lay_8 : decode cX8_lay 8 = .ok (.aload_n 0, 1) := dk_42 (dk_at dksX8_lay_0 8 rfl rfl)
theorem dX8_lay_9 : decode cX8_lay 9 = .ok (.getfield 49, 3) := dk_180 0 49 (dk_at dksX8_lay_0 9 rfl rfl)
theorem dX8_lay_12 : decode cX8_lay 12 = .ok (.iload_n 2, 1) := dk_28 (dk_at dksX8_lay_0 12 rfl rfl)
theorem dX8_lay_13 : decode cX8_lay 13 = .ok (.iload_n 3, 1) := dk_29 (dk_at dksX8_lay_0 13 rfl rfl)
theorem dX8_lay_14 : decode cX8_lay 14 = .ok (.iadd, 1) := dk_96 (dk_at dksX8_lay_0 14 rfl rfl)
theorem dX8_lay_15 : decode cX8_lay 15 = .ok (.aload_n 1, 1) := dk_43 (dk_at dksX8_lay_0 15 rfl rfl)
theorem dX8_lay_16 : decode cX8_lay 16 = .ok (.iload_n 3, 1) := dk_29 (dk_at dksX8_lay_0 16 rfl rfl)
theorem dX8_lay_17 : decode cX8_lay 17 = .ok (.iaload, 1) := dk_46 (dk_at dksX8_lay_0 17 rfl rfl)
theorem dX8_lay_18 : decode cX8_lay 18 = .ok (.iastore, 1) := dk_79 (dk_at dksX8_lay_0 18 rfl rfl)
theorem dX8_lay_19 : decode cX8_lay 19 = .ok (.iinc 3 1, 3) := dk_132 3 1 (dk_at dksX8_lay_0 19 rfl rfl)
theorem dX8_lay_22 : decode cX8_lay 22 = .ok (.goto (-20), 3) := dk_167 255 236 (dk_at dksX8_lay_1 0 rfl rfl)
theorem dX8_lay_25 : decode cX8_lay 25 = .ok (.iload_n 2, 1) := dk_28 (dk_at dksX8_lay_1 3 rfl rfl)
theorem dX8_lay_26 : decode cX8_lay 26 = .ok (.aload_n 1, 1) := dk_43 (dk_at dksX8_lay_1 4 rfl rfl)
theorem dX8_lay_27 : decode cX8_lay 27 = .ok (.arraylength, 1) := dk_190 (dk_at dksX8_lay_1 5 rfl rfl)
theorem dX8_lay_28 : decode cX8_lay 28 = .ok (.iadd, 1) := dk_96 (dk_at dksX8_lay_1 6 rfl rfl)
theorem dX8_lay_29 : decode cX8_lay 29 = .ok (.ireturn, 1) := dk_172 (dk_at dksX8_lay_1 7 rfl rfl)
abbrev cX8_restore : ByteArray := prog_10_method_51_code
def yX8_restore : MethodName := ⟨RX8, "restore", "()I"⟩
def dkwX8_restore_4 : List UInt8 := [180, 0, 49, 27, 5, 96, 46, 181, 0, 148, 42, 42, 180, 0, 49, 27, 6, 96, 46, 181, 0, 151, 4, 172]
abbrev dktX8_restore_4 : List UInt8 := dkwX8_restore_4 ++ []
def dkwX8_restore_3 : List UInt8 := [42, 42, 180, 0, 49, 27, 46, 181, 0, 64, 42, 42, 180, 0, 49, 27, 4, 96, 46, 181, 0, 145, 42, 42]
abbrev dktX8_restore_3 : List UInt8 := dkwX8_restore_3 ++ dktX8_restore_4
def dkwX8_restore_2 : List UInt8 := [182, 0, 224, 60, 42, 27, 42, 180, 0, 28, 182, 0, 224, 60, 42, 27, 42, 180, 0, 31, 182, 0, 224, 60]
abbrev dktX8_restore_2 : List UInt8 := dkwX8_restore_2 ++ dktX8_restore_3
def dkwX8_restore_1 : List UInt8 := [180, 0, 19, 182, 0, 224, 60, 42, 27, 42, 180, 0, 22, 182, 0, 224, 60, 42, 27, 42, 180, 0, 25]
abbrev dktX8_restore_1 : List UInt8 := dkwX8_restore_1 ++ dktX8_restore_2
def dkwX8_restore_0 : List UInt8 := [42, 180, 0, 221, 154, 0, 6, 16, 252, 172, 42, 3, 42, 180, 0, 7, 182, 0, 224, 60, 42, 27, 42]
abbrev dktX8_restore_0 : List UInt8 := dkwX8_restore_0 ++ dktX8_restore_1
theorem dksX8_restore_0 : cX8_restore.data.toList.drop 0 = dktX8_restore_0 := by decide +kernel
theorem dksX8_restore_1 : cX8_restore.data.toList.drop 23 = dktX8_restore_1 := dk_seg dksX8_restore_0 23 rfl rfl
theorem dksX8_restore_2 : cX8_restore.data.toList.drop 46 = dktX8_restore_2 := dk_seg dksX8_restore_1 23 rfl rfl
theorem dksX8_restore_3 : cX8_restore.data.toList.drop 70 = dktX8_restore_3 := dk_seg dksX8_restore_2 24 rfl rfl
theorem dksX8_restore_4 : cX8_restore.data.toList.drop 94 = dktX8_restore_4 := dk_seg dksX8_restore_3 24 rfl rfl
theorem dX8_restore_0 : decode cX8_restore 0 = .ok (.aload_n 0, 1) := dk_42 (dk_at dksX8_restore_0 0 rfl rfl)
theorem dX8_restore_1 : decode cX8_restore 1 = .ok (.getfield 221, 3) := dk_180 0 221 (dk_at dksX8_restore_0 1 rfl rfl)
theorem dX8_restore_4 : decode cX8_restore 4 = .ok (.ifCond .ne 6, 3) := dk_154 0 6 (dk_at dksX8_restore_0 4 rfl rfl)
theorem dX8_restore_7 : decode cX8_restore 7 = .ok (.bipush (-4), 2) := dk_16 252 (dk_at dksX8_restore_0 7 rfl rfl)
theorem dX8_restore_9 : decode cX8_restore 9 = .ok (.ireturn, 1) := dk_172 (dk_at dksX8_restore_0 9 rfl rfl)
theorem dX8_restore_10 : decode cX8_restore 10 = .ok (.aload_n 0, 1) := dk_42 (dk_at dksX8_restore_0 10 rfl rfl)
theorem dX8_restore_11 : decode cX8_restore 11 = .ok (.iconst 0, 1) := dk_3 (dk_at dksX8_restore_0 11 rfl rfl)
theorem dX8_restore_12 : decode cX8_restore 12 = .ok (.aload_n 0, 1) := dk_42 (dk_at dksX8_restore_0 12 rfl rfl)
theorem dX8_restore_13 : decode cX8_restore 13 = .ok (.getfield 7, 3) := dk_180 0 7 (dk_at dksX8_restore_0 13 rfl rfl)
theorem dX8_restore_16 : decode cX8_restore 16 = .ok (.invokevirtual 224, 3) := dk_182 0 224 (dk_at dksX8_restore_0 16 rfl rfl)
theorem dX8_restore_19 : decode cX8_restore 19 = .ok (.istore_n 1, 1) := dk_60 (dk_at dksX8_restore_0 19 rfl rfl)
theorem dX8_restore_20 : decode cX8_restore 20 = .ok (.aload_n 0, 1) := dk_42 (dk_at dksX8_restore_0 20 rfl rfl)
theorem dX8_restore_21 : decode cX8_restore 21 = .ok (.iload_n 1, 1) := dk_27 (dk_at dksX8_restore_0 21 rfl rfl)
theorem dX8_restore_22 : decode cX8_restore 22 = .ok (.aload_n 0, 1) := dk_42 (dk_at dksX8_restore_0 22 rfl rfl)
theorem dX8_restore_23 : decode cX8_restore 23 = .ok (.getfield 19, 3) := dk_180 0 19 (dk_at dksX8_restore_1 0 rfl rfl)
theorem dX8_restore_26 : decode cX8_restore 26 = .ok (.invokevirtual 224, 3) := dk_182 0 224 (dk_at dksX8_restore_1 3 rfl rfl)
theorem dX8_restore_29 : decode cX8_restore 29 = .ok (.istore_n 1, 1) := dk_60 (dk_at dksX8_restore_1 6 rfl rfl)
theorem dX8_restore_30 : decode cX8_restore 30 = .ok (.aload_n 0, 1) := dk_42 (dk_at dksX8_restore_1 7 rfl rfl)
theorem dX8_restore_31 : decode cX8_restore 31 = .ok (.iload_n 1, 1) := dk_27 (dk_at dksX8_restore_1 8 rfl rfl)
theorem dX8_restore_32 : decode cX8_restore 32 = .ok (.aload_n 0, 1) := dk_42 (dk_at dksX8_restore_1 9 rfl rfl)
theorem dX8_restore_33 : decode cX8_restore 33 = .ok (.getfield 22, 3) := dk_180 0 22 (dk_at dksX8_restore_1 10 rfl rfl)
theorem dX8_restore_36 : decode cX8_restore 36 = .ok (.invokevirtual 224, 3) := dk_182 0 224 (dk_at dksX8_restore_1 13 rfl rfl)
theorem dX8_restore_39 : decode cX8_restore 39 = .ok (.istore_n 1, 1) := dk_60 (dk_at dksX8_restore_1 16 rfl rfl)
theorem dX8_restore_40 : decode cX8_restore 40 = .ok (.aload_n 0, 1) := dk_42 (dk_at dksX8_restore_1 17 rfl rfl)
theorem dX8_restore_41 : decode cX8_restore 41 = .ok (.iload_n 1, 1) := dk_27 (dk_at dksX8_restore_1 18 rfl rfl)
theorem dX8_restore_42 : decode cX8_restore 42 = .ok (.aload_n 0, 1) := dk_42 (dk_at dksX8_restore_1 19 rfl rfl)
theorem dX8_restore_43 : decode cX8_restore 43 = .ok (.getfield 25, 3) := dk_180 0 25 (dk_at dksX8_restore_1 20 rfl rfl)
theorem dX8_restore_46 : decode cX8_restore 46 = .ok (.invokevirtual 224, 3) := dk_182 0 224 (dk_at dksX8_restore_2 0 rfl rfl)
theorem dX8_restore_49 : decode cX8_restore 49 = .ok (.istore_n 1, 1) := dk_60 (dk_at dksX8_restore_2 3 rfl rfl)
theorem dX8_restore_50 : decode cX8_restore 50 = .ok (.aload_n 0, 1) := dk_42 (dk_at dksX8_restore_2 4 rfl rfl)
theorem dX8_restore_51 : decode cX8_restore 51 = .ok (.iload_n 1, 1) := dk_27 (dk_at dksX8_restore_2 5 rfl rfl)
theorem dX8_restore_52 : decode cX8_restore 52 = .ok (.aload_n 0, 1) := dk_42 (dk_at dksX8_restore_2 6 rfl rfl)
theorem dX8_restore_53 : decode cX8_restore 53 = .ok (.getfield 28, 3) := dk_180 0 28 (dk_at dksX8_restore_2 7 rfl rfl)
theorem dX8_restore_56 : decode cX8_restore 56 = .ok (.invokevirtual 224, 3) := dk_182 0 224 (dk_at dksX8_restore_2 10 rfl rfl)
theorem dX8_restore_59 : decode cX8_restore 59 = .ok (.istore_n 1, 1) := dk_60 (dk_at dksX8_restore_2 13 rfl rfl)
theorem dX8_restore_60 : decode cX8_restore 60 = .ok (.aload_n 0, 1) := dk_42 (dk_at dksX8_restore_2 14 rfl rfl)
theorem dX8_restore_61 : decode cX8_restore 61 = .ok (.iload_n 1, 1) := dk_27 (dk_at dksX8_restore_2 15 rfl rfl)
theorem dX8_restore_62 : decode cX8_restore 62 = .ok (.aload_n 0, 1) := dk_42 (dk_at dksX8_restore_2 16 rfl rfl)
theorem dX8_restore_63 : decode cX8_restore 63 = .ok (.getfield 31, 3) := dk_180 0 31 (dk_at dksX8_restore_2 17 rfl rfl)
theorem dX8_restore_66 : decode cX8_restore 66 = .ok (.invokevirtual 224, 3) := dk_182 0 224 (dk_at dksX8_restore_2 20 rfl rfl)
theorem dX8_restore_69 : decode cX8_restore 69 = .ok (.istore_n 1, 1) := dk_60 (dk_at dksX8_restore_2 23 rfl rfl)
theorem dX8_restore_70 : decode cX8_restore 70 = .ok (.aload_n 0, 1) := dk_42 (dk_at dksX8_restore_3 0 rfl rfl)
theorem dX8_restore_71 : decode cX8_restore 71 = .ok (.aload_n 0, 1) := dk_42 (dk_at dksX8_restore_3 1 rfl rfl)
theorem dX8_restore_72 : decode cX8_restore 72 = .ok (.getfield 49, 3) := dk_180 0 49 (dk_at dksX8_restore_3 2 rfl rfl)
theorem dX8_restore_75 : decode cX8_restore 75 = .ok (.iload_n 1, 1) := dk_27 (dk_at dksX8_restore_3 5 rfl rfl)
theorem dX8_restore_76 : decode cX8_restore 76 = .ok (.iaload, 1) := dk_46 (dk_at dksX8_restore_3 6 rfl rfl)
theorem dX8_restore_77 : decode cX8_restore 77 = .ok (.putfield 64, 3) := dk_181 0 64 (dk_at dksX8_restore_3 7 rfl rfl)
theorem dX8_restore_80 : decode cX8_restore 80 = .ok (.aload_n 0, 1) := dk_42 (dk_at dksX8_restore_3 10 rfl rfl)
theorem dX8_restore_81 : decode cX8_restore 81 = .ok (.aload_n 0, 1) := dk_42 (dk_at dksX8_restore_3 11 rfl rfl)
theorem dX8_restore_82 : decode cX8_restore 82 = .ok (.getfield 49, 3) := dk_180 0 49 (dk_at dksX8_restore_3 12 rfl rfl)
theorem dX8_restore_85 : decode cX8_restore 85 = .ok (.iload_n 1, 1) := dk_27 (dk_at dksX8_restore_3 15 rfl rfl)
theorem dX8_restore_86 : decode cX8_restore 86 = .ok (.iconst 1, 1) := dk_4 (dk_at dksX8_restore_3 16 rfl rfl)
theorem dX8_restore_87 : decode cX8_restore 87 = .ok (.iadd, 1) := dk_96 (dk_at dksX8_restore_3 17 rfl rfl)
theorem dX8_restore_88 : decode cX8_restore 88 = .ok (.iaload, 1) := dk_46 (dk_at dksX8_restore_3 18 rfl rfl)
theorem dX8_restore_89 : decode cX8_restore 89 = .ok (.putfield 145, 3) := dk_181 0 145 (dk_at dksX8_restore_3 19 rfl rfl)
theorem dX8_restore_92 : decode cX8_restore 92 = .ok (.aload_n 0, 1) := dk_42 (dk_at dksX8_restore_3 22 rfl rfl)
theorem dX8_restore_93 : decode cX8_restore 93 = .ok (.aload_n 0, 1) := dk_42 (dk_at dksX8_restore_3 23 rfl rfl)
theorem dX8_restore_94 : decode cX8_restore 94 = .ok (.getfield 49, 3) := dk_180 0 49 (dk_at dksX8_restore_4 0 rfl rfl)
theorem dX8_restore_97 : decode cX8_restore 97 = .ok (.iload_n 1, 1) := dk_27 (dk_at dksX8_restore_4 3 rfl rfl)
theorem dX8_restore_98 : decode cX8_restore 98 = .ok (.iconst 2, 1) := dk_5 (dk_at dksX8_restore_4 4 rfl rfl)
theorem dX8_restore_99 : decode cX8_restore 99 = .ok (.iadd, 1) := dk_96 (dk_at dksX8_restore_4 5 rfl rfl)
theorem dX8_restore_100 : decode cX8_restore 100 = .ok (.iaload, 1) := dk_46 (dk_at dksX8_restore_4 6 rfl rfl)
theorem dX8_restore_101 : decode cX8_restore 101 = .ok (.putfield 148, 3) := dk_181 0 148 (dk_at dksX8_restore_4 7 rfl rfl)
theorem dX8_restore_104 : decode cX8_restore 104 = .ok (.aload_n 0, 1) := dk_42 (dk_at dksX8_restore_4 10 rfl rfl)
theorem dX8_restore_105 : decode cX8_restore 105 = .ok (.aload_n 0, 1) := dk_42 (dk_at dksX8_restore_4 11 rfl rfl)
theorem dX8_restore_106 : decode cX8_restore 106 = .ok (.getfield 49, 3) := dk_180 0 49 (dk_at dksX8_restore_4 12 rfl rfl)
theorem dX8_restore_109 : decode cX8_restore 109 = .ok (.iload_n 1, 1) := dk_27 (dk_at dksX8_restore_4 15 rfl rfl)
theorem dX8_restore_110 : decode cX8_restore 110 = .ok (.iconst 3, 1) := dk_6 (dk_at dksX8_restore_4 16 rfl rfl)
theorem dX8_restore_111 : decode cX8_restore 111 = .ok (.iadd, 1) := dk_96 (dk_at dksX8_restore_4 17 rfl rfl)
theorem dX8_restore_112 : decode cX8_restore 112 = .ok (.iaload, 1) := dk_46 (dk_at dksX8_restore_4 18 rfl rfl)
theorem dX8_restore_113 : decode cX8_restore 113 = .ok (.putfield 151, 3) := dk_181 0 151 (dk_at dksX8_restore_4 19 rfl rfl)
theorem dX8_restore_116 : decode cX8_restore 116 = .ok (.iconst 1, 1) := dk_4 (dk_at dksX8_restore_4 22 rfl rfl)
theorem dX8_restore_117 : decode cX8_restore 117 = .ok (.ireturn, 1) := dk_172 (dk_at dksX8_restore_4 23 rfl rfl)
abbrev cX8_gives : ByteArray := prog_10_method_49_code
def yX8_gives : MethodName := ⟨RX8, "gives", "(I[I)I"⟩
def dkwX8_gives_1 : List UInt8 := [167, 255, 236, 27, 44, 190, 96, 172]
abbrev dktX8_gives_1 : List UInt8 := dkwX8_gives_1 ++ []
def dkwX8_gives_0 : List UInt8 := [3, 62, 29, 44, 190, 162, 0, 20, 44, 29, 42, 180, 0, 49, 27, 29, 96, 46, 79, 132, 3, 1]
abbrev dktX8_gives_0 : List UInt8 := dkwX8_gives_0 ++ dktX8_gives_1
theorem dksX8_gives_0 : cX8_gives.data.toList.drop 0 = dktX8_gives_0 := by decide +kernel
theorem dksX8_gives_1 : cX8_gives.data.toList.drop 22 = dktX8_gives_1 := dk_seg dksX8_gives_0 22 rfl rfl
theorem dX8_gives_0 : decode cX8_gives 0 = .ok (.iconst 0, 1) := dk_3 (dk_at dksX8_gives_0 0 rfl rfl)
theorem dX8_gives_1 : decode cX8_gives 1 = .ok (.istore_n 3, 1) := dk_62 (dk_at dksX8_gives_0 1 rfl rfl)
theorem dX8_gives_2 : decode cX8_gives 2 = .ok (.iload_n 3, 1) := dk_29 (dk_at dksX8_gives_0 2 rfl rfl)
theorem dX8_gives_3 : decode cX8_gives 3 = .ok (.aload_n 2, 1) := dk_44 (dk_at dksX8_gives_0 3 rfl rfl)
theorem dX8_gives_4 : decode cX8_gives 4 = .ok (.arraylength, 1) := dk_190 (dk_at dksX8_gives_0 4 rfl rfl)
theorem dX8_gives_5 : decode cX8_gives 5 = .ok (.if_icmp .ge 20, 3) := dk_162 0 20 (dk_at dksX8_gives_0 5 rfl rfl)
theorem dX8_gives_8 : decode cX8_gives 8 = .ok (.aload_n 2, 1) := dk_44 (dk_at dksX8_gives_0 8 rfl rfl)
theorem dX8_gives_9 : decode cX8_gives 9 = .ok (.iload_n 3, 1) := dk_29 (dk_at dksX8_gives_0 9 rfl rfl)
theorem dX8_gives_10 : decode cX8_gives 10 = .ok (.aload_n 0, 1) := dk_42 (dk_at dksX8_gives_0 10 rfl rfl)
theorem dX8_gives_11 : decode cX8_gives 11 = .ok (.getfield 49, 3) := dk_180 0 49 (dk_at dksX8_gives_0 11 rfl rfl)
theorem dX8_gives_14 : decode cX8_gives 14 = .ok (.iload_n 1, 1) := dk_27 (dk_at dksX8_gives_0 14 rfl rfl)
theorem dX8_gives_15 : decode cX8_gives 15 = .ok (.iload_n 3, 1) := dk_29 (dk_at dksX8_gives_0 15 rfl rfl)
theorem dX8_gives_16 : decode cX8_gives 16 = .ok (.iadd, 1) := dk_96 (dk_at dksX8_gives_0 16 rfl rfl)
theorem dX8_gives_17 : decode cX8_gives 17 = .ok (.iaload, 1) := dk_46 (dk_at dksX8_gives_0 17 rfl rfl)
theorem dX8_gives_18 : decode cX8_gives 18 = .ok (.iastore, 1) := dk_79 (dk_at dksX8_gives_0 18 rfl rfl)
theorem dX8_gives_19 : decode cX8_gives 19 = .ok (.iinc 3 1, 3) := dk_132 3 1 (dk_at dksX8_gives_0 19 rfl rfl)
theorem dX8_gives_22 : decode cX8_gives 22 = .ok (.goto (-20), 3) := dk_167 255 236 (dk_at dksX8_gives_1 0 rfl rfl)
theorem dX8_gives_25 : decode cX8_gives 25 = .ok (.iload_n 1, 1) := dk_27 (dk_at dksX8_gives_1 3 rfl rfl)
theorem dX8_gives_26 : decode cX8_gives 26 = .ok (.aload_n 2, 1) := dk_44 (dk_at dksX8_gives_1 4 rfl rfl)
theorem dX8_gives_27 : decode cX8_gives 27 = .ok (.arraylength, 1) := dk_190 (dk_at dksX8_gives_1 5 rfl rfl)
theorem dX8_gives_28 : decode cX8_gives 28 = .ok (.iadd, 1) := dk_96 (dk_at dksX8_gives_1 6 rfl rfl)
theorem dX8_gives_29 : decode cX8_gives 29 = .ok (.ireturn, 1) := dk_172 (dk_at dksX8_gives_1 7 rfl rfl)
abbrev cX8_judged : ByteArray := prog_10_method_55_code
def yX8_judged : MethodName := ⟨RX8, "judged", "(IIII)I"⟩
def dkwX8_judged_13 : List UInt8 := [46, 100, 79, 42, 21, 9, 21, 10, 182, 0, 173, 132, 7, 1, 167, 255, 32, 16, 252, 172]
abbrev dktX8_judged_13 : List UInt8 := dkwX8_judged_13 ++ []
def dkwX8_judged_12 : List UInt8 := [21, 9, 104, 92, 46, 42, 180, 0, 13, 16, 40, 21, 9, 104, 16, 8, 96, 7, 21, 10, 104, 96, 4, 96]
abbrev dktX8_judged_12 : List UInt8 := dkwX8_judged_12 ++ dktX8_judged_13
def dkwX8_judged_11 : List UInt8 := [104, 16, 8, 96, 7, 21, 10, 104, 96, 4, 96, 46, 162, 0, 6, 21, 7, 172, 42, 180, 0, 13, 16, 40]
abbrev dktX8_judged_11 : List UInt8 := dkwX8_judged_11 ++ dktX8_judged_12
def dkwX8_judged_10 : List UInt8 := [182, 0, 170, 153, 0, 36, 42, 180, 0, 13, 16, 40, 21, 9, 104, 46, 42, 180, 0, 13, 16, 40, 21, 9]
abbrev dktX8_judged_10 : List UInt8 := dkwX8_judged_10 ++ dktX8_judged_11
def dkwX8_judged_9 : List UInt8 := [4, 100, 133, 184, 0, 68, 153, 0, 57, 42, 21, 10, 42, 180, 0, 13, 16, 40, 21, 9, 104, 6, 96, 46]
abbrev dktX8_judged_9 : List UInt8 := dkwX8_judged_9 ++ dktX8_judged_10
def dkwX8_judged_8 : List UInt8 := [21, 9, 182, 0, 80, 153, 0, 82, 21, 10, 133, 9, 42, 180, 0, 13, 16, 40, 21, 9, 104, 6, 96, 46]
abbrev dktX8_judged_8 : List UInt8 := dkwX8_judged_8 ++ dktX8_judged_9
def dkwX8_judged_7 : List UInt8 := [42, 180, 0, 58, 21, 8, 46, 162, 0, 15, 132, 6, 1, 42, 21, 6, 182, 0, 165, 167, 255, 235, 42]
abbrev dktX8_judged_7 : List UInt8 := dkwX8_judged_7 ++ dktX8_judged_8
def dkwX8_judged_6 : List UInt8 := [180, 0, 58, 21, 8, 46, 133, 21, 6, 133, 20, 0, 238, 184, 0, 68, 154, 0, 6, 21, 7, 172, 21, 6]
abbrev dktX8_judged_6 : List UInt8 := dkwX8_judged_6 ++ dktX8_judged_7
def dkwX8_judged_5 : List UInt8 := [180, 0, 58, 21, 8, 4, 96, 46, 54, 9, 42, 180, 0, 58, 21, 8, 5, 96, 46, 54, 10, 42]
abbrev dktX8_judged_5 : List UInt8 := dkwX8_judged_5 ++ dktX8_judged_6
def dkwX8_judged_4 : List UInt8 := [3, 54, 7, 21, 7, 21, 4, 162, 0, 223, 16, 24, 27, 104, 29, 96, 6, 21, 7, 104, 96, 54, 8, 42]
abbrev dktX8_judged_4 : List UInt8 := dkwX8_judged_4 ++ dktX8_judged_5
def dkwX8_judged_3 : List UInt8 := [21, 6, 46, 79, 132, 6, 1, 167, 255, 231, 42, 42, 180, 0, 13, 181, 0, 16, 42, 180, 0, 145, 54, 6]
abbrev dktX8_judged_3 : List UInt8 := dkwX8_judged_3 ++ dktX8_judged_4
def dkwX8_judged_2 : List UInt8 := [21, 5, 172, 3, 54, 6, 21, 6, 17, 0, 200, 162, 0, 23, 42, 180, 0, 13, 21, 6, 42, 180, 0, 7]
abbrev dktX8_judged_2 : List UInt8 := dkwX8_judged_2 ++ dktX8_judged_3
def dkwX8_judged_1 : List UInt8 := [154, 0, 5, 2, 172, 42, 27, 28, 29, 6, 21, 4, 104, 182, 0, 234, 54, 5, 21, 5, 156, 0, 6]
abbrev dktX8_judged_1 : List UInt8 := dkwX8_judged_1 ++ dktX8_judged_2
def dkwX8_judged_0 : List UInt8 := [27, 184, 0, 228, 153, 0, 23, 28, 184, 0, 231, 153, 0, 16, 21, 4, 133, 10, 20, 0, 108, 184, 0, 68]
abbrev dktX8_judged_0 : List UInt8 := dkwX8_judged_0 ++ dktX8_judged_1
theorem dksX8_judged_0 : cX8_judged.data.toList.drop 0 = dktX8_judged_0 := by decide +kernel
theorem dksX8_judged_1 : cX8_judged.data.toList.drop 24 = dktX8_judged_1 := dk_seg dksX8_judged_0 24 rfl rfl
theorem dksX8_judged_2 : cX8_judged.data.toList.drop 47 = dktX8_judged_2 := dk_seg dksX8_judged_1 23 rfl rfl
theorem dksX8_judged_3 : cX8_judged.data.toList.drop 71 = dktX8_judged_3 := dk_seg dksX8_judged_2 24 rfl rfl
theorem dksX8_judged_4 : cX8_judged.data.toList.drop 95 = dktX8_judged_4 := dk_seg dksX8_judged_3 24 rfl rfl
theorem dksX8_judged_5 : cX8_judged.data.toList.drop 119 = dktX8_judged_5 := dk_seg dksX8_judged_4 24 rfl rfl
theorem dksX8_judged_6 : cX8_judged.data.toList.drop 141 = dktX8_judged_6 := dk_seg dksX8_judged_5 22 rfl rfl
theorem dksX8_judged_7 : cX8_judged.data.toList.drop 165 = dktX8_judged_7 := dk_seg dksX8_judged_6 24 rfl rfl
theorem dksX8_judged_8 : cX8_judged.data.toList.drop 188 = dktX8_judged_8 := dk_seg dksX8_judged_7 23 rfl rfl
theorem dksX8_judged_9 : cX8_judged.data.toList.drop 212 = dktX8_judged_9 := dk_seg dksX8_judged_8 24 rfl rfl
theorem dksX8_judged_10 : cX8_judged.data.toList.drop 236 = dktX8_judged_10 := dk_seg dksX8_judged_9 24 rfl rfl
theorem dksX8_judged_11 : cX8_judged.data.toList.drop 260 = dktX8_judged_11 := dk_seg dksX8_judged_10 24 rfl rfl
theorem dksX8_judged_12 : cX8_judged.data.toList.drop 284 = dktX8_judged_12 := dk_seg dksX8_judged_11 24 rfl rfl
theorem dksX8_judged_13 : cX8_judged.data.toList.drop 308 = dktX8_judged_13 := dk_seg dksX8_judged_12 24 rfl rfl
theorem dX8_judged_0 : decode cX8_judged 0 = .ok (.iload_n 1, 1) := dk_27 (dk_at dksX8_judged_0 0 rfl rfl)
theorem dX8_judged_1 : decode cX8_judged 1 = .ok (.invokestatic 228, 3) := dk_184 0 228 (dk_at dksX8_judged_0 1 rfl rfl)
theorem dX8_judged_4 : decode cX8_judged 4 = .ok (.ifCond .eq 23, 3) := dk_153 0 23 (dk_at dksX8_judged_0 4 rfl rfl)
theorem dX8_judged_7 : decode cX8_judged 7 = .ok (.iload_n 2, 1) := dk_28 (dk_at dksX8_judged_0 7 rfl rfl)
theorem dX8_judged_8 : decode cX8_judged 8 = .ok (.invokestatic 231, 3) := dk_184 0 231 (dk_at dksX8_judged_0 8 rfl rfl)
theorem dX8_judged_11 : decode cX8_judged 11 = .ok (.ifCond .eq 16, 3) := dk_153 0 16 (dk_at dksX8_judged_0 11 rfl rfl)
theorem dX8_judged_14 : decode cX8_judged 14 = .ok (.iload 4, 2) := dk_21 4 (dk_at dksX8_judged_0 14 rfl rfl)
theorem dX8_judged_16 : decode cX8_judged 16 = .ok (.i2l, 1) := dk_133 (dk_at dksX8_judged_0 16 rfl rfl)
theorem dX8_judged_17 : decode cX8_judged 17 = .ok (.lconst 1, 1) := dk_10 (dk_at dksX8_judged_0 17 rfl rfl)
theorem dX8_judged_18 : decode cX8_judged 18 = .ok (.ldc2_w 108, 3) := dk_20 0 108 (dk_at dksX8_judged_0 18 rfl rfl)
theorem dX8_judged_21 : decode cX8_judged 21 = .ok (.invokestatic 68, 3) := dk_184 0 68 (dk_at dksX8_judged_0 21 rfl rfl)
theorem dX8_judged_24 : decode cX8_judged 24 = .ok (.ifCond .ne 5, 3) := dk_154 0 5 (dk_at dksX8_judged_1 0 rfl rfl)
theorem dX8_judged_27 : decode cX8_judged 27 = .ok (.iconst (-1), 1) := dk_2 (dk_at dksX8_judged_1 3 rfl rfl)
theorem dX8_judged_28 : decode cX8_judged 28 = .ok (.ireturn, 1) := dk_172 (dk_at dksX8_judged_1 4 rfl rfl)
theorem dX8_judged_29 : decode cX8_judged 29 = .ok (.aload_n 0, 1) := dk_42 (dk_at dksX8_judged_1 5 rfl rfl)
theorem dX8_judged_30 : decode cX8_judged 30 = .ok (.iload_n 1, 1) := dk_27 (dk_at dksX8_judged_1 6 rfl rfl)
theorem dX8_judged_31 : decode cX8_judged 31 = .ok (.iload_n 2, 1) := dk_28 (dk_at dksX8_judged_1 7 rfl rfl)
theorem dX8_judged_32 : decode cX8_judged 32 = .ok (.iload_n 3, 1) := dk_29 (dk_at dksX8_judged_1 8 rfl rfl)
theorem dX8_judged_33 : decode cX8_judged 33 = .ok (.iconst 3, 1) := dk_6 (dk_at dksX8_judged_1 9 rfl rfl)
theorem dX8_judged_34 : decode cX8_judged 34 = .ok (.iload 4, 2) := dk_21 4 (dk_at dksX8_judged_1 10 rfl rfl)
theorem dX8_judged_36 : decode cX8_judged 36 = .ok (.imul, 1) := dk_104 (dk_at dksX8_judged_1 12 rfl rfl)
theorem dX8_judged_37 : decode cX8_judged 37 = .ok (.invokevirtual 234, 3) := dk_182 0 234 (dk_at dksX8_judged_1 13 rfl rfl)
theorem dX8_judged_40 : decode cX8_judged 40 = .ok (.istore 5, 2) := dk_54 5 (dk_at dksX8_judged_1 16 rfl rfl)
theorem dX8_judged_42 : decode cX8_judged 42 = .ok (.iload 5, 2) := dk_21 5 (dk_at dksX8_judged_1 18 rfl rfl)
theorem dX8_judged_44 : decode cX8_judged 44 = .ok (.ifCond .ge 6, 3) := dk_156 0 6 (dk_at dksX8_judged_1 20 rfl rfl)
theorem dX8_judged_47 : decode cX8_judged 47 = .ok (.iload 5, 2) := dk_21 5 (dk_at dksX8_judged_2 0 rfl rfl)
theorem dX8_judged_49 : decode cX8_judged 49 = .ok (.ireturn, 1) := dk_172 (dk_at dksX8_judged_2 2 rfl rfl)
theorem dX8_judged_50 : decode cX8_judged 50 = .ok (.iconst 0, 1) := dk_3 (dk_at dksX8_judged_2 3 rfl rfl)
theorem dX8_judged_51 : decode cX8_judged 51 = .ok (.istore 6, 2) := dk_54 6 (dk_at dksX8_judged_2 4 rfl rfl)
theorem dX8_judged_53 : decode cX8_judged 53 = .ok (.iload 6, 2) := dk_21 6 (dk_at dksX8_judged_2 6 rfl rfl)
theorem dX8_judged_55 : decode cX8_judged 55 = .ok (.sipush 200, 3) := dk_17 0 200 (dk_at dksX8_judged_2 8 rfl rfl)
theorem dX8_judged_58 : decode cX8_judged 58 = .ok (.if_icmp .ge 23, 3) := dk_162 0 23 (dk_at dksX8_judged_2 11 rfl rfl)
theorem dX8_judged_61 : decode cX8_judged 61 = .ok (.aload_n 0, 1) := dk_42 (dk_at dksX8_judged_2 14 rfl rfl)
theorem dX8_judged_62 : decode cX8_judged 62 = .ok (.getfield 13, 3) := dk_180 0 13 (dk_at dksX8_judged_2 15 rfl rfl)
theorem dX8_judged_65 : decode cX8_judged 65 = .ok (.iload 6, 2) := dk_21 6 (dk_at dksX8_judged_2 18 rfl rfl)
theorem dX8_judged_67 : decode cX8_judged 67 = .ok (.aload_n 0, 1) := dk_42 (dk_at dksX8_judged_2 20 rfl rfl)
theorem dX8_judged_68 : decode cX8_judged 68 = .ok (.getfield 7, 3) := dk_180 0 7 (dk_at dksX8_judged_2 21 rfl rfl)
theorem dX8_judged_71 : decode cX8_judged 71 = .ok (.iload 6, 2) := dk_21 6 (dk_at dksX8_judged_3 0 rfl rfl)
theorem dX8_judged_73 : decode cX8_judged 73 = .ok (.iaload, 1) := dk_46 (dk_at dksX8_judged_3 2 rfl rfl)
theorem dX8_judged_74 : decode cX8_judged 74 = .ok (.iastore, 1) := dk_79 (dk_at dksX8_judged_3 3 rfl rfl)
theorem dX8_judged_75 : decode cX8_judged 75 = .ok (.iinc 6 1, 3) := dk_132 6 1 (dk_at dksX8_judged_3 4 rfl rfl)
theorem dX8_judged_78 : decode cX8_judged 78 = .ok (.goto (-25), 3) := dk_167 255 231 (dk_at dksX8_judged_3 7 rfl rfl)
theorem dX8_judged_81 : decode cX8_judged 81 = .ok (.aload_n 0, 1) := dk_42 (dk_at dksX8_judged_3 10 rfl rfl)
theorem dX8_judged_82 : decode cX8_judged 82 = .ok (.aload_n 0, 1) := dk_42 (dk_at dksX8_judged_3 11 rfl rfl)
theorem dX8_judged_83 : decode cX8_judged 83 = .ok (.getfield 13, 3) := dk_180 0 13 (dk_at dksX8_judged_3 12 rfl rfl)
theorem dX8_judged_86 : decode cX8_judged 86 = .ok (.putfield 16, 3) := dk_181 0 16 (dk_at dksX8_judged_3 15 rfl rfl)
theorem dX8_judged_89 : decode cX8_judged 89 = .ok (.aload_n 0, 1) := dk_42 (dk_at dksX8_judged_3 18 rfl rfl)
theorem dX8_judged_90 : decode cX8_judged 90 = .ok (.getfield 145, 3) := dk_180 0 145 (dk_at dksX8_judged_3 19 rfl rfl)
theorem dX8_judged_93 : decode cX8_judged 93 = .ok (.istore 6, 2) := dk_54 6 (dk_at dksX8_judged_3 22 rfl rfl)
theorem dX8_judged_95 : decode cX8_judged 95 = .ok (.iconst 0, 1) := dk_3 (dk_at dksX8_judged_4 0 rfl rfl)
theorem dX8_judged_96 : decode cX8_judged 96 = .ok (.istore 7, 2) := dk_54 7 (dk_at dksX8_judged_4 1 rfl rfl)
theorem dX8_judged_98 : decode cX8_judged 98 = .ok (.iload 7, 2) := dk_21 7 (dk_at dksX8_judged_4 3 rfl rfl)
theorem dX8_judged_100 : decode cX8_judged 100 = .ok (.iload 4, 2) := dk_21 4 (dk_at dksX8_judged_4 5 rfl rfl)
theorem dX8_judged_102 : decode cX8_judged 102 = .ok (.if_icmp .ge 223, 3) := dk_162 0 223 (dk_at dksX8_judged_4 7 rfl rfl)
theorem dX8_judged_105 : decode cX8_judged 105 = .ok (.bipush 24, 2) := dk_16 24 (dk_at dksX8_judged_4 10 rfl rfl)
theorem dX8_judged_107 : decode cX8_judged 107 = .ok (.iload_n 1, 1) := dk_27 (dk_at dksX8_judged_4 12 rfl rfl)
theorem dX8_judged_108 : decode cX8_judged 108 = .ok (.imul, 1) := dk_104 (dk_at dksX8_judged_4 13 rfl rfl)
theorem dX8_judged_109 : decode cX8_judged 109 = .ok (.iload_n 3, 1) := dk_29 (dk_at dksX8_judged_4 14 rfl rfl)
theorem dX8_judged_110 : decode cX8_judged 110 = .ok (.iadd, 1) := dk_96 (dk_at dksX8_judged_4 15 rfl rfl)
theorem dX8_judged_111 : decode cX8_judged 111 = .ok (.iconst 3, 1) := dk_6 (dk_at dksX8_judged_4 16 rfl rfl)
theorem dX8_judged_112 : decode cX8_judged 112 = .ok (.iload 7, 2) := dk_21 7 (dk_at dksX8_judged_4 17 rfl rfl)
theorem dX8_judged_114 : decode cX8_judged 114 = .ok (.imul, 1) := dk_104 (dk_at dksX8_judged_4 19 rfl rfl)
theorem dX8_judged_115 : decode cX8_judged 115 = .ok (.iadd, 1) := dk_96 (dk_at dksX8_judged_4 20 rfl rfl)
theorem dX8_judged_116 : decode cX8_judged 116 = .ok (.istore 8, 2) := dk_54 8 (dk_at dksX8_judged_4 21 rfl rfl)
theorem dX8_judged_118 : decode cX8_judged 118 = .ok (.aload_n 0, 1) := dk_42 (dk_at dksX8_judged_4 23 rfl rfl)
theorem dX8_judged_119 : decode cX8_judged 119 = .ok (.getfield 58, 3) := dk_180 0 58 (dk_at dksX8_judged_5 0 rfl rfl)
theorem dX8_judged_122 : decode cX8_judged 122 = .ok (.iload 8, 2) := dk_21 8 (dk_at dksX8_judged_5 3 rfl rfl)
theorem dX8_judged_124 : decode cX8_judged 124 = .ok (.iconst 1, 1) := dk_4 (dk_at dksX8_judged_5 5 rfl rfl)
theorem dX8_judged_125 : decode cX8_judged 125 = .ok (.iadd, 1) := dk_96 (dk_at dksX8_judged_5 6 rfl rfl)
theorem dX8_judged_126 : decode cX8_judged 126 = .ok (.iaload, 1) := dk_46 (dk_at dksX8_judged_5 7 rfl rfl)
theorem dX8_judged_127 : decode cX8_judged 127 = .ok (.istore 9, 2) := dk_54 9 (dk_at dksX8_judged_5 8 rfl rfl)
theorem dX8_judged_129 : decode cX8_judged 129 = .ok (.aload_n 0, 1) := dk_42 (dk_at dksX8_judged_5 10 rfl rfl)
theorem dX8_judged_130 : decode cX8_judged 130 = .ok (.getfield 58, 3) := dk_180 0 58 (dk_at dksX8_judged_5 11 rfl rfl)
theorem dX8_judged_133 : decode cX8_judged 133 = .ok (.iload 8, 2) := dk_21 8 (dk_at dksX8_judged_5 14 rfl rfl)
theorem dX8_judged_135 : decode cX8_judged 135 = .ok (.iconst 2, 1) := dk_5 (dk_at dksX8_judged_5 16 rfl rfl)
theorem dX8_judged_136 : decode cX8_judged 136 = .ok (.iadd, 1) := dk_96 (dk_at dksX8_judged_5 17 rfl rfl)
theorem dX8_judged_137 : decode cX8_judged 137 = .ok (.iaload, 1) := dk_46 (dk_at dksX8_judged_5 18 rfl rfl)
theorem dX8_judged_138 : decode cX8_judged 138 = .ok (.istore 10, 2) := dk_54 10 (dk_at dksX8_judged_5 19 rfl rfl)
theorem dX8_judged_140 : decode cX8_judged 140 = .ok (.aload_n 0, 1) := dk_42 (dk_at dksX8_judged_5 21 rfl rfl)
theorem dX8_judged_141 : decode cX8_judged 141 = .ok (.getfield 58, 3) := dk_180 0 58 (dk_at dksX8_judged_6 0 rfl rfl)
theorem dX8_judged_144 : decode cX8_judged 144 = .ok (.iload 8, 2) := dk_21 8 (dk_at dksX8_judged_6 3 rfl rfl)
theorem dX8_judged_146 : decode cX8_judged 146 = .ok (.iaload, 1) := dk_46 (dk_at dksX8_judged_6 5 rfl rfl)
theorem dX8_judged_147 : decode cX8_judged 147 = .ok (.i2l, 1) := dk_133 (dk_at dksX8_judged_6 6 rfl rfl)
theorem dX8_judged_148 : decode cX8_judged 148 = .ok (.iload 6, 2) := dk_21 6 (dk_at dksX8_judged_6 7 rfl rfl)
theorem dX8_judged_150 : decode cX8_judged 150 = .ok (.i2l, 1) := dk_133 (dk_at dksX8_judged_6 9 rfl rfl)
theorem dX8_judged_151 : decode cX8_judged 151 = .ok (.ldc2_w 238, 3) := dk_20 0 238 (dk_at dksX8_judged_6 10 rfl rfl)
theorem dX8_judged_154 : decode cX8_judged 154 = .ok (.invokestatic 68, 3) := dk_184 0 68 (dk_at dksX8_judged_6 13 rfl rfl)
theorem dX8_judged_157 : decode cX8_judged 157 = .ok (.ifCond .ne 6, 3) := dk_154 0 6 (dk_at dksX8_judged_6 16 rfl rfl)
theorem dX8_judged_160 : decode cX8_judged 160 = .ok (.iload 7, 2) := dk_21 7 (dk_at dksX8_judged_6 19 rfl rfl)
theorem dX8_judged_162 : decode cX8_judged 162 = .ok (.ireturn, 1) := dk_172 (dk_at dksX8_judged_6 21 rfl rfl)
theorem dX8_judged_163 : decode cX8_judged 163 = .ok (.iload 6, 2) := dk_21 6 (dk_at dksX8_judged_6 22 rfl rfl)
theorem dX8_judged_165 : decode cX8_judged 165 = .ok (.aload_n 0, 1) := dk_42 (dk_at dksX8_judged_7 0 rfl rfl)
theorem dX8_judged_166 : decode cX8_judged 166 = .ok (.getfield 58, 3) := dk_180 0 58 (dk_at dksX8_judged_7 1 rfl rfl)
theorem dX8_judged_169 : decode cX8_judged 169 = .ok (.iload 8, 2) := dk_21 8 (dk_at dksX8_judged_7 4 rfl rfl)
theorem dX8_judged_171 : decode cX8_judged 171 = .ok (.iaload, 1) := dk_46 (dk_at dksX8_judged_7 6 rfl rfl)
theorem dX8_judged_172 : decode cX8_judged 172 = .ok (.if_icmp .ge 15, 3) := dk_162 0 15 (dk_at dksX8_judged_7 7 rfl rfl)
theorem dX8_judged_175 : decode cX8_judged 175 = .ok (.iinc 6 1, 3) := dk_132 6 1 (dk_at dksX8_judged_7 10 rfl rfl)
theorem dX8_judged_178 : decode cX8_judged 178 = .ok (.aload_n 0, 1) := dk_42 (dk_at dksX8_judged_7 13 rfl rfl)
theorem dX8_judged_179 : decode cX8_judged 179 = .ok (.iload 6, 2) := dk_21 6 (dk_at dksX8_judged_7 14 rfl rfl)
theorem dX8_judged_181 : decode cX8_judged 181 = .ok (.invokevirtual 165, 3) := dk_182 0 165 (dk_at dksX8_judged_7 16 rfl rfl)
theorem dX8_judged_184 : decode cX8_judged 184 = .ok (.goto (-21), 3) := dk_167 255 235 (dk_at dksX8_judged_7 19 rfl rfl)
theorem dX8_judged_187 : decode cX8_judged 187 = .ok (.aload_n 0, 1) := dk_42 (dk_at dksX8_judged_7 22 rfl rfl)
theorem dX8_judged_188 : decode cX8_judged 188 = .ok (.iload 9, 2) := dk_21 9 (dk_at dksX8_judged_8 0 rfl rfl)
theorem dX8_judged_190 : decode cX8_judged 190 = .ok (.invokevirtual 80, 3) := dk_182 0 80 (dk_at dksX8_judged_8 2 rfl rfl)
theorem dX8_judged_193 : decode cX8_judged 193 = .ok (.ifCond .eq 82, 3) := dk_153 0 82 (dk_at dksX8_judged_8 5 rfl rfl)
theorem dX8_judged_196 : decode cX8_judged 196 = .ok (.iload 10, 2) := dk_21 10 (dk_at dksX8_judged_8 8 rfl rfl)
theorem dX8_judged_198 : decode cX8_judged 198 = .ok (.i2l, 1) := dk_133 (dk_at dksX8_judged_8 10 rfl rfl)
theorem dX8_judged_199 : decode cX8_judged 199 = .ok (.lconst 0, 1) := dk_9 (dk_at dksX8_judged_8 11 rfl rfl)
theorem dX8_judged_200 : decode cX8_judged 200 = .ok (.aload_n 0, 1) := dk_42 (dk_at dksX8_judged_8 12 rfl rfl)
theorem dX8_judged_201 : decode cX8_judged 201 = .ok (.getfield 13, 3) := dk_180 0 13 (dk_at dksX8_judged_8 13 rfl rfl)
theorem dX8_judged_204 : decode cX8_judged 204 = .ok (.bipush 40, 2) := dk_16 40 (dk_at dksX8_judged_8 16 rfl rfl)
theorem dX8_judged_206 : decode cX8_judged 206 = .ok (.iload 9, 2) := dk_21 9 (dk_at dksX8_judged_8 18 rfl rfl)
theorem dX8_judged_208 : decode cX8_judged 208 = .ok (.imul, 1) := dk_104 (dk_at dksX8_judged_8 20 rfl rfl)
theorem dX8_judged_209 : decode cX8_judged 209 = .ok (.iconst 3, 1) := dk_6 (dk_at dksX8_judged_8 21 rfl rfl)
theorem dX8_judged_210 : decode cX8_judged 210 = .ok (.iadd, 1) := dk_96 (dk_at dksX8_judged_8 22 rfl rfl)
theorem dX8_judged_211 : decode cX8_judged 211 = .ok (.iaload, 1) := dk_46 (dk_at dksX8_judged_8 23 rfl rfl)
theorem dX8_judged_212 : decode cX8_judged 212 = .ok (.iconst 1, 1) := dk_4 (dk_at dksX8_judged_9 0 rfl rfl)
theorem dX8_judged_213 : decode cX8_judged 213 = .ok (.isub, 1) := dk_100 (dk_at dksX8_judged_9 1 rfl rfl)
theorem dX8_judged_214 : decode cX8_judged 214 = .ok (.i2l, 1) := dk_133 (dk_at dksX8_judged_9 2 rfl rfl)
theorem dX8_judged_215 : decode cX8_judged 215 = .ok (.invokestatic 68, 3) := dk_184 0 68 (dk_at dksX8_judged_9 3 rfl rfl)
theorem dX8_judged_218 : decode cX8_judged 218 = .ok (.ifCond .eq 57, 3) := dk_153 0 57 (dk_at dksX8_judged_9 6 rfl rfl)
theorem dX8_judged_221 : decode cX8_judged 221 = .ok (.aload_n 0, 1) := dk_42 (dk_at dksX8_judged_9 9 rfl rfl)
theorem dX8_judged_222 : decode cX8_judged 222 = .ok (.iload 10, 2) := dk_21 10 (dk_at dksX8_judged_9 10 rfl rfl)
theorem dX8_judged_224 : decode cX8_judged 224 = .ok (.aload_n 0, 1) := dk_42 (dk_at dksX8_judged_9 12 rfl rfl)
theorem dX8_judged_225 : decode cX8_judged 225 = .ok (.getfield 13, 3) := dk_180 0 13 (dk_at dksX8_judged_9 13 rfl rfl)
theorem dX8_judged_228 : decode cX8_judged 228 = .ok (.bipush 40, 2) := dk_16 40 (dk_at dksX8_judged_9 16 rfl rfl)
theorem dX8_judged_230 : decode cX8_judged 230 = .ok (.iload 9, 2) := dk_21 9 (dk_at dksX8_judged_9 18 rfl rfl)
theorem dX8_judged_232 : decode cX8_judged 232 = .ok (.imul, 1) := dk_104 (dk_at dksX8_judged_9 20 rfl rfl)
theorem dX8_judged_233 : decode cX8_judged 233 = .ok (.iconst 3, 1) := dk_6 (dk_at dksX8_judged_9 21 rfl rfl)
theorem dX8_judged_234 : decode cX8_judged 234 = .ok (.iadd, 1) := dk_96 (dk_at dksX8_judged_9 22 rfl rfl)
theorem dX8_judged_235 : decode cX8_judged 235 = .ok (.iaload, 1) := dk_46 (dk_at dksX8_judged_9 23 rfl rfl)
theorem dX8_judged_236 : decode cX8_judged 236 = .ok (.invokevirtual 170, 3) := dk_182 0 170 (dk_at dksX8_judged_10 0 rfl rfl)
theorem dX8_judged_239 : decode cX8_judged 239 = .ok (.ifCond .eq 36, 3) := dk_153 0 36 (dk_at dksX8_judged_10 3 rfl rfl)
theorem dX8_judged_242 : decode cX8_judged 242 = .ok (.aload_n 0, 1) := dk_42 (dk_at dksX8_judged_10 6 rfl rfl)
theorem dX8_judged_243 : decode cX8_judged 243 = .ok (.getfield 13, 3) := dk_180 0 13 (dk_at dksX8_judged_10 7 rfl rfl)
theorem dX8_judged_246 : decode cX8_judged 246 = .ok (.bipush 40, 2) := dk_16 40 (dk_at dksX8_judged_10 10 rfl rfl)
theorem dX8_judged_248 : decode cX8_judged 248 = .ok (.iload 9, 2) := dk_21 9 (dk_at dksX8_judged_10 12 rfl rfl)
theorem dX8_judged_250 : decode cX8_judged 250 = .ok (.imul, 1) := dk_104 (dk_at dksX8_judged_10 14 rfl rfl)
theorem dX8_judged_251 : decode cX8_judged 251 = .ok (.iaload, 1) := dk_46 (dk_at dksX8_judged_10 15 rfl rfl)
theorem dX8_judged_252 : decode cX8_judged 252 = .ok (.aload_n 0, 1) := dk_42 (dk_at dksX8_judged_10 16 rfl rfl)
theorem dX8_judged_253 : decode cX8_judged 253 = .ok (.getfield 13, 3) := dk_180 0 13 (dk_at dksX8_judged_10 17 rfl rfl)
theorem dX8_judged_256 : decode cX8_judged 256 = .ok (.bipush 40, 2) := dk_16 40 (dk_at dksX8_judged_10 20 rfl rfl)
theorem dX8_judged_258 : decode cX8_judged 258 = .ok (.iload 9, 2) := dk_21 9 (dk_at dksX8_judged_10 22 rfl rfl)
theorem dX8_judged_260 : decode cX8_judged 260 = .ok (.imul, 1) := dk_104 (dk_at dksX8_judged_11 0 rfl rfl)
theorem dX8_judged_261 : decode cX8_judged 261 = .ok (.bipush 8, 2) := dk_16 8 (dk_at dksX8_judged_11 1 rfl rfl)
theorem dX8_judged_263 : decode cX8_judged 263 = .ok (.iadd, 1) := dk_96 (dk_at dksX8_judged_11 3 rfl rfl)
theorem dX8_judged_264 : decode cX8_judged 264 = .ok (.iconst 4, 1) := dk_7 (dk_at dksX8_judged_11 4 rfl rfl)
theorem dX8_judged_265 : decode cX8_judged 265 = .ok (.iload 10, 2) := dk_21 10 (dk_at dksX8_judged_11 5 rfl rfl)
theorem dX8_judged_267 : decode cX8_judged 267 = .ok (.imul, 1) := dk_104 (dk_at dksX8_judged_11 7 rfl rfl)
theorem dX8_judged_268 : decode cX8_judged 268 = .ok (.iadd, 1) := dk_96 (dk_at dksX8_judged_11 8 rfl rfl)
theorem dX8_judged_269 : decode cX8_judged 269 = .ok (.iconst 1, 1) := dk_4 (dk_at dksX8_judged_11 9 rfl rfl)
theorem dX8_judged_270 : decode cX8_judged 270 = .ok (.iadd, 1) := dk_96 (dk_at dksX8_judged_11 10 rfl rfl)
theorem dX8_judged_271 : decode cX8_judged 271 = .ok (.iaload, 1) := dk_46 (dk_at dksX8_judged_11 11 rfl rfl)
theorem dX8_judged_272 : decode cX8_judged 272 = .ok (.if_icmp .ge 6, 3) := dk_162 0 6 (dk_at dksX8_judged_11 12 rfl rfl)
theorem dX8_judged_275 : decode cX8_judged 275 = .ok (.iload 7, 2) := dk_21 7 (dk_at dksX8_judged_11 15 rfl rfl)
theorem dX8_judged_277 : decode cX8_judged 277 = .ok (.ireturn, 1) := dk_172 (dk_at dksX8_judged_11 17 rfl rfl)
theorem dX8_judged_278 : decode cX8_judged 278 = .ok (.aload_n 0, 1) := dk_42 (dk_at dksX8_judged_11 18 rfl rfl)
theorem dX8_judged_279 : decode cX8_judged 279 = .ok (.getfield 13, 3) := dk_180 0 13 (dk_at dksX8_judged_11 19 rfl rfl)
theorem dX8_judged_282 : decode cX8_judged 282 = .ok (.bipush 40, 2) := dk_16 40 (dk_at dksX8_judged_11 22 rfl rfl)
theorem dX8_judged_284 : decode cX8_judged 284 = .ok (.iload 9, 2) := dk_21 9 (dk_at dksX8_judged_12 0 rfl rfl)
theorem dX8_judged_286 : decode cX8_judged 286 = .ok (.imul, 1) := dk_104 (dk_at dksX8_judged_12 2 rfl rfl)
theorem dX8_judged_287 : decode cX8_judged 287 = .ok (.dup2, 1) := dk_92 (dk_at dksX8_judged_12 3 rfl rfl)
theorem dX8_judged_288 : decode cX8_judged 288 = .ok (.iaload, 1) := dk_46 (dk_at dksX8_judged_12 4 rfl rfl)
theorem dX8_judged_289 : decode cX8_judged 289 = .ok (.aload_n 0, 1) := dk_42 (dk_at dksX8_judged_12 5 rfl rfl)
theorem dX8_judged_290 : decode cX8_judged 290 = .ok (.getfield 13, 3) := dk_180 0 13 (dk_at dksX8_judged_12 6 rfl rfl)
theorem dX8_judged_293 : decode cX8_judged 293 = .ok (.bipush 40, 2) := dk_16 40 (dk_at dksX8_judged_12 9 rfl rfl)
theorem dX8_judged_295 : decode cX8_judged 295 = .ok (.iload 9, 2) := dk_21 9 (dk_at dksX8_judged_12 11 rfl rfl)
theorem dX8_judged_297 : decode cX8_judged 297 = .ok (.imul, 1) := dk_104 (dk_at dksX8_judged_12 13 rfl rfl)
theorem dX8_judged_298 : decode cX8_judged 298 = .ok (.bipush 8, 2) := dk_16 8 (dk_at dksX8_judged_12 14 rfl rfl)
theorem dX8_judged_300 : decode cX8_judged 300 = .ok (.iadd, 1) := dk_96 (dk_at dksX8_judged_12 16 rfl rfl)
theorem dX8_judged_301 : decode cX8_judged 301 = .ok (.iconst 4, 1) := dk_7 (dk_at dksX8_judged_12 17 rfl rfl)
theorem dX8_judged_302 : decode cX8_judged 302 = .ok (.iload 10, 2) := dk_21 10 (dk_at dksX8_judged_12 18 rfl rfl)
theorem dX8_judged_304 : decode cX8_judged 304 = .ok (.imul, 1) := dk_104 (dk_at dksX8_judged_12 20 rfl rfl)
theorem dX8_judged_305 : decode cX8_judged 305 = .ok (.iadd, 1) := dk_96 (dk_at dksX8_judged_12 21 rfl rfl)
theorem dX8_judged_306 : decode cX8_judged 306 = .ok (.iconst 1, 1) := dk_4 (dk_at dksX8_judged_12 22 rfl rfl)
theorem dX8_judged_307 : decode cX8_judged 307 = .ok (.iadd, 1) := dk_96 (dk_at dksX8_judged_12 23 rfl rfl)
theorem dX8_judged_308 : decode cX8_judged 308 = .ok (.iaload, 1) := dk_46 (dk_at dksX8_judged_13 0 rfl rfl)
theorem dX8_judged_309 : decode cX8_judged 309 = .ok (.isub, 1) := dk_100 (dk_at dksX8_judged_13 1 rfl rfl)
theorem dX8_judged_310 : decode cX8_judged 310 = .ok (.iastore, 1) := dk_79 (dk_at dksX8_judged_13 2 rfl rfl)
theorem dX8_judged_311 : decode cX8_judged 311 = .ok (.aload_n 0, 1) := dk_42 (dk_at dksX8_judged_13 3 rfl rfl)
theorem dX8_judged_312 : decode cX8_judged 312 = .ok (.iload 9, 2) := dk_21 9 (dk_at dksX8_judged_13 4 rfl rfl)
theorem dX8_judged_314 : decode cX8_judged 314 = .ok (.iload 10, 2) := dk_21 10 (dk_at dksX8_judged_13 6 rfl rfl)
theorem dX8_judged_316 : decode cX8_judged 316 = .ok (.invokevirtual 173, 3) := dk_182 0 173 (dk_at dksX8_judged_13 8 rfl rfl)
theorem dX8_judged_319 : decode cX8_judged 319 = .ok (.iinc 7 1, 3) := dk_132 7 1 (dk_at dksX8_judged_13 11 rfl rfl)
theorem dX8_judged_322 : decode cX8_judged 322 = .ok (.goto (-224), 3) := dk_167 255 32 (dk_at dksX8_judged_13 14 rfl rfl)
theorem dX8_judged_325 : decode cX8_judged 325 = .ok (.bipush (-4), 2) := dk_16 252 (dk_at dksX8_judged_13 17 rfl rfl)
theorem dX8_judged_327 : decode cX8_judged 327 = .ok (.ireturn, 1) := dk_172 (dk_at dksX8_judged_13 19 rfl rfl)
abbrev cX8_isSheet : ByteArray := prog_10_method_52_code
def yX8_isSheet : MethodName := ⟨RX8, "isSheet", "(I)Z"⟩
def dkwX8_isSheet_0 : List UInt8 := [26, 133, 9, 20, 0, 95, 184, 0, 68, 172]
abbrev dktX8_isSheet_0 : List UInt8 := dkwX8_isSheet_0 ++ []
theorem dksX8_isSheet_0 : cX8_isSheet.data.toList.drop 0 = dktX8_isSheet_0 := by decide +kernel
theorem dX8_isSheet_0 : decode cX8_isSheet 0 = .ok (.iload_n 0, 1) := dk_26 (dk_at dksX8_isSheet_0 0 rfl rfl)
theorem dX8_isSheet_1 : decode cX8_isSheet 1 = .ok (.i2l, 1) := dk_133 (dk_at dksX8_isSheet_0 1 rfl rfl)
theorem dX8_isSheet_2 : decode cX8_isSheet 2 = .ok (.lconst 0, 1) := dk_9 (dk_at dksX8_isSheet_0 2 rfl rfl)
theorem dX8_isSheet_3 : decode cX8_isSheet 3 = .ok (.ldc2_w 95, 3) := dk_20 0 95 (dk_at dksX8_isSheet_0 3 rfl rfl)
theorem dX8_isSheet_6 : decode cX8_isSheet 6 = .ok (.invokestatic 68, 3) := dk_184 0 68 (dk_at dksX8_isSheet_0 6 rfl rfl)
theorem dX8_isSheet_9 : decode cX8_isSheet 9 = .ok (.ireturn, 1) := dk_172 (dk_at dksX8_isSheet_0 9 rfl rfl)
abbrev cX8_isLane : ByteArray := prog_10_method_53_code
def yX8_isLane : MethodName := ⟨RX8, "isLane", "(I)Z"⟩
def dkwX8_isLane_0 : List UInt8 := [26, 133, 9, 20, 0, 106, 184, 0, 68, 172]
abbrev dktX8_isLane_0 : List UInt8 := dkwX8_isLane_0 ++ []
theorem dksX8_isLane_0 : cX8_isLane.data.toList.drop 0 = dktX8_isLane_0 := by decide +kernel
theorem dX8_isLane_0 : decode cX8_isLane 0 = .ok (.iload_n 0, 1) := dk_26 (dk_at dksX8_isLane_0 0 rfl rfl)
theorem dX8_isLane_1 : decode cX8_isLane 1 = .ok (.i2l, 1) := dk_133 (dk_at dksX8_isLane_0 1 rfl rfl)
theorem dX8_isLane_2 : decode cX8_isLane 2 = .ok (.lconst 0, 1) := dk_9 (dk_at dksX8_isLane_0 2 rfl rfl)
theorem dX8_isLane_3 : decode cX8_isLane 3 = .ok (.ldc2_w 106, 3) := dk_20 0 106 (dk_at dksX8_isLane_0 3 rfl rfl)
theorem dX8_isLane_6 : decode cX8_isLane 6 = .ok (.invokestatic 68, 3) := dk_184 0 68 (dk_at dksX8_isLane_0 6 rfl rfl)
theorem dX8_isLane_9 : decode cX8_isLane 9 = .ok (.ireturn, 1) := dk_172 (dk_at dksX8_isLane_0 9 rfl rfl)
abbrev cX8_finds : ByteArray := prog_10_method_54_code
def yX8_finds : MethodName := ⟨RX8, "finds", "(IIII)I"⟩
def dkwX8_finds_2 : List UInt8 := [167, 0, 4, 3, 172]
abbrev dktX8_finds_2 : List UInt8 := dkwX8_finds_2 ++ []
def dkwX8_finds_1 : List UInt8 := [172, 29, 155, 0, 20, 29, 133, 21, 4, 133, 97, 42, 180, 0, 55, 27, 46, 133, 148, 158, 0, 8, 16, 243]
abbrev dktX8_finds_1 : List UInt8 := dkwX8_finds_1 ++ dktX8_finds_2
def dkwX8_finds_0 : List UInt8 := [42, 180, 0, 52, 27, 46, 156, 0, 6, 16, 245, 172, 42, 180, 0, 52, 27, 46, 28, 159, 0, 6, 16, 244]
abbrev dktX8_finds_0 : List UInt8 := dkwX8_finds_0 ++ dktX8_finds_1
theorem dksX8_finds_0 : cX8_finds.data.toList.drop 0 = dktX8_finds_0 := by decide +kernel
theorem dksX8_finds_1 : cX8_finds.data.toList.drop 24 = dktX8_finds_1 := dk_seg dksX8_finds_0 24 rfl rfl
theorem dksX8_finds_2 : cX8_finds.data.toList.drop 48 = dktX8_finds_2 := dk_seg dksX8_finds_1 24 rfl rfl
theorem dX8_finds_0 : decode cX8_finds 0 = .ok (.aload_n 0, 1) := dk_42 (dk_at dksX8_finds_0 0 rfl rfl)
theorem dX8_finds_1 : decode cX8_finds 1 = .ok (.getfield 52, 3) := dk_180 0 52 (dk_at dksX8_finds_0 1 rfl rfl)
theorem dX8_finds_4 : decode cX8_finds 4 = .ok (.iload_n 1, 1) := dk_27 (dk_at dksX8_finds_0 4 rfl rfl)
theorem dX8_finds_5 : decode cX8_finds 5 = .ok (.iaload, 1) := dk_46 (dk_at dksX8_finds_0 5 rfl rfl)
theorem dX8_finds_6 : decode cX8_finds 6 = .ok (.ifCond .ge 6, 3) := dk_156 0 6 (dk_at dksX8_finds_0 6 rfl rfl)
theorem dX8_finds_9 : decode cX8_finds 9 = .ok (.bipush (-11), 2) := dk_16 245 (dk_at dksX8_finds_0 9 rfl rfl)
theorem dX8_finds_11 : decode cX8_finds 11 = .ok (.ireturn, 1) := dk_172 (dk_at dksX8_finds_0 11 rfl rfl)
theorem dX8_finds_12 : decode cX8_finds 12 = .ok (.aload_n 0, 1) := dk_42 (dk_at dksX8_finds_0 12 rfl rfl)
theorem dX8_finds_13 : decode cX8_finds 13 = .ok (.getfield 52, 3) := dk_180 0 52 (dk_at dksX8_finds_0 13 rfl rfl)
theorem dX8_finds_16 : decode cX8_finds 16 = .ok (.iload_n 1, 1) := dk_27 (dk_at dksX8_finds_0 16 rfl rfl)
theorem dX8_finds_17 : decode cX8_finds 17 = .ok (.iaload, 1) := dk_46 (dk_at dksX8_finds_0 17 rfl rfl)
theorem dX8_finds_18 : decode cX8_finds 18 = .ok (.iload_n 2, 1) := dk_28 (dk_at dksX8_finds_0 18 rfl rfl)
theorem dX8_finds_19 : decode cX8_finds 19 = .ok (.if_icmp .eq 6, 3) := dk_159 0 6 (dk_at dksX8_finds_0 19 rfl rfl)
theorem dX8_finds_22 : decode cX8_finds 22 = .ok (.bipush (-12), 2) := dk_16 244 (dk_at dksX8_finds_0 22 rfl rfl)
theorem dX8_finds_24 : decode cX8_finds 24 = .ok (.ireturn, 1) := dk_172 (dk_at dksX8_finds_1 0 rfl rfl)
theorem dX8_finds_25 : decode cX8_finds 25 = .ok (.iload_n 3, 1) := dk_29 (dk_at dksX8_finds_1 1 rfl rfl)
theorem dX8_finds_26 : decode cX8_finds 26 = .ok (.ifCond .lt 20, 3) := dk_155 0 20 (dk_at dksX8_finds_1 2 rfl rfl)
theorem dX8_finds_29 : decode cX8_finds 29 = .ok (.iload_n 3, 1) := dk_29 (dk_at dksX8_finds_1 5 rfl rfl)
theorem dX8_finds_30 : decode cX8_finds 30 = .ok (.i2l, 1) := dk_133 (dk_at dksX8_finds_1 6 rfl rfl)
theorem dX8_finds_31 : decode cX8_finds 31 = .ok (.iload 4, 2) := dk_21 4 (dk_at dksX8_finds_1 7 rfl rfl)
theorem dX8_finds_33 : decode cX8_finds 33 = .ok (.i2l, 1) := dk_133 (dk_at dksX8_finds_1 9 rfl rfl)
theorem dX8_finds_34 : decode cX8_finds 34 = .ok (.ladd, 1) := dk_97 (dk_at dksX8_finds_1 10 rfl rfl)
theorem dX8_finds_35 : decode cX8_finds 35 = .ok (.aload_n 0, 1) := dk_42 (dk_at dksX8_finds_1 11 rfl rfl)
theorem dX8_finds_36 : decode cX8_finds 36 = .ok (.getfield 55, 3) := dk_180 0 55 (dk_at dksX8_finds_1 12 rfl rfl)
theorem dX8_finds_39 : decode cX8_finds 39 = .ok (.iload_n 1, 1) := dk_27 (dk_at dksX8_finds_1 15 rfl rfl)
theorem dX8_finds_40 : decode cX8_finds 40 = .ok (.iaload, 1) := dk_46 (dk_at dksX8_finds_1 16 rfl rfl)
theorem dX8_finds_41 : decode cX8_finds 41 = .ok (.i2l, 1) := dk_133 (dk_at dksX8_finds_1 17 rfl rfl)
theorem dX8_finds_42 : decode cX8_finds 42 = .ok (.lcmp, 1) := dk_148 (dk_at dksX8_finds_1 18 rfl rfl)
theorem dX8_finds_43 : decode cX8_finds 43 = .ok (.ifCond .le 8, 3) := dk_158 0 8 (dk_at dksX8_finds_1 19 rfl rfl)
theorem dX8_finds_46 : decode cX8_finds 46 = .ok (.bipush (-13), 2) := dk_16 243 (dk_at dksX8_finds_1 22 rfl rfl)
theorem dX8_finds_48 : decode cX8_finds 48 = .ok (.goto 4, 3) := dk_167 0 4 (dk_at dksX8_finds_2 0 rfl rfl)
theorem dX8_finds_51 : decode cX8_finds 51 = .ok (.iconst 0, 1) := dk_3 (dk_at dksX8_finds_2 3 rfl rfl)
theorem dX8_finds_52 : decode cX8_finds 52 = .ok (.ireturn, 1) := dk_172 (dk_at dksX8_finds_2 4 rfl rfl)
abbrev cX8_sheet : ByteArray := prog_10_method_56_code
def yX8_sheet : MethodName := ⟨RX8, "sheet", "(III)I"⟩
def dkwX8_sheet_3 : List UInt8 := [167, 255, 233, 29, 172]
abbrev dktX8_sheet_3 : List UInt8 := dkwX8_sheet_3 ++ []
def dkwX8_sheet_2 : List UInt8 := [21, 4, 16, 24, 162, 0, 22, 42, 180, 0, 58, 16, 24, 27, 104, 21, 4, 96, 3, 79, 132, 4, 1]
abbrev dktX8_sheet_2 : List UInt8 := dkwX8_sheet_2 ++ dktX8_sheet_3
def dkwX8_sheet_1 : List UInt8 := [156, 0, 6, 16, 242, 172, 42, 180, 0, 52, 27, 28, 79, 42, 180, 0, 55, 27, 29, 79, 3, 54, 4]
abbrev dktX8_sheet_1 : List UInt8 := dkwX8_sheet_1 ++ dktX8_sheet_2
def dkwX8_sheet_0 : List UInt8 := [27, 184, 0, 228, 153, 0, 16, 28, 184, 0, 231, 153, 0, 9, 29, 16, 24, 164, 0, 5, 2, 172, 29]
abbrev dktX8_sheet_0 : List UInt8 := dkwX8_sheet_0 ++ dktX8_sheet_1
theorem dksX8_sheet_0 : cX8_sheet.data.toList.drop 0 = dktX8_sheet_0 := by decide +kernel
theorem dksX8_sheet_1 : cX8_sheet.data.toList.drop 23 = dktX8_sheet_1 := dk_seg dksX8_sheet_0 23 rfl rfl
theorem dksX8_sheet_2 : cX8_sheet.data.toList.drop 46 = dktX8_sheet_2 := dk_seg dksX8_sheet_1 23 rfl rfl
theorem dksX8_sheet_3 : cX8_sheet.data.toList.drop 69 = dktX8_sheet_3 := dk_seg dksX8_sheet_2 23 rfl rfl
theorem dX8_sheet_0 : decode cX8_sheet 0 = .ok (.iload_n 1, 1) := dk_27 (dk_at dksX8_sheet_0 0 rfl rfl)
theorem dX8_sheet_1 : decode cX8_sheet 1 = .ok (.invokestatic 228, 3) := dk_184 0 228 (dk_at dksX8_sheet_0 1 rfl rfl)
theorem dX8_sheet_4 : decode cX8_sheet 4 = .ok (.ifCond .eq 16, 3) := dk_153 0 16 (dk_at dksX8_sheet_0 4 rfl rfl)
theorem dX8_sheet_7 : decode cX8_sheet 7 = .ok (.iload_n 2, 1) := dk_28 (dk_at dksX8_sheet_0 7 rfl rfl)
theorem dX8_sheet_8 : decode cX8_sheet 8 = .ok (.invokestatic 231, 3) := dk_184 0 231 (dk_at dksX8_sheet_0 8 rfl rfl)
theorem dX8_sheet_11 : decode cX8_sheet 11 = .ok (.ifCond .eq 9, 3) := dk_153 0 9 (dk_at dksX8_sheet_0 11 rfl rfl)
theorem dX8_sheet_14 : decode cX8_sheet 14 = .ok (.iload_n 3, 1) := dk_29 (dk_at dksX8_sheet_0 14 rfl rfl)
theorem dX8_sheet_15 : decode cX8_sheet 15 = .ok (.bipush 24, 2) := dk_16 24 (dk_at dksX8_sheet_0 15 rfl rfl)
theorem dX8_sheet_17 : decode cX8_sheet 17 = .ok (.if_icmp .le 5, 3) := dk_164 0 5 (dk_at dksX8_sheet_0 17 rfl rfl)
theorem dX8_sheet_20 : decode cX8_sheet 20 = .ok (.iconst (-1), 1) := dk_2 (dk_at dksX8_sheet_0 20 rfl rfl)
theorem dX8_sheet_21 : decode cX8_sheet 21 = .ok (.ireturn, 1) := dk_172 (dk_at dksX8_sheet_0 21 rfl rfl)
theorem dX8_sheet_22 : decode cX8_sheet 22 = .ok (.iload_n 3, 1) := dk_29 (dk_at dksX8_sheet_0 22 rfl rfl)
theorem dX8_sheet_23 : decode cX8_sheet 23 = .ok (.ifCond .ge 6, 3) := dk_156 0 6 (dk_at dksX8_sheet_1 0 rfl rfl)
theorem dX8_sheet_26 : decode cX8_sheet 26 = .ok (.bipush (-14), 2) := dk_16 242 (dk_at dksX8_sheet_1 3 rfl rfl)
theorem dX8_sheet_28 : decode cX8_sheet 28 = .ok (.ireturn, 1) := dk_172 (dk_at dksX8_sheet_1 5 rfl rfl)
theorem dX8_sheet_29 : decode cX8_sheet 29 = .ok (.aload_n 0, 1) := dk_42 (dk_at dksX8_sheet_1 6 rfl rfl)
theorem dX8_sheet_30 : decode cX8_sheet 30 = .ok (.getfield 52, 3) := dk_180 0 52 (dk_at dksX8_sheet_1 7 rfl rfl)
theorem dX8_sheet_33 : decode cX8_sheet 33 = .ok (.iload_n 1, 1) := dk_27 (dk_at dksX8_sheet_1 10 rfl rfl)
theorem dX8_sheet_34 : decode cX8_sheet 34 = .ok (.iload_n 2, 1) := dk_28 (dk_at dksX8_sheet_1 11 rfl rfl)
theorem dX8_sheet_35 : decode cX8_sheet 35 = .ok (.iastore, 1) := dk_79 (dk_at dksX8_sheet_1 12 rfl rfl)
theorem dX8_sheet_36 : decode cX8_sheet 36 = .ok (.aload_n 0, 1) := dk_42 (dk_at dksX8_sheet_1 13 rfl rfl)
theorem dX8_sheet_37 : decode cX8_sheet 37 = .ok (.getfield 55, 3) := dk_180 0 55 (dk_at dksX8_sheet_1 14 rfl rfl)
theorem dX8_sheet_40 : decode cX8_sheet 40 = .ok (.iload_n 1, 1) := dk_27 (dk_at dksX8_sheet_1 17 rfl rfl)
theorem dX8_sheet_41 : decode cX8_sheet 41 = .ok (.iload_n 3, 1) := dk_29 (dk_at dksX8_sheet_1 18 rfl rfl)
theorem dX8_sheet_42 : decode cX8_sheet 42 = .ok (.iastore, 1) := dk_79 (dk_at dksX8_sheet_1 19 rfl rfl)
theorem dX8_sheet_43 : decode cX8_sheet 43 = .ok (.iconst 0, 1) := dk_3 (dk_at dksX8_sheet_1 20 rfl rfl)
theorem dX8_sheet_44 : decode cX8_sheet 44 = .ok (.istore 4, 2) := dk_54 4 (dk_at dksX8_sheet_1 21 rfl rfl)
theorem dX8_sheet_46 : decode cX8_sheet 46 = .ok (.iload 4, 2) := dk_21 4 (dk_at dksX8_sheet_2 0 rfl rfl)
theorem dX8_sheet_48 : decode cX8_sheet 48 = .ok (.bipush 24, 2) := dk_16 24 (dk_at dksX8_sheet_2 2 rfl rfl)
theorem dX8_sheet_50 : decode cX8_sheet 50 = .ok (.if_icmp .ge 22, 3) := dk_162 0 22 (dk_at dksX8_sheet_2 4 rfl rfl)
theorem dX8_sheet_53 : decode cX8_sheet 53 = .ok (.aload_n 0, 1) := dk_42 (dk_at dksX8_sheet_2 7 rfl rfl)
theorem dX8_sheet_54 : decode cX8_sheet 54 = .ok (.getfield 58, 3) := dk_180 0 58 (dk_at dksX8_sheet_2 8 rfl rfl)
theorem dX8_sheet_57 : decode cX8_sheet 57 = .ok (.bipush 24, 2) := dk_16 24 (dk_at dksX8_sheet_2 11 rfl rfl)
theorem dX8_sheet_59 : decode cX8_sheet 59 = .ok (.iload_n 1, 1) := dk_27 (dk_at dksX8_sheet_2 13 rfl rfl)
theorem dX8_sheet_60 : decode cX8_sheet 60 = .ok (.imul, 1) := dk_104 (dk_at dksX8_sheet_2 14 rfl rfl)
theorem dX8_sheet_61 : decode cX8_sheet 61 = .ok (.iload 4, 2) := dk_21 4 (dk_at dksX8_sheet_2 15 rfl rfl)
theorem dX8_sheet_63 : decode cX8_sheet 63 = .ok (.iadd, 1) := dk_96 (dk_at dksX8_sheet_2 17 rfl rfl)
theorem dX8_sheet_64 : decode cX8_sheet 64 = .ok (.iconst 0, 1) := dk_3 (dk_at dksX8_sheet_2 18 rfl rfl)
theorem dX8_sheet_65 : decode cX8_sheet 65 = .ok (.iastore, 1) := dk_79 (dk_at dksX8_sheet_2 19 rfl rfl)
theorem dX8_sheet_66 : decode cX8_sheet 66 = .ok (.iinc 4 1, 3) := dk_132 4 1 (dk_at dksX8_sheet_2 20 rfl rfl)
theorem dX8_sheet_69 : decode cX8_sheet 69 = .ok (.goto (-23), 3) := dk_167 255 233 (dk_at dksX8_sheet_3 0 rfl rfl)
theorem dX8_sheet_72 : decode cX8_sheet 72 = .ok (.iload_n 3, 1) := dk_29 (dk_at dksX8_sheet_3 3 rfl rfl)
theorem dX8_sheet_73 : decode cX8_sheet 73 = .ok (.ireturn, 1) := dk_172 (dk_at dksX8_sheet_3 4 rfl rfl)
abbrev cX8_drop : ByteArray := prog_10_method_57_code
def yX8_drop : MethodName := ⟨RX8, "drop", "(I)I"⟩
def dkwX8_drop_1 : List UInt8 := [180, 0, 52, 27, 2, 79, 42, 180, 0, 55, 27, 46, 172]
abbrev dktX8_drop_1 : List UInt8 := dkwX8_drop_1 ++ []
def dkwX8_drop_0 : List UInt8 := [27, 184, 0, 228, 154, 0, 5, 2, 172, 42, 180, 0, 52, 27, 46, 156, 0, 6, 16, 245, 172, 42]
abbrev dktX8_drop_0 : List UInt8 := dkwX8_drop_0 ++ dktX8_drop_1
theorem dksX8_drop_0 : cX8_drop.data.toList.drop 0 = dktX8_drop_0 := by decide +kernel
theorem dksX8_drop_1 : cX8_drop.data.toList.drop 22 = dktX8_drop_1 := dk_seg dksX8_drop_0 22 rfl rfl
theorem dX8_drop_0 : decode cX8_drop 0 = .ok (.iload_n 1, 1) := dk_27 (dk_at dksX8_drop_0 0 rfl rfl)
theorem dX8_drop_1 : decode cX8_drop 1 = .ok (.invokestatic 228, 3) := dk_184 0 228 (dk_at dksX8_drop_0 1 rfl rfl)
theorem dX8_drop_4 : decode cX8_drop 4 = .ok (.ifCond .ne 5, 3) := dk_154 0 5 (dk_at dksX8_drop_0 4 rfl rfl)
theorem dX8_drop_7 : decode cX8_drop 7 = .ok (.iconst (-1), 1) := dk_2 (dk_at dksX8_drop_0 7 rfl rfl)
theorem dX8_drop_8 : decode cX8_drop 8 = .ok (.ireturn, 1) := dk_172 (dk_at dksX8_drop_0 8 rfl rfl)
theorem dX8_drop_9 : decode cX8_drop 9 = .ok (.aload_n 0, 1) := dk_42 (dk_at dksX8_drop_0 9 rfl rfl)
theorem dX8_drop_10 : decode cX8_drop 10 = .ok (.getfield 52, 3) := dk_180 0 52 (dk_at dksX8_drop_0 10 rfl rfl)
theorem dX8_drop_13 : decode cX8_drop 13 = .ok (.iload_n 1, 1) := dk_27 (dk_at dksX8_drop_0 13 rfl rfl)
theorem dX8_drop_14 : decode cX8_drop 14 = .ok (.iaload, 1) := dk_46 (dk_at dksX8_drop_0 14 rfl rfl)
theorem dX8_drop_15 : decode cX8_drop 15 = .ok (.ifCond .ge 6, 3) := dk_156 0 6 (dk_at dksX8_drop_0 15 rfl rfl)
theorem dX8_drop_18 : decode cX8_drop 18 = .ok (.bipush (-11), 2) := dk_16 245 (dk_at dksX8_drop_0 18 rfl rfl)
theorem dX8_drop_20 : decode cX8_drop 20 = .ok (.ireturn, 1) := dk_172 (dk_at dksX8_drop_0 20 rfl rfl)
theorem dX8_drop_21 : decode cX8_drop 21 = .ok (.aload_n 0, 1) := dk_42 (dk_at dksX8_drop_0 21 rfl rfl)
theorem dX8_drop_22 : decode cX8_drop 22 = .ok (.getfield 52, 3) := dk_180 0 52 (dk_at dksX8_drop_1 0 rfl rfl)
theorem dX8_drop_25 : decode cX8_drop 25 = .ok (.iload_n 1, 1) := dk_27 (dk_at dksX8_drop_1 3 rfl rfl)
theorem dX8_drop_26 : decode cX8_drop 26 = .ok (.iconst (-1), 1) := dk_2 (dk_at dksX8_drop_1 4 rfl rfl)
theorem dX8_drop_27 : decode cX8_drop 27 = .ok (.iastore, 1) := dk_79 (dk_at dksX8_drop_1 5 rfl rfl)
theorem dX8_drop_28 : decode cX8_drop 28 = .ok (.aload_n 0, 1) := dk_42 (dk_at dksX8_drop_1 6 rfl rfl)
theorem dX8_drop_29 : decode cX8_drop 29 = .ok (.getfield 55, 3) := dk_180 0 55 (dk_at dksX8_drop_1 7 rfl rfl)
theorem dX8_drop_32 : decode cX8_drop 32 = .ok (.iload_n 1, 1) := dk_27 (dk_at dksX8_drop_1 10 rfl rfl)
theorem dX8_drop_33 : decode cX8_drop 33 = .ok (.iaload, 1) := dk_46 (dk_at dksX8_drop_1 11 rfl rfl)
theorem dX8_drop_34 : decode cX8_drop 34 = .ok (.ireturn, 1) := dk_172 (dk_at dksX8_drop_1 12 rfl rfl)
abbrev cX8_item : ByteArray := prog_10_method_58_code
def yX8_item : MethodName := ⟨RX8, "item", "(IIII)I"⟩
def dkwX8_item_2 : List UInt8 := [21, 4, 145, 167, 0, 16, 28, 4, 160, 0, 9, 21, 4, 147, 167, 0, 5, 21, 4, 79, 4, 172]
abbrev dktX8_item_2 : List UInt8 := dkwX8_item_2 ++ []
def dkwX8_item_1 : List UInt8 := [54, 5, 21, 5, 156, 0, 6, 21, 5, 172, 42, 180, 0, 58, 16, 24, 27, 104, 29, 96, 28, 154, 0, 9]
abbrev dktX8_item_1 : List UInt8 := dkwX8_item_1 ++ dktX8_item_2
def dkwX8_item_0 : List UInt8 := [27, 184, 0, 228, 153, 0, 10, 28, 184, 0, 231, 154, 0, 5, 2, 172, 42, 27, 28, 29, 4, 182, 0, 234]
abbrev dktX8_item_0 : List UInt8 := dkwX8_item_0 ++ dktX8_item_1
theorem dksX8_item_0 : cX8_item.data.toList.drop 0 = dktX8_item_0 := by decide +kernel
theorem dksX8_item_1 : cX8_item.data.toList.drop 24 = dktX8_item_1 := dk_seg dksX8_item_0 24 rfl rfl
theorem dksX8_item_2 : cX8_item.data.toList.drop 48 = dktX8_item_2 := dk_seg dksX8_item_1 24 rfl rfl
theorem dX8_item_0 : decode cX8_item 0 = .ok (.iload_n 1, 1) := dk_27 (dk_at dksX8_item_0 0 rfl rfl)
theorem dX8_item_1 : decode cX8_item 1 = .ok (.invokestatic 228, 3) := dk_184 0 228 (dk_at dksX8_item_0 1 rfl rfl)
theorem dX8_item_4 : decode cX8_item 4 = .ok (.ifCond .eq 10, 3) := dk_153 0 10 (dk_at dksX8_item_0 4 rfl rfl)
theorem dX8_item_7 : decode cX8_item 7 = .ok (.iload_n 2, 1) := dk_28 (dk_at dksX8_item_0 7 rfl rfl)
theorem dX8_item_8 : decode cX8_item 8 = .ok (.invokestatic 231, 3) := dk_184 0 231 (dk_at dksX8_item_0 8 rfl rfl)
theorem dX8_item_11 : decode cX8_item 11 = .ok (.ifCond .ne 5, 3) := dk_154 0 5 (dk_at dksX8_item_0 11 rfl rfl)
theorem dX8_item_14 : decode cX8_item 14 = .ok (.iconst (-1), 1) := dk_2 (dk_at dksX8_item_0 14 rfl rfl)
theorem dX8_item_15 : decode cX8_item 15 = .ok (.ireturn, 1) := dk_172 (dk_at dksX8_item_0 15 rfl rfl)
theorem dX8_item_16 : decode cX8_item 16 = .ok (.aload_n 0, 1) := dk_42 (dk_at dksX8_item_0 16 rfl rfl)
theorem dX8_item_17 : decode cX8_item 17 = .ok (.iload_n 1, 1) := dk_27 (dk_at dksX8_item_0 17 rfl rfl)
theorem dX8_item_18 : decode cX8_item 18 = .ok (.iload_n 2, 1) := dk_28 (dk_at dksX8_item_0 18 rfl rfl)
theorem dX8_item_19 : decode cX8_item 19 = .ok (.iload_n 3, 1) := dk_29 (dk_at dksX8_item_0 19 rfl rfl)
theorem dX8_item_20 : decode cX8_item 20 = .ok (.iconst 1, 1) := dk_4 (dk_at dksX8_item_0 20 rfl rfl)
theorem dX8_item_21 : decode cX8_item 21 = .ok (.invokevirtual 234, 3) := dk_182 0 234 (dk_at dksX8_item_0 21 rfl rfl)
theorem dX8_item_24 : decode cX8_item 24 = .ok (.istore 5, 2) := dk_54 5 (dk_at dksX8_item_1 0 rfl rfl)
theorem dX8_item_26 : decode cX8_item 26 = .ok (.iload 5, 2) := dk_21 5 (dk_at dksX8_item_1 2 rfl rfl)
theorem dX8_item_28 : decode cX8_item 28 = .ok (.ifCond .ge 6, 3) := dk_156 0 6 (dk_at dksX8_item_1 4 rfl rfl)
theorem dX8_item_31 : decode cX8_item 31 = .ok (.iload 5, 2) := dk_21 5 (dk_at dksX8_item_1 7 rfl rfl)
theorem dX8_item_33 : decode cX8_item 33 = .ok (.ireturn, 1) := dk_172 (dk_at dksX8_item_1 9 rfl rfl)
theorem dX8_item_34 : decode cX8_item 34 = .ok (.aload_n 0, 1) := dk_42 (dk_at dksX8_item_1 10 rfl rfl)
theorem dX8_item_35 : decode cX8_item 35 = .ok (.getfield 58, 3) := dk_180 0 58 (dk_at dksX8_item_1 11 rfl rfl)
theorem dX8_item_38 : decode cX8_item 38 = .ok (.bipush 24, 2) := dk_16 24 (dk_at dksX8_item_1 14 rfl rfl)
theorem dX8_item_40 : decode cX8_item 40 = .ok (.iload_n 1, 1) := dk_27 (dk_at dksX8_item_1 16 rfl rfl)
theorem dX8_item_41 : decode cX8_item 41 = .ok (.imul, 1) := dk_104 (dk_at dksX8_item_1 17 rfl rfl)
theorem dX8_item_42 : decode cX8_item 42 = .ok (.iload_n 3, 1) := dk_29 (dk_at dksX8_item_1 18 rfl rfl)
theorem dX8_item_43 : decode cX8_item 43 = .ok (.iadd, 1) := dk_96 (dk_at dksX8_item_1 19 rfl rfl)
theorem dX8_item_44 : decode cX8_item 44 = .ok (.iload_n 2, 1) := dk_28 (dk_at dksX8_item_1 20 rfl rfl)
theorem dX8_item_45 : decode cX8_item 45 = .ok (.ifCond .ne 9, 3) := dk_154 0 9 (dk_at dksX8_item_1 21 rfl rfl)
theorem dX8_item_48 : decode cX8_item 48 = .ok (.iload 4, 2) := dk_21 4 (dk_at dksX8_item_2 0 rfl rfl)
theorem dX8_item_50 : decode cX8_item 50 = .ok (.i2b, 1) := dk_145 (dk_at dksX8_item_2 2 rfl rfl)
theorem dX8_item_51 : decode cX8_item 51 = .ok (.goto 16, 3) := dk_167 0 16 (dk_at dksX8_item_2 3 rfl rfl)
theorem dX8_item_54 : decode cX8_item 54 = .ok (.iload_n 2, 1) := dk_28 (dk_at dksX8_item_2 6 rfl rfl)
theorem dX8_item_55 : decode cX8_item 55 = .ok (.iconst 1, 1) := dk_4 (dk_at dksX8_item_2 7 rfl rfl)
theorem dX8_item_56 : decode cX8_item 56 = .ok (.if_icmp .ne 9, 3) := dk_160 0 9 (dk_at dksX8_item_2 8 rfl rfl)
theorem dX8_item_59 : decode cX8_item 59 = .ok (.iload 4, 2) := dk_21 4 (dk_at dksX8_item_2 11 rfl rfl)
theorem dX8_item_61 : decode cX8_item 61 = .ok (.i2s, 1) := dk_147 (dk_at dksX8_item_2 13 rfl rfl)
theorem dX8_item_62 : decode cX8_item 62 = .ok (.goto 5, 3) := dk_167 0 5 (dk_at dksX8_item_2 14 rfl rfl)
theorem dX8_item_65 : decode cX8_item 65 = .ok (.iload 4, 2) := dk_21 4 (dk_at dksX8_item_2 17 rfl rfl)
theorem dX8_item_67 : decode cX8_item 67 = .ok (.iastore, 1) := dk_79 (dk_at dksX8_item_2 19 rfl rfl)
theorem dX8_item_68 : decode cX8_item 68 = .ok (.iconst 1, 1) := dk_4 (dk_at dksX8_item_2 20 rfl rfl)
theorem dX8_item_69 : decode cX8_item 69 = .ok (.ireturn, 1) := dk_172 (dk_at dksX8_item_2 21 rfl rfl)
abbrev cX8_copy : ByteArray := prog_10_method_59_code
def yX8_copy : MethodName := ⟨RX8, "copy", "(IIIII)I"⟩
def dkwX8_copy_7 : List UInt8 := [180, 0, 61, 21, 6, 46, 79, 132, 6, 1, 167, 255, 224, 21, 5, 172]
abbrev dktX8_copy_7 : List UInt8 := dkwX8_copy_7 ++ []
def dkwX8_copy_6 : List UInt8 := [21, 6, 21, 5, 162, 0, 31, 42, 180, 0, 58, 16, 24, 29, 104, 21, 4, 96, 21, 6, 96, 42]
abbrev dktX8_copy_6 : List UInt8 := dkwX8_copy_6 ++ dktX8_copy_7
def dkwX8_copy_5 : List UInt8 := [180, 0, 58, 16, 24, 27, 104, 28, 96, 21, 6, 96, 46, 79, 132, 6, 1, 167, 255, 225, 3, 54, 6]
abbrev dktX8_copy_5 : List UInt8 := dkwX8_copy_5 ++ dktX8_copy_6
def dkwX8_copy_4 : List UInt8 := [156, 0, 6, 16, 243, 172, 3, 54, 6, 21, 6, 21, 5, 162, 0, 30, 42, 180, 0, 61, 21, 6, 42]
abbrev dktX8_copy_4 : List UInt8 := dkwX8_copy_4 ++ dktX8_copy_5
def dkwX8_copy_3 : List UInt8 := [28, 21, 5, 182, 0, 234, 155, 0, 21, 42, 29, 42, 180, 0, 52, 29, 46, 21, 4, 21, 5, 182, 0, 234]
abbrev dktX8_copy_3 : List UInt8 := dkwX8_copy_3 ++ dktX8_copy_4
def dkwX8_copy_2 : List UInt8 := [180, 0, 52, 29, 46, 159, 0, 6, 16, 244, 172, 21, 5, 155, 0, 38, 42, 27, 42, 180, 0, 52, 27, 46]
abbrev dktX8_copy_2 : List UInt8 := dkwX8_copy_2 ++ dktX8_copy_3
def dkwX8_copy_1 : List UInt8 := [155, 0, 12, 42, 180, 0, 52, 29, 46, 156, 0, 6, 16, 245, 172, 42, 180, 0, 52, 27, 46, 42]
abbrev dktX8_copy_1 : List UInt8 := dkwX8_copy_1 ++ dktX8_copy_2
def dkwX8_copy_0 : List UInt8 := [27, 184, 0, 228, 153, 0, 10, 29, 184, 0, 228, 154, 0, 5, 2, 172, 42, 180, 0, 52, 27, 46]
abbrev dktX8_copy_0 : List UInt8 := dkwX8_copy_0 ++ dktX8_copy_1
theorem dksX8_copy_0 : cX8_copy.data.toList.drop 0 = dktX8_copy_0 := by decide +kernel
theorem dksX8_copy_1 : cX8_copy.data.toList.drop 22 = dktX8_copy_1 := dk_seg dksX8_copy_0 22 rfl rfl
theorem dksX8_copy_2 : cX8_copy.data.toList.drop 44 = dktX8_copy_2 := dk_seg dksX8_copy_1 22 rfl rfl
theorem dksX8_copy_3 : cX8_copy.data.toList.drop 68 = dktX8_copy_3 := dk_seg dksX8_copy_2 24 rfl rfl
theorem dksX8_copy_4 : cX8_copy.data.toList.drop 92 = dktX8_copy_4 := dk_seg dksX8_copy_3 24 rfl rfl
theorem dksX8_copy_5 : cX8_copy.data.toList.drop 115 = dktX8_copy_5 := dk_seg dksX8_copy_4 23 rfl rfl
theorem dksX8_copy_6 : cX8_copy.data.toList.drop 138 = dktX8_copy_6 := dk_seg dksX8_copy_5 23 rfl rfl
theorem dksX8_copy_7 : cX8_copy.data.toList.drop 160 = dktX8_copy_7 := dk_seg dksX8_copy_6 22 rfl rfl
theorem dX8_copy_0 : decode cX8_copy 0 = .ok (.iload_n 1, 1) := dk_27 (dk_at dksX8_copy_0 0 rfl rfl)
theorem dX8_copy_1 : decode cX8_copy 1 = .ok (.invokestatic 228, 3) := dk_184 0 228 (dk_at dksX8_copy_0 1 rfl rfl)
theorem dX8_copy_4 : decode cX8_copy 4 = .ok (.ifCond .eq 10, 3) := dk_153 0 10 (dk_at dksX8_copy_0 4 rfl rfl)
theorem dX8_copy_7 : decode cX8_copy 7 = .ok (.iload_n 3, 1) := dk_29 (dk_at dksX8_copy_0 7 rfl rfl)
theorem dX8_copy_8 : decode cX8_copy 8 = .ok (.invokestatic 228, 3) := dk_184 0 228 (dk_at dksX8_copy_0 8 rfl rfl)
theorem dX8_copy_11 : decode cX8_copy 11 = .ok (.ifCond .ne 5, 3) := dk_154 0 5 (dk_at dksX8_copy_0 11 rfl rfl)
theorem dX8_copy_14 : decode cX8_copy 14 = .ok (.iconst (-1), 1) := dk_2 (dk_at dksX8_copy_0 14 rfl rfl)
theorem dX8_copy_15 : decode cX8_copy 15 = .ok (.ireturn, 1) := dk_172 (dk_at dksX8_copy_0 15 rfl rfl)
theorem dX8_copy_16 : decode cX8_copy 16 = .ok (.aload_n 0, 1) := dk_42 (dk_at dksX8_copy_0 16 rfl rfl)
theorem dX8_copy_17 : decode cX8_copy 17 = .ok (.getfield 52, 3) := dk_180 0 52 (dk_at dksX8_copy_0 17 rfl rfl)
theorem dX8_copy_20 : decode cX8_copy 20 = .ok (.iload_n 1, 1) := dk_27 (dk_at dksX8_copy_0 20 rfl rfl)
theorem dX8_copy_21 : decode cX8_copy 21 = .ok (.iaload, 1) := dk_46 (dk_at dksX8_copy_0 21 rfl rfl)
theorem dX8_copy_22 : decode cX8_copy 22 = .ok (.ifCond .lt 12, 3) := dk_155 0 12 (dk_at dksX8_copy_1 0 rfl rfl)
theorem dX8_copy_25 : decode cX8_copy 25 = .ok (.aload_n 0, 1) := dk_42 (dk_at dksX8_copy_1 3 rfl rfl)
theorem dX8_copy_26 : decode cX8_copy 26 = .ok (.getfield 52, 3) := dk_180 0 52 (dk_at dksX8_copy_1 4 rfl rfl)
theorem dX8_copy_29 : decode cX8_copy 29 = .ok (.iload_n 3, 1) := dk_29 (dk_at dksX8_copy_1 7 rfl rfl)
theorem dX8_copy_30 : decode cX8_copy 30 = .ok (.iaload, 1) := dk_46 (dk_at dksX8_copy_1 8 rfl rfl)
theorem dX8_copy_31 : decode cX8_copy 31 = .ok (.ifCond .ge 6, 3) := dk_156 0 6 (dk_at dksX8_copy_1 9 rfl rfl)
theorem dX8_copy_34 : decode cX8_copy 34 = .ok (.bipush (-11), 2) := dk_16 245 (dk_at dksX8_copy_1 12 rfl rfl)
theorem dX8_copy_36 : decode cX8_copy 36 = .ok (.ireturn, 1) := dk_172 (dk_at dksX8_copy_1 14 rfl rfl)
theorem dX8_copy_37 : decode cX8_copy 37 = .ok (.aload_n 0, 1) := dk_42 (dk_at dksX8_copy_1 15 rfl rfl)
theorem dX8_copy_38 : decode cX8_copy 38 = .ok (.getfield 52, 3) := dk_180 0 52 (dk_at dksX8_copy_1 16 rfl rfl)
theorem dX8_copy_41 : decode cX8_copy 41 = .ok (.iload_n 1, 1) := dk_27 (dk_at dksX8_copy_1 19 rfl rfl)
theorem dX8_copy_42 : decode cX8_copy 42 = .ok (.iaload, 1) := dk_46 (dk_at dksX8_copy_1 20 rfl rfl)
theorem dX8_copy_43 : decode cX8_copy 43 = .ok (.aload_n 0, 1) := dk_42 (dk_at dksX8_copy_1 21 rfl rfl)
theorem dX8_copy_44 : decode cX8_copy 44 = .ok (.getfield 52, 3) := dk_180 0 52 (dk_at dksX8_copy_2 0 rfl rfl)
theorem dX8_copy_47 : decode cX8_copy 47 = .ok (.iload_n 3, 1) := dk_29 (dk_at dksX8_copy_2 3 rfl rfl)
theorem dX8_copy_48 : decode cX8_copy 48 = .ok (.iaload, 1) := dk_46 (dk_at dksX8_copy_2 4 rfl rfl)
theorem dX8_copy_49 : decode cX8_copy 49 = .ok (.if_icmp .eq 6, 3) := dk_159 0 6 (dk_at dksX8_copy_2 5 rfl rfl)
theorem dX8_copy_52 : decode cX8_copy 52 = .ok (.bipush (-12), 2) := dk_16 244 (dk_at dksX8_copy_2 8 rfl rfl)
theorem dX8_copy_54 : decode cX8_copy 54 = .ok (.ireturn, 1) := dk_172 (dk_at dksX8_copy_2 10 rfl rfl)
theorem dX8_copy_55 : decode cX8_copy 55 = .ok (.iload 5, 2) := dk_21 5 (dk_at dksX8_copy_2 11 rfl rfl)
theorem dX8_copy_57 : decode cX8_copy 57 = .ok (.ifCond .lt 38, 3) := dk_155 0 38 (dk_at dksX8_copy_2 13 rfl rfl)
theorem dX8_copy_60 : decode cX8_copy 60 = .ok (.aload_n 0, 1) := dk_42 (dk_at dksX8_copy_2 16 rfl rfl)
theorem dX8_copy_61 : decode cX8_copy 61 = .ok (.iload_n 1, 1) := dk_27 (dk_at dksX8_copy_2 17 rfl rfl)
theorem dX8_copy_62 : decode cX8_copy 62 = .ok (.aload_n 0, 1) := dk_42 (dk_at dksX8_copy_2 18 rfl rfl)
theorem dX8_copy_63 : decode cX8_copy 63 = .ok (.getfield 52, 3) := dk_180 0 52 (dk_at dksX8_copy_2 19 rfl rfl)
theorem dX8_copy_66 : decode cX8_copy 66 = .ok (.iload_n 1, 1) := dk_27 (dk_at dksX8_copy_2 22 rfl rfl)
theorem dX8_copy_67 : decode cX8_copy 67 = .ok (.iaload, 1) := dk_46 (dk_at dksX8_copy_2 23 rfl rfl)
theorem dX8_copy_68 : decode cX8_copy 68 = .ok (.iload_n 2, 1) := dk_28 (dk_at dksX8_copy_3 0 rfl rfl)
theorem dX8_copy_69 : decode cX8_copy 69 = .ok (.iload 5, 2) := dk_21 5 (dk_at dksX8_copy_3 1 rfl rfl)
theorem dX8_copy_71 : decode cX8_copy 71 = .ok (.invokevirtual 234, 3) := dk_182 0 234 (dk_at dksX8_copy_3 3 rfl rfl)
theorem dX8_copy_74 : decode cX8_copy 74 = .ok (.ifCond .lt 21, 3) := dk_155 0 21 (dk_at dksX8_copy_3 6 rfl rfl)
theorem dX8_copy_77 : decode cX8_copy 77 = .ok (.aload_n 0, 1) := dk_42 (dk_at dksX8_copy_3 9 rfl rfl)
theorem dX8_copy_78 : decode cX8_copy 78 = .ok (.iload_n 3, 1) := dk_29 (dk_at dksX8_copy_3 10 rfl rfl)
theorem dX8_copy_79 : decode cX8_copy 79 = .ok (.aload_n 0, 1) := dk_42 (dk_at dksX8_copy_3 11 rfl rfl)
theorem dX8_copy_80 : decode cX8_copy 80 = .ok (.getfield 52, 3) := dk_180 0 52 (dk_at dksX8_copy_3 12 rfl rfl)
theorem dX8_copy_83 : decode cX8_copy 83 = .ok (.iload_n 3, 1) := dk_29 (dk_at dksX8_copy_3 15 rfl rfl)
theorem dX8_copy_84 : decode cX8_copy 84 = .ok (.iaload, 1) := dk_46 (dk_at dksX8_copy_3 16 rfl rfl)
theorem dX8_copy_85 : decode cX8_copy 85 = .ok (.iload 4, 2) := dk_21 4 (dk_at dksX8_copy_3 17 rfl rfl)
theorem dX8_copy_87 : decode cX8_copy 87 = .ok (.iload 5, 2) := dk_21 5 (dk_at dksX8_copy_3 19 rfl rfl)
theorem dX8_copy_89 : decode cX8_copy 89 = .ok (.invokevirtual 234, 3) := dk_182 0 234 (dk_at dksX8_copy_3 21 rfl rfl)
theorem dX8_copy_92 : decode cX8_copy 92 = .ok (.ifCond .ge 6, 3) := dk_156 0 6 (dk_at dksX8_copy_4 0 rfl rfl)
theorem dX8_copy_95 : decode cX8_copy 95 = .ok (.bipush (-13), 2) := dk_16 243 (dk_at dksX8_copy_4 3 rfl rfl)
theorem dX8_copy_97 : decode cX8_copy 97 = .ok (.ireturn, 1) := dk_172 (dk_at dksX8_copy_4 5 rfl rfl)
theorem dX8_copy_98 : decode cX8_copy 98 = .ok (.iconst 0, 1) := dk_3 (dk_at dksX8_copy_4 6 rfl rfl)
theorem dX8_copy_99 : decode cX8_copy 99 = .ok (.istore 6, 2) := dk_54 6 (dk_at dksX8_copy_4 7 rfl rfl)
theorem dX8_copy_101 : decode cX8_copy 101 = .ok (.iload 6, 2) := dk_21 6 (dk_at dksX8_copy_4 9 rfl rfl)
theorem dX8_copy_103 : decode cX8_copy 103 = .ok (.iload 5, 2) := dk_21 5 (dk_at dksX8_copy_4 11 rfl rfl)
theorem dX8_copy_105 : decode cX8_copy 105 = .ok (.if_icmp .ge 30, 3) := dk_162 0 30 (dk_at dksX8_copy_4 13 rfl rfl)
theorem dX8_copy_108 : decode cX8_copy 108 = .ok (.aload_n 0, 1) := dk_42 (dk_at dksX8_copy_4 16 rfl rfl)
theorem dX8_copy_109 : decode cX8_copy 109 = .ok (.getfield 61, 3) := dk_180 0 61 (dk_at dksX8_copy_4 17 rfl rfl)
theorem dX8_copy_112 : decode cX8_copy 112 = .ok (.iload 6, 2) := dk_21 6 (dk_at dksX8_copy_4 20 rfl rfl)
theorem dX8_copy_114 : decode cX8_copy 114 = .ok (.aload_n 0, 1) := dk_42 (dk_at dksX8_copy_4 22 rfl rfl)
theorem dX8_copy_115 : decode cX8_copy 115 = .ok (.getfield 58, 3) := dk_180 0 58 (dk_at dksX8_copy_5 0 rfl rfl)
theorem dX8_copy_118 : decode cX8_copy 118 = .ok (.bipush 24, 2) := dk_16 24 (dk_at dksX8_copy_5 3 rfl rfl)
theorem dX8_copy_120 : decode cX8_copy 120 = .ok (.iload_n 1, 1) := dk_27 (dk_at dksX8_copy_5 5 rfl rfl)
theorem dX8_copy_121 : decode cX8_copy 121 = .ok (.imul, 1) := dk_104 (dk_at dksX8_copy_5 6 rfl rfl)
theorem dX8_copy_122 : decode cX8_copy 122 = .ok (.iload_n 2, 1) := dk_28 (dk_at dksX8_copy_5 7 rfl rfl)
theorem dX8_copy_123 : decode cX8_copy 123 = .ok (.iadd, 1) := dk_96 (dk_at dksX8_copy_5 8 rfl rfl)
theorem dX8_copy_124 : decode cX8_copy 124 = .ok (.iload 6, 2) := dk_21 6 (dk_at dksX8_copy_5 9 rfl rfl)
theorem dX8_copy_126 : decode cX8_copy 126 = .ok (.iadd, 1) := dk_96 (dk_at dksX8_copy_5 11 rfl rfl)
theorem dX8_copy_127 : decode cX8_copy 127 = .ok (.iaload, 1) := dk_46 (dk_at dksX8_copy_5 12 rfl rfl)
theorem dX8_copy_128 : decode cX8_copy 128 = .ok (.iastore, 1) := dk_79 (dk_at dksX8_copy_5 13 rfl rfl)
theorem dX8_copy_129 : decode cX8_copy 129 = .ok (.iinc 6 1, 3) := dk_132 6 1 (dk_at dksX8_copy_5 14 rfl rfl)
theorem dX8_copy_132 : decode cX8_copy 132 = .ok (.goto (-31), 3) := dk_167 255 225 (dk_at dksX8_copy_5 17 rfl rfl)
theorem dX8_copy_135 : decode cX8_copy 135 = .ok (.iconst 0, 1) := dk_3 (dk_at dksX8_copy_5 20 rfl rfl)
theorem dX8_copy_136 : decode cX8_copy 136 = .ok (.istore 6, 2) := dk_54 6 (dk_at dksX8_copy_5 21 rfl rfl)
theorem dX8_copy_138 : decode cX8_copy 138 = .ok (.iload 6, 2) := dk_21 6 (dk_at dksX8_copy_6 0 rfl rfl)
theorem dX8_copy_140 : decode cX8_copy 140 = .ok (.iload 5, 2) := dk_21 5 (dk_at dksX8_copy_6 2 rfl rfl)
theorem dX8_copy_142 : decode cX8_copy 142 = .ok (.if_icmp .ge 31, 3) := dk_162 0 31 (dk_at dksX8_copy_6 4 rfl rfl)
theorem dX8_copy_145 : decode cX8_copy 145 = .ok (.aload_n 0, 1) := dk_42 (dk_at dksX8_copy_6 7 rfl rfl)
theorem dX8_copy_146 : decode cX8_copy 146 = .ok (.getfield 58, 3) := dk_180 0 58 (dk_at dksX8_copy_6 8 rfl rfl)
theorem dX8_copy_149 : decode cX8_copy 149 = .ok (.bipush 24, 2) := dk_16 24 (dk_at dksX8_copy_6 11 rfl rfl)
theorem dX8_copy_151 : decode cX8_copy 151 = .ok (.iload_n 3, 1) := dk_29 (dk_at dksX8_copy_6 13 rfl rfl)
theorem dX8_copy_152 : decode cX8_copy 152 = .ok (.imul, 1) := dk_104 (dk_at dksX8_copy_6 14 rfl rfl)
theorem dX8_copy_153 : decode cX8_copy 153 = .ok (.iload 4, 2) := dk_21 4 (dk_at dksX8_copy_6 15 rfl rfl)
theorem dX8_copy_155 : decode cX8_copy 155 = .ok (.iadd, 1) := dk_96 (dk_at dksX8_copy_6 17 rfl rfl)
theorem dX8_copy_156 : decode cX8_copy 156 = .ok (.iload 6, 2) := dk_21 6 (dk_at dksX8_copy_6 18 rfl rfl)
theorem dX8_copy_158 : decode cX8_copy 158 = .ok (.iadd, 1) := dk_96 (dk_at dksX8_copy_6 20 rfl rfl)
theorem dX8_copy_159 : decode cX8_copy 159 = .ok (.aload_n 0, 1) := dk_42 (dk_at dksX8_copy_6 21 rfl rfl)
theorem dX8_copy_160 : decode cX8_copy 160 = .ok (.getfield 61, 3) := dk_180 0 61 (dk_at dksX8_copy_7 0 rfl rfl)
theorem dX8_copy_163 : decode cX8_copy 163 = .ok (.iload 6, 2) := dk_21 6 (dk_at dksX8_copy_7 3 rfl rfl)
theorem dX8_copy_165 : decode cX8_copy 165 = .ok (.iaload, 1) := dk_46 (dk_at dksX8_copy_7 5 rfl rfl)
theorem dX8_copy_166 : decode cX8_copy 166 = .ok (.iastore, 1) := dk_79 (dk_at dksX8_copy_7 6 rfl rfl)
theorem dX8_copy_167 : decode cX8_copy 167 = .ok (.iinc 6 1, 3) := dk_132 6 1 (dk_at dksX8_copy_7 7 rfl rfl)
theorem dX8_copy_170 : decode cX8_copy 170 = .ok (.goto (-32), 3) := dk_167 255 224 (dk_at dksX8_copy_7 10 rfl rfl)
theorem dX8_copy_173 : decode cX8_copy 173 = .ok (.iload 5, 2) := dk_21 5 (dk_at dksX8_copy_7 13 rfl rfl)
theorem dX8_copy_175 : decode cX8_copy 175 = .ok (.ireturn, 1) := dk_172 (dk_at dksX8_copy_7 15 rfl rfl)
theorem q55 : (Jvm.Cond.initialized "DebtCoatsModel") ∈ lw_all := lw_g (lw_at lw_m1 11 rfl) rfl
theorem q759 : (Jvm.Cond.instantiable "DebtCoatsModel" (28 : Nat)) ∈ lw_all := lw_g (lw_at lw_m3 235 rfl) rfl
theorem q761 : (Jvm.Cond.instanceMethod ({ cls := "DebtCoatsModel", name := "<init>", desc := "()V" } : Jvm.MethodName)) ∈ lw_all := lw_g (lw_at lw_m3 237 rfl) rfl
theorem q762 : (Jvm.Cond.code ({ cls := "DebtCoatsModel", name := "<init>", desc := "()V" } : Jvm.MethodName) prog_10_method_3_code (2 : Nat) (Option.none : Option Jvm.ClassFile.FieldType)) ∈ lw_all := lw_g (lw_at lw_m3 238 rfl) rfl
theorem q763 : (Jvm.Cond.methodLink "DebtCoatsModel" (1 : Nat) ({ cls := "java/lang/Object", name := "<init>", desc := "()V" } : Jvm.MethodName)) ∈ lw_all := lw_g (lw_at lw_m3 239 rfl) rfl
theorem q764 : (Jvm.Cond.fieldLink "DebtCoatsModel" (64 : Nat) "DebtCoatsModel" "people" "I") ∈ lw_all := lw_g (lw_at lw_m4 0 rfl) rfl
theorem q765 : (Jvm.Cond.fieldLink "DebtCoatsModel" (7 : Nat) "DebtCoatsModel" "now" "[I") ∈ lw_all := lw_g (lw_at lw_m4 1 rfl) rfl
theorem q766 : (Jvm.Cond.fieldLink "DebtCoatsModel" (13 : Nat) "DebtCoatsModel" "tried" "[I") ∈ lw_all := lw_g (lw_at lw_m4 2 rfl) rfl
theorem q767 : (Jvm.Cond.fieldLink "DebtCoatsModel" (16 : Nat) "DebtCoatsModel" "state" "[I") ∈ lw_all := lw_g (lw_at lw_m4 3 rfl) rfl
theorem q768 : (Jvm.Cond.fieldLink "DebtCoatsModel" (19 : Nat) "DebtCoatsModel" "taxes" "[I") ∈ lw_all := lw_g (lw_at lw_m4 4 rfl) rfl
theorem q769 : (Jvm.Cond.fieldLink "DebtCoatsModel" (22 : Nat) "DebtCoatsModel" "heats" "[I") ∈ lw_all := lw_g (lw_at lw_m4 5 rfl) rfl
theorem q770 : (Jvm.Cond.fieldLink "DebtCoatsModel" (25 : Nat) "DebtCoatsModel" "laws" "[I") ∈ lw_all := lw_g (lw_at lw_m4 6 rfl) rfl
theorem q771 : (Jvm.Cond.fieldLink "DebtCoatsModel" (145 : Nat) "DebtCoatsModel" "day" "I") ∈ lw_all := lw_g (lw_at lw_m4 7 rfl) rfl
theorem q772 : (Jvm.Cond.fieldLink "DebtCoatsModel" (148 : Nat) "DebtCoatsModel" "cuts" "I") ∈ lw_all := lw_g (lw_at lw_m4 8 rfl) rfl
theorem q773 : (Jvm.Cond.fieldLink "DebtCoatsModel" (151 : Nat) "DebtCoatsModel" "wares" "I") ∈ lw_all := lw_g (lw_at lw_m4 9 rfl) rfl
theorem q774 : (Jvm.Cond.fieldLink "DebtCoatsModel" (28 : Nat) "DebtCoatsModel" "wareAmount" "[I") ∈ lw_all := lw_g (lw_at lw_m4 10 rfl) rfl
theorem q775 : (Jvm.Cond.fieldLink "DebtCoatsModel" (31 : Nat) "DebtCoatsModel" "wareThick" "[I") ∈ lw_all := lw_g (lw_at lw_m4 11 rfl) rfl
theorem q776 : (Jvm.Cond.fieldLink "DebtCoatsModel" (34 : Nat) "DebtCoatsModel" "tape" "[I") ∈ lw_all := lw_g (lw_at lw_m4 12 rfl) rfl
theorem q777 : (Jvm.Cond.fieldLink "DebtCoatsModel" (116 : Nat) "DebtCoatsModel" "taped" "I") ∈ lw_all := lw_g (lw_at lw_m4 13 rfl) rfl
theorem q778 : (Jvm.Cond.fieldLink "DebtCoatsModel" (119 : Nat) "DebtCoatsModel" "at" "I") ∈ lw_all := lw_g (lw_at lw_m4 14 rfl) rfl
theorem q779 : (Jvm.Cond.fieldLink "DebtCoatsModel" (122 : Nat) "DebtCoatsModel" "wrong" "Z") ∈ lw_all := lw_g (lw_at lw_m4 15 rfl) rfl
theorem q780 : (Jvm.Cond.fieldLink "DebtCoatsModel" (37 : Nat) "DebtCoatsModel" "read" "[I") ∈ lw_all := lw_g (lw_at lw_m4 16 rfl) rfl
theorem q781 : (Jvm.Cond.fieldLink "DebtCoatsModel" (40 : Nat) "DebtCoatsModel" "order" "[I") ∈ lw_all := lw_g (lw_at lw_m4 17 rfl) rfl
theorem q782 : (Jvm.Cond.fieldLink "DebtCoatsModel" (43 : Nat) "DebtCoatsModel" "bestOrder" "[I") ∈ lw_all := lw_g (lw_at lw_m4 18 rfl) rfl
theorem q783 : (Jvm.Cond.fieldLink "DebtCoatsModel" (192 : Nat) "DebtCoatsModel" "paid" "I") ∈ lw_all := lw_g (lw_at lw_m4 19 rfl) rfl
theorem q784 : (Jvm.Cond.fieldLink "DebtCoatsModel" (201 : Nat) "DebtCoatsModel" "bestPaid" "I") ∈ lw_all := lw_g (lw_at lw_m4 20 rfl) rfl
theorem q785 : (Jvm.Cond.fieldLink "DebtCoatsModel" (46 : Nat) "DebtCoatsModel" "start" "[I") ∈ lw_all := lw_g (lw_at lw_m4 21 rfl) rfl
theorem q786 : (Jvm.Cond.fieldLink "DebtCoatsModel" (49 : Nat) "DebtCoatsModel" "image" "[I") ∈ lw_all := lw_g (lw_at lw_m4 22 rfl) rfl
theorem q787 : (Jvm.Cond.fieldLink "DebtCoatsModel" (221 : Nat) "DebtCoatsModel" "isImage" "Z") ∈ lw_all := lw_g (lw_at lw_m4 23 rfl) rfl
theorem q788 : (Jvm.Cond.fieldLink "DebtCoatsModel" (52 : Nat) "DebtCoatsModel" "lanes" "[I") ∈ lw_all := lw_g (lw_at lw_m4 24 rfl) rfl
theorem q789 : (Jvm.Cond.fieldLink "DebtCoatsModel" (55 : Nat) "DebtCoatsModel" "sizes" "[I") ∈ lw_all := lw_g (lw_at lw_m4 25 rfl) rfl
theorem q790 : (Jvm.Cond.fieldLink "DebtCoatsModel" (58 : Nat) "DebtCoatsModel" "items" "[I") ∈ lw_all := lw_g (lw_at lw_m4 26 rfl) rfl
theorem q791 : (Jvm.Cond.fieldLink "DebtCoatsModel" (61 : Nat) "DebtCoatsModel" "moved" "[I") ∈ lw_all := lw_g (lw_at lw_m4 27 rfl) rfl
theorem q792 : (Jvm.Cond.lays "DebtCoatsModel" "DebtCoatsModel" "people" "I") ∈ lw_all := lw_g (lw_at lw_m4 28 rfl) rfl
theorem q793 : (Jvm.Cond.soleField "DebtCoatsModel" "people") ∈ lw_all := lw_g (lw_at lw_m4 29 rfl) rfl
theorem q794 : (Jvm.Cond.laysFinal "DebtCoatsModel" "DebtCoatsModel" "now" "[I") ∈ lw_all := lw_g (lw_at lw_m4 30 rfl) rfl
theorem q795 : (Jvm.Cond.soleField "DebtCoatsModel" "now") ∈ lw_all := lw_g (lw_at lw_m4 31 rfl) rfl
theorem q796 : (Jvm.Cond.laysFinal "DebtCoatsModel" "DebtCoatsModel" "tried" "[I") ∈ lw_all := lw_g (lw_at lw_m4 32 rfl) rfl
theorem q797 : (Jvm.Cond.soleField "DebtCoatsModel" "tried") ∈ lw_all := lw_g (lw_at lw_m4 33 rfl) rfl
theorem q798 : (Jvm.Cond.lays "DebtCoatsModel" "DebtCoatsModel" "state" "[I") ∈ lw_all := lw_g (lw_at lw_m4 34 rfl) rfl
theorem q799 : (Jvm.Cond.soleField "DebtCoatsModel" "state") ∈ lw_all := lw_g (lw_at lw_m4 35 rfl) rfl
theorem q800 : (Jvm.Cond.laysFinal "DebtCoatsModel" "DebtCoatsModel" "taxes" "[I") ∈ lw_all := lw_g (lw_at lw_m4 36 rfl) rfl
theorem q801 : (Jvm.Cond.soleField "DebtCoatsModel" "taxes") ∈ lw_all := lw_g (lw_at lw_m4 37 rfl) rfl
theorem q802 : (Jvm.Cond.laysFinal "DebtCoatsModel" "DebtCoatsModel" "heats" "[I") ∈ lw_all := lw_g (lw_at lw_m4 38 rfl) rfl
theorem q803 : (Jvm.Cond.soleField "DebtCoatsModel" "heats") ∈ lw_all := lw_g (lw_at lw_m4 39 rfl) rfl
theorem q804 : (Jvm.Cond.laysFinal "DebtCoatsModel" "DebtCoatsModel" "laws" "[I") ∈ lw_all := lw_g (lw_at lw_m4 40 rfl) rfl
theorem q805 : (Jvm.Cond.soleField "DebtCoatsModel" "laws") ∈ lw_all := lw_g (lw_at lw_m4 41 rfl) rfl
theorem q806 : (Jvm.Cond.lays "DebtCoatsModel" "DebtCoatsModel" "day" "I") ∈ lw_all := lw_g (lw_at lw_m4 42 rfl) rfl
theorem q807 : (Jvm.Cond.soleField "DebtCoatsModel" "day") ∈ lw_all := lw_g (lw_at lw_m4 43 rfl) rfl
theorem q808 : (Jvm.Cond.lays "DebtCoatsModel" "DebtCoatsModel" "cuts" "I") ∈ lw_all := lw_g (lw_at lw_m4 44 rfl) rfl
theorem q809 : (Jvm.Cond.soleField "DebtCoatsModel" "cuts") ∈ lw_all := lw_g (lw_at lw_m4 45 rfl) rfl
theorem q810 : (Jvm.Cond.lays "DebtCoatsModel" "DebtCoatsModel" "wares" "I") ∈ lw_all := lw_g (lw_at lw_m4 46 rfl) rfl
theorem q811 : (Jvm.Cond.soleField "DebtCoatsModel" "wares") ∈ lw_all := lw_g (lw_at lw_m4 47 rfl) rfl
theorem q812 : (Jvm.Cond.laysFinal "DebtCoatsModel" "DebtCoatsModel" "wareAmount" "[I") ∈ lw_all := lw_g (lw_at lw_m4 48 rfl) rfl
theorem q813 : (Jvm.Cond.soleField "DebtCoatsModel" "wareAmount") ∈ lw_all := lw_g (lw_at lw_m4 49 rfl) rfl
theorem q814 : (Jvm.Cond.laysFinal "DebtCoatsModel" "DebtCoatsModel" "wareThick" "[I") ∈ lw_all := lw_g (lw_at lw_m4 50 rfl) rfl
theorem q815 : (Jvm.Cond.soleField "DebtCoatsModel" "wareThick") ∈ lw_all := lw_g (lw_at lw_m4 51 rfl) rfl
theorem q816 : (Jvm.Cond.laysFinal "DebtCoatsModel" "DebtCoatsModel" "tape" "[I") ∈ lw_all := lw_g (lw_at lw_m4 52 rfl) rfl
theorem q817 : (Jvm.Cond.soleField "DebtCoatsModel" "tape") ∈ lw_all := lw_g (lw_at lw_m4 53 rfl) rfl
theorem q818 : (Jvm.Cond.lays "DebtCoatsModel" "DebtCoatsModel" "taped" "I") ∈ lw_all := lw_g (lw_at lw_m4 54 rfl) rfl
theorem q819 : (Jvm.Cond.soleField "DebtCoatsModel" "taped") ∈ lw_all := lw_g (lw_at lw_m4 55 rfl) rfl
theorem q820 : (Jvm.Cond.lays "DebtCoatsModel" "DebtCoatsModel" "at" "I") ∈ lw_all := lw_g (lw_at lw_m4 56 rfl) rfl
theorem q821 : (Jvm.Cond.soleField "DebtCoatsModel" "at") ∈ lw_all := lw_g (lw_at lw_m4 57 rfl) rfl
theorem q822 : (Jvm.Cond.lays "DebtCoatsModel" "DebtCoatsModel" "wrong" "Z") ∈ lw_all := lw_g (lw_at lw_m4 58 rfl) rfl
theorem q823 : (Jvm.Cond.soleField "DebtCoatsModel" "wrong") ∈ lw_all := lw_g (lw_at lw_m4 59 rfl) rfl
theorem q824 : (Jvm.Cond.laysFinal "DebtCoatsModel" "DebtCoatsModel" "read" "[I") ∈ lw_all := lw_g (lw_at lw_m4 60 rfl) rfl
theorem q825 : (Jvm.Cond.soleField "DebtCoatsModel" "read") ∈ lw_all := lw_g (lw_at lw_m4 61 rfl) rfl
theorem q826 : (Jvm.Cond.laysFinal "DebtCoatsModel" "DebtCoatsModel" "order" "[I") ∈ lw_all := lw_g (lw_at lw_m4 62 rfl) rfl
theorem q827 : (Jvm.Cond.soleField "DebtCoatsModel" "order") ∈ lw_all := lw_g (lw_at lw_m4 63 rfl) rfl
theorem q828 : (Jvm.Cond.laysFinal "DebtCoatsModel" "DebtCoatsModel" "bestOrder" "[I") ∈ lw_all := lw_g (lw_at lw_m4 64 rfl) rfl
theorem q829 : (Jvm.Cond.soleField "DebtCoatsModel" "bestOrder") ∈ lw_all := lw_g (lw_at lw_m4 65 rfl) rfl
theorem q830 : (Jvm.Cond.lays "DebtCoatsModel" "DebtCoatsModel" "paid" "I") ∈ lw_all := lw_g (lw_at lw_m4 66 rfl) rfl
theorem q831 : (Jvm.Cond.soleField "DebtCoatsModel" "paid") ∈ lw_all := lw_g (lw_at lw_m4 67 rfl) rfl
theorem q832 : (Jvm.Cond.lays "DebtCoatsModel" "DebtCoatsModel" "bestPaid" "I") ∈ lw_all := lw_g (lw_at lw_m4 68 rfl) rfl
theorem q833 : (Jvm.Cond.soleField "DebtCoatsModel" "bestPaid") ∈ lw_all := lw_g (lw_at lw_m4 69 rfl) rfl
theorem q834 : (Jvm.Cond.laysFinal "DebtCoatsModel" "DebtCoatsModel" "start" "[I") ∈ lw_all := lw_g (lw_at lw_m4 70 rfl) rfl
theorem q835 : (Jvm.Cond.soleField "DebtCoatsModel" "start") ∈ lw_all := lw_g (lw_at lw_m4 71 rfl) rfl
theorem q836 : (Jvm.Cond.laysFinal "DebtCoatsModel" "DebtCoatsModel" "image" "[I") ∈ lw_all := lw_g (lw_at lw_m4 72 rfl) rfl
theorem q837 : (Jvm.Cond.soleField "DebtCoatsModel" "image") ∈ lw_all := lw_g (lw_at lw_m4 73 rfl) rfl
theorem q838 : (Jvm.Cond.lays "DebtCoatsModel" "DebtCoatsModel" "isImage" "Z") ∈ lw_all := lw_g (lw_at lw_m4 74 rfl) rfl
theorem q839 : (Jvm.Cond.soleField "DebtCoatsModel" "isImage") ∈ lw_all := lw_g (lw_at lw_m4 75 rfl) rfl
theorem q840 : (Jvm.Cond.laysFinal "DebtCoatsModel" "DebtCoatsModel" "lanes" "[I") ∈ lw_all := lw_g (lw_at lw_m4 76 rfl) rfl
theorem q841 : (Jvm.Cond.soleField "DebtCoatsModel" "lanes") ∈ lw_all := lw_g (lw_at lw_m4 77 rfl) rfl
theorem q842 : (Jvm.Cond.laysFinal "DebtCoatsModel" "DebtCoatsModel" "sizes" "[I") ∈ lw_all := lw_g (lw_at lw_m4 78 rfl) rfl
theorem q843 : (Jvm.Cond.soleField "DebtCoatsModel" "sizes") ∈ lw_all := lw_g (lw_at lw_m4 79 rfl) rfl
theorem q844 : (Jvm.Cond.laysFinal "DebtCoatsModel" "DebtCoatsModel" "items" "[I") ∈ lw_all := lw_g (lw_at lw_m4 80 rfl) rfl
theorem q845 : (Jvm.Cond.soleField "DebtCoatsModel" "items") ∈ lw_all := lw_g (lw_at lw_m4 81 rfl) rfl
theorem q846 : (Jvm.Cond.laysFinal "DebtCoatsModel" "DebtCoatsModel" "moved" "[I") ∈ lw_all := lw_g (lw_at lw_m4 82 rfl) rfl
theorem q847 : (Jvm.Cond.soleField "DebtCoatsModel" "moved") ∈ lw_all := lw_g (lw_at lw_m4 83 rfl) rfl
theorem q848 : (Jvm.Cond.superclass "DebtCoatsModel" "java/lang/Object") ∈ lw_all := lw_g (lw_at lw_m4 84 rfl) rfl
theorem q850 : (Jvm.Cond.instanceMethod ({ cls := "DebtCoatsModel", name := "person", desc := "(III)I" } : Jvm.MethodName)) ∈ lw_all := lw_g (lw_at lw_m4 86 rfl) rfl
theorem q851 : (Jvm.Cond.selects "DebtCoatsModel" ({ cls := "DebtCoatsModel", name := "person", desc := "(III)I" } : Jvm.MethodName) ({ cls := "DebtCoatsModel", name := "person", desc := "(III)I" } : Jvm.MethodName)) ∈ lw_all := lw_g (lw_at lw_m4 87 rfl) rfl
theorem q852 : (Jvm.Cond.code ({ cls := "DebtCoatsModel", name := "person", desc := "(III)I" } : Jvm.MethodName) prog_10_method_6_code (5 : Nat) (Option.some Jvm.ClassFile.FieldType.int)) ∈ lw_all := lw_g (lw_at lw_m4 88 rfl) rfl
theorem q853 : (Jvm.Cond.constantLong "DebtCoatsModel" (74 : Nat) (9999 : Int64)) ∈ lw_all := lw_g (lw_at lw_m4 89 rfl) rfl
theorem q854 : (Jvm.Cond.methodLink "DebtCoatsModel" (68 : Nat) ({ cls := "DebtCoatsModel", name := "in", desc := "(JJJ)Z" } : Jvm.MethodName)) ∈ lw_all := lw_g (lw_at lw_m4 90 rfl) rfl
theorem q855 : (Jvm.Cond.static ({ cls := "DebtCoatsModel", name := "in", desc := "(JJJ)Z" } : Jvm.MethodName)) ∈ lw_all := lw_g (lw_at lw_m4 91 rfl) rfl
theorem q856 : (Jvm.Cond.code ({ cls := "DebtCoatsModel", name := "in", desc := "(JJJ)Z" } : Jvm.MethodName) prog_10_method_2_code (6 : Nat) (Option.some Jvm.ClassFile.FieldType.boolean)) ∈ lw_all := lw_g (lw_at lw_m4 92 rfl) rfl
theorem q857 : (Jvm.Cond.constantLong "DebtCoatsModel" (76 : Nat) (99 : Int64)) ∈ lw_all := lw_g (lw_at lw_m4 93 rfl) rfl
theorem q858 : (Jvm.Cond.constantLong "DebtCoatsModel" (78 : Nat) (60 : Int64)) ∈ lw_all := lw_g (lw_at lw_m4 94 rfl) rfl
theorem q860 : (Jvm.Cond.instanceMethod ({ cls := "DebtCoatsModel", name := "of", desc := "(II)I" } : Jvm.MethodName)) ∈ lw_all := lw_g (lw_at lw_m4 96 rfl) rfl
theorem q861 : (Jvm.Cond.selects "DebtCoatsModel" ({ cls := "DebtCoatsModel", name := "of", desc := "(II)I" } : Jvm.MethodName) ({ cls := "DebtCoatsModel", name := "of", desc := "(II)I" } : Jvm.MethodName)) ∈ lw_all := lw_g (lw_at lw_m4 97 rfl) rfl
theorem q862 : (Jvm.Cond.code ({ cls := "DebtCoatsModel", name := "of", desc := "(II)I" } : Jvm.MethodName) prog_10_method_8_code (5 : Nat) (Option.some Jvm.ClassFile.FieldType.int)) ∈ lw_all := lw_g (lw_at lw_m4 98 rfl) rfl
theorem q863 : (Jvm.Cond.methodLink "DebtCoatsModel" (80 : Nat) ({ cls := "DebtCoatsModel", name := "isOne", desc := "(I)Z" } : Jvm.MethodName)) ∈ lw_all := lw_g (lw_at lw_m4 99 rfl) rfl
theorem q864 : (Jvm.Cond.privateMethod ({ cls := "DebtCoatsModel", name := "isOne", desc := "(I)Z" } : Jvm.MethodName)) ∈ lw_tbl := lw_at lw_m4 100 rfl
theorem q865 : (Jvm.Cond.instanceMethod ({ cls := "DebtCoatsModel", name := "isOne", desc := "(I)Z" } : Jvm.MethodName)) ∈ lw_all := lw_g (lw_at lw_m4 101 rfl) rfl
theorem q866 : (Jvm.Cond.code ({ cls := "DebtCoatsModel", name := "isOne", desc := "(I)Z" } : Jvm.MethodName) prog_10_method_4_code (2 : Nat) (Option.some Jvm.ClassFile.FieldType.boolean)) ∈ lw_all := lw_g (lw_at lw_m4 102 rfl) rfl
theorem q867 : (Jvm.Cond.constantLong "DebtCoatsModel" (84 : Nat) (6 : Int64)) ∈ lw_all := lw_g (lw_at lw_m4 103 rfl) rfl
theorem q868 : (Jvm.Cond.methodLink "DebtCoatsModel" (86 : Nat) ({ cls := "DebtCoatsModel", name := "thickOf", desc := "(I)I" } : Jvm.MethodName)) ∈ lw_all := lw_g (lw_at lw_m4 104 rfl) rfl
theorem q869 : (Jvm.Cond.privateMethod ({ cls := "DebtCoatsModel", name := "thickOf", desc := "(I)I" } : Jvm.MethodName)) ∈ lw_tbl := lw_at lw_m4 105 rfl
theorem q870 : (Jvm.Cond.instanceMethod ({ cls := "DebtCoatsModel", name := "thickOf", desc := "(I)I" } : Jvm.MethodName)) ∈ lw_all := lw_g (lw_at lw_m4 106 rfl) rfl
theorem q871 : (Jvm.Cond.code ({ cls := "DebtCoatsModel", name := "thickOf", desc := "(I)I" } : Jvm.MethodName) prog_10_method_7_code (4 : Nat) (Option.some Jvm.ClassFile.FieldType.int)) ∈ lw_all := lw_g (lw_at lw_m4 107 rfl) rfl
theorem q872 : (Jvm.Cond.constant "DebtCoatsModel" (90 : Nat) (9999999 : Int32)) ∈ lw_all := lw_g (lw_at lw_m4 108 rfl) rfl
theorem q874 : (Jvm.Cond.instanceMethod ({ cls := "DebtCoatsModel", name := "coat", desc := "(III)I" } : Jvm.MethodName)) ∈ lw_all := lw_g (lw_at lw_m4 110 rfl) rfl
theorem q875 : (Jvm.Cond.selects "DebtCoatsModel" ({ cls := "DebtCoatsModel", name := "coat", desc := "(III)I" } : Jvm.MethodName) ({ cls := "DebtCoatsModel", name := "coat", desc := "(III)I" } : Jvm.MethodName)) ∈ lw_all := lw_g (lw_at lw_m4 111 rfl) rfl
theorem q876 : (Jvm.Cond.code ({ cls := "DebtCoatsModel", name := "coat", desc := "(III)I" } : Jvm.MethodName) prog_10_method_10_code (4 : Nat) (Option.some Jvm.ClassFile.FieldType.int)) ∈ lw_all := lw_g (lw_at lw_m4 112 rfl) rfl
theorem q877 : (Jvm.Cond.methodLink "DebtCoatsModel" (91 : Nat) ({ cls := "DebtCoatsModel", name := "isCoat", desc := "(II)Z" } : Jvm.MethodName)) ∈ lw_all := lw_g (lw_at lw_m4 113 rfl) rfl
theorem q878 : (Jvm.Cond.privateMethod ({ cls := "DebtCoatsModel", name := "isCoat", desc := "(II)Z" } : Jvm.MethodName)) ∈ lw_tbl := lw_at lw_m4 114 rfl
theorem q879 : (Jvm.Cond.instanceMethod ({ cls := "DebtCoatsModel", name := "isCoat", desc := "(II)Z" } : Jvm.MethodName)) ∈ lw_all := lw_g (lw_at lw_m4 115 rfl) rfl
theorem q880 : (Jvm.Cond.code ({ cls := "DebtCoatsModel", name := "isCoat", desc := "(II)Z" } : Jvm.MethodName) prog_10_method_9_code (3 : Nat) (Option.some Jvm.ClassFile.FieldType.boolean)) ∈ lw_all := lw_g (lw_at lw_m4 116 rfl) rfl
theorem q881 : (Jvm.Cond.constantLong "DebtCoatsModel" (95 : Nat) (3 : Int64)) ∈ lw_all := lw_g (lw_at lw_m4 117 rfl) rfl
theorem q883 : (Jvm.Cond.instanceMethod ({ cls := "DebtCoatsModel", name := "tax", desc := "(III)I" } : Jvm.MethodName)) ∈ lw_all := lw_g (lw_at lw_m4 119 rfl) rfl
theorem q884 : (Jvm.Cond.selects "DebtCoatsModel" ({ cls := "DebtCoatsModel", name := "tax", desc := "(III)I" } : Jvm.MethodName) ({ cls := "DebtCoatsModel", name := "tax", desc := "(III)I" } : Jvm.MethodName)) ∈ lw_all := lw_g (lw_at lw_m4 120 rfl) rfl
theorem q885 : (Jvm.Cond.code ({ cls := "DebtCoatsModel", name := "tax", desc := "(III)I" } : Jvm.MethodName) prog_10_method_11_code (5 : Nat) (Option.some Jvm.ClassFile.FieldType.int)) ∈ lw_all := lw_g (lw_at lw_m4 121 rfl) rfl
theorem q886 : (Jvm.Cond.methodLink "DebtCoatsModel" (97 : Nat) ({ cls := "DebtCoatsModel", name := "isLender", desc := "(I)Z" } : Jvm.MethodName)) ∈ lw_all := lw_g (lw_at lw_m4 122 rfl) rfl
theorem q887 : (Jvm.Cond.static ({ cls := "DebtCoatsModel", name := "isLender", desc := "(I)Z" } : Jvm.MethodName)) ∈ lw_all := lw_g (lw_at lw_m4 123 rfl) rfl
theorem q888 : (Jvm.Cond.code ({ cls := "DebtCoatsModel", name := "isLender", desc := "(I)Z" } : Jvm.MethodName) prog_10_method_5_code (1 : Nat) (Option.some Jvm.ClassFile.FieldType.boolean)) ∈ lw_all := lw_g (lw_at lw_m4 124 rfl) rfl
theorem q889 : (Jvm.Cond.constantLong "DebtCoatsModel" (72 : Nat) (4 : Int64)) ∈ lw_all := lw_g (lw_at lw_m4 125 rfl) rfl
theorem q890 : (Jvm.Cond.constantLong "DebtCoatsModel" (100 : Nat) (9 : Int64)) ∈ lw_all := lw_g (lw_at lw_m4 126 rfl) rfl
theorem q892 : (Jvm.Cond.instanceMethod ({ cls := "DebtCoatsModel", name := "heat", desc := "(II)I" } : Jvm.MethodName)) ∈ lw_all := lw_g (lw_at lw_m4 128 rfl) rfl
theorem q893 : (Jvm.Cond.selects "DebtCoatsModel" ({ cls := "DebtCoatsModel", name := "heat", desc := "(II)I" } : Jvm.MethodName) ({ cls := "DebtCoatsModel", name := "heat", desc := "(II)I" } : Jvm.MethodName)) ∈ lw_all := lw_g (lw_at lw_m4 129 rfl) rfl
theorem q894 : (Jvm.Cond.code ({ cls := "DebtCoatsModel", name := "heat", desc := "(II)I" } : Jvm.MethodName) prog_10_method_12_code (4 : Nat) (Option.some Jvm.ClassFile.FieldType.int)) ∈ lw_all := lw_g (lw_at lw_m4 130 rfl) rfl
theorem q895 : (Jvm.Cond.constantLong "DebtCoatsModel" (102 : Nat) (11 : Int64)) ∈ lw_all := lw_g (lw_at lw_m4 131 rfl) rfl
theorem q896 : (Jvm.Cond.constantLong "DebtCoatsModel" (104 : Nat) (40 : Int64)) ∈ lw_all := lw_g (lw_at lw_m4 132 rfl) rfl
theorem q898 : (Jvm.Cond.instanceMethod ({ cls := "DebtCoatsModel", name := "rule", desc := "(II)I" } : Jvm.MethodName)) ∈ lw_all := lw_g (lw_at lw_m4 134 rfl) rfl
theorem q899 : (Jvm.Cond.selects "DebtCoatsModel" ({ cls := "DebtCoatsModel", name := "rule", desc := "(II)I" } : Jvm.MethodName) ({ cls := "DebtCoatsModel", name := "rule", desc := "(II)I" } : Jvm.MethodName)) ∈ lw_all := lw_g (lw_at lw_m4 135 rfl) rfl
theorem q900 : (Jvm.Cond.code ({ cls := "DebtCoatsModel", name := "rule", desc := "(II)I" } : Jvm.MethodName) prog_10_method_13_code (4 : Nat) (Option.some Jvm.ClassFile.FieldType.int)) ∈ lw_all := lw_g (lw_at lw_m4 136 rfl) rfl
theorem q901 : (Jvm.Cond.constantLong "DebtCoatsModel" (106 : Nat) (2 : Int64)) ∈ lw_all := lw_g (lw_at lw_m4 137 rfl) rfl
theorem q903 : (Jvm.Cond.instanceMethod ({ cls := "DebtCoatsModel", name := "type", desc := "(JI)I" } : Jvm.MethodName)) ∈ lw_all := lw_g (lw_at lw_m4 139 rfl) rfl
theorem q904 : (Jvm.Cond.selects "DebtCoatsModel" ({ cls := "DebtCoatsModel", name := "type", desc := "(JI)I" } : Jvm.MethodName) ({ cls := "DebtCoatsModel", name := "type", desc := "(JI)I" } : Jvm.MethodName)) ∈ lw_all := lw_g (lw_at lw_m4 140 rfl) rfl
theorem q905 : (Jvm.Cond.code ({ cls := "DebtCoatsModel", name := "type", desc := "(JI)I" } : Jvm.MethodName) prog_10_method_14_code (5 : Nat) (Option.some Jvm.ClassFile.FieldType.int)) ∈ lw_all := lw_g (lw_at lw_m4 141 rfl) rfl
theorem q906 : (Jvm.Cond.constantLong "DebtCoatsModel" (108 : Nat) (8 : Int64)) ∈ lw_all := lw_g (lw_at lw_m4 142 rfl) rfl
theorem q907 : (Jvm.Cond.constantLong "DebtCoatsModel" (110 : Nat) (255 : Int64)) ∈ lw_all := lw_g (lw_at lw_m4 143 rfl) rfl
theorem q908 : (Jvm.Cond.constantLong "DebtCoatsModel" (112 : Nat) (32 : Int64)) ∈ lw_all := lw_g (lw_at lw_m4 144 rfl) rfl
theorem q909 : (Jvm.Cond.constantLong "DebtCoatsModel" (114 : Nat) (126 : Int64)) ∈ lw_all := lw_g (lw_at lw_m4 145 rfl) rfl
theorem q911 : (Jvm.Cond.instanceMethod ({ cls := "DebtCoatsModel", name := "coats", desc := "(I)I" } : Jvm.MethodName)) ∈ lw_all := lw_g (lw_at lw_m4 147 rfl) rfl
theorem q912 : (Jvm.Cond.selects "DebtCoatsModel" ({ cls := "DebtCoatsModel", name := "coats", desc := "(I)I" } : Jvm.MethodName) ({ cls := "DebtCoatsModel", name := "coats", desc := "(I)I" } : Jvm.MethodName)) ∈ lw_all := lw_g (lw_at lw_m4 148 rfl) rfl
theorem q913 : (Jvm.Cond.code ({ cls := "DebtCoatsModel", name := "coats", desc := "(I)I" } : Jvm.MethodName) prog_10_method_19_code (5 : Nat) (Option.some Jvm.ClassFile.FieldType.int)) ∈ lw_all := lw_g (lw_at lw_m4 149 rfl) rfl
theorem q914 : (Jvm.Cond.methodLink "DebtCoatsModel" (135 : Nat) ({ cls := "DebtCoatsModel", name := "byteOf", desc := "(II)I" } : Jvm.MethodName)) ∈ lw_all := lw_g (lw_at lw_m4 150 rfl) rfl
theorem q915 : (Jvm.Cond.privateMethod ({ cls := "DebtCoatsModel", name := "byteOf", desc := "(II)I" } : Jvm.MethodName)) ∈ lw_tbl := lw_at lw_m4 151 rfl
theorem q916 : (Jvm.Cond.instanceMethod ({ cls := "DebtCoatsModel", name := "byteOf", desc := "(II)I" } : Jvm.MethodName)) ∈ lw_all := lw_g (lw_at lw_m4 152 rfl) rfl
theorem q917 : (Jvm.Cond.code ({ cls := "DebtCoatsModel", name := "byteOf", desc := "(II)I" } : Jvm.MethodName) prog_10_method_17_code (4 : Nat) (Option.some Jvm.ClassFile.FieldType.int)) ∈ lw_all := lw_g (lw_at lw_m4 153 rfl) rfl
theorem q918 : (Jvm.Cond.methodLink "DebtCoatsModel" (126 : Nat) ({ cls := "DebtCoatsModel", name := "here", desc := "()I" } : Jvm.MethodName)) ∈ lw_all := lw_g (lw_at lw_m4 154 rfl) rfl
theorem q919 : (Jvm.Cond.privateMethod ({ cls := "DebtCoatsModel", name := "here", desc := "()I" } : Jvm.MethodName)) ∈ lw_tbl := lw_at lw_m4 155 rfl
theorem q920 : (Jvm.Cond.instanceMethod ({ cls := "DebtCoatsModel", name := "here", desc := "()I" } : Jvm.MethodName)) ∈ lw_all := lw_g (lw_at lw_m4 156 rfl) rfl
theorem q921 : (Jvm.Cond.code ({ cls := "DebtCoatsModel", name := "here", desc := "()I" } : Jvm.MethodName) prog_10_method_15_code (1 : Nat) (Option.some Jvm.ClassFile.FieldType.int)) ∈ lw_all := lw_g (lw_at lw_m4 157 rfl) rfl
theorem q922 : (Jvm.Cond.methodLink "DebtCoatsModel" (139 : Nat) ({ cls := "DebtCoatsModel", name := "number", desc := "(II)I" } : Jvm.MethodName)) ∈ lw_all := lw_g (lw_at lw_m4 158 rfl) rfl
theorem q923 : (Jvm.Cond.privateMethod ({ cls := "DebtCoatsModel", name := "number", desc := "(II)I" } : Jvm.MethodName)) ∈ lw_tbl := lw_at lw_m4 159 rfl
theorem q924 : (Jvm.Cond.instanceMethod ({ cls := "DebtCoatsModel", name := "number", desc := "(II)I" } : Jvm.MethodName)) ∈ lw_all := lw_g (lw_at lw_m4 160 rfl) rfl
theorem q925 : (Jvm.Cond.code ({ cls := "DebtCoatsModel", name := "number", desc := "(II)I" } : Jvm.MethodName) prog_10_method_18_code (5 : Nat) (Option.some Jvm.ClassFile.FieldType.int)) ∈ lw_all := lw_g (lw_at lw_m4 161 rfl) rfl
theorem q926 : (Jvm.Cond.constantLong "DebtCoatsModel" (130 : Nat) (48 : Int64)) ∈ lw_all := lw_g (lw_at lw_m4 162 rfl) rfl
theorem q927 : (Jvm.Cond.constantLong "DebtCoatsModel" (132 : Nat) (57 : Int64)) ∈ lw_all := lw_g (lw_at lw_m4 163 rfl) rfl
theorem q928 : (Jvm.Cond.constant "DebtCoatsModel" (134 : Nat) (99999 : Int32)) ∈ lw_all := lw_g (lw_at lw_m4 164 rfl) rfl
theorem q929 : (Jvm.Cond.methodLink "DebtCoatsModel" (142 : Nat) ({ cls := "DebtCoatsModel", name := "has", desc := "(I)Z" } : Jvm.MethodName)) ∈ lw_all := lw_g (lw_at lw_m4 165 rfl) rfl
theorem q930 : (Jvm.Cond.privateMethod ({ cls := "DebtCoatsModel", name := "has", desc := "(I)Z" } : Jvm.MethodName)) ∈ lw_tbl := lw_at lw_m4 166 rfl
theorem q931 : (Jvm.Cond.instanceMethod ({ cls := "DebtCoatsModel", name := "has", desc := "(I)Z" } : Jvm.MethodName)) ∈ lw_all := lw_g (lw_at lw_m4 167 rfl) rfl
theorem q932 : (Jvm.Cond.code ({ cls := "DebtCoatsModel", name := "has", desc := "(I)Z" } : Jvm.MethodName) prog_10_method_16_code (3 : Nat) (Option.some Jvm.ClassFile.FieldType.boolean)) ∈ lw_all := lw_g (lw_at lw_m4 168 rfl) rfl
theorem q934 : (Jvm.Cond.instanceMethod ({ cls := "DebtCoatsModel", name := "count", desc := "(I)I" } : Jvm.MethodName)) ∈ lw_all := lw_g (lw_at lw_m4 170 rfl) rfl
theorem q935 : (Jvm.Cond.selects "DebtCoatsModel" ({ cls := "DebtCoatsModel", name := "count", desc := "(I)I" } : Jvm.MethodName) ({ cls := "DebtCoatsModel", name := "count", desc := "(I)I" } : Jvm.MethodName)) ∈ lw_all := lw_g (lw_at lw_m4 171 rfl) rfl
theorem q936 : (Jvm.Cond.code ({ cls := "DebtCoatsModel", name := "count", desc := "(I)I" } : Jvm.MethodName) prog_10_method_20_code (5 : Nat) (Option.some Jvm.ClassFile.FieldType.int)) ∈ lw_all := lw_g (lw_at lw_m4 172 rfl) rfl
theorem q938 : (Jvm.Cond.instanceMethod ({ cls := "DebtCoatsModel", name := "nights", desc := "(I)I" } : Jvm.MethodName)) ∈ lw_all := lw_g (lw_at lw_m4 174 rfl) rfl
theorem q939 : (Jvm.Cond.selects "DebtCoatsModel" ({ cls := "DebtCoatsModel", name := "nights", desc := "(I)I" } : Jvm.MethodName) ({ cls := "DebtCoatsModel", name := "nights", desc := "(I)I" } : Jvm.MethodName)) ∈ lw_all := lw_g (lw_at lw_m4 175 rfl) rfl
theorem q940 : (Jvm.Cond.code ({ cls := "DebtCoatsModel", name := "nights", desc := "(I)I" } : Jvm.MethodName) prog_10_method_25_code (3 : Nat) (Option.some Jvm.ClassFile.FieldType.int)) ∈ lw_all := lw_g (lw_at lw_m4 176 rfl) rfl
theorem q941 : (Jvm.Cond.methodLink "DebtCoatsModel" (165 : Nat) ({ cls := "DebtCoatsModel", name := "sleeps", desc := "(I)V" } : Jvm.MethodName)) ∈ lw_all := lw_g (lw_at lw_m4 177 rfl) rfl
theorem q942 : (Jvm.Cond.privateMethod ({ cls := "DebtCoatsModel", name := "sleeps", desc := "(I)V" } : Jvm.MethodName)) ∈ lw_tbl := lw_at lw_m4 178 rfl
theorem q943 : (Jvm.Cond.instanceMethod ({ cls := "DebtCoatsModel", name := "sleeps", desc := "(I)V" } : Jvm.MethodName)) ∈ lw_all := lw_g (lw_at lw_m4 179 rfl) rfl
theorem q944 : (Jvm.Cond.code ({ cls := "DebtCoatsModel", name := "sleeps", desc := "(I)V" } : Jvm.MethodName) prog_10_method_24_code (3 : Nat) (Option.none : Option Jvm.ClassFile.FieldType)) ∈ lw_all := lw_g (lw_at lw_m4 180 rfl) rfl
theorem q945 : (Jvm.Cond.methodLink "DebtCoatsModel" (158 : Nat) ({ cls := "DebtCoatsModel", name := "rests", desc := "(I)V" } : Jvm.MethodName)) ∈ lw_all := lw_g (lw_at lw_m4 181 rfl) rfl
theorem q946 : (Jvm.Cond.privateMethod ({ cls := "DebtCoatsModel", name := "rests", desc := "(I)V" } : Jvm.MethodName)) ∈ lw_tbl := lw_at lw_m4 182 rfl
theorem q947 : (Jvm.Cond.instanceMethod ({ cls := "DebtCoatsModel", name := "rests", desc := "(I)V" } : Jvm.MethodName)) ∈ lw_all := lw_g (lw_at lw_m4 183 rfl) rfl
theorem q948 : (Jvm.Cond.code ({ cls := "DebtCoatsModel", name := "rests", desc := "(I)V" } : Jvm.MethodName) prog_10_method_22_code (6 : Nat) (Option.none : Option Jvm.ClassFile.FieldType)) ∈ lw_all := lw_g (lw_at lw_m4 184 rfl) rfl
theorem q949 : (Jvm.Cond.methodLink "DebtCoatsModel" (155 : Nat) ({ cls := "DebtCoatsModel", name := "most", desc := "(I)I" } : Jvm.MethodName)) ∈ lw_all := lw_g (lw_at lw_m4 185 rfl) rfl
theorem q950 : (Jvm.Cond.static ({ cls := "DebtCoatsModel", name := "most", desc := "(I)I" } : Jvm.MethodName)) ∈ lw_all := lw_g (lw_at lw_m4 186 rfl) rfl
theorem q951 : (Jvm.Cond.code ({ cls := "DebtCoatsModel", name := "most", desc := "(I)I" } : Jvm.MethodName) prog_10_method_21_code (1 : Nat) (Option.some Jvm.ClassFile.FieldType.int)) ∈ lw_all := lw_g (lw_at lw_m4 187 rfl) rfl
theorem q952 : (Jvm.Cond.constant "DebtCoatsModel" (154 : Nat) (999999 : Int32)) ∈ lw_all := lw_g (lw_at lw_m4 188 rfl) rfl
theorem q953 : (Jvm.Cond.methodLink "DebtCoatsModel" (162 : Nat) ({ cls := "DebtCoatsModel", name := "isTooHot", desc := "(II)Z" } : Jvm.MethodName)) ∈ lw_all := lw_g (lw_at lw_m4 189 rfl) rfl
theorem q954 : (Jvm.Cond.privateMethod ({ cls := "DebtCoatsModel", name := "isTooHot", desc := "(II)Z" } : Jvm.MethodName)) ∈ lw_tbl := lw_at lw_m4 190 rfl
theorem q955 : (Jvm.Cond.instanceMethod ({ cls := "DebtCoatsModel", name := "isTooHot", desc := "(II)Z" } : Jvm.MethodName)) ∈ lw_all := lw_g (lw_at lw_m4 191 rfl) rfl
theorem q956 : (Jvm.Cond.code ({ cls := "DebtCoatsModel", name := "isTooHot", desc := "(II)Z" } : Jvm.MethodName) prog_10_method_23_code (4 : Nat) (Option.some Jvm.ClassFile.FieldType.boolean)) ∈ lw_all := lw_g (lw_at lw_m4 192 rfl) rfl
theorem q958 : (Jvm.Cond.instanceMethod ({ cls := "DebtCoatsModel", name := "take", desc := "(IIIII)I" } : Jvm.MethodName)) ∈ lw_all := lw_g (lw_at lw_m4 194 rfl) rfl
theorem q959 : (Jvm.Cond.selects "DebtCoatsModel" ({ cls := "DebtCoatsModel", name := "take", desc := "(IIIII)I" } : Jvm.MethodName) ({ cls := "DebtCoatsModel", name := "take", desc := "(IIIII)I" } : Jvm.MethodName)) ∈ lw_all := lw_g (lw_at lw_m4 195 rfl) rfl
theorem q960 : (Jvm.Cond.code ({ cls := "DebtCoatsModel", name := "take", desc := "(IIIII)I" } : Jvm.MethodName) prog_10_method_26_code (8 : Nat) (Option.some Jvm.ClassFile.FieldType.int)) ∈ lw_all := lw_g (lw_at lw_m4 196 rfl) rfl
theorem q961 : (Jvm.Cond.constantLong "DebtCoatsModel" (168 : Nat) (20 : Int64)) ∈ lw_all := lw_g (lw_at lw_m4 197 rfl) rfl
theorem q963 : (Jvm.Cond.instanceMethod ({ cls := "DebtCoatsModel", name := "pay", desc := "(II)I" } : Jvm.MethodName)) ∈ lw_all := lw_g (lw_at lw_m4 199 rfl) rfl
theorem q964 : (Jvm.Cond.selects "DebtCoatsModel" ({ cls := "DebtCoatsModel", name := "pay", desc := "(II)I" } : Jvm.MethodName) ({ cls := "DebtCoatsModel", name := "pay", desc := "(II)I" } : Jvm.MethodName)) ∈ lw_all := lw_g (lw_at lw_m4 200 rfl) rfl
theorem q965 : (Jvm.Cond.code ({ cls := "DebtCoatsModel", name := "pay", desc := "(II)I" } : Jvm.MethodName) prog_10_method_29_code (5 : Nat) (Option.some Jvm.ClassFile.FieldType.int)) ∈ lw_all := lw_g (lw_at lw_m4 201 rfl) rfl
theorem q966 : (Jvm.Cond.methodLink "DebtCoatsModel" (170 : Nat) ({ cls := "DebtCoatsModel", name := "mayOff", desc := "(II)Z" } : Jvm.MethodName)) ∈ lw_all := lw_g (lw_at lw_m4 202 rfl) rfl
theorem q967 : (Jvm.Cond.privateMethod ({ cls := "DebtCoatsModel", name := "mayOff", desc := "(II)Z" } : Jvm.MethodName)) ∈ lw_tbl := lw_at lw_m4 203 rfl
theorem q968 : (Jvm.Cond.instanceMethod ({ cls := "DebtCoatsModel", name := "mayOff", desc := "(II)Z" } : Jvm.MethodName)) ∈ lw_all := lw_g (lw_at lw_m4 204 rfl) rfl
theorem q969 : (Jvm.Cond.code ({ cls := "DebtCoatsModel", name := "mayOff", desc := "(II)Z" } : Jvm.MethodName) prog_10_method_27_code (3 : Nat) (Option.some Jvm.ClassFile.FieldType.boolean)) ∈ lw_all := lw_g (lw_at lw_m4 205 rfl) rfl
theorem q970 : (Jvm.Cond.methodLink "DebtCoatsModel" (173 : Nat) ({ cls := "DebtCoatsModel", name := "off", desc := "(II)V" } : Jvm.MethodName)) ∈ lw_all := lw_g (lw_at lw_m4 206 rfl) rfl
theorem q971 : (Jvm.Cond.privateMethod ({ cls := "DebtCoatsModel", name := "off", desc := "(II)V" } : Jvm.MethodName)) ∈ lw_tbl := lw_at lw_m4 207 rfl
theorem q972 : (Jvm.Cond.instanceMethod ({ cls := "DebtCoatsModel", name := "off", desc := "(II)V" } : Jvm.MethodName)) ∈ lw_all := lw_g (lw_at lw_m4 208 rfl) rfl
theorem q973 : (Jvm.Cond.code ({ cls := "DebtCoatsModel", name := "off", desc := "(II)V" } : Jvm.MethodName) prog_10_method_28_code (5 : Nat) (Option.none : Option Jvm.ClassFile.FieldType)) ∈ lw_all := lw_g (lw_at lw_m4 209 rfl) rfl
theorem q975 : (Jvm.Cond.instanceMethod ({ cls := "DebtCoatsModel", name := "cut", desc := "(II)I" } : Jvm.MethodName)) ∈ lw_all := lw_g (lw_at lw_m4 211 rfl) rfl
theorem q976 : (Jvm.Cond.selects "DebtCoatsModel" ({ cls := "DebtCoatsModel", name := "cut", desc := "(II)I" } : Jvm.MethodName) ({ cls := "DebtCoatsModel", name := "cut", desc := "(II)I" } : Jvm.MethodName)) ∈ lw_all := lw_g (lw_at lw_m4 212 rfl) rfl
theorem q977 : (Jvm.Cond.code ({ cls := "DebtCoatsModel", name := "cut", desc := "(II)I" } : Jvm.MethodName) prog_10_method_31_code (3 : Nat) (Option.some Jvm.ClassFile.FieldType.int)) ∈ lw_all := lw_g (lw_at lw_m4 213 rfl) rfl
theorem q978 : (Jvm.Cond.methodLink "DebtCoatsModel" (177 : Nat) ({ cls := "DebtCoatsModel", name := "isBetween", desc := "(II)Z" } : Jvm.MethodName)) ∈ lw_all := lw_g (lw_at lw_m4 214 rfl) rfl
theorem q979 : (Jvm.Cond.privateMethod ({ cls := "DebtCoatsModel", name := "isBetween", desc := "(II)Z" } : Jvm.MethodName)) ∈ lw_tbl := lw_at lw_m4 215 rfl
theorem q980 : (Jvm.Cond.instanceMethod ({ cls := "DebtCoatsModel", name := "isBetween", desc := "(II)Z" } : Jvm.MethodName)) ∈ lw_all := lw_g (lw_at lw_m4 216 rfl) rfl
theorem q981 : (Jvm.Cond.code ({ cls := "DebtCoatsModel", name := "isBetween", desc := "(II)Z" } : Jvm.MethodName) prog_10_method_30_code (3 : Nat) (Option.some Jvm.ClassFile.FieldType.boolean)) ∈ lw_all := lw_g (lw_at lw_m4 217 rfl) rfl
theorem q983 : (Jvm.Cond.instanceMethod ({ cls := "DebtCoatsModel", name := "ring", desc := "(III)I" } : Jvm.MethodName)) ∈ lw_all := lw_g (lw_at lw_m4 219 rfl) rfl
theorem q984 : (Jvm.Cond.selects "DebtCoatsModel" ({ cls := "DebtCoatsModel", name := "ring", desc := "(III)I" } : Jvm.MethodName) ({ cls := "DebtCoatsModel", name := "ring", desc := "(III)I" } : Jvm.MethodName)) ∈ lw_all := lw_g (lw_at lw_m4 220 rfl) rfl
theorem q985 : (Jvm.Cond.code ({ cls := "DebtCoatsModel", name := "ring", desc := "(III)I" } : Jvm.MethodName) prog_10_method_35_code (9 : Nat) (Option.some Jvm.ClassFile.FieldType.int)) ∈ lw_all := lw_g (lw_at lw_m4 221 rfl) rfl
theorem q986 : (Jvm.Cond.methodLink "DebtCoatsModel" (186 : Nat) ({ cls := "DebtCoatsModel", name := "saved", desc := "(III)I" } : Jvm.MethodName)) ∈ lw_all := lw_g (lw_at lw_m4 222 rfl) rfl
theorem q987 : (Jvm.Cond.privateMethod ({ cls := "DebtCoatsModel", name := "saved", desc := "(III)I" } : Jvm.MethodName)) ∈ lw_tbl := lw_at lw_m4 223 rfl
theorem q988 : (Jvm.Cond.instanceMethod ({ cls := "DebtCoatsModel", name := "saved", desc := "(III)I" } : Jvm.MethodName)) ∈ lw_all := lw_g (lw_at lw_m4 224 rfl) rfl
theorem q989 : (Jvm.Cond.code ({ cls := "DebtCoatsModel", name := "saved", desc := "(III)I" } : Jvm.MethodName) prog_10_method_34_code (8 : Nat) (Option.some Jvm.ClassFile.FieldType.int)) ∈ lw_all := lw_g (lw_at lw_m4 225 rfl) rfl
theorem q990 : (Jvm.Cond.methodLink "DebtCoatsModel" (183 : Nat) ({ cls := "DebtCoatsModel", name := "gains", desc := "(II)I" } : Jvm.MethodName)) ∈ lw_all := lw_g (lw_at lw_m4 226 rfl) rfl
theorem q991 : (Jvm.Cond.privateMethod ({ cls := "DebtCoatsModel", name := "gains", desc := "(II)I" } : Jvm.MethodName)) ∈ lw_tbl := lw_at lw_m4 227 rfl
theorem q992 : (Jvm.Cond.instanceMethod ({ cls := "DebtCoatsModel", name := "gains", desc := "(II)I" } : Jvm.MethodName)) ∈ lw_all := lw_g (lw_at lw_m4 228 rfl) rfl
theorem q993 : (Jvm.Cond.code ({ cls := "DebtCoatsModel", name := "gains", desc := "(II)I" } : Jvm.MethodName) prog_10_method_33_code (3 : Nat) (Option.some Jvm.ClassFile.FieldType.int)) ∈ lw_all := lw_g (lw_at lw_m4 229 rfl) rfl
theorem q994 : (Jvm.Cond.methodLink "DebtCoatsModel" (180 : Nat) ({ cls := "DebtCoatsModel", name := "outer", desc := "(I)I" } : Jvm.MethodName)) ∈ lw_all := lw_g (lw_at lw_m4 230 rfl) rfl
theorem q995 : (Jvm.Cond.privateMethod ({ cls := "DebtCoatsModel", name := "outer", desc := "(I)I" } : Jvm.MethodName)) ∈ lw_tbl := lw_at lw_m4 231 rfl
theorem q996 : (Jvm.Cond.instanceMethod ({ cls := "DebtCoatsModel", name := "outer", desc := "(I)I" } : Jvm.MethodName)) ∈ lw_all := lw_g (lw_at lw_m4 232 rfl) rfl
theorem q997 : (Jvm.Cond.code ({ cls := "DebtCoatsModel", name := "outer", desc := "(I)I" } : Jvm.MethodName) prog_10_method_32_code (2 : Nat) (Option.some Jvm.ClassFile.FieldType.int)) ∈ lw_all := lw_g (lw_at lw_m4 233 rfl) rfl
theorem q999 : (Jvm.Cond.instanceMethod ({ cls := "DebtCoatsModel", name := "rings", desc := "(I)I" } : Jvm.MethodName)) ∈ lw_all := lw_g (lw_at lw_m4 235 rfl) rfl
theorem q1000 : (Jvm.Cond.selects "DebtCoatsModel" ({ cls := "DebtCoatsModel", name := "rings", desc := "(I)I" } : Jvm.MethodName) ({ cls := "DebtCoatsModel", name := "rings", desc := "(I)I" } : Jvm.MethodName)) ∈ lw_all := lw_g (lw_at lw_m4 236 rfl) rfl
theorem q1001 : (Jvm.Cond.code ({ cls := "DebtCoatsModel", name := "rings", desc := "(I)I" } : Jvm.MethodName) prog_10_method_36_code (10 : Nat) (Option.some Jvm.ClassFile.FieldType.int)) ∈ lw_all := lw_g (lw_at lw_m4 237 rfl) rfl
theorem q1002 : (Jvm.Cond.constantLong "DebtCoatsModel" (190 : Nat) (-1 : Int64)) ∈ lw_all := lw_g (lw_at lw_m4 238 rfl) rfl
theorem q1004 : (Jvm.Cond.instanceMethod ({ cls := "DebtCoatsModel", name := "owed", desc := "(I)I" } : Jvm.MethodName)) ∈ lw_all := lw_g (lw_at lw_m5 0 rfl) rfl
theorem q1005 : (Jvm.Cond.selects "DebtCoatsModel" ({ cls := "DebtCoatsModel", name := "owed", desc := "(I)I" } : Jvm.MethodName) ({ cls := "DebtCoatsModel", name := "owed", desc := "(I)I" } : Jvm.MethodName)) ∈ lw_all := lw_g (lw_at lw_m5 1 rfl) rfl
theorem q1006 : (Jvm.Cond.code ({ cls := "DebtCoatsModel", name := "owed", desc := "(I)I" } : Jvm.MethodName) prog_10_method_37_code (6 : Nat) (Option.some Jvm.ClassFile.FieldType.int)) ∈ lw_all := lw_g (lw_at lw_m5 2 rfl) rfl
theorem q1008 : (Jvm.Cond.instanceMethod ({ cls := "DebtCoatsModel", name := "free", desc := "(II)I" } : Jvm.MethodName)) ∈ lw_all := lw_g (lw_at lw_m5 4 rfl) rfl
theorem q1009 : (Jvm.Cond.selects "DebtCoatsModel" ({ cls := "DebtCoatsModel", name := "free", desc := "(II)I" } : Jvm.MethodName) ({ cls := "DebtCoatsModel", name := "free", desc := "(II)I" } : Jvm.MethodName)) ∈ lw_all := lw_g (lw_at lw_m5 5 rfl) rfl
theorem q1010 : (Jvm.Cond.code ({ cls := "DebtCoatsModel", name := "free", desc := "(II)I" } : Jvm.MethodName) prog_10_method_43_code (5 : Nat) (Option.some Jvm.ClassFile.FieldType.int)) ∈ lw_all := lw_g (lw_at lw_m5 6 rfl) rfl
theorem q1011 : (Jvm.Cond.constantLong "DebtCoatsModel" (207 : Nat) (7 : Int64)) ∈ lw_all := lw_g (lw_at lw_m5 7 rfl) rfl
theorem q1012 : (Jvm.Cond.methodLink "DebtCoatsModel" (209 : Nat) ({ cls := "DebtCoatsModel", name := "starts", desc := "(I)V" } : Jvm.MethodName)) ∈ lw_all := lw_g (lw_at lw_m5 8 rfl) rfl
theorem q1013 : (Jvm.Cond.privateMethod ({ cls := "DebtCoatsModel", name := "starts", desc := "(I)V" } : Jvm.MethodName)) ∈ lw_tbl := lw_at lw_m5 9 rfl
theorem q1014 : (Jvm.Cond.instanceMethod ({ cls := "DebtCoatsModel", name := "starts", desc := "(I)V" } : Jvm.MethodName)) ∈ lw_all := lw_g (lw_at lw_m5 10 rfl) rfl
theorem q1015 : (Jvm.Cond.code ({ cls := "DebtCoatsModel", name := "starts", desc := "(I)V" } : Jvm.MethodName) prog_10_method_40_code (3 : Nat) (Option.none : Option Jvm.ClassFile.FieldType)) ∈ lw_all := lw_g (lw_at lw_m5 11 rfl) rfl
theorem q1016 : (Jvm.Cond.methodLink "DebtCoatsModel" (212 : Nat) ({ cls := "DebtCoatsModel", name := "bestFree", desc := "(I)I" } : Jvm.MethodName)) ∈ lw_all := lw_g (lw_at lw_m5 12 rfl) rfl
theorem q1017 : (Jvm.Cond.privateMethod ({ cls := "DebtCoatsModel", name := "bestFree", desc := "(I)I" } : Jvm.MethodName)) ∈ lw_tbl := lw_at lw_m5 13 rfl
theorem q1018 : (Jvm.Cond.instanceMethod ({ cls := "DebtCoatsModel", name := "bestFree", desc := "(I)I" } : Jvm.MethodName)) ∈ lw_all := lw_g (lw_at lw_m5 14 rfl) rfl
theorem q1019 : (Jvm.Cond.code ({ cls := "DebtCoatsModel", name := "bestFree", desc := "(I)I" } : Jvm.MethodName) prog_10_method_42_code (8 : Nat) (Option.some Jvm.ClassFile.FieldType.int)) ∈ lw_all := lw_g (lw_at lw_m5 15 rfl) rfl
theorem q1020 : (Jvm.Cond.methodLink "DebtCoatsModel" (195 : Nat) ({ cls := "DebtCoatsModel", name := "isLawful", desc := "(I)Z" } : Jvm.MethodName)) ∈ lw_all := lw_g (lw_at lw_m5 16 rfl) rfl
theorem q1021 : (Jvm.Cond.privateMethod ({ cls := "DebtCoatsModel", name := "isLawful", desc := "(I)Z" } : Jvm.MethodName)) ∈ lw_tbl := lw_at lw_m5 17 rfl
theorem q1022 : (Jvm.Cond.instanceMethod ({ cls := "DebtCoatsModel", name := "isLawful", desc := "(I)Z" } : Jvm.MethodName)) ∈ lw_all := lw_g (lw_at lw_m5 18 rfl) rfl
theorem q1023 : (Jvm.Cond.code ({ cls := "DebtCoatsModel", name := "isLawful", desc := "(I)Z" } : Jvm.MethodName) prog_10_method_41_code (4 : Nat) (Option.some Jvm.ClassFile.FieldType.boolean)) ∈ lw_all := lw_g (lw_at lw_m5 19 rfl) rfl
theorem q1024 : (Jvm.Cond.methodLink "DebtCoatsModel" (198 : Nat) ({ cls := "DebtCoatsModel", name := "freeBy", desc := "(II)I" } : Jvm.MethodName)) ∈ lw_all := lw_g (lw_at lw_m5 20 rfl) rfl
theorem q1025 : (Jvm.Cond.privateMethod ({ cls := "DebtCoatsModel", name := "freeBy", desc := "(II)I" } : Jvm.MethodName)) ∈ lw_tbl := lw_at lw_m5 21 rfl
theorem q1026 : (Jvm.Cond.instanceMethod ({ cls := "DebtCoatsModel", name := "freeBy", desc := "(II)I" } : Jvm.MethodName)) ∈ lw_all := lw_g (lw_at lw_m5 22 rfl) rfl
theorem q1027 : (Jvm.Cond.code ({ cls := "DebtCoatsModel", name := "freeBy", desc := "(II)I" } : Jvm.MethodName) prog_10_method_39_code (9 : Nat) (Option.some Jvm.ClassFile.FieldType.int)) ∈ lw_all := lw_g (lw_at lw_m5 23 rfl) rfl
theorem q1028 : (Jvm.Cond.methodLink "DebtCoatsModel" (204 : Nat) ({ cls := "DebtCoatsModel", name := "turns", desc := "(I)Z" } : Jvm.MethodName)) ∈ lw_all := lw_g (lw_at lw_m5 24 rfl) rfl
theorem q1029 : (Jvm.Cond.privateMethod ({ cls := "DebtCoatsModel", name := "turns", desc := "(I)Z" } : Jvm.MethodName)) ∈ lw_tbl := lw_at lw_m5 25 rfl
theorem q1030 : (Jvm.Cond.instanceMethod ({ cls := "DebtCoatsModel", name := "turns", desc := "(I)Z" } : Jvm.MethodName)) ∈ lw_all := lw_g (lw_at lw_m5 26 rfl) rfl
theorem q1031 : (Jvm.Cond.code ({ cls := "DebtCoatsModel", name := "turns", desc := "(I)Z" } : Jvm.MethodName) prog_10_method_38_code (7 : Nat) (Option.some Jvm.ClassFile.FieldType.boolean)) ∈ lw_all := lw_g (lw_at lw_m5 27 rfl) rfl
theorem q1033 : (Jvm.Cond.instanceMethod ({ cls := "DebtCoatsModel", name := "saves", desc := "(II)I" } : Jvm.MethodName)) ∈ lw_all := lw_g (lw_at lw_m5 29 rfl) rfl
theorem q1034 : (Jvm.Cond.selects "DebtCoatsModel" ({ cls := "DebtCoatsModel", name := "saves", desc := "(II)I" } : Jvm.MethodName) ({ cls := "DebtCoatsModel", name := "saves", desc := "(II)I" } : Jvm.MethodName)) ∈ lw_all := lw_g (lw_at lw_m5 30 rfl) rfl
theorem q1035 : (Jvm.Cond.code ({ cls := "DebtCoatsModel", name := "saves", desc := "(II)I" } : Jvm.MethodName) prog_10_method_44_code (5 : Nat) (Option.some Jvm.ClassFile.FieldType.int)) ∈ lw_all := lw_g (lw_at lw_m5 31 rfl) rfl
theorem q1037 : (Jvm.Cond.instanceMethod ({ cls := "DebtCoatsModel", name := "bears", desc := "(I)I" } : Jvm.MethodName)) ∈ lw_all := lw_g (lw_at lw_m5 33 rfl) rfl
theorem q1038 : (Jvm.Cond.selects "DebtCoatsModel" ({ cls := "DebtCoatsModel", name := "bears", desc := "(I)I" } : Jvm.MethodName) ({ cls := "DebtCoatsModel", name := "bears", desc := "(I)I" } : Jvm.MethodName)) ∈ lw_all := lw_g (lw_at lw_m5 34 rfl) rfl
theorem q1039 : (Jvm.Cond.code ({ cls := "DebtCoatsModel", name := "bears", desc := "(I)I" } : Jvm.MethodName) prog_10_method_45_code (3 : Nat) (Option.some Jvm.ClassFile.FieldType.int)) ∈ lw_all := lw_g (lw_at lw_m5 35 rfl) rfl
theorem q1041 : (Jvm.Cond.instanceMethod ({ cls := "DebtCoatsModel", name := "ware", desc := "(II)I" } : Jvm.MethodName)) ∈ lw_all := lw_g (lw_at lw_m5 37 rfl) rfl
theorem q1042 : (Jvm.Cond.selects "DebtCoatsModel" ({ cls := "DebtCoatsModel", name := "ware", desc := "(II)I" } : Jvm.MethodName) ({ cls := "DebtCoatsModel", name := "ware", desc := "(II)I" } : Jvm.MethodName)) ∈ lw_all := lw_g (lw_at lw_m5 38 rfl) rfl
theorem q1043 : (Jvm.Cond.code ({ cls := "DebtCoatsModel", name := "ware", desc := "(II)I" } : Jvm.MethodName) prog_10_method_46_code (3 : Nat) (Option.some Jvm.ClassFile.FieldType.int)) ∈ lw_all := lw_g (lw_at lw_m5 39 rfl) rfl
theorem q1045 : (Jvm.Cond.instanceMethod ({ cls := "DebtCoatsModel", name := "under", desc := "(IIII)I" } : Jvm.MethodName)) ∈ lw_all := lw_g (lw_at lw_m5 41 rfl) rfl
theorem q1046 : (Jvm.Cond.selects "DebtCoatsModel" ({ cls := "DebtCoatsModel", name := "under", desc := "(IIII)I" } : Jvm.MethodName) ({ cls := "DebtCoatsModel", name := "under", desc := "(IIII)I" } : Jvm.MethodName)) ∈ lw_all := lw_g (lw_at lw_m5 42 rfl) rfl
theorem q1047 : (Jvm.Cond.code ({ cls := "DebtCoatsModel", name := "under", desc := "(IIII)I" } : Jvm.MethodName) prog_10_method_47_code (11 : Nat) (Option.some Jvm.ClassFile.FieldType.int)) ∈ lw_all := lw_g (lw_at lw_m5 43 rfl) rfl
theorem q1048 : (Jvm.Cond.constantLong "DebtCoatsModel" (215 : Nat) (99999 : Int64)) ∈ lw_all := lw_g (lw_at lw_m5 44 rfl) rfl
theorem q1050 : (Jvm.Cond.instanceMethod ({ cls := "DebtCoatsModel", name := "image", desc := "()I" } : Jvm.MethodName)) ∈ lw_all := lw_g (lw_at lw_m5 46 rfl) rfl
theorem q1051 : (Jvm.Cond.selects "DebtCoatsModel" ({ cls := "DebtCoatsModel", name := "image", desc := "()I" } : Jvm.MethodName) ({ cls := "DebtCoatsModel", name := "image", desc := "()I" } : Jvm.MethodName)) ∈ lw_all := lw_g (lw_at lw_m5 47 rfl) rfl
theorem q1052 : (Jvm.Cond.code ({ cls := "DebtCoatsModel", name := "image", desc := "()I" } : Jvm.MethodName) prog_10_method_50_code (2 : Nat) (Option.some Jvm.ClassFile.FieldType.int)) ∈ lw_all := lw_g (lw_at lw_m5 48 rfl) rfl
theorem q1053 : (Jvm.Cond.methodLink "DebtCoatsModel" (217 : Nat) ({ cls := "DebtCoatsModel", name := "lay", desc := "([II)I" } : Jvm.MethodName)) ∈ lw_all := lw_g (lw_at lw_m5 49 rfl) rfl
theorem q1054 : (Jvm.Cond.privateMethod ({ cls := "DebtCoatsModel", name := "lay", desc := "([II)I" } : Jvm.MethodName)) ∈ lw_tbl := lw_at lw_m5 50 rfl
theorem q1055 : (Jvm.Cond.instanceMethod ({ cls := "DebtCoatsModel", name := "lay", desc := "([II)I" } : Jvm.MethodName)) ∈ lw_all := lw_g (lw_at lw_m5 51 rfl) rfl
theorem q1056 : (Jvm.Cond.code ({ cls := "DebtCoatsModel", name := "lay", desc := "([II)I" } : Jvm.MethodName) prog_10_method_48_code (4 : Nat) (Option.some Jvm.ClassFile.FieldType.int)) ∈ lw_all := lw_g (lw_at lw_m5 52 rfl) rfl
theorem q1058 : (Jvm.Cond.instanceMethod ({ cls := "DebtCoatsModel", name := "restore", desc := "()I" } : Jvm.MethodName)) ∈ lw_all := lw_g (lw_at lw_m5 54 rfl) rfl
theorem q1059 : (Jvm.Cond.selects "DebtCoatsModel" ({ cls := "DebtCoatsModel", name := "restore", desc := "()I" } : Jvm.MethodName) ({ cls := "DebtCoatsModel", name := "restore", desc := "()I" } : Jvm.MethodName)) ∈ lw_all := lw_g (lw_at lw_m5 55 rfl) rfl
theorem q1060 : (Jvm.Cond.code ({ cls := "DebtCoatsModel", name := "restore", desc := "()I" } : Jvm.MethodName) prog_10_method_51_code (2 : Nat) (Option.some Jvm.ClassFile.FieldType.int)) ∈ lw_all := lw_g (lw_at lw_m5 56 rfl) rfl
theorem q1061 : (Jvm.Cond.methodLink "DebtCoatsModel" (224 : Nat) ({ cls := "DebtCoatsModel", name := "gives", desc := "(I[I)I" } : Jvm.MethodName)) ∈ lw_all := lw_g (lw_at lw_m5 57 rfl) rfl
theorem q1062 : (Jvm.Cond.privateMethod ({ cls := "DebtCoatsModel", name := "gives", desc := "(I[I)I" } : Jvm.MethodName)) ∈ lw_tbl := lw_at lw_m5 58 rfl
theorem q1063 : (Jvm.Cond.instanceMethod ({ cls := "DebtCoatsModel", name := "gives", desc := "(I[I)I" } : Jvm.MethodName)) ∈ lw_all := lw_g (lw_at lw_m5 59 rfl) rfl
theorem q1064 : (Jvm.Cond.code ({ cls := "DebtCoatsModel", name := "gives", desc := "(I[I)I" } : Jvm.MethodName) prog_10_method_49_code (4 : Nat) (Option.some Jvm.ClassFile.FieldType.int)) ∈ lw_all := lw_g (lw_at lw_m5 60 rfl) rfl
theorem q1066 : (Jvm.Cond.instanceMethod ({ cls := "DebtCoatsModel", name := "judged", desc := "(IIII)I" } : Jvm.MethodName)) ∈ lw_all := lw_g (lw_at lw_m5 62 rfl) rfl
theorem q1067 : (Jvm.Cond.selects "DebtCoatsModel" ({ cls := "DebtCoatsModel", name := "judged", desc := "(IIII)I" } : Jvm.MethodName) ({ cls := "DebtCoatsModel", name := "judged", desc := "(IIII)I" } : Jvm.MethodName)) ∈ lw_all := lw_g (lw_at lw_m5 63 rfl) rfl
theorem q1068 : (Jvm.Cond.code ({ cls := "DebtCoatsModel", name := "judged", desc := "(IIII)I" } : Jvm.MethodName) prog_10_method_55_code (11 : Nat) (Option.some Jvm.ClassFile.FieldType.int)) ∈ lw_all := lw_g (lw_at lw_m5 64 rfl) rfl
theorem q1069 : (Jvm.Cond.methodLink "DebtCoatsModel" (228 : Nat) ({ cls := "DebtCoatsModel", name := "isSheet", desc := "(I)Z" } : Jvm.MethodName)) ∈ lw_all := lw_g (lw_at lw_m5 65 rfl) rfl
theorem q1070 : (Jvm.Cond.static ({ cls := "DebtCoatsModel", name := "isSheet", desc := "(I)Z" } : Jvm.MethodName)) ∈ lw_all := lw_g (lw_at lw_m5 66 rfl) rfl
theorem q1071 : (Jvm.Cond.code ({ cls := "DebtCoatsModel", name := "isSheet", desc := "(I)Z" } : Jvm.MethodName) prog_10_method_52_code (1 : Nat) (Option.some Jvm.ClassFile.FieldType.boolean)) ∈ lw_all := lw_g (lw_at lw_m5 67 rfl) rfl
theorem q1072 : (Jvm.Cond.methodLink "DebtCoatsModel" (231 : Nat) ({ cls := "DebtCoatsModel", name := "isLane", desc := "(I)Z" } : Jvm.MethodName)) ∈ lw_all := lw_g (lw_at lw_m5 68 rfl) rfl
theorem q1073 : (Jvm.Cond.static ({ cls := "DebtCoatsModel", name := "isLane", desc := "(I)Z" } : Jvm.MethodName)) ∈ lw_all := lw_g (lw_at lw_m5 69 rfl) rfl
theorem q1074 : (Jvm.Cond.code ({ cls := "DebtCoatsModel", name := "isLane", desc := "(I)Z" } : Jvm.MethodName) prog_10_method_53_code (1 : Nat) (Option.some Jvm.ClassFile.FieldType.boolean)) ∈ lw_all := lw_g (lw_at lw_m5 70 rfl) rfl
theorem q1075 : (Jvm.Cond.methodLink "DebtCoatsModel" (234 : Nat) ({ cls := "DebtCoatsModel", name := "finds", desc := "(IIII)I" } : Jvm.MethodName)) ∈ lw_all := lw_g (lw_at lw_m5 71 rfl) rfl
theorem q1076 : (Jvm.Cond.privateMethod ({ cls := "DebtCoatsModel", name := "finds", desc := "(IIII)I" } : Jvm.MethodName)) ∈ lw_tbl := lw_at lw_m5 72 rfl
theorem q1077 : (Jvm.Cond.instanceMethod ({ cls := "DebtCoatsModel", name := "finds", desc := "(IIII)I" } : Jvm.MethodName)) ∈ lw_all := lw_g (lw_at lw_m5 73 rfl) rfl
theorem q1078 : (Jvm.Cond.code ({ cls := "DebtCoatsModel", name := "finds", desc := "(IIII)I" } : Jvm.MethodName) prog_10_method_54_code (5 : Nat) (Option.some Jvm.ClassFile.FieldType.int)) ∈ lw_all := lw_g (lw_at lw_m5 74 rfl) rfl
theorem q1079 : (Jvm.Cond.constantLong "DebtCoatsModel" (238 : Nat) (359 : Int64)) ∈ lw_all := lw_g (lw_at lw_m5 75 rfl) rfl
theorem q1081 : (Jvm.Cond.instanceMethod ({ cls := "DebtCoatsModel", name := "sheet", desc := "(III)I" } : Jvm.MethodName)) ∈ lw_all := lw_g (lw_at lw_m5 77 rfl) rfl
theorem q1082 : (Jvm.Cond.selects "DebtCoatsModel" ({ cls := "DebtCoatsModel", name := "sheet", desc := "(III)I" } : Jvm.MethodName) ({ cls := "DebtCoatsModel", name := "sheet", desc := "(III)I" } : Jvm.MethodName)) ∈ lw_all := lw_g (lw_at lw_m5 78 rfl) rfl
theorem q1083 : (Jvm.Cond.code ({ cls := "DebtCoatsModel", name := "sheet", desc := "(III)I" } : Jvm.MethodName) prog_10_method_56_code (5 : Nat) (Option.some Jvm.ClassFile.FieldType.int)) ∈ lw_all := lw_g (lw_at lw_m5 79 rfl) rfl
theorem q1085 : (Jvm.Cond.instanceMethod ({ cls := "DebtCoatsModel", name := "drop", desc := "(I)I" } : Jvm.MethodName)) ∈ lw_all := lw_g (lw_at lw_m5 81 rfl) rfl
theorem q1086 : (Jvm.Cond.selects "DebtCoatsModel" ({ cls := "DebtCoatsModel", name := "drop", desc := "(I)I" } : Jvm.MethodName) ({ cls := "DebtCoatsModel", name := "drop", desc := "(I)I" } : Jvm.MethodName)) ∈ lw_all := lw_g (lw_at lw_m5 82 rfl) rfl
theorem q1087 : (Jvm.Cond.code ({ cls := "DebtCoatsModel", name := "drop", desc := "(I)I" } : Jvm.MethodName) prog_10_method_57_code (2 : Nat) (Option.some Jvm.ClassFile.FieldType.int)) ∈ lw_all := lw_g (lw_at lw_m5 83 rfl) rfl
theorem q1089 : (Jvm.Cond.instanceMethod ({ cls := "DebtCoatsModel", name := "item", desc := "(IIII)I" } : Jvm.MethodName)) ∈ lw_all := lw_g (lw_at lw_m5 85 rfl) rfl
theorem q1090 : (Jvm.Cond.selects "DebtCoatsModel" ({ cls := "DebtCoatsModel", name := "item", desc := "(IIII)I" } : Jvm.MethodName) ({ cls := "DebtCoatsModel", name := "item", desc := "(IIII)I" } : Jvm.MethodName)) ∈ lw_all := lw_g (lw_at lw_m5 86 rfl) rfl
theorem q1091 : (Jvm.Cond.code ({ cls := "DebtCoatsModel", name := "item", desc := "(IIII)I" } : Jvm.MethodName) prog_10_method_58_code (6 : Nat) (Option.some Jvm.ClassFile.FieldType.int)) ∈ lw_all := lw_g (lw_at lw_m5 87 rfl) rfl
theorem q1093 : (Jvm.Cond.instanceMethod ({ cls := "DebtCoatsModel", name := "copy", desc := "(IIIII)I" } : Jvm.MethodName)) ∈ lw_all := lw_g (lw_at lw_m5 89 rfl) rfl
theorem q1094 : (Jvm.Cond.selects "DebtCoatsModel" ({ cls := "DebtCoatsModel", name := "copy", desc := "(IIIII)I" } : Jvm.MethodName) ({ cls := "DebtCoatsModel", name := "copy", desc := "(IIIII)I" } : Jvm.MethodName)) ∈ lw_all := lw_g (lw_at lw_m5 90 rfl) rfl
theorem q1095 : (Jvm.Cond.code ({ cls := "DebtCoatsModel", name := "copy", desc := "(IIIII)I" } : Jvm.MethodName) prog_10_method_59_code (7 : Nat) (Option.some Jvm.ClassFile.FieldType.int)) ∈ lw_all := lw_g (lw_at lw_m5 91 rfl) rfl
theorem in_X8 : ∀ w ∈ wsX80, w ∈ lw_all := lw_in wsX80 [792, 794, 796, 798, 800, 802, 804, 806, 808, 810, 812, 814, 816, 818, 820, 822, 824, 826, 828, 830, 832, 834, 836, 838, 840, 842, 844, 846] (by decide +kernel) (by decide +kernel)
