/-! BackRescueModel -/
set_option maxRecDepth 100000
def RX4 : String := "BackRescueModel"
def TX4 : u_T := fun k => match k with
  | 0 => ("BackRescueModel", "thrown", "I", false)
  | 1 => ("BackRescueModel", "all", "[I", true)
  | 2 => ("BackRescueModel", "hasImage", "[Z", true)
  | 3 => ("BackRescueModel", "tape", "[I", true)
  | 4 => ("BackRescueModel", "fresh", "[I", true)
  | 5 => ("BackRescueModel", "taped", "I", false)
  | 6 => ("BackRescueModel", "at", "I", false)
  | 7 => ("BackRescueModel", "behind", "I", false)
  | 8 => ("BackRescueModel", "size", "I", false)
  | 9 => ("BackRescueModel", "kind", "I", false)
  | 10 => ("BackRescueModel", "number", "I", false)
  | 11 => ("BackRescueModel", "wrong", "I", false)
  | 12 => ("BackRescueModel", "wrongAt", "I", false)
  | 13 => ("BackRescueModel", "faultKind", "I", false)
  | 14 => ("BackRescueModel", "faultPlace", "I", false)
  | 15 => ("BackRescueModel", "reading", "I", false)
  | 16 => ("BackRescueModel", "reckoned", "[I", true)
  | 17 => ("BackRescueModel", "words", "[I", true)
  | 18 => ("BackRescueModel", "was", "[I", true)
  | 19 => ("BackRescueModel", "toldWhy", "I", false)
  | 20 => ("BackRescueModel", "x", "I", false)
  | 21 => ("BackRescueModel", "then", "[I", true)
  | 22 => ("BackRescueModel", "far", "[I", true)
  | 23 => ("BackRescueModel", "reached", "[Z", true)
  | 24 => ("BackRescueModel", "many", "[J", true)
  | 25 => ("BackRescueModel", "can", "[Z", true)
  | 26 => ("BackRescueModel", "canThen", "[Z", true)
  | 27 => ("BackRescueModel", "often", "[I", true)
  | 28 => ("BackRescueModel", "stood", "[Z", true)
  | 29 => ("BackRescueModel", "likely", "[I", true)
  | 30 => ("BackRescueModel", "rowSort", "[I", true)
  | 31 => ("BackRescueModel", "rowMany", "[I", true)
  | _ => ("BackRescueModel", "numbers", "[J", true)
def tyX4 : Nat → FieldType := fun k => match k with
  | 0 => .int
  | 1 => .array .int
  | 2 => .array .boolean
  | 3 => .array .int
  | 4 => .array .int
  | 5 => .int
  | 6 => .int
  | 7 => .int
  | 8 => .int
  | 9 => .int
  | 10 => .int
  | 11 => .int
  | 12 => .int
  | 13 => .int
  | 14 => .int
  | 15 => .int
  | 16 => .array .int
  | 17 => .array .int
  | 18 => .array .int
  | 19 => .int
  | 20 => .int
  | 21 => .array .int
  | 22 => .array .int
  | 23 => .array .boolean
  | 24 => .array .long
  | 25 => .array .boolean
  | 26 => .array .boolean
  | 27 => .array .int
  | 28 => .array .boolean
  | 29 => .array .int
  | 30 => .array .int
  | 31 => .array .int
  | _ => .array .long
abbrev wsX40 : List Cond := u_ws RX4 TX4 33
set_option maxRecDepth 100000 in
theorem nmX4 : ∀ a, a < 33 → ∀ b, b < 33 → a ≠ b → (TX4 a).2.1 ≠ (TX4 b).2.1 := by decide +kernel
set_option maxRecDepth 100000 in
theorem tyX4_ok : ∀ k, k < 33 → parseFieldDescriptor (TX4 k).2.2.1 = some (tyX4 k) := by decide +kernel
abbrev cX4_init : ByteArray := prog_16_method_3_code
def yX4_init : MethodName := ⟨RX4, "<init>", "()V"⟩
def dkwX4_init_8 : List UInt8 := [184, 0, 76, 177]
abbrev dktX4_init_8 : List UInt8 := dkwX4_init_8 ++ []
def dkwX4_init_7 : List UInt8 := [181, 0, 67, 42, 7, 188, 10, 181, 0, 70, 42, 17, 0, 160, 188, 11, 181, 0, 73, 42, 180, 0, 13]
abbrev dktX4_init_7 : List UInt8 := dkwX4_init_7 ++ dktX4_init_8
def dkwX4_init_6 : List UInt8 := [181, 0, 64, 42, 7, 188, 10, 89, 3, 2, 79, 89, 4, 2, 79, 89, 5, 2, 79, 89, 6, 2, 79]
abbrev dktX4_init_6 : List UInt8 := dkwX4_init_6 ++ dktX4_init_7
def dkwX4_init_5 : List UInt8 := [42, 16, 6, 188, 10, 181, 0, 58, 42, 17, 1, 104, 188, 4, 181, 0, 61, 42, 17, 1, 68, 188, 10]
abbrev dktX4_init_5 : List UInt8 := dkwX4_init_5 ++ dktX4_init_6
def dkwX4_init_4 : List UInt8 := [17, 1, 140, 188, 11, 181, 0, 48, 42, 16, 36, 188, 4, 181, 0, 52, 42, 16, 36, 188, 4, 181, 0, 55]
abbrev dktX4_init_4 : List UInt8 := dkwX4_init_4 ++ dktX4_init_5
def dkwX4_init_3 : List UInt8 := [188, 10, 181, 0, 39, 42, 16, 36, 188, 10, 181, 0, 42, 42, 16, 36, 188, 4, 181, 0, 45, 42]
abbrev dktX4_init_3 : List UInt8 := dkwX4_init_3 ++ dktX4_init_4
def dkwX4_init_2 : List UInt8 := [188, 10, 181, 0, 30, 42, 16, 7, 188, 10, 181, 0, 33, 42, 8, 188, 10, 181, 0, 36, 42, 17, 1, 32]
abbrev dktX4_init_2 : List UInt8 := dkwX4_init_2 ++ dktX4_init_3
def dkwX4_init_1 : List UInt8 := [188, 10, 181, 0, 21, 42, 17, 3, 231, 188, 10, 181, 0, 24, 42, 2, 181, 0, 27, 42, 17, 3, 132]
abbrev dktX4_init_1 : List UInt8 := dkwX4_init_1 ++ dktX4_init_2
def dkwX4_init_0 : List UInt8 := [42, 183, 0, 7, 42, 17, 11, 181, 188, 10, 181, 0, 13, 42, 5, 188, 4, 181, 0, 17, 42, 17, 3, 132]
abbrev dktX4_init_0 : List UInt8 := dkwX4_init_0 ++ dktX4_init_1
theorem dksX4_init_0 : cX4_init.data.toList.drop 0 = dktX4_init_0 := by decide +kernel
theorem dksX4_init_1 : cX4_init.data.toList.drop 24 = dktX4_init_1 := dk_seg dksX4_init_0 24 rfl rfl
theorem dksX4_init_2 : cX4_init.data.toList.drop 47 = dktX4_init_2 := dk_seg dksX4_init_1 23 rfl rfl
theorem dksX4_init_3 : cX4_init.data.toList.drop 71 = dktX4_init_3 := dk_seg dksX4_init_2 24 rfl rfl
theorem dksX4_init_4 : cX4_init.data.toList.drop 93 = dktX4_init_4 := dk_seg dksX4_init_3 22 rfl rfl
theorem dksX4_init_5 : cX4_init.data.toList.drop 117 = dktX4_init_5 := dk_seg dksX4_init_4 24 rfl rfl
theorem dksX4_init_6 : cX4_init.data.toList.drop 140 = dktX4_init_6 := dk_seg dksX4_init_5 23 rfl rfl
theorem dksX4_init_7 : cX4_init.data.toList.drop 163 = dktX4_init_7 := dk_seg dksX4_init_6 23 rfl rfl
theorem dksX4_init_8 : cX4_init.data.toList.drop 186 = dktX4_init_8 := dk_seg dksX4_init_7 23 rfl rfl
theorem dX4_init_0 : decode cX4_init 0 = .ok (.aload_n 0, 1) := dk_42 (dk_at dksX4_init_0 0 rfl rfl)
theorem dX4_init_1 : decode cX4_init 1 = .ok (.invokespecial 7, 3) := dk_183 0 7 (dk_at dksX4_init_0 1 rfl rfl)
theorem dX4_init_4 : decode cX4_init 4 = .ok (.aload_n 0, 1) := dk_42 (dk_at dksX4_init_0 4 rfl rfl)
theorem dX4_init_5 : decode cX4_init 5 = .ok (.sipush 2997, 3) := dk_17 11 181 (dk_at dksX4_init_0 5 rfl rfl)
theorem dX4_init_8 : decode cX4_init 8 = .ok (.newarray .int, 2) := dk_188_10 (dk_at dksX4_init_0 8 rfl rfl)
theorem dX4_init_10 : decode cX4_init 10 = .ok (.putfield 13, 3) := dk_181 0 13 (dk_at dksX4_init_0 10 rfl rfl)
theorem dX4_init_13 : decode cX4_init 13 = .ok (.aload_n 0, 1) := dk_42 (dk_at dksX4_init_0 13 rfl rfl)
theorem dX4_init_14 : decode cX4_init 14 = .ok (.iconst 2, 1) := dk_5 (dk_at dksX4_init_0 14 rfl rfl)
theorem dX4_init_15 : decode cX4_init 15 = .ok (.newarray .boolean, 2) := dk_188_4 (dk_at dksX4_init_0 15 rfl rfl)
theorem dX4_init_17 : decode cX4_init 17 = .ok (.putfield 17, 3) := dk_181 0 17 (dk_at dksX4_init_0 17 rfl rfl)
theorem dX4_init_20 : decode cX4_init 20 = .ok (.aload_n 0, 1) := dk_42 (dk_at dksX4_init_0 20 rfl rfl)
theorem dX4_init_21 : decode cX4_init 21 = .ok (.sipush 900, 3) := dk_17 3 132 (dk_at dksX4_init_0 21 rfl rfl)
theorem dX4_init_24 : decode cX4_init 24 = .ok (.newarray .int, 2) := dk_188_10 (dk_at dksX4_init_1 0 rfl rfl)
theorem dX4_init_26 : decode cX4_init 26 = .ok (.putfield 21, 3) := dk_181 0 21 (dk_at dksX4_init_1 2 rfl rfl)
theorem dX4_init_29 : decode cX4_init 29 = .ok (.aload_n 0, 1) := dk_42 (dk_at dksX4_init_1 5 rfl rfl)
theorem dX4_init_30 : decode cX4_init 30 = .ok (.sipush 999, 3) := dk_17 3 231 (dk_at dksX4_init_1 6 rfl rfl)
theorem dX4_init_33 : decode cX4_init 33 = .ok (.newarray .int, 2) := dk_188_10 (dk_at dksX4_init_1 9 rfl rfl)
theorem dX4_init_35 : decode cX4_init 35 = .ok (.putfield 24, 3) := dk_181 0 24 (dk_at dksX4_init_1 11 rfl rfl)
theorem dX4_init_38 : decode cX4_init 38 = .ok (.aload_n 0, 1) := dk_42 (dk_at dksX4_init_1 14 rfl rfl)
theorem dX4_init_39 : decode cX4_init 39 = .ok (.iconst (-1), 1) := dk_2 (dk_at dksX4_init_1 15 rfl rfl)
theorem dX4_init_40 : decode cX4_init 40 = .ok (.putfield 27, 3) := dk_181 0 27 (dk_at dksX4_init_1 16 rfl rfl)
theorem dX4_init_43 : decode cX4_init 43 = .ok (.aload_n 0, 1) := dk_42 (dk_at dksX4_init_1 19 rfl rfl)
theorem dX4_init_44 : decode cX4_init 44 = .ok (.sipush 900, 3) := dk_17 3 132 (dk_at dksX4_init_1 20 rfl rfl)
theorem dX4_init_47 : decode cX4_init 47 = .ok (.newarray .int, 2) := dk_188_10 (dk_at dksX4_init_2 0 rfl rfl)
theorem dX4_init_49 : decode cX4_init 49 = .ok (.putfield 30, 3) := dk_181 0 30 (dk_at dksX4_init_2 2 rfl rfl)
theorem dX4_init_52 : decode cX4_init 52 = .ok (.aload_n 0, 1) := dk_42 (dk_at dksX4_init_2 5 rfl rfl)
theorem dX4_init_53 : decode cX4_init 53 = .ok (.bipush 7, 2) := dk_16 7 (dk_at dksX4_init_2 6 rfl rfl)
theorem dX4_init_55 : decode cX4_init 55 = .ok (.newarray .int, 2) := dk_188_10 (dk_at dksX4_init_2 8 rfl rfl)
theorem dX4_init_57 : decode cX4_init 57 = .ok (.putfield 33, 3) := dk_181 0 33 (dk_at dksX4_init_2 10 rfl rfl)
theorem dX4_init_60 : decode cX4_init 60 = .ok (.aload_n 0, 1) := dk_42 (dk_at dksX4_init_2 13 rfl rfl)
theorem dX4_init_61 : decode cX4_init 61 = .ok (.iconst 5, 1) := dk_8 (dk_at dksX4_init_2 14 rfl rfl)
theorem dX4_init_62 : decode cX4_init 62 = .ok (.newarray .int, 2) := dk_188_10 (dk_at dksX4_init_2 15 rfl rfl)
theorem dX4_init_64 : decode cX4_init 64 = .ok (.putfield 36, 3) := dk_181 0 36 (dk_at dksX4_init_2 17 rfl rfl)
theorem dX4_init_67 : decode cX4_init 67 = .ok (.aload_n 0, 1) := dk_42 (dk_at dksX4_init_2 20 rfl rfl)
theorem dX4_init_68 : decode cX4_init 68 = .ok (.sipush 288, 3) := dk_17 1 32 (dk_at dksX4_init_2 21 rfl rfl)
theorem dX4_init_71 : decode cX4_init 71 = .ok (.newarray .int, 2) := dk_188_10 (dk_at dksX4_init_3 0 rfl rfl)
theorem dX4_init_73 : decode cX4_init 73 = .ok (.putfield 39, 3) := dk_181 0 39 (dk_at dksX4_init_3 2 rfl rfl)
theorem dX4_init_76 : decode cX4_init 76 = .ok (.aload_n 0, 1) := dk_42 (dk_at dksX4_init_3 5 rfl rfl)
theorem dX4_init_77 : decode cX4_init 77 = .ok (.bipush 36, 2) := dk_16 36 (dk_at dksX4_init_3 6 rfl rfl)
theorem dX4_init_79 : decode cX4_init 79 = .ok (.newarray .int, 2) := dk_188_10 (dk_at dksX4_init_3 8 rfl rfl)
theorem dX4_init_81 : decode cX4_init 81 = .ok (.putfield 42, 3) := dk_181 0 42 (dk_at dksX4_init_3 10 rfl rfl)
theorem dX4_init_84 : decode cX4_init 84 = .ok (.aload_n 0, 1) := dk_42 (dk_at dksX4_init_3 13 rfl rfl)
theorem dX4_init_85 : decode cX4_init 85 = .ok (.bipush 36, 2) := dk_16 36 (dk_at dksX4_init_3 14 rfl rfl)
theorem dX4_init_87 : decode cX4_init 87 = .ok (.newarray .boolean, 2) := dk_188_4 (dk_at dksX4_init_3 16 rfl rfl)
theorem dX4_init_89 : decode cX4_init 89 = .ok (.putfield 45, 3) := dk_181 0 45 (dk_at dksX4_init_3 18 rfl rfl)
theorem dX4_init_92 : decode cX4_init 92 = .ok (.aload_n 0, 1) := dk_42 (dk_at dksX4_init_3 21 rfl rfl)
theorem dX4_init_93 : decode cX4_init 93 = .ok (.sipush 396, 3) := dk_17 1 140 (dk_at dksX4_init_4 0 rfl rfl)
theorem dX4_init_96 : decode cX4_init 96 = .ok (.newarray .long, 2) := dk_188_11 (dk_at dksX4_init_4 3 rfl rfl)
theorem dX4_init_98 : decode cX4_init 98 = .ok (.putfield 48, 3) := dk_181 0 48 (dk_at dksX4_init_4 5 rfl rfl)
theorem dX4_init_101 : decode cX4_init 101 = .ok (.aload_n 0, 1) := dk_42 (dk_at dksX4_init_4 8 rfl rfl)
theorem dX4_init_102 : decode cX4_init 102 = .ok (.bipush 36, 2) := dk_16 36 (dk_at dksX4_init_4 9 rfl rfl)
theorem dX4_init_104 : decode cX4_init 104 = .ok (.newarray .boolean, 2) := dk_188_4 (dk_at dksX4_init_4 11 rfl rfl)
theorem dX4_init_106 : decode cX4_init 106 = .ok (.putfield 52, 3) := dk_181 0 52 (dk_at dksX4_init_4 13 rfl rfl)
theorem dX4_init_109 : decode cX4_init 109 = .ok (.aload_n 0, 1) := dk_42 (dk_at dksX4_init_4 16 rfl rfl)
theorem dX4_init_110 : decode cX4_init 110 = .ok (.bipush 36, 2) := dk_16 36 (dk_at dksX4_init_4 17 rfl rfl)
theorem dX4_init_112 : decode cX4_init 112 = .ok (.newarray .boolean, 2) := dk_188_4 (dk_at dksX4_init_4 19 rfl rfl)
theorem dX4_init_114 : decode cX4_init 114 = .ok (.putfield 55, 3) := dk_181 0 55 (dk_at dksX4_init_4 21 rfl rfl)
theorem dX4_init_117 : decode cX4_init 117 = .ok (.aload_n 0, 1) := dk_42 (dk_at dksX4_init_5 0 rfl rfl)
theorem dX4_init_118 : decode cX4_init 118 = .ok (.bipush 6, 2) := dk_16 6 (dk_at dksX4_init_5 1 rfl rfl)
theorem dX4_init_120 : decode cX4_init 120 = .ok (.newarray .int, 2) := dk_188_10 (dk_at dksX4_init_5 3 rfl rfl)
theorem dX4_init_122 : decode cX4_init 122 = .ok (.putfield 58, 3) := dk_181 0 58 (dk_at dksX4_init_5 5 rfl rfl)
theorem dX4_init_125 : decode cX4_init 125 = .ok (.aload_n 0, 1) := dk_42 (dk_at dksX4_init_5 8 rfl rfl)
theorem dX4_init_126 : decode cX4_init 126 = .ok (.sipush 360, 3) := dk_17 1 104 (dk_at dksX4_init_5 9 rfl rfl)
theorem dX4_init_129 : decode cX4_init 129 = .ok (.newarray .boolean, 2) := dk_188_4 (dk_at dksX4_init_5 12 rfl rfl)
theorem dX4_init_131 : decode cX4_init 131 = .ok (.putfield 61, 3) := dk_181 0 61 (dk_at dksX4_init_5 14 rfl rfl)
theorem dX4_init_134 : decode cX4_init 134 = .ok (.aload_n 0, 1) := dk_42 (dk_at dksX4_init_5 17 rfl rfl)
theorem dX4_init_135 : decode cX4_init 135 = .ok (.sipush 324, 3) := dk_17 1 68 (dk_at dksX4_init_5 18 rfl rfl)
theorem dX4_init_138 : decode cX4_init 138 = .ok (.newarray .int, 2) := dk_188_10 (dk_at dksX4_init_5 21 rfl rfl)
theorem dX4_init_140 : decode cX4_init 140 = .ok (.putfield 64, 3) := dk_181 0 64 (dk_at dksX4_init_6 0 rfl rfl)
theorem dX4_init_143 : decode cX4_init 143 = .ok (.aload_n 0, 1) := dk_42 (dk_at dksX4_init_6 3 rfl rfl)
theorem dX4_init_144 : decode cX4_init 144 = .ok (.iconst 4, 1) := dk_7 (dk_at dksX4_init_6 4 rfl rfl)
theorem dX4_init_145 : decode cX4_init 145 = .ok (.newarray .int, 2) := dk_188_10 (dk_at dksX4_init_6 5 rfl rfl)
theorem dX4_init_147 : decode cX4_init 147 = .ok (.dup, 1) := dk_89 (dk_at dksX4_init_6 7 rfl rfl)
theorem dX4_init_148 : decode cX4_init 148 = .ok (.iconst 0, 1) := dk_3 (dk_at dksX4_init_6 8 rfl rfl)
theorem dX4_init_149 : decode cX4_init 149 = .ok (.iconst (-1), 1) := dk_2 (dk_at dksX4_init_6 9 rfl rfl)
theorem dX4_init_150 : decode cX4_init 150 = .ok (.iastore, 1) := dk_79 (dk_at dksX4_init_6 10 rfl rfl)
theorem dX4_init_151 : decode cX4_init 151 = .ok (.dup, 1) := dk_89 (dk_at dksX4_init_6 11 rfl rfl)
theorem dX4_init_152 : decode cX4_init 152 = .ok (.iconst 1, 1) := dk_4 (dk_at dksX4_init_6 12 rfl rfl)
theorem dX4_init_153 : decode cX4_init 153 = .ok (.iconst (-1), 1) := dk_2 (dk_at dksX4_init_6 13 rfl rfl)
theorem dX4_init_154 : decode cX4_init 154 = .ok (.iastore, 1) := dk_79 (dk_at dksX4_init_6 14 rfl rfl)
theorem dX4_init_155 : decode cX4_init 155 = .ok (.dup, 1) := dk_89 (dk_at dksX4_init_6 15 rfl rfl)
theorem dX4_init_156 : decode cX4_init 156 = .ok (.iconst 2, 1) := dk_5 (dk_at dksX4_init_6 16 rfl rfl)
theorem dX4_init_157 : decode cX4_init 157 = .ok (.iconst (-1), 1) := dk_2 (dk_at dksX4_init_6 17 rfl rfl)
theorem dX4_init_158 : decode cX4_init 158 = .ok (.iastore, 1) := dk_79 (dk_at dksX4_init_6 18 rfl rfl)
theorem dX4_init_159 : decode cX4_init 159 = .ok (.dup, 1) := dk_89 (dk_at dksX4_init_6 19 rfl rfl)
theorem dX4_init_160 : decode cX4_init 160 = .ok (.iconst 3, 1) := dk_6 (dk_at dksX4_init_6 20 rfl rfl)
theorem dX4_init_161 : decode cX4_init 161 = .ok (.iconst (-1), 1) := dk_2 (dk_at dksX4_init_6 21 rfl rfl)
theorem dX4_init_162 : decode cX4_init 162 = .ok (.iastore, 1) := dk_79 (dk_at dksX4_init_6 22 rfl rfl)
theorem dX4_init_163 : decode cX4_init 163 = .ok (.putfield 67, 3) := dk_181 0 67 (dk_at dksX4_init_7 0 rfl rfl)
theorem dX4_init_166 : decode cX4_init 166 = .ok (.aload_n 0, 1) := dk_42 (dk_at dksX4_init_7 3 rfl rfl)
theorem dX4_init_167 : decode cX4_init 167 = .ok (.iconst 4, 1) := dk_7 (dk_at dksX4_init_7 4 rfl rfl)
theorem dX4_init_168 : decode cX4_init 168 = .ok (.newarray .int, 2) := dk_188_10 (dk_at dksX4_init_7 5 rfl rfl)
theorem dX4_init_170 : decode cX4_init 170 = .ok (.putfield 70, 3) := dk_181 0 70 (dk_at dksX4_init_7 7 rfl rfl)
theorem dX4_init_173 : decode cX4_init 173 = .ok (.aload_n 0, 1) := dk_42 (dk_at dksX4_init_7 10 rfl rfl)
theorem dX4_init_174 : decode cX4_init 174 = .ok (.sipush 160, 3) := dk_17 0 160 (dk_at dksX4_init_7 11 rfl rfl)
theorem dX4_init_177 : decode cX4_init 177 = .ok (.newarray .long, 2) := dk_188_11 (dk_at dksX4_init_7 14 rfl rfl)
theorem dX4_init_179 : decode cX4_init 179 = .ok (.putfield 73, 3) := dk_181 0 73 (dk_at dksX4_init_7 16 rfl rfl)
theorem dX4_init_182 : decode cX4_init 182 = .ok (.aload_n 0, 1) := dk_42 (dk_at dksX4_init_7 19 rfl rfl)
theorem dX4_init_183 : decode cX4_init 183 = .ok (.getfield 13, 3) := dk_180 0 13 (dk_at dksX4_init_7 20 rfl rfl)
theorem dX4_init_186 : decode cX4_init 186 = .ok (.invokestatic 76, 3) := dk_184 0 76 (dk_at dksX4_init_8 0 rfl rfl)
theorem dX4_init_189 : decode cX4_init 189 = .ok (.return_, 1) := dk_177 (dk_at dksX4_init_8 3 rfl rfl)
abbrev cX4_plain : ByteArray := prog_16_method_4_code
def yX4_plain : MethodName := ⟨RX4, "plain", "([I)V"⟩
def dkwX4_plain_0 : List UInt8 := [3, 60, 27, 17, 3, 231, 162, 0, 13, 42, 27, 3, 79, 132, 1, 1, 167, 255, 242, 42, 4, 4, 79, 177]
abbrev dktX4_plain_0 : List UInt8 := dkwX4_plain_0 ++ []
theorem dksX4_plain_0 : cX4_plain.data.toList.drop 0 = dktX4_plain_0 := by decide +kernel
theorem dX4_plain_0 : decode cX4_plain 0 = .ok (.iconst 0, 1) := dk_3 (dk_at dksX4_plain_0 0 rfl rfl)
theorem dX4_plain_1 : decode cX4_plain 1 = .ok (.istore_n 1, 1) := dk_60 (dk_at dksX4_plain_0 1 rfl rfl)
theorem dX4_plain_2 : decode cX4_plain 2 = .ok (.iload_n 1, 1) := dk_27 (dk_at dksX4_plain_0 2 rfl rfl)
theorem dX4_plain_3 : decode cX4_plain 3 = .ok (.sipush 999, 3) := dk_17 3 231 (dk_at dksX4_plain_0 3 rfl rfl)
theorem dX4_plain_6 : decode cX4_plain 6 = .ok (.if_icmp .ge 13, 3) := dk_162 0 13 (dk_at dksX4_plain_0 6 rfl rfl)
theorem dX4_plain_9 : decode cX4_plain 9 = .ok (.aload_n 0, 1) := dk_42 (dk_at dksX4_plain_0 9 rfl rfl)
theorem dX4_plain_10 : decode cX4_plain 10 = .ok (.iload_n 1, 1) := dk_27 (dk_at dksX4_plain_0 10 rfl rfl)
theorem dX4_plain_11 : decode cX4_plain 11 = .ok (.iconst 0, 1) := dk_3 (dk_at dksX4_plain_0 11 rfl rfl)
theorem dX4_plain_12 : decode cX4_plain 12 = .ok (.iastore, 1) := dk_79 (dk_at dksX4_plain_0 12 rfl rfl)
theorem dX4_plain_13 : decode cX4_plain 13 = .ok (.iinc 1 1, 3) := dk_132 1 1 (dk_at dksX4_plain_0 13 rfl rfl)
theorem dX4_plain_16 : decode cX4_plain 16 = .ok (.goto (-14), 3) := dk_167 255 242 (dk_at dksX4_plain_0 16 rfl rfl)
theorem dX4_plain_19 : decode cX4_plain 19 = .ok (.aload_n 0, 1) := dk_42 (dk_at dksX4_plain_0 19 rfl rfl)
theorem dX4_plain_20 : decode cX4_plain 20 = .ok (.iconst 1, 1) := dk_4 (dk_at dksX4_plain_0 20 rfl rfl)
theorem dX4_plain_21 : decode cX4_plain 21 = .ok (.iconst 1, 1) := dk_4 (dk_at dksX4_plain_0 21 rfl rfl)
theorem dX4_plain_22 : decode cX4_plain 22 = .ok (.iastore, 1) := dk_79 (dk_at dksX4_plain_0 22 rfl rfl)
theorem dX4_plain_23 : decode cX4_plain 23 = .ok (.return_, 1) := dk_177 (dk_at dksX4_plain_0 23 rfl rfl)
abbrev cX4_feed : ByteArray := prog_16_method_5_code
def yX4_feed : MethodName := ⟨RX4, "feed", "(IIIII)I"⟩
def dkwX4_feed_5 : List UInt8 := [167, 255, 162, 42, 180, 0, 80, 172]
abbrev dktX4_feed_5 : List UInt8 := dkwX4_feed_5 ++ []
def dkwX4_feed_4 : List UInt8 := [112, 104, 100, 122, 17, 0, 255, 126, 79, 42, 89, 180, 0, 80, 4, 96, 181, 0, 80, 132, 6, 1]
abbrev dktX4_feed_4 : List UInt8 := dkwX4_feed_4 ++ dktX4_feed_5
def dkwX4_feed_3 : List UInt8 := [167, 0, 5, 21, 5, 54, 7, 42, 180, 0, 21, 42, 180, 0, 80, 21, 7, 16, 24, 16, 8, 21, 6, 7]
abbrev dktX4_feed_3 : List UInt8 := dkwX4_feed_3 ++ dktX4_feed_4
def dkwX4_feed_2 : List UInt8 := [28, 167, 0, 28, 21, 6, 16, 12, 162, 0, 7, 29, 167, 0, 17, 21, 6, 16, 16, 162, 0, 8, 21, 4]
abbrev dktX4_feed_2 : List UInt8 := dkwX4_feed_2 ++ dktX4_feed_3
def dkwX4_feed_1 : List UInt8 := [21, 6, 16, 20, 162, 0, 93, 21, 6, 7, 162, 0, 7, 27, 167, 0, 39, 21, 6, 16, 8, 162, 0, 7]
abbrev dktX4_feed_1 : List UInt8 := dkwX4_feed_1 ++ dktX4_feed_2
def dkwX4_feed_0 : List UInt8 := [42, 3, 181, 0, 1, 42, 180, 0, 80, 16, 20, 96, 17, 3, 132, 164, 0, 6, 16, 251, 172, 3, 54, 6]
abbrev dktX4_feed_0 : List UInt8 := dkwX4_feed_0 ++ dktX4_feed_1
theorem dksX4_feed_0 : cX4_feed.data.toList.drop 0 = dktX4_feed_0 := by decide +kernel
theorem dksX4_feed_1 : cX4_feed.data.toList.drop 24 = dktX4_feed_1 := dk_seg dksX4_feed_0 24 rfl rfl
theorem dksX4_feed_2 : cX4_feed.data.toList.drop 48 = dktX4_feed_2 := dk_seg dksX4_feed_1 24 rfl rfl
theorem dksX4_feed_3 : cX4_feed.data.toList.drop 72 = dktX4_feed_3 := dk_seg dksX4_feed_2 24 rfl rfl
theorem dksX4_feed_4 : cX4_feed.data.toList.drop 96 = dktX4_feed_4 := dk_seg dksX4_feed_3 24 rfl rfl
theorem dksX4_feed_5 : cX4_feed.data.toList.drop 118 = dktX4_feed_5 := dk_seg dksX4_feed_4 22 rfl rfl
theorem dX4_feed_0 : decode cX4_feed 0 = .ok (.aload_n 0, 1) := dk_42 (dk_at dksX4_feed_0 0 rfl rfl)
theorem dX4_feed_1 : decode cX4_feed 1 = .ok (.iconst 0, 1) := dk_3 (dk_at dksX4_feed_0 1 rfl rfl)
theorem dX4_feed_2 : decode cX4_feed 2 = .ok (.putfield 1, 3) := dk_181 0 1 (dk_at dksX4_feed_0 2 rfl rfl)
theorem dX4_feed_5 : decode cX4_feed 5 = .ok (.aload_n 0, 1) := dk_42 (dk_at dksX4_feed_0 5 rfl rfl)
theorem dX4_feed_6 : decode cX4_feed 6 = .ok (.getfield 80, 3) := dk_180 0 80 (dk_at dksX4_feed_0 6 rfl rfl)
theorem dX4_feed_9 : decode cX4_feed 9 = .ok (.bipush 20, 2) := dk_16 20 (dk_at dksX4_feed_0 9 rfl rfl)
theorem dX4_feed_11 : decode cX4_feed 11 = .ok (.iadd, 1) := dk_96 (dk_at dksX4_feed_0 11 rfl rfl)
theorem dX4_feed_12 : decode cX4_feed 12 = .ok (.sipush 900, 3) := dk_17 3 132 (dk_at dksX4_feed_0 12 rfl rfl)
theorem dX4_feed_15 : decode cX4_feed 15 = .ok (.if_icmp .le 6, 3) := dk_164 0 6 (dk_at dksX4_feed_0 15 rfl rfl)
theorem dX4_feed_18 : decode cX4_feed 18 = .ok (.bipush (-5), 2) := dk_16 251 (dk_at dksX4_feed_0 18 rfl rfl)
theorem dX4_feed_20 : decode cX4_feed 20 = .ok (.ireturn, 1) := dk_172 (dk_at dksX4_feed_0 20 rfl rfl)
theorem dX4_feed_21 : decode cX4_feed 21 = .ok (.iconst 0, 1) := dk_3 (dk_at dksX4_feed_0 21 rfl rfl)
theorem dX4_feed_22 : decode cX4_feed 22 = .ok (.istore 6, 2) := dk_54 6 (dk_at dksX4_feed_0 22 rfl rfl)
theorem dX4_feed_24 : decode cX4_feed 24 = .ok (.iload 6, 2) := dk_21 6 (dk_at dksX4_feed_1 0 rfl rfl)
theorem dX4_feed_26 : decode cX4_feed 26 = .ok (.bipush 20, 2) := dk_16 20 (dk_at dksX4_feed_1 2 rfl rfl)
theorem dX4_feed_28 : decode cX4_feed 28 = .ok (.if_icmp .ge 93, 3) := dk_162 0 93 (dk_at dksX4_feed_1 4 rfl rfl)
theorem dX4_feed_31 : decode cX4_feed 31 = .ok (.iload 6, 2) := dk_21 6 (dk_at dksX4_feed_1 7 rfl rfl)
theorem dX4_feed_33 : decode cX4_feed 33 = .ok (.iconst 4, 1) := dk_7 (dk_at dksX4_feed_1 9 rfl rfl)
theorem dX4_feed_34 : decode cX4_feed 34 = .ok (.if_icmp .ge 7, 3) := dk_162 0 7 (dk_at dksX4_feed_1 10 rfl rfl)
theorem dX4_feed_37 : decode cX4_feed 37 = .ok (.iload_n 1, 1) := dk_27 (dk_at dksX4_feed_1 13 rfl rfl)
theorem dX4_feed_38 : decode cX4_feed 38 = .ok (.goto 39, 3) := dk_167 0 39 (dk_at dksX4_feed_1 14 rfl rfl)
theorem dX4_feed_41 : decode cX4_feed 41 = .ok (.iload 6, 2) := dk_21 6 (dk_at dksX4_feed_1 17 rfl rfl)
theorem dX4_feed_43 : decode cX4_feed 43 = .ok (.bipush 8, 2) := dk_16 8 (dk_at dksX4_feed_1 19 rfl rfl)
theorem dX4_feed_45 : decode cX4_feed 45 = .ok (.if_icmp .ge 7, 3) := dk_162 0 7 (dk_at dksX4_feed_1 21 rfl rfl)
theorem dX4_feed_48 : decode cX4_feed 48 = .ok (.iload_n 2, 1) := dk_28 (dk_at dksX4_feed_2 0 rfl rfl)
theorem dX4_feed_49 : decode cX4_feed 49 = .ok (.goto 28, 3) := dk_167 0 28 (dk_at dksX4_feed_2 1 rfl rfl)
theorem dX4_feed_52 : decode cX4_feed 52 = .ok (.iload 6, 2) := dk_21 6 (dk_at dksX4_feed_2 4 rfl rfl)
theorem dX4_feed_54 : decode cX4_feed 54 = .ok (.bipush 12, 2) := dk_16 12 (dk_at dksX4_feed_2 6 rfl rfl)
theorem dX4_feed_56 : decode cX4_feed 56 = .ok (.if_icmp .ge 7, 3) := dk_162 0 7 (dk_at dksX4_feed_2 8 rfl rfl)
theorem dX4_feed_59 : decode cX4_feed 59 = .ok (.iload_n 3, 1) := dk_29 (dk_at dksX4_feed_2 11 rfl rfl)
theorem dX4_feed_60 : decode cX4_feed 60 = .ok (.goto 17, 3) := dk_167 0 17 (dk_at dksX4_feed_2 12 rfl rfl)
theorem dX4_feed_63 : decode cX4_feed 63 = .ok (.iload 6, 2) := dk_21 6 (dk_at dksX4_feed_2 15 rfl rfl)
theorem dX4_feed_65 : decode cX4_feed 65 = .ok (.bipush 16, 2) := dk_16 16 (dk_at dksX4_feed_2 17 rfl rfl)
theorem dX4_feed_67 : decode cX4_feed 67 = .ok (.if_icmp .ge 8, 3) := dk_162 0 8 (dk_at dksX4_feed_2 19 rfl rfl)
theorem dX4_feed_70 : decode cX4_feed 70 = .ok (.iload 4, 2) := dk_21 4 (dk_at dksX4_feed_2 22 rfl rfl)
theorem dX4_feed_72 : decode cX4_feed 72 = .ok (.goto 5, 3) := dk_167 0 5 (dk_at dksX4_feed_3 0 rfl rfl)
theorem dX4_feed_75 : decode cX4_feed 75 = .ok (.iload 5, 2) := dk_21 5 (dk_at dksX4_feed_3 3 rfl rfl)
theorem dX4_feed_77 : decode cX4_feed 77 = .ok (.istore 7, 2) := dk_54 7 (dk_at dksX4_feed_3 5 rfl rfl)
theorem dX4_feed_79 : decode cX4_feed 79 = .ok (.aload_n 0, 1) := dk_42 (dk_at dksX4_feed_3 7 rfl rfl)
theorem dX4_feed_80 : decode cX4_feed 80 = .ok (.getfield 21, 3) := dk_180 0 21 (dk_at dksX4_feed_3 8 rfl rfl)
theorem dX4_feed_83 : decode cX4_feed 83 = .ok (.aload_n 0, 1) := dk_42 (dk_at dksX4_feed_3 11 rfl rfl)
theorem dX4_feed_84 : decode cX4_feed 84 = .ok (.getfield 80, 3) := dk_180 0 80 (dk_at dksX4_feed_3 12 rfl rfl)
theorem dX4_feed_87 : decode cX4_feed 87 = .ok (.iload 7, 2) := dk_21 7 (dk_at dksX4_feed_3 15 rfl rfl)
theorem dX4_feed_89 : decode cX4_feed 89 = .ok (.bipush 24, 2) := dk_16 24 (dk_at dksX4_feed_3 17 rfl rfl)
theorem dX4_feed_91 : decode cX4_feed 91 = .ok (.bipush 8, 2) := dk_16 8 (dk_at dksX4_feed_3 19 rfl rfl)
theorem dX4_feed_93 : decode cX4_feed 93 = .ok (.iload 6, 2) := dk_21 6 (dk_at dksX4_feed_3 21 rfl rfl)
theorem dX4_feed_95 : decode cX4_feed 95 = .ok (.iconst 4, 1) := dk_7 (dk_at dksX4_feed_3 23 rfl rfl)
theorem dX4_feed_96 : decode cX4_feed 96 = .ok (.irem, 1) := dk_112 (dk_at dksX4_feed_4 0 rfl rfl)
theorem dX4_feed_97 : decode cX4_feed 97 = .ok (.imul, 1) := dk_104 (dk_at dksX4_feed_4 1 rfl rfl)
theorem dX4_feed_98 : decode cX4_feed 98 = .ok (.isub, 1) := dk_100 (dk_at dksX4_feed_4 2 rfl rfl)
theorem dX4_feed_99 : decode cX4_feed 99 = .ok (.ishr, 1) := dk_122 (dk_at dksX4_feed_4 3 rfl rfl)
theorem dX4_feed_100 : decode cX4_feed 100 = .ok (.sipush 255, 3) := dk_17 0 255 (dk_at dksX4_feed_4 4 rfl rfl)
theorem dX4_feed_103 : decode cX4_feed 103 = .ok (.iand, 1) := dk_126 (dk_at dksX4_feed_4 7 rfl rfl)
theorem dX4_feed_104 : decode cX4_feed 104 = .ok (.iastore, 1) := dk_79 (dk_at dksX4_feed_4 8 rfl rfl)
theorem dX4_feed_105 : decode cX4_feed 105 = .ok (.aload_n 0, 1) := dk_42 (dk_at dksX4_feed_4 9 rfl rfl)
theorem dX4_feed_106 : decode cX4_feed 106 = .ok (.dup, 1) := dk_89 (dk_at dksX4_feed_4 10 rfl rfl)
theorem dX4_feed_107 : decode cX4_feed 107 = .ok (.getfield 80, 3) := dk_180 0 80 (dk_at dksX4_feed_4 11 rfl rfl)
theorem dX4_feed_110 : decode cX4_feed 110 = .ok (.iconst 1, 1) := dk_4 (dk_at dksX4_feed_4 14 rfl rfl)
theorem dX4_feed_111 : decode cX4_feed 111 = .ok (.iadd, 1) := dk_96 (dk_at dksX4_feed_4 15 rfl rfl)
theorem dX4_feed_112 : decode cX4_feed 112 = .ok (.putfield 80, 3) := dk_181 0 80 (dk_at dksX4_feed_4 16 rfl rfl)
theorem dX4_feed_115 : decode cX4_feed 115 = .ok (.iinc 6 1, 3) := dk_132 6 1 (dk_at dksX4_feed_4 19 rfl rfl)
theorem dX4_feed_118 : decode cX4_feed 118 = .ok (.goto (-94), 3) := dk_167 255 162 (dk_at dksX4_feed_5 0 rfl rfl)
theorem dX4_feed_121 : decode cX4_feed 121 = .ok (.aload_n 0, 1) := dk_42 (dk_at dksX4_feed_5 3 rfl rfl)
theorem dX4_feed_122 : decode cX4_feed 122 = .ok (.getfield 80, 3) := dk_180 0 80 (dk_at dksX4_feed_5 4 rfl rfl)
theorem dX4_feed_125 : decode cX4_feed 125 = .ok (.ireturn, 1) := dk_172 (dk_at dksX4_feed_5 7 rfl rfl)
abbrev cX4_cave : ByteArray := prog_16_method_32_code
def yX4_cave : MethodName := ⟨RX4, "cave", "(I)I"⟩
def dkwX4_cave_8 : List UInt8 := [42, 180, 0, 13, 3, 46, 172]
abbrev dktX4_cave_8 : List UInt8 := dkwX4_cave_8 ++ []
def dkwX4_cave_7 : List UInt8 := [17, 3, 231, 162, 0, 21, 42, 180, 0, 13, 28, 42, 180, 0, 24, 28, 46, 79, 132, 2, 1, 167, 255, 234]
abbrev dktX4_cave_7 : List UInt8 := dkwX4_cave_7 ++ dktX4_cave_8
def dkwX4_cave_6 : List UInt8 := [180, 0, 129, 181, 0, 27, 42, 180, 0, 126, 153, 0, 11, 16, 226, 42, 180, 0, 126, 100, 172, 3, 61, 28]
abbrev dktX4_cave_6 : List UInt8 := dkwX4_cave_6 ++ dktX4_cave_7
def dkwX4_cave_5 : List UInt8 := [167, 255, 232, 42, 42, 180, 0, 126, 181, 0, 204, 42, 42, 180, 0, 126, 154, 0, 7, 2, 167, 0, 7, 42]
abbrev dktX4_cave_5 : List UInt8 := dkwX4_cave_5 ++ dktX4_cave_6
def dkwX4_cave_4 : List UInt8 := [180, 0, 126, 154, 0, 23, 42, 180, 0, 108, 16, 24, 159, 0, 14, 42, 182, 0, 201, 42, 182, 0, 198]
abbrev dktX4_cave_4 : List UInt8 := dkwX4_cave_4 ++ dktX4_cave_5
def dkwX4_cave_3 : List UInt8 := [5, 182, 0, 138, 42, 180, 0, 24, 4, 42, 4, 16, 6, 182, 0, 182, 79, 42, 182, 0, 198, 42]
abbrev dktX4_cave_3 : List UInt8 := dkwX4_cave_3 ++ dktX4_cave_4
def dkwX4_cave_2 : List UInt8 := [184, 0, 76, 42, 182, 0, 135, 42, 3, 182, 0, 161, 153, 0, 11, 42, 4, 182, 0, 161, 154, 0, 8, 42]
abbrev dktX4_cave_2 : List UInt8 := dkwX4_cave_2 ++ dktX4_cave_3
def dkwX4_cave_1 : List UInt8 := [181, 0, 83, 42, 3, 181, 0, 80, 42, 3, 181, 0, 101, 42, 3, 181, 0, 126, 42, 180, 0, 24]
abbrev dktX4_cave_1 : List UInt8 := dkwX4_cave_1 ++ dktX4_cave_2
def dkwX4_cave_0 : List UInt8 := [42, 3, 181, 0, 1, 27, 133, 9, 42, 180, 0, 80, 133, 184, 0, 142, 154, 0, 6, 16, 253, 172, 42, 27]
abbrev dktX4_cave_0 : List UInt8 := dkwX4_cave_0 ++ dktX4_cave_1
theorem dksX4_cave_0 : cX4_cave.data.toList.drop 0 = dktX4_cave_0 := by decide +kernel
theorem dksX4_cave_1 : cX4_cave.data.toList.drop 24 = dktX4_cave_1 := dk_seg dksX4_cave_0 24 rfl rfl
theorem dksX4_cave_2 : cX4_cave.data.toList.drop 46 = dktX4_cave_2 := dk_seg dksX4_cave_1 22 rfl rfl
theorem dksX4_cave_3 : cX4_cave.data.toList.drop 70 = dktX4_cave_3 := dk_seg dksX4_cave_2 24 rfl rfl
theorem dksX4_cave_4 : cX4_cave.data.toList.drop 92 = dktX4_cave_4 := dk_seg dksX4_cave_3 22 rfl rfl
theorem dksX4_cave_5 : cX4_cave.data.toList.drop 115 = dktX4_cave_5 := dk_seg dksX4_cave_4 23 rfl rfl
theorem dksX4_cave_6 : cX4_cave.data.toList.drop 139 = dktX4_cave_6 := dk_seg dksX4_cave_5 24 rfl rfl
theorem dksX4_cave_7 : cX4_cave.data.toList.drop 163 = dktX4_cave_7 := dk_seg dksX4_cave_6 24 rfl rfl
theorem dksX4_cave_8 : cX4_cave.data.toList.drop 187 = dktX4_cave_8 := dk_seg dksX4_cave_7 24 rfl rfl
theorem dX4_cave_0 : decode cX4_cave 0 = .ok (.aload_n 0, 1) := dk_42 (dk_at dksX4_cave_0 0 rfl rfl)
theorem dX4_cave_1 : decode cX4_cave 1 = .ok (.iconst 0, 1) := dk_3 (dk_at dksX4_cave_0 1 rfl rfl)
theorem dX4_cave_2 : decode cX4_cave 2 = .ok (.putfield 1, 3) := dk_181 0 1 (dk_at dksX4_cave_0 2 rfl rfl)
theorem dX4_cave_5 : decode cX4_cave 5 = .ok (.iload_n 1, 1) := dk_27 (dk_at dksX4_cave_0 5 rfl rfl)
theorem dX4_cave_6 : decode cX4_cave 6 = .ok (.i2l, 1) := dk_133 (dk_at dksX4_cave_0 6 rfl rfl)
theorem dX4_cave_7 : decode cX4_cave 7 = .ok (.lconst 0, 1) := dk_9 (dk_at dksX4_cave_0 7 rfl rfl)
theorem dX4_cave_8 : decode cX4_cave 8 = .ok (.aload_n 0, 1) := dk_42 (dk_at dksX4_cave_0 8 rfl rfl)
theorem dX4_cave_9 : decode cX4_cave 9 = .ok (.getfield 80, 3) := dk_180 0 80 (dk_at dksX4_cave_0 9 rfl rfl)
theorem dX4_cave_12 : decode cX4_cave 12 = .ok (.i2l, 1) := dk_133 (dk_at dksX4_cave_0 12 rfl rfl)
theorem dX4_cave_13 : decode cX4_cave 13 = .ok (.invokestatic 142, 3) := dk_184 0 142 (dk_at dksX4_cave_0 13 rfl rfl)
theorem dX4_cave_16 : decode cX4_cave 16 = .ok (.ifCond .ne 6, 3) := dk_154 0 6 (dk_at dksX4_cave_0 16 rfl rfl)
theorem dX4_cave_19 : decode cX4_cave 19 = .ok (.bipush (-3), 2) := dk_16 253 (dk_at dksX4_cave_0 19 rfl rfl)
theorem dX4_cave_21 : decode cX4_cave 21 = .ok (.ireturn, 1) := dk_172 (dk_at dksX4_cave_0 21 rfl rfl)
theorem dX4_cave_22 : decode cX4_cave 22 = .ok (.aload_n 0, 1) := dk_42 (dk_at dksX4_cave_0 22 rfl rfl)
theorem dX4_cave_23 : decode cX4_cave 23 = .ok (.iload_n 1, 1) := dk_27 (dk_at dksX4_cave_0 23 rfl rfl)
theorem dX4_cave_24 : decode cX4_cave 24 = .ok (.putfield 83, 3) := dk_181 0 83 (dk_at dksX4_cave_1 0 rfl rfl)
theorem dX4_cave_27 : decode cX4_cave 27 = .ok (.aload_n 0, 1) := dk_42 (dk_at dksX4_cave_1 3 rfl rfl)
theorem dX4_cave_28 : decode cX4_cave 28 = .ok (.iconst 0, 1) := dk_3 (dk_at dksX4_cave_1 4 rfl rfl)
theorem dX4_cave_29 : decode cX4_cave 29 = .ok (.putfield 80, 3) := dk_181 0 80 (dk_at dksX4_cave_1 5 rfl rfl)
theorem dX4_cave_32 : decode cX4_cave 32 = .ok (.aload_n 0, 1) := dk_42 (dk_at dksX4_cave_1 8 rfl rfl)
theorem dX4_cave_33 : decode cX4_cave 33 = .ok (.iconst 0, 1) := dk_3 (dk_at dksX4_cave_1 9 rfl rfl)
theorem dX4_cave_34 : decode cX4_cave 34 = .ok (.putfield 101, 3) := dk_181 0 101 (dk_at dksX4_cave_1 10 rfl rfl)
theorem dX4_cave_37 : decode cX4_cave 37 = .ok (.aload_n 0, 1) := dk_42 (dk_at dksX4_cave_1 13 rfl rfl)
theorem dX4_cave_38 : decode cX4_cave 38 = .ok (.iconst 0, 1) := dk_3 (dk_at dksX4_cave_1 14 rfl rfl)
theorem dX4_cave_39 : decode cX4_cave 39 = .ok (.putfield 126, 3) := dk_181 0 126 (dk_at dksX4_cave_1 15 rfl rfl)
theorem dX4_cave_42 : decode cX4_cave 42 = .ok (.aload_n 0, 1) := dk_42 (dk_at dksX4_cave_1 18 rfl rfl)
theorem dX4_cave_43 : decode cX4_cave 43 = .ok (.getfield 24, 3) := dk_180 0 24 (dk_at dksX4_cave_1 19 rfl rfl)
theorem dX4_cave_46 : decode cX4_cave 46 = .ok (.invokestatic 76, 3) := dk_184 0 76 (dk_at dksX4_cave_2 0 rfl rfl)
theorem dX4_cave_49 : decode cX4_cave 49 = .ok (.aload_n 0, 1) := dk_42 (dk_at dksX4_cave_2 3 rfl rfl)
theorem dX4_cave_50 : decode cX4_cave 50 = .ok (.invokevirtual 135, 3) := dk_182 0 135 (dk_at dksX4_cave_2 4 rfl rfl)
theorem dX4_cave_53 : decode cX4_cave 53 = .ok (.aload_n 0, 1) := dk_42 (dk_at dksX4_cave_2 7 rfl rfl)
theorem dX4_cave_54 : decode cX4_cave 54 = .ok (.iconst 0, 1) := dk_3 (dk_at dksX4_cave_2 8 rfl rfl)
theorem dX4_cave_55 : decode cX4_cave 55 = .ok (.invokevirtual 161, 3) := dk_182 0 161 (dk_at dksX4_cave_2 9 rfl rfl)
theorem dX4_cave_58 : decode cX4_cave 58 = .ok (.ifCond .eq 11, 3) := dk_153 0 11 (dk_at dksX4_cave_2 12 rfl rfl)
theorem dX4_cave_61 : decode cX4_cave 61 = .ok (.aload_n 0, 1) := dk_42 (dk_at dksX4_cave_2 15 rfl rfl)
theorem dX4_cave_62 : decode cX4_cave 62 = .ok (.iconst 1, 1) := dk_4 (dk_at dksX4_cave_2 16 rfl rfl)
theorem dX4_cave_63 : decode cX4_cave 63 = .ok (.invokevirtual 161, 3) := dk_182 0 161 (dk_at dksX4_cave_2 17 rfl rfl)
theorem dX4_cave_66 : decode cX4_cave 66 = .ok (.ifCond .ne 8, 3) := dk_154 0 8 (dk_at dksX4_cave_2 20 rfl rfl)
theorem dX4_cave_69 : decode cX4_cave 69 = .ok (.aload_n 0, 1) := dk_42 (dk_at dksX4_cave_2 23 rfl rfl)
theorem dX4_cave_70 : decode cX4_cave 70 = .ok (.iconst 2, 1) := dk_5 (dk_at dksX4_cave_3 0 rfl rfl)
theorem dX4_cave_71 : decode cX4_cave 71 = .ok (.invokevirtual 138, 3) := dk_182 0 138 (dk_at dksX4_cave_3 1 rfl rfl)
theorem dX4_cave_74 : decode cX4_cave 74 = .ok (.aload_n 0, 1) := dk_42 (dk_at dksX4_cave_3 4 rfl rfl)
theorem dX4_cave_75 : decode cX4_cave 75 = .ok (.getfield 24, 3) := dk_180 0 24 (dk_at dksX4_cave_3 5 rfl rfl)
theorem dX4_cave_78 : decode cX4_cave 78 = .ok (.iconst 1, 1) := dk_4 (dk_at dksX4_cave_3 8 rfl rfl)
theorem dX4_cave_79 : decode cX4_cave 79 = .ok (.aload_n 0, 1) := dk_42 (dk_at dksX4_cave_3 9 rfl rfl)
theorem dX4_cave_80 : decode cX4_cave 80 = .ok (.iconst 1, 1) := dk_4 (dk_at dksX4_cave_3 10 rfl rfl)
theorem dX4_cave_81 : decode cX4_cave 81 = .ok (.bipush 6, 2) := dk_16 6 (dk_at dksX4_cave_3 11 rfl rfl)
theorem dX4_cave_83 : decode cX4_cave 83 = .ok (.invokevirtual 182, 3) := dk_182 0 182 (dk_at dksX4_cave_3 13 rfl rfl)
theorem dX4_cave_86 : decode cX4_cave 86 = .ok (.iastore, 1) := dk_79 (dk_at dksX4_cave_3 16 rfl rfl)
theorem dX4_cave_87 : decode cX4_cave 87 = .ok (.aload_n 0, 1) := dk_42 (dk_at dksX4_cave_3 17 rfl rfl)
theorem dX4_cave_88 : decode cX4_cave 88 = .ok (.invokevirtual 198, 3) := dk_182 0 198 (dk_at dksX4_cave_3 18 rfl rfl)
theorem dX4_cave_91 : decode cX4_cave 91 = .ok (.aload_n 0, 1) := dk_42 (dk_at dksX4_cave_3 21 rfl rfl)
theorem dX4_cave_92 : decode cX4_cave 92 = .ok (.getfield 126, 3) := dk_180 0 126 (dk_at dksX4_cave_4 0 rfl rfl)
theorem dX4_cave_95 : decode cX4_cave 95 = .ok (.ifCond .ne 23, 3) := dk_154 0 23 (dk_at dksX4_cave_4 3 rfl rfl)
theorem dX4_cave_98 : decode cX4_cave 98 = .ok (.aload_n 0, 1) := dk_42 (dk_at dksX4_cave_4 6 rfl rfl)
theorem dX4_cave_99 : decode cX4_cave 99 = .ok (.getfield 108, 3) := dk_180 0 108 (dk_at dksX4_cave_4 7 rfl rfl)
theorem dX4_cave_102 : decode cX4_cave 102 = .ok (.bipush 24, 2) := dk_16 24 (dk_at dksX4_cave_4 10 rfl rfl)
theorem dX4_cave_104 : decode cX4_cave 104 = .ok (.if_icmp .eq 14, 3) := dk_159 0 14 (dk_at dksX4_cave_4 12 rfl rfl)
theorem dX4_cave_107 : decode cX4_cave 107 = .ok (.aload_n 0, 1) := dk_42 (dk_at dksX4_cave_4 15 rfl rfl)
theorem dX4_cave_108 : decode cX4_cave 108 = .ok (.invokevirtual 201, 3) := dk_182 0 201 (dk_at dksX4_cave_4 16 rfl rfl)
theorem dX4_cave_111 : decode cX4_cave 111 = .ok (.aload_n 0, 1) := dk_42 (dk_at dksX4_cave_4 19 rfl rfl)
theorem dX4_cave_112 : decode cX4_cave 112 = .ok (.invokevirtual 198, 3) := dk_182 0 198 (dk_at dksX4_cave_4 20 rfl rfl)
theorem dX4_cave_115 : decode cX4_cave 115 = .ok (.goto (-24), 3) := dk_167 255 232 (dk_at dksX4_cave_5 0 rfl rfl)
theorem dX4_cave_118 : decode cX4_cave 118 = .ok (.aload_n 0, 1) := dk_42 (dk_at dksX4_cave_5 3 rfl rfl)
theorem dX4_cave_119 : decode cX4_cave 119 = .ok (.aload_n 0, 1) := dk_42 (dk_at dksX4_cave_5 4 rfl rfl)
theorem dX4_cave_120 : decode cX4_cave 120 = .ok (.getfield 126, 3) := dk_180 0 126 (dk_at dksX4_cave_5 5 rfl rfl)
theorem dX4_cave_123 : decode cX4_cave 123 = .ok (.putfield 204, 3) := dk_181 0 204 (dk_at dksX4_cave_5 8 rfl rfl)
theorem dX4_cave_126 : decode cX4_cave 126 = .ok (.aload_n 0, 1) := dk_42 (dk_at dksX4_cave_5 11 rfl rfl)
theorem dX4_cave_127 : decode cX4_cave 127 = .ok (.aload_n 0, 1) := dk_42 (dk_at dksX4_cave_5 12 rfl rfl)
theorem dX4_cave_128 : decode cX4_cave 128 = .ok (.getfield 126, 3) := dk_180 0 126 (dk_at dksX4_cave_5 13 rfl rfl)
theorem dX4_cave_131 : decode cX4_cave 131 = .ok (.ifCond .ne 7, 3) := dk_154 0 7 (dk_at dksX4_cave_5 16 rfl rfl)
theorem dX4_cave_134 : decode cX4_cave 134 = .ok (.iconst (-1), 1) := dk_2 (dk_at dksX4_cave_5 19 rfl rfl)
theorem dX4_cave_135 : decode cX4_cave 135 = .ok (.goto 7, 3) := dk_167 0 7 (dk_at dksX4_cave_5 20 rfl rfl)
theorem dX4_cave_138 : decode cX4_cave 138 = .ok (.aload_n 0, 1) := dk_42 (dk_at dksX4_cave_5 23 rfl rfl)
theorem dX4_cave_139 : decode cX4_cave 139 = .ok (.getfield 129, 3) := dk_180 0 129 (dk_at dksX4_cave_6 0 rfl rfl)
theorem dX4_cave_142 : decode cX4_cave 142 = .ok (.putfield 27, 3) := dk_181 0 27 (dk_at dksX4_cave_6 3 rfl rfl)
theorem dX4_cave_145 : decode cX4_cave 145 = .ok (.aload_n 0, 1) := dk_42 (dk_at dksX4_cave_6 6 rfl rfl)
theorem dX4_cave_146 : decode cX4_cave 146 = .ok (.getfield 126, 3) := dk_180 0 126 (dk_at dksX4_cave_6 7 rfl rfl)
theorem dX4_cave_149 : decode cX4_cave 149 = .ok (.ifCond .eq 11, 3) := dk_153 0 11 (dk_at dksX4_cave_6 10 rfl rfl)
theorem dX4_cave_152 : decode cX4_cave 152 = .ok (.bipush (-30), 2) := dk_16 226 (dk_at dksX4_cave_6 13 rfl rfl)
theorem dX4_cave_154 : decode cX4_cave 154 = .ok (.aload_n 0, 1) := dk_42 (dk_at dksX4_cave_6 15 rfl rfl)
theorem dX4_cave_155 : decode cX4_cave 155 = .ok (.getfield 126, 3) := dk_180 0 126 (dk_at dksX4_cave_6 16 rfl rfl)
theorem dX4_cave_158 : decode cX4_cave 158 = .ok (.isub, 1) := dk_100 (dk_at dksX4_cave_6 19 rfl rfl)
theorem dX4_cave_159 : decode cX4_cave 159 = .ok (.ireturn, 1) := dk_172 (dk_at dksX4_cave_6 20 rfl rfl)
theorem dX4_cave_160 : decode cX4_cave 160 = .ok (.iconst 0, 1) := dk_3 (dk_at dksX4_cave_6 21 rfl rfl)
theorem dX4_cave_161 : decode cX4_cave 161 = .ok (.istore_n 2, 1) := dk_61 (dk_at dksX4_cave_6 22 rfl rfl)
theorem dX4_cave_162 : decode cX4_cave 162 = .ok (.iload_n 2, 1) := dk_28 (dk_at dksX4_cave_6 23 rfl rfl)
theorem dX4_cave_163 : decode cX4_cave 163 = .ok (.sipush 999, 3) := dk_17 3 231 (dk_at dksX4_cave_7 0 rfl rfl)
theorem dX4_cave_166 : decode cX4_cave 166 = .ok (.if_icmp .ge 21, 3) := dk_162 0 21 (dk_at dksX4_cave_7 3 rfl rfl)
theorem dX4_cave_169 : decode cX4_cave 169 = .ok (.aload_n 0, 1) := dk_42 (dk_at dksX4_cave_7 6 rfl rfl)
theorem dX4_cave_170 : decode cX4_cave 170 = .ok (.getfield 13, 3) := dk_180 0 13 (dk_at dksX4_cave_7 7 rfl rfl)
theorem dX4_cave_173 : decode cX4_cave 173 = .ok (.iload_n 2, 1) := dk_28 (dk_at dksX4_cave_7 10 rfl rfl)
theorem dX4_cave_174 : decode cX4_cave 174 = .ok (.aload_n 0, 1) := dk_42 (dk_at dksX4_cave_7 11 rfl rfl)
theorem dX4_cave_175 : decode cX4_cave 175 = .ok (.getfield 24, 3) := dk_180 0 24 (dk_at dksX4_cave_7 12 rfl rfl)
theorem dX4_cave_178 : decode cX4_cave 178 = .ok (.iload_n 2, 1) := dk_28 (dk_at dksX4_cave_7 15 rfl rfl)
theorem dX4_cave_179 : decode cX4_cave 179 = .ok (.iaload, 1) := dk_46 (dk_at dksX4_cave_7 16 rfl rfl)
theorem dX4_cave_180 : decode cX4_cave 180 = .ok (.iastore, 1) := dk_79 (dk_at dksX4_cave_7 17 rfl rfl)
theorem dX4_cave_181 : decode cX4_cave 181 = .ok (.iinc 2 1, 3) := dk_132 2 1 (dk_at dksX4_cave_7 18 rfl rfl)
theorem dX4_cave_184 : decode cX4_cave 184 = .ok (.goto (-22), 3) := dk_167 255 234 (dk_at dksX4_cave_7 21 rfl rfl)
theorem dX4_cave_187 : decode cX4_cave 187 = .ok (.aload_n 0, 1) := dk_42 (dk_at dksX4_cave_8 0 rfl rfl)
theorem dX4_cave_188 : decode cX4_cave 188 = .ok (.getfield 13, 3) := dk_180 0 13 (dk_at dksX4_cave_8 1 rfl rfl)
theorem dX4_cave_191 : decode cX4_cave 191 = .ok (.iconst 0, 1) := dk_3 (dk_at dksX4_cave_8 4 rfl rfl)
theorem dX4_cave_192 : decode cX4_cave 192 = .ok (.iaload, 1) := dk_46 (dk_at dksX4_cave_8 5 rfl rfl)
theorem dX4_cave_193 : decode cX4_cave 193 = .ok (.ireturn, 1) := dk_172 (dk_at dksX4_cave_8 6 rfl rfl)
abbrev cX4_within : ByteArray := prog_16_method_2_code
def yX4_within : MethodName := ⟨RX4, "within", "(JJJ)Z"⟩
def dkwX4_within_0 : List UInt8 := [30, 32, 148, 155, 0, 14, 30, 22, 4, 148, 157, 0, 7, 4, 167, 0, 4, 3, 172]
abbrev dktX4_within_0 : List UInt8 := dkwX4_within_0 ++ []
theorem dksX4_within_0 : cX4_within.data.toList.drop 0 = dktX4_within_0 := by decide +kernel
theorem dX4_within_0 : decode cX4_within 0 = .ok (.lload_n 0, 1) := dk_30 (dk_at dksX4_within_0 0 rfl rfl)
theorem dX4_within_1 : decode cX4_within 1 = .ok (.lload_n 2, 1) := dk_32 (dk_at dksX4_within_0 1 rfl rfl)
theorem dX4_within_2 : decode cX4_within 2 = .ok (.lcmp, 1) := dk_148 (dk_at dksX4_within_0 2 rfl rfl)
theorem dX4_within_3 : decode cX4_within 3 = .ok (.ifCond .lt 14, 3) := dk_155 0 14 (dk_at dksX4_within_0 3 rfl rfl)
theorem dX4_within_6 : decode cX4_within 6 = .ok (.lload_n 0, 1) := dk_30 (dk_at dksX4_within_0 6 rfl rfl)
theorem dX4_within_7 : decode cX4_within 7 = .ok (.lload 4, 2) := dk_22 4 (dk_at dksX4_within_0 7 rfl rfl)
theorem dX4_within_9 : decode cX4_within 9 = .ok (.lcmp, 1) := dk_148 (dk_at dksX4_within_0 9 rfl rfl)
theorem dX4_within_10 : decode cX4_within 10 = .ok (.ifCond .gt 7, 3) := dk_157 0 7 (dk_at dksX4_within_0 10 rfl rfl)
theorem dX4_within_13 : decode cX4_within 13 = .ok (.iconst 1, 1) := dk_4 (dk_at dksX4_within_0 13 rfl rfl)
theorem dX4_within_14 : decode cX4_within 14 = .ok (.goto 4, 3) := dk_167 0 4 (dk_at dksX4_within_0 14 rfl rfl)
theorem dX4_within_17 : decode cX4_within 17 = .ok (.iconst 0, 1) := dk_3 (dk_at dksX4_within_0 17 rfl rfl)
theorem dX4_within_18 : decode cX4_within 18 = .ok (.ireturn, 1) := dk_172 (dk_at dksX4_within_0 18 rfl rfl)
abbrev cX4_next : ByteArray := prog_16_method_10_code
def yX4_next : MethodName := ⟨RX4, "next", "()V"⟩
def dkwX4_next_12 : List UInt8 := [27, 182, 0, 94, 160, 0, 11, 42, 16, 30, 27, 96, 181, 0, 108, 132, 1, 1, 167, 255, 219, 177]
abbrev dktX4_next_12 : List UInt8 := dkwX4_next_12 ++ []
def dkwX4_next_11 : List UInt8 := [181, 0, 108, 3, 60, 27, 18, 124, 182, 0, 88, 162, 0, 34, 42, 42, 180, 0, 98, 182, 0, 104, 18, 124]
abbrev dktX4_next_11 : List UInt8 := dkwX4_next_11 ++ dktX4_next_12
def dkwX4_next_10 : List UInt8 := [167, 0, 5, 16, 23, 181, 0, 108, 167, 0, 61, 42, 89, 180, 0, 101, 4, 96, 181, 0, 101, 42, 16, 25]
abbrev dktX4_next_10 : List UInt8 := dkwX4_next_10 ++ dktX4_next_11
def dkwX4_next_9 : List UInt8 := [181, 0, 101, 167, 255, 196, 42, 42, 180, 0, 101, 42, 180, 0, 98, 100, 6, 164, 0, 8, 16, 25]
abbrev dktX4_next_9 : List UInt8 := dkwX4_next_9 ++ dktX4_next_10
def dkwX4_next_8 : List UInt8 := [42, 42, 180, 0, 101, 182, 0, 104, 96, 16, 48, 100, 181, 0, 121, 42, 89, 180, 0, 101, 4, 96]
abbrev dktX4_next_8 : List UInt8 := dkwX4_next_8 ++ dktX4_next_9
def dkwX4_next_7 : List UInt8 := [153, 0, 52, 42, 180, 0, 101, 42, 180, 0, 98, 100, 6, 162, 0, 26, 42, 16, 10, 42, 180, 0, 121, 104]
abbrev dktX4_next_7 : List UInt8 := dkwX4_next_7 ++ dktX4_next_8
def dkwX4_next_6 : List UInt8 := [184, 0, 118, 153, 0, 98, 42, 3, 181, 0, 121, 42, 42, 180, 0, 101, 182, 0, 104, 184, 0, 118]
abbrev dktX4_next_6 : List UInt8 := dkwX4_next_6 ++ dktX4_next_7
def dkwX4_next_5 : List UInt8 := [167, 255, 232, 42, 42, 182, 0, 115, 181, 0, 108, 167, 0, 170, 42, 42, 180, 0, 98, 182, 0, 104]
abbrev dktX4_next_5 : List UInt8 := dkwX4_next_5 ++ dktX4_next_6
def dkwX4_next_4 : List UInt8 := [180, 0, 101, 182, 0, 104, 184, 0, 111, 153, 0, 16, 42, 89, 180, 0, 101, 4, 96, 181, 0, 101]
abbrev dktX4_next_4 : List UInt8 := dkwX4_next_4 ++ dktX4_next_5
def dkwX4_next_3 : List UInt8 := [181, 0, 108, 167, 0, 222, 42, 42, 180, 0, 98, 182, 0, 104, 184, 0, 111, 153, 0, 41, 42, 42]
abbrev dktX4_next_3 : List UInt8 := dkwX4_next_3 ++ dktX4_next_4
def dkwX4_next_2 : List UInt8 := [42, 42, 180, 0, 98, 181, 0, 101, 42, 180, 0, 98, 42, 180, 0, 83, 161, 0, 12, 42, 16, 24]
abbrev dktX4_next_2 : List UInt8 := dkwX4_next_2 ++ dktX4_next_3
def dkwX4_next_1 : List UInt8 := [180, 0, 98, 182, 0, 104, 16, 32, 160, 0, 16, 42, 89, 180, 0, 98, 4, 96, 181, 0, 98, 167, 255, 220]
abbrev dktX4_next_1 : List UInt8 := dkwX4_next_1 ++ dktX4_next_2
def dkwX4_next_0 : List UInt8 := [42, 42, 180, 0, 101, 181, 0, 98, 42, 42, 180, 0, 98, 182, 0, 104, 16, 10, 159, 0, 16, 42, 42]
abbrev dktX4_next_0 : List UInt8 := dkwX4_next_0 ++ dktX4_next_1
theorem dksX4_next_0 : cX4_next.data.toList.drop 0 = dktX4_next_0 := by decide +kernel
theorem dksX4_next_1 : cX4_next.data.toList.drop 23 = dktX4_next_1 := dk_seg dksX4_next_0 23 rfl rfl
theorem dksX4_next_2 : cX4_next.data.toList.drop 47 = dktX4_next_2 := dk_seg dksX4_next_1 24 rfl rfl
theorem dksX4_next_3 : cX4_next.data.toList.drop 69 = dktX4_next_3 := dk_seg dksX4_next_2 22 rfl rfl
theorem dksX4_next_4 : cX4_next.data.toList.drop 91 = dktX4_next_4 := dk_seg dksX4_next_3 22 rfl rfl
theorem dksX4_next_5 : cX4_next.data.toList.drop 113 = dktX4_next_5 := dk_seg dksX4_next_4 22 rfl rfl
theorem dksX4_next_6 : cX4_next.data.toList.drop 135 = dktX4_next_6 := dk_seg dksX4_next_5 22 rfl rfl
theorem dksX4_next_7 : cX4_next.data.toList.drop 157 = dktX4_next_7 := dk_seg dksX4_next_6 22 rfl rfl
theorem dksX4_next_8 : cX4_next.data.toList.drop 181 = dktX4_next_8 := dk_seg dksX4_next_7 24 rfl rfl
theorem dksX4_next_9 : cX4_next.data.toList.drop 203 = dktX4_next_9 := dk_seg dksX4_next_8 22 rfl rfl
theorem dksX4_next_10 : cX4_next.data.toList.drop 225 = dktX4_next_10 := dk_seg dksX4_next_9 22 rfl rfl
theorem dksX4_next_11 : cX4_next.data.toList.drop 249 = dktX4_next_11 := dk_seg dksX4_next_10 24 rfl rfl
theorem dksX4_next_12 : cX4_next.data.toList.drop 273 = dktX4_next_12 := dk_seg dksX4_next_11 24 rfl rfl
theorem dX4_next_0 : decode cX4_next 0 = .ok (.aload_n 0, 1) := dk_42 (dk_at dksX4_next_0 0 rfl rfl)
theorem dX4_next_1 : decode cX4_next 1 = .ok (.aload_n 0, 1) := dk_42 (dk_at dksX4_next_0 1 rfl rfl)
theorem dX4_next_2 : decode cX4_next 2 = .ok (.getfield 101, 3) := dk_180 0 101 (dk_at dksX4_next_0 2 rfl rfl)
theorem dX4_next_5 : decode cX4_next 5 = .ok (.putfield 98, 3) := dk_181 0 98 (dk_at dksX4_next_0 5 rfl rfl)
theorem dX4_next_8 : decode cX4_next 8 = .ok (.aload_n 0, 1) := dk_42 (dk_at dksX4_next_0 8 rfl rfl)
theorem dX4_next_9 : decode cX4_next 9 = .ok (.aload_n 0, 1) := dk_42 (dk_at dksX4_next_0 9 rfl rfl)
theorem dX4_next_10 : decode cX4_next 10 = .ok (.getfield 98, 3) := dk_180 0 98 (dk_at dksX4_next_0 10 rfl rfl)
theorem dX4_next_13 : decode cX4_next 13 = .ok (.invokevirtual 104, 3) := dk_182 0 104 (dk_at dksX4_next_0 13 rfl rfl)
theorem dX4_next_16 : decode cX4_next 16 = .ok (.bipush 10, 2) := dk_16 10 (dk_at dksX4_next_0 16 rfl rfl)
theorem dX4_next_18 : decode cX4_next 18 = .ok (.if_icmp .eq 16, 3) := dk_159 0 16 (dk_at dksX4_next_0 18 rfl rfl)
theorem dX4_next_21 : decode cX4_next 21 = .ok (.aload_n 0, 1) := dk_42 (dk_at dksX4_next_0 21 rfl rfl)
theorem dX4_next_22 : decode cX4_next 22 = .ok (.aload_n 0, 1) := dk_42 (dk_at dksX4_next_0 22 rfl rfl)
theorem dX4_next_23 : decode cX4_next 23 = .ok (.getfield 98, 3) := dk_180 0 98 (dk_at dksX4_next_1 0 rfl rfl)
theorem dX4_next_26 : decode cX4_next 26 = .ok (.invokevirtual 104, 3) := dk_182 0 104 (dk_at dksX4_next_1 3 rfl rfl)
theorem dX4_next_29 : decode cX4_next 29 = .ok (.bipush 32, 2) := dk_16 32 (dk_at dksX4_next_1 6 rfl rfl)
theorem dX4_next_31 : decode cX4_next 31 = .ok (.if_icmp .ne 16, 3) := dk_160 0 16 (dk_at dksX4_next_1 8 rfl rfl)
theorem dX4_next_34 : decode cX4_next 34 = .ok (.aload_n 0, 1) := dk_42 (dk_at dksX4_next_1 11 rfl rfl)
theorem dX4_next_35 : decode cX4_next 35 = .ok (.dup, 1) := dk_89 (dk_at dksX4_next_1 12 rfl rfl)
theorem dX4_next_36 : decode cX4_next 36 = .ok (.getfield 98, 3) := dk_180 0 98 (dk_at dksX4_next_1 13 rfl rfl)
theorem dX4_next_39 : decode cX4_next 39 = .ok (.iconst 1, 1) := dk_4 (dk_at dksX4_next_1 16 rfl rfl)
theorem dX4_next_40 : decode cX4_next 40 = .ok (.iadd, 1) := dk_96 (dk_at dksX4_next_1 17 rfl rfl)
theorem dX4_next_41 : decode cX4_next 41 = .ok (.putfield 98, 3) := dk_181 0 98 (dk_at dksX4_next_1 18 rfl rfl)
theorem dX4_next_44 : decode cX4_next 44 = .ok (.goto (-36), 3) := dk_167 255 220 (dk_at dksX4_next_1 21 rfl rfl)
theorem dX4_next_47 : decode cX4_next 47 = .ok (.aload_n 0, 1) := dk_42 (dk_at dksX4_next_2 0 rfl rfl)
theorem dX4_next_48 : decode cX4_next 48 = .ok (.aload_n 0, 1) := dk_42 (dk_at dksX4_next_2 1 rfl rfl)
theorem dX4_next_49 : decode cX4_next 49 = .ok (.getfield 98, 3) := dk_180 0 98 (dk_at dksX4_next_2 2 rfl rfl)
theorem dX4_next_52 : decode cX4_next 52 = .ok (.putfield 101, 3) := dk_181 0 101 (dk_at dksX4_next_2 5 rfl rfl)
theorem dX4_next_55 : decode cX4_next 55 = .ok (.aload_n 0, 1) := dk_42 (dk_at dksX4_next_2 8 rfl rfl)
theorem dX4_next_56 : decode cX4_next 56 = .ok (.getfield 98, 3) := dk_180 0 98 (dk_at dksX4_next_2 9 rfl rfl)
theorem dX4_next_59 : decode cX4_next 59 = .ok (.aload_n 0, 1) := dk_42 (dk_at dksX4_next_2 12 rfl rfl)
theorem dX4_next_60 : decode cX4_next 60 = .ok (.getfield 83, 3) := dk_180 0 83 (dk_at dksX4_next_2 13 rfl rfl)
theorem dX4_next_63 : decode cX4_next 63 = .ok (.if_icmp .lt 12, 3) := dk_161 0 12 (dk_at dksX4_next_2 16 rfl rfl)
theorem dX4_next_66 : decode cX4_next 66 = .ok (.aload_n 0, 1) := dk_42 (dk_at dksX4_next_2 19 rfl rfl)
theorem dX4_next_67 : decode cX4_next 67 = .ok (.bipush 24, 2) := dk_16 24 (dk_at dksX4_next_2 20 rfl rfl)
theorem dX4_next_69 : decode cX4_next 69 = .ok (.putfield 108, 3) := dk_181 0 108 (dk_at dksX4_next_3 0 rfl rfl)
theorem dX4_next_72 : decode cX4_next 72 = .ok (.goto 222, 3) := dk_167 0 222 (dk_at dksX4_next_3 3 rfl rfl)
theorem dX4_next_75 : decode cX4_next 75 = .ok (.aload_n 0, 1) := dk_42 (dk_at dksX4_next_3 6 rfl rfl)
theorem dX4_next_76 : decode cX4_next 76 = .ok (.aload_n 0, 1) := dk_42 (dk_at dksX4_next_3 7 rfl rfl)
theorem dX4_next_77 : decode cX4_next 77 = .ok (.getfield 98, 3) := dk_180 0 98 (dk_at dksX4_next_3 8 rfl rfl)
theorem dX4_next_80 : decode cX4_next 80 = .ok (.invokevirtual 104, 3) := dk_182 0 104 (dk_at dksX4_next_3 11 rfl rfl)
theorem dX4_next_83 : decode cX4_next 83 = .ok (.invokestatic 111, 3) := dk_184 0 111 (dk_at dksX4_next_3 14 rfl rfl)
theorem dX4_next_86 : decode cX4_next 86 = .ok (.ifCond .eq 41, 3) := dk_153 0 41 (dk_at dksX4_next_3 17 rfl rfl)
theorem dX4_next_89 : decode cX4_next 89 = .ok (.aload_n 0, 1) := dk_42 (dk_at dksX4_next_3 20 rfl rfl)
theorem dX4_next_90 : decode cX4_next 90 = .ok (.aload_n 0, 1) := dk_42 (dk_at dksX4_next_3 21 rfl rfl)
theorem dX4_next_91 : decode cX4_next 91 = .ok (.getfield 101, 3) := dk_180 0 101 (dk_at dksX4_next_4 0 rfl rfl)
theorem dX4_next_94 : decode cX4_next 94 = .ok (.invokevirtual 104, 3) := dk_182 0 104 (dk_at dksX4_next_4 3 rfl rfl)
theorem dX4_next_97 : decode cX4_next 97 = .ok (.invokestatic 111, 3) := dk_184 0 111 (dk_at dksX4_next_4 6 rfl rfl)
theorem dX4_next_100 : decode cX4_next 100 = .ok (.ifCond .eq 16, 3) := dk_153 0 16 (dk_at dksX4_next_4 9 rfl rfl)
theorem dX4_next_103 : decode cX4_next 103 = .ok (.aload_n 0, 1) := dk_42 (dk_at dksX4_next_4 12 rfl rfl)
theorem dX4_next_104 : decode cX4_next 104 = .ok (.dup, 1) := dk_89 (dk_at dksX4_next_4 13 rfl rfl)
theorem dX4_next_105 : decode cX4_next 105 = .ok (.getfield 101, 3) := dk_180 0 101 (dk_at dksX4_next_4 14 rfl rfl)
theorem dX4_next_108 : decode cX4_next 108 = .ok (.iconst 1, 1) := dk_4 (dk_at dksX4_next_4 17 rfl rfl)
theorem dX4_next_109 : decode cX4_next 109 = .ok (.iadd, 1) := dk_96 (dk_at dksX4_next_4 18 rfl rfl)
theorem dX4_next_110 : decode cX4_next 110 = .ok (.putfield 101, 3) := dk_181 0 101 (dk_at dksX4_next_4 19 rfl rfl)
theorem dX4_next_113 : decode cX4_next 113 = .ok (.goto (-24), 3) := dk_167 255 232 (dk_at dksX4_next_5 0 rfl rfl)
theorem dX4_next_116 : decode cX4_next 116 = .ok (.aload_n 0, 1) := dk_42 (dk_at dksX4_next_5 3 rfl rfl)
theorem dX4_next_117 : decode cX4_next 117 = .ok (.aload_n 0, 1) := dk_42 (dk_at dksX4_next_5 4 rfl rfl)
theorem dX4_next_118 : decode cX4_next 118 = .ok (.invokevirtual 115, 3) := dk_182 0 115 (dk_at dksX4_next_5 5 rfl rfl)
theorem dX4_next_121 : decode cX4_next 121 = .ok (.putfield 108, 3) := dk_181 0 108 (dk_at dksX4_next_5 8 rfl rfl)
theorem dX4_next_124 : decode cX4_next 124 = .ok (.goto 170, 3) := dk_167 0 170 (dk_at dksX4_next_5 11 rfl rfl)
theorem dX4_next_127 : decode cX4_next 127 = .ok (.aload_n 0, 1) := dk_42 (dk_at dksX4_next_5 14 rfl rfl)
theorem dX4_next_128 : decode cX4_next 128 = .ok (.aload_n 0, 1) := dk_42 (dk_at dksX4_next_5 15 rfl rfl)
theorem dX4_next_129 : decode cX4_next 129 = .ok (.getfield 98, 3) := dk_180 0 98 (dk_at dksX4_next_5 16 rfl rfl)
theorem dX4_next_132 : decode cX4_next 132 = .ok (.invokevirtual 104, 3) := dk_182 0 104 (dk_at dksX4_next_5 19 rfl rfl)
theorem dX4_next_135 : decode cX4_next 135 = .ok (.invokestatic 118, 3) := dk_184 0 118 (dk_at dksX4_next_6 0 rfl rfl)
theorem dX4_next_138 : decode cX4_next 138 = .ok (.ifCond .eq 98, 3) := dk_153 0 98 (dk_at dksX4_next_6 3 rfl rfl)
theorem dX4_next_141 : decode cX4_next 141 = .ok (.aload_n 0, 1) := dk_42 (dk_at dksX4_next_6 6 rfl rfl)
theorem dX4_next_142 : decode cX4_next 142 = .ok (.iconst 0, 1) := dk_3 (dk_at dksX4_next_6 7 rfl rfl)
theorem dX4_next_143 : decode cX4_next 143 = .ok (.putfield 121, 3) := dk_181 0 121 (dk_at dksX4_next_6 8 rfl rfl)
theorem dX4_next_146 : decode cX4_next 146 = .ok (.aload_n 0, 1) := dk_42 (dk_at dksX4_next_6 11 rfl rfl)
theorem dX4_next_147 : decode cX4_next 147 = .ok (.aload_n 0, 1) := dk_42 (dk_at dksX4_next_6 12 rfl rfl)
theorem dX4_next_148 : decode cX4_next 148 = .ok (.getfield 101, 3) := dk_180 0 101 (dk_at dksX4_next_6 13 rfl rfl)
theorem dX4_next_151 : decode cX4_next 151 = .ok (.invokevirtual 104, 3) := dk_182 0 104 (dk_at dksX4_next_6 16 rfl rfl)
theorem dX4_next_154 : decode cX4_next 154 = .ok (.invokestatic 118, 3) := dk_184 0 118 (dk_at dksX4_next_6 19 rfl rfl)
theorem dX4_next_157 : decode cX4_next 157 = .ok (.ifCond .eq 52, 3) := dk_153 0 52 (dk_at dksX4_next_7 0 rfl rfl)
theorem dX4_next_160 : decode cX4_next 160 = .ok (.aload_n 0, 1) := dk_42 (dk_at dksX4_next_7 3 rfl rfl)
theorem dX4_next_161 : decode cX4_next 161 = .ok (.getfield 101, 3) := dk_180 0 101 (dk_at dksX4_next_7 4 rfl rfl)
theorem dX4_next_164 : decode cX4_next 164 = .ok (.aload_n 0, 1) := dk_42 (dk_at dksX4_next_7 7 rfl rfl)
theorem dX4_next_165 : decode cX4_next 165 = .ok (.getfield 98, 3) := dk_180 0 98 (dk_at dksX4_next_7 8 rfl rfl)
theorem dX4_next_168 : decode cX4_next 168 = .ok (.isub, 1) := dk_100 (dk_at dksX4_next_7 11 rfl rfl)
theorem dX4_next_169 : decode cX4_next 169 = .ok (.iconst 3, 1) := dk_6 (dk_at dksX4_next_7 12 rfl rfl)
theorem dX4_next_170 : decode cX4_next 170 = .ok (.if_icmp .ge 26, 3) := dk_162 0 26 (dk_at dksX4_next_7 13 rfl rfl)
theorem dX4_next_173 : decode cX4_next 173 = .ok (.aload_n 0, 1) := dk_42 (dk_at dksX4_next_7 16 rfl rfl)
theorem dX4_next_174 : decode cX4_next 174 = .ok (.bipush 10, 2) := dk_16 10 (dk_at dksX4_next_7 17 rfl rfl)
theorem dX4_next_176 : decode cX4_next 176 = .ok (.aload_n 0, 1) := dk_42 (dk_at dksX4_next_7 19 rfl rfl)
theorem dX4_next_177 : decode cX4_next 177 = .ok (.getfield 121, 3) := dk_180 0 121 (dk_at dksX4_next_7 20 rfl rfl)
theorem dX4_next_180 : decode cX4_next 180 = .ok (.imul, 1) := dk_104 (dk_at dksX4_next_7 23 rfl rfl)
theorem dX4_next_181 : decode cX4_next 181 = .ok (.aload_n 0, 1) := dk_42 (dk_at dksX4_next_8 0 rfl rfl)
theorem dX4_next_182 : decode cX4_next 182 = .ok (.aload_n 0, 1) := dk_42 (dk_at dksX4_next_8 1 rfl rfl)
theorem dX4_next_183 : decode cX4_next 183 = .ok (.getfield 101, 3) := dk_180 0 101 (dk_at dksX4_next_8 2 rfl rfl)
theorem dX4_next_186 : decode cX4_next 186 = .ok (.invokevirtual 104, 3) := dk_182 0 104 (dk_at dksX4_next_8 5 rfl rfl)
theorem dX4_next_189 : decode cX4_next 189 = .ok (.iadd, 1) := dk_96 (dk_at dksX4_next_8 8 rfl rfl)
theorem dX4_next_190 : decode cX4_next 190 = .ok (.bipush 48, 2) := dk_16 48 (dk_at dksX4_next_8 9 rfl rfl)
theorem dX4_next_192 : decode cX4_next 192 = .ok (.isub, 1) := dk_100 (dk_at dksX4_next_8 11 rfl rfl)
theorem dX4_next_193 : decode cX4_next 193 = .ok (.putfield 121, 3) := dk_181 0 121 (dk_at dksX4_next_8 12 rfl rfl)
theorem dX4_next_196 : decode cX4_next 196 = .ok (.aload_n 0, 1) := dk_42 (dk_at dksX4_next_8 15 rfl rfl)
theorem dX4_next_197 : decode cX4_next 197 = .ok (.dup, 1) := dk_89 (dk_at dksX4_next_8 16 rfl rfl)
theorem dX4_next_198 : decode cX4_next 198 = .ok (.getfield 101, 3) := dk_180 0 101 (dk_at dksX4_next_8 17 rfl rfl)
theorem dX4_next_201 : decode cX4_next 201 = .ok (.iconst 1, 1) := dk_4 (dk_at dksX4_next_8 20 rfl rfl)
theorem dX4_next_202 : decode cX4_next 202 = .ok (.iadd, 1) := dk_96 (dk_at dksX4_next_8 21 rfl rfl)
theorem dX4_next_203 : decode cX4_next 203 = .ok (.putfield 101, 3) := dk_181 0 101 (dk_at dksX4_next_9 0 rfl rfl)
theorem dX4_next_206 : decode cX4_next 206 = .ok (.goto (-60), 3) := dk_167 255 196 (dk_at dksX4_next_9 3 rfl rfl)
theorem dX4_next_209 : decode cX4_next 209 = .ok (.aload_n 0, 1) := dk_42 (dk_at dksX4_next_9 6 rfl rfl)
theorem dX4_next_210 : decode cX4_next 210 = .ok (.aload_n 0, 1) := dk_42 (dk_at dksX4_next_9 7 rfl rfl)
theorem dX4_next_211 : decode cX4_next 211 = .ok (.getfield 101, 3) := dk_180 0 101 (dk_at dksX4_next_9 8 rfl rfl)
theorem dX4_next_214 : decode cX4_next 214 = .ok (.aload_n 0, 1) := dk_42 (dk_at dksX4_next_9 11 rfl rfl)
theorem dX4_next_215 : decode cX4_next 215 = .ok (.getfield 98, 3) := dk_180 0 98 (dk_at dksX4_next_9 12 rfl rfl)
theorem dX4_next_218 : decode cX4_next 218 = .ok (.isub, 1) := dk_100 (dk_at dksX4_next_9 15 rfl rfl)
theorem dX4_next_219 : decode cX4_next 219 = .ok (.iconst 3, 1) := dk_6 (dk_at dksX4_next_9 16 rfl rfl)
theorem dX4_next_220 : decode cX4_next 220 = .ok (.if_icmp .le 8, 3) := dk_164 0 8 (dk_at dksX4_next_9 17 rfl rfl)
theorem dX4_next_223 : decode cX4_next 223 = .ok (.bipush 25, 2) := dk_16 25 (dk_at dksX4_next_9 20 rfl rfl)
theorem dX4_next_225 : decode cX4_next 225 = .ok (.goto 5, 3) := dk_167 0 5 (dk_at dksX4_next_10 0 rfl rfl)
theorem dX4_next_228 : decode cX4_next 228 = .ok (.bipush 23, 2) := dk_16 23 (dk_at dksX4_next_10 3 rfl rfl)
theorem dX4_next_230 : decode cX4_next 230 = .ok (.putfield 108, 3) := dk_181 0 108 (dk_at dksX4_next_10 5 rfl rfl)
theorem dX4_next_233 : decode cX4_next 233 = .ok (.goto 61, 3) := dk_167 0 61 (dk_at dksX4_next_10 8 rfl rfl)
theorem dX4_next_236 : decode cX4_next 236 = .ok (.aload_n 0, 1) := dk_42 (dk_at dksX4_next_10 11 rfl rfl)
theorem dX4_next_237 : decode cX4_next 237 = .ok (.dup, 1) := dk_89 (dk_at dksX4_next_10 12 rfl rfl)
theorem dX4_next_238 : decode cX4_next 238 = .ok (.getfield 101, 3) := dk_180 0 101 (dk_at dksX4_next_10 13 rfl rfl)
theorem dX4_next_241 : decode cX4_next 241 = .ok (.iconst 1, 1) := dk_4 (dk_at dksX4_next_10 16 rfl rfl)
theorem dX4_next_242 : decode cX4_next 242 = .ok (.iadd, 1) := dk_96 (dk_at dksX4_next_10 17 rfl rfl)
theorem dX4_next_243 : decode cX4_next 243 = .ok (.putfield 101, 3) := dk_181 0 101 (dk_at dksX4_next_10 18 rfl rfl)
theorem dX4_next_246 : decode cX4_next 246 = .ok (.aload_n 0, 1) := dk_42 (dk_at dksX4_next_10 21 rfl rfl)
theorem dX4_next_247 : decode cX4_next 247 = .ok (.bipush 25, 2) := dk_16 25 (dk_at dksX4_next_10 22 rfl rfl)
theorem dX4_next_249 : decode cX4_next 249 = .ok (.putfield 108, 3) := dk_181 0 108 (dk_at dksX4_next_11 0 rfl rfl)
theorem dX4_next_252 : decode cX4_next 252 = .ok (.iconst 0, 1) := dk_3 (dk_at dksX4_next_11 3 rfl rfl)
theorem dX4_next_253 : decode cX4_next 253 = .ok (.istore_n 1, 1) := dk_60 (dk_at dksX4_next_11 4 rfl rfl)
theorem dX4_next_254 : decode cX4_next 254 = .ok (.iload_n 1, 1) := dk_27 (dk_at dksX4_next_11 5 rfl rfl)
theorem dX4_next_255 : decode cX4_next 255 = .ok (.ldc 124, 2) := dk_18 124 (dk_at dksX4_next_11 6 rfl rfl)
theorem dX4_next_257 : decode cX4_next 257 = .ok (.invokevirtual 88, 3) := dk_182 0 88 (dk_at dksX4_next_11 8 rfl rfl)
theorem dX4_next_260 : decode cX4_next 260 = .ok (.if_icmp .ge 34, 3) := dk_162 0 34 (dk_at dksX4_next_11 11 rfl rfl)
theorem dX4_next_263 : decode cX4_next 263 = .ok (.aload_n 0, 1) := dk_42 (dk_at dksX4_next_11 14 rfl rfl)
theorem dX4_next_264 : decode cX4_next 264 = .ok (.aload_n 0, 1) := dk_42 (dk_at dksX4_next_11 15 rfl rfl)
theorem dX4_next_265 : decode cX4_next 265 = .ok (.getfield 98, 3) := dk_180 0 98 (dk_at dksX4_next_11 16 rfl rfl)
theorem dX4_next_268 : decode cX4_next 268 = .ok (.invokevirtual 104, 3) := dk_182 0 104 (dk_at dksX4_next_11 19 rfl rfl)
theorem dX4_next_271 : decode cX4_next 271 = .ok (.ldc 124, 2) := dk_18 124 (dk_at dksX4_next_11 22 rfl rfl)
theorem dX4_next_273 : decode cX4_next 273 = .ok (.iload_n 1, 1) := dk_27 (dk_at dksX4_next_12 0 rfl rfl)
theorem dX4_next_274 : decode cX4_next 274 = .ok (.invokevirtual 94, 3) := dk_182 0 94 (dk_at dksX4_next_12 1 rfl rfl)
theorem dX4_next_277 : decode cX4_next 277 = .ok (.if_icmp .ne 11, 3) := dk_160 0 11 (dk_at dksX4_next_12 4 rfl rfl)
theorem dX4_next_280 : decode cX4_next 280 = .ok (.aload_n 0, 1) := dk_42 (dk_at dksX4_next_12 7 rfl rfl)
theorem dX4_next_281 : decode cX4_next 281 = .ok (.bipush 30, 2) := dk_16 30 (dk_at dksX4_next_12 8 rfl rfl)
theorem dX4_next_283 : decode cX4_next 283 = .ok (.iload_n 1, 1) := dk_27 (dk_at dksX4_next_12 10 rfl rfl)
theorem dX4_next_284 : decode cX4_next 284 = .ok (.iadd, 1) := dk_96 (dk_at dksX4_next_12 11 rfl rfl)
theorem dX4_next_285 : decode cX4_next 285 = .ok (.putfield 108, 3) := dk_181 0 108 (dk_at dksX4_next_12 12 rfl rfl)
theorem dX4_next_288 : decode cX4_next 288 = .ok (.iinc 1 1, 3) := dk_132 1 1 (dk_at dksX4_next_12 15 rfl rfl)
theorem dX4_next_291 : decode cX4_next 291 = .ok (.goto (-37), 3) := dk_167 255 219 (dk_at dksX4_next_12 18 rfl rfl)
theorem dX4_next_294 : decode cX4_next 294 = .ok (.return_, 1) := dk_177 (dk_at dksX4_next_12 21 rfl rfl)
abbrev cX4_see : ByteArray := prog_16_method_6_code
def yX4_see : MethodName := ⟨RX4, "see", "(I)I"⟩
def dkwX4_see_0 : List UInt8 := [27, 42, 180, 0, 83, 162, 0, 12, 42, 180, 0, 21, 27, 46, 167, 0, 4, 2, 172]
abbrev dktX4_see_0 : List UInt8 := dkwX4_see_0 ++ []
theorem dksX4_see_0 : cX4_see.data.toList.drop 0 = dktX4_see_0 := by decide +kernel
theorem dX4_see_0 : decode cX4_see 0 = .ok (.iload_n 1, 1) := dk_27 (dk_at dksX4_see_0 0 rfl rfl)
theorem dX4_see_1 : decode cX4_see 1 = .ok (.aload_n 0, 1) := dk_42 (dk_at dksX4_see_0 1 rfl rfl)
theorem dX4_see_2 : decode cX4_see 2 = .ok (.getfield 83, 3) := dk_180 0 83 (dk_at dksX4_see_0 2 rfl rfl)
theorem dX4_see_5 : decode cX4_see 5 = .ok (.if_icmp .ge 12, 3) := dk_162 0 12 (dk_at dksX4_see_0 5 rfl rfl)
theorem dX4_see_8 : decode cX4_see 8 = .ok (.aload_n 0, 1) := dk_42 (dk_at dksX4_see_0 8 rfl rfl)
theorem dX4_see_9 : decode cX4_see 9 = .ok (.getfield 21, 3) := dk_180 0 21 (dk_at dksX4_see_0 9 rfl rfl)
theorem dX4_see_12 : decode cX4_see 12 = .ok (.iload_n 1, 1) := dk_27 (dk_at dksX4_see_0 12 rfl rfl)
theorem dX4_see_13 : decode cX4_see 13 = .ok (.iaload, 1) := dk_46 (dk_at dksX4_see_0 13 rfl rfl)
theorem dX4_see_14 : decode cX4_see 14 = .ok (.goto 4, 3) := dk_167 0 4 (dk_at dksX4_see_0 14 rfl rfl)
theorem dX4_see_17 : decode cX4_see 17 = .ok (.iconst (-1), 1) := dk_2 (dk_at dksX4_see_0 17 rfl rfl)
theorem dX4_see_18 : decode cX4_see 18 = .ok (.ireturn, 1) := dk_172 (dk_at dksX4_see_0 18 rfl rfl)
abbrev cX4_isSmall : ByteArray := prog_16_method_7_code
def yX4_isSmall : MethodName := ⟨RX4, "isSmall", "(I)Z"⟩
def dkwX4_isSmall_0 : List UInt8 := [26, 16, 97, 161, 0, 13, 26, 16, 122, 163, 0, 7, 4, 167, 0, 4, 3, 172]
abbrev dktX4_isSmall_0 : List UInt8 := dkwX4_isSmall_0 ++ []
theorem dksX4_isSmall_0 : cX4_isSmall.data.toList.drop 0 = dktX4_isSmall_0 := by decide +kernel
theorem dX4_isSmall_0 : decode cX4_isSmall 0 = .ok (.iload_n 0, 1) := dk_26 (dk_at dksX4_isSmall_0 0 rfl rfl)
theorem dX4_isSmall_1 : decode cX4_isSmall 1 = .ok (.bipush 97, 2) := dk_16 97 (dk_at dksX4_isSmall_0 1 rfl rfl)
theorem dX4_isSmall_3 : decode cX4_isSmall 3 = .ok (.if_icmp .lt 13, 3) := dk_161 0 13 (dk_at dksX4_isSmall_0 3 rfl rfl)
theorem dX4_isSmall_6 : decode cX4_isSmall 6 = .ok (.iload_n 0, 1) := dk_26 (dk_at dksX4_isSmall_0 6 rfl rfl)
theorem dX4_isSmall_7 : decode cX4_isSmall 7 = .ok (.bipush 122, 2) := dk_16 122 (dk_at dksX4_isSmall_0 7 rfl rfl)
theorem dX4_isSmall_9 : decode cX4_isSmall 9 = .ok (.if_icmp .gt 7, 3) := dk_163 0 7 (dk_at dksX4_isSmall_0 9 rfl rfl)
theorem dX4_isSmall_12 : decode cX4_isSmall 12 = .ok (.iconst 1, 1) := dk_4 (dk_at dksX4_isSmall_0 12 rfl rfl)
theorem dX4_isSmall_13 : decode cX4_isSmall 13 = .ok (.goto 4, 3) := dk_167 0 4 (dk_at dksX4_isSmall_0 13 rfl rfl)
theorem dX4_isSmall_16 : decode cX4_isSmall 16 = .ok (.iconst 0, 1) := dk_3 (dk_at dksX4_isSmall_0 16 rfl rfl)
theorem dX4_isSmall_17 : decode cX4_isSmall 17 = .ok (.ireturn, 1) := dk_172 (dk_at dksX4_isSmall_0 17 rfl rfl)
abbrev cX4_keyAt : ByteArray := prog_16_method_9_code
def yX4_keyAt : MethodName := ⟨RX4, "keyAt", "()I"⟩
def dkwX4_keyAt_5 : List UInt8 := [132, 2, 1, 132, 1, 1, 167, 255, 140, 16, 22, 172]
abbrev dktX4_keyAt_5 : List UInt8 := dkwX4_keyAt_5 ++ []
def dkwX4_keyAt_4 : List UInt8 := [160, 0, 5, 27, 172, 18, 86, 28, 182, 0, 94, 16, 32, 159, 0, 9, 132, 2, 1, 167, 255, 242]
abbrev dktX4_keyAt_4 : List UInt8 := dkwX4_keyAt_4 ++ dktX4_keyAt_5
def dkwX4_keyAt_3 : List UInt8 := [18, 86, 28, 29, 96, 182, 0, 94, 16, 32, 160, 0, 18, 42, 180, 0, 98, 29, 96, 42, 180, 0, 101]
abbrev dktX4_keyAt_3 : List UInt8 := dkwX4_keyAt_3 ++ dktX4_keyAt_4
def dkwX4_keyAt_2 : List UInt8 := [180, 0, 98, 29, 96, 46, 18, 86, 28, 29, 96, 182, 0, 94, 160, 0, 9, 132, 3, 1, 167, 255, 205]
abbrev dktX4_keyAt_2 : List UInt8 := dkwX4_keyAt_2 ++ dktX4_keyAt_3
def dkwX4_keyAt_1 : List UInt8 := [16, 32, 159, 0, 44, 42, 180, 0, 98, 29, 96, 42, 180, 0, 101, 162, 0, 31, 42, 180, 0, 21, 42]
abbrev dktX4_keyAt_1 : List UInt8 := dkwX4_keyAt_1 ++ dktX4_keyAt_2
def dkwX4_keyAt_0 : List UInt8 := [3, 60, 4, 61, 28, 18, 86, 182, 0, 88, 162, 0, 113, 3, 62, 18, 86, 28, 29, 96, 182, 0, 94]
abbrev dktX4_keyAt_0 : List UInt8 := dkwX4_keyAt_0 ++ dktX4_keyAt_1
theorem dksX4_keyAt_0 : cX4_keyAt.data.toList.drop 0 = dktX4_keyAt_0 := by decide +kernel
theorem dksX4_keyAt_1 : cX4_keyAt.data.toList.drop 23 = dktX4_keyAt_1 := dk_seg dksX4_keyAt_0 23 rfl rfl
theorem dksX4_keyAt_2 : cX4_keyAt.data.toList.drop 46 = dktX4_keyAt_2 := dk_seg dksX4_keyAt_1 23 rfl rfl
theorem dksX4_keyAt_3 : cX4_keyAt.data.toList.drop 69 = dktX4_keyAt_3 := dk_seg dksX4_keyAt_2 23 rfl rfl
theorem dksX4_keyAt_4 : cX4_keyAt.data.toList.drop 92 = dktX4_keyAt_4 := dk_seg dksX4_keyAt_3 23 rfl rfl
theorem dksX4_keyAt_5 : cX4_keyAt.data.toList.drop 114 = dktX4_keyAt_5 := dk_seg dksX4_keyAt_4 22 rfl rfl
theorem dX4_keyAt_0 : decode cX4_keyAt 0 = .ok (.iconst 0, 1) := dk_3 (dk_at dksX4_keyAt_0 0 rfl rfl)
theorem dX4_keyAt_1 : decode cX4_keyAt 1 = .ok (.istore_n 1, 1) := dk_60 (dk_at dksX4_keyAt_0 1 rfl rfl)
theorem dX4_keyAt_2 : decode cX4_keyAt 2 = .ok (.iconst 1, 1) := dk_4 (dk_at dksX4_keyAt_0 2 rfl rfl)
theorem dX4_keyAt_3 : decode cX4_keyAt 3 = .ok (.istore_n 2, 1) := dk_61 (dk_at dksX4_keyAt_0 3 rfl rfl)
theorem dX4_keyAt_4 : decode cX4_keyAt 4 = .ok (.iload_n 2, 1) := dk_28 (dk_at dksX4_keyAt_0 4 rfl rfl)
theorem dX4_keyAt_5 : decode cX4_keyAt 5 = .ok (.ldc 86, 2) := dk_18 86 (dk_at dksX4_keyAt_0 5 rfl rfl)
theorem dX4_keyAt_7 : decode cX4_keyAt 7 = .ok (.invokevirtual 88, 3) := dk_182 0 88 (dk_at dksX4_keyAt_0 7 rfl rfl)
theorem dX4_keyAt_10 : decode cX4_keyAt 10 = .ok (.if_icmp .ge 113, 3) := dk_162 0 113 (dk_at dksX4_keyAt_0 10 rfl rfl)
theorem dX4_keyAt_13 : decode cX4_keyAt 13 = .ok (.iconst 0, 1) := dk_3 (dk_at dksX4_keyAt_0 13 rfl rfl)
theorem dX4_keyAt_14 : decode cX4_keyAt 14 = .ok (.istore_n 3, 1) := dk_62 (dk_at dksX4_keyAt_0 14 rfl rfl)
theorem dX4_keyAt_15 : decode cX4_keyAt 15 = .ok (.ldc 86, 2) := dk_18 86 (dk_at dksX4_keyAt_0 15 rfl rfl)
theorem dX4_keyAt_17 : decode cX4_keyAt 17 = .ok (.iload_n 2, 1) := dk_28 (dk_at dksX4_keyAt_0 17 rfl rfl)
theorem dX4_keyAt_18 : decode cX4_keyAt 18 = .ok (.iload_n 3, 1) := dk_29 (dk_at dksX4_keyAt_0 18 rfl rfl)
theorem dX4_keyAt_19 : decode cX4_keyAt 19 = .ok (.iadd, 1) := dk_96 (dk_at dksX4_keyAt_0 19 rfl rfl)
theorem dX4_keyAt_20 : decode cX4_keyAt 20 = .ok (.invokevirtual 94, 3) := dk_182 0 94 (dk_at dksX4_keyAt_0 20 rfl rfl)
theorem dX4_keyAt_23 : decode cX4_keyAt 23 = .ok (.bipush 32, 2) := dk_16 32 (dk_at dksX4_keyAt_1 0 rfl rfl)
theorem dX4_keyAt_25 : decode cX4_keyAt 25 = .ok (.if_icmp .eq 44, 3) := dk_159 0 44 (dk_at dksX4_keyAt_1 2 rfl rfl)
theorem dX4_keyAt_28 : decode cX4_keyAt 28 = .ok (.aload_n 0, 1) := dk_42 (dk_at dksX4_keyAt_1 5 rfl rfl)
theorem dX4_keyAt_29 : decode cX4_keyAt 29 = .ok (.getfield 98, 3) := dk_180 0 98 (dk_at dksX4_keyAt_1 6 rfl rfl)
theorem dX4_keyAt_32 : decode cX4_keyAt 32 = .ok (.iload_n 3, 1) := dk_29 (dk_at dksX4_keyAt_1 9 rfl rfl)
theorem dX4_keyAt_33 : decode cX4_keyAt 33 = .ok (.iadd, 1) := dk_96 (dk_at dksX4_keyAt_1 10 rfl rfl)
theorem dX4_keyAt_34 : decode cX4_keyAt 34 = .ok (.aload_n 0, 1) := dk_42 (dk_at dksX4_keyAt_1 11 rfl rfl)
theorem dX4_keyAt_35 : decode cX4_keyAt 35 = .ok (.getfield 101, 3) := dk_180 0 101 (dk_at dksX4_keyAt_1 12 rfl rfl)
theorem dX4_keyAt_38 : decode cX4_keyAt 38 = .ok (.if_icmp .ge 31, 3) := dk_162 0 31 (dk_at dksX4_keyAt_1 15 rfl rfl)
theorem dX4_keyAt_41 : decode cX4_keyAt 41 = .ok (.aload_n 0, 1) := dk_42 (dk_at dksX4_keyAt_1 18 rfl rfl)
theorem dX4_keyAt_42 : decode cX4_keyAt 42 = .ok (.getfield 21, 3) := dk_180 0 21 (dk_at dksX4_keyAt_1 19 rfl rfl)
theorem dX4_keyAt_45 : decode cX4_keyAt 45 = .ok (.aload_n 0, 1) := dk_42 (dk_at dksX4_keyAt_1 22 rfl rfl)
theorem dX4_keyAt_46 : decode cX4_keyAt 46 = .ok (.getfield 98, 3) := dk_180 0 98 (dk_at dksX4_keyAt_2 0 rfl rfl)
theorem dX4_keyAt_49 : decode cX4_keyAt 49 = .ok (.iload_n 3, 1) := dk_29 (dk_at dksX4_keyAt_2 3 rfl rfl)
theorem dX4_keyAt_50 : decode cX4_keyAt 50 = .ok (.iadd, 1) := dk_96 (dk_at dksX4_keyAt_2 4 rfl rfl)
theorem dX4_keyAt_51 : decode cX4_keyAt 51 = .ok (.iaload, 1) := dk_46 (dk_at dksX4_keyAt_2 5 rfl rfl)
theorem dX4_keyAt_52 : decode cX4_keyAt 52 = .ok (.ldc 86, 2) := dk_18 86 (dk_at dksX4_keyAt_2 6 rfl rfl)
theorem dX4_keyAt_54 : decode cX4_keyAt 54 = .ok (.iload_n 2, 1) := dk_28 (dk_at dksX4_keyAt_2 8 rfl rfl)
theorem dX4_keyAt_55 : decode cX4_keyAt 55 = .ok (.iload_n 3, 1) := dk_29 (dk_at dksX4_keyAt_2 9 rfl rfl)
theorem dX4_keyAt_56 : decode cX4_keyAt 56 = .ok (.iadd, 1) := dk_96 (dk_at dksX4_keyAt_2 10 rfl rfl)
theorem dX4_keyAt_57 : decode cX4_keyAt 57 = .ok (.invokevirtual 94, 3) := dk_182 0 94 (dk_at dksX4_keyAt_2 11 rfl rfl)
theorem dX4_keyAt_60 : decode cX4_keyAt 60 = .ok (.if_icmp .ne 9, 3) := dk_160 0 9 (dk_at dksX4_keyAt_2 14 rfl rfl)
theorem dX4_keyAt_63 : decode cX4_keyAt 63 = .ok (.iinc 3 1, 3) := dk_132 3 1 (dk_at dksX4_keyAt_2 17 rfl rfl)
theorem dX4_keyAt_66 : decode cX4_keyAt 66 = .ok (.goto (-51), 3) := dk_167 255 205 (dk_at dksX4_keyAt_2 20 rfl rfl)
theorem dX4_keyAt_69 : decode cX4_keyAt 69 = .ok (.ldc 86, 2) := dk_18 86 (dk_at dksX4_keyAt_3 0 rfl rfl)
theorem dX4_keyAt_71 : decode cX4_keyAt 71 = .ok (.iload_n 2, 1) := dk_28 (dk_at dksX4_keyAt_3 2 rfl rfl)
theorem dX4_keyAt_72 : decode cX4_keyAt 72 = .ok (.iload_n 3, 1) := dk_29 (dk_at dksX4_keyAt_3 3 rfl rfl)
theorem dX4_keyAt_73 : decode cX4_keyAt 73 = .ok (.iadd, 1) := dk_96 (dk_at dksX4_keyAt_3 4 rfl rfl)
theorem dX4_keyAt_74 : decode cX4_keyAt 74 = .ok (.invokevirtual 94, 3) := dk_182 0 94 (dk_at dksX4_keyAt_3 5 rfl rfl)
theorem dX4_keyAt_77 : decode cX4_keyAt 77 = .ok (.bipush 32, 2) := dk_16 32 (dk_at dksX4_keyAt_3 8 rfl rfl)
theorem dX4_keyAt_79 : decode cX4_keyAt 79 = .ok (.if_icmp .ne 18, 3) := dk_160 0 18 (dk_at dksX4_keyAt_3 10 rfl rfl)
theorem dX4_keyAt_82 : decode cX4_keyAt 82 = .ok (.aload_n 0, 1) := dk_42 (dk_at dksX4_keyAt_3 13 rfl rfl)
theorem dX4_keyAt_83 : decode cX4_keyAt 83 = .ok (.getfield 98, 3) := dk_180 0 98 (dk_at dksX4_keyAt_3 14 rfl rfl)
theorem dX4_keyAt_86 : decode cX4_keyAt 86 = .ok (.iload_n 3, 1) := dk_29 (dk_at dksX4_keyAt_3 17 rfl rfl)
theorem dX4_keyAt_87 : decode cX4_keyAt 87 = .ok (.iadd, 1) := dk_96 (dk_at dksX4_keyAt_3 18 rfl rfl)
theorem dX4_keyAt_88 : decode cX4_keyAt 88 = .ok (.aload_n 0, 1) := dk_42 (dk_at dksX4_keyAt_3 19 rfl rfl)
theorem dX4_keyAt_89 : decode cX4_keyAt 89 = .ok (.getfield 101, 3) := dk_180 0 101 (dk_at dksX4_keyAt_3 20 rfl rfl)
theorem dX4_keyAt_92 : decode cX4_keyAt 92 = .ok (.if_icmp .ne 5, 3) := dk_160 0 5 (dk_at dksX4_keyAt_4 0 rfl rfl)
theorem dX4_keyAt_95 : decode cX4_keyAt 95 = .ok (.iload_n 1, 1) := dk_27 (dk_at dksX4_keyAt_4 3 rfl rfl)
theorem dX4_keyAt_96 : decode cX4_keyAt 96 = .ok (.ireturn, 1) := dk_172 (dk_at dksX4_keyAt_4 4 rfl rfl)
theorem dX4_keyAt_97 : decode cX4_keyAt 97 = .ok (.ldc 86, 2) := dk_18 86 (dk_at dksX4_keyAt_4 5 rfl rfl)
theorem dX4_keyAt_99 : decode cX4_keyAt 99 = .ok (.iload_n 2, 1) := dk_28 (dk_at dksX4_keyAt_4 7 rfl rfl)
theorem dX4_keyAt_100 : decode cX4_keyAt 100 = .ok (.invokevirtual 94, 3) := dk_182 0 94 (dk_at dksX4_keyAt_4 8 rfl rfl)
theorem dX4_keyAt_103 : decode cX4_keyAt 103 = .ok (.bipush 32, 2) := dk_16 32 (dk_at dksX4_keyAt_4 11 rfl rfl)
theorem dX4_keyAt_105 : decode cX4_keyAt 105 = .ok (.if_icmp .eq 9, 3) := dk_159 0 9 (dk_at dksX4_keyAt_4 13 rfl rfl)
theorem dX4_keyAt_108 : decode cX4_keyAt 108 = .ok (.iinc 2 1, 3) := dk_132 2 1 (dk_at dksX4_keyAt_4 16 rfl rfl)
theorem dX4_keyAt_111 : decode cX4_keyAt 111 = .ok (.goto (-14), 3) := dk_167 255 242 (dk_at dksX4_keyAt_4 19 rfl rfl)
theorem dX4_keyAt_114 : decode cX4_keyAt 114 = .ok (.iinc 2 1, 3) := dk_132 2 1 (dk_at dksX4_keyAt_5 0 rfl rfl)
theorem dX4_keyAt_117 : decode cX4_keyAt 117 = .ok (.iinc 1 1, 3) := dk_132 1 1 (dk_at dksX4_keyAt_5 3 rfl rfl)
theorem dX4_keyAt_120 : decode cX4_keyAt 120 = .ok (.goto (-116), 3) := dk_167 255 140 (dk_at dksX4_keyAt_5 6 rfl rfl)
theorem dX4_keyAt_123 : decode cX4_keyAt 123 = .ok (.bipush 22, 2) := dk_16 22 (dk_at dksX4_keyAt_5 9 rfl rfl)
theorem dX4_keyAt_125 : decode cX4_keyAt 125 = .ok (.ireturn, 1) := dk_172 (dk_at dksX4_keyAt_5 11 rfl rfl)
abbrev cX4_isDigit : ByteArray := prog_16_method_8_code
def yX4_isDigit : MethodName := ⟨RX4, "isDigit", "(I)Z"⟩
def dkwX4_isDigit_0 : List UInt8 := [26, 16, 48, 161, 0, 13, 26, 16, 57, 163, 0, 7, 4, 167, 0, 4, 3, 172]
abbrev dktX4_isDigit_0 : List UInt8 := dkwX4_isDigit_0 ++ []
theorem dksX4_isDigit_0 : cX4_isDigit.data.toList.drop 0 = dktX4_isDigit_0 := by decide +kernel
theorem dX4_isDigit_0 : decode cX4_isDigit 0 = .ok (.iload_n 0, 1) := dk_26 (dk_at dksX4_isDigit_0 0 rfl rfl)
theorem dX4_isDigit_1 : decode cX4_isDigit 1 = .ok (.bipush 48, 2) := dk_16 48 (dk_at dksX4_isDigit_0 1 rfl rfl)
theorem dX4_isDigit_3 : decode cX4_isDigit 3 = .ok (.if_icmp .lt 13, 3) := dk_161 0 13 (dk_at dksX4_isDigit_0 3 rfl rfl)
theorem dX4_isDigit_6 : decode cX4_isDigit 6 = .ok (.iload_n 0, 1) := dk_26 (dk_at dksX4_isDigit_0 6 rfl rfl)
theorem dX4_isDigit_7 : decode cX4_isDigit 7 = .ok (.bipush 57, 2) := dk_16 57 (dk_at dksX4_isDigit_0 7 rfl rfl)
theorem dX4_isDigit_9 : decode cX4_isDigit 9 = .ok (.if_icmp .gt 7, 3) := dk_163 0 7 (dk_at dksX4_isDigit_0 9 rfl rfl)
theorem dX4_isDigit_12 : decode cX4_isDigit 12 = .ok (.iconst 1, 1) := dk_4 (dk_at dksX4_isDigit_0 12 rfl rfl)
theorem dX4_isDigit_13 : decode cX4_isDigit 13 = .ok (.goto 4, 3) := dk_167 0 4 (dk_at dksX4_isDigit_0 13 rfl rfl)
theorem dX4_isDigit_16 : decode cX4_isDigit 16 = .ok (.iconst 0, 1) := dk_3 (dk_at dksX4_isDigit_0 16 rfl rfl)
theorem dX4_isDigit_17 : decode cX4_isDigit 17 = .ok (.ireturn, 1) := dk_172 (dk_at dksX4_isDigit_0 17 rfl rfl)
abbrev cX4_eats : ByteArray := prog_16_method_13_code
def yX4_eats : MethodName := ⟨RX4, "eats", "(I)Z"⟩
def dkwX4_eats_0 : List UInt8 := [42, 27, 182, 0, 132, 154, 0, 5, 3, 172, 42, 182, 0, 135, 4, 172]
abbrev dktX4_eats_0 : List UInt8 := dkwX4_eats_0 ++ []
theorem dksX4_eats_0 : cX4_eats.data.toList.drop 0 = dktX4_eats_0 := by decide +kernel
theorem dX4_eats_0 : decode cX4_eats 0 = .ok (.aload_n 0, 1) := dk_42 (dk_at dksX4_eats_0 0 rfl rfl)
theorem dX4_eats_1 : decode cX4_eats 1 = .ok (.iload_n 1, 1) := dk_27 (dk_at dksX4_eats_0 1 rfl rfl)
theorem dX4_eats_2 : decode cX4_eats 2 = .ok (.invokevirtual 132, 3) := dk_182 0 132 (dk_at dksX4_eats_0 2 rfl rfl)
theorem dX4_eats_5 : decode cX4_eats 5 = .ok (.ifCond .ne 5, 3) := dk_154 0 5 (dk_at dksX4_eats_0 5 rfl rfl)
theorem dX4_eats_8 : decode cX4_eats 8 = .ok (.iconst 0, 1) := dk_3 (dk_at dksX4_eats_0 8 rfl rfl)
theorem dX4_eats_9 : decode cX4_eats 9 = .ok (.ireturn, 1) := dk_172 (dk_at dksX4_eats_0 9 rfl rfl)
theorem dX4_eats_10 : decode cX4_eats 10 = .ok (.aload_n 0, 1) := dk_42 (dk_at dksX4_eats_0 10 rfl rfl)
theorem dX4_eats_11 : decode cX4_eats 11 = .ok (.invokevirtual 135, 3) := dk_182 0 135 (dk_at dksX4_eats_0 11 rfl rfl)
theorem dX4_eats_14 : decode cX4_eats 14 = .ok (.iconst 1, 1) := dk_4 (dk_at dksX4_eats_0 14 rfl rfl)
theorem dX4_eats_15 : decode cX4_eats 15 = .ok (.ireturn, 1) := dk_172 (dk_at dksX4_eats_0 15 rfl rfl)
abbrev cX4_is : ByteArray := prog_16_method_12_code
def yX4_is : MethodName := ⟨RX4, "is", "(I)Z"⟩
def dkwX4_is_0 : List UInt8 := [42, 180, 0, 126, 154, 0, 15, 42, 180, 0, 108, 27, 160, 0, 7, 4, 167, 0, 4, 3, 172]
abbrev dktX4_is_0 : List UInt8 := dkwX4_is_0 ++ []
theorem dksX4_is_0 : cX4_is.data.toList.drop 0 = dktX4_is_0 := by decide +kernel
theorem dX4_is_0 : decode cX4_is 0 = .ok (.aload_n 0, 1) := dk_42 (dk_at dksX4_is_0 0 rfl rfl)
theorem dX4_is_1 : decode cX4_is 1 = .ok (.getfield 126, 3) := dk_180 0 126 (dk_at dksX4_is_0 1 rfl rfl)
theorem dX4_is_4 : decode cX4_is 4 = .ok (.ifCond .ne 15, 3) := dk_154 0 15 (dk_at dksX4_is_0 4 rfl rfl)
theorem dX4_is_7 : decode cX4_is 7 = .ok (.aload_n 0, 1) := dk_42 (dk_at dksX4_is_0 7 rfl rfl)
theorem dX4_is_8 : decode cX4_is 8 = .ok (.getfield 108, 3) := dk_180 0 108 (dk_at dksX4_is_0 8 rfl rfl)
theorem dX4_is_11 : decode cX4_is 11 = .ok (.iload_n 1, 1) := dk_27 (dk_at dksX4_is_0 11 rfl rfl)
theorem dX4_is_12 : decode cX4_is 12 = .ok (.if_icmp .ne 7, 3) := dk_160 0 7 (dk_at dksX4_is_0 12 rfl rfl)
theorem dX4_is_15 : decode cX4_is 15 = .ok (.iconst 1, 1) := dk_4 (dk_at dksX4_is_0 15 rfl rfl)
theorem dX4_is_16 : decode cX4_is 16 = .ok (.goto 4, 3) := dk_167 0 4 (dk_at dksX4_is_0 16 rfl rfl)
theorem dX4_is_19 : decode cX4_is 19 = .ok (.iconst 0, 1) := dk_3 (dk_at dksX4_is_0 19 rfl rfl)
theorem dX4_is_20 : decode cX4_is 20 = .ok (.ireturn, 1) := dk_172 (dk_at dksX4_is_0 20 rfl rfl)
abbrev cX4_fails : ByteArray := prog_16_method_11_code
def yX4_fails : MethodName := ⟨RX4, "fails", "(I)V"⟩
def dkwX4_fails_1 : List UInt8 := [181, 0, 126, 42, 42, 180, 0, 98, 181, 0, 129, 177]
abbrev dktX4_fails_1 : List UInt8 := dkwX4_fails_1 ++ []
def dkwX4_fails_0 : List UInt8 := [42, 180, 0, 126, 153, 0, 4, 177, 42, 42, 180, 0, 108, 16, 25, 160, 0, 7, 4, 167, 0, 4, 27]
abbrev dktX4_fails_0 : List UInt8 := dkwX4_fails_0 ++ dktX4_fails_1
theorem dksX4_fails_0 : cX4_fails.data.toList.drop 0 = dktX4_fails_0 := by decide +kernel
theorem dksX4_fails_1 : cX4_fails.data.toList.drop 23 = dktX4_fails_1 := dk_seg dksX4_fails_0 23 rfl rfl
theorem dX4_fails_0 : decode cX4_fails 0 = .ok (.aload_n 0, 1) := dk_42 (dk_at dksX4_fails_0 0 rfl rfl)
theorem dX4_fails_1 : decode cX4_fails 1 = .ok (.getfield 126, 3) := dk_180 0 126 (dk_at dksX4_fails_0 1 rfl rfl)
theorem dX4_fails_4 : decode cX4_fails 4 = .ok (.ifCond .eq 4, 3) := dk_153 0 4 (dk_at dksX4_fails_0 4 rfl rfl)
theorem dX4_fails_7 : decode cX4_fails 7 = .ok (.return_, 1) := dk_177 (dk_at dksX4_fails_0 7 rfl rfl)
theorem dX4_fails_8 : decode cX4_fails 8 = .ok (.aload_n 0, 1) := dk_42 (dk_at dksX4_fails_0 8 rfl rfl)
theorem dX4_fails_9 : decode cX4_fails 9 = .ok (.aload_n 0, 1) := dk_42 (dk_at dksX4_fails_0 9 rfl rfl)
theorem dX4_fails_10 : decode cX4_fails 10 = .ok (.getfield 108, 3) := dk_180 0 108 (dk_at dksX4_fails_0 10 rfl rfl)
theorem dX4_fails_13 : decode cX4_fails 13 = .ok (.bipush 25, 2) := dk_16 25 (dk_at dksX4_fails_0 13 rfl rfl)
theorem dX4_fails_15 : decode cX4_fails 15 = .ok (.if_icmp .ne 7, 3) := dk_160 0 7 (dk_at dksX4_fails_0 15 rfl rfl)
theorem dX4_fails_18 : decode cX4_fails 18 = .ok (.iconst 1, 1) := dk_4 (dk_at dksX4_fails_0 18 rfl rfl)
theorem dX4_fails_19 : decode cX4_fails 19 = .ok (.goto 4, 3) := dk_167 0 4 (dk_at dksX4_fails_0 19 rfl rfl)
theorem dX4_fails_22 : decode cX4_fails 22 = .ok (.iload_n 1, 1) := dk_27 (dk_at dksX4_fails_0 22 rfl rfl)
theorem dX4_fails_23 : decode cX4_fails 23 = .ok (.putfield 126, 3) := dk_181 0 126 (dk_at dksX4_fails_1 0 rfl rfl)
theorem dX4_fails_26 : decode cX4_fails 26 = .ok (.aload_n 0, 1) := dk_42 (dk_at dksX4_fails_1 3 rfl rfl)
theorem dX4_fails_27 : decode cX4_fails 27 = .ok (.aload_n 0, 1) := dk_42 (dk_at dksX4_fails_1 4 rfl rfl)
theorem dX4_fails_28 : decode cX4_fails 28 = .ok (.getfield 98, 3) := dk_180 0 98 (dk_at dksX4_fails_1 5 rfl rfl)
theorem dX4_fails_31 : decode cX4_fails 31 = .ok (.putfield 129, 3) := dk_181 0 129 (dk_at dksX4_fails_1 8 rfl rfl)
theorem dX4_fails_34 : decode cX4_fails 34 = .ok (.return_, 1) := dk_177 (dk_at dksX4_fails_1 11 rfl rfl)
abbrev cX4_takes : ByteArray := prog_16_method_14_code
def yX4_takes : MethodName := ⟨RX4, "takes", "(II)I"⟩
def dkwX4_takes_2 : List UInt8 := [154, 0, 7, 42, 182, 0, 135, 29, 172]
abbrev dktX4_takes_2 : List UInt8 := dkwX4_takes_2 ++ []
def dkwX4_takes_1 : List UInt8 := [28, 133, 184, 0, 142, 154, 0, 8, 42, 6, 182, 0, 138, 42, 180, 0, 121, 62, 42, 180, 0, 126]
abbrev dktX4_takes_1 : List UInt8 := dkwX4_takes_1 ++ dktX4_takes_2
def dkwX4_takes_0 : List UInt8 := [42, 16, 23, 182, 0, 132, 154, 0, 11, 42, 5, 182, 0, 138, 167, 0, 23, 42, 180, 0, 121, 133, 27, 133]
abbrev dktX4_takes_0 : List UInt8 := dkwX4_takes_0 ++ dktX4_takes_1
theorem dksX4_takes_0 : cX4_takes.data.toList.drop 0 = dktX4_takes_0 := by decide +kernel
theorem dksX4_takes_1 : cX4_takes.data.toList.drop 24 = dktX4_takes_1 := dk_seg dksX4_takes_0 24 rfl rfl
theorem dksX4_takes_2 : cX4_takes.data.toList.drop 46 = dktX4_takes_2 := dk_seg dksX4_takes_1 22 rfl rfl
theorem dX4_takes_0 : decode cX4_takes 0 = .ok (.aload_n 0, 1) := dk_42 (dk_at dksX4_takes_0 0 rfl rfl)
theorem dX4_takes_1 : decode cX4_takes 1 = .ok (.bipush 23, 2) := dk_16 23 (dk_at dksX4_takes_0 1 rfl rfl)
theorem dX4_takes_3 : decode cX4_takes 3 = .ok (.invokevirtual 132, 3) := dk_182 0 132 (dk_at dksX4_takes_0 3 rfl rfl)
theorem dX4_takes_6 : decode cX4_takes 6 = .ok (.ifCond .ne 11, 3) := dk_154 0 11 (dk_at dksX4_takes_0 6 rfl rfl)
theorem dX4_takes_9 : decode cX4_takes 9 = .ok (.aload_n 0, 1) := dk_42 (dk_at dksX4_takes_0 9 rfl rfl)
theorem dX4_takes_10 : decode cX4_takes 10 = .ok (.iconst 2, 1) := dk_5 (dk_at dksX4_takes_0 10 rfl rfl)
theorem dX4_takes_11 : decode cX4_takes 11 = .ok (.invokevirtual 138, 3) := dk_182 0 138 (dk_at dksX4_takes_0 11 rfl rfl)
theorem dX4_takes_14 : decode cX4_takes 14 = .ok (.goto 23, 3) := dk_167 0 23 (dk_at dksX4_takes_0 14 rfl rfl)
theorem dX4_takes_17 : decode cX4_takes 17 = .ok (.aload_n 0, 1) := dk_42 (dk_at dksX4_takes_0 17 rfl rfl)
theorem dX4_takes_18 : decode cX4_takes 18 = .ok (.getfield 121, 3) := dk_180 0 121 (dk_at dksX4_takes_0 18 rfl rfl)
theorem dX4_takes_21 : decode cX4_takes 21 = .ok (.i2l, 1) := dk_133 (dk_at dksX4_takes_0 21 rfl rfl)
theorem dX4_takes_22 : decode cX4_takes 22 = .ok (.iload_n 1, 1) := dk_27 (dk_at dksX4_takes_0 22 rfl rfl)
theorem dX4_takes_23 : decode cX4_takes 23 = .ok (.i2l, 1) := dk_133 (dk_at dksX4_takes_0 23 rfl rfl)
theorem dX4_takes_24 : decode cX4_takes 24 = .ok (.iload_n 2, 1) := dk_28 (dk_at dksX4_takes_1 0 rfl rfl)
theorem dX4_takes_25 : decode cX4_takes 25 = .ok (.i2l, 1) := dk_133 (dk_at dksX4_takes_1 1 rfl rfl)
theorem dX4_takes_26 : decode cX4_takes 26 = .ok (.invokestatic 142, 3) := dk_184 0 142 (dk_at dksX4_takes_1 2 rfl rfl)
theorem dX4_takes_29 : decode cX4_takes 29 = .ok (.ifCond .ne 8, 3) := dk_154 0 8 (dk_at dksX4_takes_1 5 rfl rfl)
theorem dX4_takes_32 : decode cX4_takes 32 = .ok (.aload_n 0, 1) := dk_42 (dk_at dksX4_takes_1 8 rfl rfl)
theorem dX4_takes_33 : decode cX4_takes 33 = .ok (.iconst 3, 1) := dk_6 (dk_at dksX4_takes_1 9 rfl rfl)
theorem dX4_takes_34 : decode cX4_takes 34 = .ok (.invokevirtual 138, 3) := dk_182 0 138 (dk_at dksX4_takes_1 10 rfl rfl)
theorem dX4_takes_37 : decode cX4_takes 37 = .ok (.aload_n 0, 1) := dk_42 (dk_at dksX4_takes_1 13 rfl rfl)
theorem dX4_takes_38 : decode cX4_takes 38 = .ok (.getfield 121, 3) := dk_180 0 121 (dk_at dksX4_takes_1 14 rfl rfl)
theorem dX4_takes_41 : decode cX4_takes 41 = .ok (.istore_n 3, 1) := dk_62 (dk_at dksX4_takes_1 17 rfl rfl)
theorem dX4_takes_42 : decode cX4_takes 42 = .ok (.aload_n 0, 1) := dk_42 (dk_at dksX4_takes_1 18 rfl rfl)
theorem dX4_takes_43 : decode cX4_takes 43 = .ok (.getfield 126, 3) := dk_180 0 126 (dk_at dksX4_takes_1 19 rfl rfl)
theorem dX4_takes_46 : decode cX4_takes 46 = .ok (.ifCond .ne 7, 3) := dk_154 0 7 (dk_at dksX4_takes_2 0 rfl rfl)
theorem dX4_takes_49 : decode cX4_takes 49 = .ok (.aload_n 0, 1) := dk_42 (dk_at dksX4_takes_2 3 rfl rfl)
theorem dX4_takes_50 : decode cX4_takes 50 = .ok (.invokevirtual 135, 3) := dk_182 0 135 (dk_at dksX4_takes_2 4 rfl rfl)
theorem dX4_takes_53 : decode cX4_takes 53 = .ok (.iload_n 3, 1) := dk_29 (dk_at dksX4_takes_2 7 rfl rfl)
theorem dX4_takes_54 : decode cX4_takes 54 = .ok (.ireturn, 1) := dk_172 (dk_at dksX4_takes_2 8 rfl rfl)
abbrev cX4_closes : ByteArray := prog_16_method_31_code
def yX4_closes : MethodName := ⟨RX4, "closes", "()V"⟩
def dkwX4_closes_1 : List UInt8 := [177]
abbrev dktX4_closes_1 : List UInt8 := dkwX4_closes_1 ++ []
def dkwX4_closes_0 : List UInt8 := [42, 16, 30, 182, 0, 161, 154, 0, 8, 42, 5, 182, 0, 138, 42, 180, 0, 24, 3, 92, 46, 4, 96, 79]
abbrev dktX4_closes_0 : List UInt8 := dkwX4_closes_0 ++ dktX4_closes_1
theorem dksX4_closes_0 : cX4_closes.data.toList.drop 0 = dktX4_closes_0 := by decide +kernel
theorem dksX4_closes_1 : cX4_closes.data.toList.drop 24 = dktX4_closes_1 := dk_seg dksX4_closes_0 24 rfl rfl
theorem dX4_closes_0 : decode cX4_closes 0 = .ok (.aload_n 0, 1) := dk_42 (dk_at dksX4_closes_0 0 rfl rfl)
theorem dX4_closes_1 : decode cX4_closes 1 = .ok (.bipush 30, 2) := dk_16 30 (dk_at dksX4_closes_0 1 rfl rfl)
theorem dX4_closes_3 : decode cX4_closes 3 = .ok (.invokevirtual 161, 3) := dk_182 0 161 (dk_at dksX4_closes_0 3 rfl rfl)
theorem dX4_closes_6 : decode cX4_closes 6 = .ok (.ifCond .ne 8, 3) := dk_154 0 8 (dk_at dksX4_closes_0 6 rfl rfl)
theorem dX4_closes_9 : decode cX4_closes 9 = .ok (.aload_n 0, 1) := dk_42 (dk_at dksX4_closes_0 9 rfl rfl)
theorem dX4_closes_10 : decode cX4_closes 10 = .ok (.iconst 2, 1) := dk_5 (dk_at dksX4_closes_0 10 rfl rfl)
theorem dX4_closes_11 : decode cX4_closes 11 = .ok (.invokevirtual 138, 3) := dk_182 0 138 (dk_at dksX4_closes_0 11 rfl rfl)
theorem dX4_closes_14 : decode cX4_closes 14 = .ok (.aload_n 0, 1) := dk_42 (dk_at dksX4_closes_0 14 rfl rfl)
theorem dX4_closes_15 : decode cX4_closes 15 = .ok (.getfield 24, 3) := dk_180 0 24 (dk_at dksX4_closes_0 15 rfl rfl)
theorem dX4_closes_18 : decode cX4_closes 18 = .ok (.iconst 0, 1) := dk_3 (dk_at dksX4_closes_0 18 rfl rfl)
theorem dX4_closes_19 : decode cX4_closes 19 = .ok (.dup2, 1) := dk_92 (dk_at dksX4_closes_0 19 rfl rfl)
theorem dX4_closes_20 : decode cX4_closes 20 = .ok (.iaload, 1) := dk_46 (dk_at dksX4_closes_0 20 rfl rfl)
theorem dX4_closes_21 : decode cX4_closes 21 = .ok (.iconst 1, 1) := dk_4 (dk_at dksX4_closes_0 21 rfl rfl)
theorem dX4_closes_22 : decode cX4_closes 22 = .ok (.iadd, 1) := dk_96 (dk_at dksX4_closes_0 22 rfl rfl)
theorem dX4_closes_23 : decode cX4_closes 23 = .ok (.iastore, 1) := dk_79 (dk_at dksX4_closes_0 23 rfl rfl)
theorem dX4_closes_24 : decode cX4_closes 24 = .ok (.return_, 1) := dk_177 (dk_at dksX4_closes_1 0 rfl rfl)
abbrev cX4_readLine : ByteArray := prog_16_method_30_code
def yX4_readLine : MethodName := ⟨RX4, "readLine", "()V"⟩
def dkwX4_readLine_5 : List UInt8 := [182, 0, 195, 167, 0, 8, 42, 5, 182, 0, 138, 177]
abbrev dktX4_readLine_5 : List UInt8 := dkwX4_readLine_5 ++ []
def dkwX4_readLine_4 : List UInt8 := [182, 0, 132, 154, 0, 12, 42, 16, 11, 182, 0, 132, 153, 0, 17, 42, 42, 180, 0, 108, 16, 10, 100]
abbrev dktX4_readLine_4 : List UInt8 := dkwX4_readLine_4 ++ dktX4_readLine_5
def dkwX4_readLine_3 : List UInt8 := [153, 0, 19, 42, 180, 0, 24, 6, 42, 3, 16, 10, 182, 0, 182, 79, 167, 0, 40, 42, 16, 10]
abbrev dktX4_readLine_3 : List UInt8 := dkwX4_readLine_3 ++ dktX4_readLine_4
def dkwX4_readLine_2 : List UInt8 := [42, 180, 0, 24, 16, 45, 42, 3, 16, 9, 182, 0, 182, 79, 167, 0, 65, 42, 16, 9, 182, 0, 161]
abbrev dktX4_readLine_2 : List UInt8 := dkwX4_readLine_2 ++ dktX4_readLine_3
def dkwX4_readLine_1 : List UInt8 := [16, 6, 182, 0, 132, 153, 0, 10, 42, 182, 0, 192, 167, 0, 91, 42, 16, 8, 182, 0, 161, 153, 0, 20]
abbrev dktX4_readLine_1 : List UInt8 := dkwX4_readLine_1 ++ dktX4_readLine_2
def dkwX4_readLine_0 : List UInt8 := [42, 180, 0, 126, 153, 0, 4, 177, 42, 5, 182, 0, 132, 153, 0, 10, 42, 182, 0, 189, 167, 0, 107, 42]
abbrev dktX4_readLine_0 : List UInt8 := dkwX4_readLine_0 ++ dktX4_readLine_1
theorem dksX4_readLine_0 : cX4_readLine.data.toList.drop 0 = dktX4_readLine_0 := by decide +kernel
theorem dksX4_readLine_1 : cX4_readLine.data.toList.drop 24 = dktX4_readLine_1 := dk_seg dksX4_readLine_0 24 rfl rfl
theorem dksX4_readLine_2 : cX4_readLine.data.toList.drop 48 = dktX4_readLine_2 := dk_seg dksX4_readLine_1 24 rfl rfl
theorem dksX4_readLine_3 : cX4_readLine.data.toList.drop 71 = dktX4_readLine_3 := dk_seg dksX4_readLine_2 23 rfl rfl
theorem dksX4_readLine_4 : cX4_readLine.data.toList.drop 93 = dktX4_readLine_4 := dk_seg dksX4_readLine_3 22 rfl rfl
theorem dksX4_readLine_5 : cX4_readLine.data.toList.drop 116 = dktX4_readLine_5 := dk_seg dksX4_readLine_4 23 rfl rfl
theorem dX4_readLine_0 : decode cX4_readLine 0 = .ok (.aload_n 0, 1) := dk_42 (dk_at dksX4_readLine_0 0 rfl rfl)
theorem dX4_readLine_1 : decode cX4_readLine 1 = .ok (.getfield 126, 3) := dk_180 0 126 (dk_at dksX4_readLine_0 1 rfl rfl)
theorem dX4_readLine_4 : decode cX4_readLine 4 = .ok (.ifCond .eq 4, 3) := dk_153 0 4 (dk_at dksX4_readLine_0 4 rfl rfl)
theorem dX4_readLine_7 : decode cX4_readLine 7 = .ok (.return_, 1) := dk_177 (dk_at dksX4_readLine_0 7 rfl rfl)
theorem dX4_readLine_8 : decode cX4_readLine 8 = .ok (.aload_n 0, 1) := dk_42 (dk_at dksX4_readLine_0 8 rfl rfl)
theorem dX4_readLine_9 : decode cX4_readLine 9 = .ok (.iconst 2, 1) := dk_5 (dk_at dksX4_readLine_0 9 rfl rfl)
theorem dX4_readLine_10 : decode cX4_readLine 10 = .ok (.invokevirtual 132, 3) := dk_182 0 132 (dk_at dksX4_readLine_0 10 rfl rfl)
theorem dX4_readLine_13 : decode cX4_readLine 13 = .ok (.ifCond .eq 10, 3) := dk_153 0 10 (dk_at dksX4_readLine_0 13 rfl rfl)
theorem dX4_readLine_16 : decode cX4_readLine 16 = .ok (.aload_n 0, 1) := dk_42 (dk_at dksX4_readLine_0 16 rfl rfl)
theorem dX4_readLine_17 : decode cX4_readLine 17 = .ok (.invokevirtual 189, 3) := dk_182 0 189 (dk_at dksX4_readLine_0 17 rfl rfl)
theorem dX4_readLine_20 : decode cX4_readLine 20 = .ok (.goto 107, 3) := dk_167 0 107 (dk_at dksX4_readLine_0 20 rfl rfl)
theorem dX4_readLine_23 : decode cX4_readLine 23 = .ok (.aload_n 0, 1) := dk_42 (dk_at dksX4_readLine_0 23 rfl rfl)
theorem dX4_readLine_24 : decode cX4_readLine 24 = .ok (.bipush 6, 2) := dk_16 6 (dk_at dksX4_readLine_1 0 rfl rfl)
theorem dX4_readLine_26 : decode cX4_readLine 26 = .ok (.invokevirtual 132, 3) := dk_182 0 132 (dk_at dksX4_readLine_1 2 rfl rfl)
theorem dX4_readLine_29 : decode cX4_readLine 29 = .ok (.ifCond .eq 10, 3) := dk_153 0 10 (dk_at dksX4_readLine_1 5 rfl rfl)
theorem dX4_readLine_32 : decode cX4_readLine 32 = .ok (.aload_n 0, 1) := dk_42 (dk_at dksX4_readLine_1 8 rfl rfl)
theorem dX4_readLine_33 : decode cX4_readLine 33 = .ok (.invokevirtual 192, 3) := dk_182 0 192 (dk_at dksX4_readLine_1 9 rfl rfl)
theorem dX4_readLine_36 : decode cX4_readLine 36 = .ok (.goto 91, 3) := dk_167 0 91 (dk_at dksX4_readLine_1 12 rfl rfl)
theorem dX4_readLine_39 : decode cX4_readLine 39 = .ok (.aload_n 0, 1) := dk_42 (dk_at dksX4_readLine_1 15 rfl rfl)
theorem dX4_readLine_40 : decode cX4_readLine 40 = .ok (.bipush 8, 2) := dk_16 8 (dk_at dksX4_readLine_1 16 rfl rfl)
theorem dX4_readLine_42 : decode cX4_readLine 42 = .ok (.invokevirtual 161, 3) := dk_182 0 161 (dk_at dksX4_readLine_1 18 rfl rfl)
theorem dX4_readLine_45 : decode cX4_readLine 45 = .ok (.ifCond .eq 20, 3) := dk_153 0 20 (dk_at dksX4_readLine_1 21 rfl rfl)
theorem dX4_readLine_48 : decode cX4_readLine 48 = .ok (.aload_n 0, 1) := dk_42 (dk_at dksX4_readLine_2 0 rfl rfl)
theorem dX4_readLine_49 : decode cX4_readLine 49 = .ok (.getfield 24, 3) := dk_180 0 24 (dk_at dksX4_readLine_2 1 rfl rfl)
theorem dX4_readLine_52 : decode cX4_readLine 52 = .ok (.bipush 45, 2) := dk_16 45 (dk_at dksX4_readLine_2 4 rfl rfl)
theorem dX4_readLine_54 : decode cX4_readLine 54 = .ok (.aload_n 0, 1) := dk_42 (dk_at dksX4_readLine_2 6 rfl rfl)
theorem dX4_readLine_55 : decode cX4_readLine 55 = .ok (.iconst 0, 1) := dk_3 (dk_at dksX4_readLine_2 7 rfl rfl)
theorem dX4_readLine_56 : decode cX4_readLine 56 = .ok (.bipush 9, 2) := dk_16 9 (dk_at dksX4_readLine_2 8 rfl rfl)
theorem dX4_readLine_58 : decode cX4_readLine 58 = .ok (.invokevirtual 182, 3) := dk_182 0 182 (dk_at dksX4_readLine_2 10 rfl rfl)
theorem dX4_readLine_61 : decode cX4_readLine 61 = .ok (.iastore, 1) := dk_79 (dk_at dksX4_readLine_2 13 rfl rfl)
theorem dX4_readLine_62 : decode cX4_readLine 62 = .ok (.goto 65, 3) := dk_167 0 65 (dk_at dksX4_readLine_2 14 rfl rfl)
theorem dX4_readLine_65 : decode cX4_readLine 65 = .ok (.aload_n 0, 1) := dk_42 (dk_at dksX4_readLine_2 17 rfl rfl)
theorem dX4_readLine_66 : decode cX4_readLine 66 = .ok (.bipush 9, 2) := dk_16 9 (dk_at dksX4_readLine_2 18 rfl rfl)
theorem dX4_readLine_68 : decode cX4_readLine 68 = .ok (.invokevirtual 161, 3) := dk_182 0 161 (dk_at dksX4_readLine_2 20 rfl rfl)
theorem dX4_readLine_71 : decode cX4_readLine 71 = .ok (.ifCond .eq 19, 3) := dk_153 0 19 (dk_at dksX4_readLine_3 0 rfl rfl)
theorem dX4_readLine_74 : decode cX4_readLine 74 = .ok (.aload_n 0, 1) := dk_42 (dk_at dksX4_readLine_3 3 rfl rfl)
theorem dX4_readLine_75 : decode cX4_readLine 75 = .ok (.getfield 24, 3) := dk_180 0 24 (dk_at dksX4_readLine_3 4 rfl rfl)
theorem dX4_readLine_78 : decode cX4_readLine 78 = .ok (.iconst 3, 1) := dk_6 (dk_at dksX4_readLine_3 7 rfl rfl)
theorem dX4_readLine_79 : decode cX4_readLine 79 = .ok (.aload_n 0, 1) := dk_42 (dk_at dksX4_readLine_3 8 rfl rfl)
theorem dX4_readLine_80 : decode cX4_readLine 80 = .ok (.iconst 0, 1) := dk_3 (dk_at dksX4_readLine_3 9 rfl rfl)
theorem dX4_readLine_81 : decode cX4_readLine 81 = .ok (.bipush 10, 2) := dk_16 10 (dk_at dksX4_readLine_3 10 rfl rfl)
theorem dX4_readLine_83 : decode cX4_readLine 83 = .ok (.invokevirtual 182, 3) := dk_182 0 182 (dk_at dksX4_readLine_3 12 rfl rfl)
theorem dX4_readLine_86 : decode cX4_readLine 86 = .ok (.iastore, 1) := dk_79 (dk_at dksX4_readLine_3 15 rfl rfl)
theorem dX4_readLine_87 : decode cX4_readLine 87 = .ok (.goto 40, 3) := dk_167 0 40 (dk_at dksX4_readLine_3 16 rfl rfl)
theorem dX4_readLine_90 : decode cX4_readLine 90 = .ok (.aload_n 0, 1) := dk_42 (dk_at dksX4_readLine_3 19 rfl rfl)
theorem dX4_readLine_91 : decode cX4_readLine 91 = .ok (.bipush 10, 2) := dk_16 10 (dk_at dksX4_readLine_3 20 rfl rfl)
theorem dX4_readLine_93 : decode cX4_readLine 93 = .ok (.invokevirtual 132, 3) := dk_182 0 132 (dk_at dksX4_readLine_4 0 rfl rfl)
theorem dX4_readLine_96 : decode cX4_readLine 96 = .ok (.ifCond .ne 12, 3) := dk_154 0 12 (dk_at dksX4_readLine_4 3 rfl rfl)
theorem dX4_readLine_99 : decode cX4_readLine 99 = .ok (.aload_n 0, 1) := dk_42 (dk_at dksX4_readLine_4 6 rfl rfl)
theorem dX4_readLine_100 : decode cX4_readLine 100 = .ok (.bipush 11, 2) := dk_16 11 (dk_at dksX4_readLine_4 7 rfl rfl)
theorem dX4_readLine_102 : decode cX4_readLine 102 = .ok (.invokevirtual 132, 3) := dk_182 0 132 (dk_at dksX4_readLine_4 9 rfl rfl)
theorem dX4_readLine_105 : decode cX4_readLine 105 = .ok (.ifCond .eq 17, 3) := dk_153 0 17 (dk_at dksX4_readLine_4 12 rfl rfl)
theorem dX4_readLine_108 : decode cX4_readLine 108 = .ok (.aload_n 0, 1) := dk_42 (dk_at dksX4_readLine_4 15 rfl rfl)
theorem dX4_readLine_109 : decode cX4_readLine 109 = .ok (.aload_n 0, 1) := dk_42 (dk_at dksX4_readLine_4 16 rfl rfl)
theorem dX4_readLine_110 : decode cX4_readLine 110 = .ok (.getfield 108, 3) := dk_180 0 108 (dk_at dksX4_readLine_4 17 rfl rfl)
theorem dX4_readLine_113 : decode cX4_readLine 113 = .ok (.bipush 10, 2) := dk_16 10 (dk_at dksX4_readLine_4 20 rfl rfl)
theorem dX4_readLine_115 : decode cX4_readLine 115 = .ok (.isub, 1) := dk_100 (dk_at dksX4_readLine_4 22 rfl rfl)
theorem dX4_readLine_116 : decode cX4_readLine 116 = .ok (.invokevirtual 195, 3) := dk_182 0 195 (dk_at dksX4_readLine_5 0 rfl rfl)
theorem dX4_readLine_119 : decode cX4_readLine 119 = .ok (.goto 8, 3) := dk_167 0 8 (dk_at dksX4_readLine_5 3 rfl rfl)
theorem dX4_readLine_122 : decode cX4_readLine 122 = .ok (.aload_n 0, 1) := dk_42 (dk_at dksX4_readLine_5 6 rfl rfl)
theorem dX4_readLine_123 : decode cX4_readLine 123 = .ok (.iconst 2, 1) := dk_5 (dk_at dksX4_readLine_5 7 rfl rfl)
theorem dX4_readLine_124 : decode cX4_readLine 124 = .ok (.invokevirtual 138, 3) := dk_182 0 138 (dk_at dksX4_readLine_5 8 rfl rfl)
theorem dX4_readLine_127 : decode cX4_readLine 127 = .ok (.return_, 1) := dk_177 (dk_at dksX4_readLine_5 11 rfl rfl)
abbrev cX4_readPassage : ByteArray := prog_16_method_27_code
def yX4_readPassage : MethodName := ⟨RX4, "readPassage", "()V"⟩
def dkwX4_readPassage_5 : List UInt8 := [153, 0, 6, 167, 255, 241, 42, 180, 0, 126, 154, 0, 13, 42, 180, 0, 24, 5, 92, 46, 4, 96, 79, 177]
abbrev dktX4_readPassage_5 : List UInt8 := dkwX4_readPassage_5 ++ []
def dkwX4_readPassage_4 : List UInt8 := [180, 0, 24, 4, 46, 4, 100, 182, 0, 182, 79, 42, 180, 0, 126, 154, 0, 14, 42, 27, 182, 0, 186]
abbrev dktX4_readPassage_4 : List UInt8 := dkwX4_readPassage_4 ++ dktX4_readPassage_5
def dkwX4_readPassage_3 : List UInt8 := [16, 10, 27, 96, 46, 160, 0, 8, 42, 6, 182, 0, 138, 42, 180, 0, 24, 16, 18, 27, 96, 42, 3, 42]
abbrev dktX4_readPassage_3 : List UInt8 := dkwX4_readPassage_3 ++ dktX4_readPassage_4
def dkwX4_readPassage_2 : List UInt8 := [4, 100, 182, 0, 182, 79, 42, 16, 23, 182, 0, 132, 153, 0, 24, 42, 180, 0, 121, 42, 180, 0, 24]
abbrev dktX4_readPassage_2 : List UInt8 := dkwX4_readPassage_2 ++ dktX4_readPassage_3
def dkwX4_readPassage_1 : List UInt8 := [153, 0, 4, 177, 42, 182, 0, 135, 42, 180, 0, 24, 16, 10, 27, 96, 42, 3, 42, 180, 0, 24, 4, 46]
abbrev dktX4_readPassage_1 : List UInt8 := dkwX4_readPassage_1 ++ dktX4_readPassage_2
def dkwX4_readPassage_0 : List UInt8 := [42, 180, 0, 24, 5, 46, 60, 27, 16, 8, 160, 0, 8, 42, 7, 182, 0, 138, 42, 180, 0, 126]
abbrev dktX4_readPassage_0 : List UInt8 := dkwX4_readPassage_0 ++ dktX4_readPassage_1
theorem dksX4_readPassage_0 : cX4_readPassage.data.toList.drop 0 = dktX4_readPassage_0 := by decide +kernel
theorem dksX4_readPassage_1 : cX4_readPassage.data.toList.drop 22 = dktX4_readPassage_1 := dk_seg dksX4_readPassage_0 22 rfl rfl
theorem dksX4_readPassage_2 : cX4_readPassage.data.toList.drop 46 = dktX4_readPassage_2 := dk_seg dksX4_readPassage_1 24 rfl rfl
theorem dksX4_readPassage_3 : cX4_readPassage.data.toList.drop 69 = dktX4_readPassage_3 := dk_seg dksX4_readPassage_2 23 rfl rfl
theorem dksX4_readPassage_4 : cX4_readPassage.data.toList.drop 93 = dktX4_readPassage_4 := dk_seg dksX4_readPassage_3 24 rfl rfl
theorem dksX4_readPassage_5 : cX4_readPassage.data.toList.drop 116 = dktX4_readPassage_5 := dk_seg dksX4_readPassage_4 23 rfl rfl
theorem dX4_readPassage_0 : decode cX4_readPassage 0 = .ok (.aload_n 0, 1) := dk_42 (dk_at dksX4_readPassage_0 0 rfl rfl)
theorem dX4_readPassage_1 : decode cX4_readPassage 1 = .ok (.getfield 24, 3) := dk_180 0 24 (dk_at dksX4_readPassage_0 1 rfl rfl)
theorem dX4_readPassage_4 : decode cX4_readPassage 4 = .ok (.iconst 2, 1) := dk_5 (dk_at dksX4_readPassage_0 4 rfl rfl)
theorem dX4_readPassage_5 : decode cX4_readPassage 5 = .ok (.iaload, 1) := dk_46 (dk_at dksX4_readPassage_0 5 rfl rfl)
theorem dX4_readPassage_6 : decode cX4_readPassage 6 = .ok (.istore_n 1, 1) := dk_60 (dk_at dksX4_readPassage_0 6 rfl rfl)
theorem dX4_readPassage_7 : decode cX4_readPassage 7 = .ok (.iload_n 1, 1) := dk_27 (dk_at dksX4_readPassage_0 7 rfl rfl)
theorem dX4_readPassage_8 : decode cX4_readPassage 8 = .ok (.bipush 8, 2) := dk_16 8 (dk_at dksX4_readPassage_0 8 rfl rfl)
theorem dX4_readPassage_10 : decode cX4_readPassage 10 = .ok (.if_icmp .ne 8, 3) := dk_160 0 8 (dk_at dksX4_readPassage_0 10 rfl rfl)
theorem dX4_readPassage_13 : decode cX4_readPassage 13 = .ok (.aload_n 0, 1) := dk_42 (dk_at dksX4_readPassage_0 13 rfl rfl)
theorem dX4_readPassage_14 : decode cX4_readPassage 14 = .ok (.iconst 4, 1) := dk_7 (dk_at dksX4_readPassage_0 14 rfl rfl)
theorem dX4_readPassage_15 : decode cX4_readPassage 15 = .ok (.invokevirtual 138, 3) := dk_182 0 138 (dk_at dksX4_readPassage_0 15 rfl rfl)
theorem dX4_readPassage_18 : decode cX4_readPassage 18 = .ok (.aload_n 0, 1) := dk_42 (dk_at dksX4_readPassage_0 18 rfl rfl)
theorem dX4_readPassage_19 : decode cX4_readPassage 19 = .ok (.getfield 126, 3) := dk_180 0 126 (dk_at dksX4_readPassage_0 19 rfl rfl)
theorem dX4_readPassage_22 : decode cX4_readPassage 22 = .ok (.ifCond .eq 4, 3) := dk_153 0 4 (dk_at dksX4_readPassage_1 0 rfl rfl)
theorem dX4_readPassage_25 : decode cX4_readPassage 25 = .ok (.return_, 1) := dk_177 (dk_at dksX4_readPassage_1 3 rfl rfl)
theorem dX4_readPassage_26 : decode cX4_readPassage 26 = .ok (.aload_n 0, 1) := dk_42 (dk_at dksX4_readPassage_1 4 rfl rfl)
theorem dX4_readPassage_27 : decode cX4_readPassage 27 = .ok (.invokevirtual 135, 3) := dk_182 0 135 (dk_at dksX4_readPassage_1 5 rfl rfl)
theorem dX4_readPassage_30 : decode cX4_readPassage 30 = .ok (.aload_n 0, 1) := dk_42 (dk_at dksX4_readPassage_1 8 rfl rfl)
theorem dX4_readPassage_31 : decode cX4_readPassage 31 = .ok (.getfield 24, 3) := dk_180 0 24 (dk_at dksX4_readPassage_1 9 rfl rfl)
theorem dX4_readPassage_34 : decode cX4_readPassage 34 = .ok (.bipush 10, 2) := dk_16 10 (dk_at dksX4_readPassage_1 12 rfl rfl)
theorem dX4_readPassage_36 : decode cX4_readPassage 36 = .ok (.iload_n 1, 1) := dk_27 (dk_at dksX4_readPassage_1 14 rfl rfl)
theorem dX4_readPassage_37 : decode cX4_readPassage 37 = .ok (.iadd, 1) := dk_96 (dk_at dksX4_readPassage_1 15 rfl rfl)
theorem dX4_readPassage_38 : decode cX4_readPassage 38 = .ok (.aload_n 0, 1) := dk_42 (dk_at dksX4_readPassage_1 16 rfl rfl)
theorem dX4_readPassage_39 : decode cX4_readPassage 39 = .ok (.iconst 0, 1) := dk_3 (dk_at dksX4_readPassage_1 17 rfl rfl)
theorem dX4_readPassage_40 : decode cX4_readPassage 40 = .ok (.aload_n 0, 1) := dk_42 (dk_at dksX4_readPassage_1 18 rfl rfl)
theorem dX4_readPassage_41 : decode cX4_readPassage 41 = .ok (.getfield 24, 3) := dk_180 0 24 (dk_at dksX4_readPassage_1 19 rfl rfl)
theorem dX4_readPassage_44 : decode cX4_readPassage 44 = .ok (.iconst 1, 1) := dk_4 (dk_at dksX4_readPassage_1 22 rfl rfl)
theorem dX4_readPassage_45 : decode cX4_readPassage 45 = .ok (.iaload, 1) := dk_46 (dk_at dksX4_readPassage_1 23 rfl rfl)
theorem dX4_readPassage_46 : decode cX4_readPassage 46 = .ok (.iconst 1, 1) := dk_4 (dk_at dksX4_readPassage_2 0 rfl rfl)
theorem dX4_readPassage_47 : decode cX4_readPassage 47 = .ok (.isub, 1) := dk_100 (dk_at dksX4_readPassage_2 1 rfl rfl)
theorem dX4_readPassage_48 : decode cX4_readPassage 48 = .ok (.invokevirtual 182, 3) := dk_182 0 182 (dk_at dksX4_readPassage_2 2 rfl rfl)
theorem dX4_readPassage_51 : decode cX4_readPassage 51 = .ok (.iastore, 1) := dk_79 (dk_at dksX4_readPassage_2 5 rfl rfl)
theorem dX4_readPassage_52 : decode cX4_readPassage 52 = .ok (.aload_n 0, 1) := dk_42 (dk_at dksX4_readPassage_2 6 rfl rfl)
theorem dX4_readPassage_53 : decode cX4_readPassage 53 = .ok (.bipush 23, 2) := dk_16 23 (dk_at dksX4_readPassage_2 7 rfl rfl)
theorem dX4_readPassage_55 : decode cX4_readPassage 55 = .ok (.invokevirtual 132, 3) := dk_182 0 132 (dk_at dksX4_readPassage_2 9 rfl rfl)
theorem dX4_readPassage_58 : decode cX4_readPassage 58 = .ok (.ifCond .eq 24, 3) := dk_153 0 24 (dk_at dksX4_readPassage_2 12 rfl rfl)
theorem dX4_readPassage_61 : decode cX4_readPassage 61 = .ok (.aload_n 0, 1) := dk_42 (dk_at dksX4_readPassage_2 15 rfl rfl)
theorem dX4_readPassage_62 : decode cX4_readPassage 62 = .ok (.getfield 121, 3) := dk_180 0 121 (dk_at dksX4_readPassage_2 16 rfl rfl)
theorem dX4_readPassage_65 : decode cX4_readPassage 65 = .ok (.aload_n 0, 1) := dk_42 (dk_at dksX4_readPassage_2 19 rfl rfl)
theorem dX4_readPassage_66 : decode cX4_readPassage 66 = .ok (.getfield 24, 3) := dk_180 0 24 (dk_at dksX4_readPassage_2 20 rfl rfl)
theorem dX4_readPassage_69 : decode cX4_readPassage 69 = .ok (.bipush 10, 2) := dk_16 10 (dk_at dksX4_readPassage_3 0 rfl rfl)
theorem dX4_readPassage_71 : decode cX4_readPassage 71 = .ok (.iload_n 1, 1) := dk_27 (dk_at dksX4_readPassage_3 2 rfl rfl)
theorem dX4_readPassage_72 : decode cX4_readPassage 72 = .ok (.iadd, 1) := dk_96 (dk_at dksX4_readPassage_3 3 rfl rfl)
theorem dX4_readPassage_73 : decode cX4_readPassage 73 = .ok (.iaload, 1) := dk_46 (dk_at dksX4_readPassage_3 4 rfl rfl)
theorem dX4_readPassage_74 : decode cX4_readPassage 74 = .ok (.if_icmp .ne 8, 3) := dk_160 0 8 (dk_at dksX4_readPassage_3 5 rfl rfl)
theorem dX4_readPassage_77 : decode cX4_readPassage 77 = .ok (.aload_n 0, 1) := dk_42 (dk_at dksX4_readPassage_3 8 rfl rfl)
theorem dX4_readPassage_78 : decode cX4_readPassage 78 = .ok (.iconst 3, 1) := dk_6 (dk_at dksX4_readPassage_3 9 rfl rfl)
theorem dX4_readPassage_79 : decode cX4_readPassage 79 = .ok (.invokevirtual 138, 3) := dk_182 0 138 (dk_at dksX4_readPassage_3 10 rfl rfl)
theorem dX4_readPassage_82 : decode cX4_readPassage 82 = .ok (.aload_n 0, 1) := dk_42 (dk_at dksX4_readPassage_3 13 rfl rfl)
theorem dX4_readPassage_83 : decode cX4_readPassage 83 = .ok (.getfield 24, 3) := dk_180 0 24 (dk_at dksX4_readPassage_3 14 rfl rfl)
theorem dX4_readPassage_86 : decode cX4_readPassage 86 = .ok (.bipush 18, 2) := dk_16 18 (dk_at dksX4_readPassage_3 17 rfl rfl)
theorem dX4_readPassage_88 : decode cX4_readPassage 88 = .ok (.iload_n 1, 1) := dk_27 (dk_at dksX4_readPassage_3 19 rfl rfl)
theorem dX4_readPassage_89 : decode cX4_readPassage 89 = .ok (.iadd, 1) := dk_96 (dk_at dksX4_readPassage_3 20 rfl rfl)
theorem dX4_readPassage_90 : decode cX4_readPassage 90 = .ok (.aload_n 0, 1) := dk_42 (dk_at dksX4_readPassage_3 21 rfl rfl)
theorem dX4_readPassage_91 : decode cX4_readPassage 91 = .ok (.iconst 0, 1) := dk_3 (dk_at dksX4_readPassage_3 22 rfl rfl)
theorem dX4_readPassage_92 : decode cX4_readPassage 92 = .ok (.aload_n 0, 1) := dk_42 (dk_at dksX4_readPassage_3 23 rfl rfl)
theorem dX4_readPassage_93 : decode cX4_readPassage 93 = .ok (.getfield 24, 3) := dk_180 0 24 (dk_at dksX4_readPassage_4 0 rfl rfl)
theorem dX4_readPassage_96 : decode cX4_readPassage 96 = .ok (.iconst 1, 1) := dk_4 (dk_at dksX4_readPassage_4 3 rfl rfl)
theorem dX4_readPassage_97 : decode cX4_readPassage 97 = .ok (.iaload, 1) := dk_46 (dk_at dksX4_readPassage_4 4 rfl rfl)
theorem dX4_readPassage_98 : decode cX4_readPassage 98 = .ok (.iconst 1, 1) := dk_4 (dk_at dksX4_readPassage_4 5 rfl rfl)
theorem dX4_readPassage_99 : decode cX4_readPassage 99 = .ok (.isub, 1) := dk_100 (dk_at dksX4_readPassage_4 6 rfl rfl)
theorem dX4_readPassage_100 : decode cX4_readPassage 100 = .ok (.invokevirtual 182, 3) := dk_182 0 182 (dk_at dksX4_readPassage_4 7 rfl rfl)
theorem dX4_readPassage_103 : decode cX4_readPassage 103 = .ok (.iastore, 1) := dk_79 (dk_at dksX4_readPassage_4 10 rfl rfl)
theorem dX4_readPassage_104 : decode cX4_readPassage 104 = .ok (.aload_n 0, 1) := dk_42 (dk_at dksX4_readPassage_4 11 rfl rfl)
theorem dX4_readPassage_105 : decode cX4_readPassage 105 = .ok (.getfield 126, 3) := dk_180 0 126 (dk_at dksX4_readPassage_4 12 rfl rfl)
theorem dX4_readPassage_108 : decode cX4_readPassage 108 = .ok (.ifCond .ne 14, 3) := dk_154 0 14 (dk_at dksX4_readPassage_4 15 rfl rfl)
theorem dX4_readPassage_111 : decode cX4_readPassage 111 = .ok (.aload_n 0, 1) := dk_42 (dk_at dksX4_readPassage_4 18 rfl rfl)
theorem dX4_readPassage_112 : decode cX4_readPassage 112 = .ok (.iload_n 1, 1) := dk_27 (dk_at dksX4_readPassage_4 19 rfl rfl)
theorem dX4_readPassage_113 : decode cX4_readPassage 113 = .ok (.invokevirtual 186, 3) := dk_182 0 186 (dk_at dksX4_readPassage_4 20 rfl rfl)
theorem dX4_readPassage_116 : decode cX4_readPassage 116 = .ok (.ifCond .eq 6, 3) := dk_153 0 6 (dk_at dksX4_readPassage_5 0 rfl rfl)
theorem dX4_readPassage_119 : decode cX4_readPassage 119 = .ok (.goto (-15), 3) := dk_167 255 241 (dk_at dksX4_readPassage_5 3 rfl rfl)
theorem dX4_readPassage_122 : decode cX4_readPassage 122 = .ok (.aload_n 0, 1) := dk_42 (dk_at dksX4_readPassage_5 6 rfl rfl)
theorem dX4_readPassage_123 : decode cX4_readPassage 123 = .ok (.getfield 126, 3) := dk_180 0 126 (dk_at dksX4_readPassage_5 7 rfl rfl)
theorem dX4_readPassage_126 : decode cX4_readPassage 126 = .ok (.ifCond .ne 13, 3) := dk_154 0 13 (dk_at dksX4_readPassage_5 10 rfl rfl)
theorem dX4_readPassage_129 : decode cX4_readPassage 129 = .ok (.aload_n 0, 1) := dk_42 (dk_at dksX4_readPassage_5 13 rfl rfl)
theorem dX4_readPassage_130 : decode cX4_readPassage 130 = .ok (.getfield 24, 3) := dk_180 0 24 (dk_at dksX4_readPassage_5 14 rfl rfl)
theorem dX4_readPassage_133 : decode cX4_readPassage 133 = .ok (.iconst 2, 1) := dk_5 (dk_at dksX4_readPassage_5 17 rfl rfl)
theorem dX4_readPassage_134 : decode cX4_readPassage 134 = .ok (.dup2, 1) := dk_92 (dk_at dksX4_readPassage_5 18 rfl rfl)
theorem dX4_readPassage_135 : decode cX4_readPassage 135 = .ok (.iaload, 1) := dk_46 (dk_at dksX4_readPassage_5 19 rfl rfl)
theorem dX4_readPassage_136 : decode cX4_readPassage 136 = .ok (.iconst 1, 1) := dk_4 (dk_at dksX4_readPassage_5 20 rfl rfl)
theorem dX4_readPassage_137 : decode cX4_readPassage 137 = .ok (.iadd, 1) := dk_96 (dk_at dksX4_readPassage_5 21 rfl rfl)
theorem dX4_readPassage_138 : decode cX4_readPassage 138 = .ok (.iastore, 1) := dk_79 (dk_at dksX4_readPassage_5 22 rfl rfl)
theorem dX4_readPassage_139 : decode cX4_readPassage 139 = .ok (.return_, 1) := dk_177 (dk_at dksX4_readPassage_5 23 rfl rfl)
abbrev cX4_readPart : ByteArray := prog_16_method_26_code
def yX4_readPart : MethodName := ⟨RX4, "readPart", "(I)Z"⟩
def dkwX4_readPart_3 : List UInt8 := [3, 172, 42, 180, 0, 126, 154, 0, 7, 4, 167, 0, 4, 3, 172]
abbrev dktX4_readPart_3 : List UInt8 := dkwX4_readPart_3 ++ []
def dkwX4_readPart_2 : List UInt8 := [42, 8, 182, 0, 161, 153, 0, 19, 42, 180, 0, 24, 16, 44, 92, 46, 4, 27, 120, 128, 79, 167, 0, 5]
abbrev dktX4_readPart_2 : List UInt8 := dkwX4_readPart_2 ++ dktX4_readPart_3
def dkwX4_readPart_1 : List UInt8 := [167, 0, 50, 42, 7, 182, 0, 161, 153, 0, 16, 42, 180, 0, 24, 16, 34, 27, 96, 4, 79, 167, 0, 29]
abbrev dktX4_readPart_1 : List UInt8 := dkwX4_readPart_1 ++ dktX4_readPart_2
def dkwX4_readPart_0 : List UInt8 := [42, 6, 182, 0, 161, 153, 0, 22, 42, 180, 0, 24, 16, 26, 27, 96, 42, 3, 16, 9, 182, 0, 182, 79]
abbrev dktX4_readPart_0 : List UInt8 := dkwX4_readPart_0 ++ dktX4_readPart_1
theorem dksX4_readPart_0 : cX4_readPart.data.toList.drop 0 = dktX4_readPart_0 := by decide +kernel
theorem dksX4_readPart_1 : cX4_readPart.data.toList.drop 24 = dktX4_readPart_1 := dk_seg dksX4_readPart_0 24 rfl rfl
theorem dksX4_readPart_2 : cX4_readPart.data.toList.drop 48 = dktX4_readPart_2 := dk_seg dksX4_readPart_1 24 rfl rfl
theorem dksX4_readPart_3 : cX4_readPart.data.toList.drop 72 = dktX4_readPart_3 := dk_seg dksX4_readPart_2 24 rfl rfl
theorem dX4_readPart_0 : decode cX4_readPart 0 = .ok (.aload_n 0, 1) := dk_42 (dk_at dksX4_readPart_0 0 rfl rfl)
theorem dX4_readPart_1 : decode cX4_readPart 1 = .ok (.iconst 3, 1) := dk_6 (dk_at dksX4_readPart_0 1 rfl rfl)
theorem dX4_readPart_2 : decode cX4_readPart 2 = .ok (.invokevirtual 161, 3) := dk_182 0 161 (dk_at dksX4_readPart_0 2 rfl rfl)
theorem dX4_readPart_5 : decode cX4_readPart 5 = .ok (.ifCond .eq 22, 3) := dk_153 0 22 (dk_at dksX4_readPart_0 5 rfl rfl)
theorem dX4_readPart_8 : decode cX4_readPart 8 = .ok (.aload_n 0, 1) := dk_42 (dk_at dksX4_readPart_0 8 rfl rfl)
theorem dX4_readPart_9 : decode cX4_readPart 9 = .ok (.getfield 24, 3) := dk_180 0 24 (dk_at dksX4_readPart_0 9 rfl rfl)
theorem dX4_readPart_12 : decode cX4_readPart 12 = .ok (.bipush 26, 2) := dk_16 26 (dk_at dksX4_readPart_0 12 rfl rfl)
theorem dX4_readPart_14 : decode cX4_readPart 14 = .ok (.iload_n 1, 1) := dk_27 (dk_at dksX4_readPart_0 14 rfl rfl)
theorem dX4_readPart_15 : decode cX4_readPart 15 = .ok (.iadd, 1) := dk_96 (dk_at dksX4_readPart_0 15 rfl rfl)
theorem dX4_readPart_16 : decode cX4_readPart 16 = .ok (.aload_n 0, 1) := dk_42 (dk_at dksX4_readPart_0 16 rfl rfl)
theorem dX4_readPart_17 : decode cX4_readPart 17 = .ok (.iconst 0, 1) := dk_3 (dk_at dksX4_readPart_0 17 rfl rfl)
theorem dX4_readPart_18 : decode cX4_readPart 18 = .ok (.bipush 9, 2) := dk_16 9 (dk_at dksX4_readPart_0 18 rfl rfl)
theorem dX4_readPart_20 : decode cX4_readPart 20 = .ok (.invokevirtual 182, 3) := dk_182 0 182 (dk_at dksX4_readPart_0 20 rfl rfl)
theorem dX4_readPart_23 : decode cX4_readPart 23 = .ok (.iastore, 1) := dk_79 (dk_at dksX4_readPart_0 23 rfl rfl)
theorem dX4_readPart_24 : decode cX4_readPart 24 = .ok (.goto 50, 3) := dk_167 0 50 (dk_at dksX4_readPart_1 0 rfl rfl)
theorem dX4_readPart_27 : decode cX4_readPart 27 = .ok (.aload_n 0, 1) := dk_42 (dk_at dksX4_readPart_1 3 rfl rfl)
theorem dX4_readPart_28 : decode cX4_readPart 28 = .ok (.iconst 4, 1) := dk_7 (dk_at dksX4_readPart_1 4 rfl rfl)
theorem dX4_readPart_29 : decode cX4_readPart 29 = .ok (.invokevirtual 161, 3) := dk_182 0 161 (dk_at dksX4_readPart_1 5 rfl rfl)
theorem dX4_readPart_32 : decode cX4_readPart 32 = .ok (.ifCond .eq 16, 3) := dk_153 0 16 (dk_at dksX4_readPart_1 8 rfl rfl)
theorem dX4_readPart_35 : decode cX4_readPart 35 = .ok (.aload_n 0, 1) := dk_42 (dk_at dksX4_readPart_1 11 rfl rfl)
theorem dX4_readPart_36 : decode cX4_readPart 36 = .ok (.getfield 24, 3) := dk_180 0 24 (dk_at dksX4_readPart_1 12 rfl rfl)
theorem dX4_readPart_39 : decode cX4_readPart 39 = .ok (.bipush 34, 2) := dk_16 34 (dk_at dksX4_readPart_1 15 rfl rfl)
theorem dX4_readPart_41 : decode cX4_readPart 41 = .ok (.iload_n 1, 1) := dk_27 (dk_at dksX4_readPart_1 17 rfl rfl)
theorem dX4_readPart_42 : decode cX4_readPart 42 = .ok (.iadd, 1) := dk_96 (dk_at dksX4_readPart_1 18 rfl rfl)
theorem dX4_readPart_43 : decode cX4_readPart 43 = .ok (.iconst 1, 1) := dk_4 (dk_at dksX4_readPart_1 19 rfl rfl)
theorem dX4_readPart_44 : decode cX4_readPart 44 = .ok (.iastore, 1) := dk_79 (dk_at dksX4_readPart_1 20 rfl rfl)
theorem dX4_readPart_45 : decode cX4_readPart 45 = .ok (.goto 29, 3) := dk_167 0 29 (dk_at dksX4_readPart_1 21 rfl rfl)
theorem dX4_readPart_48 : decode cX4_readPart 48 = .ok (.aload_n 0, 1) := dk_42 (dk_at dksX4_readPart_2 0 rfl rfl)
theorem dX4_readPart_49 : decode cX4_readPart 49 = .ok (.iconst 5, 1) := dk_8 (dk_at dksX4_readPart_2 1 rfl rfl)
theorem dX4_readPart_50 : decode cX4_readPart 50 = .ok (.invokevirtual 161, 3) := dk_182 0 161 (dk_at dksX4_readPart_2 2 rfl rfl)
theorem dX4_readPart_53 : decode cX4_readPart 53 = .ok (.ifCond .eq 19, 3) := dk_153 0 19 (dk_at dksX4_readPart_2 5 rfl rfl)
theorem dX4_readPart_56 : decode cX4_readPart 56 = .ok (.aload_n 0, 1) := dk_42 (dk_at dksX4_readPart_2 8 rfl rfl)
theorem dX4_readPart_57 : decode cX4_readPart 57 = .ok (.getfield 24, 3) := dk_180 0 24 (dk_at dksX4_readPart_2 9 rfl rfl)
theorem dX4_readPart_60 : decode cX4_readPart 60 = .ok (.bipush 44, 2) := dk_16 44 (dk_at dksX4_readPart_2 12 rfl rfl)
theorem dX4_readPart_62 : decode cX4_readPart 62 = .ok (.dup2, 1) := dk_92 (dk_at dksX4_readPart_2 14 rfl rfl)
theorem dX4_readPart_63 : decode cX4_readPart 63 = .ok (.iaload, 1) := dk_46 (dk_at dksX4_readPart_2 15 rfl rfl)
theorem dX4_readPart_64 : decode cX4_readPart 64 = .ok (.iconst 1, 1) := dk_4 (dk_at dksX4_readPart_2 16 rfl rfl)
theorem dX4_readPart_65 : decode cX4_readPart 65 = .ok (.iload_n 1, 1) := dk_27 (dk_at dksX4_readPart_2 17 rfl rfl)
theorem dX4_readPart_66 : decode cX4_readPart 66 = .ok (.ishl, 1) := dk_120 (dk_at dksX4_readPart_2 18 rfl rfl)
theorem dX4_readPart_67 : decode cX4_readPart 67 = .ok (.ior, 1) := dk_128 (dk_at dksX4_readPart_2 19 rfl rfl)
theorem dX4_readPart_68 : decode cX4_readPart 68 = .ok (.iastore, 1) := dk_79 (dk_at dksX4_readPart_2 20 rfl rfl)
theorem dX4_readPart_69 : decode cX4_readPart 69 = .ok (.goto 5, 3) := dk_167 0 5 (dk_at dksX4_readPart_2 21 rfl rfl)
theorem dX4_readPart_72 : decode cX4_readPart 72 = .ok (.iconst 0, 1) := dk_3 (dk_at dksX4_readPart_3 0 rfl rfl)
theorem dX4_readPart_73 : decode cX4_readPart 73 = .ok (.ireturn, 1) := dk_172 (dk_at dksX4_readPart_3 1 rfl rfl)
theorem dX4_readPart_74 : decode cX4_readPart 74 = .ok (.aload_n 0, 1) := dk_42 (dk_at dksX4_readPart_3 2 rfl rfl)
theorem dX4_readPart_75 : decode cX4_readPart 75 = .ok (.getfield 126, 3) := dk_180 0 126 (dk_at dksX4_readPart_3 3 rfl rfl)
theorem dX4_readPart_78 : decode cX4_readPart 78 = .ok (.ifCond .ne 7, 3) := dk_154 0 7 (dk_at dksX4_readPart_3 6 rfl rfl)
theorem dX4_readPart_81 : decode cX4_readPart 81 = .ok (.iconst 1, 1) := dk_4 (dk_at dksX4_readPart_3 9 rfl rfl)
theorem dX4_readPart_82 : decode cX4_readPart 82 = .ok (.goto 4, 3) := dk_167 0 4 (dk_at dksX4_readPart_3 10 rfl rfl)
theorem dX4_readPart_85 : decode cX4_readPart 85 = .ok (.iconst 0, 1) := dk_3 (dk_at dksX4_readPart_3 13 rfl rfl)
theorem dX4_readPart_86 : decode cX4_readPart 86 = .ok (.ireturn, 1) := dk_172 (dk_at dksX4_readPart_3 14 rfl rfl)
abbrev cX4_readLost : ByteArray := prog_16_method_28_code
def yX4_readLost : MethodName := ⟨RX4, "readLost", "()V"⟩
def dkwX4_readLost_2 : List UInt8 := [182, 0, 182, 79, 177]
abbrev dktX4_readLost_2 : List UInt8 := dkwX4_readLost_2 ++ []
def dkwX4_readLost_1 : List UInt8 := [42, 16, 7, 182, 0, 161, 154, 0, 8, 42, 5, 182, 0, 138, 42, 180, 0, 24, 16, 43, 42, 3, 7]
abbrev dktX4_readLost_1 : List UInt8 := dkwX4_readLost_1 ++ dktX4_readLost_2
def dkwX4_readLost_0 : List UInt8 := [42, 182, 0, 135, 42, 180, 0, 24, 16, 42, 42, 3, 42, 180, 0, 24, 4, 46, 4, 100, 182, 0, 182, 79]
abbrev dktX4_readLost_0 : List UInt8 := dkwX4_readLost_0 ++ dktX4_readLost_1
theorem dksX4_readLost_0 : cX4_readLost.data.toList.drop 0 = dktX4_readLost_0 := by decide +kernel
theorem dksX4_readLost_1 : cX4_readLost.data.toList.drop 24 = dktX4_readLost_1 := dk_seg dksX4_readLost_0 24 rfl rfl
theorem dksX4_readLost_2 : cX4_readLost.data.toList.drop 47 = dktX4_readLost_2 := dk_seg dksX4_readLost_1 23 rfl rfl
theorem dX4_readLost_0 : decode cX4_readLost 0 = .ok (.aload_n 0, 1) := dk_42 (dk_at dksX4_readLost_0 0 rfl rfl)
theorem dX4_readLost_1 : decode cX4_readLost 1 = .ok (.invokevirtual 135, 3) := dk_182 0 135 (dk_at dksX4_readLost_0 1 rfl rfl)
theorem dX4_readLost_4 : decode cX4_readLost 4 = .ok (.aload_n 0, 1) := dk_42 (dk_at dksX4_readLost_0 4 rfl rfl)
theorem dX4_readLost_5 : decode cX4_readLost 5 = .ok (.getfield 24, 3) := dk_180 0 24 (dk_at dksX4_readLost_0 5 rfl rfl)
theorem dX4_readLost_8 : decode cX4_readLost 8 = .ok (.bipush 42, 2) := dk_16 42 (dk_at dksX4_readLost_0 8 rfl rfl)
theorem dX4_readLost_10 : decode cX4_readLost 10 = .ok (.aload_n 0, 1) := dk_42 (dk_at dksX4_readLost_0 10 rfl rfl)
theorem dX4_readLost_11 : decode cX4_readLost 11 = .ok (.iconst 0, 1) := dk_3 (dk_at dksX4_readLost_0 11 rfl rfl)
theorem dX4_readLost_12 : decode cX4_readLost 12 = .ok (.aload_n 0, 1) := dk_42 (dk_at dksX4_readLost_0 12 rfl rfl)
theorem dX4_readLost_13 : decode cX4_readLost 13 = .ok (.getfield 24, 3) := dk_180 0 24 (dk_at dksX4_readLost_0 13 rfl rfl)
theorem dX4_readLost_16 : decode cX4_readLost 16 = .ok (.iconst 1, 1) := dk_4 (dk_at dksX4_readLost_0 16 rfl rfl)
theorem dX4_readLost_17 : decode cX4_readLost 17 = .ok (.iaload, 1) := dk_46 (dk_at dksX4_readLost_0 17 rfl rfl)
theorem dX4_readLost_18 : decode cX4_readLost 18 = .ok (.iconst 1, 1) := dk_4 (dk_at dksX4_readLost_0 18 rfl rfl)
theorem dX4_readLost_19 : decode cX4_readLost 19 = .ok (.isub, 1) := dk_100 (dk_at dksX4_readLost_0 19 rfl rfl)
theorem dX4_readLost_20 : decode cX4_readLost 20 = .ok (.invokevirtual 182, 3) := dk_182 0 182 (dk_at dksX4_readLost_0 20 rfl rfl)
theorem dX4_readLost_23 : decode cX4_readLost 23 = .ok (.iastore, 1) := dk_79 (dk_at dksX4_readLost_0 23 rfl rfl)
theorem dX4_readLost_24 : decode cX4_readLost 24 = .ok (.aload_n 0, 1) := dk_42 (dk_at dksX4_readLost_1 0 rfl rfl)
theorem dX4_readLost_25 : decode cX4_readLost 25 = .ok (.bipush 7, 2) := dk_16 7 (dk_at dksX4_readLost_1 1 rfl rfl)
theorem dX4_readLost_27 : decode cX4_readLost 27 = .ok (.invokevirtual 161, 3) := dk_182 0 161 (dk_at dksX4_readLost_1 3 rfl rfl)
theorem dX4_readLost_30 : decode cX4_readLost 30 = .ok (.ifCond .ne 8, 3) := dk_154 0 8 (dk_at dksX4_readLost_1 6 rfl rfl)
theorem dX4_readLost_33 : decode cX4_readLost 33 = .ok (.aload_n 0, 1) := dk_42 (dk_at dksX4_readLost_1 9 rfl rfl)
theorem dX4_readLost_34 : decode cX4_readLost 34 = .ok (.iconst 2, 1) := dk_5 (dk_at dksX4_readLost_1 10 rfl rfl)
theorem dX4_readLost_35 : decode cX4_readLost 35 = .ok (.invokevirtual 138, 3) := dk_182 0 138 (dk_at dksX4_readLost_1 11 rfl rfl)
theorem dX4_readLost_38 : decode cX4_readLost 38 = .ok (.aload_n 0, 1) := dk_42 (dk_at dksX4_readLost_1 14 rfl rfl)
theorem dX4_readLost_39 : decode cX4_readLost 39 = .ok (.getfield 24, 3) := dk_180 0 24 (dk_at dksX4_readLost_1 15 rfl rfl)
theorem dX4_readLost_42 : decode cX4_readLost 42 = .ok (.bipush 43, 2) := dk_16 43 (dk_at dksX4_readLost_1 18 rfl rfl)
theorem dX4_readLost_44 : decode cX4_readLost 44 = .ok (.aload_n 0, 1) := dk_42 (dk_at dksX4_readLost_1 20 rfl rfl)
theorem dX4_readLost_45 : decode cX4_readLost 45 = .ok (.iconst 0, 1) := dk_3 (dk_at dksX4_readLost_1 21 rfl rfl)
theorem dX4_readLost_46 : decode cX4_readLost 46 = .ok (.iconst 4, 1) := dk_7 (dk_at dksX4_readLost_1 22 rfl rfl)
theorem dX4_readLost_47 : decode cX4_readLost 47 = .ok (.invokevirtual 182, 3) := dk_182 0 182 (dk_at dksX4_readLost_2 0 rfl rfl)
theorem dX4_readLost_50 : decode cX4_readLost 50 = .ok (.iastore, 1) := dk_79 (dk_at dksX4_readLost_2 3 rfl rfl)
theorem dX4_readLost_51 : decode cX4_readLost 51 = .ok (.return_, 1) := dk_177 (dk_at dksX4_readLost_2 4 rfl rfl)
abbrev cX4_readLaw : ByteArray := prog_16_method_29_code
def yX4_readLaw : MethodName := ⟨RX4, "readLaw", "(I)V"⟩
def dkwX4_readLaw_3 : List UInt8 := [96, 28, 79, 42, 180, 0, 24, 16, 8, 27, 96, 42, 180, 0, 24, 16, 98, 46, 28, 100, 79, 177]
abbrev dktX4_readLaw_3 : List UInt8 := dkwX4_readLaw_3 ++ []
def dkwX4_readLaw_2 : List UInt8 := [42, 180, 0, 126, 153, 0, 4, 177, 42, 180, 0, 24, 7, 27, 96, 4, 79, 42, 180, 0, 24, 16, 6, 27]
abbrev dktX4_readLaw_2 : List UInt8 := dkwX4_readLaw_2 ++ dktX4_readLaw_3
def dkwX4_readLaw_1 : List UInt8 := [46, 61, 42, 27, 181, 0, 146, 27, 154, 0, 11, 42, 3, 182, 0, 158, 167, 0, 8, 42, 3, 182, 0, 167]
abbrev dktX4_readLaw_1 : List UInt8 := dkwX4_readLaw_1 ++ dktX4_readLaw_2
def dkwX4_readLaw_0 : List UInt8 := [42, 182, 0, 135, 42, 16, 31, 182, 0, 161, 154, 0, 8, 42, 5, 182, 0, 138, 42, 180, 0, 24, 16, 98]
abbrev dktX4_readLaw_0 : List UInt8 := dkwX4_readLaw_0 ++ dktX4_readLaw_1
theorem dksX4_readLaw_0 : cX4_readLaw.data.toList.drop 0 = dktX4_readLaw_0 := by decide +kernel
theorem dksX4_readLaw_1 : cX4_readLaw.data.toList.drop 24 = dktX4_readLaw_1 := dk_seg dksX4_readLaw_0 24 rfl rfl
theorem dksX4_readLaw_2 : cX4_readLaw.data.toList.drop 48 = dktX4_readLaw_2 := dk_seg dksX4_readLaw_1 24 rfl rfl
theorem dksX4_readLaw_3 : cX4_readLaw.data.toList.drop 72 = dktX4_readLaw_3 := dk_seg dksX4_readLaw_2 24 rfl rfl
theorem dX4_readLaw_0 : decode cX4_readLaw 0 = .ok (.aload_n 0, 1) := dk_42 (dk_at dksX4_readLaw_0 0 rfl rfl)
theorem dX4_readLaw_1 : decode cX4_readLaw 1 = .ok (.invokevirtual 135, 3) := dk_182 0 135 (dk_at dksX4_readLaw_0 1 rfl rfl)
theorem dX4_readLaw_4 : decode cX4_readLaw 4 = .ok (.aload_n 0, 1) := dk_42 (dk_at dksX4_readLaw_0 4 rfl rfl)
theorem dX4_readLaw_5 : decode cX4_readLaw 5 = .ok (.bipush 31, 2) := dk_16 31 (dk_at dksX4_readLaw_0 5 rfl rfl)
theorem dX4_readLaw_7 : decode cX4_readLaw 7 = .ok (.invokevirtual 161, 3) := dk_182 0 161 (dk_at dksX4_readLaw_0 7 rfl rfl)
theorem dX4_readLaw_10 : decode cX4_readLaw 10 = .ok (.ifCond .ne 8, 3) := dk_154 0 8 (dk_at dksX4_readLaw_0 10 rfl rfl)
theorem dX4_readLaw_13 : decode cX4_readLaw 13 = .ok (.aload_n 0, 1) := dk_42 (dk_at dksX4_readLaw_0 13 rfl rfl)
theorem dX4_readLaw_14 : decode cX4_readLaw 14 = .ok (.iconst 2, 1) := dk_5 (dk_at dksX4_readLaw_0 14 rfl rfl)
theorem dX4_readLaw_15 : decode cX4_readLaw 15 = .ok (.invokevirtual 138, 3) := dk_182 0 138 (dk_at dksX4_readLaw_0 15 rfl rfl)
theorem dX4_readLaw_18 : decode cX4_readLaw 18 = .ok (.aload_n 0, 1) := dk_42 (dk_at dksX4_readLaw_0 18 rfl rfl)
theorem dX4_readLaw_19 : decode cX4_readLaw 19 = .ok (.getfield 24, 3) := dk_180 0 24 (dk_at dksX4_readLaw_0 19 rfl rfl)
theorem dX4_readLaw_22 : decode cX4_readLaw 22 = .ok (.bipush 98, 2) := dk_16 98 (dk_at dksX4_readLaw_0 22 rfl rfl)
theorem dX4_readLaw_24 : decode cX4_readLaw 24 = .ok (.iaload, 1) := dk_46 (dk_at dksX4_readLaw_1 0 rfl rfl)
theorem dX4_readLaw_25 : decode cX4_readLaw 25 = .ok (.istore_n 2, 1) := dk_61 (dk_at dksX4_readLaw_1 1 rfl rfl)
theorem dX4_readLaw_26 : decode cX4_readLaw 26 = .ok (.aload_n 0, 1) := dk_42 (dk_at dksX4_readLaw_1 2 rfl rfl)
theorem dX4_readLaw_27 : decode cX4_readLaw 27 = .ok (.iload_n 1, 1) := dk_27 (dk_at dksX4_readLaw_1 3 rfl rfl)
theorem dX4_readLaw_28 : decode cX4_readLaw 28 = .ok (.putfield 146, 3) := dk_181 0 146 (dk_at dksX4_readLaw_1 4 rfl rfl)
theorem dX4_readLaw_31 : decode cX4_readLaw 31 = .ok (.iload_n 1, 1) := dk_27 (dk_at dksX4_readLaw_1 7 rfl rfl)
theorem dX4_readLaw_32 : decode cX4_readLaw 32 = .ok (.ifCond .ne 11, 3) := dk_154 0 11 (dk_at dksX4_readLaw_1 8 rfl rfl)
theorem dX4_readLaw_35 : decode cX4_readLaw 35 = .ok (.aload_n 0, 1) := dk_42 (dk_at dksX4_readLaw_1 11 rfl rfl)
theorem dX4_readLaw_36 : decode cX4_readLaw 36 = .ok (.iconst 0, 1) := dk_3 (dk_at dksX4_readLaw_1 12 rfl rfl)
theorem dX4_readLaw_37 : decode cX4_readLaw 37 = .ok (.invokevirtual 158, 3) := dk_182 0 158 (dk_at dksX4_readLaw_1 13 rfl rfl)
theorem dX4_readLaw_40 : decode cX4_readLaw 40 = .ok (.goto 8, 3) := dk_167 0 8 (dk_at dksX4_readLaw_1 16 rfl rfl)
theorem dX4_readLaw_43 : decode cX4_readLaw 43 = .ok (.aload_n 0, 1) := dk_42 (dk_at dksX4_readLaw_1 19 rfl rfl)
theorem dX4_readLaw_44 : decode cX4_readLaw 44 = .ok (.iconst 0, 1) := dk_3 (dk_at dksX4_readLaw_1 20 rfl rfl)
theorem dX4_readLaw_45 : decode cX4_readLaw 45 = .ok (.invokevirtual 167, 3) := dk_182 0 167 (dk_at dksX4_readLaw_1 21 rfl rfl)
theorem dX4_readLaw_48 : decode cX4_readLaw 48 = .ok (.aload_n 0, 1) := dk_42 (dk_at dksX4_readLaw_2 0 rfl rfl)
theorem dX4_readLaw_49 : decode cX4_readLaw 49 = .ok (.getfield 126, 3) := dk_180 0 126 (dk_at dksX4_readLaw_2 1 rfl rfl)
theorem dX4_readLaw_52 : decode cX4_readLaw 52 = .ok (.ifCond .eq 4, 3) := dk_153 0 4 (dk_at dksX4_readLaw_2 4 rfl rfl)
theorem dX4_readLaw_55 : decode cX4_readLaw 55 = .ok (.return_, 1) := dk_177 (dk_at dksX4_readLaw_2 7 rfl rfl)
theorem dX4_readLaw_56 : decode cX4_readLaw 56 = .ok (.aload_n 0, 1) := dk_42 (dk_at dksX4_readLaw_2 8 rfl rfl)
theorem dX4_readLaw_57 : decode cX4_readLaw 57 = .ok (.getfield 24, 3) := dk_180 0 24 (dk_at dksX4_readLaw_2 9 rfl rfl)
theorem dX4_readLaw_60 : decode cX4_readLaw 60 = .ok (.iconst 4, 1) := dk_7 (dk_at dksX4_readLaw_2 12 rfl rfl)
theorem dX4_readLaw_61 : decode cX4_readLaw 61 = .ok (.iload_n 1, 1) := dk_27 (dk_at dksX4_readLaw_2 13 rfl rfl)
theorem dX4_readLaw_62 : decode cX4_readLaw 62 = .ok (.iadd, 1) := dk_96 (dk_at dksX4_readLaw_2 14 rfl rfl)
theorem dX4_readLaw_63 : decode cX4_readLaw 63 = .ok (.iconst 1, 1) := dk_4 (dk_at dksX4_readLaw_2 15 rfl rfl)
theorem dX4_readLaw_64 : decode cX4_readLaw 64 = .ok (.iastore, 1) := dk_79 (dk_at dksX4_readLaw_2 16 rfl rfl)
theorem dX4_readLaw_65 : decode cX4_readLaw 65 = .ok (.aload_n 0, 1) := dk_42 (dk_at dksX4_readLaw_2 17 rfl rfl)
theorem dX4_readLaw_66 : decode cX4_readLaw 66 = .ok (.getfield 24, 3) := dk_180 0 24 (dk_at dksX4_readLaw_2 18 rfl rfl)
theorem dX4_readLaw_69 : decode cX4_readLaw 69 = .ok (.bipush 6, 2) := dk_16 6 (dk_at dksX4_readLaw_2 21 rfl rfl)
theorem dX4_readLaw_71 : decode cX4_readLaw 71 = .ok (.iload_n 1, 1) := dk_27 (dk_at dksX4_readLaw_2 23 rfl rfl)
theorem dX4_readLaw_72 : decode cX4_readLaw 72 = .ok (.iadd, 1) := dk_96 (dk_at dksX4_readLaw_3 0 rfl rfl)
theorem dX4_readLaw_73 : decode cX4_readLaw 73 = .ok (.iload_n 2, 1) := dk_28 (dk_at dksX4_readLaw_3 1 rfl rfl)
theorem dX4_readLaw_74 : decode cX4_readLaw 74 = .ok (.iastore, 1) := dk_79 (dk_at dksX4_readLaw_3 2 rfl rfl)
theorem dX4_readLaw_75 : decode cX4_readLaw 75 = .ok (.aload_n 0, 1) := dk_42 (dk_at dksX4_readLaw_3 3 rfl rfl)
theorem dX4_readLaw_76 : decode cX4_readLaw 76 = .ok (.getfield 24, 3) := dk_180 0 24 (dk_at dksX4_readLaw_3 4 rfl rfl)
theorem dX4_readLaw_79 : decode cX4_readLaw 79 = .ok (.bipush 8, 2) := dk_16 8 (dk_at dksX4_readLaw_3 7 rfl rfl)
theorem dX4_readLaw_81 : decode cX4_readLaw 81 = .ok (.iload_n 1, 1) := dk_27 (dk_at dksX4_readLaw_3 9 rfl rfl)
theorem dX4_readLaw_82 : decode cX4_readLaw 82 = .ok (.iadd, 1) := dk_96 (dk_at dksX4_readLaw_3 10 rfl rfl)
theorem dX4_readLaw_83 : decode cX4_readLaw 83 = .ok (.aload_n 0, 1) := dk_42 (dk_at dksX4_readLaw_3 11 rfl rfl)
theorem dX4_readLaw_84 : decode cX4_readLaw 84 = .ok (.getfield 24, 3) := dk_180 0 24 (dk_at dksX4_readLaw_3 12 rfl rfl)
theorem dX4_readLaw_87 : decode cX4_readLaw 87 = .ok (.bipush 98, 2) := dk_16 98 (dk_at dksX4_readLaw_3 15 rfl rfl)
theorem dX4_readLaw_89 : decode cX4_readLaw 89 = .ok (.iaload, 1) := dk_46 (dk_at dksX4_readLaw_3 17 rfl rfl)
theorem dX4_readLaw_90 : decode cX4_readLaw 90 = .ok (.iload_n 2, 1) := dk_28 (dk_at dksX4_readLaw_3 18 rfl rfl)
theorem dX4_readLaw_91 : decode cX4_readLaw 91 = .ok (.isub, 1) := dk_100 (dk_at dksX4_readLaw_3 19 rfl rfl)
theorem dX4_readLaw_92 : decode cX4_readLaw 92 = .ok (.iastore, 1) := dk_79 (dk_at dksX4_readLaw_3 20 rfl rfl)
theorem dX4_readLaw_93 : decode cX4_readLaw 93 = .ok (.return_, 1) := dk_177 (dk_at dksX4_readLaw_3 21 rfl rfl)
abbrev cX4_readSum : ByteArray := prog_16_method_22_code
def yX4_readSum : MethodName := ⟨RX4, "readSum", "(I)V"⟩
def dkwX4_readSum_2 : List UInt8 := [182, 0, 173, 42, 28, 182, 0, 149, 167, 255, 205, 177]
abbrev dktX4_readSum_2 : List UInt8 := dkwX4_readSum_2 ++ []
def dkwX4_readSum_1 : List UInt8 := [180, 0, 108, 16, 32, 160, 0, 9, 17, 11, 184, 167, 0, 6, 17, 11, 185, 61, 42, 182, 0, 135, 42, 27]
abbrev dktX4_readSum_1 : List UInt8 := dkwX4_readSum_1 ++ dktX4_readSum_2
def dkwX4_readSum_0 : List UInt8 := [42, 27, 182, 0, 173, 42, 16, 32, 182, 0, 132, 154, 0, 12, 42, 16, 33, 182, 0, 132, 153, 0, 39, 42]
abbrev dktX4_readSum_0 : List UInt8 := dkwX4_readSum_0 ++ dktX4_readSum_1
theorem dksX4_readSum_0 : cX4_readSum.data.toList.drop 0 = dktX4_readSum_0 := by decide +kernel
theorem dksX4_readSum_1 : cX4_readSum.data.toList.drop 24 = dktX4_readSum_1 := dk_seg dksX4_readSum_0 24 rfl rfl
theorem dksX4_readSum_2 : cX4_readSum.data.toList.drop 48 = dktX4_readSum_2 := dk_seg dksX4_readSum_1 24 rfl rfl
theorem dX4_readSum_0 : decode cX4_readSum 0 = .ok (.aload_n 0, 1) := dk_42 (dk_at dksX4_readSum_0 0 rfl rfl)
theorem dX4_readSum_1 : decode cX4_readSum 1 = .ok (.iload_n 1, 1) := dk_27 (dk_at dksX4_readSum_0 1 rfl rfl)
theorem dX4_readSum_2 : decode cX4_readSum 2 = .ok (.invokevirtual 173, 3) := dk_182 0 173 (dk_at dksX4_readSum_0 2 rfl rfl)
theorem dX4_readSum_5 : decode cX4_readSum 5 = .ok (.aload_n 0, 1) := dk_42 (dk_at dksX4_readSum_0 5 rfl rfl)
theorem dX4_readSum_6 : decode cX4_readSum 6 = .ok (.bipush 32, 2) := dk_16 32 (dk_at dksX4_readSum_0 6 rfl rfl)
theorem dX4_readSum_8 : decode cX4_readSum 8 = .ok (.invokevirtual 132, 3) := dk_182 0 132 (dk_at dksX4_readSum_0 8 rfl rfl)
theorem dX4_readSum_11 : decode cX4_readSum 11 = .ok (.ifCond .ne 12, 3) := dk_154 0 12 (dk_at dksX4_readSum_0 11 rfl rfl)
theorem dX4_readSum_14 : decode cX4_readSum 14 = .ok (.aload_n 0, 1) := dk_42 (dk_at dksX4_readSum_0 14 rfl rfl)
theorem dX4_readSum_15 : decode cX4_readSum 15 = .ok (.bipush 33, 2) := dk_16 33 (dk_at dksX4_readSum_0 15 rfl rfl)
theorem dX4_readSum_17 : decode cX4_readSum 17 = .ok (.invokevirtual 132, 3) := dk_182 0 132 (dk_at dksX4_readSum_0 17 rfl rfl)
theorem dX4_readSum_20 : decode cX4_readSum 20 = .ok (.ifCond .eq 39, 3) := dk_153 0 39 (dk_at dksX4_readSum_0 20 rfl rfl)
theorem dX4_readSum_23 : decode cX4_readSum 23 = .ok (.aload_n 0, 1) := dk_42 (dk_at dksX4_readSum_0 23 rfl rfl)
theorem dX4_readSum_24 : decode cX4_readSum 24 = .ok (.getfield 108, 3) := dk_180 0 108 (dk_at dksX4_readSum_1 0 rfl rfl)
theorem dX4_readSum_27 : decode cX4_readSum 27 = .ok (.bipush 32, 2) := dk_16 32 (dk_at dksX4_readSum_1 3 rfl rfl)
theorem dX4_readSum_29 : decode cX4_readSum 29 = .ok (.if_icmp .ne 9, 3) := dk_160 0 9 (dk_at dksX4_readSum_1 5 rfl rfl)
theorem dX4_readSum_32 : decode cX4_readSum 32 = .ok (.sipush 3000, 3) := dk_17 11 184 (dk_at dksX4_readSum_1 8 rfl rfl)
theorem dX4_readSum_35 : decode cX4_readSum 35 = .ok (.goto 6, 3) := dk_167 0 6 (dk_at dksX4_readSum_1 11 rfl rfl)
theorem dX4_readSum_38 : decode cX4_readSum 38 = .ok (.sipush 3001, 3) := dk_17 11 185 (dk_at dksX4_readSum_1 14 rfl rfl)
theorem dX4_readSum_41 : decode cX4_readSum 41 = .ok (.istore_n 2, 1) := dk_61 (dk_at dksX4_readSum_1 17 rfl rfl)
theorem dX4_readSum_42 : decode cX4_readSum 42 = .ok (.aload_n 0, 1) := dk_42 (dk_at dksX4_readSum_1 18 rfl rfl)
theorem dX4_readSum_43 : decode cX4_readSum 43 = .ok (.invokevirtual 135, 3) := dk_182 0 135 (dk_at dksX4_readSum_1 19 rfl rfl)
theorem dX4_readSum_46 : decode cX4_readSum 46 = .ok (.aload_n 0, 1) := dk_42 (dk_at dksX4_readSum_1 22 rfl rfl)
theorem dX4_readSum_47 : decode cX4_readSum 47 = .ok (.iload_n 1, 1) := dk_27 (dk_at dksX4_readSum_1 23 rfl rfl)
theorem dX4_readSum_48 : decode cX4_readSum 48 = .ok (.invokevirtual 173, 3) := dk_182 0 173 (dk_at dksX4_readSum_2 0 rfl rfl)
theorem dX4_readSum_51 : decode cX4_readSum 51 = .ok (.aload_n 0, 1) := dk_42 (dk_at dksX4_readSum_2 3 rfl rfl)
theorem dX4_readSum_52 : decode cX4_readSum 52 = .ok (.iload_n 2, 1) := dk_28 (dk_at dksX4_readSum_2 4 rfl rfl)
theorem dX4_readSum_53 : decode cX4_readSum 53 = .ok (.invokevirtual 149, 3) := dk_182 0 149 (dk_at dksX4_readSum_2 5 rfl rfl)
theorem dX4_readSum_56 : decode cX4_readSum 56 = .ok (.goto (-51), 3) := dk_167 255 205 (dk_at dksX4_readSum_2 8 rfl rfl)
theorem dX4_readSum_59 : decode cX4_readSum 59 = .ok (.return_, 1) := dk_177 (dk_at dksX4_readSum_2 11 rfl rfl)
abbrev cX4_readTerm : ByteArray := prog_16_method_21_code
def yX4_readTerm : MethodName := ⟨RX4, "readTerm", "(I)V"⟩
def dkwX4_readTerm_1 : List UInt8 := [182, 0, 149, 167, 255, 235, 177]
abbrev dktX4_readTerm_1 : List UInt8 := dkwX4_readTerm_1 ++ []
def dkwX4_readTerm_0 : List UInt8 := [42, 27, 182, 0, 170, 42, 16, 34, 182, 0, 161, 153, 0, 18, 42, 27, 182, 0, 170, 42, 17, 11, 186]
abbrev dktX4_readTerm_0 : List UInt8 := dkwX4_readTerm_0 ++ dktX4_readTerm_1
theorem dksX4_readTerm_0 : cX4_readTerm.data.toList.drop 0 = dktX4_readTerm_0 := by decide +kernel
theorem dksX4_readTerm_1 : cX4_readTerm.data.toList.drop 23 = dktX4_readTerm_1 := dk_seg dksX4_readTerm_0 23 rfl rfl
theorem dX4_readTerm_0 : decode cX4_readTerm 0 = .ok (.aload_n 0, 1) := dk_42 (dk_at dksX4_readTerm_0 0 rfl rfl)
theorem dX4_readTerm_1 : decode cX4_readTerm 1 = .ok (.iload_n 1, 1) := dk_27 (dk_at dksX4_readTerm_0 1 rfl rfl)
theorem dX4_readTerm_2 : decode cX4_readTerm 2 = .ok (.invokevirtual 170, 3) := dk_182 0 170 (dk_at dksX4_readTerm_0 2 rfl rfl)
theorem dX4_readTerm_5 : decode cX4_readTerm 5 = .ok (.aload_n 0, 1) := dk_42 (dk_at dksX4_readTerm_0 5 rfl rfl)
theorem dX4_readTerm_6 : decode cX4_readTerm 6 = .ok (.bipush 34, 2) := dk_16 34 (dk_at dksX4_readTerm_0 6 rfl rfl)
theorem dX4_readTerm_8 : decode cX4_readTerm 8 = .ok (.invokevirtual 161, 3) := dk_182 0 161 (dk_at dksX4_readTerm_0 8 rfl rfl)
theorem dX4_readTerm_11 : decode cX4_readTerm 11 = .ok (.ifCond .eq 18, 3) := dk_153 0 18 (dk_at dksX4_readTerm_0 11 rfl rfl)
theorem dX4_readTerm_14 : decode cX4_readTerm 14 = .ok (.aload_n 0, 1) := dk_42 (dk_at dksX4_readTerm_0 14 rfl rfl)
theorem dX4_readTerm_15 : decode cX4_readTerm 15 = .ok (.iload_n 1, 1) := dk_27 (dk_at dksX4_readTerm_0 15 rfl rfl)
theorem dX4_readTerm_16 : decode cX4_readTerm 16 = .ok (.invokevirtual 170, 3) := dk_182 0 170 (dk_at dksX4_readTerm_0 16 rfl rfl)
theorem dX4_readTerm_19 : decode cX4_readTerm 19 = .ok (.aload_n 0, 1) := dk_42 (dk_at dksX4_readTerm_0 19 rfl rfl)
theorem dX4_readTerm_20 : decode cX4_readTerm 20 = .ok (.sipush 3002, 3) := dk_17 11 186 (dk_at dksX4_readTerm_0 20 rfl rfl)
theorem dX4_readTerm_23 : decode cX4_readTerm 23 = .ok (.invokevirtual 149, 3) := dk_182 0 149 (dk_at dksX4_readTerm_1 0 rfl rfl)
theorem dX4_readTerm_26 : decode cX4_readTerm 26 = .ok (.goto (-21), 3) := dk_167 255 235 (dk_at dksX4_readTerm_1 3 rfl rfl)
theorem dX4_readTerm_29 : decode cX4_readTerm 29 = .ok (.return_, 1) := dk_177 (dk_at dksX4_readTerm_1 6 rfl rfl)
abbrev cX4_readAtom : ByteArray := prog_16_method_19_code
def yX4_readAtom : MethodName := ⟨RX4, "readAtom", "(I)V"⟩
def dkwX4_readAtom_5 : List UInt8 := [27, 182, 0, 164, 167, 0, 8, 42, 5, 182, 0, 138, 177]
abbrev dktX4_readAtom_5 : List UInt8 := dkwX4_readAtom_5 ++ []
def dkwX4_readAtom_4 : List UInt8 := [182, 0, 161, 154, 0, 33, 42, 5, 182, 0, 138, 167, 0, 25, 42, 16, 12, 182, 0, 132, 153, 0, 11, 42]
abbrev dktX4_readAtom_4 : List UInt8 := dkwX4_readAtom_4 ++ dktX4_readAtom_5
def dkwX4_readAtom_3 : List UInt8 := [153, 0, 36, 42, 27, 182, 0, 155, 154, 0, 4, 177, 42, 27, 4, 96, 182, 0, 158, 42, 16, 36]
abbrev dktX4_readAtom_3 : List UInt8 := dkwX4_readAtom_3 ++ dktX4_readAtom_4
def dkwX4_readAtom_2 : List UInt8 := [42, 180, 0, 108, 182, 0, 152, 96, 182, 0, 149, 42, 182, 0, 135, 167, 0, 67, 42, 16, 35, 182, 0, 132]
abbrev dktX4_readAtom_2 : List UInt8 := dkwX4_readAtom_2 ++ dktX4_readAtom_3
def dkwX4_readAtom_1 : List UInt8 := [42, 180, 0, 126, 154, 0, 38, 42, 42, 180, 0, 108, 182, 0, 152, 2, 159, 0, 26, 42, 17, 3, 232, 42]
abbrev dktX4_readAtom_1 : List UInt8 := dkwX4_readAtom_1 ++ dktX4_readAtom_2
def dkwX4_readAtom_0 : List UInt8 := [42, 16, 23, 182, 0, 132, 153, 0, 18, 42, 42, 180, 0, 121, 182, 0, 149, 42, 182, 0, 135, 167, 0, 109]
abbrev dktX4_readAtom_0 : List UInt8 := dkwX4_readAtom_0 ++ dktX4_readAtom_1
theorem dksX4_readAtom_0 : cX4_readAtom.data.toList.drop 0 = dktX4_readAtom_0 := by decide +kernel
theorem dksX4_readAtom_1 : cX4_readAtom.data.toList.drop 24 = dktX4_readAtom_1 := dk_seg dksX4_readAtom_0 24 rfl rfl
theorem dksX4_readAtom_2 : cX4_readAtom.data.toList.drop 48 = dktX4_readAtom_2 := dk_seg dksX4_readAtom_1 24 rfl rfl
theorem dksX4_readAtom_3 : cX4_readAtom.data.toList.drop 72 = dktX4_readAtom_3 := dk_seg dksX4_readAtom_2 24 rfl rfl
theorem dksX4_readAtom_4 : cX4_readAtom.data.toList.drop 94 = dktX4_readAtom_4 := dk_seg dksX4_readAtom_3 22 rfl rfl
theorem dksX4_readAtom_5 : cX4_readAtom.data.toList.drop 118 = dktX4_readAtom_5 := dk_seg dksX4_readAtom_4 24 rfl rfl
theorem dX4_readAtom_0 : decode cX4_readAtom 0 = .ok (.aload_n 0, 1) := dk_42 (dk_at dksX4_readAtom_0 0 rfl rfl)
theorem dX4_readAtom_1 : decode cX4_readAtom 1 = .ok (.bipush 23, 2) := dk_16 23 (dk_at dksX4_readAtom_0 1 rfl rfl)
theorem dX4_readAtom_3 : decode cX4_readAtom 3 = .ok (.invokevirtual 132, 3) := dk_182 0 132 (dk_at dksX4_readAtom_0 3 rfl rfl)
theorem dX4_readAtom_6 : decode cX4_readAtom 6 = .ok (.ifCond .eq 18, 3) := dk_153 0 18 (dk_at dksX4_readAtom_0 6 rfl rfl)
theorem dX4_readAtom_9 : decode cX4_readAtom 9 = .ok (.aload_n 0, 1) := dk_42 (dk_at dksX4_readAtom_0 9 rfl rfl)
theorem dX4_readAtom_10 : decode cX4_readAtom 10 = .ok (.aload_n 0, 1) := dk_42 (dk_at dksX4_readAtom_0 10 rfl rfl)
theorem dX4_readAtom_11 : decode cX4_readAtom 11 = .ok (.getfield 121, 3) := dk_180 0 121 (dk_at dksX4_readAtom_0 11 rfl rfl)
theorem dX4_readAtom_14 : decode cX4_readAtom 14 = .ok (.invokevirtual 149, 3) := dk_182 0 149 (dk_at dksX4_readAtom_0 14 rfl rfl)
theorem dX4_readAtom_17 : decode cX4_readAtom 17 = .ok (.aload_n 0, 1) := dk_42 (dk_at dksX4_readAtom_0 17 rfl rfl)
theorem dX4_readAtom_18 : decode cX4_readAtom 18 = .ok (.invokevirtual 135, 3) := dk_182 0 135 (dk_at dksX4_readAtom_0 18 rfl rfl)
theorem dX4_readAtom_21 : decode cX4_readAtom 21 = .ok (.goto 109, 3) := dk_167 0 109 (dk_at dksX4_readAtom_0 21 rfl rfl)
theorem dX4_readAtom_24 : decode cX4_readAtom 24 = .ok (.aload_n 0, 1) := dk_42 (dk_at dksX4_readAtom_1 0 rfl rfl)
theorem dX4_readAtom_25 : decode cX4_readAtom 25 = .ok (.getfield 126, 3) := dk_180 0 126 (dk_at dksX4_readAtom_1 1 rfl rfl)
theorem dX4_readAtom_28 : decode cX4_readAtom 28 = .ok (.ifCond .ne 38, 3) := dk_154 0 38 (dk_at dksX4_readAtom_1 4 rfl rfl)
theorem dX4_readAtom_31 : decode cX4_readAtom 31 = .ok (.aload_n 0, 1) := dk_42 (dk_at dksX4_readAtom_1 7 rfl rfl)
theorem dX4_readAtom_32 : decode cX4_readAtom 32 = .ok (.aload_n 0, 1) := dk_42 (dk_at dksX4_readAtom_1 8 rfl rfl)
theorem dX4_readAtom_33 : decode cX4_readAtom 33 = .ok (.getfield 108, 3) := dk_180 0 108 (dk_at dksX4_readAtom_1 9 rfl rfl)
theorem dX4_readAtom_36 : decode cX4_readAtom 36 = .ok (.invokevirtual 152, 3) := dk_182 0 152 (dk_at dksX4_readAtom_1 12 rfl rfl)
theorem dX4_readAtom_39 : decode cX4_readAtom 39 = .ok (.iconst (-1), 1) := dk_2 (dk_at dksX4_readAtom_1 15 rfl rfl)
theorem dX4_readAtom_40 : decode cX4_readAtom 40 = .ok (.if_icmp .eq 26, 3) := dk_159 0 26 (dk_at dksX4_readAtom_1 16 rfl rfl)
theorem dX4_readAtom_43 : decode cX4_readAtom 43 = .ok (.aload_n 0, 1) := dk_42 (dk_at dksX4_readAtom_1 19 rfl rfl)
theorem dX4_readAtom_44 : decode cX4_readAtom 44 = .ok (.sipush 1000, 3) := dk_17 3 232 (dk_at dksX4_readAtom_1 20 rfl rfl)
theorem dX4_readAtom_47 : decode cX4_readAtom 47 = .ok (.aload_n 0, 1) := dk_42 (dk_at dksX4_readAtom_1 23 rfl rfl)
theorem dX4_readAtom_48 : decode cX4_readAtom 48 = .ok (.aload_n 0, 1) := dk_42 (dk_at dksX4_readAtom_2 0 rfl rfl)
theorem dX4_readAtom_49 : decode cX4_readAtom 49 = .ok (.getfield 108, 3) := dk_180 0 108 (dk_at dksX4_readAtom_2 1 rfl rfl)
theorem dX4_readAtom_52 : decode cX4_readAtom 52 = .ok (.invokevirtual 152, 3) := dk_182 0 152 (dk_at dksX4_readAtom_2 4 rfl rfl)
theorem dX4_readAtom_55 : decode cX4_readAtom 55 = .ok (.iadd, 1) := dk_96 (dk_at dksX4_readAtom_2 7 rfl rfl)
theorem dX4_readAtom_56 : decode cX4_readAtom 56 = .ok (.invokevirtual 149, 3) := dk_182 0 149 (dk_at dksX4_readAtom_2 8 rfl rfl)
theorem dX4_readAtom_59 : decode cX4_readAtom 59 = .ok (.aload_n 0, 1) := dk_42 (dk_at dksX4_readAtom_2 11 rfl rfl)
theorem dX4_readAtom_60 : decode cX4_readAtom 60 = .ok (.invokevirtual 135, 3) := dk_182 0 135 (dk_at dksX4_readAtom_2 12 rfl rfl)
theorem dX4_readAtom_63 : decode cX4_readAtom 63 = .ok (.goto 67, 3) := dk_167 0 67 (dk_at dksX4_readAtom_2 15 rfl rfl)
theorem dX4_readAtom_66 : decode cX4_readAtom 66 = .ok (.aload_n 0, 1) := dk_42 (dk_at dksX4_readAtom_2 18 rfl rfl)
theorem dX4_readAtom_67 : decode cX4_readAtom 67 = .ok (.bipush 35, 2) := dk_16 35 (dk_at dksX4_readAtom_2 19 rfl rfl)
theorem dX4_readAtom_69 : decode cX4_readAtom 69 = .ok (.invokevirtual 132, 3) := dk_182 0 132 (dk_at dksX4_readAtom_2 21 rfl rfl)
theorem dX4_readAtom_72 : decode cX4_readAtom 72 = .ok (.ifCond .eq 36, 3) := dk_153 0 36 (dk_at dksX4_readAtom_3 0 rfl rfl)
theorem dX4_readAtom_75 : decode cX4_readAtom 75 = .ok (.aload_n 0, 1) := dk_42 (dk_at dksX4_readAtom_3 3 rfl rfl)
theorem dX4_readAtom_76 : decode cX4_readAtom 76 = .ok (.iload_n 1, 1) := dk_27 (dk_at dksX4_readAtom_3 4 rfl rfl)
theorem dX4_readAtom_77 : decode cX4_readAtom 77 = .ok (.invokevirtual 155, 3) := dk_182 0 155 (dk_at dksX4_readAtom_3 5 rfl rfl)
theorem dX4_readAtom_80 : decode cX4_readAtom 80 = .ok (.ifCond .ne 4, 3) := dk_154 0 4 (dk_at dksX4_readAtom_3 8 rfl rfl)
theorem dX4_readAtom_83 : decode cX4_readAtom 83 = .ok (.return_, 1) := dk_177 (dk_at dksX4_readAtom_3 11 rfl rfl)
theorem dX4_readAtom_84 : decode cX4_readAtom 84 = .ok (.aload_n 0, 1) := dk_42 (dk_at dksX4_readAtom_3 12 rfl rfl)
theorem dX4_readAtom_85 : decode cX4_readAtom 85 = .ok (.iload_n 1, 1) := dk_27 (dk_at dksX4_readAtom_3 13 rfl rfl)
theorem dX4_readAtom_86 : decode cX4_readAtom 86 = .ok (.iconst 1, 1) := dk_4 (dk_at dksX4_readAtom_3 14 rfl rfl)
theorem dX4_readAtom_87 : decode cX4_readAtom 87 = .ok (.iadd, 1) := dk_96 (dk_at dksX4_readAtom_3 15 rfl rfl)
theorem dX4_readAtom_88 : decode cX4_readAtom 88 = .ok (.invokevirtual 158, 3) := dk_182 0 158 (dk_at dksX4_readAtom_3 16 rfl rfl)
theorem dX4_readAtom_91 : decode cX4_readAtom 91 = .ok (.aload_n 0, 1) := dk_42 (dk_at dksX4_readAtom_3 19 rfl rfl)
theorem dX4_readAtom_92 : decode cX4_readAtom 92 = .ok (.bipush 36, 2) := dk_16 36 (dk_at dksX4_readAtom_3 20 rfl rfl)
theorem dX4_readAtom_94 : decode cX4_readAtom 94 = .ok (.invokevirtual 161, 3) := dk_182 0 161 (dk_at dksX4_readAtom_4 0 rfl rfl)
theorem dX4_readAtom_97 : decode cX4_readAtom 97 = .ok (.ifCond .ne 33, 3) := dk_154 0 33 (dk_at dksX4_readAtom_4 3 rfl rfl)
theorem dX4_readAtom_100 : decode cX4_readAtom 100 = .ok (.aload_n 0, 1) := dk_42 (dk_at dksX4_readAtom_4 6 rfl rfl)
theorem dX4_readAtom_101 : decode cX4_readAtom 101 = .ok (.iconst 2, 1) := dk_5 (dk_at dksX4_readAtom_4 7 rfl rfl)
theorem dX4_readAtom_102 : decode cX4_readAtom 102 = .ok (.invokevirtual 138, 3) := dk_182 0 138 (dk_at dksX4_readAtom_4 8 rfl rfl)
theorem dX4_readAtom_105 : decode cX4_readAtom 105 = .ok (.goto 25, 3) := dk_167 0 25 (dk_at dksX4_readAtom_4 11 rfl rfl)
theorem dX4_readAtom_108 : decode cX4_readAtom 108 = .ok (.aload_n 0, 1) := dk_42 (dk_at dksX4_readAtom_4 14 rfl rfl)
theorem dX4_readAtom_109 : decode cX4_readAtom 109 = .ok (.bipush 12, 2) := dk_16 12 (dk_at dksX4_readAtom_4 15 rfl rfl)
theorem dX4_readAtom_111 : decode cX4_readAtom 111 = .ok (.invokevirtual 132, 3) := dk_182 0 132 (dk_at dksX4_readAtom_4 17 rfl rfl)
theorem dX4_readAtom_114 : decode cX4_readAtom 114 = .ok (.ifCond .eq 11, 3) := dk_153 0 11 (dk_at dksX4_readAtom_4 20 rfl rfl)
theorem dX4_readAtom_117 : decode cX4_readAtom 117 = .ok (.aload_n 0, 1) := dk_42 (dk_at dksX4_readAtom_4 23 rfl rfl)
theorem dX4_readAtom_118 : decode cX4_readAtom 118 = .ok (.iload_n 1, 1) := dk_27 (dk_at dksX4_readAtom_5 0 rfl rfl)
theorem dX4_readAtom_119 : decode cX4_readAtom 119 = .ok (.invokevirtual 164, 3) := dk_182 0 164 (dk_at dksX4_readAtom_5 1 rfl rfl)
theorem dX4_readAtom_122 : decode cX4_readAtom 122 = .ok (.goto 8, 3) := dk_167 0 8 (dk_at dksX4_readAtom_5 4 rfl rfl)
theorem dX4_readAtom_125 : decode cX4_readAtom 125 = .ok (.aload_n 0, 1) := dk_42 (dk_at dksX4_readAtom_5 7 rfl rfl)
theorem dX4_readAtom_126 : decode cX4_readAtom 126 = .ok (.iconst 2, 1) := dk_5 (dk_at dksX4_readAtom_5 8 rfl rfl)
theorem dX4_readAtom_127 : decode cX4_readAtom 127 = .ok (.invokevirtual 138, 3) := dk_182 0 138 (dk_at dksX4_readAtom_5 9 rfl rfl)
theorem dX4_readAtom_130 : decode cX4_readAtom 130 = .ok (.return_, 1) := dk_177 (dk_at dksX4_readAtom_5 12 rfl rfl)
abbrev cX4_codes : ByteArray := prog_16_method_17_code
def yX4_codes : MethodName := ⟨RX4, "codes", "(I)V"⟩
def dkwX4_codes_1 : List UInt8 := [42, 180, 0, 24, 16, 98, 92, 46, 4, 96, 79, 177]
abbrev dktX4_codes_1 : List UInt8 := dkwX4_codes_1 ++ []
def dkwX4_codes_0 : List UInt8 := [42, 180, 0, 126, 153, 0, 4, 177, 42, 180, 0, 24, 16, 99, 42, 180, 0, 24, 16, 98, 46, 96, 27, 79]
abbrev dktX4_codes_0 : List UInt8 := dkwX4_codes_0 ++ dktX4_codes_1
theorem dksX4_codes_0 : cX4_codes.data.toList.drop 0 = dktX4_codes_0 := by decide +kernel
theorem dksX4_codes_1 : cX4_codes.data.toList.drop 24 = dktX4_codes_1 := dk_seg dksX4_codes_0 24 rfl rfl
theorem dX4_codes_0 : decode cX4_codes 0 = .ok (.aload_n 0, 1) := dk_42 (dk_at dksX4_codes_0 0 rfl rfl)
theorem dX4_codes_1 : decode cX4_codes 1 = .ok (.getfield 126, 3) := dk_180 0 126 (dk_at dksX4_codes_0 1 rfl rfl)
theorem dX4_codes_4 : decode cX4_codes 4 = .ok (.ifCond .eq 4, 3) := dk_153 0 4 (dk_at dksX4_codes_0 4 rfl rfl)
theorem dX4_codes_7 : decode cX4_codes 7 = .ok (.return_, 1) := dk_177 (dk_at dksX4_codes_0 7 rfl rfl)
theorem dX4_codes_8 : decode cX4_codes 8 = .ok (.aload_n 0, 1) := dk_42 (dk_at dksX4_codes_0 8 rfl rfl)
theorem dX4_codes_9 : decode cX4_codes 9 = .ok (.getfield 24, 3) := dk_180 0 24 (dk_at dksX4_codes_0 9 rfl rfl)
theorem dX4_codes_12 : decode cX4_codes 12 = .ok (.bipush 99, 2) := dk_16 99 (dk_at dksX4_codes_0 12 rfl rfl)
theorem dX4_codes_14 : decode cX4_codes 14 = .ok (.aload_n 0, 1) := dk_42 (dk_at dksX4_codes_0 14 rfl rfl)
theorem dX4_codes_15 : decode cX4_codes 15 = .ok (.getfield 24, 3) := dk_180 0 24 (dk_at dksX4_codes_0 15 rfl rfl)
theorem dX4_codes_18 : decode cX4_codes 18 = .ok (.bipush 98, 2) := dk_16 98 (dk_at dksX4_codes_0 18 rfl rfl)
theorem dX4_codes_20 : decode cX4_codes 20 = .ok (.iaload, 1) := dk_46 (dk_at dksX4_codes_0 20 rfl rfl)
theorem dX4_codes_21 : decode cX4_codes 21 = .ok (.iadd, 1) := dk_96 (dk_at dksX4_codes_0 21 rfl rfl)
theorem dX4_codes_22 : decode cX4_codes 22 = .ok (.iload_n 1, 1) := dk_27 (dk_at dksX4_codes_0 22 rfl rfl)
theorem dX4_codes_23 : decode cX4_codes 23 = .ok (.iastore, 1) := dk_79 (dk_at dksX4_codes_0 23 rfl rfl)
theorem dX4_codes_24 : decode cX4_codes 24 = .ok (.aload_n 0, 1) := dk_42 (dk_at dksX4_codes_1 0 rfl rfl)
theorem dX4_codes_25 : decode cX4_codes 25 = .ok (.getfield 24, 3) := dk_180 0 24 (dk_at dksX4_codes_1 1 rfl rfl)
theorem dX4_codes_28 : decode cX4_codes 28 = .ok (.bipush 98, 2) := dk_16 98 (dk_at dksX4_codes_1 4 rfl rfl)
theorem dX4_codes_30 : decode cX4_codes 30 = .ok (.dup2, 1) := dk_92 (dk_at dksX4_codes_1 6 rfl rfl)
theorem dX4_codes_31 : decode cX4_codes 31 = .ok (.iaload, 1) := dk_46 (dk_at dksX4_codes_1 7 rfl rfl)
theorem dX4_codes_32 : decode cX4_codes 32 = .ok (.iconst 1, 1) := dk_4 (dk_at dksX4_codes_1 8 rfl rfl)
theorem dX4_codes_33 : decode cX4_codes 33 = .ok (.iadd, 1) := dk_96 (dk_at dksX4_codes_1 9 rfl rfl)
theorem dX4_codes_34 : decode cX4_codes 34 = .ok (.iastore, 1) := dk_79 (dk_at dksX4_codes_1 10 rfl rfl)
theorem dX4_codes_35 : decode cX4_codes 35 = .ok (.return_, 1) := dk_177 (dk_at dksX4_codes_1 11 rfl rfl)
abbrev cX4_wordOf : ByteArray := prog_16_method_16_code
def yX4_wordOf : MethodName := ⟨RX4, "wordOf", "(I)I"⟩
def dkwX4_wordOf_3 : List UInt8 := [167, 0, 4, 2, 172, 2, 172]
abbrev dktX4_wordOf_3 : List UInt8 := dkwX4_wordOf_3 ++ []
def dkwX4_wordOf_2 : List UInt8 := [3, 172, 4, 172, 5, 172, 6, 172, 7, 172, 8, 172, 42, 180, 0, 146, 4, 160, 0, 8, 16, 6]
abbrev dktX4_wordOf_2 : List UInt8 := dkwX4_wordOf_2 ++ dktX4_wordOf_3
def dkwX4_wordOf_1 : List UInt8 := [170, 0, 0, 0, 0, 0, 106, 0, 0, 0, 2, 0, 0, 0, 17, 0, 0, 0, 79, 0, 0, 0, 81, 0, 0, 0, 106, 0, 0, 0, 85, 0, 0, 0, 106, 0, 0, 0, 83, 0, 0, 0, 87, 0, 0, 0, 106, 0, 0, 0, 106, 0, 0, 0, 106, 0, 0, 0, 106, 0, 0, 0, 106, 0, 0, 0, 106, 0, 0, 0, 106, 0, 0, 0, 89, 0, 0, 0, 91]
abbrev dktX4_wordOf_1 : List UInt8 := dkwX4_wordOf_1 ++ dktX4_wordOf_2
def dkwX4_wordOf_0 : List UInt8 := [27]
abbrev dktX4_wordOf_0 : List UInt8 := dkwX4_wordOf_0 ++ dktX4_wordOf_1
theorem dksX4_wordOf_0 : cX4_wordOf.data.toList.drop 0 = dktX4_wordOf_0 := by decide +kernel
theorem dksX4_wordOf_1 : cX4_wordOf.data.toList.drop 1 = dktX4_wordOf_1 := dk_seg dksX4_wordOf_0 1 rfl rfl
theorem dksX4_wordOf_2 : cX4_wordOf.data.toList.drop 80 = dktX4_wordOf_2 := dk_seg dksX4_wordOf_1 79 rfl rfl
theorem dksX4_wordOf_3 : cX4_wordOf.data.toList.drop 102 = dktX4_wordOf_3 := dk_seg dksX4_wordOf_2 22 rfl rfl
theorem dX4_wordOf_0 : decode cX4_wordOf 0 = .ok (.iload_n 1, 1) := dk_27 (dk_at dksX4_wordOf_0 0 rfl rfl)
theorem dX4_wordOf_1 : decode cX4_wordOf 1 = .ok (.tableswitch 106 2 17 #[79, 81, 106, 85, 106, 83, 87, 106, 106, 106, 106, 106, 106, 106, 89, 91], 79) := by decide +kernel
theorem dX4_wordOf_80 : decode cX4_wordOf 80 = .ok (.iconst 0, 1) := dk_3 (dk_at dksX4_wordOf_2 0 rfl rfl)
theorem dX4_wordOf_81 : decode cX4_wordOf 81 = .ok (.ireturn, 1) := dk_172 (dk_at dksX4_wordOf_2 1 rfl rfl)
theorem dX4_wordOf_82 : decode cX4_wordOf 82 = .ok (.iconst 1, 1) := dk_4 (dk_at dksX4_wordOf_2 2 rfl rfl)
theorem dX4_wordOf_83 : decode cX4_wordOf 83 = .ok (.ireturn, 1) := dk_172 (dk_at dksX4_wordOf_2 3 rfl rfl)
theorem dX4_wordOf_84 : decode cX4_wordOf 84 = .ok (.iconst 2, 1) := dk_5 (dk_at dksX4_wordOf_2 4 rfl rfl)
theorem dX4_wordOf_85 : decode cX4_wordOf 85 = .ok (.ireturn, 1) := dk_172 (dk_at dksX4_wordOf_2 5 rfl rfl)
theorem dX4_wordOf_86 : decode cX4_wordOf 86 = .ok (.iconst 3, 1) := dk_6 (dk_at dksX4_wordOf_2 6 rfl rfl)
theorem dX4_wordOf_87 : decode cX4_wordOf 87 = .ok (.ireturn, 1) := dk_172 (dk_at dksX4_wordOf_2 7 rfl rfl)
theorem dX4_wordOf_88 : decode cX4_wordOf 88 = .ok (.iconst 4, 1) := dk_7 (dk_at dksX4_wordOf_2 8 rfl rfl)
theorem dX4_wordOf_89 : decode cX4_wordOf 89 = .ok (.ireturn, 1) := dk_172 (dk_at dksX4_wordOf_2 9 rfl rfl)
theorem dX4_wordOf_90 : decode cX4_wordOf 90 = .ok (.iconst 5, 1) := dk_8 (dk_at dksX4_wordOf_2 10 rfl rfl)
theorem dX4_wordOf_91 : decode cX4_wordOf 91 = .ok (.ireturn, 1) := dk_172 (dk_at dksX4_wordOf_2 11 rfl rfl)
theorem dX4_wordOf_92 : decode cX4_wordOf 92 = .ok (.aload_n 0, 1) := dk_42 (dk_at dksX4_wordOf_2 12 rfl rfl)
theorem dX4_wordOf_93 : decode cX4_wordOf 93 = .ok (.getfield 146, 3) := dk_180 0 146 (dk_at dksX4_wordOf_2 13 rfl rfl)
theorem dX4_wordOf_96 : decode cX4_wordOf 96 = .ok (.iconst 1, 1) := dk_4 (dk_at dksX4_wordOf_2 16 rfl rfl)
theorem dX4_wordOf_97 : decode cX4_wordOf 97 = .ok (.if_icmp .ne 8, 3) := dk_160 0 8 (dk_at dksX4_wordOf_2 17 rfl rfl)
theorem dX4_wordOf_100 : decode cX4_wordOf 100 = .ok (.bipush 6, 2) := dk_16 6 (dk_at dksX4_wordOf_2 20 rfl rfl)
theorem dX4_wordOf_102 : decode cX4_wordOf 102 = .ok (.goto 4, 3) := dk_167 0 4 (dk_at dksX4_wordOf_3 0 rfl rfl)
theorem dX4_wordOf_105 : decode cX4_wordOf 105 = .ok (.iconst (-1), 1) := dk_2 (dk_at dksX4_wordOf_3 3 rfl rfl)
theorem dX4_wordOf_106 : decode cX4_wordOf 106 = .ok (.ireturn, 1) := dk_172 (dk_at dksX4_wordOf_3 4 rfl rfl)
theorem dX4_wordOf_107 : decode cX4_wordOf 107 = .ok (.iconst (-1), 1) := dk_2 (dk_at dksX4_wordOf_3 5 rfl rfl)
theorem dX4_wordOf_108 : decode cX4_wordOf 108 = .ok (.ireturn, 1) := dk_172 (dk_at dksX4_wordOf_3 6 rfl rfl)
abbrev cX4_goesIn : ByteArray := prog_16_method_18_code
def yX4_goesIn : MethodName := ⟨RX4, "goesIn", "(I)Z"⟩
def dkwX4_goesIn_1 : List UInt8 := [180, 0, 126, 154, 0, 7, 4, 167, 0, 4, 3, 172]
abbrev dktX4_goesIn_1 : List UInt8 := dkwX4_goesIn_1 ++ []
def dkwX4_goesIn_0 : List UInt8 := [27, 16, 6, 160, 0, 8, 42, 7, 182, 0, 138, 42, 180, 0, 126, 154, 0, 7, 42, 182, 0, 135, 42]
abbrev dktX4_goesIn_0 : List UInt8 := dkwX4_goesIn_0 ++ dktX4_goesIn_1
theorem dksX4_goesIn_0 : cX4_goesIn.data.toList.drop 0 = dktX4_goesIn_0 := by decide +kernel
theorem dksX4_goesIn_1 : cX4_goesIn.data.toList.drop 23 = dktX4_goesIn_1 := dk_seg dksX4_goesIn_0 23 rfl rfl
theorem dX4_goesIn_0 : decode cX4_goesIn 0 = .ok (.iload_n 1, 1) := dk_27 (dk_at dksX4_goesIn_0 0 rfl rfl)
theorem dX4_goesIn_1 : decode cX4_goesIn 1 = .ok (.bipush 6, 2) := dk_16 6 (dk_at dksX4_goesIn_0 1 rfl rfl)
theorem dX4_goesIn_3 : decode cX4_goesIn 3 = .ok (.if_icmp .ne 8, 3) := dk_160 0 8 (dk_at dksX4_goesIn_0 3 rfl rfl)
theorem dX4_goesIn_6 : decode cX4_goesIn 6 = .ok (.aload_n 0, 1) := dk_42 (dk_at dksX4_goesIn_0 6 rfl rfl)
theorem dX4_goesIn_7 : decode cX4_goesIn 7 = .ok (.iconst 4, 1) := dk_7 (dk_at dksX4_goesIn_0 7 rfl rfl)
theorem dX4_goesIn_8 : decode cX4_goesIn 8 = .ok (.invokevirtual 138, 3) := dk_182 0 138 (dk_at dksX4_goesIn_0 8 rfl rfl)
theorem dX4_goesIn_11 : decode cX4_goesIn 11 = .ok (.aload_n 0, 1) := dk_42 (dk_at dksX4_goesIn_0 11 rfl rfl)
theorem dX4_goesIn_12 : decode cX4_goesIn 12 = .ok (.getfield 126, 3) := dk_180 0 126 (dk_at dksX4_goesIn_0 12 rfl rfl)
theorem dX4_goesIn_15 : decode cX4_goesIn 15 = .ok (.ifCond .ne 7, 3) := dk_154 0 7 (dk_at dksX4_goesIn_0 15 rfl rfl)
theorem dX4_goesIn_18 : decode cX4_goesIn 18 = .ok (.aload_n 0, 1) := dk_42 (dk_at dksX4_goesIn_0 18 rfl rfl)
theorem dX4_goesIn_19 : decode cX4_goesIn 19 = .ok (.invokevirtual 135, 3) := dk_182 0 135 (dk_at dksX4_goesIn_0 19 rfl rfl)
theorem dX4_goesIn_22 : decode cX4_goesIn 22 = .ok (.aload_n 0, 1) := dk_42 (dk_at dksX4_goesIn_0 22 rfl rfl)
theorem dX4_goesIn_23 : decode cX4_goesIn 23 = .ok (.getfield 126, 3) := dk_180 0 126 (dk_at dksX4_goesIn_1 0 rfl rfl)
theorem dX4_goesIn_26 : decode cX4_goesIn 26 = .ok (.ifCond .ne 7, 3) := dk_154 0 7 (dk_at dksX4_goesIn_1 3 rfl rfl)
theorem dX4_goesIn_29 : decode cX4_goesIn 29 = .ok (.iconst 1, 1) := dk_4 (dk_at dksX4_goesIn_1 6 rfl rfl)
theorem dX4_goesIn_30 : decode cX4_goesIn 30 = .ok (.goto 4, 3) := dk_167 0 4 (dk_at dksX4_goesIn_1 7 rfl rfl)
theorem dX4_goesIn_33 : decode cX4_goesIn 33 = .ok (.iconst 0, 1) := dk_3 (dk_at dksX4_goesIn_1 10 rfl rfl)
theorem dX4_goesIn_34 : decode cX4_goesIn 34 = .ok (.ireturn, 1) := dk_172 (dk_at dksX4_goesIn_1 11 rfl rfl)
abbrev cX4_readIf : ByteArray := prog_16_method_20_code
def yX4_readIf : MethodName := ⟨RX4, "readIf", "(I)V"⟩
def dkwX4_readIf_3 : List UInt8 := [182, 0, 138, 42, 17, 11, 193, 182, 0, 149, 177]
abbrev dktX4_readIf_3 : List UInt8 := dkwX4_readIf_3 ++ []
def dkwX4_readIf_2 : List UInt8 := [42, 5, 182, 0, 138, 42, 27, 4, 96, 182, 0, 158, 42, 16, 15, 182, 0, 161, 154, 0, 8, 42, 5]
abbrev dktX4_readIf_2 : List UInt8 := dkwX4_readIf_2 ++ dktX4_readIf_3
def dkwX4_readIf_1 : List UInt8 := [154, 0, 8, 42, 5, 182, 0, 138, 42, 27, 4, 96, 182, 0, 158, 42, 16, 14, 182, 0, 161, 154, 0, 8]
abbrev dktX4_readIf_1 : List UInt8 := dkwX4_readIf_1 ++ dktX4_readIf_2
def dkwX4_readIf_0 : List UInt8 := [42, 27, 182, 0, 155, 154, 0, 4, 177, 42, 27, 4, 96, 182, 0, 167, 42, 16, 13, 182, 0, 161]
abbrev dktX4_readIf_0 : List UInt8 := dkwX4_readIf_0 ++ dktX4_readIf_1
theorem dksX4_readIf_0 : cX4_readIf.data.toList.drop 0 = dktX4_readIf_0 := by decide +kernel
theorem dksX4_readIf_1 : cX4_readIf.data.toList.drop 22 = dktX4_readIf_1 := dk_seg dksX4_readIf_0 22 rfl rfl
theorem dksX4_readIf_2 : cX4_readIf.data.toList.drop 46 = dktX4_readIf_2 := dk_seg dksX4_readIf_1 24 rfl rfl
theorem dksX4_readIf_3 : cX4_readIf.data.toList.drop 69 = dktX4_readIf_3 := dk_seg dksX4_readIf_2 23 rfl rfl
theorem dX4_readIf_0 : decode cX4_readIf 0 = .ok (.aload_n 0, 1) := dk_42 (dk_at dksX4_readIf_0 0 rfl rfl)
theorem dX4_readIf_1 : decode cX4_readIf 1 = .ok (.iload_n 1, 1) := dk_27 (dk_at dksX4_readIf_0 1 rfl rfl)
theorem dX4_readIf_2 : decode cX4_readIf 2 = .ok (.invokevirtual 155, 3) := dk_182 0 155 (dk_at dksX4_readIf_0 2 rfl rfl)
theorem dX4_readIf_5 : decode cX4_readIf 5 = .ok (.ifCond .ne 4, 3) := dk_154 0 4 (dk_at dksX4_readIf_0 5 rfl rfl)
theorem dX4_readIf_8 : decode cX4_readIf 8 = .ok (.return_, 1) := dk_177 (dk_at dksX4_readIf_0 8 rfl rfl)
theorem dX4_readIf_9 : decode cX4_readIf 9 = .ok (.aload_n 0, 1) := dk_42 (dk_at dksX4_readIf_0 9 rfl rfl)
theorem dX4_readIf_10 : decode cX4_readIf 10 = .ok (.iload_n 1, 1) := dk_27 (dk_at dksX4_readIf_0 10 rfl rfl)
theorem dX4_readIf_11 : decode cX4_readIf 11 = .ok (.iconst 1, 1) := dk_4 (dk_at dksX4_readIf_0 11 rfl rfl)
theorem dX4_readIf_12 : decode cX4_readIf 12 = .ok (.iadd, 1) := dk_96 (dk_at dksX4_readIf_0 12 rfl rfl)
theorem dX4_readIf_13 : decode cX4_readIf 13 = .ok (.invokevirtual 167, 3) := dk_182 0 167 (dk_at dksX4_readIf_0 13 rfl rfl)
theorem dX4_readIf_16 : decode cX4_readIf 16 = .ok (.aload_n 0, 1) := dk_42 (dk_at dksX4_readIf_0 16 rfl rfl)
theorem dX4_readIf_17 : decode cX4_readIf 17 = .ok (.bipush 13, 2) := dk_16 13 (dk_at dksX4_readIf_0 17 rfl rfl)
theorem dX4_readIf_19 : decode cX4_readIf 19 = .ok (.invokevirtual 161, 3) := dk_182 0 161 (dk_at dksX4_readIf_0 19 rfl rfl)
theorem dX4_readIf_22 : decode cX4_readIf 22 = .ok (.ifCond .ne 8, 3) := dk_154 0 8 (dk_at dksX4_readIf_1 0 rfl rfl)
theorem dX4_readIf_25 : decode cX4_readIf 25 = .ok (.aload_n 0, 1) := dk_42 (dk_at dksX4_readIf_1 3 rfl rfl)
theorem dX4_readIf_26 : decode cX4_readIf 26 = .ok (.iconst 2, 1) := dk_5 (dk_at dksX4_readIf_1 4 rfl rfl)
theorem dX4_readIf_27 : decode cX4_readIf 27 = .ok (.invokevirtual 138, 3) := dk_182 0 138 (dk_at dksX4_readIf_1 5 rfl rfl)
theorem dX4_readIf_30 : decode cX4_readIf 30 = .ok (.aload_n 0, 1) := dk_42 (dk_at dksX4_readIf_1 8 rfl rfl)
theorem dX4_readIf_31 : decode cX4_readIf 31 = .ok (.iload_n 1, 1) := dk_27 (dk_at dksX4_readIf_1 9 rfl rfl)
theorem dX4_readIf_32 : decode cX4_readIf 32 = .ok (.iconst 1, 1) := dk_4 (dk_at dksX4_readIf_1 10 rfl rfl)
theorem dX4_readIf_33 : decode cX4_readIf 33 = .ok (.iadd, 1) := dk_96 (dk_at dksX4_readIf_1 11 rfl rfl)
theorem dX4_readIf_34 : decode cX4_readIf 34 = .ok (.invokevirtual 158, 3) := dk_182 0 158 (dk_at dksX4_readIf_1 12 rfl rfl)
theorem dX4_readIf_37 : decode cX4_readIf 37 = .ok (.aload_n 0, 1) := dk_42 (dk_at dksX4_readIf_1 15 rfl rfl)
theorem dX4_readIf_38 : decode cX4_readIf 38 = .ok (.bipush 14, 2) := dk_16 14 (dk_at dksX4_readIf_1 16 rfl rfl)
theorem dX4_readIf_40 : decode cX4_readIf 40 = .ok (.invokevirtual 161, 3) := dk_182 0 161 (dk_at dksX4_readIf_1 18 rfl rfl)
theorem dX4_readIf_43 : decode cX4_readIf 43 = .ok (.ifCond .ne 8, 3) := dk_154 0 8 (dk_at dksX4_readIf_1 21 rfl rfl)
theorem dX4_readIf_46 : decode cX4_readIf 46 = .ok (.aload_n 0, 1) := dk_42 (dk_at dksX4_readIf_2 0 rfl rfl)
theorem dX4_readIf_47 : decode cX4_readIf 47 = .ok (.iconst 2, 1) := dk_5 (dk_at dksX4_readIf_2 1 rfl rfl)
theorem dX4_readIf_48 : decode cX4_readIf 48 = .ok (.invokevirtual 138, 3) := dk_182 0 138 (dk_at dksX4_readIf_2 2 rfl rfl)
theorem dX4_readIf_51 : decode cX4_readIf 51 = .ok (.aload_n 0, 1) := dk_42 (dk_at dksX4_readIf_2 5 rfl rfl)
theorem dX4_readIf_52 : decode cX4_readIf 52 = .ok (.iload_n 1, 1) := dk_27 (dk_at dksX4_readIf_2 6 rfl rfl)
theorem dX4_readIf_53 : decode cX4_readIf 53 = .ok (.iconst 1, 1) := dk_4 (dk_at dksX4_readIf_2 7 rfl rfl)
theorem dX4_readIf_54 : decode cX4_readIf 54 = .ok (.iadd, 1) := dk_96 (dk_at dksX4_readIf_2 8 rfl rfl)
theorem dX4_readIf_55 : decode cX4_readIf 55 = .ok (.invokevirtual 158, 3) := dk_182 0 158 (dk_at dksX4_readIf_2 9 rfl rfl)
theorem dX4_readIf_58 : decode cX4_readIf 58 = .ok (.aload_n 0, 1) := dk_42 (dk_at dksX4_readIf_2 12 rfl rfl)
theorem dX4_readIf_59 : decode cX4_readIf 59 = .ok (.bipush 15, 2) := dk_16 15 (dk_at dksX4_readIf_2 13 rfl rfl)
theorem dX4_readIf_61 : decode cX4_readIf 61 = .ok (.invokevirtual 161, 3) := dk_182 0 161 (dk_at dksX4_readIf_2 15 rfl rfl)
theorem dX4_readIf_64 : decode cX4_readIf 64 = .ok (.ifCond .ne 8, 3) := dk_154 0 8 (dk_at dksX4_readIf_2 18 rfl rfl)
theorem dX4_readIf_67 : decode cX4_readIf 67 = .ok (.aload_n 0, 1) := dk_42 (dk_at dksX4_readIf_2 21 rfl rfl)
theorem dX4_readIf_68 : decode cX4_readIf 68 = .ok (.iconst 2, 1) := dk_5 (dk_at dksX4_readIf_2 22 rfl rfl)
theorem dX4_readIf_69 : decode cX4_readIf 69 = .ok (.invokevirtual 138, 3) := dk_182 0 138 (dk_at dksX4_readIf_3 0 rfl rfl)
theorem dX4_readIf_72 : decode cX4_readIf 72 = .ok (.aload_n 0, 1) := dk_42 (dk_at dksX4_readIf_3 3 rfl rfl)
theorem dX4_readIf_73 : decode cX4_readIf 73 = .ok (.sipush 3009, 3) := dk_17 11 193 (dk_at dksX4_readIf_3 4 rfl rfl)
theorem dX4_readIf_76 : decode cX4_readIf 76 = .ok (.invokevirtual 149, 3) := dk_182 0 149 (dk_at dksX4_readIf_3 7 rfl rfl)
theorem dX4_readIf_79 : decode cX4_readIf 79 = .ok (.return_, 1) := dk_177 (dk_at dksX4_readIf_3 10 rfl rfl)
abbrev cX4_readTruth : ByteArray := prog_16_method_25_code
def yX4_readTruth : MethodName := ⟨RX4, "readTruth", "(I)V"⟩
def dkwX4_readTruth_1 : List UInt8 := [182, 0, 149, 167, 255, 235, 177]
abbrev dktX4_readTruth_1 : List UInt8 := dkwX4_readTruth_1 ++ []
def dkwX4_readTruth_0 : List UInt8 := [42, 27, 182, 0, 179, 42, 16, 19, 182, 0, 161, 153, 0, 18, 42, 27, 182, 0, 179, 42, 17, 11, 192]
abbrev dktX4_readTruth_0 : List UInt8 := dkwX4_readTruth_0 ++ dktX4_readTruth_1
theorem dksX4_readTruth_0 : cX4_readTruth.data.toList.drop 0 = dktX4_readTruth_0 := by decide +kernel
theorem dksX4_readTruth_1 : cX4_readTruth.data.toList.drop 23 = dktX4_readTruth_1 := dk_seg dksX4_readTruth_0 23 rfl rfl
theorem dX4_readTruth_0 : decode cX4_readTruth 0 = .ok (.aload_n 0, 1) := dk_42 (dk_at dksX4_readTruth_0 0 rfl rfl)
theorem dX4_readTruth_1 : decode cX4_readTruth 1 = .ok (.iload_n 1, 1) := dk_27 (dk_at dksX4_readTruth_0 1 rfl rfl)
theorem dX4_readTruth_2 : decode cX4_readTruth 2 = .ok (.invokevirtual 179, 3) := dk_182 0 179 (dk_at dksX4_readTruth_0 2 rfl rfl)
theorem dX4_readTruth_5 : decode cX4_readTruth 5 = .ok (.aload_n 0, 1) := dk_42 (dk_at dksX4_readTruth_0 5 rfl rfl)
theorem dX4_readTruth_6 : decode cX4_readTruth 6 = .ok (.bipush 19, 2) := dk_16 19 (dk_at dksX4_readTruth_0 6 rfl rfl)
theorem dX4_readTruth_8 : decode cX4_readTruth 8 = .ok (.invokevirtual 161, 3) := dk_182 0 161 (dk_at dksX4_readTruth_0 8 rfl rfl)
theorem dX4_readTruth_11 : decode cX4_readTruth 11 = .ok (.ifCond .eq 18, 3) := dk_153 0 18 (dk_at dksX4_readTruth_0 11 rfl rfl)
theorem dX4_readTruth_14 : decode cX4_readTruth 14 = .ok (.aload_n 0, 1) := dk_42 (dk_at dksX4_readTruth_0 14 rfl rfl)
theorem dX4_readTruth_15 : decode cX4_readTruth 15 = .ok (.iload_n 1, 1) := dk_27 (dk_at dksX4_readTruth_0 15 rfl rfl)
theorem dX4_readTruth_16 : decode cX4_readTruth 16 = .ok (.invokevirtual 179, 3) := dk_182 0 179 (dk_at dksX4_readTruth_0 16 rfl rfl)
theorem dX4_readTruth_19 : decode cX4_readTruth 19 = .ok (.aload_n 0, 1) := dk_42 (dk_at dksX4_readTruth_0 19 rfl rfl)
theorem dX4_readTruth_20 : decode cX4_readTruth 20 = .ok (.sipush 3008, 3) := dk_17 11 192 (dk_at dksX4_readTruth_0 20 rfl rfl)
theorem dX4_readTruth_23 : decode cX4_readTruth 23 = .ok (.invokevirtual 149, 3) := dk_182 0 149 (dk_at dksX4_readTruth_1 0 rfl rfl)
theorem dX4_readTruth_26 : decode cX4_readTruth 26 = .ok (.goto (-21), 3) := dk_167 255 235 (dk_at dksX4_readTruth_1 3 rfl rfl)
theorem dX4_readTruth_29 : decode cX4_readTruth 29 = .ok (.return_, 1) := dk_177 (dk_at dksX4_readTruth_1 6 rfl rfl)
abbrev cX4_readBoth : ByteArray := prog_16_method_24_code
def yX4_readBoth : MethodName := ⟨RX4, "readBoth", "(I)V"⟩
def dkwX4_readBoth_1 : List UInt8 := [182, 0, 149, 167, 255, 235, 177]
abbrev dktX4_readBoth_1 : List UInt8 := dkwX4_readBoth_1 ++ []
def dkwX4_readBoth_0 : List UInt8 := [42, 27, 182, 0, 176, 42, 16, 18, 182, 0, 161, 153, 0, 18, 42, 27, 182, 0, 176, 42, 17, 11, 191]
abbrev dktX4_readBoth_0 : List UInt8 := dkwX4_readBoth_0 ++ dktX4_readBoth_1
theorem dksX4_readBoth_0 : cX4_readBoth.data.toList.drop 0 = dktX4_readBoth_0 := by decide +kernel
theorem dksX4_readBoth_1 : cX4_readBoth.data.toList.drop 23 = dktX4_readBoth_1 := dk_seg dksX4_readBoth_0 23 rfl rfl
theorem dX4_readBoth_0 : decode cX4_readBoth 0 = .ok (.aload_n 0, 1) := dk_42 (dk_at dksX4_readBoth_0 0 rfl rfl)
theorem dX4_readBoth_1 : decode cX4_readBoth 1 = .ok (.iload_n 1, 1) := dk_27 (dk_at dksX4_readBoth_0 1 rfl rfl)
theorem dX4_readBoth_2 : decode cX4_readBoth 2 = .ok (.invokevirtual 176, 3) := dk_182 0 176 (dk_at dksX4_readBoth_0 2 rfl rfl)
theorem dX4_readBoth_5 : decode cX4_readBoth 5 = .ok (.aload_n 0, 1) := dk_42 (dk_at dksX4_readBoth_0 5 rfl rfl)
theorem dX4_readBoth_6 : decode cX4_readBoth 6 = .ok (.bipush 18, 2) := dk_16 18 (dk_at dksX4_readBoth_0 6 rfl rfl)
theorem dX4_readBoth_8 : decode cX4_readBoth 8 = .ok (.invokevirtual 161, 3) := dk_182 0 161 (dk_at dksX4_readBoth_0 8 rfl rfl)
theorem dX4_readBoth_11 : decode cX4_readBoth 11 = .ok (.ifCond .eq 18, 3) := dk_153 0 18 (dk_at dksX4_readBoth_0 11 rfl rfl)
theorem dX4_readBoth_14 : decode cX4_readBoth 14 = .ok (.aload_n 0, 1) := dk_42 (dk_at dksX4_readBoth_0 14 rfl rfl)
theorem dX4_readBoth_15 : decode cX4_readBoth 15 = .ok (.iload_n 1, 1) := dk_27 (dk_at dksX4_readBoth_0 15 rfl rfl)
theorem dX4_readBoth_16 : decode cX4_readBoth 16 = .ok (.invokevirtual 176, 3) := dk_182 0 176 (dk_at dksX4_readBoth_0 16 rfl rfl)
theorem dX4_readBoth_19 : decode cX4_readBoth 19 = .ok (.aload_n 0, 1) := dk_42 (dk_at dksX4_readBoth_0 19 rfl rfl)
theorem dX4_readBoth_20 : decode cX4_readBoth 20 = .ok (.sipush 3007, 3) := dk_17 11 191 (dk_at dksX4_readBoth_0 20 rfl rfl)
theorem dX4_readBoth_23 : decode cX4_readBoth 23 = .ok (.invokevirtual 149, 3) := dk_182 0 149 (dk_at dksX4_readBoth_1 0 rfl rfl)
theorem dX4_readBoth_26 : decode cX4_readBoth 26 = .ok (.goto (-21), 3) := dk_167 255 235 (dk_at dksX4_readBoth_1 3 rfl rfl)
theorem dX4_readBoth_29 : decode cX4_readBoth 29 = .ok (.return_, 1) := dk_177 (dk_at dksX4_readBoth_1 6 rfl rfl)
abbrev cX4_readUnit : ByteArray := prog_16_method_23_code
def yX4_readUnit : MethodName := ⟨RX4, "readUnit", "(I)V"⟩
def dkwX4_readUnit_7 : List UInt8 := [182, 0, 149, 177]
abbrev dktX4_readUnit_7 : List UInt8 := dkwX4_readUnit_7 ++ []
def dkwX4_readUnit_6 : List UInt8 := [153, 0, 10, 42, 182, 0, 135, 167, 0, 8, 42, 5, 182, 0, 138, 42, 27, 182, 0, 158, 42, 28]
abbrev dktX4_readUnit_6 : List UInt8 := dkwX4_readUnit_6 ++ dktX4_readUnit_7
def dkwX4_readUnit_5 : List UInt8 := [16, 39, 182, 0, 132, 154, 0, 21, 42, 16, 40, 182, 0, 132, 154, 0, 12, 42, 16, 41, 182, 0, 132]
abbrev dktX4_readUnit_5 : List UInt8 := dkwX4_readUnit_5 ++ dktX4_readUnit_6
def dkwX4_readUnit_4 : List UInt8 := [167, 0, 21, 42, 16, 40, 182, 0, 132, 153, 0, 9, 17, 11, 188, 167, 0, 6, 17, 11, 189, 61, 42]
abbrev dktX4_readUnit_4 : List UInt8 := dkwX4_readUnit_4 ++ dktX4_readUnit_5
def dkwX4_readUnit_3 : List UInt8 := [5, 182, 0, 138, 177, 42, 27, 182, 0, 158, 42, 16, 39, 182, 0, 132, 153, 0, 9, 17, 11, 187]
abbrev dktX4_readUnit_3 : List UInt8 := dkwX4_readUnit_3 ++ dktX4_readUnit_4
def dkwX4_readUnit_2 : List UInt8 := [182, 0, 155, 154, 0, 4, 177, 42, 27, 4, 96, 182, 0, 167, 42, 16, 38, 182, 0, 161, 154, 0, 8, 42]
abbrev dktX4_readUnit_2 : List UInt8 := dkwX4_readUnit_2 ++ dktX4_readUnit_3
def dkwX4_readUnit_1 : List UInt8 := [182, 0, 176, 42, 17, 11, 190, 182, 0, 149, 177, 42, 16, 37, 182, 0, 132, 153, 0, 34, 42, 27]
abbrev dktX4_readUnit_1 : List UInt8 := dkwX4_readUnit_1 ++ dktX4_readUnit_2
def dkwX4_readUnit_0 : List UInt8 := [42, 16, 20, 182, 0, 132, 153, 0, 27, 42, 27, 182, 0, 155, 154, 0, 4, 177, 42, 27, 4, 96]
abbrev dktX4_readUnit_0 : List UInt8 := dkwX4_readUnit_0 ++ dktX4_readUnit_1
theorem dksX4_readUnit_0 : cX4_readUnit.data.toList.drop 0 = dktX4_readUnit_0 := by decide +kernel
theorem dksX4_readUnit_1 : cX4_readUnit.data.toList.drop 22 = dktX4_readUnit_1 := dk_seg dksX4_readUnit_0 22 rfl rfl
theorem dksX4_readUnit_2 : cX4_readUnit.data.toList.drop 44 = dktX4_readUnit_2 := dk_seg dksX4_readUnit_1 22 rfl rfl
theorem dksX4_readUnit_3 : cX4_readUnit.data.toList.drop 68 = dktX4_readUnit_3 := dk_seg dksX4_readUnit_2 24 rfl rfl
theorem dksX4_readUnit_4 : cX4_readUnit.data.toList.drop 90 = dktX4_readUnit_4 := dk_seg dksX4_readUnit_3 22 rfl rfl
theorem dksX4_readUnit_5 : cX4_readUnit.data.toList.drop 113 = dktX4_readUnit_5 := dk_seg dksX4_readUnit_4 23 rfl rfl
theorem dksX4_readUnit_6 : cX4_readUnit.data.toList.drop 136 = dktX4_readUnit_6 := dk_seg dksX4_readUnit_5 23 rfl rfl
theorem dksX4_readUnit_7 : cX4_readUnit.data.toList.drop 158 = dktX4_readUnit_7 := dk_seg dksX4_readUnit_6 22 rfl rfl
theorem dX4_readUnit_0 : decode cX4_readUnit 0 = .ok (.aload_n 0, 1) := dk_42 (dk_at dksX4_readUnit_0 0 rfl rfl)
theorem dX4_readUnit_1 : decode cX4_readUnit 1 = .ok (.bipush 20, 2) := dk_16 20 (dk_at dksX4_readUnit_0 1 rfl rfl)
theorem dX4_readUnit_3 : decode cX4_readUnit 3 = .ok (.invokevirtual 132, 3) := dk_182 0 132 (dk_at dksX4_readUnit_0 3 rfl rfl)
theorem dX4_readUnit_6 : decode cX4_readUnit 6 = .ok (.ifCond .eq 27, 3) := dk_153 0 27 (dk_at dksX4_readUnit_0 6 rfl rfl)
theorem dX4_readUnit_9 : decode cX4_readUnit 9 = .ok (.aload_n 0, 1) := dk_42 (dk_at dksX4_readUnit_0 9 rfl rfl)
theorem dX4_readUnit_10 : decode cX4_readUnit 10 = .ok (.iload_n 1, 1) := dk_27 (dk_at dksX4_readUnit_0 10 rfl rfl)
theorem dX4_readUnit_11 : decode cX4_readUnit 11 = .ok (.invokevirtual 155, 3) := dk_182 0 155 (dk_at dksX4_readUnit_0 11 rfl rfl)
theorem dX4_readUnit_14 : decode cX4_readUnit 14 = .ok (.ifCond .ne 4, 3) := dk_154 0 4 (dk_at dksX4_readUnit_0 14 rfl rfl)
theorem dX4_readUnit_17 : decode cX4_readUnit 17 = .ok (.return_, 1) := dk_177 (dk_at dksX4_readUnit_0 17 rfl rfl)
theorem dX4_readUnit_18 : decode cX4_readUnit 18 = .ok (.aload_n 0, 1) := dk_42 (dk_at dksX4_readUnit_0 18 rfl rfl)
theorem dX4_readUnit_19 : decode cX4_readUnit 19 = .ok (.iload_n 1, 1) := dk_27 (dk_at dksX4_readUnit_0 19 rfl rfl)
theorem dX4_readUnit_20 : decode cX4_readUnit 20 = .ok (.iconst 1, 1) := dk_4 (dk_at dksX4_readUnit_0 20 rfl rfl)
theorem dX4_readUnit_21 : decode cX4_readUnit 21 = .ok (.iadd, 1) := dk_96 (dk_at dksX4_readUnit_0 21 rfl rfl)
theorem dX4_readUnit_22 : decode cX4_readUnit 22 = .ok (.invokevirtual 176, 3) := dk_182 0 176 (dk_at dksX4_readUnit_1 0 rfl rfl)
theorem dX4_readUnit_25 : decode cX4_readUnit 25 = .ok (.aload_n 0, 1) := dk_42 (dk_at dksX4_readUnit_1 3 rfl rfl)
theorem dX4_readUnit_26 : decode cX4_readUnit 26 = .ok (.sipush 3006, 3) := dk_17 11 190 (dk_at dksX4_readUnit_1 4 rfl rfl)
theorem dX4_readUnit_29 : decode cX4_readUnit 29 = .ok (.invokevirtual 149, 3) := dk_182 0 149 (dk_at dksX4_readUnit_1 7 rfl rfl)
theorem dX4_readUnit_32 : decode cX4_readUnit 32 = .ok (.return_, 1) := dk_177 (dk_at dksX4_readUnit_1 10 rfl rfl)
theorem dX4_readUnit_33 : decode cX4_readUnit 33 = .ok (.aload_n 0, 1) := dk_42 (dk_at dksX4_readUnit_1 11 rfl rfl)
theorem dX4_readUnit_34 : decode cX4_readUnit 34 = .ok (.bipush 37, 2) := dk_16 37 (dk_at dksX4_readUnit_1 12 rfl rfl)
theorem dX4_readUnit_36 : decode cX4_readUnit 36 = .ok (.invokevirtual 132, 3) := dk_182 0 132 (dk_at dksX4_readUnit_1 14 rfl rfl)
theorem dX4_readUnit_39 : decode cX4_readUnit 39 = .ok (.ifCond .eq 34, 3) := dk_153 0 34 (dk_at dksX4_readUnit_1 17 rfl rfl)
theorem dX4_readUnit_42 : decode cX4_readUnit 42 = .ok (.aload_n 0, 1) := dk_42 (dk_at dksX4_readUnit_1 20 rfl rfl)
theorem dX4_readUnit_43 : decode cX4_readUnit 43 = .ok (.iload_n 1, 1) := dk_27 (dk_at dksX4_readUnit_1 21 rfl rfl)
theorem dX4_readUnit_44 : decode cX4_readUnit 44 = .ok (.invokevirtual 155, 3) := dk_182 0 155 (dk_at dksX4_readUnit_2 0 rfl rfl)
theorem dX4_readUnit_47 : decode cX4_readUnit 47 = .ok (.ifCond .ne 4, 3) := dk_154 0 4 (dk_at dksX4_readUnit_2 3 rfl rfl)
theorem dX4_readUnit_50 : decode cX4_readUnit 50 = .ok (.return_, 1) := dk_177 (dk_at dksX4_readUnit_2 6 rfl rfl)
theorem dX4_readUnit_51 : decode cX4_readUnit 51 = .ok (.aload_n 0, 1) := dk_42 (dk_at dksX4_readUnit_2 7 rfl rfl)
theorem dX4_readUnit_52 : decode cX4_readUnit 52 = .ok (.iload_n 1, 1) := dk_27 (dk_at dksX4_readUnit_2 8 rfl rfl)
theorem dX4_readUnit_53 : decode cX4_readUnit 53 = .ok (.iconst 1, 1) := dk_4 (dk_at dksX4_readUnit_2 9 rfl rfl)
theorem dX4_readUnit_54 : decode cX4_readUnit 54 = .ok (.iadd, 1) := dk_96 (dk_at dksX4_readUnit_2 10 rfl rfl)
theorem dX4_readUnit_55 : decode cX4_readUnit 55 = .ok (.invokevirtual 167, 3) := dk_182 0 167 (dk_at dksX4_readUnit_2 11 rfl rfl)
theorem dX4_readUnit_58 : decode cX4_readUnit 58 = .ok (.aload_n 0, 1) := dk_42 (dk_at dksX4_readUnit_2 14 rfl rfl)
theorem dX4_readUnit_59 : decode cX4_readUnit 59 = .ok (.bipush 38, 2) := dk_16 38 (dk_at dksX4_readUnit_2 15 rfl rfl)
theorem dX4_readUnit_61 : decode cX4_readUnit 61 = .ok (.invokevirtual 161, 3) := dk_182 0 161 (dk_at dksX4_readUnit_2 17 rfl rfl)
theorem dX4_readUnit_64 : decode cX4_readUnit 64 = .ok (.ifCond .ne 8, 3) := dk_154 0 8 (dk_at dksX4_readUnit_2 20 rfl rfl)
theorem dX4_readUnit_67 : decode cX4_readUnit 67 = .ok (.aload_n 0, 1) := dk_42 (dk_at dksX4_readUnit_2 23 rfl rfl)
theorem dX4_readUnit_68 : decode cX4_readUnit 68 = .ok (.iconst 2, 1) := dk_5 (dk_at dksX4_readUnit_3 0 rfl rfl)
theorem dX4_readUnit_69 : decode cX4_readUnit 69 = .ok (.invokevirtual 138, 3) := dk_182 0 138 (dk_at dksX4_readUnit_3 1 rfl rfl)
theorem dX4_readUnit_72 : decode cX4_readUnit 72 = .ok (.return_, 1) := dk_177 (dk_at dksX4_readUnit_3 4 rfl rfl)
theorem dX4_readUnit_73 : decode cX4_readUnit 73 = .ok (.aload_n 0, 1) := dk_42 (dk_at dksX4_readUnit_3 5 rfl rfl)
theorem dX4_readUnit_74 : decode cX4_readUnit 74 = .ok (.iload_n 1, 1) := dk_27 (dk_at dksX4_readUnit_3 6 rfl rfl)
theorem dX4_readUnit_75 : decode cX4_readUnit 75 = .ok (.invokevirtual 158, 3) := dk_182 0 158 (dk_at dksX4_readUnit_3 7 rfl rfl)
theorem dX4_readUnit_78 : decode cX4_readUnit 78 = .ok (.aload_n 0, 1) := dk_42 (dk_at dksX4_readUnit_3 10 rfl rfl)
theorem dX4_readUnit_79 : decode cX4_readUnit 79 = .ok (.bipush 39, 2) := dk_16 39 (dk_at dksX4_readUnit_3 11 rfl rfl)
theorem dX4_readUnit_81 : decode cX4_readUnit 81 = .ok (.invokevirtual 132, 3) := dk_182 0 132 (dk_at dksX4_readUnit_3 13 rfl rfl)
theorem dX4_readUnit_84 : decode cX4_readUnit 84 = .ok (.ifCond .eq 9, 3) := dk_153 0 9 (dk_at dksX4_readUnit_3 16 rfl rfl)
theorem dX4_readUnit_87 : decode cX4_readUnit 87 = .ok (.sipush 3003, 3) := dk_17 11 187 (dk_at dksX4_readUnit_3 19 rfl rfl)
theorem dX4_readUnit_90 : decode cX4_readUnit 90 = .ok (.goto 21, 3) := dk_167 0 21 (dk_at dksX4_readUnit_4 0 rfl rfl)
theorem dX4_readUnit_93 : decode cX4_readUnit 93 = .ok (.aload_n 0, 1) := dk_42 (dk_at dksX4_readUnit_4 3 rfl rfl)
theorem dX4_readUnit_94 : decode cX4_readUnit 94 = .ok (.bipush 40, 2) := dk_16 40 (dk_at dksX4_readUnit_4 4 rfl rfl)
theorem dX4_readUnit_96 : decode cX4_readUnit 96 = .ok (.invokevirtual 132, 3) := dk_182 0 132 (dk_at dksX4_readUnit_4 6 rfl rfl)
theorem dX4_readUnit_99 : decode cX4_readUnit 99 = .ok (.ifCond .eq 9, 3) := dk_153 0 9 (dk_at dksX4_readUnit_4 9 rfl rfl)
theorem dX4_readUnit_102 : decode cX4_readUnit 102 = .ok (.sipush 3004, 3) := dk_17 11 188 (dk_at dksX4_readUnit_4 12 rfl rfl)
theorem dX4_readUnit_105 : decode cX4_readUnit 105 = .ok (.goto 6, 3) := dk_167 0 6 (dk_at dksX4_readUnit_4 15 rfl rfl)
theorem dX4_readUnit_108 : decode cX4_readUnit 108 = .ok (.sipush 3005, 3) := dk_17 11 189 (dk_at dksX4_readUnit_4 18 rfl rfl)
theorem dX4_readUnit_111 : decode cX4_readUnit 111 = .ok (.istore_n 2, 1) := dk_61 (dk_at dksX4_readUnit_4 21 rfl rfl)
theorem dX4_readUnit_112 : decode cX4_readUnit 112 = .ok (.aload_n 0, 1) := dk_42 (dk_at dksX4_readUnit_4 22 rfl rfl)
theorem dX4_readUnit_113 : decode cX4_readUnit 113 = .ok (.bipush 39, 2) := dk_16 39 (dk_at dksX4_readUnit_5 0 rfl rfl)
theorem dX4_readUnit_115 : decode cX4_readUnit 115 = .ok (.invokevirtual 132, 3) := dk_182 0 132 (dk_at dksX4_readUnit_5 2 rfl rfl)
theorem dX4_readUnit_118 : decode cX4_readUnit 118 = .ok (.ifCond .ne 21, 3) := dk_154 0 21 (dk_at dksX4_readUnit_5 5 rfl rfl)
theorem dX4_readUnit_121 : decode cX4_readUnit 121 = .ok (.aload_n 0, 1) := dk_42 (dk_at dksX4_readUnit_5 8 rfl rfl)
theorem dX4_readUnit_122 : decode cX4_readUnit 122 = .ok (.bipush 40, 2) := dk_16 40 (dk_at dksX4_readUnit_5 9 rfl rfl)
theorem dX4_readUnit_124 : decode cX4_readUnit 124 = .ok (.invokevirtual 132, 3) := dk_182 0 132 (dk_at dksX4_readUnit_5 11 rfl rfl)
theorem dX4_readUnit_127 : decode cX4_readUnit 127 = .ok (.ifCond .ne 12, 3) := dk_154 0 12 (dk_at dksX4_readUnit_5 14 rfl rfl)
theorem dX4_readUnit_130 : decode cX4_readUnit 130 = .ok (.aload_n 0, 1) := dk_42 (dk_at dksX4_readUnit_5 17 rfl rfl)
theorem dX4_readUnit_131 : decode cX4_readUnit 131 = .ok (.bipush 41, 2) := dk_16 41 (dk_at dksX4_readUnit_5 18 rfl rfl)
theorem dX4_readUnit_133 : decode cX4_readUnit 133 = .ok (.invokevirtual 132, 3) := dk_182 0 132 (dk_at dksX4_readUnit_5 20 rfl rfl)
theorem dX4_readUnit_136 : decode cX4_readUnit 136 = .ok (.ifCond .eq 10, 3) := dk_153 0 10 (dk_at dksX4_readUnit_6 0 rfl rfl)
theorem dX4_readUnit_139 : decode cX4_readUnit 139 = .ok (.aload_n 0, 1) := dk_42 (dk_at dksX4_readUnit_6 3 rfl rfl)
theorem dX4_readUnit_140 : decode cX4_readUnit 140 = .ok (.invokevirtual 135, 3) := dk_182 0 135 (dk_at dksX4_readUnit_6 4 rfl rfl)
theorem dX4_readUnit_143 : decode cX4_readUnit 143 = .ok (.goto 8, 3) := dk_167 0 8 (dk_at dksX4_readUnit_6 7 rfl rfl)
theorem dX4_readUnit_146 : decode cX4_readUnit 146 = .ok (.aload_n 0, 1) := dk_42 (dk_at dksX4_readUnit_6 10 rfl rfl)
theorem dX4_readUnit_147 : decode cX4_readUnit 147 = .ok (.iconst 2, 1) := dk_5 (dk_at dksX4_readUnit_6 11 rfl rfl)
theorem dX4_readUnit_148 : decode cX4_readUnit 148 = .ok (.invokevirtual 138, 3) := dk_182 0 138 (dk_at dksX4_readUnit_6 12 rfl rfl)
theorem dX4_readUnit_151 : decode cX4_readUnit 151 = .ok (.aload_n 0, 1) := dk_42 (dk_at dksX4_readUnit_6 15 rfl rfl)
theorem dX4_readUnit_152 : decode cX4_readUnit 152 = .ok (.iload_n 1, 1) := dk_27 (dk_at dksX4_readUnit_6 16 rfl rfl)
theorem dX4_readUnit_153 : decode cX4_readUnit 153 = .ok (.invokevirtual 158, 3) := dk_182 0 158 (dk_at dksX4_readUnit_6 17 rfl rfl)
theorem dX4_readUnit_156 : decode cX4_readUnit 156 = .ok (.aload_n 0, 1) := dk_42 (dk_at dksX4_readUnit_6 20 rfl rfl)
theorem dX4_readUnit_157 : decode cX4_readUnit 157 = .ok (.iload_n 2, 1) := dk_28 (dk_at dksX4_readUnit_6 21 rfl rfl)
theorem dX4_readUnit_158 : decode cX4_readUnit 158 = .ok (.invokevirtual 149, 3) := dk_182 0 149 (dk_at dksX4_readUnit_7 0 rfl rfl)
theorem dX4_readUnit_161 : decode cX4_readUnit 161 = .ok (.return_, 1) := dk_177 (dk_at dksX4_readUnit_7 3 rfl rfl)
abbrev cX4_fault : ByteArray := prog_16_method_33_code
def yX4_fault : MethodName := ⟨RX4, "fault", "(I)I"⟩
def dkwX4_fault_1 : List UInt8 := [180, 0, 27, 167, 0, 4, 2, 172]
abbrev dktX4_fault_1 : List UInt8 := dkwX4_fault_1 ++ []
def dkwX4_fault_0 : List UInt8 := [42, 3, 181, 0, 1, 27, 154, 0, 10, 42, 180, 0, 204, 167, 0, 16, 27, 4, 160, 0, 10, 42]
abbrev dktX4_fault_0 : List UInt8 := dkwX4_fault_0 ++ dktX4_fault_1
theorem dksX4_fault_0 : cX4_fault.data.toList.drop 0 = dktX4_fault_0 := by decide +kernel
theorem dksX4_fault_1 : cX4_fault.data.toList.drop 22 = dktX4_fault_1 := dk_seg dksX4_fault_0 22 rfl rfl
theorem dX4_fault_0 : decode cX4_fault 0 = .ok (.aload_n 0, 1) := dk_42 (dk_at dksX4_fault_0 0 rfl rfl)
theorem dX4_fault_1 : decode cX4_fault 1 = .ok (.iconst 0, 1) := dk_3 (dk_at dksX4_fault_0 1 rfl rfl)
theorem dX4_fault_2 : decode cX4_fault 2 = .ok (.putfield 1, 3) := dk_181 0 1 (dk_at dksX4_fault_0 2 rfl rfl)
theorem dX4_fault_5 : decode cX4_fault 5 = .ok (.iload_n 1, 1) := dk_27 (dk_at dksX4_fault_0 5 rfl rfl)
theorem dX4_fault_6 : decode cX4_fault 6 = .ok (.ifCond .ne 10, 3) := dk_154 0 10 (dk_at dksX4_fault_0 6 rfl rfl)
theorem dX4_fault_9 : decode cX4_fault 9 = .ok (.aload_n 0, 1) := dk_42 (dk_at dksX4_fault_0 9 rfl rfl)
theorem dX4_fault_10 : decode cX4_fault 10 = .ok (.getfield 204, 3) := dk_180 0 204 (dk_at dksX4_fault_0 10 rfl rfl)
theorem dX4_fault_13 : decode cX4_fault 13 = .ok (.goto 16, 3) := dk_167 0 16 (dk_at dksX4_fault_0 13 rfl rfl)
theorem dX4_fault_16 : decode cX4_fault 16 = .ok (.iload_n 1, 1) := dk_27 (dk_at dksX4_fault_0 16 rfl rfl)
theorem dX4_fault_17 : decode cX4_fault 17 = .ok (.iconst 1, 1) := dk_4 (dk_at dksX4_fault_0 17 rfl rfl)
theorem dX4_fault_18 : decode cX4_fault 18 = .ok (.if_icmp .ne 10, 3) := dk_160 0 10 (dk_at dksX4_fault_0 18 rfl rfl)
theorem dX4_fault_21 : decode cX4_fault 21 = .ok (.aload_n 0, 1) := dk_42 (dk_at dksX4_fault_0 21 rfl rfl)
theorem dX4_fault_22 : decode cX4_fault 22 = .ok (.getfield 27, 3) := dk_180 0 27 (dk_at dksX4_fault_1 0 rfl rfl)
theorem dX4_fault_25 : decode cX4_fault 25 = .ok (.goto 4, 3) := dk_167 0 4 (dk_at dksX4_fault_1 3 rfl rfl)
theorem dX4_fault_28 : decode cX4_fault 28 = .ok (.iconst (-1), 1) := dk_2 (dk_at dksX4_fault_1 6 rfl rfl)
theorem dX4_fault_29 : decode cX4_fault 29 = .ok (.ireturn, 1) := dk_172 (dk_at dksX4_fault_1 7 rfl rfl)
abbrev cX4_passage : ByteArray := prog_16_method_46_code
def yX4_passage : MethodName := ⟨RX4, "passage", "(II)I"⟩
def dkwX4_passage_4 : List UInt8 := [122, 4, 126, 172, 16, 254, 172]
abbrev dktX4_passage_4 : List UInt8 := dkwX4_passage_4 ++ []
def dkwX4_passage_3 : List UInt8 := [16, 26, 27, 96, 46, 172, 42, 180, 0, 13, 16, 34, 27, 96, 46, 172, 42, 180, 0, 13, 16, 44, 46, 27]
abbrev dktX4_passage_3 : List UInt8 := dkwX4_passage_3 ++ dktX4_passage_4
def dkwX4_passage_2 : List UInt8 := [42, 180, 0, 13, 16, 10, 27, 96, 46, 172, 42, 180, 0, 13, 16, 18, 27, 96, 46, 172, 42, 180, 0, 13]
abbrev dktX4_passage_2 : List UInt8 := dkwX4_passage_2 ++ dktX4_passage_3
def dkwX4_passage_1 : List UInt8 := [170, 0, 0, 0, 0, 86, 0, 0, 0, 0, 0, 0, 0, 4, 0, 0, 0, 34, 0, 0, 0, 44, 0, 0, 0, 54, 0, 0, 0, 64, 0, 0, 0, 74]
abbrev dktX4_passage_1 : List UInt8 := dkwX4_passage_1 ++ dktX4_passage_2
def dkwX4_passage_0 : List UInt8 := [42, 3, 181, 0, 1, 42, 27, 133, 182, 0, 228, 154, 0, 6, 16, 254, 172, 28]
abbrev dktX4_passage_0 : List UInt8 := dkwX4_passage_0 ++ dktX4_passage_1
theorem dksX4_passage_0 : cX4_passage.data.toList.drop 0 = dktX4_passage_0 := by decide +kernel
theorem dksX4_passage_1 : cX4_passage.data.toList.drop 18 = dktX4_passage_1 := dk_seg dksX4_passage_0 18 rfl rfl
theorem dksX4_passage_2 : cX4_passage.data.toList.drop 52 = dktX4_passage_2 := dk_seg dksX4_passage_1 34 rfl rfl
theorem dksX4_passage_3 : cX4_passage.data.toList.drop 76 = dktX4_passage_3 := dk_seg dksX4_passage_2 24 rfl rfl
theorem dksX4_passage_4 : cX4_passage.data.toList.drop 100 = dktX4_passage_4 := dk_seg dksX4_passage_3 24 rfl rfl
theorem dX4_passage_0 : decode cX4_passage 0 = .ok (.aload_n 0, 1) := dk_42 (dk_at dksX4_passage_0 0 rfl rfl)
theorem dX4_passage_1 : decode cX4_passage 1 = .ok (.iconst 0, 1) := dk_3 (dk_at dksX4_passage_0 1 rfl rfl)
theorem dX4_passage_2 : decode cX4_passage 2 = .ok (.putfield 1, 3) := dk_181 0 1 (dk_at dksX4_passage_0 2 rfl rfl)
theorem dX4_passage_5 : decode cX4_passage 5 = .ok (.aload_n 0, 1) := dk_42 (dk_at dksX4_passage_0 5 rfl rfl)
theorem dX4_passage_6 : decode cX4_passage 6 = .ok (.iload_n 1, 1) := dk_27 (dk_at dksX4_passage_0 6 rfl rfl)
theorem dX4_passage_7 : decode cX4_passage 7 = .ok (.i2l, 1) := dk_133 (dk_at dksX4_passage_0 7 rfl rfl)
theorem dX4_passage_8 : decode cX4_passage 8 = .ok (.invokevirtual 228, 3) := dk_182 0 228 (dk_at dksX4_passage_0 8 rfl rfl)
theorem dX4_passage_11 : decode cX4_passage 11 = .ok (.ifCond .ne 6, 3) := dk_154 0 6 (dk_at dksX4_passage_0 11 rfl rfl)
theorem dX4_passage_14 : decode cX4_passage 14 = .ok (.bipush (-2), 2) := dk_16 254 (dk_at dksX4_passage_0 14 rfl rfl)
theorem dX4_passage_16 : decode cX4_passage 16 = .ok (.ireturn, 1) := dk_172 (dk_at dksX4_passage_0 16 rfl rfl)
theorem dX4_passage_17 : decode cX4_passage 17 = .ok (.iload_n 2, 1) := dk_28 (dk_at dksX4_passage_0 17 rfl rfl)
theorem dX4_passage_18 : decode cX4_passage 18 = .ok (.tableswitch 86 0 4 #[34, 44, 54, 64, 74], 34) := by decide +kernel
theorem dX4_passage_52 : decode cX4_passage 52 = .ok (.aload_n 0, 1) := dk_42 (dk_at dksX4_passage_2 0 rfl rfl)
theorem dX4_passage_53 : decode cX4_passage 53 = .ok (.getfield 13, 3) := dk_180 0 13 (dk_at dksX4_passage_2 1 rfl rfl)
theorem dX4_passage_56 : decode cX4_passage 56 = .ok (.bipush 10, 2) := dk_16 10 (dk_at dksX4_passage_2 4 rfl rfl)
theorem dX4_passage_58 : decode cX4_passage 58 = .ok (.iload_n 1, 1) := dk_27 (dk_at dksX4_passage_2 6 rfl rfl)
theorem dX4_passage_59 : decode cX4_passage 59 = .ok (.iadd, 1) := dk_96 (dk_at dksX4_passage_2 7 rfl rfl)
theorem dX4_passage_60 : decode cX4_passage 60 = .ok (.iaload, 1) := dk_46 (dk_at dksX4_passage_2 8 rfl rfl)
theorem dX4_passage_61 : decode cX4_passage 61 = .ok (.ireturn, 1) := dk_172 (dk_at dksX4_passage_2 9 rfl rfl)
theorem dX4_passage_62 : decode cX4_passage 62 = .ok (.aload_n 0, 1) := dk_42 (dk_at dksX4_passage_2 10 rfl rfl)
theorem dX4_passage_63 : decode cX4_passage 63 = .ok (.getfield 13, 3) := dk_180 0 13 (dk_at dksX4_passage_2 11 rfl rfl)
theorem dX4_passage_66 : decode cX4_passage 66 = .ok (.bipush 18, 2) := dk_16 18 (dk_at dksX4_passage_2 14 rfl rfl)
theorem dX4_passage_68 : decode cX4_passage 68 = .ok (.iload_n 1, 1) := dk_27 (dk_at dksX4_passage_2 16 rfl rfl)
theorem dX4_passage_69 : decode cX4_passage 69 = .ok (.iadd, 1) := dk_96 (dk_at dksX4_passage_2 17 rfl rfl)
theorem dX4_passage_70 : decode cX4_passage 70 = .ok (.iaload, 1) := dk_46 (dk_at dksX4_passage_2 18 rfl rfl)
theorem dX4_passage_71 : decode cX4_passage 71 = .ok (.ireturn, 1) := dk_172 (dk_at dksX4_passage_2 19 rfl rfl)
theorem dX4_passage_72 : decode cX4_passage 72 = .ok (.aload_n 0, 1) := dk_42 (dk_at dksX4_passage_2 20 rfl rfl)
theorem dX4_passage_73 : decode cX4_passage 73 = .ok (.getfield 13, 3) := dk_180 0 13 (dk_at dksX4_passage_2 21 rfl rfl)
theorem dX4_passage_76 : decode cX4_passage 76 = .ok (.bipush 26, 2) := dk_16 26 (dk_at dksX4_passage_3 0 rfl rfl)
theorem dX4_passage_78 : decode cX4_passage 78 = .ok (.iload_n 1, 1) := dk_27 (dk_at dksX4_passage_3 2 rfl rfl)
theorem dX4_passage_79 : decode cX4_passage 79 = .ok (.iadd, 1) := dk_96 (dk_at dksX4_passage_3 3 rfl rfl)
theorem dX4_passage_80 : decode cX4_passage 80 = .ok (.iaload, 1) := dk_46 (dk_at dksX4_passage_3 4 rfl rfl)
theorem dX4_passage_81 : decode cX4_passage 81 = .ok (.ireturn, 1) := dk_172 (dk_at dksX4_passage_3 5 rfl rfl)
theorem dX4_passage_82 : decode cX4_passage 82 = .ok (.aload_n 0, 1) := dk_42 (dk_at dksX4_passage_3 6 rfl rfl)
theorem dX4_passage_83 : decode cX4_passage 83 = .ok (.getfield 13, 3) := dk_180 0 13 (dk_at dksX4_passage_3 7 rfl rfl)
theorem dX4_passage_86 : decode cX4_passage 86 = .ok (.bipush 34, 2) := dk_16 34 (dk_at dksX4_passage_3 10 rfl rfl)
theorem dX4_passage_88 : decode cX4_passage 88 = .ok (.iload_n 1, 1) := dk_27 (dk_at dksX4_passage_3 12 rfl rfl)
theorem dX4_passage_89 : decode cX4_passage 89 = .ok (.iadd, 1) := dk_96 (dk_at dksX4_passage_3 13 rfl rfl)
theorem dX4_passage_90 : decode cX4_passage 90 = .ok (.iaload, 1) := dk_46 (dk_at dksX4_passage_3 14 rfl rfl)
theorem dX4_passage_91 : decode cX4_passage 91 = .ok (.ireturn, 1) := dk_172 (dk_at dksX4_passage_3 15 rfl rfl)
theorem dX4_passage_92 : decode cX4_passage 92 = .ok (.aload_n 0, 1) := dk_42 (dk_at dksX4_passage_3 16 rfl rfl)
theorem dX4_passage_93 : decode cX4_passage 93 = .ok (.getfield 13, 3) := dk_180 0 13 (dk_at dksX4_passage_3 17 rfl rfl)
theorem dX4_passage_96 : decode cX4_passage 96 = .ok (.bipush 44, 2) := dk_16 44 (dk_at dksX4_passage_3 20 rfl rfl)
theorem dX4_passage_98 : decode cX4_passage 98 = .ok (.iaload, 1) := dk_46 (dk_at dksX4_passage_3 22 rfl rfl)
theorem dX4_passage_99 : decode cX4_passage 99 = .ok (.iload_n 1, 1) := dk_27 (dk_at dksX4_passage_3 23 rfl rfl)
theorem dX4_passage_100 : decode cX4_passage 100 = .ok (.ishr, 1) := dk_122 (dk_at dksX4_passage_4 0 rfl rfl)
theorem dX4_passage_101 : decode cX4_passage 101 = .ok (.iconst 1, 1) := dk_4 (dk_at dksX4_passage_4 1 rfl rfl)
theorem dX4_passage_102 : decode cX4_passage 102 = .ok (.iand, 1) := dk_126 (dk_at dksX4_passage_4 2 rfl rfl)
theorem dX4_passage_103 : decode cX4_passage 103 = .ok (.ireturn, 1) := dk_172 (dk_at dksX4_passage_4 3 rfl rfl)
theorem dX4_passage_104 : decode cX4_passage 104 = .ok (.bipush (-2), 2) := dk_16 254 (dk_at dksX4_passage_4 4 rfl rfl)
theorem dX4_passage_106 : decode cX4_passage 106 = .ok (.ireturn, 1) := dk_172 (dk_at dksX4_passage_4 6 rfl rfl)
abbrev cX4_isPassage : ByteArray := prog_16_method_35_code
def yX4_isPassage : MethodName := ⟨RX4, "isPassage", "(J)Z"⟩
def dkwX4_isPassage_0 : List UInt8 := [31, 9, 42, 180, 0, 13, 5, 46, 4, 100, 133, 184, 0, 142, 172]
abbrev dktX4_isPassage_0 : List UInt8 := dkwX4_isPassage_0 ++ []
theorem dksX4_isPassage_0 : cX4_isPassage.data.toList.drop 0 = dktX4_isPassage_0 := by decide +kernel
theorem dX4_isPassage_0 : decode cX4_isPassage 0 = .ok (.lload_n 1, 1) := dk_31 (dk_at dksX4_isPassage_0 0 rfl rfl)
theorem dX4_isPassage_1 : decode cX4_isPassage 1 = .ok (.lconst 0, 1) := dk_9 (dk_at dksX4_isPassage_0 1 rfl rfl)
theorem dX4_isPassage_2 : decode cX4_isPassage 2 = .ok (.aload_n 0, 1) := dk_42 (dk_at dksX4_isPassage_0 2 rfl rfl)
theorem dX4_isPassage_3 : decode cX4_isPassage 3 = .ok (.getfield 13, 3) := dk_180 0 13 (dk_at dksX4_isPassage_0 3 rfl rfl)
theorem dX4_isPassage_6 : decode cX4_isPassage 6 = .ok (.iconst 2, 1) := dk_5 (dk_at dksX4_isPassage_0 6 rfl rfl)
theorem dX4_isPassage_7 : decode cX4_isPassage 7 = .ok (.iaload, 1) := dk_46 (dk_at dksX4_isPassage_0 7 rfl rfl)
theorem dX4_isPassage_8 : decode cX4_isPassage 8 = .ok (.iconst 1, 1) := dk_4 (dk_at dksX4_isPassage_0 8 rfl rfl)
theorem dX4_isPassage_9 : decode cX4_isPassage 9 = .ok (.isub, 1) := dk_100 (dk_at dksX4_isPassage_0 9 rfl rfl)
theorem dX4_isPassage_10 : decode cX4_isPassage 10 = .ok (.i2l, 1) := dk_133 (dk_at dksX4_isPassage_0 10 rfl rfl)
theorem dX4_isPassage_11 : decode cX4_isPassage 11 = .ok (.invokestatic 142, 3) := dk_184 0 142 (dk_at dksX4_isPassage_0 11 rfl rfl)
theorem dX4_isPassage_14 : decode cX4_isPassage 14 = .ok (.ireturn, 1) := dk_172 (dk_at dksX4_isPassage_0 14 rfl rfl)
abbrev cX4_why : ByteArray := prog_16_method_47_code
def yX4_why : MethodName := ⟨RX4, "why", "(I)I"⟩
def dkwX4_why_0 : List UInt8 := [42, 3, 181, 0, 1, 42, 27, 133, 182, 0, 242, 172]
abbrev dktX4_why_0 : List UInt8 := dkwX4_why_0 ++ []
theorem dksX4_why_0 : cX4_why.data.toList.drop 0 = dktX4_why_0 := by decide +kernel
theorem dX4_why_0 : decode cX4_why 0 = .ok (.aload_n 0, 1) := dk_42 (dk_at dksX4_why_0 0 rfl rfl)
theorem dX4_why_1 : decode cX4_why 1 = .ok (.iconst 0, 1) := dk_3 (dk_at dksX4_why_0 1 rfl rfl)
theorem dX4_why_2 : decode cX4_why 2 = .ok (.putfield 1, 3) := dk_181 0 1 (dk_at dksX4_why_0 2 rfl rfl)
theorem dX4_why_5 : decode cX4_why 5 = .ok (.aload_n 0, 1) := dk_42 (dk_at dksX4_why_0 5 rfl rfl)
theorem dX4_why_6 : decode cX4_why 6 = .ok (.iload_n 1, 1) := dk_27 (dk_at dksX4_why_0 6 rfl rfl)
theorem dX4_why_7 : decode cX4_why 7 = .ok (.i2l, 1) := dk_133 (dk_at dksX4_why_0 7 rfl rfl)
theorem dX4_why_8 : decode cX4_why 8 = .ok (.invokevirtual 242, 3) := dk_182 0 242 (dk_at dksX4_why_0 8 rfl rfl)
theorem dX4_why_11 : decode cX4_why 11 = .ok (.ireturn, 1) := dk_172 (dk_at dksX4_why_0 11 rfl rfl)
abbrev cX4_whyGo : ByteArray := prog_16_method_44_code
def yX4_whyGo : MethodName := ⟨RX4, "whyGo", "(J)I"⟩
def dkwX4_whyGo_1 : List UInt8 := [180, 0, 13, 16, 45, 46, 182, 0, 235, 167, 0, 4, 4, 172]
abbrev dktX4_whyGo_1 : List UInt8 := dkwX4_whyGo_1 ++ []
def dkwX4_whyGo_0 : List UInt8 := [42, 31, 182, 0, 228, 153, 0, 30, 42, 42, 182, 0, 232, 31, 136, 42, 180, 0, 13, 16, 44, 46, 42]
abbrev dktX4_whyGo_0 : List UInt8 := dkwX4_whyGo_0 ++ dktX4_whyGo_1
theorem dksX4_whyGo_0 : cX4_whyGo.data.toList.drop 0 = dktX4_whyGo_0 := by decide +kernel
theorem dksX4_whyGo_1 : cX4_whyGo.data.toList.drop 23 = dktX4_whyGo_1 := dk_seg dksX4_whyGo_0 23 rfl rfl
theorem dX4_whyGo_0 : decode cX4_whyGo 0 = .ok (.aload_n 0, 1) := dk_42 (dk_at dksX4_whyGo_0 0 rfl rfl)
theorem dX4_whyGo_1 : decode cX4_whyGo 1 = .ok (.lload_n 1, 1) := dk_31 (dk_at dksX4_whyGo_0 1 rfl rfl)
theorem dX4_whyGo_2 : decode cX4_whyGo 2 = .ok (.invokevirtual 228, 3) := dk_182 0 228 (dk_at dksX4_whyGo_0 2 rfl rfl)
theorem dX4_whyGo_5 : decode cX4_whyGo 5 = .ok (.ifCond .eq 30, 3) := dk_153 0 30 (dk_at dksX4_whyGo_0 5 rfl rfl)
theorem dX4_whyGo_8 : decode cX4_whyGo 8 = .ok (.aload_n 0, 1) := dk_42 (dk_at dksX4_whyGo_0 8 rfl rfl)
theorem dX4_whyGo_9 : decode cX4_whyGo 9 = .ok (.aload_n 0, 1) := dk_42 (dk_at dksX4_whyGo_0 9 rfl rfl)
theorem dX4_whyGo_10 : decode cX4_whyGo 10 = .ok (.invokevirtual 232, 3) := dk_182 0 232 (dk_at dksX4_whyGo_0 10 rfl rfl)
theorem dX4_whyGo_13 : decode cX4_whyGo 13 = .ok (.lload_n 1, 1) := dk_31 (dk_at dksX4_whyGo_0 13 rfl rfl)
theorem dX4_whyGo_14 : decode cX4_whyGo 14 = .ok (.l2i, 1) := dk_136 (dk_at dksX4_whyGo_0 14 rfl rfl)
theorem dX4_whyGo_15 : decode cX4_whyGo 15 = .ok (.aload_n 0, 1) := dk_42 (dk_at dksX4_whyGo_0 15 rfl rfl)
theorem dX4_whyGo_16 : decode cX4_whyGo 16 = .ok (.getfield 13, 3) := dk_180 0 13 (dk_at dksX4_whyGo_0 16 rfl rfl)
theorem dX4_whyGo_19 : decode cX4_whyGo 19 = .ok (.bipush 44, 2) := dk_16 44 (dk_at dksX4_whyGo_0 19 rfl rfl)
theorem dX4_whyGo_21 : decode cX4_whyGo 21 = .ok (.iaload, 1) := dk_46 (dk_at dksX4_whyGo_0 21 rfl rfl)
theorem dX4_whyGo_22 : decode cX4_whyGo 22 = .ok (.aload_n 0, 1) := dk_42 (dk_at dksX4_whyGo_0 22 rfl rfl)
theorem dX4_whyGo_23 : decode cX4_whyGo 23 = .ok (.getfield 13, 3) := dk_180 0 13 (dk_at dksX4_whyGo_1 0 rfl rfl)
theorem dX4_whyGo_26 : decode cX4_whyGo 26 = .ok (.bipush 45, 2) := dk_16 45 (dk_at dksX4_whyGo_1 3 rfl rfl)
theorem dX4_whyGo_28 : decode cX4_whyGo 28 = .ok (.iaload, 1) := dk_46 (dk_at dksX4_whyGo_1 5 rfl rfl)
theorem dX4_whyGo_29 : decode cX4_whyGo 29 = .ok (.invokevirtual 235, 3) := dk_182 0 235 (dk_at dksX4_whyGo_1 6 rfl rfl)
theorem dX4_whyGo_32 : decode cX4_whyGo 32 = .ok (.goto 4, 3) := dk_167 0 4 (dk_at dksX4_whyGo_1 9 rfl rfl)
theorem dX4_whyGo_35 : decode cX4_whyGo 35 = .ok (.iconst 1, 1) := dk_4 (dk_at dksX4_whyGo_1 12 rfl rfl)
theorem dX4_whyGo_36 : decode cX4_whyGo 36 = .ok (.ireturn, 1) := dk_172 (dk_at dksX4_whyGo_1 13 rfl rfl)
abbrev cX4_standNow : ByteArray := prog_16_method_39_code
def yX4_standNow : MethodName := ⟨RX4, "standNow", "()I"⟩
def dkwX4_standNow_0 : List UInt8 := [16, 6, 42, 180, 0, 13, 16, 42, 46, 104, 42, 180, 0, 13, 16, 43, 46, 96, 172]
abbrev dktX4_standNow_0 : List UInt8 := dkwX4_standNow_0 ++ []
theorem dksX4_standNow_0 : cX4_standNow.data.toList.drop 0 = dktX4_standNow_0 := by decide +kernel
theorem dX4_standNow_0 : decode cX4_standNow 0 = .ok (.bipush 6, 2) := dk_16 6 (dk_at dksX4_standNow_0 0 rfl rfl)
theorem dX4_standNow_2 : decode cX4_standNow 2 = .ok (.aload_n 0, 1) := dk_42 (dk_at dksX4_standNow_0 2 rfl rfl)
theorem dX4_standNow_3 : decode cX4_standNow 3 = .ok (.getfield 13, 3) := dk_180 0 13 (dk_at dksX4_standNow_0 3 rfl rfl)
theorem dX4_standNow_6 : decode cX4_standNow 6 = .ok (.bipush 42, 2) := dk_16 42 (dk_at dksX4_standNow_0 6 rfl rfl)
theorem dX4_standNow_8 : decode cX4_standNow 8 = .ok (.iaload, 1) := dk_46 (dk_at dksX4_standNow_0 8 rfl rfl)
theorem dX4_standNow_9 : decode cX4_standNow 9 = .ok (.imul, 1) := dk_104 (dk_at dksX4_standNow_0 9 rfl rfl)
theorem dX4_standNow_10 : decode cX4_standNow 10 = .ok (.aload_n 0, 1) := dk_42 (dk_at dksX4_standNow_0 10 rfl rfl)
theorem dX4_standNow_11 : decode cX4_standNow 11 = .ok (.getfield 13, 3) := dk_180 0 13 (dk_at dksX4_standNow_0 11 rfl rfl)
theorem dX4_standNow_14 : decode cX4_standNow 14 = .ok (.bipush 43, 2) := dk_16 43 (dk_at dksX4_standNow_0 14 rfl rfl)
theorem dX4_standNow_16 : decode cX4_standNow 16 = .ok (.iaload, 1) := dk_46 (dk_at dksX4_standNow_0 16 rfl rfl)
theorem dX4_standNow_17 : decode cX4_standNow 17 = .ok (.iadd, 1) := dk_96 (dk_at dksX4_standNow_0 17 rfl rfl)
theorem dX4_standNow_18 : decode cX4_standNow 18 = .ok (.ireturn, 1) := dk_172 (dk_at dksX4_standNow_0 18 rfl rfl)
abbrev cX4_whyBy : ByteArray := prog_16_method_42_code
def yX4_whyBy : MethodName := ⟨RX4, "whyBy", "(IIII)I"⟩
def dkwX4_whyBy_3 : List UInt8 := [21, 4, 182, 0, 220, 4, 160, 0, 7, 3, 167, 0, 4, 7, 172]
abbrev dktX4_whyBy_3 : List UInt8 := dkwX4_whyBy_3 ++ []
def dkwX4_whyBy_2 : List UInt8 := [172, 27, 184, 0, 217, 153, 0, 5, 6, 172, 42, 180, 0, 13, 8, 46, 153, 0, 17, 42, 4, 27, 28, 29]
abbrev dktX4_whyBy_2 : List UInt8 := dkwX4_whyBy_2 ++ dktX4_whyBy_3
def dkwX4_whyBy_1 : List UInt8 := [180, 0, 13, 16, 18, 28, 96, 46, 160, 0, 15, 42, 180, 0, 13, 16, 34, 28, 96, 46, 154, 0, 5, 5]
abbrev dktX4_whyBy_1 : List UInt8 := dkwX4_whyBy_1 ++ dktX4_whyBy_2
def dkwX4_whyBy_0 : List UInt8 := [27, 16, 6, 108, 54, 5, 21, 5, 42, 180, 0, 13, 16, 10, 28, 96, 46, 159, 0, 31, 21, 5, 42]
abbrev dktX4_whyBy_0 : List UInt8 := dkwX4_whyBy_0 ++ dktX4_whyBy_1
theorem dksX4_whyBy_0 : cX4_whyBy.data.toList.drop 0 = dktX4_whyBy_0 := by decide +kernel
theorem dksX4_whyBy_1 : cX4_whyBy.data.toList.drop 23 = dktX4_whyBy_1 := dk_seg dksX4_whyBy_0 23 rfl rfl
theorem dksX4_whyBy_2 : cX4_whyBy.data.toList.drop 47 = dktX4_whyBy_2 := dk_seg dksX4_whyBy_1 24 rfl rfl
theorem dksX4_whyBy_3 : cX4_whyBy.data.toList.drop 71 = dktX4_whyBy_3 := dk_seg dksX4_whyBy_2 24 rfl rfl
theorem dX4_whyBy_0 : decode cX4_whyBy 0 = .ok (.iload_n 1, 1) := dk_27 (dk_at dksX4_whyBy_0 0 rfl rfl)
theorem dX4_whyBy_1 : decode cX4_whyBy 1 = .ok (.bipush 6, 2) := dk_16 6 (dk_at dksX4_whyBy_0 1 rfl rfl)
theorem dX4_whyBy_3 : decode cX4_whyBy 3 = .ok (.idiv, 1) := dk_108 (dk_at dksX4_whyBy_0 3 rfl rfl)
theorem dX4_whyBy_4 : decode cX4_whyBy 4 = .ok (.istore 5, 2) := dk_54 5 (dk_at dksX4_whyBy_0 4 rfl rfl)
theorem dX4_whyBy_6 : decode cX4_whyBy 6 = .ok (.iload 5, 2) := dk_21 5 (dk_at dksX4_whyBy_0 6 rfl rfl)
theorem dX4_whyBy_8 : decode cX4_whyBy 8 = .ok (.aload_n 0, 1) := dk_42 (dk_at dksX4_whyBy_0 8 rfl rfl)
theorem dX4_whyBy_9 : decode cX4_whyBy 9 = .ok (.getfield 13, 3) := dk_180 0 13 (dk_at dksX4_whyBy_0 9 rfl rfl)
theorem dX4_whyBy_12 : decode cX4_whyBy 12 = .ok (.bipush 10, 2) := dk_16 10 (dk_at dksX4_whyBy_0 12 rfl rfl)
theorem dX4_whyBy_14 : decode cX4_whyBy 14 = .ok (.iload_n 2, 1) := dk_28 (dk_at dksX4_whyBy_0 14 rfl rfl)
theorem dX4_whyBy_15 : decode cX4_whyBy 15 = .ok (.iadd, 1) := dk_96 (dk_at dksX4_whyBy_0 15 rfl rfl)
theorem dX4_whyBy_16 : decode cX4_whyBy 16 = .ok (.iaload, 1) := dk_46 (dk_at dksX4_whyBy_0 16 rfl rfl)
theorem dX4_whyBy_17 : decode cX4_whyBy 17 = .ok (.if_icmp .eq 31, 3) := dk_159 0 31 (dk_at dksX4_whyBy_0 17 rfl rfl)
theorem dX4_whyBy_20 : decode cX4_whyBy 20 = .ok (.iload 5, 2) := dk_21 5 (dk_at dksX4_whyBy_0 20 rfl rfl)
theorem dX4_whyBy_22 : decode cX4_whyBy 22 = .ok (.aload_n 0, 1) := dk_42 (dk_at dksX4_whyBy_0 22 rfl rfl)
theorem dX4_whyBy_23 : decode cX4_whyBy 23 = .ok (.getfield 13, 3) := dk_180 0 13 (dk_at dksX4_whyBy_1 0 rfl rfl)
theorem dX4_whyBy_26 : decode cX4_whyBy 26 = .ok (.bipush 18, 2) := dk_16 18 (dk_at dksX4_whyBy_1 3 rfl rfl)
theorem dX4_whyBy_28 : decode cX4_whyBy 28 = .ok (.iload_n 2, 1) := dk_28 (dk_at dksX4_whyBy_1 5 rfl rfl)
theorem dX4_whyBy_29 : decode cX4_whyBy 29 = .ok (.iadd, 1) := dk_96 (dk_at dksX4_whyBy_1 6 rfl rfl)
theorem dX4_whyBy_30 : decode cX4_whyBy 30 = .ok (.iaload, 1) := dk_46 (dk_at dksX4_whyBy_1 7 rfl rfl)
theorem dX4_whyBy_31 : decode cX4_whyBy 31 = .ok (.if_icmp .ne 15, 3) := dk_160 0 15 (dk_at dksX4_whyBy_1 8 rfl rfl)
theorem dX4_whyBy_34 : decode cX4_whyBy 34 = .ok (.aload_n 0, 1) := dk_42 (dk_at dksX4_whyBy_1 11 rfl rfl)
theorem dX4_whyBy_35 : decode cX4_whyBy 35 = .ok (.getfield 13, 3) := dk_180 0 13 (dk_at dksX4_whyBy_1 12 rfl rfl)
theorem dX4_whyBy_38 : decode cX4_whyBy 38 = .ok (.bipush 34, 2) := dk_16 34 (dk_at dksX4_whyBy_1 15 rfl rfl)
theorem dX4_whyBy_40 : decode cX4_whyBy 40 = .ok (.iload_n 2, 1) := dk_28 (dk_at dksX4_whyBy_1 17 rfl rfl)
theorem dX4_whyBy_41 : decode cX4_whyBy 41 = .ok (.iadd, 1) := dk_96 (dk_at dksX4_whyBy_1 18 rfl rfl)
theorem dX4_whyBy_42 : decode cX4_whyBy 42 = .ok (.iaload, 1) := dk_46 (dk_at dksX4_whyBy_1 19 rfl rfl)
theorem dX4_whyBy_43 : decode cX4_whyBy 43 = .ok (.ifCond .ne 5, 3) := dk_154 0 5 (dk_at dksX4_whyBy_1 20 rfl rfl)
theorem dX4_whyBy_46 : decode cX4_whyBy 46 = .ok (.iconst 2, 1) := dk_5 (dk_at dksX4_whyBy_1 23 rfl rfl)
theorem dX4_whyBy_47 : decode cX4_whyBy 47 = .ok (.ireturn, 1) := dk_172 (dk_at dksX4_whyBy_2 0 rfl rfl)
theorem dX4_whyBy_48 : decode cX4_whyBy 48 = .ok (.iload_n 1, 1) := dk_27 (dk_at dksX4_whyBy_2 1 rfl rfl)
theorem dX4_whyBy_49 : decode cX4_whyBy 49 = .ok (.invokestatic 217, 3) := dk_184 0 217 (dk_at dksX4_whyBy_2 2 rfl rfl)
theorem dX4_whyBy_52 : decode cX4_whyBy 52 = .ok (.ifCond .eq 5, 3) := dk_153 0 5 (dk_at dksX4_whyBy_2 5 rfl rfl)
theorem dX4_whyBy_55 : decode cX4_whyBy 55 = .ok (.iconst 3, 1) := dk_6 (dk_at dksX4_whyBy_2 8 rfl rfl)
theorem dX4_whyBy_56 : decode cX4_whyBy 56 = .ok (.ireturn, 1) := dk_172 (dk_at dksX4_whyBy_2 9 rfl rfl)
theorem dX4_whyBy_57 : decode cX4_whyBy 57 = .ok (.aload_n 0, 1) := dk_42 (dk_at dksX4_whyBy_2 10 rfl rfl)
theorem dX4_whyBy_58 : decode cX4_whyBy 58 = .ok (.getfield 13, 3) := dk_180 0 13 (dk_at dksX4_whyBy_2 11 rfl rfl)
theorem dX4_whyBy_61 : decode cX4_whyBy 61 = .ok (.iconst 5, 1) := dk_8 (dk_at dksX4_whyBy_2 14 rfl rfl)
theorem dX4_whyBy_62 : decode cX4_whyBy 62 = .ok (.iaload, 1) := dk_46 (dk_at dksX4_whyBy_2 15 rfl rfl)
theorem dX4_whyBy_63 : decode cX4_whyBy 63 = .ok (.ifCond .eq 17, 3) := dk_153 0 17 (dk_at dksX4_whyBy_2 16 rfl rfl)
theorem dX4_whyBy_66 : decode cX4_whyBy 66 = .ok (.aload_n 0, 1) := dk_42 (dk_at dksX4_whyBy_2 19 rfl rfl)
theorem dX4_whyBy_67 : decode cX4_whyBy 67 = .ok (.iconst 1, 1) := dk_4 (dk_at dksX4_whyBy_2 20 rfl rfl)
theorem dX4_whyBy_68 : decode cX4_whyBy 68 = .ok (.iload_n 1, 1) := dk_27 (dk_at dksX4_whyBy_2 21 rfl rfl)
theorem dX4_whyBy_69 : decode cX4_whyBy 69 = .ok (.iload_n 2, 1) := dk_28 (dk_at dksX4_whyBy_2 22 rfl rfl)
theorem dX4_whyBy_70 : decode cX4_whyBy 70 = .ok (.iload_n 3, 1) := dk_29 (dk_at dksX4_whyBy_2 23 rfl rfl)
theorem dX4_whyBy_71 : decode cX4_whyBy 71 = .ok (.iload 4, 2) := dk_21 4 (dk_at dksX4_whyBy_3 0 rfl rfl)
theorem dX4_whyBy_73 : decode cX4_whyBy 73 = .ok (.invokevirtual 220, 3) := dk_182 0 220 (dk_at dksX4_whyBy_3 2 rfl rfl)
theorem dX4_whyBy_76 : decode cX4_whyBy 76 = .ok (.iconst 1, 1) := dk_4 (dk_at dksX4_whyBy_3 5 rfl rfl)
theorem dX4_whyBy_77 : decode cX4_whyBy 77 = .ok (.if_icmp .ne 7, 3) := dk_160 0 7 (dk_at dksX4_whyBy_3 6 rfl rfl)
theorem dX4_whyBy_80 : decode cX4_whyBy 80 = .ok (.iconst 0, 1) := dk_3 (dk_at dksX4_whyBy_3 9 rfl rfl)
theorem dX4_whyBy_81 : decode cX4_whyBy 81 = .ok (.goto 4, 3) := dk_167 0 4 (dk_at dksX4_whyBy_3 10 rfl rfl)
theorem dX4_whyBy_84 : decode cX4_whyBy 84 = .ok (.iconst 4, 1) := dk_7 (dk_at dksX4_whyBy_3 13 rfl rfl)
theorem dX4_whyBy_85 : decode cX4_whyBy 85 = .ok (.ireturn, 1) := dk_172 (dk_at dksX4_whyBy_3 14 rfl rfl)
abbrev cX4_isLost : ByteArray := prog_16_method_37_code
def yX4_isLost : MethodName := ⟨RX4, "isLost", "(I)Z"⟩
def dkwX4_isLost_0 : List UInt8 := [26, 16, 6, 112, 8, 160, 0, 7, 4, 167, 0, 4, 3, 172]
abbrev dktX4_isLost_0 : List UInt8 := dkwX4_isLost_0 ++ []
theorem dksX4_isLost_0 : cX4_isLost.data.toList.drop 0 = dktX4_isLost_0 := by decide +kernel
theorem dX4_isLost_0 : decode cX4_isLost 0 = .ok (.iload_n 0, 1) := dk_26 (dk_at dksX4_isLost_0 0 rfl rfl)
theorem dX4_isLost_1 : decode cX4_isLost 1 = .ok (.bipush 6, 2) := dk_16 6 (dk_at dksX4_isLost_0 1 rfl rfl)
theorem dX4_isLost_3 : decode cX4_isLost 3 = .ok (.irem, 1) := dk_112 (dk_at dksX4_isLost_0 3 rfl rfl)
theorem dX4_isLost_4 : decode cX4_isLost 4 = .ok (.iconst 5, 1) := dk_8 (dk_at dksX4_isLost_0 4 rfl rfl)
theorem dX4_isLost_5 : decode cX4_isLost 5 = .ok (.if_icmp .ne 7, 3) := dk_160 0 7 (dk_at dksX4_isLost_0 5 rfl rfl)
theorem dX4_isLost_8 : decode cX4_isLost 8 = .ok (.iconst 1, 1) := dk_4 (dk_at dksX4_isLost_0 8 rfl rfl)
theorem dX4_isLost_9 : decode cX4_isLost 9 = .ok (.goto 4, 3) := dk_167 0 4 (dk_at dksX4_isLost_0 9 rfl rfl)
theorem dX4_isLost_12 : decode cX4_isLost 12 = .ok (.iconst 0, 1) := dk_3 (dk_at dksX4_isLost_0 12 rfl rfl)
theorem dX4_isLost_13 : decode cX4_isLost 13 = .ok (.ireturn, 1) := dk_172 (dk_at dksX4_isLost_0 13 rfl rfl)
abbrev cX4_reckons : ByteArray := prog_16_method_41_code
def yX4_reckons : MethodName := ⟨RX4, "reckons", "(IIIII)I"⟩
def dkwX4_reckons_14 : List UInt8 := [132, 8, 1, 167, 255, 53, 42, 180, 0, 30, 3, 46, 172]
abbrev dktX4_reckons_14 : List UInt8 := dkwX4_reckons_14 ++ []
def dkwX4_reckons_13 : List UInt8 := [21, 9, 42, 180, 0, 30, 21, 7, 4, 100, 46, 42, 180, 0, 30, 21, 7, 46, 184, 0, 213, 79]
abbrev dktX4_reckons_13 : List UInt8 := dkwX4_reckons_13 ++ dktX4_reckons_14
def dkwX4_reckons_12 : List UInt8 := [180, 0, 30, 21, 7, 4, 96, 46, 79, 167, 0, 36, 132, 7, 255, 42, 180, 0, 30, 21, 7, 4, 100]
abbrev dktX4_reckons_12 : List UInt8 := dkwX4_reckons_12 ++ dktX4_reckons_13
def dkwX4_reckons_11 : List UInt8 := [42, 180, 0, 30, 21, 7, 4, 100, 46, 4, 160, 0, 13, 42, 180, 0, 30, 21, 7, 46, 167, 0, 12, 42]
abbrev dktX4_reckons_11 : List UInt8 := dkwX4_reckons_11 ++ dktX4_reckons_12
def dkwX4_reckons_10 : List UInt8 := [100, 79, 167, 0, 91, 21, 9, 17, 11, 193, 160, 0, 50, 132, 7, 254, 42, 180, 0, 30, 21, 7, 4, 100]
abbrev dktX4_reckons_10 : List UInt8 := dkwX4_reckons_10 ++ dktX4_reckons_11
def dkwX4_reckons_9 : List UInt8 := [17, 11, 190, 160, 0, 26, 42, 180, 0, 30, 21, 7, 4, 100, 4, 42, 180, 0, 30, 21, 7, 4, 100, 46]
abbrev dktX4_reckons_9 : List UInt8 := dkwX4_reckons_9 ++ dktX4_reckons_10
def dkwX4_reckons_8 : List UInt8 := [167, 0, 14, 42, 180, 0, 33, 21, 9, 17, 3, 232, 100, 46, 79, 132, 7, 1, 167, 0, 122, 21, 9]
abbrev dktX4_reckons_8 : List UInt8 := dkwX4_reckons_8 ++ dktX4_reckons_9
def dkwX4_reckons_7 : List UInt8 := [17, 11, 184, 162, 0, 40, 42, 180, 0, 30, 21, 7, 21, 9, 17, 3, 232, 162, 0, 8, 21, 9]
abbrev dktX4_reckons_7 : List UInt8 := dkwX4_reckons_7 ++ dktX4_reckons_8
def dkwX4_reckons_6 : List UInt8 := [180, 0, 13, 16, 99, 42, 180, 0, 13, 16, 6, 27, 96, 46, 96, 21, 8, 96, 46, 54, 9, 21, 9]
abbrev dktX4_reckons_6 : List UInt8 := dkwX4_reckons_6 ++ dktX4_reckons_7
def dkwX4_reckons_5 : List UInt8 := [79, 3, 54, 7, 3, 54, 8, 21, 8, 42, 180, 0, 13, 16, 8, 27, 96, 46, 162, 0, 195, 42]
abbrev dktX4_reckons_5 : List UInt8 := dkwX4_reckons_5 ++ dktX4_reckons_6
def dkwX4_reckons_4 : List UInt8 := [160, 0, 15, 42, 180, 0, 13, 16, 10, 29, 96, 46, 167, 0, 12, 42, 180, 0, 13, 16, 18, 29, 96, 46]
abbrev dktX4_reckons_4 : List UInt8 := dkwX4_reckons_4 ++ dktX4_reckons_5
def dkwX4_reckons_3 : List UInt8 := [180, 0, 33, 7, 21, 5, 79, 42, 180, 0, 33, 8, 21, 6, 79, 42, 180, 0, 33, 16, 6, 21, 6, 4]
abbrev dktX4_reckons_3 : List UInt8 := dkwX4_reckons_3 ++ dktX4_reckons_4
def dkwX4_reckons_2 : List UInt8 := [180, 0, 33, 5, 28, 16, 6, 112, 79, 42, 180, 0, 33, 6, 21, 4, 29, 122, 4, 126, 79, 42]
abbrev dktX4_reckons_2 : List UInt8 := dkwX4_reckons_2 ++ dktX4_reckons_3
def dkwX4_reckons_1 : List UInt8 := [180, 0, 33, 3, 29, 79, 42, 180, 0, 33, 4, 42, 180, 0, 13, 16, 26, 29, 96, 46, 79, 42]
abbrev dktX4_reckons_1 : List UInt8 := dkwX4_reckons_1 ++ dktX4_reckons_2
def dkwX4_reckons_0 : List UInt8 := [28, 16, 6, 108, 42, 180, 0, 13, 16, 18, 29, 96, 46, 160, 0, 7, 4, 167, 0, 4, 3, 54, 6, 42]
abbrev dktX4_reckons_0 : List UInt8 := dkwX4_reckons_0 ++ dktX4_reckons_1
theorem dksX4_reckons_0 : cX4_reckons.data.toList.drop 0 = dktX4_reckons_0 := by decide +kernel
theorem dksX4_reckons_1 : cX4_reckons.data.toList.drop 24 = dktX4_reckons_1 := dk_seg dksX4_reckons_0 24 rfl rfl
theorem dksX4_reckons_2 : cX4_reckons.data.toList.drop 46 = dktX4_reckons_2 := dk_seg dksX4_reckons_1 22 rfl rfl
theorem dksX4_reckons_3 : cX4_reckons.data.toList.drop 68 = dktX4_reckons_3 := dk_seg dksX4_reckons_2 22 rfl rfl
theorem dksX4_reckons_4 : cX4_reckons.data.toList.drop 92 = dktX4_reckons_4 := dk_seg dksX4_reckons_3 24 rfl rfl
theorem dksX4_reckons_5 : cX4_reckons.data.toList.drop 116 = dktX4_reckons_5 := dk_seg dksX4_reckons_4 24 rfl rfl
theorem dksX4_reckons_6 : cX4_reckons.data.toList.drop 138 = dktX4_reckons_6 := dk_seg dksX4_reckons_5 22 rfl rfl
theorem dksX4_reckons_7 : cX4_reckons.data.toList.drop 161 = dktX4_reckons_7 := dk_seg dksX4_reckons_6 23 rfl rfl
theorem dksX4_reckons_8 : cX4_reckons.data.toList.drop 183 = dktX4_reckons_8 := dk_seg dksX4_reckons_7 22 rfl rfl
theorem dksX4_reckons_9 : cX4_reckons.data.toList.drop 206 = dktX4_reckons_9 := dk_seg dksX4_reckons_8 23 rfl rfl
theorem dksX4_reckons_10 : cX4_reckons.data.toList.drop 230 = dktX4_reckons_10 := dk_seg dksX4_reckons_9 24 rfl rfl
theorem dksX4_reckons_11 : cX4_reckons.data.toList.drop 254 = dktX4_reckons_11 := dk_seg dksX4_reckons_10 24 rfl rfl
theorem dksX4_reckons_12 : cX4_reckons.data.toList.drop 278 = dktX4_reckons_12 := dk_seg dksX4_reckons_11 24 rfl rfl
theorem dksX4_reckons_13 : cX4_reckons.data.toList.drop 301 = dktX4_reckons_13 := dk_seg dksX4_reckons_12 23 rfl rfl
theorem dksX4_reckons_14 : cX4_reckons.data.toList.drop 323 = dktX4_reckons_14 := dk_seg dksX4_reckons_13 22 rfl rfl
theorem dX4_reckons_0 : decode cX4_reckons 0 = .ok (.iload_n 2, 1) := dk_28 (dk_at dksX4_reckons_0 0 rfl rfl)
theorem dX4_reckons_1 : decode cX4_reckons 1 = .ok (.bipush 6, 2) := dk_16 6 (dk_at dksX4_reckons_0 1 rfl rfl)
theorem dX4_reckons_3 : decode cX4_reckons 3 = .ok (.idiv, 1) := dk_108 (dk_at dksX4_reckons_0 3 rfl rfl)
theorem dX4_reckons_4 : decode cX4_reckons 4 = .ok (.aload_n 0, 1) := dk_42 (dk_at dksX4_reckons_0 4 rfl rfl)
theorem dX4_reckons_5 : decode cX4_reckons 5 = .ok (.getfield 13, 3) := dk_180 0 13 (dk_at dksX4_reckons_0 5 rfl rfl)
theorem dX4_reckons_8 : decode cX4_reckons 8 = .ok (.bipush 18, 2) := dk_16 18 (dk_at dksX4_reckons_0 8 rfl rfl)
theorem dX4_reckons_10 : decode cX4_reckons 10 = .ok (.iload_n 3, 1) := dk_29 (dk_at dksX4_reckons_0 10 rfl rfl)
theorem dX4_reckons_11 : decode cX4_reckons 11 = .ok (.iadd, 1) := dk_96 (dk_at dksX4_reckons_0 11 rfl rfl)
theorem dX4_reckons_12 : decode cX4_reckons 12 = .ok (.iaload, 1) := dk_46 (dk_at dksX4_reckons_0 12 rfl rfl)
theorem dX4_reckons_13 : decode cX4_reckons 13 = .ok (.if_icmp .ne 7, 3) := dk_160 0 7 (dk_at dksX4_reckons_0 13 rfl rfl)
theorem dX4_reckons_16 : decode cX4_reckons 16 = .ok (.iconst 1, 1) := dk_4 (dk_at dksX4_reckons_0 16 rfl rfl)
theorem dX4_reckons_17 : decode cX4_reckons 17 = .ok (.goto 4, 3) := dk_167 0 4 (dk_at dksX4_reckons_0 17 rfl rfl)
theorem dX4_reckons_20 : decode cX4_reckons 20 = .ok (.iconst 0, 1) := dk_3 (dk_at dksX4_reckons_0 20 rfl rfl)
theorem dX4_reckons_21 : decode cX4_reckons 21 = .ok (.istore 6, 2) := dk_54 6 (dk_at dksX4_reckons_0 21 rfl rfl)
theorem dX4_reckons_23 : decode cX4_reckons 23 = .ok (.aload_n 0, 1) := dk_42 (dk_at dksX4_reckons_0 23 rfl rfl)
theorem dX4_reckons_24 : decode cX4_reckons 24 = .ok (.getfield 33, 3) := dk_180 0 33 (dk_at dksX4_reckons_1 0 rfl rfl)
theorem dX4_reckons_27 : decode cX4_reckons 27 = .ok (.iconst 0, 1) := dk_3 (dk_at dksX4_reckons_1 3 rfl rfl)
theorem dX4_reckons_28 : decode cX4_reckons 28 = .ok (.iload_n 3, 1) := dk_29 (dk_at dksX4_reckons_1 4 rfl rfl)
theorem dX4_reckons_29 : decode cX4_reckons 29 = .ok (.iastore, 1) := dk_79 (dk_at dksX4_reckons_1 5 rfl rfl)
theorem dX4_reckons_30 : decode cX4_reckons 30 = .ok (.aload_n 0, 1) := dk_42 (dk_at dksX4_reckons_1 6 rfl rfl)
theorem dX4_reckons_31 : decode cX4_reckons 31 = .ok (.getfield 33, 3) := dk_180 0 33 (dk_at dksX4_reckons_1 7 rfl rfl)
theorem dX4_reckons_34 : decode cX4_reckons 34 = .ok (.iconst 1, 1) := dk_4 (dk_at dksX4_reckons_1 10 rfl rfl)
theorem dX4_reckons_35 : decode cX4_reckons 35 = .ok (.aload_n 0, 1) := dk_42 (dk_at dksX4_reckons_1 11 rfl rfl)
theorem dX4_reckons_36 : decode cX4_reckons 36 = .ok (.getfield 13, 3) := dk_180 0 13 (dk_at dksX4_reckons_1 12 rfl rfl)
theorem dX4_reckons_39 : decode cX4_reckons 39 = .ok (.bipush 26, 2) := dk_16 26 (dk_at dksX4_reckons_1 15 rfl rfl)
theorem dX4_reckons_41 : decode cX4_reckons 41 = .ok (.iload_n 3, 1) := dk_29 (dk_at dksX4_reckons_1 17 rfl rfl)
theorem dX4_reckons_42 : decode cX4_reckons 42 = .ok (.iadd, 1) := dk_96 (dk_at dksX4_reckons_1 18 rfl rfl)
theorem dX4_reckons_43 : decode cX4_reckons 43 = .ok (.iaload, 1) := dk_46 (dk_at dksX4_reckons_1 19 rfl rfl)
theorem dX4_reckons_44 : decode cX4_reckons 44 = .ok (.iastore, 1) := dk_79 (dk_at dksX4_reckons_1 20 rfl rfl)
theorem dX4_reckons_45 : decode cX4_reckons 45 = .ok (.aload_n 0, 1) := dk_42 (dk_at dksX4_reckons_1 21 rfl rfl)
theorem dX4_reckons_46 : decode cX4_reckons 46 = .ok (.getfield 33, 3) := dk_180 0 33 (dk_at dksX4_reckons_2 0 rfl rfl)
theorem dX4_reckons_49 : decode cX4_reckons 49 = .ok (.iconst 2, 1) := dk_5 (dk_at dksX4_reckons_2 3 rfl rfl)
theorem dX4_reckons_50 : decode cX4_reckons 50 = .ok (.iload_n 2, 1) := dk_28 (dk_at dksX4_reckons_2 4 rfl rfl)
theorem dX4_reckons_51 : decode cX4_reckons 51 = .ok (.bipush 6, 2) := dk_16 6 (dk_at dksX4_reckons_2 5 rfl rfl)
theorem dX4_reckons_53 : decode cX4_reckons 53 = .ok (.irem, 1) := dk_112 (dk_at dksX4_reckons_2 7 rfl rfl)
theorem dX4_reckons_54 : decode cX4_reckons 54 = .ok (.iastore, 1) := dk_79 (dk_at dksX4_reckons_2 8 rfl rfl)
theorem dX4_reckons_55 : decode cX4_reckons 55 = .ok (.aload_n 0, 1) := dk_42 (dk_at dksX4_reckons_2 9 rfl rfl)
theorem dX4_reckons_56 : decode cX4_reckons 56 = .ok (.getfield 33, 3) := dk_180 0 33 (dk_at dksX4_reckons_2 10 rfl rfl)
theorem dX4_reckons_59 : decode cX4_reckons 59 = .ok (.iconst 3, 1) := dk_6 (dk_at dksX4_reckons_2 13 rfl rfl)
theorem dX4_reckons_60 : decode cX4_reckons 60 = .ok (.iload 4, 2) := dk_21 4 (dk_at dksX4_reckons_2 14 rfl rfl)
theorem dX4_reckons_62 : decode cX4_reckons 62 = .ok (.iload_n 3, 1) := dk_29 (dk_at dksX4_reckons_2 16 rfl rfl)
theorem dX4_reckons_63 : decode cX4_reckons 63 = .ok (.ishr, 1) := dk_122 (dk_at dksX4_reckons_2 17 rfl rfl)
theorem dX4_reckons_64 : decode cX4_reckons 64 = .ok (.iconst 1, 1) := dk_4 (dk_at dksX4_reckons_2 18 rfl rfl)
theorem dX4_reckons_65 : decode cX4_reckons 65 = .ok (.iand, 1) := dk_126 (dk_at dksX4_reckons_2 19 rfl rfl)
theorem dX4_reckons_66 : decode cX4_reckons 66 = .ok (.iastore, 1) := dk_79 (dk_at dksX4_reckons_2 20 rfl rfl)
theorem dX4_reckons_67 : decode cX4_reckons 67 = .ok (.aload_n 0, 1) := dk_42 (dk_at dksX4_reckons_2 21 rfl rfl)
theorem dX4_reckons_68 : decode cX4_reckons 68 = .ok (.getfield 33, 3) := dk_180 0 33 (dk_at dksX4_reckons_3 0 rfl rfl)
theorem dX4_reckons_71 : decode cX4_reckons 71 = .ok (.iconst 4, 1) := dk_7 (dk_at dksX4_reckons_3 3 rfl rfl)
theorem dX4_reckons_72 : decode cX4_reckons 72 = .ok (.iload 5, 2) := dk_21 5 (dk_at dksX4_reckons_3 4 rfl rfl)
theorem dX4_reckons_74 : decode cX4_reckons 74 = .ok (.iastore, 1) := dk_79 (dk_at dksX4_reckons_3 6 rfl rfl)
theorem dX4_reckons_75 : decode cX4_reckons 75 = .ok (.aload_n 0, 1) := dk_42 (dk_at dksX4_reckons_3 7 rfl rfl)
theorem dX4_reckons_76 : decode cX4_reckons 76 = .ok (.getfield 33, 3) := dk_180 0 33 (dk_at dksX4_reckons_3 8 rfl rfl)
theorem dX4_reckons_79 : decode cX4_reckons 79 = .ok (.iconst 5, 1) := dk_8 (dk_at dksX4_reckons_3 11 rfl rfl)
theorem dX4_reckons_80 : decode cX4_reckons 80 = .ok (.iload 6, 2) := dk_21 6 (dk_at dksX4_reckons_3 12 rfl rfl)
theorem dX4_reckons_82 : decode cX4_reckons 82 = .ok (.iastore, 1) := dk_79 (dk_at dksX4_reckons_3 14 rfl rfl)
theorem dX4_reckons_83 : decode cX4_reckons 83 = .ok (.aload_n 0, 1) := dk_42 (dk_at dksX4_reckons_3 15 rfl rfl)
theorem dX4_reckons_84 : decode cX4_reckons 84 = .ok (.getfield 33, 3) := dk_180 0 33 (dk_at dksX4_reckons_3 16 rfl rfl)
theorem dX4_reckons_87 : decode cX4_reckons 87 = .ok (.bipush 6, 2) := dk_16 6 (dk_at dksX4_reckons_3 19 rfl rfl)
theorem dX4_reckons_89 : decode cX4_reckons 89 = .ok (.iload 6, 2) := dk_21 6 (dk_at dksX4_reckons_3 21 rfl rfl)
theorem dX4_reckons_91 : decode cX4_reckons 91 = .ok (.iconst 1, 1) := dk_4 (dk_at dksX4_reckons_3 23 rfl rfl)
theorem dX4_reckons_92 : decode cX4_reckons 92 = .ok (.if_icmp .ne 15, 3) := dk_160 0 15 (dk_at dksX4_reckons_4 0 rfl rfl)
theorem dX4_reckons_95 : decode cX4_reckons 95 = .ok (.aload_n 0, 1) := dk_42 (dk_at dksX4_reckons_4 3 rfl rfl)
theorem dX4_reckons_96 : decode cX4_reckons 96 = .ok (.getfield 13, 3) := dk_180 0 13 (dk_at dksX4_reckons_4 4 rfl rfl)
theorem dX4_reckons_99 : decode cX4_reckons 99 = .ok (.bipush 10, 2) := dk_16 10 (dk_at dksX4_reckons_4 7 rfl rfl)
theorem dX4_reckons_101 : decode cX4_reckons 101 = .ok (.iload_n 3, 1) := dk_29 (dk_at dksX4_reckons_4 9 rfl rfl)
theorem dX4_reckons_102 : decode cX4_reckons 102 = .ok (.iadd, 1) := dk_96 (dk_at dksX4_reckons_4 10 rfl rfl)
theorem dX4_reckons_103 : decode cX4_reckons 103 = .ok (.iaload, 1) := dk_46 (dk_at dksX4_reckons_4 11 rfl rfl)
theorem dX4_reckons_104 : decode cX4_reckons 104 = .ok (.goto 12, 3) := dk_167 0 12 (dk_at dksX4_reckons_4 12 rfl rfl)
theorem dX4_reckons_107 : decode cX4_reckons 107 = .ok (.aload_n 0, 1) := dk_42 (dk_at dksX4_reckons_4 15 rfl rfl)
theorem dX4_reckons_108 : decode cX4_reckons 108 = .ok (.getfield 13, 3) := dk_180 0 13 (dk_at dksX4_reckons_4 16 rfl rfl)
theorem dX4_reckons_111 : decode cX4_reckons 111 = .ok (.bipush 18, 2) := dk_16 18 (dk_at dksX4_reckons_4 19 rfl rfl)
theorem dX4_reckons_113 : decode cX4_reckons 113 = .ok (.iload_n 3, 1) := dk_29 (dk_at dksX4_reckons_4 21 rfl rfl)
theorem dX4_reckons_114 : decode cX4_reckons 114 = .ok (.iadd, 1) := dk_96 (dk_at dksX4_reckons_4 22 rfl rfl)
theorem dX4_reckons_115 : decode cX4_reckons 115 = .ok (.iaload, 1) := dk_46 (dk_at dksX4_reckons_4 23 rfl rfl)
theorem dX4_reckons_116 : decode cX4_reckons 116 = .ok (.iastore, 1) := dk_79 (dk_at dksX4_reckons_5 0 rfl rfl)
theorem dX4_reckons_117 : decode cX4_reckons 117 = .ok (.iconst 0, 1) := dk_3 (dk_at dksX4_reckons_5 1 rfl rfl)
theorem dX4_reckons_118 : decode cX4_reckons 118 = .ok (.istore 7, 2) := dk_54 7 (dk_at dksX4_reckons_5 2 rfl rfl)
theorem dX4_reckons_120 : decode cX4_reckons 120 = .ok (.iconst 0, 1) := dk_3 (dk_at dksX4_reckons_5 4 rfl rfl)
theorem dX4_reckons_121 : decode cX4_reckons 121 = .ok (.istore 8, 2) := dk_54 8 (dk_at dksX4_reckons_5 5 rfl rfl)
theorem dX4_reckons_123 : decode cX4_reckons 123 = .ok (.iload 8, 2) := dk_21 8 (dk_at dksX4_reckons_5 7 rfl rfl)
theorem dX4_reckons_125 : decode cX4_reckons 125 = .ok (.aload_n 0, 1) := dk_42 (dk_at dksX4_reckons_5 9 rfl rfl)
theorem dX4_reckons_126 : decode cX4_reckons 126 = .ok (.getfield 13, 3) := dk_180 0 13 (dk_at dksX4_reckons_5 10 rfl rfl)
theorem dX4_reckons_129 : decode cX4_reckons 129 = .ok (.bipush 8, 2) := dk_16 8 (dk_at dksX4_reckons_5 13 rfl rfl)
theorem dX4_reckons_131 : decode cX4_reckons 131 = .ok (.iload_n 1, 1) := dk_27 (dk_at dksX4_reckons_5 15 rfl rfl)
theorem dX4_reckons_132 : decode cX4_reckons 132 = .ok (.iadd, 1) := dk_96 (dk_at dksX4_reckons_5 16 rfl rfl)
theorem dX4_reckons_133 : decode cX4_reckons 133 = .ok (.iaload, 1) := dk_46 (dk_at dksX4_reckons_5 17 rfl rfl)
theorem dX4_reckons_134 : decode cX4_reckons 134 = .ok (.if_icmp .ge 195, 3) := dk_162 0 195 (dk_at dksX4_reckons_5 18 rfl rfl)
theorem dX4_reckons_137 : decode cX4_reckons 137 = .ok (.aload_n 0, 1) := dk_42 (dk_at dksX4_reckons_5 21 rfl rfl)
theorem dX4_reckons_138 : decode cX4_reckons 138 = .ok (.getfield 13, 3) := dk_180 0 13 (dk_at dksX4_reckons_6 0 rfl rfl)
theorem dX4_reckons_141 : decode cX4_reckons 141 = .ok (.bipush 99, 2) := dk_16 99 (dk_at dksX4_reckons_6 3 rfl rfl)
theorem dX4_reckons_143 : decode cX4_reckons 143 = .ok (.aload_n 0, 1) := dk_42 (dk_at dksX4_reckons_6 5 rfl rfl)
theorem dX4_reckons_144 : decode cX4_reckons 144 = .ok (.getfield 13, 3) := dk_180 0 13 (dk_at dksX4_reckons_6 6 rfl rfl)
theorem dX4_reckons_147 : decode cX4_reckons 147 = .ok (.bipush 6, 2) := dk_16 6 (dk_at dksX4_reckons_6 9 rfl rfl)
theorem dX4_reckons_149 : decode cX4_reckons 149 = .ok (.iload_n 1, 1) := dk_27 (dk_at dksX4_reckons_6 11 rfl rfl)
theorem dX4_reckons_150 : decode cX4_reckons 150 = .ok (.iadd, 1) := dk_96 (dk_at dksX4_reckons_6 12 rfl rfl)
theorem dX4_reckons_151 : decode cX4_reckons 151 = .ok (.iaload, 1) := dk_46 (dk_at dksX4_reckons_6 13 rfl rfl)
theorem dX4_reckons_152 : decode cX4_reckons 152 = .ok (.iadd, 1) := dk_96 (dk_at dksX4_reckons_6 14 rfl rfl)
theorem dX4_reckons_153 : decode cX4_reckons 153 = .ok (.iload 8, 2) := dk_21 8 (dk_at dksX4_reckons_6 15 rfl rfl)
theorem dX4_reckons_155 : decode cX4_reckons 155 = .ok (.iadd, 1) := dk_96 (dk_at dksX4_reckons_6 17 rfl rfl)
theorem dX4_reckons_156 : decode cX4_reckons 156 = .ok (.iaload, 1) := dk_46 (dk_at dksX4_reckons_6 18 rfl rfl)
theorem dX4_reckons_157 : decode cX4_reckons 157 = .ok (.istore 9, 2) := dk_54 9 (dk_at dksX4_reckons_6 19 rfl rfl)
theorem dX4_reckons_159 : decode cX4_reckons 159 = .ok (.iload 9, 2) := dk_21 9 (dk_at dksX4_reckons_6 21 rfl rfl)
theorem dX4_reckons_161 : decode cX4_reckons 161 = .ok (.sipush 3000, 3) := dk_17 11 184 (dk_at dksX4_reckons_7 0 rfl rfl)
theorem dX4_reckons_164 : decode cX4_reckons 164 = .ok (.if_icmp .ge 40, 3) := dk_162 0 40 (dk_at dksX4_reckons_7 3 rfl rfl)
theorem dX4_reckons_167 : decode cX4_reckons 167 = .ok (.aload_n 0, 1) := dk_42 (dk_at dksX4_reckons_7 6 rfl rfl)
theorem dX4_reckons_168 : decode cX4_reckons 168 = .ok (.getfield 30, 3) := dk_180 0 30 (dk_at dksX4_reckons_7 7 rfl rfl)
theorem dX4_reckons_171 : decode cX4_reckons 171 = .ok (.iload 7, 2) := dk_21 7 (dk_at dksX4_reckons_7 10 rfl rfl)
theorem dX4_reckons_173 : decode cX4_reckons 173 = .ok (.iload 9, 2) := dk_21 9 (dk_at dksX4_reckons_7 12 rfl rfl)
theorem dX4_reckons_175 : decode cX4_reckons 175 = .ok (.sipush 1000, 3) := dk_17 3 232 (dk_at dksX4_reckons_7 14 rfl rfl)
theorem dX4_reckons_178 : decode cX4_reckons 178 = .ok (.if_icmp .ge 8, 3) := dk_162 0 8 (dk_at dksX4_reckons_7 17 rfl rfl)
theorem dX4_reckons_181 : decode cX4_reckons 181 = .ok (.iload 9, 2) := dk_21 9 (dk_at dksX4_reckons_7 20 rfl rfl)
theorem dX4_reckons_183 : decode cX4_reckons 183 = .ok (.goto 14, 3) := dk_167 0 14 (dk_at dksX4_reckons_8 0 rfl rfl)
theorem dX4_reckons_186 : decode cX4_reckons 186 = .ok (.aload_n 0, 1) := dk_42 (dk_at dksX4_reckons_8 3 rfl rfl)
theorem dX4_reckons_187 : decode cX4_reckons 187 = .ok (.getfield 33, 3) := dk_180 0 33 (dk_at dksX4_reckons_8 4 rfl rfl)
theorem dX4_reckons_190 : decode cX4_reckons 190 = .ok (.iload 9, 2) := dk_21 9 (dk_at dksX4_reckons_8 7 rfl rfl)
theorem dX4_reckons_192 : decode cX4_reckons 192 = .ok (.sipush 1000, 3) := dk_17 3 232 (dk_at dksX4_reckons_8 9 rfl rfl)
theorem dX4_reckons_195 : decode cX4_reckons 195 = .ok (.isub, 1) := dk_100 (dk_at dksX4_reckons_8 12 rfl rfl)
theorem dX4_reckons_196 : decode cX4_reckons 196 = .ok (.iaload, 1) := dk_46 (dk_at dksX4_reckons_8 13 rfl rfl)
theorem dX4_reckons_197 : decode cX4_reckons 197 = .ok (.iastore, 1) := dk_79 (dk_at dksX4_reckons_8 14 rfl rfl)
theorem dX4_reckons_198 : decode cX4_reckons 198 = .ok (.iinc 7 1, 3) := dk_132 7 1 (dk_at dksX4_reckons_8 15 rfl rfl)
theorem dX4_reckons_201 : decode cX4_reckons 201 = .ok (.goto 122, 3) := dk_167 0 122 (dk_at dksX4_reckons_8 18 rfl rfl)
theorem dX4_reckons_204 : decode cX4_reckons 204 = .ok (.iload 9, 2) := dk_21 9 (dk_at dksX4_reckons_8 21 rfl rfl)
theorem dX4_reckons_206 : decode cX4_reckons 206 = .ok (.sipush 3006, 3) := dk_17 11 190 (dk_at dksX4_reckons_9 0 rfl rfl)
theorem dX4_reckons_209 : decode cX4_reckons 209 = .ok (.if_icmp .ne 26, 3) := dk_160 0 26 (dk_at dksX4_reckons_9 3 rfl rfl)
theorem dX4_reckons_212 : decode cX4_reckons 212 = .ok (.aload_n 0, 1) := dk_42 (dk_at dksX4_reckons_9 6 rfl rfl)
theorem dX4_reckons_213 : decode cX4_reckons 213 = .ok (.getfield 30, 3) := dk_180 0 30 (dk_at dksX4_reckons_9 7 rfl rfl)
theorem dX4_reckons_216 : decode cX4_reckons 216 = .ok (.iload 7, 2) := dk_21 7 (dk_at dksX4_reckons_9 10 rfl rfl)
theorem dX4_reckons_218 : decode cX4_reckons 218 = .ok (.iconst 1, 1) := dk_4 (dk_at dksX4_reckons_9 12 rfl rfl)
theorem dX4_reckons_219 : decode cX4_reckons 219 = .ok (.isub, 1) := dk_100 (dk_at dksX4_reckons_9 13 rfl rfl)
theorem dX4_reckons_220 : decode cX4_reckons 220 = .ok (.iconst 1, 1) := dk_4 (dk_at dksX4_reckons_9 14 rfl rfl)
theorem dX4_reckons_221 : decode cX4_reckons 221 = .ok (.aload_n 0, 1) := dk_42 (dk_at dksX4_reckons_9 15 rfl rfl)
theorem dX4_reckons_222 : decode cX4_reckons 222 = .ok (.getfield 30, 3) := dk_180 0 30 (dk_at dksX4_reckons_9 16 rfl rfl)
theorem dX4_reckons_225 : decode cX4_reckons 225 = .ok (.iload 7, 2) := dk_21 7 (dk_at dksX4_reckons_9 19 rfl rfl)
theorem dX4_reckons_227 : decode cX4_reckons 227 = .ok (.iconst 1, 1) := dk_4 (dk_at dksX4_reckons_9 21 rfl rfl)
theorem dX4_reckons_228 : decode cX4_reckons 228 = .ok (.isub, 1) := dk_100 (dk_at dksX4_reckons_9 22 rfl rfl)
theorem dX4_reckons_229 : decode cX4_reckons 229 = .ok (.iaload, 1) := dk_46 (dk_at dksX4_reckons_9 23 rfl rfl)
theorem dX4_reckons_230 : decode cX4_reckons 230 = .ok (.isub, 1) := dk_100 (dk_at dksX4_reckons_10 0 rfl rfl)
theorem dX4_reckons_231 : decode cX4_reckons 231 = .ok (.iastore, 1) := dk_79 (dk_at dksX4_reckons_10 1 rfl rfl)
theorem dX4_reckons_232 : decode cX4_reckons 232 = .ok (.goto 91, 3) := dk_167 0 91 (dk_at dksX4_reckons_10 2 rfl rfl)
theorem dX4_reckons_235 : decode cX4_reckons 235 = .ok (.iload 9, 2) := dk_21 9 (dk_at dksX4_reckons_10 5 rfl rfl)
theorem dX4_reckons_237 : decode cX4_reckons 237 = .ok (.sipush 3009, 3) := dk_17 11 193 (dk_at dksX4_reckons_10 7 rfl rfl)
theorem dX4_reckons_240 : decode cX4_reckons 240 = .ok (.if_icmp .ne 50, 3) := dk_160 0 50 (dk_at dksX4_reckons_10 10 rfl rfl)
theorem dX4_reckons_243 : decode cX4_reckons 243 = .ok (.iinc 7 (-2), 3) := dk_132 7 254 (dk_at dksX4_reckons_10 13 rfl rfl)
theorem dX4_reckons_246 : decode cX4_reckons 246 = .ok (.aload_n 0, 1) := dk_42 (dk_at dksX4_reckons_10 16 rfl rfl)
theorem dX4_reckons_247 : decode cX4_reckons 247 = .ok (.getfield 30, 3) := dk_180 0 30 (dk_at dksX4_reckons_10 17 rfl rfl)
theorem dX4_reckons_250 : decode cX4_reckons 250 = .ok (.iload 7, 2) := dk_21 7 (dk_at dksX4_reckons_10 20 rfl rfl)
theorem dX4_reckons_252 : decode cX4_reckons 252 = .ok (.iconst 1, 1) := dk_4 (dk_at dksX4_reckons_10 22 rfl rfl)
theorem dX4_reckons_253 : decode cX4_reckons 253 = .ok (.isub, 1) := dk_100 (dk_at dksX4_reckons_10 23 rfl rfl)
theorem dX4_reckons_254 : decode cX4_reckons 254 = .ok (.aload_n 0, 1) := dk_42 (dk_at dksX4_reckons_11 0 rfl rfl)
theorem dX4_reckons_255 : decode cX4_reckons 255 = .ok (.getfield 30, 3) := dk_180 0 30 (dk_at dksX4_reckons_11 1 rfl rfl)
theorem dX4_reckons_258 : decode cX4_reckons 258 = .ok (.iload 7, 2) := dk_21 7 (dk_at dksX4_reckons_11 4 rfl rfl)
theorem dX4_reckons_260 : decode cX4_reckons 260 = .ok (.iconst 1, 1) := dk_4 (dk_at dksX4_reckons_11 6 rfl rfl)
theorem dX4_reckons_261 : decode cX4_reckons 261 = .ok (.isub, 1) := dk_100 (dk_at dksX4_reckons_11 7 rfl rfl)
theorem dX4_reckons_262 : decode cX4_reckons 262 = .ok (.iaload, 1) := dk_46 (dk_at dksX4_reckons_11 8 rfl rfl)
theorem dX4_reckons_263 : decode cX4_reckons 263 = .ok (.iconst 1, 1) := dk_4 (dk_at dksX4_reckons_11 9 rfl rfl)
theorem dX4_reckons_264 : decode cX4_reckons 264 = .ok (.if_icmp .ne 13, 3) := dk_160 0 13 (dk_at dksX4_reckons_11 10 rfl rfl)
theorem dX4_reckons_267 : decode cX4_reckons 267 = .ok (.aload_n 0, 1) := dk_42 (dk_at dksX4_reckons_11 13 rfl rfl)
theorem dX4_reckons_268 : decode cX4_reckons 268 = .ok (.getfield 30, 3) := dk_180 0 30 (dk_at dksX4_reckons_11 14 rfl rfl)
theorem dX4_reckons_271 : decode cX4_reckons 271 = .ok (.iload 7, 2) := dk_21 7 (dk_at dksX4_reckons_11 17 rfl rfl)
theorem dX4_reckons_273 : decode cX4_reckons 273 = .ok (.iaload, 1) := dk_46 (dk_at dksX4_reckons_11 19 rfl rfl)
theorem dX4_reckons_274 : decode cX4_reckons 274 = .ok (.goto 12, 3) := dk_167 0 12 (dk_at dksX4_reckons_11 20 rfl rfl)
theorem dX4_reckons_277 : decode cX4_reckons 277 = .ok (.aload_n 0, 1) := dk_42 (dk_at dksX4_reckons_11 23 rfl rfl)
theorem dX4_reckons_278 : decode cX4_reckons 278 = .ok (.getfield 30, 3) := dk_180 0 30 (dk_at dksX4_reckons_12 0 rfl rfl)
theorem dX4_reckons_281 : decode cX4_reckons 281 = .ok (.iload 7, 2) := dk_21 7 (dk_at dksX4_reckons_12 3 rfl rfl)
theorem dX4_reckons_283 : decode cX4_reckons 283 = .ok (.iconst 1, 1) := dk_4 (dk_at dksX4_reckons_12 5 rfl rfl)
theorem dX4_reckons_284 : decode cX4_reckons 284 = .ok (.iadd, 1) := dk_96 (dk_at dksX4_reckons_12 6 rfl rfl)
theorem dX4_reckons_285 : decode cX4_reckons 285 = .ok (.iaload, 1) := dk_46 (dk_at dksX4_reckons_12 7 rfl rfl)
theorem dX4_reckons_286 : decode cX4_reckons 286 = .ok (.iastore, 1) := dk_79 (dk_at dksX4_reckons_12 8 rfl rfl)
theorem dX4_reckons_287 : decode cX4_reckons 287 = .ok (.goto 36, 3) := dk_167 0 36 (dk_at dksX4_reckons_12 9 rfl rfl)
theorem dX4_reckons_290 : decode cX4_reckons 290 = .ok (.iinc 7 (-1), 3) := dk_132 7 255 (dk_at dksX4_reckons_12 12 rfl rfl)
theorem dX4_reckons_293 : decode cX4_reckons 293 = .ok (.aload_n 0, 1) := dk_42 (dk_at dksX4_reckons_12 15 rfl rfl)
theorem dX4_reckons_294 : decode cX4_reckons 294 = .ok (.getfield 30, 3) := dk_180 0 30 (dk_at dksX4_reckons_12 16 rfl rfl)
theorem dX4_reckons_297 : decode cX4_reckons 297 = .ok (.iload 7, 2) := dk_21 7 (dk_at dksX4_reckons_12 19 rfl rfl)
theorem dX4_reckons_299 : decode cX4_reckons 299 = .ok (.iconst 1, 1) := dk_4 (dk_at dksX4_reckons_12 21 rfl rfl)
theorem dX4_reckons_300 : decode cX4_reckons 300 = .ok (.isub, 1) := dk_100 (dk_at dksX4_reckons_12 22 rfl rfl)
theorem dX4_reckons_301 : decode cX4_reckons 301 = .ok (.iload 9, 2) := dk_21 9 (dk_at dksX4_reckons_13 0 rfl rfl)
theorem dX4_reckons_303 : decode cX4_reckons 303 = .ok (.aload_n 0, 1) := dk_42 (dk_at dksX4_reckons_13 2 rfl rfl)
theorem dX4_reckons_304 : decode cX4_reckons 304 = .ok (.getfield 30, 3) := dk_180 0 30 (dk_at dksX4_reckons_13 3 rfl rfl)
theorem dX4_reckons_307 : decode cX4_reckons 307 = .ok (.iload 7, 2) := dk_21 7 (dk_at dksX4_reckons_13 6 rfl rfl)
theorem dX4_reckons_309 : decode cX4_reckons 309 = .ok (.iconst 1, 1) := dk_4 (dk_at dksX4_reckons_13 8 rfl rfl)
theorem dX4_reckons_310 : decode cX4_reckons 310 = .ok (.isub, 1) := dk_100 (dk_at dksX4_reckons_13 9 rfl rfl)
theorem dX4_reckons_311 : decode cX4_reckons 311 = .ok (.iaload, 1) := dk_46 (dk_at dksX4_reckons_13 10 rfl rfl)
theorem dX4_reckons_312 : decode cX4_reckons 312 = .ok (.aload_n 0, 1) := dk_42 (dk_at dksX4_reckons_13 11 rfl rfl)
theorem dX4_reckons_313 : decode cX4_reckons 313 = .ok (.getfield 30, 3) := dk_180 0 30 (dk_at dksX4_reckons_13 12 rfl rfl)
theorem dX4_reckons_316 : decode cX4_reckons 316 = .ok (.iload 7, 2) := dk_21 7 (dk_at dksX4_reckons_13 15 rfl rfl)
theorem dX4_reckons_318 : decode cX4_reckons 318 = .ok (.iaload, 1) := dk_46 (dk_at dksX4_reckons_13 17 rfl rfl)
theorem dX4_reckons_319 : decode cX4_reckons 319 = .ok (.invokestatic 213, 3) := dk_184 0 213 (dk_at dksX4_reckons_13 18 rfl rfl)
theorem dX4_reckons_322 : decode cX4_reckons 322 = .ok (.iastore, 1) := dk_79 (dk_at dksX4_reckons_13 21 rfl rfl)
theorem dX4_reckons_323 : decode cX4_reckons 323 = .ok (.iinc 8 1, 3) := dk_132 8 1 (dk_at dksX4_reckons_14 0 rfl rfl)
theorem dX4_reckons_326 : decode cX4_reckons 326 = .ok (.goto (-203), 3) := dk_167 255 53 (dk_at dksX4_reckons_14 3 rfl rfl)
theorem dX4_reckons_329 : decode cX4_reckons 329 = .ok (.aload_n 0, 1) := dk_42 (dk_at dksX4_reckons_14 6 rfl rfl)
theorem dX4_reckons_330 : decode cX4_reckons 330 = .ok (.getfield 30, 3) := dk_180 0 30 (dk_at dksX4_reckons_14 7 rfl rfl)
theorem dX4_reckons_333 : decode cX4_reckons 333 = .ok (.iconst 0, 1) := dk_3 (dk_at dksX4_reckons_14 10 rfl rfl)
theorem dX4_reckons_334 : decode cX4_reckons 334 = .ok (.iaload, 1) := dk_46 (dk_at dksX4_reckons_14 11 rfl rfl)
theorem dX4_reckons_335 : decode cX4_reckons 335 = .ok (.ireturn, 1) := dk_172 (dk_at dksX4_reckons_14 12 rfl rfl)
abbrev cX4_between : ByteArray := prog_16_method_40_code
def yX4_between : MethodName := ⟨RX4, "between", "(III)I"⟩
def dkwX4_between_6 : List UInt8 := [156, 0, 9, 20, 0, 211, 167, 0, 4, 33, 136, 172]
abbrev dktX4_between_6 : List UInt8 := dkwX4_between_6 ++ []
def dkwX4_between_5 : List UInt8 := [133, 28, 133, 105, 66, 33, 20, 0, 209, 148, 158, 0, 9, 20, 0, 209, 167, 0, 18, 33, 20, 0, 211, 148]
abbrev dktX4_between_5 : List UInt8 := dkwX4_between_5 ++ dktX4_between_6
def dkwX4_between_4 : List UInt8 := [27, 133, 28, 133, 97, 167, 0, 23, 26, 17, 11, 185, 160, 0, 11, 27, 133, 28, 133, 101, 167, 0, 8, 27]
abbrev dktX4_between_4 : List UInt8 := dkwX4_between_4 ++ dktX4_between_5
def dkwX4_between_3 : List UInt8 := [164, 0, 7, 4, 167, 0, 4, 3, 172, 27, 28, 126, 172, 27, 28, 128, 172, 26, 17, 11, 184, 160, 0, 11]
abbrev dktX4_between_3 : List UInt8 := dkwX4_between_3 ++ dktX4_between_4
def dkwX4_between_2 : List UInt8 := [27, 28, 160, 0, 7, 4, 167, 0, 4, 3, 172, 27, 28, 162, 0, 7, 4, 167, 0, 4, 3, 172, 27, 28]
abbrev dktX4_between_2 : List UInt8 := dkwX4_between_2 ++ dktX4_between_3
def dkwX4_between_1 : List UInt8 := [170, 0, 0, 0, 0, 0, 80, 0, 0, 11, 187, 0, 0, 11, 192, 0, 0, 0, 39, 0, 0, 0, 50, 0, 0, 0, 61, 0, 0, 0, 80, 0, 0, 0, 72, 0, 0, 0, 76]
abbrev dktX4_between_1 : List UInt8 := dkwX4_between_1 ++ dktX4_between_2
def dkwX4_between_0 : List UInt8 := [26]
abbrev dktX4_between_0 : List UInt8 := dkwX4_between_0 ++ dktX4_between_1
theorem dksX4_between_0 : cX4_between.data.toList.drop 0 = dktX4_between_0 := by decide +kernel
theorem dksX4_between_1 : cX4_between.data.toList.drop 1 = dktX4_between_1 := dk_seg dksX4_between_0 1 rfl rfl
theorem dksX4_between_2 : cX4_between.data.toList.drop 40 = dktX4_between_2 := dk_seg dksX4_between_1 39 rfl rfl
theorem dksX4_between_3 : cX4_between.data.toList.drop 64 = dktX4_between_3 := dk_seg dksX4_between_2 24 rfl rfl
theorem dksX4_between_4 : cX4_between.data.toList.drop 88 = dktX4_between_4 := dk_seg dksX4_between_3 24 rfl rfl
theorem dksX4_between_5 : cX4_between.data.toList.drop 112 = dktX4_between_5 := dk_seg dksX4_between_4 24 rfl rfl
theorem dksX4_between_6 : cX4_between.data.toList.drop 136 = dktX4_between_6 := dk_seg dksX4_between_5 24 rfl rfl
theorem dX4_between_0 : decode cX4_between 0 = .ok (.iload_n 0, 1) := dk_26 (dk_at dksX4_between_0 0 rfl rfl)
theorem dX4_between_1 : decode cX4_between 1 = .ok (.tableswitch 80 3003 3008 #[39, 50, 61, 80, 72, 76], 39) := by decide +kernel
theorem dX4_between_40 : decode cX4_between 40 = .ok (.iload_n 1, 1) := dk_27 (dk_at dksX4_between_2 0 rfl rfl)
theorem dX4_between_41 : decode cX4_between 41 = .ok (.iload_n 2, 1) := dk_28 (dk_at dksX4_between_2 1 rfl rfl)
theorem dX4_between_42 : decode cX4_between 42 = .ok (.if_icmp .ne 7, 3) := dk_160 0 7 (dk_at dksX4_between_2 2 rfl rfl)
theorem dX4_between_45 : decode cX4_between 45 = .ok (.iconst 1, 1) := dk_4 (dk_at dksX4_between_2 5 rfl rfl)
theorem dX4_between_46 : decode cX4_between 46 = .ok (.goto 4, 3) := dk_167 0 4 (dk_at dksX4_between_2 6 rfl rfl)
theorem dX4_between_49 : decode cX4_between 49 = .ok (.iconst 0, 1) := dk_3 (dk_at dksX4_between_2 9 rfl rfl)
theorem dX4_between_50 : decode cX4_between 50 = .ok (.ireturn, 1) := dk_172 (dk_at dksX4_between_2 10 rfl rfl)
theorem dX4_between_51 : decode cX4_between 51 = .ok (.iload_n 1, 1) := dk_27 (dk_at dksX4_between_2 11 rfl rfl)
theorem dX4_between_52 : decode cX4_between 52 = .ok (.iload_n 2, 1) := dk_28 (dk_at dksX4_between_2 12 rfl rfl)
theorem dX4_between_53 : decode cX4_between 53 = .ok (.if_icmp .ge 7, 3) := dk_162 0 7 (dk_at dksX4_between_2 13 rfl rfl)
theorem dX4_between_56 : decode cX4_between 56 = .ok (.iconst 1, 1) := dk_4 (dk_at dksX4_between_2 16 rfl rfl)
theorem dX4_between_57 : decode cX4_between 57 = .ok (.goto 4, 3) := dk_167 0 4 (dk_at dksX4_between_2 17 rfl rfl)
theorem dX4_between_60 : decode cX4_between 60 = .ok (.iconst 0, 1) := dk_3 (dk_at dksX4_between_2 20 rfl rfl)
theorem dX4_between_61 : decode cX4_between 61 = .ok (.ireturn, 1) := dk_172 (dk_at dksX4_between_2 21 rfl rfl)
theorem dX4_between_62 : decode cX4_between 62 = .ok (.iload_n 1, 1) := dk_27 (dk_at dksX4_between_2 22 rfl rfl)
theorem dX4_between_63 : decode cX4_between 63 = .ok (.iload_n 2, 1) := dk_28 (dk_at dksX4_between_2 23 rfl rfl)
theorem dX4_between_64 : decode cX4_between 64 = .ok (.if_icmp .le 7, 3) := dk_164 0 7 (dk_at dksX4_between_3 0 rfl rfl)
theorem dX4_between_67 : decode cX4_between 67 = .ok (.iconst 1, 1) := dk_4 (dk_at dksX4_between_3 3 rfl rfl)
theorem dX4_between_68 : decode cX4_between 68 = .ok (.goto 4, 3) := dk_167 0 4 (dk_at dksX4_between_3 4 rfl rfl)
theorem dX4_between_71 : decode cX4_between 71 = .ok (.iconst 0, 1) := dk_3 (dk_at dksX4_between_3 7 rfl rfl)
theorem dX4_between_72 : decode cX4_between 72 = .ok (.ireturn, 1) := dk_172 (dk_at dksX4_between_3 8 rfl rfl)
theorem dX4_between_73 : decode cX4_between 73 = .ok (.iload_n 1, 1) := dk_27 (dk_at dksX4_between_3 9 rfl rfl)
theorem dX4_between_74 : decode cX4_between 74 = .ok (.iload_n 2, 1) := dk_28 (dk_at dksX4_between_3 10 rfl rfl)
theorem dX4_between_75 : decode cX4_between 75 = .ok (.iand, 1) := dk_126 (dk_at dksX4_between_3 11 rfl rfl)
theorem dX4_between_76 : decode cX4_between 76 = .ok (.ireturn, 1) := dk_172 (dk_at dksX4_between_3 12 rfl rfl)
theorem dX4_between_77 : decode cX4_between 77 = .ok (.iload_n 1, 1) := dk_27 (dk_at dksX4_between_3 13 rfl rfl)
theorem dX4_between_78 : decode cX4_between 78 = .ok (.iload_n 2, 1) := dk_28 (dk_at dksX4_between_3 14 rfl rfl)
theorem dX4_between_79 : decode cX4_between 79 = .ok (.ior, 1) := dk_128 (dk_at dksX4_between_3 15 rfl rfl)
theorem dX4_between_80 : decode cX4_between 80 = .ok (.ireturn, 1) := dk_172 (dk_at dksX4_between_3 16 rfl rfl)
theorem dX4_between_81 : decode cX4_between 81 = .ok (.iload_n 0, 1) := dk_26 (dk_at dksX4_between_3 17 rfl rfl)
theorem dX4_between_82 : decode cX4_between 82 = .ok (.sipush 3000, 3) := dk_17 11 184 (dk_at dksX4_between_3 18 rfl rfl)
theorem dX4_between_85 : decode cX4_between 85 = .ok (.if_icmp .ne 11, 3) := dk_160 0 11 (dk_at dksX4_between_3 21 rfl rfl)
theorem dX4_between_88 : decode cX4_between 88 = .ok (.iload_n 1, 1) := dk_27 (dk_at dksX4_between_4 0 rfl rfl)
theorem dX4_between_89 : decode cX4_between 89 = .ok (.i2l, 1) := dk_133 (dk_at dksX4_between_4 1 rfl rfl)
theorem dX4_between_90 : decode cX4_between 90 = .ok (.iload_n 2, 1) := dk_28 (dk_at dksX4_between_4 2 rfl rfl)
theorem dX4_between_91 : decode cX4_between 91 = .ok (.i2l, 1) := dk_133 (dk_at dksX4_between_4 3 rfl rfl)
theorem dX4_between_92 : decode cX4_between 92 = .ok (.ladd, 1) := dk_97 (dk_at dksX4_between_4 4 rfl rfl)
theorem dX4_between_93 : decode cX4_between 93 = .ok (.goto 23, 3) := dk_167 0 23 (dk_at dksX4_between_4 5 rfl rfl)
theorem dX4_between_96 : decode cX4_between 96 = .ok (.iload_n 0, 1) := dk_26 (dk_at dksX4_between_4 8 rfl rfl)
theorem dX4_between_97 : decode cX4_between 97 = .ok (.sipush 3001, 3) := dk_17 11 185 (dk_at dksX4_between_4 9 rfl rfl)
theorem dX4_between_100 : decode cX4_between 100 = .ok (.if_icmp .ne 11, 3) := dk_160 0 11 (dk_at dksX4_between_4 12 rfl rfl)
theorem dX4_between_103 : decode cX4_between 103 = .ok (.iload_n 1, 1) := dk_27 (dk_at dksX4_between_4 15 rfl rfl)
theorem dX4_between_104 : decode cX4_between 104 = .ok (.i2l, 1) := dk_133 (dk_at dksX4_between_4 16 rfl rfl)
theorem dX4_between_105 : decode cX4_between 105 = .ok (.iload_n 2, 1) := dk_28 (dk_at dksX4_between_4 17 rfl rfl)
theorem dX4_between_106 : decode cX4_between 106 = .ok (.i2l, 1) := dk_133 (dk_at dksX4_between_4 18 rfl rfl)
theorem dX4_between_107 : decode cX4_between 107 = .ok (.lsub, 1) := dk_101 (dk_at dksX4_between_4 19 rfl rfl)
theorem dX4_between_108 : decode cX4_between 108 = .ok (.goto 8, 3) := dk_167 0 8 (dk_at dksX4_between_4 20 rfl rfl)
theorem dX4_between_111 : decode cX4_between 111 = .ok (.iload_n 1, 1) := dk_27 (dk_at dksX4_between_4 23 rfl rfl)
theorem dX4_between_112 : decode cX4_between 112 = .ok (.i2l, 1) := dk_133 (dk_at dksX4_between_5 0 rfl rfl)
theorem dX4_between_113 : decode cX4_between 113 = .ok (.iload_n 2, 1) := dk_28 (dk_at dksX4_between_5 1 rfl rfl)
theorem dX4_between_114 : decode cX4_between 114 = .ok (.i2l, 1) := dk_133 (dk_at dksX4_between_5 2 rfl rfl)
theorem dX4_between_115 : decode cX4_between 115 = .ok (.lmul, 1) := dk_105 (dk_at dksX4_between_5 3 rfl rfl)
theorem dX4_between_116 : decode cX4_between 116 = .ok (.lstore_n 3, 1) := dk_66 (dk_at dksX4_between_5 4 rfl rfl)
theorem dX4_between_117 : decode cX4_between 117 = .ok (.lload_n 3, 1) := dk_33 (dk_at dksX4_between_5 5 rfl rfl)
theorem dX4_between_118 : decode cX4_between 118 = .ok (.ldc2_w 209, 3) := dk_20 0 209 (dk_at dksX4_between_5 6 rfl rfl)
theorem dX4_between_121 : decode cX4_between 121 = .ok (.lcmp, 1) := dk_148 (dk_at dksX4_between_5 9 rfl rfl)
theorem dX4_between_122 : decode cX4_between 122 = .ok (.ifCond .le 9, 3) := dk_158 0 9 (dk_at dksX4_between_5 10 rfl rfl)
theorem dX4_between_125 : decode cX4_between 125 = .ok (.ldc2_w 209, 3) := dk_20 0 209 (dk_at dksX4_between_5 13 rfl rfl)
theorem dX4_between_128 : decode cX4_between 128 = .ok (.goto 18, 3) := dk_167 0 18 (dk_at dksX4_between_5 16 rfl rfl)
theorem dX4_between_131 : decode cX4_between 131 = .ok (.lload_n 3, 1) := dk_33 (dk_at dksX4_between_5 19 rfl rfl)
theorem dX4_between_132 : decode cX4_between 132 = .ok (.ldc2_w 211, 3) := dk_20 0 211 (dk_at dksX4_between_5 20 rfl rfl)
theorem dX4_between_135 : decode cX4_between 135 = .ok (.lcmp, 1) := dk_148 (dk_at dksX4_between_5 23 rfl rfl)
theorem dX4_between_136 : decode cX4_between 136 = .ok (.ifCond .ge 9, 3) := dk_156 0 9 (dk_at dksX4_between_6 0 rfl rfl)
theorem dX4_between_139 : decode cX4_between 139 = .ok (.ldc2_w 211, 3) := dk_20 0 211 (dk_at dksX4_between_6 3 rfl rfl)
theorem dX4_between_142 : decode cX4_between 142 = .ok (.goto 4, 3) := dk_167 0 4 (dk_at dksX4_between_6 6 rfl rfl)
theorem dX4_between_145 : decode cX4_between 145 = .ok (.lload_n 3, 1) := dk_33 (dk_at dksX4_between_6 9 rfl rfl)
theorem dX4_between_146 : decode cX4_between 146 = .ok (.l2i, 1) := dk_136 (dk_at dksX4_between_6 10 rfl rfl)
theorem dX4_between_147 : decode cX4_between 147 = .ok (.ireturn, 1) := dk_172 (dk_at dksX4_between_6 11 rfl rfl)
abbrev cX4_by : ByteArray := prog_16_method_48_code
def yX4_by : MethodName := ⟨RX4, "by", "(II)I"⟩
def dkwX4_by_2 : List UInt8 := [182, 0, 246, 16, 6, 112, 172]
abbrev dktX4_by_2 : List UInt8 := dkwX4_by_2 ++ []
def dkwX4_by_1 : List UInt8 := [153, 0, 6, 16, 251, 172, 28, 154, 0, 14, 42, 27, 182, 0, 246, 16, 6, 108, 167, 0, 11, 42, 27]
abbrev dktX4_by_1 : List UInt8 := dkwX4_by_1 ++ dktX4_by_2
def dkwX4_by_0 : List UInt8 := [42, 3, 181, 0, 1, 28, 133, 9, 10, 184, 0, 142, 154, 0, 6, 16, 254, 172, 42, 27, 133, 182, 0, 242]
abbrev dktX4_by_0 : List UInt8 := dkwX4_by_0 ++ dktX4_by_1
theorem dksX4_by_0 : cX4_by.data.toList.drop 0 = dktX4_by_0 := by decide +kernel
theorem dksX4_by_1 : cX4_by.data.toList.drop 24 = dktX4_by_1 := dk_seg dksX4_by_0 24 rfl rfl
theorem dksX4_by_2 : cX4_by.data.toList.drop 47 = dktX4_by_2 := dk_seg dksX4_by_1 23 rfl rfl
theorem dX4_by_0 : decode cX4_by 0 = .ok (.aload_n 0, 1) := dk_42 (dk_at dksX4_by_0 0 rfl rfl)
theorem dX4_by_1 : decode cX4_by 1 = .ok (.iconst 0, 1) := dk_3 (dk_at dksX4_by_0 1 rfl rfl)
theorem dX4_by_2 : decode cX4_by 2 = .ok (.putfield 1, 3) := dk_181 0 1 (dk_at dksX4_by_0 2 rfl rfl)
theorem dX4_by_5 : decode cX4_by 5 = .ok (.iload_n 2, 1) := dk_28 (dk_at dksX4_by_0 5 rfl rfl)
theorem dX4_by_6 : decode cX4_by 6 = .ok (.i2l, 1) := dk_133 (dk_at dksX4_by_0 6 rfl rfl)
theorem dX4_by_7 : decode cX4_by 7 = .ok (.lconst 0, 1) := dk_9 (dk_at dksX4_by_0 7 rfl rfl)
theorem dX4_by_8 : decode cX4_by 8 = .ok (.lconst 1, 1) := dk_10 (dk_at dksX4_by_0 8 rfl rfl)
theorem dX4_by_9 : decode cX4_by 9 = .ok (.invokestatic 142, 3) := dk_184 0 142 (dk_at dksX4_by_0 9 rfl rfl)
theorem dX4_by_12 : decode cX4_by 12 = .ok (.ifCond .ne 6, 3) := dk_154 0 6 (dk_at dksX4_by_0 12 rfl rfl)
theorem dX4_by_15 : decode cX4_by 15 = .ok (.bipush (-2), 2) := dk_16 254 (dk_at dksX4_by_0 15 rfl rfl)
theorem dX4_by_17 : decode cX4_by 17 = .ok (.ireturn, 1) := dk_172 (dk_at dksX4_by_0 17 rfl rfl)
theorem dX4_by_18 : decode cX4_by 18 = .ok (.aload_n 0, 1) := dk_42 (dk_at dksX4_by_0 18 rfl rfl)
theorem dX4_by_19 : decode cX4_by 19 = .ok (.iload_n 1, 1) := dk_27 (dk_at dksX4_by_0 19 rfl rfl)
theorem dX4_by_20 : decode cX4_by 20 = .ok (.i2l, 1) := dk_133 (dk_at dksX4_by_0 20 rfl rfl)
theorem dX4_by_21 : decode cX4_by 21 = .ok (.invokevirtual 242, 3) := dk_182 0 242 (dk_at dksX4_by_0 21 rfl rfl)
theorem dX4_by_24 : decode cX4_by 24 = .ok (.ifCond .eq 6, 3) := dk_153 0 6 (dk_at dksX4_by_1 0 rfl rfl)
theorem dX4_by_27 : decode cX4_by 27 = .ok (.bipush (-5), 2) := dk_16 251 (dk_at dksX4_by_1 3 rfl rfl)
theorem dX4_by_29 : decode cX4_by 29 = .ok (.ireturn, 1) := dk_172 (dk_at dksX4_by_1 5 rfl rfl)
theorem dX4_by_30 : decode cX4_by 30 = .ok (.iload_n 2, 1) := dk_28 (dk_at dksX4_by_1 6 rfl rfl)
theorem dX4_by_31 : decode cX4_by 31 = .ok (.ifCond .ne 14, 3) := dk_154 0 14 (dk_at dksX4_by_1 7 rfl rfl)
theorem dX4_by_34 : decode cX4_by 34 = .ok (.aload_n 0, 1) := dk_42 (dk_at dksX4_by_1 10 rfl rfl)
theorem dX4_by_35 : decode cX4_by 35 = .ok (.iload_n 1, 1) := dk_27 (dk_at dksX4_by_1 11 rfl rfl)
theorem dX4_by_36 : decode cX4_by 36 = .ok (.invokevirtual 246, 3) := dk_182 0 246 (dk_at dksX4_by_1 12 rfl rfl)
theorem dX4_by_39 : decode cX4_by 39 = .ok (.bipush 6, 2) := dk_16 6 (dk_at dksX4_by_1 15 rfl rfl)
theorem dX4_by_41 : decode cX4_by 41 = .ok (.idiv, 1) := dk_108 (dk_at dksX4_by_1 17 rfl rfl)
theorem dX4_by_42 : decode cX4_by 42 = .ok (.goto 11, 3) := dk_167 0 11 (dk_at dksX4_by_1 18 rfl rfl)
theorem dX4_by_45 : decode cX4_by 45 = .ok (.aload_n 0, 1) := dk_42 (dk_at dksX4_by_1 21 rfl rfl)
theorem dX4_by_46 : decode cX4_by 46 = .ok (.iload_n 1, 1) := dk_27 (dk_at dksX4_by_1 22 rfl rfl)
theorem dX4_by_47 : decode cX4_by 47 = .ok (.invokevirtual 246, 3) := dk_182 0 246 (dk_at dksX4_by_2 0 rfl rfl)
theorem dX4_by_50 : decode cX4_by 50 = .ok (.bipush 6, 2) := dk_16 6 (dk_at dksX4_by_2 3 rfl rfl)
theorem dX4_by_52 : decode cX4_by 52 = .ok (.irem, 1) := dk_112 (dk_at dksX4_by_2 5 rfl rfl)
theorem dX4_by_53 : decode cX4_by 53 = .ok (.ireturn, 1) := dk_172 (dk_at dksX4_by_2 6 rfl rfl)
abbrev cX4_toBy : ByteArray := prog_16_method_45_code
def yX4_toBy : MethodName := ⟨RX4, "toBy", "(I)I"⟩
def dkwX4_toBy_0 : List UInt8 := [42, 42, 182, 0, 232, 27, 42, 180, 0, 13, 16, 44, 46, 42, 180, 0, 13, 16, 45, 46, 182, 0, 239, 172]
abbrev dktX4_toBy_0 : List UInt8 := dkwX4_toBy_0 ++ []
theorem dksX4_toBy_0 : cX4_toBy.data.toList.drop 0 = dktX4_toBy_0 := by decide +kernel
theorem dX4_toBy_0 : decode cX4_toBy 0 = .ok (.aload_n 0, 1) := dk_42 (dk_at dksX4_toBy_0 0 rfl rfl)
theorem dX4_toBy_1 : decode cX4_toBy 1 = .ok (.aload_n 0, 1) := dk_42 (dk_at dksX4_toBy_0 1 rfl rfl)
theorem dX4_toBy_2 : decode cX4_toBy 2 = .ok (.invokevirtual 232, 3) := dk_182 0 232 (dk_at dksX4_toBy_0 2 rfl rfl)
theorem dX4_toBy_5 : decode cX4_toBy 5 = .ok (.iload_n 1, 1) := dk_27 (dk_at dksX4_toBy_0 5 rfl rfl)
theorem dX4_toBy_6 : decode cX4_toBy 6 = .ok (.aload_n 0, 1) := dk_42 (dk_at dksX4_toBy_0 6 rfl rfl)
theorem dX4_toBy_7 : decode cX4_toBy 7 = .ok (.getfield 13, 3) := dk_180 0 13 (dk_at dksX4_toBy_0 7 rfl rfl)
theorem dX4_toBy_10 : decode cX4_toBy 10 = .ok (.bipush 44, 2) := dk_16 44 (dk_at dksX4_toBy_0 10 rfl rfl)
theorem dX4_toBy_12 : decode cX4_toBy 12 = .ok (.iaload, 1) := dk_46 (dk_at dksX4_toBy_0 12 rfl rfl)
theorem dX4_toBy_13 : decode cX4_toBy 13 = .ok (.aload_n 0, 1) := dk_42 (dk_at dksX4_toBy_0 13 rfl rfl)
theorem dX4_toBy_14 : decode cX4_toBy 14 = .ok (.getfield 13, 3) := dk_180 0 13 (dk_at dksX4_toBy_0 14 rfl rfl)
theorem dX4_toBy_17 : decode cX4_toBy 17 = .ok (.bipush 45, 2) := dk_16 45 (dk_at dksX4_toBy_0 17 rfl rfl)
theorem dX4_toBy_19 : decode cX4_toBy 19 = .ok (.iaload, 1) := dk_46 (dk_at dksX4_toBy_0 19 rfl rfl)
theorem dX4_toBy_20 : decode cX4_toBy 20 = .ok (.invokevirtual 239, 3) := dk_182 0 239 (dk_at dksX4_toBy_0 20 rfl rfl)
theorem dX4_toBy_23 : decode cX4_toBy 23 = .ok (.ireturn, 1) := dk_172 (dk_at dksX4_toBy_0 23 rfl rfl)
abbrev cX4_goneTo : ByteArray := prog_16_method_43_code
def yX4_goneTo : MethodName := ⟨RX4, "goneTo", "(IIII)I"⟩
def dkwX4_goneTo_5 : List UInt8 := [167, 0, 5, 21, 6, 96, 172]
abbrev dktX4_goneTo_5 : List UInt8 := dkwX4_goneTo_5 ++ []
def dkwX4_goneTo_4 : List UInt8 := [132, 6, 1, 16, 6, 21, 5, 104, 21, 6, 156, 0, 7, 3, 167, 0, 15, 21, 6, 8, 164, 0, 7, 8]
abbrev dktX4_goneTo_4 : List UInt8 := dkwX4_goneTo_4 ++ dktX4_goneTo_5
def dkwX4_goneTo_3 : List UInt8 := [42, 180, 0, 13, 16, 26, 28, 96, 46, 7, 164, 0, 15, 29, 133, 28, 184, 0, 224, 154, 0, 6]
abbrev dktX4_goneTo_3 : List UInt8 := dkwX4_goneTo_3 ++ dktX4_goneTo_4
def dkwX4_goneTo_2 : List UInt8 := [180, 0, 13, 7, 46, 4, 160, 0, 18, 42, 3, 27, 28, 29, 21, 4, 182, 0, 220, 54, 6, 167, 0, 28]
abbrev dktX4_goneTo_2 : List UInt8 := dkwX4_goneTo_2 ++ dktX4_goneTo_3
def dkwX4_goneTo_1 : List UInt8 := [46, 167, 0, 12, 42, 180, 0, 13, 16, 10, 28, 96, 46, 54, 5, 27, 16, 6, 112, 54, 6, 42]
abbrev dktX4_goneTo_1 : List UInt8 := dkwX4_goneTo_1 ++ dktX4_goneTo_2
def dkwX4_goneTo_0 : List UInt8 := [27, 16, 6, 108, 42, 180, 0, 13, 16, 10, 28, 96, 46, 160, 0, 15, 42, 180, 0, 13, 16, 18, 28, 96]
abbrev dktX4_goneTo_0 : List UInt8 := dkwX4_goneTo_0 ++ dktX4_goneTo_1
theorem dksX4_goneTo_0 : cX4_goneTo.data.toList.drop 0 = dktX4_goneTo_0 := by decide +kernel
theorem dksX4_goneTo_1 : cX4_goneTo.data.toList.drop 24 = dktX4_goneTo_1 := dk_seg dksX4_goneTo_0 24 rfl rfl
theorem dksX4_goneTo_2 : cX4_goneTo.data.toList.drop 46 = dktX4_goneTo_2 := dk_seg dksX4_goneTo_1 22 rfl rfl
theorem dksX4_goneTo_3 : cX4_goneTo.data.toList.drop 70 = dktX4_goneTo_3 := dk_seg dksX4_goneTo_2 24 rfl rfl
theorem dksX4_goneTo_4 : cX4_goneTo.data.toList.drop 92 = dktX4_goneTo_4 := dk_seg dksX4_goneTo_3 22 rfl rfl
theorem dksX4_goneTo_5 : cX4_goneTo.data.toList.drop 116 = dktX4_goneTo_5 := dk_seg dksX4_goneTo_4 24 rfl rfl
theorem dX4_goneTo_0 : decode cX4_goneTo 0 = .ok (.iload_n 1, 1) := dk_27 (dk_at dksX4_goneTo_0 0 rfl rfl)
theorem dX4_goneTo_1 : decode cX4_goneTo 1 = .ok (.bipush 6, 2) := dk_16 6 (dk_at dksX4_goneTo_0 1 rfl rfl)
theorem dX4_goneTo_3 : decode cX4_goneTo 3 = .ok (.idiv, 1) := dk_108 (dk_at dksX4_goneTo_0 3 rfl rfl)
theorem dX4_goneTo_4 : decode cX4_goneTo 4 = .ok (.aload_n 0, 1) := dk_42 (dk_at dksX4_goneTo_0 4 rfl rfl)
theorem dX4_goneTo_5 : decode cX4_goneTo 5 = .ok (.getfield 13, 3) := dk_180 0 13 (dk_at dksX4_goneTo_0 5 rfl rfl)
theorem dX4_goneTo_8 : decode cX4_goneTo 8 = .ok (.bipush 10, 2) := dk_16 10 (dk_at dksX4_goneTo_0 8 rfl rfl)
theorem dX4_goneTo_10 : decode cX4_goneTo 10 = .ok (.iload_n 2, 1) := dk_28 (dk_at dksX4_goneTo_0 10 rfl rfl)
theorem dX4_goneTo_11 : decode cX4_goneTo 11 = .ok (.iadd, 1) := dk_96 (dk_at dksX4_goneTo_0 11 rfl rfl)
theorem dX4_goneTo_12 : decode cX4_goneTo 12 = .ok (.iaload, 1) := dk_46 (dk_at dksX4_goneTo_0 12 rfl rfl)
theorem dX4_goneTo_13 : decode cX4_goneTo 13 = .ok (.if_icmp .ne 15, 3) := dk_160 0 15 (dk_at dksX4_goneTo_0 13 rfl rfl)
theorem dX4_goneTo_16 : decode cX4_goneTo 16 = .ok (.aload_n 0, 1) := dk_42 (dk_at dksX4_goneTo_0 16 rfl rfl)
theorem dX4_goneTo_17 : decode cX4_goneTo 17 = .ok (.getfield 13, 3) := dk_180 0 13 (dk_at dksX4_goneTo_0 17 rfl rfl)
theorem dX4_goneTo_20 : decode cX4_goneTo 20 = .ok (.bipush 18, 2) := dk_16 18 (dk_at dksX4_goneTo_0 20 rfl rfl)
theorem dX4_goneTo_22 : decode cX4_goneTo 22 = .ok (.iload_n 2, 1) := dk_28 (dk_at dksX4_goneTo_0 22 rfl rfl)
theorem dX4_goneTo_23 : decode cX4_goneTo 23 = .ok (.iadd, 1) := dk_96 (dk_at dksX4_goneTo_0 23 rfl rfl)
theorem dX4_goneTo_24 : decode cX4_goneTo 24 = .ok (.iaload, 1) := dk_46 (dk_at dksX4_goneTo_1 0 rfl rfl)
theorem dX4_goneTo_25 : decode cX4_goneTo 25 = .ok (.goto 12, 3) := dk_167 0 12 (dk_at dksX4_goneTo_1 1 rfl rfl)
theorem dX4_goneTo_28 : decode cX4_goneTo 28 = .ok (.aload_n 0, 1) := dk_42 (dk_at dksX4_goneTo_1 4 rfl rfl)
theorem dX4_goneTo_29 : decode cX4_goneTo 29 = .ok (.getfield 13, 3) := dk_180 0 13 (dk_at dksX4_goneTo_1 5 rfl rfl)
theorem dX4_goneTo_32 : decode cX4_goneTo 32 = .ok (.bipush 10, 2) := dk_16 10 (dk_at dksX4_goneTo_1 8 rfl rfl)
theorem dX4_goneTo_34 : decode cX4_goneTo 34 = .ok (.iload_n 2, 1) := dk_28 (dk_at dksX4_goneTo_1 10 rfl rfl)
theorem dX4_goneTo_35 : decode cX4_goneTo 35 = .ok (.iadd, 1) := dk_96 (dk_at dksX4_goneTo_1 11 rfl rfl)
theorem dX4_goneTo_36 : decode cX4_goneTo 36 = .ok (.iaload, 1) := dk_46 (dk_at dksX4_goneTo_1 12 rfl rfl)
theorem dX4_goneTo_37 : decode cX4_goneTo 37 = .ok (.istore 5, 2) := dk_54 5 (dk_at dksX4_goneTo_1 13 rfl rfl)
theorem dX4_goneTo_39 : decode cX4_goneTo 39 = .ok (.iload_n 1, 1) := dk_27 (dk_at dksX4_goneTo_1 15 rfl rfl)
theorem dX4_goneTo_40 : decode cX4_goneTo 40 = .ok (.bipush 6, 2) := dk_16 6 (dk_at dksX4_goneTo_1 16 rfl rfl)
theorem dX4_goneTo_42 : decode cX4_goneTo 42 = .ok (.irem, 1) := dk_112 (dk_at dksX4_goneTo_1 18 rfl rfl)
theorem dX4_goneTo_43 : decode cX4_goneTo 43 = .ok (.istore 6, 2) := dk_54 6 (dk_at dksX4_goneTo_1 19 rfl rfl)
theorem dX4_goneTo_45 : decode cX4_goneTo 45 = .ok (.aload_n 0, 1) := dk_42 (dk_at dksX4_goneTo_1 21 rfl rfl)
theorem dX4_goneTo_46 : decode cX4_goneTo 46 = .ok (.getfield 13, 3) := dk_180 0 13 (dk_at dksX4_goneTo_2 0 rfl rfl)
theorem dX4_goneTo_49 : decode cX4_goneTo 49 = .ok (.iconst 4, 1) := dk_7 (dk_at dksX4_goneTo_2 3 rfl rfl)
theorem dX4_goneTo_50 : decode cX4_goneTo 50 = .ok (.iaload, 1) := dk_46 (dk_at dksX4_goneTo_2 4 rfl rfl)
theorem dX4_goneTo_51 : decode cX4_goneTo 51 = .ok (.iconst 1, 1) := dk_4 (dk_at dksX4_goneTo_2 5 rfl rfl)
theorem dX4_goneTo_52 : decode cX4_goneTo 52 = .ok (.if_icmp .ne 18, 3) := dk_160 0 18 (dk_at dksX4_goneTo_2 6 rfl rfl)
theorem dX4_goneTo_55 : decode cX4_goneTo 55 = .ok (.aload_n 0, 1) := dk_42 (dk_at dksX4_goneTo_2 9 rfl rfl)
theorem dX4_goneTo_56 : decode cX4_goneTo 56 = .ok (.iconst 0, 1) := dk_3 (dk_at dksX4_goneTo_2 10 rfl rfl)
theorem dX4_goneTo_57 : decode cX4_goneTo 57 = .ok (.iload_n 1, 1) := dk_27 (dk_at dksX4_goneTo_2 11 rfl rfl)
theorem dX4_goneTo_58 : decode cX4_goneTo 58 = .ok (.iload_n 2, 1) := dk_28 (dk_at dksX4_goneTo_2 12 rfl rfl)
theorem dX4_goneTo_59 : decode cX4_goneTo 59 = .ok (.iload_n 3, 1) := dk_29 (dk_at dksX4_goneTo_2 13 rfl rfl)
theorem dX4_goneTo_60 : decode cX4_goneTo 60 = .ok (.iload 4, 2) := dk_21 4 (dk_at dksX4_goneTo_2 14 rfl rfl)
theorem dX4_goneTo_62 : decode cX4_goneTo 62 = .ok (.invokevirtual 220, 3) := dk_182 0 220 (dk_at dksX4_goneTo_2 16 rfl rfl)
theorem dX4_goneTo_65 : decode cX4_goneTo 65 = .ok (.istore 6, 2) := dk_54 6 (dk_at dksX4_goneTo_2 19 rfl rfl)
theorem dX4_goneTo_67 : decode cX4_goneTo 67 = .ok (.goto 28, 3) := dk_167 0 28 (dk_at dksX4_goneTo_2 21 rfl rfl)
theorem dX4_goneTo_70 : decode cX4_goneTo 70 = .ok (.aload_n 0, 1) := dk_42 (dk_at dksX4_goneTo_3 0 rfl rfl)
theorem dX4_goneTo_71 : decode cX4_goneTo 71 = .ok (.getfield 13, 3) := dk_180 0 13 (dk_at dksX4_goneTo_3 1 rfl rfl)
theorem dX4_goneTo_74 : decode cX4_goneTo 74 = .ok (.bipush 26, 2) := dk_16 26 (dk_at dksX4_goneTo_3 4 rfl rfl)
theorem dX4_goneTo_76 : decode cX4_goneTo 76 = .ok (.iload_n 2, 1) := dk_28 (dk_at dksX4_goneTo_3 6 rfl rfl)
theorem dX4_goneTo_77 : decode cX4_goneTo 77 = .ok (.iadd, 1) := dk_96 (dk_at dksX4_goneTo_3 7 rfl rfl)
theorem dX4_goneTo_78 : decode cX4_goneTo 78 = .ok (.iaload, 1) := dk_46 (dk_at dksX4_goneTo_3 8 rfl rfl)
theorem dX4_goneTo_79 : decode cX4_goneTo 79 = .ok (.iconst 4, 1) := dk_7 (dk_at dksX4_goneTo_3 9 rfl rfl)
theorem dX4_goneTo_80 : decode cX4_goneTo 80 = .ok (.if_icmp .le 15, 3) := dk_164 0 15 (dk_at dksX4_goneTo_3 10 rfl rfl)
theorem dX4_goneTo_83 : decode cX4_goneTo 83 = .ok (.iload_n 3, 1) := dk_29 (dk_at dksX4_goneTo_3 13 rfl rfl)
theorem dX4_goneTo_84 : decode cX4_goneTo 84 = .ok (.i2l, 1) := dk_133 (dk_at dksX4_goneTo_3 14 rfl rfl)
theorem dX4_goneTo_85 : decode cX4_goneTo 85 = .ok (.iload_n 2, 1) := dk_28 (dk_at dksX4_goneTo_3 15 rfl rfl)
theorem dX4_goneTo_86 : decode cX4_goneTo 86 = .ok (.invokestatic 224, 3) := dk_184 0 224 (dk_at dksX4_goneTo_3 16 rfl rfl)
theorem dX4_goneTo_89 : decode cX4_goneTo 89 = .ok (.ifCond .ne 6, 3) := dk_154 0 6 (dk_at dksX4_goneTo_3 19 rfl rfl)
theorem dX4_goneTo_92 : decode cX4_goneTo 92 = .ok (.iinc 6 1, 3) := dk_132 6 1 (dk_at dksX4_goneTo_4 0 rfl rfl)
theorem dX4_goneTo_95 : decode cX4_goneTo 95 = .ok (.bipush 6, 2) := dk_16 6 (dk_at dksX4_goneTo_4 3 rfl rfl)
theorem dX4_goneTo_97 : decode cX4_goneTo 97 = .ok (.iload 5, 2) := dk_21 5 (dk_at dksX4_goneTo_4 5 rfl rfl)
theorem dX4_goneTo_99 : decode cX4_goneTo 99 = .ok (.imul, 1) := dk_104 (dk_at dksX4_goneTo_4 7 rfl rfl)
theorem dX4_goneTo_100 : decode cX4_goneTo 100 = .ok (.iload 6, 2) := dk_21 6 (dk_at dksX4_goneTo_4 8 rfl rfl)
theorem dX4_goneTo_102 : decode cX4_goneTo 102 = .ok (.ifCond .ge 7, 3) := dk_156 0 7 (dk_at dksX4_goneTo_4 10 rfl rfl)
theorem dX4_goneTo_105 : decode cX4_goneTo 105 = .ok (.iconst 0, 1) := dk_3 (dk_at dksX4_goneTo_4 13 rfl rfl)
theorem dX4_goneTo_106 : decode cX4_goneTo 106 = .ok (.goto 15, 3) := dk_167 0 15 (dk_at dksX4_goneTo_4 14 rfl rfl)
theorem dX4_goneTo_109 : decode cX4_goneTo 109 = .ok (.iload 6, 2) := dk_21 6 (dk_at dksX4_goneTo_4 17 rfl rfl)
theorem dX4_goneTo_111 : decode cX4_goneTo 111 = .ok (.iconst 5, 1) := dk_8 (dk_at dksX4_goneTo_4 19 rfl rfl)
theorem dX4_goneTo_112 : decode cX4_goneTo 112 = .ok (.if_icmp .le 7, 3) := dk_164 0 7 (dk_at dksX4_goneTo_4 20 rfl rfl)
theorem dX4_goneTo_115 : decode cX4_goneTo 115 = .ok (.iconst 5, 1) := dk_8 (dk_at dksX4_goneTo_4 23 rfl rfl)
theorem dX4_goneTo_116 : decode cX4_goneTo 116 = .ok (.goto 5, 3) := dk_167 0 5 (dk_at dksX4_goneTo_5 0 rfl rfl)
theorem dX4_goneTo_119 : decode cX4_goneTo 119 = .ok (.iload 6, 2) := dk_21 6 (dk_at dksX4_goneTo_5 3 rfl rfl)
theorem dX4_goneTo_121 : decode cX4_goneTo 121 = .ok (.iadd, 1) := dk_96 (dk_at dksX4_goneTo_5 5 rfl rfl)
theorem dX4_goneTo_122 : decode cX4_goneTo 122 = .ok (.ireturn, 1) := dk_172 (dk_at dksX4_goneTo_5 6 rfl rfl)
abbrev cX4_isIn : ByteArray := prog_16_method_15_code
def yX4_isIn : MethodName := ⟨RX4, "isIn", "(JI)Z"⟩
def dkwX4_isIn_0 : List UInt8 := [30, 28, 123, 10, 127, 10, 148, 154, 0, 7, 4, 167, 0, 4, 3, 172]
abbrev dktX4_isIn_0 : List UInt8 := dkwX4_isIn_0 ++ []
theorem dksX4_isIn_0 : cX4_isIn.data.toList.drop 0 = dktX4_isIn_0 := by decide +kernel
theorem dX4_isIn_0 : decode cX4_isIn 0 = .ok (.lload_n 0, 1) := dk_30 (dk_at dksX4_isIn_0 0 rfl rfl)
theorem dX4_isIn_1 : decode cX4_isIn 1 = .ok (.iload_n 2, 1) := dk_28 (dk_at dksX4_isIn_0 1 rfl rfl)
theorem dX4_isIn_2 : decode cX4_isIn 2 = .ok (.lshr, 1) := dk_123 (dk_at dksX4_isIn_0 2 rfl rfl)
theorem dX4_isIn_3 : decode cX4_isIn 3 = .ok (.lconst 1, 1) := dk_10 (dk_at dksX4_isIn_0 3 rfl rfl)
theorem dX4_isIn_4 : decode cX4_isIn 4 = .ok (.land, 1) := dk_127 (dk_at dksX4_isIn_0 4 rfl rfl)
theorem dX4_isIn_5 : decode cX4_isIn 5 = .ok (.lconst 1, 1) := dk_10 (dk_at dksX4_isIn_0 5 rfl rfl)
theorem dX4_isIn_6 : decode cX4_isIn 6 = .ok (.lcmp, 1) := dk_148 (dk_at dksX4_isIn_0 6 rfl rfl)
theorem dX4_isIn_7 : decode cX4_isIn 7 = .ok (.ifCond .ne 7, 3) := dk_154 0 7 (dk_at dksX4_isIn_0 7 rfl rfl)
theorem dX4_isIn_10 : decode cX4_isIn 10 = .ok (.iconst 1, 1) := dk_4 (dk_at dksX4_isIn_0 10 rfl rfl)
theorem dX4_isIn_11 : decode cX4_isIn 11 = .ok (.goto 4, 3) := dk_167 0 4 (dk_at dksX4_isIn_0 11 rfl rfl)
theorem dX4_isIn_14 : decode cX4_isIn 14 = .ok (.iconst 0, 1) := dk_3 (dk_at dksX4_isIn_0 14 rfl rfl)
theorem dX4_isIn_15 : decode cX4_isIn 15 = .ok (.ireturn, 1) := dk_172 (dk_at dksX4_isIn_0 15 rfl rfl)
abbrev cX4_go : ByteArray := prog_16_method_54_code
def yX4_go : MethodName := ⟨RX4, "go", "(I)I"⟩
def dkwX4_go_1 : List UInt8 := [182, 0, 252, 42, 27, 182, 0, 255, 42, 182, 1, 2, 42, 180, 0, 13, 16, 43, 46, 172]
abbrev dktX4_go_1 : List UInt8 := dkwX4_go_1 ++ []
def dkwX4_go_0 : List UInt8 := [42, 3, 181, 0, 1, 42, 27, 133, 182, 0, 242, 61, 28, 153, 0, 8, 16, 246, 28, 100, 172, 42]
abbrev dktX4_go_0 : List UInt8 := dkwX4_go_0 ++ dktX4_go_1
theorem dksX4_go_0 : cX4_go.data.toList.drop 0 = dktX4_go_0 := by decide +kernel
theorem dksX4_go_1 : cX4_go.data.toList.drop 22 = dktX4_go_1 := dk_seg dksX4_go_0 22 rfl rfl
theorem dX4_go_0 : decode cX4_go 0 = .ok (.aload_n 0, 1) := dk_42 (dk_at dksX4_go_0 0 rfl rfl)
theorem dX4_go_1 : decode cX4_go 1 = .ok (.iconst 0, 1) := dk_3 (dk_at dksX4_go_0 1 rfl rfl)
theorem dX4_go_2 : decode cX4_go 2 = .ok (.putfield 1, 3) := dk_181 0 1 (dk_at dksX4_go_0 2 rfl rfl)
theorem dX4_go_5 : decode cX4_go 5 = .ok (.aload_n 0, 1) := dk_42 (dk_at dksX4_go_0 5 rfl rfl)
theorem dX4_go_6 : decode cX4_go 6 = .ok (.iload_n 1, 1) := dk_27 (dk_at dksX4_go_0 6 rfl rfl)
theorem dX4_go_7 : decode cX4_go 7 = .ok (.i2l, 1) := dk_133 (dk_at dksX4_go_0 7 rfl rfl)
theorem dX4_go_8 : decode cX4_go 8 = .ok (.invokevirtual 242, 3) := dk_182 0 242 (dk_at dksX4_go_0 8 rfl rfl)
theorem dX4_go_11 : decode cX4_go 11 = .ok (.istore_n 2, 1) := dk_61 (dk_at dksX4_go_0 11 rfl rfl)
theorem dX4_go_12 : decode cX4_go 12 = .ok (.iload_n 2, 1) := dk_28 (dk_at dksX4_go_0 12 rfl rfl)
theorem dX4_go_13 : decode cX4_go 13 = .ok (.ifCond .eq 8, 3) := dk_153 0 8 (dk_at dksX4_go_0 13 rfl rfl)
theorem dX4_go_16 : decode cX4_go 16 = .ok (.bipush (-10), 2) := dk_16 246 (dk_at dksX4_go_0 16 rfl rfl)
theorem dX4_go_18 : decode cX4_go 18 = .ok (.iload_n 2, 1) := dk_28 (dk_at dksX4_go_0 18 rfl rfl)
theorem dX4_go_19 : decode cX4_go 19 = .ok (.isub, 1) := dk_100 (dk_at dksX4_go_0 19 rfl rfl)
theorem dX4_go_20 : decode cX4_go 20 = .ok (.ireturn, 1) := dk_172 (dk_at dksX4_go_0 20 rfl rfl)
theorem dX4_go_21 : decode cX4_go 21 = .ok (.aload_n 0, 1) := dk_42 (dk_at dksX4_go_0 21 rfl rfl)
theorem dX4_go_22 : decode cX4_go 22 = .ok (.invokevirtual 252, 3) := dk_182 0 252 (dk_at dksX4_go_1 0 rfl rfl)
theorem dX4_go_25 : decode cX4_go 25 = .ok (.aload_n 0, 1) := dk_42 (dk_at dksX4_go_1 3 rfl rfl)
theorem dX4_go_26 : decode cX4_go 26 = .ok (.iload_n 1, 1) := dk_27 (dk_at dksX4_go_1 4 rfl rfl)
theorem dX4_go_27 : decode cX4_go 27 = .ok (.invokevirtual 255, 3) := dk_182 0 255 (dk_at dksX4_go_1 5 rfl rfl)
theorem dX4_go_30 : decode cX4_go 30 = .ok (.aload_n 0, 1) := dk_42 (dk_at dksX4_go_1 8 rfl rfl)
theorem dX4_go_31 : decode cX4_go 31 = .ok (.invokevirtual 258, 3) := dk_182 1 2 (dk_at dksX4_go_1 9 rfl rfl)
theorem dX4_go_34 : decode cX4_go 34 = .ok (.aload_n 0, 1) := dk_42 (dk_at dksX4_go_1 12 rfl rfl)
theorem dX4_go_35 : decode cX4_go 35 = .ok (.getfield 13, 3) := dk_180 0 13 (dk_at dksX4_go_1 13 rfl rfl)
theorem dX4_go_38 : decode cX4_go 38 = .ok (.bipush 43, 2) := dk_16 43 (dk_at dksX4_go_1 16 rfl rfl)
theorem dX4_go_40 : decode cX4_go 40 = .ok (.iaload, 1) := dk_46 (dk_at dksX4_go_1 18 rfl rfl)
theorem dX4_go_41 : decode cX4_go 41 = .ok (.ireturn, 1) := dk_172 (dk_at dksX4_go_1 19 rfl rfl)
abbrev cX4_keeps : ByteArray := prog_16_method_49_code
def yX4_keeps : MethodName := ⟨RX4, "keeps", "()V"⟩
def dkwX4_keeps_1 : List UInt8 := [132, 1, 1, 167, 255, 233, 177]
abbrev dktX4_keeps_1 : List UInt8 := dkwX4_keeps_1 ++ []
def dkwX4_keeps_0 : List UInt8 := [3, 60, 27, 8, 162, 0, 24, 42, 180, 0, 36, 27, 42, 180, 0, 13, 16, 42, 27, 96, 46, 79]
abbrev dktX4_keeps_0 : List UInt8 := dkwX4_keeps_0 ++ dktX4_keeps_1
theorem dksX4_keeps_0 : cX4_keeps.data.toList.drop 0 = dktX4_keeps_0 := by decide +kernel
theorem dksX4_keeps_1 : cX4_keeps.data.toList.drop 22 = dktX4_keeps_1 := dk_seg dksX4_keeps_0 22 rfl rfl
theorem dX4_keeps_0 : decode cX4_keeps 0 = .ok (.iconst 0, 1) := dk_3 (dk_at dksX4_keeps_0 0 rfl rfl)
theorem dX4_keeps_1 : decode cX4_keeps 1 = .ok (.istore_n 1, 1) := dk_60 (dk_at dksX4_keeps_0 1 rfl rfl)
theorem dX4_keeps_2 : decode cX4_keeps 2 = .ok (.iload_n 1, 1) := dk_27 (dk_at dksX4_keeps_0 2 rfl rfl)
theorem dX4_keeps_3 : decode cX4_keeps 3 = .ok (.iconst 5, 1) := dk_8 (dk_at dksX4_keeps_0 3 rfl rfl)
theorem dX4_keeps_4 : decode cX4_keeps 4 = .ok (.if_icmp .ge 24, 3) := dk_162 0 24 (dk_at dksX4_keeps_0 4 rfl rfl)
theorem dX4_keeps_7 : decode cX4_keeps 7 = .ok (.aload_n 0, 1) := dk_42 (dk_at dksX4_keeps_0 7 rfl rfl)
theorem dX4_keeps_8 : decode cX4_keeps 8 = .ok (.getfield 36, 3) := dk_180 0 36 (dk_at dksX4_keeps_0 8 rfl rfl)
theorem dX4_keeps_11 : decode cX4_keeps 11 = .ok (.iload_n 1, 1) := dk_27 (dk_at dksX4_keeps_0 11 rfl rfl)
theorem dX4_keeps_12 : decode cX4_keeps 12 = .ok (.aload_n 0, 1) := dk_42 (dk_at dksX4_keeps_0 12 rfl rfl)
theorem dX4_keeps_13 : decode cX4_keeps 13 = .ok (.getfield 13, 3) := dk_180 0 13 (dk_at dksX4_keeps_0 13 rfl rfl)
theorem dX4_keeps_16 : decode cX4_keeps 16 = .ok (.bipush 42, 2) := dk_16 42 (dk_at dksX4_keeps_0 16 rfl rfl)
theorem dX4_keeps_18 : decode cX4_keeps 18 = .ok (.iload_n 1, 1) := dk_27 (dk_at dksX4_keeps_0 18 rfl rfl)
theorem dX4_keeps_19 : decode cX4_keeps 19 = .ok (.iadd, 1) := dk_96 (dk_at dksX4_keeps_0 19 rfl rfl)
theorem dX4_keeps_20 : decode cX4_keeps 20 = .ok (.iaload, 1) := dk_46 (dk_at dksX4_keeps_0 20 rfl rfl)
theorem dX4_keeps_21 : decode cX4_keeps 21 = .ok (.iastore, 1) := dk_79 (dk_at dksX4_keeps_0 21 rfl rfl)
theorem dX4_keeps_22 : decode cX4_keeps 22 = .ok (.iinc 1 1, 3) := dk_132 1 1 (dk_at dksX4_keeps_1 0 rfl rfl)
theorem dX4_keeps_25 : decode cX4_keeps 25 = .ok (.goto (-23), 3) := dk_167 255 233 (dk_at dksX4_keeps_1 3 rfl rfl)
theorem dX4_keeps_28 : decode cX4_keeps 28 = .ok (.return_, 1) := dk_177 (dk_at dksX4_keeps_1 6 rfl rfl)
abbrev cX4_steps : ByteArray := prog_16_method_53_code
def yX4_steps : MethodName := ⟨RX4, "steps", "(I)V"⟩
def dkwX4_steps_0 : List UInt8 := [42, 42, 27, 182, 0, 246, 182, 0, 249, 42, 180, 0, 13, 16, 46, 92, 46, 4, 96, 79, 177]
abbrev dktX4_steps_0 : List UInt8 := dkwX4_steps_0 ++ []
theorem dksX4_steps_0 : cX4_steps.data.toList.drop 0 = dktX4_steps_0 := by decide +kernel
theorem dX4_steps_0 : decode cX4_steps 0 = .ok (.aload_n 0, 1) := dk_42 (dk_at dksX4_steps_0 0 rfl rfl)
theorem dX4_steps_1 : decode cX4_steps 1 = .ok (.aload_n 0, 1) := dk_42 (dk_at dksX4_steps_0 1 rfl rfl)
theorem dX4_steps_2 : decode cX4_steps 2 = .ok (.iload_n 1, 1) := dk_27 (dk_at dksX4_steps_0 2 rfl rfl)
theorem dX4_steps_3 : decode cX4_steps 3 = .ok (.invokevirtual 246, 3) := dk_182 0 246 (dk_at dksX4_steps_0 3 rfl rfl)
theorem dX4_steps_6 : decode cX4_steps 6 = .ok (.invokevirtual 249, 3) := dk_182 0 249 (dk_at dksX4_steps_0 6 rfl rfl)
theorem dX4_steps_9 : decode cX4_steps 9 = .ok (.aload_n 0, 1) := dk_42 (dk_at dksX4_steps_0 9 rfl rfl)
theorem dX4_steps_10 : decode cX4_steps 10 = .ok (.getfield 13, 3) := dk_180 0 13 (dk_at dksX4_steps_0 10 rfl rfl)
theorem dX4_steps_13 : decode cX4_steps 13 = .ok (.bipush 46, 2) := dk_16 46 (dk_at dksX4_steps_0 13 rfl rfl)
theorem dX4_steps_15 : decode cX4_steps 15 = .ok (.dup2, 1) := dk_92 (dk_at dksX4_steps_0 15 rfl rfl)
theorem dX4_steps_16 : decode cX4_steps 16 = .ok (.iaload, 1) := dk_46 (dk_at dksX4_steps_0 16 rfl rfl)
theorem dX4_steps_17 : decode cX4_steps 17 = .ok (.iconst 1, 1) := dk_4 (dk_at dksX4_steps_0 17 rfl rfl)
theorem dX4_steps_18 : decode cX4_steps 18 = .ok (.iadd, 1) := dk_96 (dk_at dksX4_steps_0 18 rfl rfl)
theorem dX4_steps_19 : decode cX4_steps 19 = .ok (.iastore, 1) := dk_79 (dk_at dksX4_steps_0 19 rfl rfl)
theorem dX4_steps_20 : decode cX4_steps 20 = .ok (.return_, 1) := dk_177 (dk_at dksX4_steps_0 20 rfl rfl)
abbrev cX4_isAt : ByteArray := prog_16_method_52_code
def yX4_isAt : MethodName := ⟨RX4, "isAt", "(I)V"⟩
def dkwX4_isAt_0 : List UInt8 := [42, 180, 0, 13, 16, 42, 27, 16, 6, 108, 79, 42, 180, 0, 13, 16, 43, 27, 16, 6, 112, 79, 177]
abbrev dktX4_isAt_0 : List UInt8 := dkwX4_isAt_0 ++ []
theorem dksX4_isAt_0 : cX4_isAt.data.toList.drop 0 = dktX4_isAt_0 := by decide +kernel
theorem dX4_isAt_0 : decode cX4_isAt 0 = .ok (.aload_n 0, 1) := dk_42 (dk_at dksX4_isAt_0 0 rfl rfl)
theorem dX4_isAt_1 : decode cX4_isAt 1 = .ok (.getfield 13, 3) := dk_180 0 13 (dk_at dksX4_isAt_0 1 rfl rfl)
theorem dX4_isAt_4 : decode cX4_isAt 4 = .ok (.bipush 42, 2) := dk_16 42 (dk_at dksX4_isAt_0 4 rfl rfl)
theorem dX4_isAt_6 : decode cX4_isAt 6 = .ok (.iload_n 1, 1) := dk_27 (dk_at dksX4_isAt_0 6 rfl rfl)
theorem dX4_isAt_7 : decode cX4_isAt 7 = .ok (.bipush 6, 2) := dk_16 6 (dk_at dksX4_isAt_0 7 rfl rfl)
theorem dX4_isAt_9 : decode cX4_isAt 9 = .ok (.idiv, 1) := dk_108 (dk_at dksX4_isAt_0 9 rfl rfl)
theorem dX4_isAt_10 : decode cX4_isAt 10 = .ok (.iastore, 1) := dk_79 (dk_at dksX4_isAt_0 10 rfl rfl)
theorem dX4_isAt_11 : decode cX4_isAt 11 = .ok (.aload_n 0, 1) := dk_42 (dk_at dksX4_isAt_0 11 rfl rfl)
theorem dX4_isAt_12 : decode cX4_isAt 12 = .ok (.getfield 13, 3) := dk_180 0 13 (dk_at dksX4_isAt_0 12 rfl rfl)
theorem dX4_isAt_15 : decode cX4_isAt 15 = .ok (.bipush 43, 2) := dk_16 43 (dk_at dksX4_isAt_0 15 rfl rfl)
theorem dX4_isAt_17 : decode cX4_isAt 17 = .ok (.iload_n 1, 1) := dk_27 (dk_at dksX4_isAt_0 17 rfl rfl)
theorem dX4_isAt_18 : decode cX4_isAt 18 = .ok (.bipush 6, 2) := dk_16 6 (dk_at dksX4_isAt_0 18 rfl rfl)
theorem dX4_isAt_20 : decode cX4_isAt 20 = .ok (.irem, 1) := dk_112 (dk_at dksX4_isAt_0 20 rfl rfl)
theorem dX4_isAt_21 : decode cX4_isAt 21 = .ok (.iastore, 1) := dk_79 (dk_at dksX4_isAt_0 21 rfl rfl)
theorem dX4_isAt_22 : decode cX4_isAt 22 = .ok (.return_, 1) := dk_177 (dk_at dksX4_isAt_0 22 rfl rfl)
abbrev cX4_notes : ByteArray := prog_16_method_51_code
def yX4_notes : MethodName := ⟨RX4, "notes", "()V"⟩
def dkwX4_notes_4 : List UInt8 := [180, 0, 13, 16, 47, 92, 46, 4, 96, 79, 177]
abbrev dktX4_notes_4 : List UInt8 := dkwX4_notes_4 ++ []
def dkwX4_notes_3 : List UInt8 := [180, 0, 13, 16, 47, 46, 104, 96, 27, 96, 42, 180, 0, 36, 27, 46, 79, 132, 1, 1, 167, 255, 223, 42]
abbrev dktX4_notes_3 : List UInt8 := dkwX4_notes_3 ++ dktX4_notes_4
def dkwX4_notes_2 : List UInt8 := [16, 47, 92, 46, 4, 100, 79, 3, 60, 27, 8, 162, 0, 34, 42, 180, 0, 13, 16, 48, 8, 42]
abbrev dktX4_notes_2 : List UInt8 := dkwX4_notes_2 ++ dktX4_notes_3
def dkwX4_notes_1 : List UInt8 := [16, 48, 27, 96, 42, 180, 0, 13, 16, 53, 27, 96, 46, 79, 132, 1, 1, 167, 255, 229, 42, 180, 0, 13]
abbrev dktX4_notes_1 : List UInt8 := dkwX4_notes_1 ++ dktX4_notes_2
def dkwX4_notes_0 : List UInt8 := [42, 180, 0, 13, 16, 47, 46, 16, 10, 160, 0, 46, 3, 60, 27, 16, 45, 162, 0, 27, 42, 180, 0, 13]
abbrev dktX4_notes_0 : List UInt8 := dkwX4_notes_0 ++ dktX4_notes_1
theorem dksX4_notes_0 : cX4_notes.data.toList.drop 0 = dktX4_notes_0 := by decide +kernel
theorem dksX4_notes_1 : cX4_notes.data.toList.drop 24 = dktX4_notes_1 := dk_seg dksX4_notes_0 24 rfl rfl
theorem dksX4_notes_2 : cX4_notes.data.toList.drop 48 = dktX4_notes_2 := dk_seg dksX4_notes_1 24 rfl rfl
theorem dksX4_notes_3 : cX4_notes.data.toList.drop 70 = dktX4_notes_3 := dk_seg dksX4_notes_2 22 rfl rfl
theorem dksX4_notes_4 : cX4_notes.data.toList.drop 94 = dktX4_notes_4 := dk_seg dksX4_notes_3 24 rfl rfl
theorem dX4_notes_0 : decode cX4_notes 0 = .ok (.aload_n 0, 1) := dk_42 (dk_at dksX4_notes_0 0 rfl rfl)
theorem dX4_notes_1 : decode cX4_notes 1 = .ok (.getfield 13, 3) := dk_180 0 13 (dk_at dksX4_notes_0 1 rfl rfl)
theorem dX4_notes_4 : decode cX4_notes 4 = .ok (.bipush 47, 2) := dk_16 47 (dk_at dksX4_notes_0 4 rfl rfl)
theorem dX4_notes_6 : decode cX4_notes 6 = .ok (.iaload, 1) := dk_46 (dk_at dksX4_notes_0 6 rfl rfl)
theorem dX4_notes_7 : decode cX4_notes 7 = .ok (.bipush 10, 2) := dk_16 10 (dk_at dksX4_notes_0 7 rfl rfl)
theorem dX4_notes_9 : decode cX4_notes 9 = .ok (.if_icmp .ne 46, 3) := dk_160 0 46 (dk_at dksX4_notes_0 9 rfl rfl)
theorem dX4_notes_12 : decode cX4_notes 12 = .ok (.iconst 0, 1) := dk_3 (dk_at dksX4_notes_0 12 rfl rfl)
theorem dX4_notes_13 : decode cX4_notes 13 = .ok (.istore_n 1, 1) := dk_60 (dk_at dksX4_notes_0 13 rfl rfl)
theorem dX4_notes_14 : decode cX4_notes 14 = .ok (.iload_n 1, 1) := dk_27 (dk_at dksX4_notes_0 14 rfl rfl)
theorem dX4_notes_15 : decode cX4_notes 15 = .ok (.bipush 45, 2) := dk_16 45 (dk_at dksX4_notes_0 15 rfl rfl)
theorem dX4_notes_17 : decode cX4_notes 17 = .ok (.if_icmp .ge 27, 3) := dk_162 0 27 (dk_at dksX4_notes_0 17 rfl rfl)
theorem dX4_notes_20 : decode cX4_notes 20 = .ok (.aload_n 0, 1) := dk_42 (dk_at dksX4_notes_0 20 rfl rfl)
theorem dX4_notes_21 : decode cX4_notes 21 = .ok (.getfield 13, 3) := dk_180 0 13 (dk_at dksX4_notes_0 21 rfl rfl)
theorem dX4_notes_24 : decode cX4_notes 24 = .ok (.bipush 48, 2) := dk_16 48 (dk_at dksX4_notes_1 0 rfl rfl)
theorem dX4_notes_26 : decode cX4_notes 26 = .ok (.iload_n 1, 1) := dk_27 (dk_at dksX4_notes_1 2 rfl rfl)
theorem dX4_notes_27 : decode cX4_notes 27 = .ok (.iadd, 1) := dk_96 (dk_at dksX4_notes_1 3 rfl rfl)
theorem dX4_notes_28 : decode cX4_notes 28 = .ok (.aload_n 0, 1) := dk_42 (dk_at dksX4_notes_1 4 rfl rfl)
theorem dX4_notes_29 : decode cX4_notes 29 = .ok (.getfield 13, 3) := dk_180 0 13 (dk_at dksX4_notes_1 5 rfl rfl)
theorem dX4_notes_32 : decode cX4_notes 32 = .ok (.bipush 53, 2) := dk_16 53 (dk_at dksX4_notes_1 8 rfl rfl)
theorem dX4_notes_34 : decode cX4_notes 34 = .ok (.iload_n 1, 1) := dk_27 (dk_at dksX4_notes_1 10 rfl rfl)
theorem dX4_notes_35 : decode cX4_notes 35 = .ok (.iadd, 1) := dk_96 (dk_at dksX4_notes_1 11 rfl rfl)
theorem dX4_notes_36 : decode cX4_notes 36 = .ok (.iaload, 1) := dk_46 (dk_at dksX4_notes_1 12 rfl rfl)
theorem dX4_notes_37 : decode cX4_notes 37 = .ok (.iastore, 1) := dk_79 (dk_at dksX4_notes_1 13 rfl rfl)
theorem dX4_notes_38 : decode cX4_notes 38 = .ok (.iinc 1 1, 3) := dk_132 1 1 (dk_at dksX4_notes_1 14 rfl rfl)
theorem dX4_notes_41 : decode cX4_notes 41 = .ok (.goto (-27), 3) := dk_167 255 229 (dk_at dksX4_notes_1 17 rfl rfl)
theorem dX4_notes_44 : decode cX4_notes 44 = .ok (.aload_n 0, 1) := dk_42 (dk_at dksX4_notes_1 20 rfl rfl)
theorem dX4_notes_45 : decode cX4_notes 45 = .ok (.getfield 13, 3) := dk_180 0 13 (dk_at dksX4_notes_1 21 rfl rfl)
theorem dX4_notes_48 : decode cX4_notes 48 = .ok (.bipush 47, 2) := dk_16 47 (dk_at dksX4_notes_2 0 rfl rfl)
theorem dX4_notes_50 : decode cX4_notes 50 = .ok (.dup2, 1) := dk_92 (dk_at dksX4_notes_2 2 rfl rfl)
theorem dX4_notes_51 : decode cX4_notes 51 = .ok (.iaload, 1) := dk_46 (dk_at dksX4_notes_2 3 rfl rfl)
theorem dX4_notes_52 : decode cX4_notes 52 = .ok (.iconst 1, 1) := dk_4 (dk_at dksX4_notes_2 4 rfl rfl)
theorem dX4_notes_53 : decode cX4_notes 53 = .ok (.isub, 1) := dk_100 (dk_at dksX4_notes_2 5 rfl rfl)
theorem dX4_notes_54 : decode cX4_notes 54 = .ok (.iastore, 1) := dk_79 (dk_at dksX4_notes_2 6 rfl rfl)
theorem dX4_notes_55 : decode cX4_notes 55 = .ok (.iconst 0, 1) := dk_3 (dk_at dksX4_notes_2 7 rfl rfl)
theorem dX4_notes_56 : decode cX4_notes 56 = .ok (.istore_n 1, 1) := dk_60 (dk_at dksX4_notes_2 8 rfl rfl)
theorem dX4_notes_57 : decode cX4_notes 57 = .ok (.iload_n 1, 1) := dk_27 (dk_at dksX4_notes_2 9 rfl rfl)
theorem dX4_notes_58 : decode cX4_notes 58 = .ok (.iconst 5, 1) := dk_8 (dk_at dksX4_notes_2 10 rfl rfl)
theorem dX4_notes_59 : decode cX4_notes 59 = .ok (.if_icmp .ge 34, 3) := dk_162 0 34 (dk_at dksX4_notes_2 11 rfl rfl)
theorem dX4_notes_62 : decode cX4_notes 62 = .ok (.aload_n 0, 1) := dk_42 (dk_at dksX4_notes_2 14 rfl rfl)
theorem dX4_notes_63 : decode cX4_notes 63 = .ok (.getfield 13, 3) := dk_180 0 13 (dk_at dksX4_notes_2 15 rfl rfl)
theorem dX4_notes_66 : decode cX4_notes 66 = .ok (.bipush 48, 2) := dk_16 48 (dk_at dksX4_notes_2 18 rfl rfl)
theorem dX4_notes_68 : decode cX4_notes 68 = .ok (.iconst 5, 1) := dk_8 (dk_at dksX4_notes_2 20 rfl rfl)
theorem dX4_notes_69 : decode cX4_notes 69 = .ok (.aload_n 0, 1) := dk_42 (dk_at dksX4_notes_2 21 rfl rfl)
theorem dX4_notes_70 : decode cX4_notes 70 = .ok (.getfield 13, 3) := dk_180 0 13 (dk_at dksX4_notes_3 0 rfl rfl)
theorem dX4_notes_73 : decode cX4_notes 73 = .ok (.bipush 47, 2) := dk_16 47 (dk_at dksX4_notes_3 3 rfl rfl)
theorem dX4_notes_75 : decode cX4_notes 75 = .ok (.iaload, 1) := dk_46 (dk_at dksX4_notes_3 5 rfl rfl)
theorem dX4_notes_76 : decode cX4_notes 76 = .ok (.imul, 1) := dk_104 (dk_at dksX4_notes_3 6 rfl rfl)
theorem dX4_notes_77 : decode cX4_notes 77 = .ok (.iadd, 1) := dk_96 (dk_at dksX4_notes_3 7 rfl rfl)
theorem dX4_notes_78 : decode cX4_notes 78 = .ok (.iload_n 1, 1) := dk_27 (dk_at dksX4_notes_3 8 rfl rfl)
theorem dX4_notes_79 : decode cX4_notes 79 = .ok (.iadd, 1) := dk_96 (dk_at dksX4_notes_3 9 rfl rfl)
theorem dX4_notes_80 : decode cX4_notes 80 = .ok (.aload_n 0, 1) := dk_42 (dk_at dksX4_notes_3 10 rfl rfl)
theorem dX4_notes_81 : decode cX4_notes 81 = .ok (.getfield 36, 3) := dk_180 0 36 (dk_at dksX4_notes_3 11 rfl rfl)
theorem dX4_notes_84 : decode cX4_notes 84 = .ok (.iload_n 1, 1) := dk_27 (dk_at dksX4_notes_3 14 rfl rfl)
theorem dX4_notes_85 : decode cX4_notes 85 = .ok (.iaload, 1) := dk_46 (dk_at dksX4_notes_3 15 rfl rfl)
theorem dX4_notes_86 : decode cX4_notes 86 = .ok (.iastore, 1) := dk_79 (dk_at dksX4_notes_3 16 rfl rfl)
theorem dX4_notes_87 : decode cX4_notes 87 = .ok (.iinc 1 1, 3) := dk_132 1 1 (dk_at dksX4_notes_3 17 rfl rfl)
theorem dX4_notes_90 : decode cX4_notes 90 = .ok (.goto (-33), 3) := dk_167 255 223 (dk_at dksX4_notes_3 20 rfl rfl)
theorem dX4_notes_93 : decode cX4_notes 93 = .ok (.aload_n 0, 1) := dk_42 (dk_at dksX4_notes_3 23 rfl rfl)
theorem dX4_notes_94 : decode cX4_notes 94 = .ok (.getfield 13, 3) := dk_180 0 13 (dk_at dksX4_notes_4 0 rfl rfl)
theorem dX4_notes_97 : decode cX4_notes 97 = .ok (.bipush 47, 2) := dk_16 47 (dk_at dksX4_notes_4 3 rfl rfl)
theorem dX4_notes_99 : decode cX4_notes 99 = .ok (.dup2, 1) := dk_92 (dk_at dksX4_notes_4 5 rfl rfl)
theorem dX4_notes_100 : decode cX4_notes 100 = .ok (.iaload, 1) := dk_46 (dk_at dksX4_notes_4 6 rfl rfl)
theorem dX4_notes_101 : decode cX4_notes 101 = .ok (.iconst 1, 1) := dk_4 (dk_at dksX4_notes_4 7 rfl rfl)
theorem dX4_notes_102 : decode cX4_notes 102 = .ok (.iadd, 1) := dk_96 (dk_at dksX4_notes_4 8 rfl rfl)
theorem dX4_notes_103 : decode cX4_notes 103 = .ok (.iastore, 1) := dk_79 (dk_at dksX4_notes_4 9 rfl rfl)
theorem dX4_notes_104 : decode cX4_notes 104 = .ok (.return_, 1) := dk_177 (dk_at dksX4_notes_4 10 rfl rfl)
abbrev cX4_rope : ByteArray := prog_16_method_55_code
def yX4_rope : MethodName := ⟨RX4, "rope", "(I)I"⟩
def dkwX4_rope_2 : List UInt8 := [122, 4, 126, 172]
abbrev dktX4_rope_2 : List UInt8 := dkwX4_rope_2 ++ []
def dkwX4_rope_1 : List UInt8 := [180, 0, 13, 16, 44, 92, 46, 4, 27, 120, 130, 79, 42, 182, 1, 2, 42, 180, 0, 13, 16, 44, 46, 27]
abbrev dktX4_rope_1 : List UInt8 := dkwX4_rope_1 ++ dktX4_rope_2
def dkwX4_rope_0 : List UInt8 := [42, 3, 181, 0, 1, 42, 27, 133, 182, 0, 228, 154, 0, 6, 16, 245, 172, 42, 182, 0, 252, 42]
abbrev dktX4_rope_0 : List UInt8 := dkwX4_rope_0 ++ dktX4_rope_1
theorem dksX4_rope_0 : cX4_rope.data.toList.drop 0 = dktX4_rope_0 := by decide +kernel
theorem dksX4_rope_1 : cX4_rope.data.toList.drop 22 = dktX4_rope_1 := dk_seg dksX4_rope_0 22 rfl rfl
theorem dksX4_rope_2 : cX4_rope.data.toList.drop 46 = dktX4_rope_2 := dk_seg dksX4_rope_1 24 rfl rfl
theorem dX4_rope_0 : decode cX4_rope 0 = .ok (.aload_n 0, 1) := dk_42 (dk_at dksX4_rope_0 0 rfl rfl)
theorem dX4_rope_1 : decode cX4_rope 1 = .ok (.iconst 0, 1) := dk_3 (dk_at dksX4_rope_0 1 rfl rfl)
theorem dX4_rope_2 : decode cX4_rope 2 = .ok (.putfield 1, 3) := dk_181 0 1 (dk_at dksX4_rope_0 2 rfl rfl)
theorem dX4_rope_5 : decode cX4_rope 5 = .ok (.aload_n 0, 1) := dk_42 (dk_at dksX4_rope_0 5 rfl rfl)
theorem dX4_rope_6 : decode cX4_rope 6 = .ok (.iload_n 1, 1) := dk_27 (dk_at dksX4_rope_0 6 rfl rfl)
theorem dX4_rope_7 : decode cX4_rope 7 = .ok (.i2l, 1) := dk_133 (dk_at dksX4_rope_0 7 rfl rfl)
theorem dX4_rope_8 : decode cX4_rope 8 = .ok (.invokevirtual 228, 3) := dk_182 0 228 (dk_at dksX4_rope_0 8 rfl rfl)
theorem dX4_rope_11 : decode cX4_rope 11 = .ok (.ifCond .ne 6, 3) := dk_154 0 6 (dk_at dksX4_rope_0 11 rfl rfl)
theorem dX4_rope_14 : decode cX4_rope 14 = .ok (.bipush (-11), 2) := dk_16 245 (dk_at dksX4_rope_0 14 rfl rfl)
theorem dX4_rope_16 : decode cX4_rope 16 = .ok (.ireturn, 1) := dk_172 (dk_at dksX4_rope_0 16 rfl rfl)
theorem dX4_rope_17 : decode cX4_rope 17 = .ok (.aload_n 0, 1) := dk_42 (dk_at dksX4_rope_0 17 rfl rfl)
theorem dX4_rope_18 : decode cX4_rope 18 = .ok (.invokevirtual 252, 3) := dk_182 0 252 (dk_at dksX4_rope_0 18 rfl rfl)
theorem dX4_rope_21 : decode cX4_rope 21 = .ok (.aload_n 0, 1) := dk_42 (dk_at dksX4_rope_0 21 rfl rfl)
theorem dX4_rope_22 : decode cX4_rope 22 = .ok (.getfield 13, 3) := dk_180 0 13 (dk_at dksX4_rope_1 0 rfl rfl)
theorem dX4_rope_25 : decode cX4_rope 25 = .ok (.bipush 44, 2) := dk_16 44 (dk_at dksX4_rope_1 3 rfl rfl)
theorem dX4_rope_27 : decode cX4_rope 27 = .ok (.dup2, 1) := dk_92 (dk_at dksX4_rope_1 5 rfl rfl)
theorem dX4_rope_28 : decode cX4_rope 28 = .ok (.iaload, 1) := dk_46 (dk_at dksX4_rope_1 6 rfl rfl)
theorem dX4_rope_29 : decode cX4_rope 29 = .ok (.iconst 1, 1) := dk_4 (dk_at dksX4_rope_1 7 rfl rfl)
theorem dX4_rope_30 : decode cX4_rope 30 = .ok (.iload_n 1, 1) := dk_27 (dk_at dksX4_rope_1 8 rfl rfl)
theorem dX4_rope_31 : decode cX4_rope 31 = .ok (.ishl, 1) := dk_120 (dk_at dksX4_rope_1 9 rfl rfl)
theorem dX4_rope_32 : decode cX4_rope 32 = .ok (.ixor, 1) := dk_130 (dk_at dksX4_rope_1 10 rfl rfl)
theorem dX4_rope_33 : decode cX4_rope 33 = .ok (.iastore, 1) := dk_79 (dk_at dksX4_rope_1 11 rfl rfl)
theorem dX4_rope_34 : decode cX4_rope 34 = .ok (.aload_n 0, 1) := dk_42 (dk_at dksX4_rope_1 12 rfl rfl)
theorem dX4_rope_35 : decode cX4_rope 35 = .ok (.invokevirtual 258, 3) := dk_182 1 2 (dk_at dksX4_rope_1 13 rfl rfl)
theorem dX4_rope_38 : decode cX4_rope 38 = .ok (.aload_n 0, 1) := dk_42 (dk_at dksX4_rope_1 16 rfl rfl)
theorem dX4_rope_39 : decode cX4_rope 39 = .ok (.getfield 13, 3) := dk_180 0 13 (dk_at dksX4_rope_1 17 rfl rfl)
theorem dX4_rope_42 : decode cX4_rope 42 = .ok (.bipush 44, 2) := dk_16 44 (dk_at dksX4_rope_1 20 rfl rfl)
theorem dX4_rope_44 : decode cX4_rope 44 = .ok (.iaload, 1) := dk_46 (dk_at dksX4_rope_1 22 rfl rfl)
theorem dX4_rope_45 : decode cX4_rope 45 = .ok (.iload_n 1, 1) := dk_27 (dk_at dksX4_rope_1 23 rfl rfl)
theorem dX4_rope_46 : decode cX4_rope 46 = .ok (.ishr, 1) := dk_122 (dk_at dksX4_rope_2 0 rfl rfl)
theorem dX4_rope_47 : decode cX4_rope 47 = .ok (.iconst 1, 1) := dk_4 (dk_at dksX4_rope_2 1 rfl rfl)
theorem dX4_rope_48 : decode cX4_rope 48 = .ok (.iand, 1) := dk_126 (dk_at dksX4_rope_2 2 rfl rfl)
theorem dX4_rope_49 : decode cX4_rope 49 = .ok (.ireturn, 1) := dk_172 (dk_at dksX4_rope_2 3 rfl rfl)
abbrev cX4_put : ByteArray := prog_16_method_56_code
def yX4_put : MethodName := ⟨RX4, "put", "(II)I"⟩
def dkwX4_put_2 : List UInt8 := [180, 0, 36, 3, 46, 104, 42, 180, 0, 36, 4, 46, 96, 172]
abbrev dktX4_put_2 : List UInt8 := dkwX4_put_2 ++ []
def dkwX4_put_1 : List UInt8 := [172, 42, 182, 0, 252, 42, 16, 6, 27, 104, 28, 96, 182, 0, 249, 42, 182, 1, 2, 16, 10, 42]
abbrev dktX4_put_1 : List UInt8 := dkwX4_put_1 ++ dktX4_put_2
def dkwX4_put_0 : List UInt8 := [42, 3, 181, 0, 1, 42, 27, 133, 182, 1, 5, 153, 0, 11, 28, 133, 184, 1, 8, 154, 0, 6, 16, 245]
abbrev dktX4_put_0 : List UInt8 := dkwX4_put_0 ++ dktX4_put_1
theorem dksX4_put_0 : cX4_put.data.toList.drop 0 = dktX4_put_0 := by decide +kernel
theorem dksX4_put_1 : cX4_put.data.toList.drop 24 = dktX4_put_1 := dk_seg dksX4_put_0 24 rfl rfl
theorem dksX4_put_2 : cX4_put.data.toList.drop 46 = dktX4_put_2 := dk_seg dksX4_put_1 22 rfl rfl
theorem dX4_put_0 : decode cX4_put 0 = .ok (.aload_n 0, 1) := dk_42 (dk_at dksX4_put_0 0 rfl rfl)
theorem dX4_put_1 : decode cX4_put 1 = .ok (.iconst 0, 1) := dk_3 (dk_at dksX4_put_0 1 rfl rfl)
theorem dX4_put_2 : decode cX4_put 2 = .ok (.putfield 1, 3) := dk_181 0 1 (dk_at dksX4_put_0 2 rfl rfl)
theorem dX4_put_5 : decode cX4_put 5 = .ok (.aload_n 0, 1) := dk_42 (dk_at dksX4_put_0 5 rfl rfl)
theorem dX4_put_6 : decode cX4_put 6 = .ok (.iload_n 1, 1) := dk_27 (dk_at dksX4_put_0 6 rfl rfl)
theorem dX4_put_7 : decode cX4_put 7 = .ok (.i2l, 1) := dk_133 (dk_at dksX4_put_0 7 rfl rfl)
theorem dX4_put_8 : decode cX4_put 8 = .ok (.invokevirtual 261, 3) := dk_182 1 5 (dk_at dksX4_put_0 8 rfl rfl)
theorem dX4_put_11 : decode cX4_put 11 = .ok (.ifCond .eq 11, 3) := dk_153 0 11 (dk_at dksX4_put_0 11 rfl rfl)
theorem dX4_put_14 : decode cX4_put 14 = .ok (.iload_n 2, 1) := dk_28 (dk_at dksX4_put_0 14 rfl rfl)
theorem dX4_put_15 : decode cX4_put 15 = .ok (.i2l, 1) := dk_133 (dk_at dksX4_put_0 15 rfl rfl)
theorem dX4_put_16 : decode cX4_put 16 = .ok (.invokestatic 264, 3) := dk_184 1 8 (dk_at dksX4_put_0 16 rfl rfl)
theorem dX4_put_19 : decode cX4_put 19 = .ok (.ifCond .ne 6, 3) := dk_154 0 6 (dk_at dksX4_put_0 19 rfl rfl)
theorem dX4_put_22 : decode cX4_put 22 = .ok (.bipush (-11), 2) := dk_16 245 (dk_at dksX4_put_0 22 rfl rfl)
theorem dX4_put_24 : decode cX4_put 24 = .ok (.ireturn, 1) := dk_172 (dk_at dksX4_put_1 0 rfl rfl)
theorem dX4_put_25 : decode cX4_put 25 = .ok (.aload_n 0, 1) := dk_42 (dk_at dksX4_put_1 1 rfl rfl)
theorem dX4_put_26 : decode cX4_put 26 = .ok (.invokevirtual 252, 3) := dk_182 0 252 (dk_at dksX4_put_1 2 rfl rfl)
theorem dX4_put_29 : decode cX4_put 29 = .ok (.aload_n 0, 1) := dk_42 (dk_at dksX4_put_1 5 rfl rfl)
theorem dX4_put_30 : decode cX4_put 30 = .ok (.bipush 6, 2) := dk_16 6 (dk_at dksX4_put_1 6 rfl rfl)
theorem dX4_put_32 : decode cX4_put 32 = .ok (.iload_n 1, 1) := dk_27 (dk_at dksX4_put_1 8 rfl rfl)
theorem dX4_put_33 : decode cX4_put 33 = .ok (.imul, 1) := dk_104 (dk_at dksX4_put_1 9 rfl rfl)
theorem dX4_put_34 : decode cX4_put 34 = .ok (.iload_n 2, 1) := dk_28 (dk_at dksX4_put_1 10 rfl rfl)
theorem dX4_put_35 : decode cX4_put 35 = .ok (.iadd, 1) := dk_96 (dk_at dksX4_put_1 11 rfl rfl)
theorem dX4_put_36 : decode cX4_put 36 = .ok (.invokevirtual 249, 3) := dk_182 0 249 (dk_at dksX4_put_1 12 rfl rfl)
theorem dX4_put_39 : decode cX4_put 39 = .ok (.aload_n 0, 1) := dk_42 (dk_at dksX4_put_1 15 rfl rfl)
theorem dX4_put_40 : decode cX4_put 40 = .ok (.invokevirtual 258, 3) := dk_182 1 2 (dk_at dksX4_put_1 16 rfl rfl)
theorem dX4_put_43 : decode cX4_put 43 = .ok (.bipush 10, 2) := dk_16 10 (dk_at dksX4_put_1 19 rfl rfl)
theorem dX4_put_45 : decode cX4_put 45 = .ok (.aload_n 0, 1) := dk_42 (dk_at dksX4_put_1 21 rfl rfl)
theorem dX4_put_46 : decode cX4_put 46 = .ok (.getfield 36, 3) := dk_180 0 36 (dk_at dksX4_put_2 0 rfl rfl)
theorem dX4_put_49 : decode cX4_put 49 = .ok (.iconst 0, 1) := dk_3 (dk_at dksX4_put_2 3 rfl rfl)
theorem dX4_put_50 : decode cX4_put 50 = .ok (.iaload, 1) := dk_46 (dk_at dksX4_put_2 4 rfl rfl)
theorem dX4_put_51 : decode cX4_put 51 = .ok (.imul, 1) := dk_104 (dk_at dksX4_put_2 5 rfl rfl)
theorem dX4_put_52 : decode cX4_put 52 = .ok (.aload_n 0, 1) := dk_42 (dk_at dksX4_put_2 6 rfl rfl)
theorem dX4_put_53 : decode cX4_put 53 = .ok (.getfield 36, 3) := dk_180 0 36 (dk_at dksX4_put_2 7 rfl rfl)
theorem dX4_put_56 : decode cX4_put 56 = .ok (.iconst 1, 1) := dk_4 (dk_at dksX4_put_2 10 rfl rfl)
theorem dX4_put_57 : decode cX4_put 57 = .ok (.iaload, 1) := dk_46 (dk_at dksX4_put_2 11 rfl rfl)
theorem dX4_put_58 : decode cX4_put 58 = .ok (.iadd, 1) := dk_96 (dk_at dksX4_put_2 12 rfl rfl)
theorem dX4_put_59 : decode cX4_put 59 = .ok (.ireturn, 1) := dk_172 (dk_at dksX4_put_2 13 rfl rfl)
abbrev cX4_isRoom : ByteArray := prog_16_method_34_code
def yX4_isRoom : MethodName := ⟨RX4, "isRoom", "(J)Z"⟩
def dkwX4_isRoom_0 : List UInt8 := [31, 9, 42, 180, 0, 13, 4, 46, 4, 100, 133, 184, 0, 142, 172]
abbrev dktX4_isRoom_0 : List UInt8 := dkwX4_isRoom_0 ++ []
theorem dksX4_isRoom_0 : cX4_isRoom.data.toList.drop 0 = dktX4_isRoom_0 := by decide +kernel
theorem dX4_isRoom_0 : decode cX4_isRoom 0 = .ok (.lload_n 1, 1) := dk_31 (dk_at dksX4_isRoom_0 0 rfl rfl)
theorem dX4_isRoom_1 : decode cX4_isRoom 1 = .ok (.lconst 0, 1) := dk_9 (dk_at dksX4_isRoom_0 1 rfl rfl)
theorem dX4_isRoom_2 : decode cX4_isRoom 2 = .ok (.aload_n 0, 1) := dk_42 (dk_at dksX4_isRoom_0 2 rfl rfl)
theorem dX4_isRoom_3 : decode cX4_isRoom 3 = .ok (.getfield 13, 3) := dk_180 0 13 (dk_at dksX4_isRoom_0 3 rfl rfl)
theorem dX4_isRoom_6 : decode cX4_isRoom 6 = .ok (.iconst 1, 1) := dk_4 (dk_at dksX4_isRoom_0 6 rfl rfl)
theorem dX4_isRoom_7 : decode cX4_isRoom 7 = .ok (.iaload, 1) := dk_46 (dk_at dksX4_isRoom_0 7 rfl rfl)
theorem dX4_isRoom_8 : decode cX4_isRoom 8 = .ok (.iconst 1, 1) := dk_4 (dk_at dksX4_isRoom_0 8 rfl rfl)
theorem dX4_isRoom_9 : decode cX4_isRoom 9 = .ok (.isub, 1) := dk_100 (dk_at dksX4_isRoom_0 9 rfl rfl)
theorem dX4_isRoom_10 : decode cX4_isRoom 10 = .ok (.i2l, 1) := dk_133 (dk_at dksX4_isRoom_0 10 rfl rfl)
theorem dX4_isRoom_11 : decode cX4_isRoom 11 = .ok (.invokestatic 142, 3) := dk_184 0 142 (dk_at dksX4_isRoom_0 11 rfl rfl)
theorem dX4_isRoom_14 : decode cX4_isRoom 14 = .ok (.ireturn, 1) := dk_172 (dk_at dksX4_isRoom_0 14 rfl rfl)
abbrev cX4_isHurt : ByteArray := prog_16_method_36_code
def yX4_isHurt : MethodName := ⟨RX4, "isHurt", "(J)Z"⟩
def dkwX4_isHurt_0 : List UInt8 := [30, 9, 20, 0, 207, 184, 0, 142, 172]
abbrev dktX4_isHurt_0 : List UInt8 := dkwX4_isHurt_0 ++ []
theorem dksX4_isHurt_0 : cX4_isHurt.data.toList.drop 0 = dktX4_isHurt_0 := by decide +kernel
theorem dX4_isHurt_0 : decode cX4_isHurt 0 = .ok (.lload_n 0, 1) := dk_30 (dk_at dksX4_isHurt_0 0 rfl rfl)
theorem dX4_isHurt_1 : decode cX4_isHurt 1 = .ok (.lconst 0, 1) := dk_9 (dk_at dksX4_isHurt_0 1 rfl rfl)
theorem dX4_isHurt_2 : decode cX4_isHurt 2 = .ok (.ldc2_w 207, 3) := dk_20 0 207 (dk_at dksX4_isHurt_0 2 rfl rfl)
theorem dX4_isHurt_5 : decode cX4_isHurt 5 = .ok (.invokestatic 142, 3) := dk_184 0 142 (dk_at dksX4_isHurt_0 5 rfl rfl)
theorem dX4_isHurt_8 : decode cX4_isHurt 8 = .ok (.ireturn, 1) := dk_172 (dk_at dksX4_isHurt_0 8 rfl rfl)
abbrev cX4_slack : ByteArray := prog_16_method_57_code
def yX4_slack : MethodName := ⟨RX4, "slack", "(I)I"⟩
def dkwX4_slack_1 : List UInt8 := [42, 180, 0, 13, 16, 45, 27, 79, 42, 182, 1, 2, 42, 180, 0, 36, 6, 46, 172]
abbrev dktX4_slack_1 : List UInt8 := dkwX4_slack_1 ++ []
def dkwX4_slack_0 : List UInt8 := [42, 3, 181, 0, 1, 27, 133, 9, 20, 1, 11, 184, 0, 142, 154, 0, 6, 16, 245, 172, 42, 182, 0, 252]
abbrev dktX4_slack_0 : List UInt8 := dkwX4_slack_0 ++ dktX4_slack_1
theorem dksX4_slack_0 : cX4_slack.data.toList.drop 0 = dktX4_slack_0 := by decide +kernel
theorem dksX4_slack_1 : cX4_slack.data.toList.drop 24 = dktX4_slack_1 := dk_seg dksX4_slack_0 24 rfl rfl
theorem dX4_slack_0 : decode cX4_slack 0 = .ok (.aload_n 0, 1) := dk_42 (dk_at dksX4_slack_0 0 rfl rfl)
theorem dX4_slack_1 : decode cX4_slack 1 = .ok (.iconst 0, 1) := dk_3 (dk_at dksX4_slack_0 1 rfl rfl)
theorem dX4_slack_2 : decode cX4_slack 2 = .ok (.putfield 1, 3) := dk_181 0 1 (dk_at dksX4_slack_0 2 rfl rfl)
theorem dX4_slack_5 : decode cX4_slack 5 = .ok (.iload_n 1, 1) := dk_27 (dk_at dksX4_slack_0 5 rfl rfl)
theorem dX4_slack_6 : decode cX4_slack 6 = .ok (.i2l, 1) := dk_133 (dk_at dksX4_slack_0 6 rfl rfl)
theorem dX4_slack_7 : decode cX4_slack 7 = .ok (.lconst 0, 1) := dk_9 (dk_at dksX4_slack_0 7 rfl rfl)
theorem dX4_slack_8 : decode cX4_slack 8 = .ok (.ldc2_w 267, 3) := dk_20 1 11 (dk_at dksX4_slack_0 8 rfl rfl)
theorem dX4_slack_11 : decode cX4_slack 11 = .ok (.invokestatic 142, 3) := dk_184 0 142 (dk_at dksX4_slack_0 11 rfl rfl)
theorem dX4_slack_14 : decode cX4_slack 14 = .ok (.ifCond .ne 6, 3) := dk_154 0 6 (dk_at dksX4_slack_0 14 rfl rfl)
theorem dX4_slack_17 : decode cX4_slack 17 = .ok (.bipush (-11), 2) := dk_16 245 (dk_at dksX4_slack_0 17 rfl rfl)
theorem dX4_slack_19 : decode cX4_slack 19 = .ok (.ireturn, 1) := dk_172 (dk_at dksX4_slack_0 19 rfl rfl)
theorem dX4_slack_20 : decode cX4_slack 20 = .ok (.aload_n 0, 1) := dk_42 (dk_at dksX4_slack_0 20 rfl rfl)
theorem dX4_slack_21 : decode cX4_slack 21 = .ok (.invokevirtual 252, 3) := dk_182 0 252 (dk_at dksX4_slack_0 21 rfl rfl)
theorem dX4_slack_24 : decode cX4_slack 24 = .ok (.aload_n 0, 1) := dk_42 (dk_at dksX4_slack_1 0 rfl rfl)
theorem dX4_slack_25 : decode cX4_slack 25 = .ok (.getfield 13, 3) := dk_180 0 13 (dk_at dksX4_slack_1 1 rfl rfl)
theorem dX4_slack_28 : decode cX4_slack 28 = .ok (.bipush 45, 2) := dk_16 45 (dk_at dksX4_slack_1 4 rfl rfl)
theorem dX4_slack_30 : decode cX4_slack 30 = .ok (.iload_n 1, 1) := dk_27 (dk_at dksX4_slack_1 6 rfl rfl)
theorem dX4_slack_31 : decode cX4_slack 31 = .ok (.iastore, 1) := dk_79 (dk_at dksX4_slack_1 7 rfl rfl)
theorem dX4_slack_32 : decode cX4_slack 32 = .ok (.aload_n 0, 1) := dk_42 (dk_at dksX4_slack_1 8 rfl rfl)
theorem dX4_slack_33 : decode cX4_slack 33 = .ok (.invokevirtual 258, 3) := dk_182 1 2 (dk_at dksX4_slack_1 9 rfl rfl)
theorem dX4_slack_36 : decode cX4_slack 36 = .ok (.aload_n 0, 1) := dk_42 (dk_at dksX4_slack_1 12 rfl rfl)
theorem dX4_slack_37 : decode cX4_slack 37 = .ok (.getfield 36, 3) := dk_180 0 36 (dk_at dksX4_slack_1 13 rfl rfl)
theorem dX4_slack_40 : decode cX4_slack 40 = .ok (.iconst 3, 1) := dk_6 (dk_at dksX4_slack_1 16 rfl rfl)
theorem dX4_slack_41 : decode cX4_slack 41 = .ok (.iaload, 1) := dk_46 (dk_at dksX4_slack_1 17 rfl rfl)
theorem dX4_slack_42 : decode cX4_slack 42 = .ok (.ireturn, 1) := dk_172 (dk_at dksX4_slack_1 18 rfl rfl)
abbrev cX4_undo : ByteArray := prog_16_method_58_code
def yX4_undo : MethodName := ⟨RX4, "undo", "(I)I"⟩
def dkwX4_undo_3 : List UInt8 := [46, 104, 96, 28, 96, 46, 79, 132, 2, 1, 167, 255, 220, 42, 180, 0, 13, 16, 47, 46, 172]
abbrev dktX4_undo_3 : List UInt8 := dkwX4_undo_3 ++ []
def dkwX4_undo_2 : List UInt8 := [162, 0, 37, 42, 180, 0, 13, 16, 42, 28, 96, 42, 180, 0, 13, 16, 48, 8, 42, 180, 0, 13, 16, 47]
abbrev dktX4_undo_2 : List UInt8 := dkwX4_undo_2 ++ dktX4_undo_3
def dkwX4_undo_1 : List UInt8 := [46, 164, 0, 6, 16, 253, 172, 42, 180, 0, 13, 16, 47, 92, 46, 27, 100, 79, 3, 61, 28, 8]
abbrev dktX4_undo_1 : List UInt8 := dkwX4_undo_1 ++ dktX4_undo_2
def dkwX4_undo_0 : List UInt8 := [42, 3, 181, 0, 1, 27, 133, 10, 20, 1, 13, 184, 0, 142, 153, 0, 14, 27, 42, 180, 0, 13, 16, 47]
abbrev dktX4_undo_0 : List UInt8 := dkwX4_undo_0 ++ dktX4_undo_1
theorem dksX4_undo_0 : cX4_undo.data.toList.drop 0 = dktX4_undo_0 := by decide +kernel
theorem dksX4_undo_1 : cX4_undo.data.toList.drop 24 = dktX4_undo_1 := dk_seg dksX4_undo_0 24 rfl rfl
theorem dksX4_undo_2 : cX4_undo.data.toList.drop 46 = dktX4_undo_2 := dk_seg dksX4_undo_1 22 rfl rfl
theorem dksX4_undo_3 : cX4_undo.data.toList.drop 70 = dktX4_undo_3 := dk_seg dksX4_undo_2 24 rfl rfl
theorem dX4_undo_0 : decode cX4_undo 0 = .ok (.aload_n 0, 1) := dk_42 (dk_at dksX4_undo_0 0 rfl rfl)
theorem dX4_undo_1 : decode cX4_undo 1 = .ok (.iconst 0, 1) := dk_3 (dk_at dksX4_undo_0 1 rfl rfl)
theorem dX4_undo_2 : decode cX4_undo 2 = .ok (.putfield 1, 3) := dk_181 0 1 (dk_at dksX4_undo_0 2 rfl rfl)
theorem dX4_undo_5 : decode cX4_undo 5 = .ok (.iload_n 1, 1) := dk_27 (dk_at dksX4_undo_0 5 rfl rfl)
theorem dX4_undo_6 : decode cX4_undo 6 = .ok (.i2l, 1) := dk_133 (dk_at dksX4_undo_0 6 rfl rfl)
theorem dX4_undo_7 : decode cX4_undo 7 = .ok (.lconst 1, 1) := dk_10 (dk_at dksX4_undo_0 7 rfl rfl)
theorem dX4_undo_8 : decode cX4_undo 8 = .ok (.ldc2_w 269, 3) := dk_20 1 13 (dk_at dksX4_undo_0 8 rfl rfl)
theorem dX4_undo_11 : decode cX4_undo 11 = .ok (.invokestatic 142, 3) := dk_184 0 142 (dk_at dksX4_undo_0 11 rfl rfl)
theorem dX4_undo_14 : decode cX4_undo 14 = .ok (.ifCond .eq 14, 3) := dk_153 0 14 (dk_at dksX4_undo_0 14 rfl rfl)
theorem dX4_undo_17 : decode cX4_undo 17 = .ok (.iload_n 1, 1) := dk_27 (dk_at dksX4_undo_0 17 rfl rfl)
theorem dX4_undo_18 : decode cX4_undo 18 = .ok (.aload_n 0, 1) := dk_42 (dk_at dksX4_undo_0 18 rfl rfl)
theorem dX4_undo_19 : decode cX4_undo 19 = .ok (.getfield 13, 3) := dk_180 0 13 (dk_at dksX4_undo_0 19 rfl rfl)
theorem dX4_undo_22 : decode cX4_undo 22 = .ok (.bipush 47, 2) := dk_16 47 (dk_at dksX4_undo_0 22 rfl rfl)
theorem dX4_undo_24 : decode cX4_undo 24 = .ok (.iaload, 1) := dk_46 (dk_at dksX4_undo_1 0 rfl rfl)
theorem dX4_undo_25 : decode cX4_undo 25 = .ok (.if_icmp .le 6, 3) := dk_164 0 6 (dk_at dksX4_undo_1 1 rfl rfl)
theorem dX4_undo_28 : decode cX4_undo 28 = .ok (.bipush (-3), 2) := dk_16 253 (dk_at dksX4_undo_1 4 rfl rfl)
theorem dX4_undo_30 : decode cX4_undo 30 = .ok (.ireturn, 1) := dk_172 (dk_at dksX4_undo_1 6 rfl rfl)
theorem dX4_undo_31 : decode cX4_undo 31 = .ok (.aload_n 0, 1) := dk_42 (dk_at dksX4_undo_1 7 rfl rfl)
theorem dX4_undo_32 : decode cX4_undo 32 = .ok (.getfield 13, 3) := dk_180 0 13 (dk_at dksX4_undo_1 8 rfl rfl)
theorem dX4_undo_35 : decode cX4_undo 35 = .ok (.bipush 47, 2) := dk_16 47 (dk_at dksX4_undo_1 11 rfl rfl)
theorem dX4_undo_37 : decode cX4_undo 37 = .ok (.dup2, 1) := dk_92 (dk_at dksX4_undo_1 13 rfl rfl)
theorem dX4_undo_38 : decode cX4_undo 38 = .ok (.iaload, 1) := dk_46 (dk_at dksX4_undo_1 14 rfl rfl)
theorem dX4_undo_39 : decode cX4_undo 39 = .ok (.iload_n 1, 1) := dk_27 (dk_at dksX4_undo_1 15 rfl rfl)
theorem dX4_undo_40 : decode cX4_undo 40 = .ok (.isub, 1) := dk_100 (dk_at dksX4_undo_1 16 rfl rfl)
theorem dX4_undo_41 : decode cX4_undo 41 = .ok (.iastore, 1) := dk_79 (dk_at dksX4_undo_1 17 rfl rfl)
theorem dX4_undo_42 : decode cX4_undo 42 = .ok (.iconst 0, 1) := dk_3 (dk_at dksX4_undo_1 18 rfl rfl)
theorem dX4_undo_43 : decode cX4_undo 43 = .ok (.istore_n 2, 1) := dk_61 (dk_at dksX4_undo_1 19 rfl rfl)
theorem dX4_undo_44 : decode cX4_undo 44 = .ok (.iload_n 2, 1) := dk_28 (dk_at dksX4_undo_1 20 rfl rfl)
theorem dX4_undo_45 : decode cX4_undo 45 = .ok (.iconst 5, 1) := dk_8 (dk_at dksX4_undo_1 21 rfl rfl)
theorem dX4_undo_46 : decode cX4_undo 46 = .ok (.if_icmp .ge 37, 3) := dk_162 0 37 (dk_at dksX4_undo_2 0 rfl rfl)
theorem dX4_undo_49 : decode cX4_undo 49 = .ok (.aload_n 0, 1) := dk_42 (dk_at dksX4_undo_2 3 rfl rfl)
theorem dX4_undo_50 : decode cX4_undo 50 = .ok (.getfield 13, 3) := dk_180 0 13 (dk_at dksX4_undo_2 4 rfl rfl)
theorem dX4_undo_53 : decode cX4_undo 53 = .ok (.bipush 42, 2) := dk_16 42 (dk_at dksX4_undo_2 7 rfl rfl)
theorem dX4_undo_55 : decode cX4_undo 55 = .ok (.iload_n 2, 1) := dk_28 (dk_at dksX4_undo_2 9 rfl rfl)
theorem dX4_undo_56 : decode cX4_undo 56 = .ok (.iadd, 1) := dk_96 (dk_at dksX4_undo_2 10 rfl rfl)
theorem dX4_undo_57 : decode cX4_undo 57 = .ok (.aload_n 0, 1) := dk_42 (dk_at dksX4_undo_2 11 rfl rfl)
theorem dX4_undo_58 : decode cX4_undo 58 = .ok (.getfield 13, 3) := dk_180 0 13 (dk_at dksX4_undo_2 12 rfl rfl)
theorem dX4_undo_61 : decode cX4_undo 61 = .ok (.bipush 48, 2) := dk_16 48 (dk_at dksX4_undo_2 15 rfl rfl)
theorem dX4_undo_63 : decode cX4_undo 63 = .ok (.iconst 5, 1) := dk_8 (dk_at dksX4_undo_2 17 rfl rfl)
theorem dX4_undo_64 : decode cX4_undo 64 = .ok (.aload_n 0, 1) := dk_42 (dk_at dksX4_undo_2 18 rfl rfl)
theorem dX4_undo_65 : decode cX4_undo 65 = .ok (.getfield 13, 3) := dk_180 0 13 (dk_at dksX4_undo_2 19 rfl rfl)
theorem dX4_undo_68 : decode cX4_undo 68 = .ok (.bipush 47, 2) := dk_16 47 (dk_at dksX4_undo_2 22 rfl rfl)
theorem dX4_undo_70 : decode cX4_undo 70 = .ok (.iaload, 1) := dk_46 (dk_at dksX4_undo_3 0 rfl rfl)
theorem dX4_undo_71 : decode cX4_undo 71 = .ok (.imul, 1) := dk_104 (dk_at dksX4_undo_3 1 rfl rfl)
theorem dX4_undo_72 : decode cX4_undo 72 = .ok (.iadd, 1) := dk_96 (dk_at dksX4_undo_3 2 rfl rfl)
theorem dX4_undo_73 : decode cX4_undo 73 = .ok (.iload_n 2, 1) := dk_28 (dk_at dksX4_undo_3 3 rfl rfl)
theorem dX4_undo_74 : decode cX4_undo 74 = .ok (.iadd, 1) := dk_96 (dk_at dksX4_undo_3 4 rfl rfl)
theorem dX4_undo_75 : decode cX4_undo 75 = .ok (.iaload, 1) := dk_46 (dk_at dksX4_undo_3 5 rfl rfl)
theorem dX4_undo_76 : decode cX4_undo 76 = .ok (.iastore, 1) := dk_79 (dk_at dksX4_undo_3 6 rfl rfl)
theorem dX4_undo_77 : decode cX4_undo 77 = .ok (.iinc 2 1, 3) := dk_132 2 1 (dk_at dksX4_undo_3 7 rfl rfl)
theorem dX4_undo_80 : decode cX4_undo 80 = .ok (.goto (-36), 3) := dk_167 255 220 (dk_at dksX4_undo_3 10 rfl rfl)
theorem dX4_undo_83 : decode cX4_undo 83 = .ok (.aload_n 0, 1) := dk_42 (dk_at dksX4_undo_3 13 rfl rfl)
theorem dX4_undo_84 : decode cX4_undo 84 = .ok (.getfield 13, 3) := dk_180 0 13 (dk_at dksX4_undo_3 14 rfl rfl)
theorem dX4_undo_87 : decode cX4_undo 87 = .ok (.bipush 47, 2) := dk_16 47 (dk_at dksX4_undo_3 17 rfl rfl)
theorem dX4_undo_89 : decode cX4_undo 89 = .ok (.iaload, 1) := dk_46 (dk_at dksX4_undo_3 19 rfl rfl)
theorem dX4_undo_90 : decode cX4_undo 90 = .ok (.ireturn, 1) := dk_172 (dk_at dksX4_undo_3 20 rfl rfl)
abbrev cX4_judge : ByteArray := prog_16_method_63_code
def yX4_judge : MethodName := ⟨RX4, "judge", "(II)I"⟩
def dkwX4_judge_4 : List UInt8 := [16, 6, 108, 167, 0, 8, 21, 5, 16, 6, 112, 172]
abbrev dktX4_judge_4 : List UInt8 := dkwX4_judge_4 ++ []
def dkwX4_judge_3 : List UInt8 := [21, 4, 167, 0, 33, 28, 4, 160, 0, 10, 42, 180, 1, 25, 167, 0, 21, 28, 5, 160, 0, 11, 21, 5]
abbrev dktX4_judge_3 : List UInt8 := dkwX4_judge_3 ++ dktX4_judge_4
def dkwX4_judge_2 : List UInt8 := [182, 0, 232, 54, 5, 42, 182, 1, 42, 28, 154, 0, 19, 42, 180, 1, 25, 154, 0, 7, 2, 167, 0, 38]
abbrev dktX4_judge_2 : List UInt8 := dkwX4_judge_2 ++ dktX4_judge_3
def dkwX4_judge_1 : List UInt8 := [182, 1, 36, 62, 29, 153, 0, 5, 29, 172, 42, 182, 0, 252, 42, 27, 182, 1, 39, 54, 4, 42]
abbrev dktX4_judge_1 : List UInt8 := dkwX4_judge_1 ++ dktX4_judge_2
def dkwX4_judge_0 : List UInt8 := [42, 3, 181, 0, 1, 28, 133, 9, 20, 1, 34, 184, 0, 142, 154, 0, 6, 16, 254, 172, 42, 27]
abbrev dktX4_judge_0 : List UInt8 := dkwX4_judge_0 ++ dktX4_judge_1
theorem dksX4_judge_0 : cX4_judge.data.toList.drop 0 = dktX4_judge_0 := by decide +kernel
theorem dksX4_judge_1 : cX4_judge.data.toList.drop 22 = dktX4_judge_1 := dk_seg dksX4_judge_0 22 rfl rfl
theorem dksX4_judge_2 : cX4_judge.data.toList.drop 44 = dktX4_judge_2 := dk_seg dksX4_judge_1 22 rfl rfl
theorem dksX4_judge_3 : cX4_judge.data.toList.drop 68 = dktX4_judge_3 := dk_seg dksX4_judge_2 24 rfl rfl
theorem dksX4_judge_4 : cX4_judge.data.toList.drop 92 = dktX4_judge_4 := dk_seg dksX4_judge_3 24 rfl rfl
theorem dX4_judge_0 : decode cX4_judge 0 = .ok (.aload_n 0, 1) := dk_42 (dk_at dksX4_judge_0 0 rfl rfl)
theorem dX4_judge_1 : decode cX4_judge 1 = .ok (.iconst 0, 1) := dk_3 (dk_at dksX4_judge_0 1 rfl rfl)
theorem dX4_judge_2 : decode cX4_judge 2 = .ok (.putfield 1, 3) := dk_181 0 1 (dk_at dksX4_judge_0 2 rfl rfl)
theorem dX4_judge_5 : decode cX4_judge 5 = .ok (.iload_n 2, 1) := dk_28 (dk_at dksX4_judge_0 5 rfl rfl)
theorem dX4_judge_6 : decode cX4_judge 6 = .ok (.i2l, 1) := dk_133 (dk_at dksX4_judge_0 6 rfl rfl)
theorem dX4_judge_7 : decode cX4_judge 7 = .ok (.lconst 0, 1) := dk_9 (dk_at dksX4_judge_0 7 rfl rfl)
theorem dX4_judge_8 : decode cX4_judge 8 = .ok (.ldc2_w 290, 3) := dk_20 1 34 (dk_at dksX4_judge_0 8 rfl rfl)
theorem dX4_judge_11 : decode cX4_judge 11 = .ok (.invokestatic 142, 3) := dk_184 0 142 (dk_at dksX4_judge_0 11 rfl rfl)
theorem dX4_judge_14 : decode cX4_judge 14 = .ok (.ifCond .ne 6, 3) := dk_154 0 6 (dk_at dksX4_judge_0 14 rfl rfl)
theorem dX4_judge_17 : decode cX4_judge 17 = .ok (.bipush (-2), 2) := dk_16 254 (dk_at dksX4_judge_0 17 rfl rfl)
theorem dX4_judge_19 : decode cX4_judge 19 = .ok (.ireturn, 1) := dk_172 (dk_at dksX4_judge_0 19 rfl rfl)
theorem dX4_judge_20 : decode cX4_judge 20 = .ok (.aload_n 0, 1) := dk_42 (dk_at dksX4_judge_0 20 rfl rfl)
theorem dX4_judge_21 : decode cX4_judge 21 = .ok (.iload_n 1, 1) := dk_27 (dk_at dksX4_judge_0 21 rfl rfl)
theorem dX4_judge_22 : decode cX4_judge 22 = .ok (.invokevirtual 292, 3) := dk_182 1 36 (dk_at dksX4_judge_1 0 rfl rfl)
theorem dX4_judge_25 : decode cX4_judge 25 = .ok (.istore_n 3, 1) := dk_62 (dk_at dksX4_judge_1 3 rfl rfl)
theorem dX4_judge_26 : decode cX4_judge 26 = .ok (.iload_n 3, 1) := dk_29 (dk_at dksX4_judge_1 4 rfl rfl)
theorem dX4_judge_27 : decode cX4_judge 27 = .ok (.ifCond .eq 5, 3) := dk_153 0 5 (dk_at dksX4_judge_1 5 rfl rfl)
theorem dX4_judge_30 : decode cX4_judge 30 = .ok (.iload_n 3, 1) := dk_29 (dk_at dksX4_judge_1 8 rfl rfl)
theorem dX4_judge_31 : decode cX4_judge 31 = .ok (.ireturn, 1) := dk_172 (dk_at dksX4_judge_1 9 rfl rfl)
theorem dX4_judge_32 : decode cX4_judge 32 = .ok (.aload_n 0, 1) := dk_42 (dk_at dksX4_judge_1 10 rfl rfl)
theorem dX4_judge_33 : decode cX4_judge 33 = .ok (.invokevirtual 252, 3) := dk_182 0 252 (dk_at dksX4_judge_1 11 rfl rfl)
theorem dX4_judge_36 : decode cX4_judge 36 = .ok (.aload_n 0, 1) := dk_42 (dk_at dksX4_judge_1 14 rfl rfl)
theorem dX4_judge_37 : decode cX4_judge 37 = .ok (.iload_n 1, 1) := dk_27 (dk_at dksX4_judge_1 15 rfl rfl)
theorem dX4_judge_38 : decode cX4_judge 38 = .ok (.invokevirtual 295, 3) := dk_182 1 39 (dk_at dksX4_judge_1 16 rfl rfl)
theorem dX4_judge_41 : decode cX4_judge 41 = .ok (.istore 4, 2) := dk_54 4 (dk_at dksX4_judge_1 19 rfl rfl)
theorem dX4_judge_43 : decode cX4_judge 43 = .ok (.aload_n 0, 1) := dk_42 (dk_at dksX4_judge_1 21 rfl rfl)
theorem dX4_judge_44 : decode cX4_judge 44 = .ok (.invokevirtual 232, 3) := dk_182 0 232 (dk_at dksX4_judge_2 0 rfl rfl)
theorem dX4_judge_47 : decode cX4_judge 47 = .ok (.istore 5, 2) := dk_54 5 (dk_at dksX4_judge_2 3 rfl rfl)
theorem dX4_judge_49 : decode cX4_judge 49 = .ok (.aload_n 0, 1) := dk_42 (dk_at dksX4_judge_2 5 rfl rfl)
theorem dX4_judge_50 : decode cX4_judge 50 = .ok (.invokevirtual 298, 3) := dk_182 1 42 (dk_at dksX4_judge_2 6 rfl rfl)
theorem dX4_judge_53 : decode cX4_judge 53 = .ok (.iload_n 2, 1) := dk_28 (dk_at dksX4_judge_2 9 rfl rfl)
theorem dX4_judge_54 : decode cX4_judge 54 = .ok (.ifCond .ne 19, 3) := dk_154 0 19 (dk_at dksX4_judge_2 10 rfl rfl)
theorem dX4_judge_57 : decode cX4_judge 57 = .ok (.aload_n 0, 1) := dk_42 (dk_at dksX4_judge_2 13 rfl rfl)
theorem dX4_judge_58 : decode cX4_judge 58 = .ok (.getfield 281, 3) := dk_180 1 25 (dk_at dksX4_judge_2 14 rfl rfl)
theorem dX4_judge_61 : decode cX4_judge 61 = .ok (.ifCond .ne 7, 3) := dk_154 0 7 (dk_at dksX4_judge_2 17 rfl rfl)
theorem dX4_judge_64 : decode cX4_judge 64 = .ok (.iconst (-1), 1) := dk_2 (dk_at dksX4_judge_2 20 rfl rfl)
theorem dX4_judge_65 : decode cX4_judge 65 = .ok (.goto 38, 3) := dk_167 0 38 (dk_at dksX4_judge_2 21 rfl rfl)
theorem dX4_judge_68 : decode cX4_judge 68 = .ok (.iload 4, 2) := dk_21 4 (dk_at dksX4_judge_3 0 rfl rfl)
theorem dX4_judge_70 : decode cX4_judge 70 = .ok (.goto 33, 3) := dk_167 0 33 (dk_at dksX4_judge_3 2 rfl rfl)
theorem dX4_judge_73 : decode cX4_judge 73 = .ok (.iload_n 2, 1) := dk_28 (dk_at dksX4_judge_3 5 rfl rfl)
theorem dX4_judge_74 : decode cX4_judge 74 = .ok (.iconst 1, 1) := dk_4 (dk_at dksX4_judge_3 6 rfl rfl)
theorem dX4_judge_75 : decode cX4_judge 75 = .ok (.if_icmp .ne 10, 3) := dk_160 0 10 (dk_at dksX4_judge_3 7 rfl rfl)
theorem dX4_judge_78 : decode cX4_judge 78 = .ok (.aload_n 0, 1) := dk_42 (dk_at dksX4_judge_3 10 rfl rfl)
theorem dX4_judge_79 : decode cX4_judge 79 = .ok (.getfield 281, 3) := dk_180 1 25 (dk_at dksX4_judge_3 11 rfl rfl)
theorem dX4_judge_82 : decode cX4_judge 82 = .ok (.goto 21, 3) := dk_167 0 21 (dk_at dksX4_judge_3 14 rfl rfl)
theorem dX4_judge_85 : decode cX4_judge 85 = .ok (.iload_n 2, 1) := dk_28 (dk_at dksX4_judge_3 17 rfl rfl)
theorem dX4_judge_86 : decode cX4_judge 86 = .ok (.iconst 2, 1) := dk_5 (dk_at dksX4_judge_3 18 rfl rfl)
theorem dX4_judge_87 : decode cX4_judge 87 = .ok (.if_icmp .ne 11, 3) := dk_160 0 11 (dk_at dksX4_judge_3 19 rfl rfl)
theorem dX4_judge_90 : decode cX4_judge 90 = .ok (.iload 5, 2) := dk_21 5 (dk_at dksX4_judge_3 22 rfl rfl)
theorem dX4_judge_92 : decode cX4_judge 92 = .ok (.bipush 6, 2) := dk_16 6 (dk_at dksX4_judge_4 0 rfl rfl)
theorem dX4_judge_94 : decode cX4_judge 94 = .ok (.idiv, 1) := dk_108 (dk_at dksX4_judge_4 2 rfl rfl)
theorem dX4_judge_95 : decode cX4_judge 95 = .ok (.goto 8, 3) := dk_167 0 8 (dk_at dksX4_judge_4 3 rfl rfl)
theorem dX4_judge_98 : decode cX4_judge 98 = .ok (.iload 5, 2) := dk_21 5 (dk_at dksX4_judge_4 6 rfl rfl)
theorem dX4_judge_100 : decode cX4_judge 100 = .ok (.bipush 6, 2) := dk_16 6 (dk_at dksX4_judge_4 8 rfl rfl)
theorem dX4_judge_102 : decode cX4_judge 102 = .ok (.irem, 1) := dk_112 (dk_at dksX4_judge_4 10 rfl rfl)
theorem dX4_judge_103 : decode cX4_judge 103 = .ok (.ireturn, 1) := dk_172 (dk_at dksX4_judge_4 11 rfl rfl)
abbrev cX4_noTray : ByteArray := prog_16_method_62_code
def yX4_noTray : MethodName := ⟨RX4, "noTray", "(I)I"⟩
def dkwX4_noTray_1 : List UInt8 := [160, 0, 8, 16, 250, 167, 0, 4, 3, 172]
abbrev dktX4_noTray_1 : List UInt8 := dkwX4_noTray_1 ++ []
def dkwX4_noTray_0 : List UInt8 := [27, 133, 9, 20, 1, 34, 184, 0, 142, 154, 0, 8, 16, 254, 167, 0, 19, 42, 180, 0, 67, 27, 46, 2]
abbrev dktX4_noTray_0 : List UInt8 := dkwX4_noTray_0 ++ dktX4_noTray_1
theorem dksX4_noTray_0 : cX4_noTray.data.toList.drop 0 = dktX4_noTray_0 := by decide +kernel
theorem dksX4_noTray_1 : cX4_noTray.data.toList.drop 24 = dktX4_noTray_1 := dk_seg dksX4_noTray_0 24 rfl rfl
theorem dX4_noTray_0 : decode cX4_noTray 0 = .ok (.iload_n 1, 1) := dk_27 (dk_at dksX4_noTray_0 0 rfl rfl)
theorem dX4_noTray_1 : decode cX4_noTray 1 = .ok (.i2l, 1) := dk_133 (dk_at dksX4_noTray_0 1 rfl rfl)
theorem dX4_noTray_2 : decode cX4_noTray 2 = .ok (.lconst 0, 1) := dk_9 (dk_at dksX4_noTray_0 2 rfl rfl)
theorem dX4_noTray_3 : decode cX4_noTray 3 = .ok (.ldc2_w 290, 3) := dk_20 1 34 (dk_at dksX4_noTray_0 3 rfl rfl)
theorem dX4_noTray_6 : decode cX4_noTray 6 = .ok (.invokestatic 142, 3) := dk_184 0 142 (dk_at dksX4_noTray_0 6 rfl rfl)
theorem dX4_noTray_9 : decode cX4_noTray 9 = .ok (.ifCond .ne 8, 3) := dk_154 0 8 (dk_at dksX4_noTray_0 9 rfl rfl)
theorem dX4_noTray_12 : decode cX4_noTray 12 = .ok (.bipush (-2), 2) := dk_16 254 (dk_at dksX4_noTray_0 12 rfl rfl)
theorem dX4_noTray_14 : decode cX4_noTray 14 = .ok (.goto 19, 3) := dk_167 0 19 (dk_at dksX4_noTray_0 14 rfl rfl)
theorem dX4_noTray_17 : decode cX4_noTray 17 = .ok (.aload_n 0, 1) := dk_42 (dk_at dksX4_noTray_0 17 rfl rfl)
theorem dX4_noTray_18 : decode cX4_noTray 18 = .ok (.getfield 67, 3) := dk_180 0 67 (dk_at dksX4_noTray_0 18 rfl rfl)
theorem dX4_noTray_21 : decode cX4_noTray 21 = .ok (.iload_n 1, 1) := dk_27 (dk_at dksX4_noTray_0 21 rfl rfl)
theorem dX4_noTray_22 : decode cX4_noTray 22 = .ok (.iaload, 1) := dk_46 (dk_at dksX4_noTray_0 22 rfl rfl)
theorem dX4_noTray_23 : decode cX4_noTray 23 = .ok (.iconst (-1), 1) := dk_2 (dk_at dksX4_noTray_0 23 rfl rfl)
theorem dX4_noTray_24 : decode cX4_noTray 24 = .ok (.if_icmp .ne 8, 3) := dk_160 0 8 (dk_at dksX4_noTray_1 0 rfl rfl)
theorem dX4_noTray_27 : decode cX4_noTray 27 = .ok (.bipush (-6), 2) := dk_16 250 (dk_at dksX4_noTray_1 3 rfl rfl)
theorem dX4_noTray_29 : decode cX4_noTray 29 = .ok (.goto 4, 3) := dk_167 0 4 (dk_at dksX4_noTray_1 5 rfl rfl)
theorem dX4_noTray_32 : decode cX4_noTray 32 = .ok (.iconst 0, 1) := dk_3 (dk_at dksX4_noTray_1 8 rfl rfl)
theorem dX4_noTray_33 : decode cX4_noTray 33 = .ok (.ireturn, 1) := dk_172 (dk_at dksX4_noTray_1 9 rfl rfl)
abbrev cX4_tells : ByteArray := prog_16_method_61_code
def yX4_tells : MethodName := ⟨RX4, "tells", "(I)I"⟩
def dkwX4_tells_3 : List UInt8 := [27, 46, 172]
abbrev dktX4_tells_3 : List UInt8 := dkwX4_tells_3 ++ []
def dkwX4_tells_2 : List UInt8 := [180, 0, 73, 16, 40, 27, 104, 28, 96, 47, 136, 182, 1, 31, 132, 2, 1, 167, 255, 199, 42, 180, 0, 70]
abbrev dktX4_tells_2 : List UInt8 := dkwX4_tells_2 ++ dktX4_tells_3
def dkwX4_tells_1 : List UInt8 := [16, 40, 27, 104, 28, 96, 47, 182, 1, 28, 181, 1, 25, 42, 180, 1, 25, 153, 0, 5, 28, 172, 42, 42]
abbrev dktX4_tells_1 : List UInt8 := dkwX4_tells_1 ++ dktX4_tells_2
def dkwX4_tells_0 : List UInt8 := [42, 3, 181, 1, 25, 3, 61, 28, 42, 180, 0, 70, 27, 46, 162, 0, 53, 42, 42, 42, 180, 0, 73]
abbrev dktX4_tells_0 : List UInt8 := dkwX4_tells_0 ++ dktX4_tells_1
theorem dksX4_tells_0 : cX4_tells.data.toList.drop 0 = dktX4_tells_0 := by decide +kernel
theorem dksX4_tells_1 : cX4_tells.data.toList.drop 23 = dktX4_tells_1 := dk_seg dksX4_tells_0 23 rfl rfl
theorem dksX4_tells_2 : cX4_tells.data.toList.drop 47 = dktX4_tells_2 := dk_seg dksX4_tells_1 24 rfl rfl
theorem dksX4_tells_3 : cX4_tells.data.toList.drop 71 = dktX4_tells_3 := dk_seg dksX4_tells_2 24 rfl rfl
theorem dX4_tells_0 : decode cX4_tells 0 = .ok (.aload_n 0, 1) := dk_42 (dk_at dksX4_tells_0 0 rfl rfl)
theorem dX4_tells_1 : decode cX4_tells 1 = .ok (.iconst 0, 1) := dk_3 (dk_at dksX4_tells_0 1 rfl rfl)
theorem dX4_tells_2 : decode cX4_tells 2 = .ok (.putfield 281, 3) := dk_181 1 25 (dk_at dksX4_tells_0 2 rfl rfl)
theorem dX4_tells_5 : decode cX4_tells 5 = .ok (.iconst 0, 1) := dk_3 (dk_at dksX4_tells_0 5 rfl rfl)
theorem dX4_tells_6 : decode cX4_tells 6 = .ok (.istore_n 2, 1) := dk_61 (dk_at dksX4_tells_0 6 rfl rfl)
theorem dX4_tells_7 : decode cX4_tells 7 = .ok (.iload_n 2, 1) := dk_28 (dk_at dksX4_tells_0 7 rfl rfl)
theorem dX4_tells_8 : decode cX4_tells 8 = .ok (.aload_n 0, 1) := dk_42 (dk_at dksX4_tells_0 8 rfl rfl)
theorem dX4_tells_9 : decode cX4_tells 9 = .ok (.getfield 70, 3) := dk_180 0 70 (dk_at dksX4_tells_0 9 rfl rfl)
theorem dX4_tells_12 : decode cX4_tells 12 = .ok (.iload_n 1, 1) := dk_27 (dk_at dksX4_tells_0 12 rfl rfl)
theorem dX4_tells_13 : decode cX4_tells 13 = .ok (.iaload, 1) := dk_46 (dk_at dksX4_tells_0 13 rfl rfl)
theorem dX4_tells_14 : decode cX4_tells 14 = .ok (.if_icmp .ge 53, 3) := dk_162 0 53 (dk_at dksX4_tells_0 14 rfl rfl)
theorem dX4_tells_17 : decode cX4_tells 17 = .ok (.aload_n 0, 1) := dk_42 (dk_at dksX4_tells_0 17 rfl rfl)
theorem dX4_tells_18 : decode cX4_tells 18 = .ok (.aload_n 0, 1) := dk_42 (dk_at dksX4_tells_0 18 rfl rfl)
theorem dX4_tells_19 : decode cX4_tells 19 = .ok (.aload_n 0, 1) := dk_42 (dk_at dksX4_tells_0 19 rfl rfl)
theorem dX4_tells_20 : decode cX4_tells 20 = .ok (.getfield 73, 3) := dk_180 0 73 (dk_at dksX4_tells_0 20 rfl rfl)
theorem dX4_tells_23 : decode cX4_tells 23 = .ok (.bipush 40, 2) := dk_16 40 (dk_at dksX4_tells_1 0 rfl rfl)
theorem dX4_tells_25 : decode cX4_tells 25 = .ok (.iload_n 1, 1) := dk_27 (dk_at dksX4_tells_1 2 rfl rfl)
theorem dX4_tells_26 : decode cX4_tells 26 = .ok (.imul, 1) := dk_104 (dk_at dksX4_tells_1 3 rfl rfl)
theorem dX4_tells_27 : decode cX4_tells 27 = .ok (.iload_n 2, 1) := dk_28 (dk_at dksX4_tells_1 4 rfl rfl)
theorem dX4_tells_28 : decode cX4_tells 28 = .ok (.iadd, 1) := dk_96 (dk_at dksX4_tells_1 5 rfl rfl)
theorem dX4_tells_29 : decode cX4_tells 29 = .ok (.laload, 1) := dk_47 (dk_at dksX4_tells_1 6 rfl rfl)
theorem dX4_tells_30 : decode cX4_tells 30 = .ok (.invokevirtual 284, 3) := dk_182 1 28 (dk_at dksX4_tells_1 7 rfl rfl)
theorem dX4_tells_33 : decode cX4_tells 33 = .ok (.putfield 281, 3) := dk_181 1 25 (dk_at dksX4_tells_1 10 rfl rfl)
theorem dX4_tells_36 : decode cX4_tells 36 = .ok (.aload_n 0, 1) := dk_42 (dk_at dksX4_tells_1 13 rfl rfl)
theorem dX4_tells_37 : decode cX4_tells 37 = .ok (.getfield 281, 3) := dk_180 1 25 (dk_at dksX4_tells_1 14 rfl rfl)
theorem dX4_tells_40 : decode cX4_tells 40 = .ok (.ifCond .eq 5, 3) := dk_153 0 5 (dk_at dksX4_tells_1 17 rfl rfl)
theorem dX4_tells_43 : decode cX4_tells 43 = .ok (.iload_n 2, 1) := dk_28 (dk_at dksX4_tells_1 20 rfl rfl)
theorem dX4_tells_44 : decode cX4_tells 44 = .ok (.ireturn, 1) := dk_172 (dk_at dksX4_tells_1 21 rfl rfl)
theorem dX4_tells_45 : decode cX4_tells 45 = .ok (.aload_n 0, 1) := dk_42 (dk_at dksX4_tells_1 22 rfl rfl)
theorem dX4_tells_46 : decode cX4_tells 46 = .ok (.aload_n 0, 1) := dk_42 (dk_at dksX4_tells_1 23 rfl rfl)
theorem dX4_tells_47 : decode cX4_tells 47 = .ok (.getfield 73, 3) := dk_180 0 73 (dk_at dksX4_tells_2 0 rfl rfl)
theorem dX4_tells_50 : decode cX4_tells 50 = .ok (.bipush 40, 2) := dk_16 40 (dk_at dksX4_tells_2 3 rfl rfl)
theorem dX4_tells_52 : decode cX4_tells 52 = .ok (.iload_n 1, 1) := dk_27 (dk_at dksX4_tells_2 5 rfl rfl)
theorem dX4_tells_53 : decode cX4_tells 53 = .ok (.imul, 1) := dk_104 (dk_at dksX4_tells_2 6 rfl rfl)
theorem dX4_tells_54 : decode cX4_tells 54 = .ok (.iload_n 2, 1) := dk_28 (dk_at dksX4_tells_2 7 rfl rfl)
theorem dX4_tells_55 : decode cX4_tells 55 = .ok (.iadd, 1) := dk_96 (dk_at dksX4_tells_2 8 rfl rfl)
theorem dX4_tells_56 : decode cX4_tells 56 = .ok (.laload, 1) := dk_47 (dk_at dksX4_tells_2 9 rfl rfl)
theorem dX4_tells_57 : decode cX4_tells 57 = .ok (.l2i, 1) := dk_136 (dk_at dksX4_tells_2 10 rfl rfl)
theorem dX4_tells_58 : decode cX4_tells 58 = .ok (.invokevirtual 287, 3) := dk_182 1 31 (dk_at dksX4_tells_2 11 rfl rfl)
theorem dX4_tells_61 : decode cX4_tells 61 = .ok (.iinc 2 1, 3) := dk_132 2 1 (dk_at dksX4_tells_2 14 rfl rfl)
theorem dX4_tells_64 : decode cX4_tells 64 = .ok (.goto (-57), 3) := dk_167 255 199 (dk_at dksX4_tells_2 17 rfl rfl)
theorem dX4_tells_67 : decode cX4_tells 67 = .ok (.aload_n 0, 1) := dk_42 (dk_at dksX4_tells_2 20 rfl rfl)
theorem dX4_tells_68 : decode cX4_tells 68 = .ok (.getfield 70, 3) := dk_180 0 70 (dk_at dksX4_tells_2 21 rfl rfl)
theorem dX4_tells_71 : decode cX4_tells 71 = .ok (.iload_n 1, 1) := dk_27 (dk_at dksX4_tells_3 0 rfl rfl)
theorem dX4_tells_72 : decode cX4_tells 72 = .ok (.iaload, 1) := dk_46 (dk_at dksX4_tells_3 1 rfl rfl)
theorem dX4_tells_73 : decode cX4_tells 73 = .ok (.ireturn, 1) := dk_172 (dk_at dksX4_tells_3 2 rfl rfl)
abbrev cX4_whyNot : ByteArray := prog_16_method_59_code
def yX4_whyNot : MethodName := ⟨RX4, "whyNot", "(J)I"⟩
def dkwX4_whyNot_4 : List UInt8 := [20, 1, 13, 113, 184, 1, 8, 153, 0, 7, 3, 167, 0, 4, 4, 172]
abbrev dktX4_whyNot_4 : List UInt8 := dkwX4_whyNot_4 ++ []
def dkwX4_whyNot_3 : List UInt8 := [184, 0, 142, 153, 0, 34, 42, 31, 20, 1, 21, 101, 20, 1, 13, 109, 182, 1, 5, 153, 0, 18, 31]
abbrev dktX4_whyNot_3 : List UInt8 := dkwX4_whyNot_3 ++ dktX4_whyNot_4
def dkwX4_whyNot_2 : List UInt8 := [31, 20, 1, 17, 20, 1, 19, 184, 0, 142, 153, 0, 5, 3, 172, 31, 20, 1, 21, 20, 1, 23]
abbrev dktX4_whyNot_2 : List UInt8 := dkwX4_whyNot_2 ++ dktX4_whyNot_3
def dkwX4_whyNot_1 : List UInt8 := [184, 0, 142, 153, 0, 21, 42, 31, 20, 1, 13, 101, 182, 0, 228, 153, 0, 7, 3, 167, 0, 4, 4, 172]
abbrev dktX4_whyNot_1 : List UInt8 := dkwX4_whyNot_1 ++ dktX4_whyNot_2
def dkwX4_whyNot_0 : List UInt8 := [31, 9, 20, 1, 11, 184, 0, 142, 153, 0, 9, 42, 31, 182, 0, 242, 172, 31, 20, 1, 13, 20, 1, 15]
abbrev dktX4_whyNot_0 : List UInt8 := dkwX4_whyNot_0 ++ dktX4_whyNot_1
theorem dksX4_whyNot_0 : cX4_whyNot.data.toList.drop 0 = dktX4_whyNot_0 := by decide +kernel
theorem dksX4_whyNot_1 : cX4_whyNot.data.toList.drop 24 = dktX4_whyNot_1 := dk_seg dksX4_whyNot_0 24 rfl rfl
theorem dksX4_whyNot_2 : cX4_whyNot.data.toList.drop 48 = dktX4_whyNot_2 := dk_seg dksX4_whyNot_1 24 rfl rfl
theorem dksX4_whyNot_3 : cX4_whyNot.data.toList.drop 70 = dktX4_whyNot_3 := dk_seg dksX4_whyNot_2 22 rfl rfl
theorem dksX4_whyNot_4 : cX4_whyNot.data.toList.drop 93 = dktX4_whyNot_4 := dk_seg dksX4_whyNot_3 23 rfl rfl
theorem dX4_whyNot_0 : decode cX4_whyNot 0 = .ok (.lload_n 1, 1) := dk_31 (dk_at dksX4_whyNot_0 0 rfl rfl)
theorem dX4_whyNot_1 : decode cX4_whyNot 1 = .ok (.lconst 0, 1) := dk_9 (dk_at dksX4_whyNot_0 1 rfl rfl)
theorem dX4_whyNot_2 : decode cX4_whyNot 2 = .ok (.ldc2_w 267, 3) := dk_20 1 11 (dk_at dksX4_whyNot_0 2 rfl rfl)
theorem dX4_whyNot_5 : decode cX4_whyNot 5 = .ok (.invokestatic 142, 3) := dk_184 0 142 (dk_at dksX4_whyNot_0 5 rfl rfl)
theorem dX4_whyNot_8 : decode cX4_whyNot 8 = .ok (.ifCond .eq 9, 3) := dk_153 0 9 (dk_at dksX4_whyNot_0 8 rfl rfl)
theorem dX4_whyNot_11 : decode cX4_whyNot 11 = .ok (.aload_n 0, 1) := dk_42 (dk_at dksX4_whyNot_0 11 rfl rfl)
theorem dX4_whyNot_12 : decode cX4_whyNot 12 = .ok (.lload_n 1, 1) := dk_31 (dk_at dksX4_whyNot_0 12 rfl rfl)
theorem dX4_whyNot_13 : decode cX4_whyNot 13 = .ok (.invokevirtual 242, 3) := dk_182 0 242 (dk_at dksX4_whyNot_0 13 rfl rfl)
theorem dX4_whyNot_16 : decode cX4_whyNot 16 = .ok (.ireturn, 1) := dk_172 (dk_at dksX4_whyNot_0 16 rfl rfl)
theorem dX4_whyNot_17 : decode cX4_whyNot 17 = .ok (.lload_n 1, 1) := dk_31 (dk_at dksX4_whyNot_0 17 rfl rfl)
theorem dX4_whyNot_18 : decode cX4_whyNot 18 = .ok (.ldc2_w 269, 3) := dk_20 1 13 (dk_at dksX4_whyNot_0 18 rfl rfl)
theorem dX4_whyNot_21 : decode cX4_whyNot 21 = .ok (.ldc2_w 271, 3) := dk_20 1 15 (dk_at dksX4_whyNot_0 21 rfl rfl)
theorem dX4_whyNot_24 : decode cX4_whyNot 24 = .ok (.invokestatic 142, 3) := dk_184 0 142 (dk_at dksX4_whyNot_1 0 rfl rfl)
theorem dX4_whyNot_27 : decode cX4_whyNot 27 = .ok (.ifCond .eq 21, 3) := dk_153 0 21 (dk_at dksX4_whyNot_1 3 rfl rfl)
theorem dX4_whyNot_30 : decode cX4_whyNot 30 = .ok (.aload_n 0, 1) := dk_42 (dk_at dksX4_whyNot_1 6 rfl rfl)
theorem dX4_whyNot_31 : decode cX4_whyNot 31 = .ok (.lload_n 1, 1) := dk_31 (dk_at dksX4_whyNot_1 7 rfl rfl)
theorem dX4_whyNot_32 : decode cX4_whyNot 32 = .ok (.ldc2_w 269, 3) := dk_20 1 13 (dk_at dksX4_whyNot_1 8 rfl rfl)
theorem dX4_whyNot_35 : decode cX4_whyNot 35 = .ok (.lsub, 1) := dk_101 (dk_at dksX4_whyNot_1 11 rfl rfl)
theorem dX4_whyNot_36 : decode cX4_whyNot 36 = .ok (.invokevirtual 228, 3) := dk_182 0 228 (dk_at dksX4_whyNot_1 12 rfl rfl)
theorem dX4_whyNot_39 : decode cX4_whyNot 39 = .ok (.ifCond .eq 7, 3) := dk_153 0 7 (dk_at dksX4_whyNot_1 15 rfl rfl)
theorem dX4_whyNot_42 : decode cX4_whyNot 42 = .ok (.iconst 0, 1) := dk_3 (dk_at dksX4_whyNot_1 18 rfl rfl)
theorem dX4_whyNot_43 : decode cX4_whyNot 43 = .ok (.goto 4, 3) := dk_167 0 4 (dk_at dksX4_whyNot_1 19 rfl rfl)
theorem dX4_whyNot_46 : decode cX4_whyNot 46 = .ok (.iconst 1, 1) := dk_4 (dk_at dksX4_whyNot_1 22 rfl rfl)
theorem dX4_whyNot_47 : decode cX4_whyNot 47 = .ok (.ireturn, 1) := dk_172 (dk_at dksX4_whyNot_1 23 rfl rfl)
theorem dX4_whyNot_48 : decode cX4_whyNot 48 = .ok (.lload_n 1, 1) := dk_31 (dk_at dksX4_whyNot_2 0 rfl rfl)
theorem dX4_whyNot_49 : decode cX4_whyNot 49 = .ok (.ldc2_w 273, 3) := dk_20 1 17 (dk_at dksX4_whyNot_2 1 rfl rfl)
theorem dX4_whyNot_52 : decode cX4_whyNot 52 = .ok (.ldc2_w 275, 3) := dk_20 1 19 (dk_at dksX4_whyNot_2 4 rfl rfl)
theorem dX4_whyNot_55 : decode cX4_whyNot 55 = .ok (.invokestatic 142, 3) := dk_184 0 142 (dk_at dksX4_whyNot_2 7 rfl rfl)
theorem dX4_whyNot_58 : decode cX4_whyNot 58 = .ok (.ifCond .eq 5, 3) := dk_153 0 5 (dk_at dksX4_whyNot_2 10 rfl rfl)
theorem dX4_whyNot_61 : decode cX4_whyNot 61 = .ok (.iconst 0, 1) := dk_3 (dk_at dksX4_whyNot_2 13 rfl rfl)
theorem dX4_whyNot_62 : decode cX4_whyNot 62 = .ok (.ireturn, 1) := dk_172 (dk_at dksX4_whyNot_2 14 rfl rfl)
theorem dX4_whyNot_63 : decode cX4_whyNot 63 = .ok (.lload_n 1, 1) := dk_31 (dk_at dksX4_whyNot_2 15 rfl rfl)
theorem dX4_whyNot_64 : decode cX4_whyNot 64 = .ok (.ldc2_w 277, 3) := dk_20 1 21 (dk_at dksX4_whyNot_2 16 rfl rfl)
theorem dX4_whyNot_67 : decode cX4_whyNot 67 = .ok (.ldc2_w 279, 3) := dk_20 1 23 (dk_at dksX4_whyNot_2 19 rfl rfl)
theorem dX4_whyNot_70 : decode cX4_whyNot 70 = .ok (.invokestatic 142, 3) := dk_184 0 142 (dk_at dksX4_whyNot_3 0 rfl rfl)
theorem dX4_whyNot_73 : decode cX4_whyNot 73 = .ok (.ifCond .eq 34, 3) := dk_153 0 34 (dk_at dksX4_whyNot_3 3 rfl rfl)
theorem dX4_whyNot_76 : decode cX4_whyNot 76 = .ok (.aload_n 0, 1) := dk_42 (dk_at dksX4_whyNot_3 6 rfl rfl)
theorem dX4_whyNot_77 : decode cX4_whyNot 77 = .ok (.lload_n 1, 1) := dk_31 (dk_at dksX4_whyNot_3 7 rfl rfl)
theorem dX4_whyNot_78 : decode cX4_whyNot 78 = .ok (.ldc2_w 277, 3) := dk_20 1 21 (dk_at dksX4_whyNot_3 8 rfl rfl)
theorem dX4_whyNot_81 : decode cX4_whyNot 81 = .ok (.lsub, 1) := dk_101 (dk_at dksX4_whyNot_3 11 rfl rfl)
theorem dX4_whyNot_82 : decode cX4_whyNot 82 = .ok (.ldc2_w 269, 3) := dk_20 1 13 (dk_at dksX4_whyNot_3 12 rfl rfl)
theorem dX4_whyNot_85 : decode cX4_whyNot 85 = .ok (.ldiv, 1) := dk_109 (dk_at dksX4_whyNot_3 15 rfl rfl)
theorem dX4_whyNot_86 : decode cX4_whyNot 86 = .ok (.invokevirtual 261, 3) := dk_182 1 5 (dk_at dksX4_whyNot_3 16 rfl rfl)
theorem dX4_whyNot_89 : decode cX4_whyNot 89 = .ok (.ifCond .eq 18, 3) := dk_153 0 18 (dk_at dksX4_whyNot_3 19 rfl rfl)
theorem dX4_whyNot_92 : decode cX4_whyNot 92 = .ok (.lload_n 1, 1) := dk_31 (dk_at dksX4_whyNot_3 22 rfl rfl)
theorem dX4_whyNot_93 : decode cX4_whyNot 93 = .ok (.ldc2_w 269, 3) := dk_20 1 13 (dk_at dksX4_whyNot_4 0 rfl rfl)
theorem dX4_whyNot_96 : decode cX4_whyNot 96 = .ok (.lrem, 1) := dk_113 (dk_at dksX4_whyNot_4 3 rfl rfl)
theorem dX4_whyNot_97 : decode cX4_whyNot 97 = .ok (.invokestatic 264, 3) := dk_184 1 8 (dk_at dksX4_whyNot_4 4 rfl rfl)
theorem dX4_whyNot_100 : decode cX4_whyNot 100 = .ok (.ifCond .eq 7, 3) := dk_153 0 7 (dk_at dksX4_whyNot_4 7 rfl rfl)
theorem dX4_whyNot_103 : decode cX4_whyNot 103 = .ok (.iconst 0, 1) := dk_3 (dk_at dksX4_whyNot_4 10 rfl rfl)
theorem dX4_whyNot_104 : decode cX4_whyNot 104 = .ok (.goto 4, 3) := dk_167 0 4 (dk_at dksX4_whyNot_4 11 rfl rfl)
theorem dX4_whyNot_107 : decode cX4_whyNot 107 = .ok (.iconst 1, 1) := dk_4 (dk_at dksX4_whyNot_4 14 rfl rfl)
theorem dX4_whyNot_108 : decode cX4_whyNot 108 = .ok (.ireturn, 1) := dk_172 (dk_at dksX4_whyNot_4 15 rfl rfl)
abbrev cX4_does : ByteArray := prog_16_method_60_code
def yX4_does : MethodName := ⟨RX4, "does", "(I)V"⟩
def dkwX4_does_3 : List UInt8 := [27, 16, 10, 112, 96, 182, 0, 249, 177]
abbrev dktX4_does_3 : List UInt8 := dkwX4_does_3 ++ []
def dkwX4_does_2 : List UInt8 := [180, 0, 13, 16, 45, 27, 16, 20, 100, 79, 167, 0, 22, 42, 16, 6, 27, 16, 100, 100, 16, 10, 108, 104]
abbrev dktX4_does_2 : List UInt8 := dkwX4_does_2 ++ dktX4_does_3
def dkwX4_does_1 : List UInt8 := [16, 44, 92, 46, 4, 27, 16, 10, 100, 120, 130, 79, 167, 0, 42, 27, 16, 30, 162, 0, 17, 42]
abbrev dktX4_does_1 : List UInt8 := dkwX4_does_1 ++ dktX4_does_2
def dkwX4_does_0 : List UInt8 := [27, 16, 10, 162, 0, 11, 42, 27, 182, 0, 255, 167, 0, 67, 27, 16, 20, 162, 0, 22, 42, 180, 0, 13]
abbrev dktX4_does_0 : List UInt8 := dkwX4_does_0 ++ dktX4_does_1
theorem dksX4_does_0 : cX4_does.data.toList.drop 0 = dktX4_does_0 := by decide +kernel
theorem dksX4_does_1 : cX4_does.data.toList.drop 24 = dktX4_does_1 := dk_seg dksX4_does_0 24 rfl rfl
theorem dksX4_does_2 : cX4_does.data.toList.drop 46 = dktX4_does_2 := dk_seg dksX4_does_1 22 rfl rfl
theorem dksX4_does_3 : cX4_does.data.toList.drop 70 = dktX4_does_3 := dk_seg dksX4_does_2 24 rfl rfl
theorem dX4_does_0 : decode cX4_does 0 = .ok (.iload_n 1, 1) := dk_27 (dk_at dksX4_does_0 0 rfl rfl)
theorem dX4_does_1 : decode cX4_does 1 = .ok (.bipush 10, 2) := dk_16 10 (dk_at dksX4_does_0 1 rfl rfl)
theorem dX4_does_3 : decode cX4_does 3 = .ok (.if_icmp .ge 11, 3) := dk_162 0 11 (dk_at dksX4_does_0 3 rfl rfl)
theorem dX4_does_6 : decode cX4_does 6 = .ok (.aload_n 0, 1) := dk_42 (dk_at dksX4_does_0 6 rfl rfl)
theorem dX4_does_7 : decode cX4_does 7 = .ok (.iload_n 1, 1) := dk_27 (dk_at dksX4_does_0 7 rfl rfl)
theorem dX4_does_8 : decode cX4_does 8 = .ok (.invokevirtual 255, 3) := dk_182 0 255 (dk_at dksX4_does_0 8 rfl rfl)
theorem dX4_does_11 : decode cX4_does 11 = .ok (.goto 67, 3) := dk_167 0 67 (dk_at dksX4_does_0 11 rfl rfl)
theorem dX4_does_14 : decode cX4_does 14 = .ok (.iload_n 1, 1) := dk_27 (dk_at dksX4_does_0 14 rfl rfl)
theorem dX4_does_15 : decode cX4_does 15 = .ok (.bipush 20, 2) := dk_16 20 (dk_at dksX4_does_0 15 rfl rfl)
theorem dX4_does_17 : decode cX4_does 17 = .ok (.if_icmp .ge 22, 3) := dk_162 0 22 (dk_at dksX4_does_0 17 rfl rfl)
theorem dX4_does_20 : decode cX4_does 20 = .ok (.aload_n 0, 1) := dk_42 (dk_at dksX4_does_0 20 rfl rfl)
theorem dX4_does_21 : decode cX4_does 21 = .ok (.getfield 13, 3) := dk_180 0 13 (dk_at dksX4_does_0 21 rfl rfl)
theorem dX4_does_24 : decode cX4_does 24 = .ok (.bipush 44, 2) := dk_16 44 (dk_at dksX4_does_1 0 rfl rfl)
theorem dX4_does_26 : decode cX4_does 26 = .ok (.dup2, 1) := dk_92 (dk_at dksX4_does_1 2 rfl rfl)
theorem dX4_does_27 : decode cX4_does 27 = .ok (.iaload, 1) := dk_46 (dk_at dksX4_does_1 3 rfl rfl)
theorem dX4_does_28 : decode cX4_does 28 = .ok (.iconst 1, 1) := dk_4 (dk_at dksX4_does_1 4 rfl rfl)
theorem dX4_does_29 : decode cX4_does 29 = .ok (.iload_n 1, 1) := dk_27 (dk_at dksX4_does_1 5 rfl rfl)
theorem dX4_does_30 : decode cX4_does 30 = .ok (.bipush 10, 2) := dk_16 10 (dk_at dksX4_does_1 6 rfl rfl)
theorem dX4_does_32 : decode cX4_does 32 = .ok (.isub, 1) := dk_100 (dk_at dksX4_does_1 8 rfl rfl)
theorem dX4_does_33 : decode cX4_does 33 = .ok (.ishl, 1) := dk_120 (dk_at dksX4_does_1 9 rfl rfl)
theorem dX4_does_34 : decode cX4_does 34 = .ok (.ixor, 1) := dk_130 (dk_at dksX4_does_1 10 rfl rfl)
theorem dX4_does_35 : decode cX4_does 35 = .ok (.iastore, 1) := dk_79 (dk_at dksX4_does_1 11 rfl rfl)
theorem dX4_does_36 : decode cX4_does 36 = .ok (.goto 42, 3) := dk_167 0 42 (dk_at dksX4_does_1 12 rfl rfl)
theorem dX4_does_39 : decode cX4_does 39 = .ok (.iload_n 1, 1) := dk_27 (dk_at dksX4_does_1 15 rfl rfl)
theorem dX4_does_40 : decode cX4_does 40 = .ok (.bipush 30, 2) := dk_16 30 (dk_at dksX4_does_1 16 rfl rfl)
theorem dX4_does_42 : decode cX4_does 42 = .ok (.if_icmp .ge 17, 3) := dk_162 0 17 (dk_at dksX4_does_1 18 rfl rfl)
theorem dX4_does_45 : decode cX4_does 45 = .ok (.aload_n 0, 1) := dk_42 (dk_at dksX4_does_1 21 rfl rfl)
theorem dX4_does_46 : decode cX4_does 46 = .ok (.getfield 13, 3) := dk_180 0 13 (dk_at dksX4_does_2 0 rfl rfl)
theorem dX4_does_49 : decode cX4_does 49 = .ok (.bipush 45, 2) := dk_16 45 (dk_at dksX4_does_2 3 rfl rfl)
theorem dX4_does_51 : decode cX4_does 51 = .ok (.iload_n 1, 1) := dk_27 (dk_at dksX4_does_2 5 rfl rfl)
theorem dX4_does_52 : decode cX4_does 52 = .ok (.bipush 20, 2) := dk_16 20 (dk_at dksX4_does_2 6 rfl rfl)
theorem dX4_does_54 : decode cX4_does 54 = .ok (.isub, 1) := dk_100 (dk_at dksX4_does_2 8 rfl rfl)
theorem dX4_does_55 : decode cX4_does 55 = .ok (.iastore, 1) := dk_79 (dk_at dksX4_does_2 9 rfl rfl)
theorem dX4_does_56 : decode cX4_does 56 = .ok (.goto 22, 3) := dk_167 0 22 (dk_at dksX4_does_2 10 rfl rfl)
theorem dX4_does_59 : decode cX4_does 59 = .ok (.aload_n 0, 1) := dk_42 (dk_at dksX4_does_2 13 rfl rfl)
theorem dX4_does_60 : decode cX4_does 60 = .ok (.bipush 6, 2) := dk_16 6 (dk_at dksX4_does_2 14 rfl rfl)
theorem dX4_does_62 : decode cX4_does 62 = .ok (.iload_n 1, 1) := dk_27 (dk_at dksX4_does_2 16 rfl rfl)
theorem dX4_does_63 : decode cX4_does 63 = .ok (.bipush 100, 2) := dk_16 100 (dk_at dksX4_does_2 17 rfl rfl)
theorem dX4_does_65 : decode cX4_does 65 = .ok (.isub, 1) := dk_100 (dk_at dksX4_does_2 19 rfl rfl)
theorem dX4_does_66 : decode cX4_does 66 = .ok (.bipush 10, 2) := dk_16 10 (dk_at dksX4_does_2 20 rfl rfl)
theorem dX4_does_68 : decode cX4_does 68 = .ok (.idiv, 1) := dk_108 (dk_at dksX4_does_2 22 rfl rfl)
theorem dX4_does_69 : decode cX4_does 69 = .ok (.imul, 1) := dk_104 (dk_at dksX4_does_2 23 rfl rfl)
theorem dX4_does_70 : decode cX4_does 70 = .ok (.iload_n 1, 1) := dk_27 (dk_at dksX4_does_3 0 rfl rfl)
theorem dX4_does_71 : decode cX4_does 71 = .ok (.bipush 10, 2) := dk_16 10 (dk_at dksX4_does_3 1 rfl rfl)
theorem dX4_does_73 : decode cX4_does 73 = .ok (.irem, 1) := dk_112 (dk_at dksX4_does_3 3 rfl rfl)
theorem dX4_does_74 : decode cX4_does 74 = .ok (.iadd, 1) := dk_96 (dk_at dksX4_does_3 4 rfl rfl)
theorem dX4_does_75 : decode cX4_does 75 = .ok (.invokevirtual 249, 3) := dk_182 0 249 (dk_at dksX4_does_3 5 rfl rfl)
theorem dX4_does_78 : decode cX4_does 78 = .ok (.return_, 1) := dk_177 (dk_at dksX4_does_3 8 rfl rfl)
abbrev cX4_isAgain : ByteArray := prog_16_method_50_code
def yX4_isAgain : MethodName := ⟨RX4, "isAgain", "()V"⟩
def dkwX4_isAgain_1 : List UInt8 := [132, 1, 1, 167, 255, 233, 177]
abbrev dktX4_isAgain_1 : List UInt8 := dkwX4_isAgain_1 ++ []
def dkwX4_isAgain_0 : List UInt8 := [3, 60, 27, 8, 162, 0, 24, 42, 180, 0, 13, 16, 42, 27, 96, 42, 180, 0, 36, 27, 46, 79]
abbrev dktX4_isAgain_0 : List UInt8 := dkwX4_isAgain_0 ++ dktX4_isAgain_1
theorem dksX4_isAgain_0 : cX4_isAgain.data.toList.drop 0 = dktX4_isAgain_0 := by decide +kernel
theorem dksX4_isAgain_1 : cX4_isAgain.data.toList.drop 22 = dktX4_isAgain_1 := dk_seg dksX4_isAgain_0 22 rfl rfl
theorem dX4_isAgain_0 : decode cX4_isAgain 0 = .ok (.iconst 0, 1) := dk_3 (dk_at dksX4_isAgain_0 0 rfl rfl)
theorem dX4_isAgain_1 : decode cX4_isAgain 1 = .ok (.istore_n 1, 1) := dk_60 (dk_at dksX4_isAgain_0 1 rfl rfl)
theorem dX4_isAgain_2 : decode cX4_isAgain 2 = .ok (.iload_n 1, 1) := dk_27 (dk_at dksX4_isAgain_0 2 rfl rfl)
theorem dX4_isAgain_3 : decode cX4_isAgain 3 = .ok (.iconst 5, 1) := dk_8 (dk_at dksX4_isAgain_0 3 rfl rfl)
theorem dX4_isAgain_4 : decode cX4_isAgain 4 = .ok (.if_icmp .ge 24, 3) := dk_162 0 24 (dk_at dksX4_isAgain_0 4 rfl rfl)
theorem dX4_isAgain_7 : decode cX4_isAgain 7 = .ok (.aload_n 0, 1) := dk_42 (dk_at dksX4_isAgain_0 7 rfl rfl)
theorem dX4_isAgain_8 : decode cX4_isAgain 8 = .ok (.getfield 13, 3) := dk_180 0 13 (dk_at dksX4_isAgain_0 8 rfl rfl)
theorem dX4_isAgain_11 : decode cX4_isAgain 11 = .ok (.bipush 42, 2) := dk_16 42 (dk_at dksX4_isAgain_0 11 rfl rfl)
theorem dX4_isAgain_13 : decode cX4_isAgain 13 = .ok (.iload_n 1, 1) := dk_27 (dk_at dksX4_isAgain_0 13 rfl rfl)
theorem dX4_isAgain_14 : decode cX4_isAgain 14 = .ok (.iadd, 1) := dk_96 (dk_at dksX4_isAgain_0 14 rfl rfl)
theorem dX4_isAgain_15 : decode cX4_isAgain 15 = .ok (.aload_n 0, 1) := dk_42 (dk_at dksX4_isAgain_0 15 rfl rfl)
theorem dX4_isAgain_16 : decode cX4_isAgain 16 = .ok (.getfield 36, 3) := dk_180 0 36 (dk_at dksX4_isAgain_0 16 rfl rfl)
theorem dX4_isAgain_19 : decode cX4_isAgain 19 = .ok (.iload_n 1, 1) := dk_27 (dk_at dksX4_isAgain_0 19 rfl rfl)
theorem dX4_isAgain_20 : decode cX4_isAgain 20 = .ok (.iaload, 1) := dk_46 (dk_at dksX4_isAgain_0 20 rfl rfl)
theorem dX4_isAgain_21 : decode cX4_isAgain 21 = .ok (.iastore, 1) := dk_79 (dk_at dksX4_isAgain_0 21 rfl rfl)
theorem dX4_isAgain_22 : decode cX4_isAgain 22 = .ok (.iinc 1 1, 3) := dk_132 1 1 (dk_at dksX4_isAgain_1 0 rfl rfl)
theorem dX4_isAgain_25 : decode cX4_isAgain 25 = .ok (.goto (-23), 3) := dk_167 255 233 (dk_at dksX4_isAgain_1 3 rfl rfl)
theorem dX4_isAgain_28 : decode cX4_isAgain 28 = .ok (.return_, 1) := dk_177 (dk_at dksX4_isAgain_1 6 rfl rfl)
abbrev cX4_perform : ByteArray := prog_16_method_64_code
def yX4_perform : MethodName := ⟨RX4, "perform", "(I)I"⟩
def dkwX4_perform_1 : List UInt8 := [182, 1, 39, 62, 29, 158, 0, 7, 42, 182, 1, 2, 29, 172]
abbrev dktX4_perform_1 : List UInt8 := dkwX4_perform_1 ++ []
def dkwX4_perform_0 : List UInt8 := [42, 3, 181, 0, 1, 42, 27, 182, 1, 36, 61, 28, 153, 0, 5, 28, 172, 42, 182, 0, 252, 42, 27]
abbrev dktX4_perform_0 : List UInt8 := dkwX4_perform_0 ++ dktX4_perform_1
theorem dksX4_perform_0 : cX4_perform.data.toList.drop 0 = dktX4_perform_0 := by decide +kernel
theorem dksX4_perform_1 : cX4_perform.data.toList.drop 23 = dktX4_perform_1 := dk_seg dksX4_perform_0 23 rfl rfl
theorem dX4_perform_0 : decode cX4_perform 0 = .ok (.aload_n 0, 1) := dk_42 (dk_at dksX4_perform_0 0 rfl rfl)
theorem dX4_perform_1 : decode cX4_perform 1 = .ok (.iconst 0, 1) := dk_3 (dk_at dksX4_perform_0 1 rfl rfl)
theorem dX4_perform_2 : decode cX4_perform 2 = .ok (.putfield 1, 3) := dk_181 0 1 (dk_at dksX4_perform_0 2 rfl rfl)
theorem dX4_perform_5 : decode cX4_perform 5 = .ok (.aload_n 0, 1) := dk_42 (dk_at dksX4_perform_0 5 rfl rfl)
theorem dX4_perform_6 : decode cX4_perform 6 = .ok (.iload_n 1, 1) := dk_27 (dk_at dksX4_perform_0 6 rfl rfl)
theorem dX4_perform_7 : decode cX4_perform 7 = .ok (.invokevirtual 292, 3) := dk_182 1 36 (dk_at dksX4_perform_0 7 rfl rfl)
theorem dX4_perform_10 : decode cX4_perform 10 = .ok (.istore_n 2, 1) := dk_61 (dk_at dksX4_perform_0 10 rfl rfl)
theorem dX4_perform_11 : decode cX4_perform 11 = .ok (.iload_n 2, 1) := dk_28 (dk_at dksX4_perform_0 11 rfl rfl)
theorem dX4_perform_12 : decode cX4_perform 12 = .ok (.ifCond .eq 5, 3) := dk_153 0 5 (dk_at dksX4_perform_0 12 rfl rfl)
theorem dX4_perform_15 : decode cX4_perform 15 = .ok (.iload_n 2, 1) := dk_28 (dk_at dksX4_perform_0 15 rfl rfl)
theorem dX4_perform_16 : decode cX4_perform 16 = .ok (.ireturn, 1) := dk_172 (dk_at dksX4_perform_0 16 rfl rfl)
theorem dX4_perform_17 : decode cX4_perform 17 = .ok (.aload_n 0, 1) := dk_42 (dk_at dksX4_perform_0 17 rfl rfl)
theorem dX4_perform_18 : decode cX4_perform 18 = .ok (.invokevirtual 252, 3) := dk_182 0 252 (dk_at dksX4_perform_0 18 rfl rfl)
theorem dX4_perform_21 : decode cX4_perform 21 = .ok (.aload_n 0, 1) := dk_42 (dk_at dksX4_perform_0 21 rfl rfl)
theorem dX4_perform_22 : decode cX4_perform 22 = .ok (.iload_n 1, 1) := dk_27 (dk_at dksX4_perform_0 22 rfl rfl)
theorem dX4_perform_23 : decode cX4_perform 23 = .ok (.invokevirtual 295, 3) := dk_182 1 39 (dk_at dksX4_perform_1 0 rfl rfl)
theorem dX4_perform_26 : decode cX4_perform 26 = .ok (.istore_n 3, 1) := dk_62 (dk_at dksX4_perform_1 3 rfl rfl)
theorem dX4_perform_27 : decode cX4_perform 27 = .ok (.iload_n 3, 1) := dk_29 (dk_at dksX4_perform_1 4 rfl rfl)
theorem dX4_perform_28 : decode cX4_perform 28 = .ok (.ifCond .le 7, 3) := dk_158 0 7 (dk_at dksX4_perform_1 5 rfl rfl)
theorem dX4_perform_31 : decode cX4_perform 31 = .ok (.aload_n 0, 1) := dk_42 (dk_at dksX4_perform_1 8 rfl rfl)
theorem dX4_perform_32 : decode cX4_perform 32 = .ok (.invokevirtual 258, 3) := dk_182 1 2 (dk_at dksX4_perform_1 9 rfl rfl)
theorem dX4_perform_35 : decode cX4_perform 35 = .ok (.iload_n 3, 1) := dk_29 (dk_at dksX4_perform_1 12 rfl rfl)
theorem dX4_perform_36 : decode cX4_perform 36 = .ok (.ireturn, 1) := dk_172 (dk_at dksX4_perform_1 13 rfl rfl)
abbrev cX4_day : ByteArray := prog_16_method_67_code
def yX4_day : MethodName := ⟨RX4, "day", "(II)I"⟩
def dkwX4_day_3 : List UInt8 := [167, 255, 219, 29, 158, 0, 7, 42, 182, 1, 2, 29, 172]
abbrev dktX4_day_3 : List UInt8 := dkwX4_day_3 ++ []
def dkwX4_day_2 : List UInt8 := [21, 5, 133, 182, 1, 28, 153, 0, 6, 167, 0, 12, 42, 21, 5, 182, 1, 31, 132, 3, 1, 132, 4, 1]
abbrev dktX4_day_2 : List UInt8 := dkwX4_day_2 ++ dktX4_day_3
def dkwX4_day_1 : List UInt8 := [42, 27, 181, 1, 46, 3, 62, 3, 54, 4, 21, 4, 28, 162, 0, 37, 42, 182, 1, 54, 54, 5, 42]
abbrev dktX4_day_1 : List UInt8 := dkwX4_day_1 ++ dktX4_day_2
def dkwX4_day_0 : List UInt8 := [42, 3, 181, 0, 1, 28, 133, 10, 20, 1, 52, 184, 0, 142, 154, 0, 6, 16, 253, 172, 42, 182, 0, 252]
abbrev dktX4_day_0 : List UInt8 := dkwX4_day_0 ++ dktX4_day_1
theorem dksX4_day_0 : cX4_day.data.toList.drop 0 = dktX4_day_0 := by decide +kernel
theorem dksX4_day_1 : cX4_day.data.toList.drop 24 = dktX4_day_1 := dk_seg dksX4_day_0 24 rfl rfl
theorem dksX4_day_2 : cX4_day.data.toList.drop 47 = dktX4_day_2 := dk_seg dksX4_day_1 23 rfl rfl
theorem dksX4_day_3 : cX4_day.data.toList.drop 71 = dktX4_day_3 := dk_seg dksX4_day_2 24 rfl rfl
theorem dX4_day_0 : decode cX4_day 0 = .ok (.aload_n 0, 1) := dk_42 (dk_at dksX4_day_0 0 rfl rfl)
theorem dX4_day_1 : decode cX4_day 1 = .ok (.iconst 0, 1) := dk_3 (dk_at dksX4_day_0 1 rfl rfl)
theorem dX4_day_2 : decode cX4_day 2 = .ok (.putfield 1, 3) := dk_181 0 1 (dk_at dksX4_day_0 2 rfl rfl)
theorem dX4_day_5 : decode cX4_day 5 = .ok (.iload_n 2, 1) := dk_28 (dk_at dksX4_day_0 5 rfl rfl)
theorem dX4_day_6 : decode cX4_day 6 = .ok (.i2l, 1) := dk_133 (dk_at dksX4_day_0 6 rfl rfl)
theorem dX4_day_7 : decode cX4_day 7 = .ok (.lconst 1, 1) := dk_10 (dk_at dksX4_day_0 7 rfl rfl)
theorem dX4_day_8 : decode cX4_day 8 = .ok (.ldc2_w 308, 3) := dk_20 1 52 (dk_at dksX4_day_0 8 rfl rfl)
theorem dX4_day_11 : decode cX4_day 11 = .ok (.invokestatic 142, 3) := dk_184 0 142 (dk_at dksX4_day_0 11 rfl rfl)
theorem dX4_day_14 : decode cX4_day 14 = .ok (.ifCond .ne 6, 3) := dk_154 0 6 (dk_at dksX4_day_0 14 rfl rfl)
theorem dX4_day_17 : decode cX4_day 17 = .ok (.bipush (-3), 2) := dk_16 253 (dk_at dksX4_day_0 17 rfl rfl)
theorem dX4_day_19 : decode cX4_day 19 = .ok (.ireturn, 1) := dk_172 (dk_at dksX4_day_0 19 rfl rfl)
theorem dX4_day_20 : decode cX4_day 20 = .ok (.aload_n 0, 1) := dk_42 (dk_at dksX4_day_0 20 rfl rfl)
theorem dX4_day_21 : decode cX4_day 21 = .ok (.invokevirtual 252, 3) := dk_182 0 252 (dk_at dksX4_day_0 21 rfl rfl)
theorem dX4_day_24 : decode cX4_day 24 = .ok (.aload_n 0, 1) := dk_42 (dk_at dksX4_day_1 0 rfl rfl)
theorem dX4_day_25 : decode cX4_day 25 = .ok (.iload_n 1, 1) := dk_27 (dk_at dksX4_day_1 1 rfl rfl)
theorem dX4_day_26 : decode cX4_day 26 = .ok (.putfield 302, 3) := dk_181 1 46 (dk_at dksX4_day_1 2 rfl rfl)
theorem dX4_day_29 : decode cX4_day 29 = .ok (.iconst 0, 1) := dk_3 (dk_at dksX4_day_1 5 rfl rfl)
theorem dX4_day_30 : decode cX4_day 30 = .ok (.istore_n 3, 1) := dk_62 (dk_at dksX4_day_1 6 rfl rfl)
theorem dX4_day_31 : decode cX4_day 31 = .ok (.iconst 0, 1) := dk_3 (dk_at dksX4_day_1 7 rfl rfl)
theorem dX4_day_32 : decode cX4_day 32 = .ok (.istore 4, 2) := dk_54 4 (dk_at dksX4_day_1 8 rfl rfl)
theorem dX4_day_34 : decode cX4_day 34 = .ok (.iload 4, 2) := dk_21 4 (dk_at dksX4_day_1 10 rfl rfl)
theorem dX4_day_36 : decode cX4_day 36 = .ok (.iload_n 2, 1) := dk_28 (dk_at dksX4_day_1 12 rfl rfl)
theorem dX4_day_37 : decode cX4_day 37 = .ok (.if_icmp .ge 37, 3) := dk_162 0 37 (dk_at dksX4_day_1 13 rfl rfl)
theorem dX4_day_40 : decode cX4_day 40 = .ok (.aload_n 0, 1) := dk_42 (dk_at dksX4_day_1 16 rfl rfl)
theorem dX4_day_41 : decode cX4_day 41 = .ok (.invokevirtual 310, 3) := dk_182 1 54 (dk_at dksX4_day_1 17 rfl rfl)
theorem dX4_day_44 : decode cX4_day 44 = .ok (.istore 5, 2) := dk_54 5 (dk_at dksX4_day_1 20 rfl rfl)
theorem dX4_day_46 : decode cX4_day 46 = .ok (.aload_n 0, 1) := dk_42 (dk_at dksX4_day_1 22 rfl rfl)
theorem dX4_day_47 : decode cX4_day 47 = .ok (.iload 5, 2) := dk_21 5 (dk_at dksX4_day_2 0 rfl rfl)
theorem dX4_day_49 : decode cX4_day 49 = .ok (.i2l, 1) := dk_133 (dk_at dksX4_day_2 2 rfl rfl)
theorem dX4_day_50 : decode cX4_day 50 = .ok (.invokevirtual 284, 3) := dk_182 1 28 (dk_at dksX4_day_2 3 rfl rfl)
theorem dX4_day_53 : decode cX4_day 53 = .ok (.ifCond .eq 6, 3) := dk_153 0 6 (dk_at dksX4_day_2 6 rfl rfl)
theorem dX4_day_56 : decode cX4_day 56 = .ok (.goto 12, 3) := dk_167 0 12 (dk_at dksX4_day_2 9 rfl rfl)
theorem dX4_day_59 : decode cX4_day 59 = .ok (.aload_n 0, 1) := dk_42 (dk_at dksX4_day_2 12 rfl rfl)
theorem dX4_day_60 : decode cX4_day 60 = .ok (.iload 5, 2) := dk_21 5 (dk_at dksX4_day_2 13 rfl rfl)
theorem dX4_day_62 : decode cX4_day 62 = .ok (.invokevirtual 287, 3) := dk_182 1 31 (dk_at dksX4_day_2 15 rfl rfl)
theorem dX4_day_65 : decode cX4_day 65 = .ok (.iinc 3 1, 3) := dk_132 3 1 (dk_at dksX4_day_2 18 rfl rfl)
theorem dX4_day_68 : decode cX4_day 68 = .ok (.iinc 4 1, 3) := dk_132 4 1 (dk_at dksX4_day_2 21 rfl rfl)
theorem dX4_day_71 : decode cX4_day 71 = .ok (.goto (-37), 3) := dk_167 255 219 (dk_at dksX4_day_3 0 rfl rfl)
theorem dX4_day_74 : decode cX4_day 74 = .ok (.iload_n 3, 1) := dk_29 (dk_at dksX4_day_3 3 rfl rfl)
theorem dX4_day_75 : decode cX4_day 75 = .ok (.ifCond .le 7, 3) := dk_158 0 7 (dk_at dksX4_day_3 4 rfl rfl)
theorem dX4_day_78 : decode cX4_day 78 = .ok (.aload_n 0, 1) := dk_42 (dk_at dksX4_day_3 7 rfl rfl)
theorem dX4_day_79 : decode cX4_day 79 = .ok (.invokevirtual 258, 3) := dk_182 1 2 (dk_at dksX4_day_3 8 rfl rfl)
theorem dX4_day_82 : decode cX4_day 82 = .ok (.iload_n 3, 1) := dk_29 (dk_at dksX4_day_3 11 rfl rfl)
theorem dX4_day_83 : decode cX4_day 83 = .ok (.ireturn, 1) := dk_172 (dk_at dksX4_day_3 12 rfl rfl)
abbrev cX4_drawn : ByteArray := prog_16_method_66_code
def yX4_drawn : MethodName := ⟨RX4, "drawn", "()I"⟩
def dkwX4_drawn_2 : List UInt8 := [182, 1, 49, 96, 172]
abbrev dktX4_drawn_2 : List UInt8 := dkwX4_drawn_2 ++ []
def dkwX4_drawn_1 : List UInt8 := [16, 8, 182, 1, 49, 96, 172, 42, 16, 6, 182, 1, 49, 61, 16, 100, 16, 10, 28, 104, 96, 42, 8]
abbrev dktX4_drawn_1 : List UInt8 := dkwX4_drawn_1 ++ dktX4_drawn_2
def dkwX4_drawn_0 : List UInt8 := [42, 16, 6, 182, 1, 49, 60, 27, 8, 162, 0, 22, 27, 7, 162, 0, 7, 3, 167, 0, 5, 16, 10, 42]
abbrev dktX4_drawn_0 : List UInt8 := dkwX4_drawn_0 ++ dktX4_drawn_1
theorem dksX4_drawn_0 : cX4_drawn.data.toList.drop 0 = dktX4_drawn_0 := by decide +kernel
theorem dksX4_drawn_1 : cX4_drawn.data.toList.drop 24 = dktX4_drawn_1 := dk_seg dksX4_drawn_0 24 rfl rfl
theorem dksX4_drawn_2 : cX4_drawn.data.toList.drop 47 = dktX4_drawn_2 := dk_seg dksX4_drawn_1 23 rfl rfl
theorem dX4_drawn_0 : decode cX4_drawn 0 = .ok (.aload_n 0, 1) := dk_42 (dk_at dksX4_drawn_0 0 rfl rfl)
theorem dX4_drawn_1 : decode cX4_drawn 1 = .ok (.bipush 6, 2) := dk_16 6 (dk_at dksX4_drawn_0 1 rfl rfl)
theorem dX4_drawn_3 : decode cX4_drawn 3 = .ok (.invokevirtual 305, 3) := dk_182 1 49 (dk_at dksX4_drawn_0 3 rfl rfl)
theorem dX4_drawn_6 : decode cX4_drawn 6 = .ok (.istore_n 1, 1) := dk_60 (dk_at dksX4_drawn_0 6 rfl rfl)
theorem dX4_drawn_7 : decode cX4_drawn 7 = .ok (.iload_n 1, 1) := dk_27 (dk_at dksX4_drawn_0 7 rfl rfl)
theorem dX4_drawn_8 : decode cX4_drawn 8 = .ok (.iconst 5, 1) := dk_8 (dk_at dksX4_drawn_0 8 rfl rfl)
theorem dX4_drawn_9 : decode cX4_drawn 9 = .ok (.if_icmp .ge 22, 3) := dk_162 0 22 (dk_at dksX4_drawn_0 9 rfl rfl)
theorem dX4_drawn_12 : decode cX4_drawn 12 = .ok (.iload_n 1, 1) := dk_27 (dk_at dksX4_drawn_0 12 rfl rfl)
theorem dX4_drawn_13 : decode cX4_drawn 13 = .ok (.iconst 4, 1) := dk_7 (dk_at dksX4_drawn_0 13 rfl rfl)
theorem dX4_drawn_14 : decode cX4_drawn 14 = .ok (.if_icmp .ge 7, 3) := dk_162 0 7 (dk_at dksX4_drawn_0 14 rfl rfl)
theorem dX4_drawn_17 : decode cX4_drawn 17 = .ok (.iconst 0, 1) := dk_3 (dk_at dksX4_drawn_0 17 rfl rfl)
theorem dX4_drawn_18 : decode cX4_drawn 18 = .ok (.goto 5, 3) := dk_167 0 5 (dk_at dksX4_drawn_0 18 rfl rfl)
theorem dX4_drawn_21 : decode cX4_drawn 21 = .ok (.bipush 10, 2) := dk_16 10 (dk_at dksX4_drawn_0 21 rfl rfl)
theorem dX4_drawn_23 : decode cX4_drawn 23 = .ok (.aload_n 0, 1) := dk_42 (dk_at dksX4_drawn_0 23 rfl rfl)
theorem dX4_drawn_24 : decode cX4_drawn 24 = .ok (.bipush 8, 2) := dk_16 8 (dk_at dksX4_drawn_1 0 rfl rfl)
theorem dX4_drawn_26 : decode cX4_drawn 26 = .ok (.invokevirtual 305, 3) := dk_182 1 49 (dk_at dksX4_drawn_1 2 rfl rfl)
theorem dX4_drawn_29 : decode cX4_drawn 29 = .ok (.iadd, 1) := dk_96 (dk_at dksX4_drawn_1 5 rfl rfl)
theorem dX4_drawn_30 : decode cX4_drawn 30 = .ok (.ireturn, 1) := dk_172 (dk_at dksX4_drawn_1 6 rfl rfl)
theorem dX4_drawn_31 : decode cX4_drawn 31 = .ok (.aload_n 0, 1) := dk_42 (dk_at dksX4_drawn_1 7 rfl rfl)
theorem dX4_drawn_32 : decode cX4_drawn 32 = .ok (.bipush 6, 2) := dk_16 6 (dk_at dksX4_drawn_1 8 rfl rfl)
theorem dX4_drawn_34 : decode cX4_drawn 34 = .ok (.invokevirtual 305, 3) := dk_182 1 49 (dk_at dksX4_drawn_1 10 rfl rfl)
theorem dX4_drawn_37 : decode cX4_drawn 37 = .ok (.istore_n 2, 1) := dk_61 (dk_at dksX4_drawn_1 13 rfl rfl)
theorem dX4_drawn_38 : decode cX4_drawn 38 = .ok (.bipush 100, 2) := dk_16 100 (dk_at dksX4_drawn_1 14 rfl rfl)
theorem dX4_drawn_40 : decode cX4_drawn 40 = .ok (.bipush 10, 2) := dk_16 10 (dk_at dksX4_drawn_1 16 rfl rfl)
theorem dX4_drawn_42 : decode cX4_drawn 42 = .ok (.iload_n 2, 1) := dk_28 (dk_at dksX4_drawn_1 18 rfl rfl)
theorem dX4_drawn_43 : decode cX4_drawn 43 = .ok (.imul, 1) := dk_104 (dk_at dksX4_drawn_1 19 rfl rfl)
theorem dX4_drawn_44 : decode cX4_drawn 44 = .ok (.iadd, 1) := dk_96 (dk_at dksX4_drawn_1 20 rfl rfl)
theorem dX4_drawn_45 : decode cX4_drawn 45 = .ok (.aload_n 0, 1) := dk_42 (dk_at dksX4_drawn_1 21 rfl rfl)
theorem dX4_drawn_46 : decode cX4_drawn 46 = .ok (.iconst 5, 1) := dk_8 (dk_at dksX4_drawn_1 22 rfl rfl)
theorem dX4_drawn_47 : decode cX4_drawn 47 = .ok (.invokevirtual 305, 3) := dk_182 1 49 (dk_at dksX4_drawn_2 0 rfl rfl)
theorem dX4_drawn_50 : decode cX4_drawn 50 = .ok (.iadd, 1) := dk_96 (dk_at dksX4_drawn_2 3 rfl rfl)
theorem dX4_drawn_51 : decode cX4_drawn 51 = .ok (.ireturn, 1) := dk_172 (dk_at dksX4_drawn_2 4 rfl rfl)
abbrev cX4_draw : ByteArray := prog_16_method_65_code
def yX4_draw : MethodName := ⟨RX4, "draw", "(I)I"⟩
def dkwX4_draw_1 : List UInt8 := [112, 172]
abbrev dktX4_draw_1 : List UInt8 := dkwX4_draw_1 ++ []
def dkwX4_draw_0 : List UInt8 := [42, 19, 1, 45, 42, 180, 1, 46, 104, 17, 48, 57, 96, 181, 1, 46, 42, 180, 1, 46, 16, 16, 124, 27]
abbrev dktX4_draw_0 : List UInt8 := dkwX4_draw_0 ++ dktX4_draw_1
theorem dksX4_draw_0 : cX4_draw.data.toList.drop 0 = dktX4_draw_0 := by decide +kernel
theorem dksX4_draw_1 : cX4_draw.data.toList.drop 24 = dktX4_draw_1 := dk_seg dksX4_draw_0 24 rfl rfl
theorem dX4_draw_0 : decode cX4_draw 0 = .ok (.aload_n 0, 1) := dk_42 (dk_at dksX4_draw_0 0 rfl rfl)
theorem dX4_draw_1 : decode cX4_draw 1 = .ok (.ldc_w 301, 3) := dk_19 1 45 (dk_at dksX4_draw_0 1 rfl rfl)
theorem dX4_draw_4 : decode cX4_draw 4 = .ok (.aload_n 0, 1) := dk_42 (dk_at dksX4_draw_0 4 rfl rfl)
theorem dX4_draw_5 : decode cX4_draw 5 = .ok (.getfield 302, 3) := dk_180 1 46 (dk_at dksX4_draw_0 5 rfl rfl)
theorem dX4_draw_8 : decode cX4_draw 8 = .ok (.imul, 1) := dk_104 (dk_at dksX4_draw_0 8 rfl rfl)
theorem dX4_draw_9 : decode cX4_draw 9 = .ok (.sipush 12345, 3) := dk_17 48 57 (dk_at dksX4_draw_0 9 rfl rfl)
theorem dX4_draw_12 : decode cX4_draw 12 = .ok (.iadd, 1) := dk_96 (dk_at dksX4_draw_0 12 rfl rfl)
theorem dX4_draw_13 : decode cX4_draw 13 = .ok (.putfield 302, 3) := dk_181 1 46 (dk_at dksX4_draw_0 13 rfl rfl)
theorem dX4_draw_16 : decode cX4_draw 16 = .ok (.aload_n 0, 1) := dk_42 (dk_at dksX4_draw_0 16 rfl rfl)
theorem dX4_draw_17 : decode cX4_draw 17 = .ok (.getfield 302, 3) := dk_180 1 46 (dk_at dksX4_draw_0 17 rfl rfl)
theorem dX4_draw_20 : decode cX4_draw 20 = .ok (.bipush 16, 2) := dk_16 16 (dk_at dksX4_draw_0 20 rfl rfl)
theorem dX4_draw_22 : decode cX4_draw 22 = .ok (.iushr, 1) := dk_124 (dk_at dksX4_draw_0 22 rfl rfl)
theorem dX4_draw_23 : decode cX4_draw 23 = .ok (.iload_n 1, 1) := dk_27 (dk_at dksX4_draw_0 23 rfl rfl)
theorem dX4_draw_24 : decode cX4_draw 24 = .ok (.irem, 1) := dk_112 (dk_at dksX4_draw_1 0 rfl rfl)
theorem dX4_draw_25 : decode cX4_draw 25 = .ok (.ireturn, 1) := dk_172 (dk_at dksX4_draw_1 1 rfl rfl)
abbrev cX4_soonest : ByteArray := prog_16_method_75_code
def yX4_soonest : MethodName := ⟨RX4, "soonest", "(II)I"⟩
def dkwX4_soonest_2 : List UInt8 := [21, 4, 172]
abbrev dktX4_soonest_2 : List UInt8 := dkwX4_soonest_2 ++ []
def dkwX4_soonest_1 : List UInt8 := [180, 0, 13, 16, 44, 46, 182, 1, 75, 54, 4, 21, 4, 19, 1, 57, 160, 0, 7, 2, 167, 0, 5]
abbrev dktX4_soonest_1 : List UInt8 := dkwX4_soonest_1 ++ dktX4_soonest_2
def dkwX4_soonest_0 : List UInt8 := [42, 3, 181, 0, 1, 42, 27, 28, 182, 1, 72, 62, 29, 153, 0, 5, 29, 172, 42, 27, 28, 42]
abbrev dktX4_soonest_0 : List UInt8 := dkwX4_soonest_0 ++ dktX4_soonest_1
theorem dksX4_soonest_0 : cX4_soonest.data.toList.drop 0 = dktX4_soonest_0 := by decide +kernel
theorem dksX4_soonest_1 : cX4_soonest.data.toList.drop 22 = dktX4_soonest_1 := dk_seg dksX4_soonest_0 22 rfl rfl
theorem dksX4_soonest_2 : cX4_soonest.data.toList.drop 45 = dktX4_soonest_2 := dk_seg dksX4_soonest_1 23 rfl rfl
theorem dX4_soonest_0 : decode cX4_soonest 0 = .ok (.aload_n 0, 1) := dk_42 (dk_at dksX4_soonest_0 0 rfl rfl)
theorem dX4_soonest_1 : decode cX4_soonest 1 = .ok (.iconst 0, 1) := dk_3 (dk_at dksX4_soonest_0 1 rfl rfl)
theorem dX4_soonest_2 : decode cX4_soonest 2 = .ok (.putfield 1, 3) := dk_181 0 1 (dk_at dksX4_soonest_0 2 rfl rfl)
theorem dX4_soonest_5 : decode cX4_soonest 5 = .ok (.aload_n 0, 1) := dk_42 (dk_at dksX4_soonest_0 5 rfl rfl)
theorem dX4_soonest_6 : decode cX4_soonest 6 = .ok (.iload_n 1, 1) := dk_27 (dk_at dksX4_soonest_0 6 rfl rfl)
theorem dX4_soonest_7 : decode cX4_soonest 7 = .ok (.iload_n 2, 1) := dk_28 (dk_at dksX4_soonest_0 7 rfl rfl)
theorem dX4_soonest_8 : decode cX4_soonest 8 = .ok (.invokevirtual 328, 3) := dk_182 1 72 (dk_at dksX4_soonest_0 8 rfl rfl)
theorem dX4_soonest_11 : decode cX4_soonest 11 = .ok (.istore_n 3, 1) := dk_62 (dk_at dksX4_soonest_0 11 rfl rfl)
theorem dX4_soonest_12 : decode cX4_soonest 12 = .ok (.iload_n 3, 1) := dk_29 (dk_at dksX4_soonest_0 12 rfl rfl)
theorem dX4_soonest_13 : decode cX4_soonest 13 = .ok (.ifCond .eq 5, 3) := dk_153 0 5 (dk_at dksX4_soonest_0 13 rfl rfl)
theorem dX4_soonest_16 : decode cX4_soonest 16 = .ok (.iload_n 3, 1) := dk_29 (dk_at dksX4_soonest_0 16 rfl rfl)
theorem dX4_soonest_17 : decode cX4_soonest 17 = .ok (.ireturn, 1) := dk_172 (dk_at dksX4_soonest_0 17 rfl rfl)
theorem dX4_soonest_18 : decode cX4_soonest 18 = .ok (.aload_n 0, 1) := dk_42 (dk_at dksX4_soonest_0 18 rfl rfl)
theorem dX4_soonest_19 : decode cX4_soonest 19 = .ok (.iload_n 1, 1) := dk_27 (dk_at dksX4_soonest_0 19 rfl rfl)
theorem dX4_soonest_20 : decode cX4_soonest 20 = .ok (.iload_n 2, 1) := dk_28 (dk_at dksX4_soonest_0 20 rfl rfl)
theorem dX4_soonest_21 : decode cX4_soonest 21 = .ok (.aload_n 0, 1) := dk_42 (dk_at dksX4_soonest_0 21 rfl rfl)
theorem dX4_soonest_22 : decode cX4_soonest 22 = .ok (.getfield 13, 3) := dk_180 0 13 (dk_at dksX4_soonest_1 0 rfl rfl)
theorem dX4_soonest_25 : decode cX4_soonest 25 = .ok (.bipush 44, 2) := dk_16 44 (dk_at dksX4_soonest_1 3 rfl rfl)
theorem dX4_soonest_27 : decode cX4_soonest 27 = .ok (.iaload, 1) := dk_46 (dk_at dksX4_soonest_1 5 rfl rfl)
theorem dX4_soonest_28 : decode cX4_soonest 28 = .ok (.invokevirtual 331, 3) := dk_182 1 75 (dk_at dksX4_soonest_1 6 rfl rfl)
theorem dX4_soonest_31 : decode cX4_soonest 31 = .ok (.istore 4, 2) := dk_54 4 (dk_at dksX4_soonest_1 9 rfl rfl)
theorem dX4_soonest_33 : decode cX4_soonest 33 = .ok (.iload 4, 2) := dk_21 4 (dk_at dksX4_soonest_1 11 rfl rfl)
theorem dX4_soonest_35 : decode cX4_soonest 35 = .ok (.ldc_w 313, 3) := dk_19 1 57 (dk_at dksX4_soonest_1 13 rfl rfl)
theorem dX4_soonest_38 : decode cX4_soonest 38 = .ok (.if_icmp .ne 7, 3) := dk_160 0 7 (dk_at dksX4_soonest_1 16 rfl rfl)
theorem dX4_soonest_41 : decode cX4_soonest 41 = .ok (.iconst (-1), 1) := dk_2 (dk_at dksX4_soonest_1 19 rfl rfl)
theorem dX4_soonest_42 : decode cX4_soonest 42 = .ok (.goto 5, 3) := dk_167 0 5 (dk_at dksX4_soonest_1 20 rfl rfl)
theorem dX4_soonest_45 : decode cX4_soonest 45 = .ok (.iload 4, 2) := dk_21 4 (dk_at dksX4_soonest_2 0 rfl rfl)
theorem dX4_soonest_47 : decode cX4_soonest 47 = .ok (.ireturn, 1) := dk_172 (dk_at dksX4_soonest_2 2 rfl rfl)
abbrev cX4_noComing : ByteArray := prog_16_method_73_code
def yX4_noComing : MethodName := ⟨RX4, "noComing", "(II)I"⟩
def dkwX4_noComing_1 : List UInt8 := [153, 0, 7, 3, 167, 0, 5, 16, 253, 172]
abbrev dktX4_noComing_1 : List UInt8 := dkwX4_noComing_1 ++ []
def dkwX4_noComing_0 : List UInt8 := [42, 27, 133, 182, 1, 5, 154, 0, 8, 16, 254, 167, 0, 21, 28, 133, 9, 20, 1, 70, 184, 0, 142]
abbrev dktX4_noComing_0 : List UInt8 := dkwX4_noComing_0 ++ dktX4_noComing_1
theorem dksX4_noComing_0 : cX4_noComing.data.toList.drop 0 = dktX4_noComing_0 := by decide +kernel
theorem dksX4_noComing_1 : cX4_noComing.data.toList.drop 23 = dktX4_noComing_1 := dk_seg dksX4_noComing_0 23 rfl rfl
theorem dX4_noComing_0 : decode cX4_noComing 0 = .ok (.aload_n 0, 1) := dk_42 (dk_at dksX4_noComing_0 0 rfl rfl)
theorem dX4_noComing_1 : decode cX4_noComing 1 = .ok (.iload_n 1, 1) := dk_27 (dk_at dksX4_noComing_0 1 rfl rfl)
theorem dX4_noComing_2 : decode cX4_noComing 2 = .ok (.i2l, 1) := dk_133 (dk_at dksX4_noComing_0 2 rfl rfl)
theorem dX4_noComing_3 : decode cX4_noComing 3 = .ok (.invokevirtual 261, 3) := dk_182 1 5 (dk_at dksX4_noComing_0 3 rfl rfl)
theorem dX4_noComing_6 : decode cX4_noComing 6 = .ok (.ifCond .ne 8, 3) := dk_154 0 8 (dk_at dksX4_noComing_0 6 rfl rfl)
theorem dX4_noComing_9 : decode cX4_noComing 9 = .ok (.bipush (-2), 2) := dk_16 254 (dk_at dksX4_noComing_0 9 rfl rfl)
theorem dX4_noComing_11 : decode cX4_noComing 11 = .ok (.goto 21, 3) := dk_167 0 21 (dk_at dksX4_noComing_0 11 rfl rfl)
theorem dX4_noComing_14 : decode cX4_noComing 14 = .ok (.iload_n 2, 1) := dk_28 (dk_at dksX4_noComing_0 14 rfl rfl)
theorem dX4_noComing_15 : decode cX4_noComing 15 = .ok (.i2l, 1) := dk_133 (dk_at dksX4_noComing_0 15 rfl rfl)
theorem dX4_noComing_16 : decode cX4_noComing 16 = .ok (.lconst 0, 1) := dk_9 (dk_at dksX4_noComing_0 16 rfl rfl)
theorem dX4_noComing_17 : decode cX4_noComing 17 = .ok (.ldc2_w 326, 3) := dk_20 1 70 (dk_at dksX4_noComing_0 17 rfl rfl)
theorem dX4_noComing_20 : decode cX4_noComing 20 = .ok (.invokestatic 142, 3) := dk_184 0 142 (dk_at dksX4_noComing_0 20 rfl rfl)
theorem dX4_noComing_23 : decode cX4_noComing 23 = .ok (.ifCond .eq 7, 3) := dk_153 0 7 (dk_at dksX4_noComing_1 0 rfl rfl)
theorem dX4_noComing_26 : decode cX4_noComing 26 = .ok (.iconst 0, 1) := dk_3 (dk_at dksX4_noComing_1 3 rfl rfl)
theorem dX4_noComing_27 : decode cX4_noComing 27 = .ok (.goto 5, 3) := dk_167 0 5 (dk_at dksX4_noComing_1 4 rfl rfl)
theorem dX4_noComing_30 : decode cX4_noComing 30 = .ok (.bipush (-3), 2) := dk_16 253 (dk_at dksX4_noComing_1 7 rfl rfl)
theorem dX4_noComing_32 : decode cX4_noComing 32 = .ok (.ireturn, 1) := dk_172 (dk_at dksX4_noComing_1 9 rfl rfl)
abbrev cX4_laysComing : ByteArray := prog_16_method_72_code
def yX4_laysComing : MethodName := ⟨RX4, "laysComing", "(III)I"⟩
def dkwX4_laysComing_2 : List UInt8 := [19, 1, 57, 79, 132, 4, 1, 167, 255, 212, 42, 182, 1, 67, 42, 180, 0, 42, 42, 182, 0, 232, 46, 172]
abbrev dktX4_laysComing_2 : List UInt8 := dkwX4_laysComing_2 ++ []
def dkwX4_laysComing_1 : List UInt8 := [21, 4, 16, 6, 108, 27, 160, 0, 16, 21, 4, 16, 6, 112, 28, 163, 0, 7, 3, 167, 0, 6]
abbrev dktX4_laysComing_1 : List UInt8 := dkwX4_laysComing_1 ++ dktX4_laysComing_2
def dkwX4_laysComing_0 : List UInt8 := [42, 29, 182, 1, 64, 3, 54, 4, 21, 4, 42, 182, 1, 58, 162, 0, 41, 42, 180, 0, 42, 21, 4]
abbrev dktX4_laysComing_0 : List UInt8 := dkwX4_laysComing_0 ++ dktX4_laysComing_1
theorem dksX4_laysComing_0 : cX4_laysComing.data.toList.drop 0 = dktX4_laysComing_0 := by decide +kernel
theorem dksX4_laysComing_1 : cX4_laysComing.data.toList.drop 23 = dktX4_laysComing_1 := dk_seg dksX4_laysComing_0 23 rfl rfl
theorem dksX4_laysComing_2 : cX4_laysComing.data.toList.drop 45 = dktX4_laysComing_2 := dk_seg dksX4_laysComing_1 22 rfl rfl
theorem dX4_laysComing_0 : decode cX4_laysComing 0 = .ok (.aload_n 0, 1) := dk_42 (dk_at dksX4_laysComing_0 0 rfl rfl)
theorem dX4_laysComing_1 : decode cX4_laysComing 1 = .ok (.iload_n 3, 1) := dk_29 (dk_at dksX4_laysComing_0 1 rfl rfl)
theorem dX4_laysComing_2 : decode cX4_laysComing 2 = .ok (.invokevirtual 320, 3) := dk_182 1 64 (dk_at dksX4_laysComing_0 2 rfl rfl)
theorem dX4_laysComing_5 : decode cX4_laysComing 5 = .ok (.iconst 0, 1) := dk_3 (dk_at dksX4_laysComing_0 5 rfl rfl)
theorem dX4_laysComing_6 : decode cX4_laysComing 6 = .ok (.istore 4, 2) := dk_54 4 (dk_at dksX4_laysComing_0 6 rfl rfl)
theorem dX4_laysComing_8 : decode cX4_laysComing 8 = .ok (.iload 4, 2) := dk_21 4 (dk_at dksX4_laysComing_0 8 rfl rfl)
theorem dX4_laysComing_10 : decode cX4_laysComing 10 = .ok (.aload_n 0, 1) := dk_42 (dk_at dksX4_laysComing_0 10 rfl rfl)
theorem dX4_laysComing_11 : decode cX4_laysComing 11 = .ok (.invokevirtual 314, 3) := dk_182 1 58 (dk_at dksX4_laysComing_0 11 rfl rfl)
theorem dX4_laysComing_14 : decode cX4_laysComing 14 = .ok (.if_icmp .ge 41, 3) := dk_162 0 41 (dk_at dksX4_laysComing_0 14 rfl rfl)
theorem dX4_laysComing_17 : decode cX4_laysComing 17 = .ok (.aload_n 0, 1) := dk_42 (dk_at dksX4_laysComing_0 17 rfl rfl)
theorem dX4_laysComing_18 : decode cX4_laysComing 18 = .ok (.getfield 42, 3) := dk_180 0 42 (dk_at dksX4_laysComing_0 18 rfl rfl)
theorem dX4_laysComing_21 : decode cX4_laysComing 21 = .ok (.iload 4, 2) := dk_21 4 (dk_at dksX4_laysComing_0 21 rfl rfl)
theorem dX4_laysComing_23 : decode cX4_laysComing 23 = .ok (.iload 4, 2) := dk_21 4 (dk_at dksX4_laysComing_1 0 rfl rfl)
theorem dX4_laysComing_25 : decode cX4_laysComing 25 = .ok (.bipush 6, 2) := dk_16 6 (dk_at dksX4_laysComing_1 2 rfl rfl)
theorem dX4_laysComing_27 : decode cX4_laysComing 27 = .ok (.idiv, 1) := dk_108 (dk_at dksX4_laysComing_1 4 rfl rfl)
theorem dX4_laysComing_28 : decode cX4_laysComing 28 = .ok (.iload_n 1, 1) := dk_27 (dk_at dksX4_laysComing_1 5 rfl rfl)
theorem dX4_laysComing_29 : decode cX4_laysComing 29 = .ok (.if_icmp .ne 16, 3) := dk_160 0 16 (dk_at dksX4_laysComing_1 6 rfl rfl)
theorem dX4_laysComing_32 : decode cX4_laysComing 32 = .ok (.iload 4, 2) := dk_21 4 (dk_at dksX4_laysComing_1 9 rfl rfl)
theorem dX4_laysComing_34 : decode cX4_laysComing 34 = .ok (.bipush 6, 2) := dk_16 6 (dk_at dksX4_laysComing_1 11 rfl rfl)
theorem dX4_laysComing_36 : decode cX4_laysComing 36 = .ok (.irem, 1) := dk_112 (dk_at dksX4_laysComing_1 13 rfl rfl)
theorem dX4_laysComing_37 : decode cX4_laysComing 37 = .ok (.iload_n 2, 1) := dk_28 (dk_at dksX4_laysComing_1 14 rfl rfl)
theorem dX4_laysComing_38 : decode cX4_laysComing 38 = .ok (.if_icmp .gt 7, 3) := dk_163 0 7 (dk_at dksX4_laysComing_1 15 rfl rfl)
theorem dX4_laysComing_41 : decode cX4_laysComing 41 = .ok (.iconst 0, 1) := dk_3 (dk_at dksX4_laysComing_1 18 rfl rfl)
theorem dX4_laysComing_42 : decode cX4_laysComing 42 = .ok (.goto 6, 3) := dk_167 0 6 (dk_at dksX4_laysComing_1 19 rfl rfl)
theorem dX4_laysComing_45 : decode cX4_laysComing 45 = .ok (.ldc_w 313, 3) := dk_19 1 57 (dk_at dksX4_laysComing_2 0 rfl rfl)
theorem dX4_laysComing_48 : decode cX4_laysComing 48 = .ok (.iastore, 1) := dk_79 (dk_at dksX4_laysComing_2 3 rfl rfl)
theorem dX4_laysComing_49 : decode cX4_laysComing 49 = .ok (.iinc 4 1, 3) := dk_132 4 1 (dk_at dksX4_laysComing_2 4 rfl rfl)
theorem dX4_laysComing_52 : decode cX4_laysComing 52 = .ok (.goto (-44), 3) := dk_167 255 212 (dk_at dksX4_laysComing_2 7 rfl rfl)
theorem dX4_laysComing_55 : decode cX4_laysComing 55 = .ok (.aload_n 0, 1) := dk_42 (dk_at dksX4_laysComing_2 10 rfl rfl)
theorem dX4_laysComing_56 : decode cX4_laysComing 56 = .ok (.invokevirtual 323, 3) := dk_182 1 67 (dk_at dksX4_laysComing_2 11 rfl rfl)
theorem dX4_laysComing_59 : decode cX4_laysComing 59 = .ok (.aload_n 0, 1) := dk_42 (dk_at dksX4_laysComing_2 14 rfl rfl)
theorem dX4_laysComing_60 : decode cX4_laysComing 60 = .ok (.getfield 42, 3) := dk_180 0 42 (dk_at dksX4_laysComing_2 15 rfl rfl)
theorem dX4_laysComing_63 : decode cX4_laysComing 63 = .ok (.aload_n 0, 1) := dk_42 (dk_at dksX4_laysComing_2 18 rfl rfl)
theorem dX4_laysComing_64 : decode cX4_laysComing 64 = .ok (.invokevirtual 232, 3) := dk_182 0 232 (dk_at dksX4_laysComing_2 19 rfl rfl)
theorem dX4_laysComing_67 : decode cX4_laysComing 67 = .ok (.iaload, 1) := dk_46 (dk_at dksX4_laysComing_2 22 rfl rfl)
theorem dX4_laysComing_68 : decode cX4_laysComing 68 = .ok (.ireturn, 1) := dk_172 (dk_at dksX4_laysComing_2 23 rfl rfl)
abbrev cX4_laysThen : ByteArray := prog_16_method_68_code
def yX4_laysThen : MethodName := ⟨RX4, "laysThen", "(I)V"⟩
def dkwX4_laysThen_3 : List UInt8 := [182, 0, 239, 167, 0, 4, 2, 79, 132, 3, 1, 167, 255, 191, 132, 2, 1, 167, 255, 170, 177]
abbrev dktX4_laysThen_3 : List UInt8 := dkwX4_laysThen_3 ++ []
def dkwX4_laysThen_2 : List UInt8 := [180, 0, 13, 16, 45, 46, 182, 0, 235, 154, 0, 20, 42, 28, 29, 27, 42, 180, 0, 13, 16, 45, 46]
abbrev dktX4_laysThen_2 : List UInt8 := dkwX4_laysThen_2 ++ dktX4_laysThen_3
def dkwX4_laysThen_1 : List UInt8 := [180, 0, 39, 16, 8, 28, 104, 29, 96, 29, 42, 180, 0, 13, 5, 46, 162, 0, 37, 42, 28, 29, 27, 42]
abbrev dktX4_laysThen_1 : List UInt8 := dkwX4_laysThen_1 ++ dktX4_laysThen_2
def dkwX4_laysThen_0 : List UInt8 := [3, 61, 28, 16, 6, 42, 180, 0, 13, 4, 46, 104, 162, 0, 79, 3, 62, 29, 16, 8, 162, 0, 65, 42]
abbrev dktX4_laysThen_0 : List UInt8 := dkwX4_laysThen_0 ++ dktX4_laysThen_1
theorem dksX4_laysThen_0 : cX4_laysThen.data.toList.drop 0 = dktX4_laysThen_0 := by decide +kernel
theorem dksX4_laysThen_1 : cX4_laysThen.data.toList.drop 24 = dktX4_laysThen_1 := dk_seg dksX4_laysThen_0 24 rfl rfl
theorem dksX4_laysThen_2 : cX4_laysThen.data.toList.drop 48 = dktX4_laysThen_2 := dk_seg dksX4_laysThen_1 24 rfl rfl
theorem dksX4_laysThen_3 : cX4_laysThen.data.toList.drop 71 = dktX4_laysThen_3 := dk_seg dksX4_laysThen_2 23 rfl rfl
theorem dX4_laysThen_0 : decode cX4_laysThen 0 = .ok (.iconst 0, 1) := dk_3 (dk_at dksX4_laysThen_0 0 rfl rfl)
theorem dX4_laysThen_1 : decode cX4_laysThen 1 = .ok (.istore_n 2, 1) := dk_61 (dk_at dksX4_laysThen_0 1 rfl rfl)
theorem dX4_laysThen_2 : decode cX4_laysThen 2 = .ok (.iload_n 2, 1) := dk_28 (dk_at dksX4_laysThen_0 2 rfl rfl)
theorem dX4_laysThen_3 : decode cX4_laysThen 3 = .ok (.bipush 6, 2) := dk_16 6 (dk_at dksX4_laysThen_0 3 rfl rfl)
theorem dX4_laysThen_5 : decode cX4_laysThen 5 = .ok (.aload_n 0, 1) := dk_42 (dk_at dksX4_laysThen_0 5 rfl rfl)
theorem dX4_laysThen_6 : decode cX4_laysThen 6 = .ok (.getfield 13, 3) := dk_180 0 13 (dk_at dksX4_laysThen_0 6 rfl rfl)
theorem dX4_laysThen_9 : decode cX4_laysThen 9 = .ok (.iconst 1, 1) := dk_4 (dk_at dksX4_laysThen_0 9 rfl rfl)
theorem dX4_laysThen_10 : decode cX4_laysThen 10 = .ok (.iaload, 1) := dk_46 (dk_at dksX4_laysThen_0 10 rfl rfl)
theorem dX4_laysThen_11 : decode cX4_laysThen 11 = .ok (.imul, 1) := dk_104 (dk_at dksX4_laysThen_0 11 rfl rfl)
theorem dX4_laysThen_12 : decode cX4_laysThen 12 = .ok (.if_icmp .ge 79, 3) := dk_162 0 79 (dk_at dksX4_laysThen_0 12 rfl rfl)
theorem dX4_laysThen_15 : decode cX4_laysThen 15 = .ok (.iconst 0, 1) := dk_3 (dk_at dksX4_laysThen_0 15 rfl rfl)
theorem dX4_laysThen_16 : decode cX4_laysThen 16 = .ok (.istore_n 3, 1) := dk_62 (dk_at dksX4_laysThen_0 16 rfl rfl)
theorem dX4_laysThen_17 : decode cX4_laysThen 17 = .ok (.iload_n 3, 1) := dk_29 (dk_at dksX4_laysThen_0 17 rfl rfl)
theorem dX4_laysThen_18 : decode cX4_laysThen 18 = .ok (.bipush 8, 2) := dk_16 8 (dk_at dksX4_laysThen_0 18 rfl rfl)
theorem dX4_laysThen_20 : decode cX4_laysThen 20 = .ok (.if_icmp .ge 65, 3) := dk_162 0 65 (dk_at dksX4_laysThen_0 20 rfl rfl)
theorem dX4_laysThen_23 : decode cX4_laysThen 23 = .ok (.aload_n 0, 1) := dk_42 (dk_at dksX4_laysThen_0 23 rfl rfl)
theorem dX4_laysThen_24 : decode cX4_laysThen 24 = .ok (.getfield 39, 3) := dk_180 0 39 (dk_at dksX4_laysThen_1 0 rfl rfl)
theorem dX4_laysThen_27 : decode cX4_laysThen 27 = .ok (.bipush 8, 2) := dk_16 8 (dk_at dksX4_laysThen_1 3 rfl rfl)
theorem dX4_laysThen_29 : decode cX4_laysThen 29 = .ok (.iload_n 2, 1) := dk_28 (dk_at dksX4_laysThen_1 5 rfl rfl)
theorem dX4_laysThen_30 : decode cX4_laysThen 30 = .ok (.imul, 1) := dk_104 (dk_at dksX4_laysThen_1 6 rfl rfl)
theorem dX4_laysThen_31 : decode cX4_laysThen 31 = .ok (.iload_n 3, 1) := dk_29 (dk_at dksX4_laysThen_1 7 rfl rfl)
theorem dX4_laysThen_32 : decode cX4_laysThen 32 = .ok (.iadd, 1) := dk_96 (dk_at dksX4_laysThen_1 8 rfl rfl)
theorem dX4_laysThen_33 : decode cX4_laysThen 33 = .ok (.iload_n 3, 1) := dk_29 (dk_at dksX4_laysThen_1 9 rfl rfl)
theorem dX4_laysThen_34 : decode cX4_laysThen 34 = .ok (.aload_n 0, 1) := dk_42 (dk_at dksX4_laysThen_1 10 rfl rfl)
theorem dX4_laysThen_35 : decode cX4_laysThen 35 = .ok (.getfield 13, 3) := dk_180 0 13 (dk_at dksX4_laysThen_1 11 rfl rfl)
theorem dX4_laysThen_38 : decode cX4_laysThen 38 = .ok (.iconst 2, 1) := dk_5 (dk_at dksX4_laysThen_1 14 rfl rfl)
theorem dX4_laysThen_39 : decode cX4_laysThen 39 = .ok (.iaload, 1) := dk_46 (dk_at dksX4_laysThen_1 15 rfl rfl)
theorem dX4_laysThen_40 : decode cX4_laysThen 40 = .ok (.if_icmp .ge 37, 3) := dk_162 0 37 (dk_at dksX4_laysThen_1 16 rfl rfl)
theorem dX4_laysThen_43 : decode cX4_laysThen 43 = .ok (.aload_n 0, 1) := dk_42 (dk_at dksX4_laysThen_1 19 rfl rfl)
theorem dX4_laysThen_44 : decode cX4_laysThen 44 = .ok (.iload_n 2, 1) := dk_28 (dk_at dksX4_laysThen_1 20 rfl rfl)
theorem dX4_laysThen_45 : decode cX4_laysThen 45 = .ok (.iload_n 3, 1) := dk_29 (dk_at dksX4_laysThen_1 21 rfl rfl)
theorem dX4_laysThen_46 : decode cX4_laysThen 46 = .ok (.iload_n 1, 1) := dk_27 (dk_at dksX4_laysThen_1 22 rfl rfl)
theorem dX4_laysThen_47 : decode cX4_laysThen 47 = .ok (.aload_n 0, 1) := dk_42 (dk_at dksX4_laysThen_1 23 rfl rfl)
theorem dX4_laysThen_48 : decode cX4_laysThen 48 = .ok (.getfield 13, 3) := dk_180 0 13 (dk_at dksX4_laysThen_2 0 rfl rfl)
theorem dX4_laysThen_51 : decode cX4_laysThen 51 = .ok (.bipush 45, 2) := dk_16 45 (dk_at dksX4_laysThen_2 3 rfl rfl)
theorem dX4_laysThen_53 : decode cX4_laysThen 53 = .ok (.iaload, 1) := dk_46 (dk_at dksX4_laysThen_2 5 rfl rfl)
theorem dX4_laysThen_54 : decode cX4_laysThen 54 = .ok (.invokevirtual 235, 3) := dk_182 0 235 (dk_at dksX4_laysThen_2 6 rfl rfl)
theorem dX4_laysThen_57 : decode cX4_laysThen 57 = .ok (.ifCond .ne 20, 3) := dk_154 0 20 (dk_at dksX4_laysThen_2 9 rfl rfl)
theorem dX4_laysThen_60 : decode cX4_laysThen 60 = .ok (.aload_n 0, 1) := dk_42 (dk_at dksX4_laysThen_2 12 rfl rfl)
theorem dX4_laysThen_61 : decode cX4_laysThen 61 = .ok (.iload_n 2, 1) := dk_28 (dk_at dksX4_laysThen_2 13 rfl rfl)
theorem dX4_laysThen_62 : decode cX4_laysThen 62 = .ok (.iload_n 3, 1) := dk_29 (dk_at dksX4_laysThen_2 14 rfl rfl)
theorem dX4_laysThen_63 : decode cX4_laysThen 63 = .ok (.iload_n 1, 1) := dk_27 (dk_at dksX4_laysThen_2 15 rfl rfl)
theorem dX4_laysThen_64 : decode cX4_laysThen 64 = .ok (.aload_n 0, 1) := dk_42 (dk_at dksX4_laysThen_2 16 rfl rfl)
theorem dX4_laysThen_65 : decode cX4_laysThen 65 = .ok (.getfield 13, 3) := dk_180 0 13 (dk_at dksX4_laysThen_2 17 rfl rfl)
theorem dX4_laysThen_68 : decode cX4_laysThen 68 = .ok (.bipush 45, 2) := dk_16 45 (dk_at dksX4_laysThen_2 20 rfl rfl)
theorem dX4_laysThen_70 : decode cX4_laysThen 70 = .ok (.iaload, 1) := dk_46 (dk_at dksX4_laysThen_2 22 rfl rfl)
theorem dX4_laysThen_71 : decode cX4_laysThen 71 = .ok (.invokevirtual 239, 3) := dk_182 0 239 (dk_at dksX4_laysThen_3 0 rfl rfl)
theorem dX4_laysThen_74 : decode cX4_laysThen 74 = .ok (.goto 4, 3) := dk_167 0 4 (dk_at dksX4_laysThen_3 3 rfl rfl)
theorem dX4_laysThen_77 : decode cX4_laysThen 77 = .ok (.iconst (-1), 1) := dk_2 (dk_at dksX4_laysThen_3 6 rfl rfl)
theorem dX4_laysThen_78 : decode cX4_laysThen 78 = .ok (.iastore, 1) := dk_79 (dk_at dksX4_laysThen_3 7 rfl rfl)
theorem dX4_laysThen_79 : decode cX4_laysThen 79 = .ok (.iinc 3 1, 3) := dk_132 3 1 (dk_at dksX4_laysThen_3 8 rfl rfl)
theorem dX4_laysThen_82 : decode cX4_laysThen 82 = .ok (.goto (-65), 3) := dk_167 255 191 (dk_at dksX4_laysThen_3 11 rfl rfl)
theorem dX4_laysThen_85 : decode cX4_laysThen 85 = .ok (.iinc 2 1, 3) := dk_132 2 1 (dk_at dksX4_laysThen_3 14 rfl rfl)
theorem dX4_laysThen_88 : decode cX4_laysThen 88 = .ok (.goto (-86), 3) := dk_167 255 170 (dk_at dksX4_laysThen_3 17 rfl rfl)
theorem dX4_laysThen_91 : decode cX4_laysThen 91 = .ok (.return_, 1) := dk_177 (dk_at dksX4_laysThen_3 20 rfl rfl)
abbrev cX4_standsAll : ByteArray := prog_16_method_69_code
def yX4_standsAll : MethodName := ⟨RX4, "standsAll", "()I"⟩
def dkwX4_standsAll_0 : List UInt8 := [16, 6, 42, 180, 0, 13, 4, 46, 104, 172]
abbrev dktX4_standsAll_0 : List UInt8 := dkwX4_standsAll_0 ++ []
theorem dksX4_standsAll_0 : cX4_standsAll.data.toList.drop 0 = dktX4_standsAll_0 := by decide +kernel
theorem dX4_standsAll_0 : decode cX4_standsAll 0 = .ok (.bipush 6, 2) := dk_16 6 (dk_at dksX4_standsAll_0 0 rfl rfl)
theorem dX4_standsAll_2 : decode cX4_standsAll 2 = .ok (.aload_n 0, 1) := dk_42 (dk_at dksX4_standsAll_0 2 rfl rfl)
theorem dX4_standsAll_3 : decode cX4_standsAll 3 = .ok (.getfield 13, 3) := dk_180 0 13 (dk_at dksX4_standsAll_0 3 rfl rfl)
theorem dX4_standsAll_6 : decode cX4_standsAll 6 = .ok (.iconst 1, 1) := dk_4 (dk_at dksX4_standsAll_0 6 rfl rfl)
theorem dX4_standsAll_7 : decode cX4_standsAll 7 = .ok (.iaload, 1) := dk_46 (dk_at dksX4_standsAll_0 7 rfl rfl)
theorem dX4_standsAll_8 : decode cX4_standsAll 8 = .ok (.imul, 1) := dk_104 (dk_at dksX4_standsAll_0 8 rfl rfl)
theorem dX4_standsAll_9 : decode cX4_standsAll 9 = .ok (.ireturn, 1) := dk_172 (dk_at dksX4_standsAll_0 9 rfl rfl)
abbrev cX4_laysFar : ByteArray := prog_16_method_71_code
def yX4_laysFar : MethodName := ⟨RX4, "laysFar", "()V"⟩
def dkwX4_laysFar_3 : List UInt8 := [167, 255, 206, 132, 2, 1, 167, 255, 190, 167, 255, 179, 177]
abbrev dktX4_laysFar_3 : List UInt8 := dkwX4_laysFar_3 ++ []
def dkwX4_laysFar_2 : List UInt8 := [161, 0, 6, 167, 0, 17, 42, 180, 0, 42, 28, 42, 28, 29, 182, 1, 61, 79, 4, 60, 132, 3, 1]
abbrev dktX4_laysFar_2 : List UInt8 := dkwX4_laysFar_2 ++ dktX4_laysFar_3
def dkwX4_laysFar_1 : List UInt8 := [162, 0, 50, 42, 180, 0, 42, 28, 46, 158, 0, 41, 42, 28, 29, 182, 1, 61, 42, 180, 0, 42, 28, 46]
abbrev dktX4_laysFar_1 : List UInt8 := dkwX4_laysFar_1 ++ dktX4_laysFar_2
def dkwX4_laysFar_0 : List UInt8 := [4, 60, 27, 153, 0, 79, 3, 60, 3, 61, 28, 42, 182, 1, 58, 162, 0, 64, 3, 62, 29, 16, 8]
abbrev dktX4_laysFar_0 : List UInt8 := dkwX4_laysFar_0 ++ dktX4_laysFar_1
theorem dksX4_laysFar_0 : cX4_laysFar.data.toList.drop 0 = dktX4_laysFar_0 := by decide +kernel
theorem dksX4_laysFar_1 : cX4_laysFar.data.toList.drop 23 = dktX4_laysFar_1 := dk_seg dksX4_laysFar_0 23 rfl rfl
theorem dksX4_laysFar_2 : cX4_laysFar.data.toList.drop 47 = dktX4_laysFar_2 := dk_seg dksX4_laysFar_1 24 rfl rfl
theorem dksX4_laysFar_3 : cX4_laysFar.data.toList.drop 70 = dktX4_laysFar_3 := dk_seg dksX4_laysFar_2 23 rfl rfl
theorem dX4_laysFar_0 : decode cX4_laysFar 0 = .ok (.iconst 1, 1) := dk_4 (dk_at dksX4_laysFar_0 0 rfl rfl)
theorem dX4_laysFar_1 : decode cX4_laysFar 1 = .ok (.istore_n 1, 1) := dk_60 (dk_at dksX4_laysFar_0 1 rfl rfl)
theorem dX4_laysFar_2 : decode cX4_laysFar 2 = .ok (.iload_n 1, 1) := dk_27 (dk_at dksX4_laysFar_0 2 rfl rfl)
theorem dX4_laysFar_3 : decode cX4_laysFar 3 = .ok (.ifCond .eq 79, 3) := dk_153 0 79 (dk_at dksX4_laysFar_0 3 rfl rfl)
theorem dX4_laysFar_6 : decode cX4_laysFar 6 = .ok (.iconst 0, 1) := dk_3 (dk_at dksX4_laysFar_0 6 rfl rfl)
theorem dX4_laysFar_7 : decode cX4_laysFar 7 = .ok (.istore_n 1, 1) := dk_60 (dk_at dksX4_laysFar_0 7 rfl rfl)
theorem dX4_laysFar_8 : decode cX4_laysFar 8 = .ok (.iconst 0, 1) := dk_3 (dk_at dksX4_laysFar_0 8 rfl rfl)
theorem dX4_laysFar_9 : decode cX4_laysFar 9 = .ok (.istore_n 2, 1) := dk_61 (dk_at dksX4_laysFar_0 9 rfl rfl)
theorem dX4_laysFar_10 : decode cX4_laysFar 10 = .ok (.iload_n 2, 1) := dk_28 (dk_at dksX4_laysFar_0 10 rfl rfl)
theorem dX4_laysFar_11 : decode cX4_laysFar 11 = .ok (.aload_n 0, 1) := dk_42 (dk_at dksX4_laysFar_0 11 rfl rfl)
theorem dX4_laysFar_12 : decode cX4_laysFar 12 = .ok (.invokevirtual 314, 3) := dk_182 1 58 (dk_at dksX4_laysFar_0 12 rfl rfl)
theorem dX4_laysFar_15 : decode cX4_laysFar 15 = .ok (.if_icmp .ge 64, 3) := dk_162 0 64 (dk_at dksX4_laysFar_0 15 rfl rfl)
theorem dX4_laysFar_18 : decode cX4_laysFar 18 = .ok (.iconst 0, 1) := dk_3 (dk_at dksX4_laysFar_0 18 rfl rfl)
theorem dX4_laysFar_19 : decode cX4_laysFar 19 = .ok (.istore_n 3, 1) := dk_62 (dk_at dksX4_laysFar_0 19 rfl rfl)
theorem dX4_laysFar_20 : decode cX4_laysFar 20 = .ok (.iload_n 3, 1) := dk_29 (dk_at dksX4_laysFar_0 20 rfl rfl)
theorem dX4_laysFar_21 : decode cX4_laysFar 21 = .ok (.bipush 8, 2) := dk_16 8 (dk_at dksX4_laysFar_0 21 rfl rfl)
theorem dX4_laysFar_23 : decode cX4_laysFar 23 = .ok (.if_icmp .ge 50, 3) := dk_162 0 50 (dk_at dksX4_laysFar_1 0 rfl rfl)
theorem dX4_laysFar_26 : decode cX4_laysFar 26 = .ok (.aload_n 0, 1) := dk_42 (dk_at dksX4_laysFar_1 3 rfl rfl)
theorem dX4_laysFar_27 : decode cX4_laysFar 27 = .ok (.getfield 42, 3) := dk_180 0 42 (dk_at dksX4_laysFar_1 4 rfl rfl)
theorem dX4_laysFar_30 : decode cX4_laysFar 30 = .ok (.iload_n 2, 1) := dk_28 (dk_at dksX4_laysFar_1 7 rfl rfl)
theorem dX4_laysFar_31 : decode cX4_laysFar 31 = .ok (.iaload, 1) := dk_46 (dk_at dksX4_laysFar_1 8 rfl rfl)
theorem dX4_laysFar_32 : decode cX4_laysFar 32 = .ok (.ifCond .le 41, 3) := dk_158 0 41 (dk_at dksX4_laysFar_1 9 rfl rfl)
theorem dX4_laysFar_35 : decode cX4_laysFar 35 = .ok (.aload_n 0, 1) := dk_42 (dk_at dksX4_laysFar_1 12 rfl rfl)
theorem dX4_laysFar_36 : decode cX4_laysFar 36 = .ok (.iload_n 2, 1) := dk_28 (dk_at dksX4_laysFar_1 13 rfl rfl)
theorem dX4_laysFar_37 : decode cX4_laysFar 37 = .ok (.iload_n 3, 1) := dk_29 (dk_at dksX4_laysFar_1 14 rfl rfl)
theorem dX4_laysFar_38 : decode cX4_laysFar 38 = .ok (.invokevirtual 317, 3) := dk_182 1 61 (dk_at dksX4_laysFar_1 15 rfl rfl)
theorem dX4_laysFar_41 : decode cX4_laysFar 41 = .ok (.aload_n 0, 1) := dk_42 (dk_at dksX4_laysFar_1 18 rfl rfl)
theorem dX4_laysFar_42 : decode cX4_laysFar 42 = .ok (.getfield 42, 3) := dk_180 0 42 (dk_at dksX4_laysFar_1 19 rfl rfl)
theorem dX4_laysFar_45 : decode cX4_laysFar 45 = .ok (.iload_n 2, 1) := dk_28 (dk_at dksX4_laysFar_1 22 rfl rfl)
theorem dX4_laysFar_46 : decode cX4_laysFar 46 = .ok (.iaload, 1) := dk_46 (dk_at dksX4_laysFar_1 23 rfl rfl)
theorem dX4_laysFar_47 : decode cX4_laysFar 47 = .ok (.if_icmp .lt 6, 3) := dk_161 0 6 (dk_at dksX4_laysFar_2 0 rfl rfl)
theorem dX4_laysFar_50 : decode cX4_laysFar 50 = .ok (.goto 17, 3) := dk_167 0 17 (dk_at dksX4_laysFar_2 3 rfl rfl)
theorem dX4_laysFar_53 : decode cX4_laysFar 53 = .ok (.aload_n 0, 1) := dk_42 (dk_at dksX4_laysFar_2 6 rfl rfl)
theorem dX4_laysFar_54 : decode cX4_laysFar 54 = .ok (.getfield 42, 3) := dk_180 0 42 (dk_at dksX4_laysFar_2 7 rfl rfl)
theorem dX4_laysFar_57 : decode cX4_laysFar 57 = .ok (.iload_n 2, 1) := dk_28 (dk_at dksX4_laysFar_2 10 rfl rfl)
theorem dX4_laysFar_58 : decode cX4_laysFar 58 = .ok (.aload_n 0, 1) := dk_42 (dk_at dksX4_laysFar_2 11 rfl rfl)
theorem dX4_laysFar_59 : decode cX4_laysFar 59 = .ok (.iload_n 2, 1) := dk_28 (dk_at dksX4_laysFar_2 12 rfl rfl)
theorem dX4_laysFar_60 : decode cX4_laysFar 60 = .ok (.iload_n 3, 1) := dk_29 (dk_at dksX4_laysFar_2 13 rfl rfl)
theorem dX4_laysFar_61 : decode cX4_laysFar 61 = .ok (.invokevirtual 317, 3) := dk_182 1 61 (dk_at dksX4_laysFar_2 14 rfl rfl)
theorem dX4_laysFar_64 : decode cX4_laysFar 64 = .ok (.iastore, 1) := dk_79 (dk_at dksX4_laysFar_2 17 rfl rfl)
theorem dX4_laysFar_65 : decode cX4_laysFar 65 = .ok (.iconst 1, 1) := dk_4 (dk_at dksX4_laysFar_2 18 rfl rfl)
theorem dX4_laysFar_66 : decode cX4_laysFar 66 = .ok (.istore_n 1, 1) := dk_60 (dk_at dksX4_laysFar_2 19 rfl rfl)
theorem dX4_laysFar_67 : decode cX4_laysFar 67 = .ok (.iinc 3 1, 3) := dk_132 3 1 (dk_at dksX4_laysFar_2 20 rfl rfl)
theorem dX4_laysFar_70 : decode cX4_laysFar 70 = .ok (.goto (-50), 3) := dk_167 255 206 (dk_at dksX4_laysFar_3 0 rfl rfl)
theorem dX4_laysFar_73 : decode cX4_laysFar 73 = .ok (.iinc 2 1, 3) := dk_132 2 1 (dk_at dksX4_laysFar_3 3 rfl rfl)
theorem dX4_laysFar_76 : decode cX4_laysFar 76 = .ok (.goto (-66), 3) := dk_167 255 190 (dk_at dksX4_laysFar_3 6 rfl rfl)
theorem dX4_laysFar_79 : decode cX4_laysFar 79 = .ok (.goto (-77), 3) := dk_167 255 179 (dk_at dksX4_laysFar_3 9 rfl rfl)
theorem dX4_laysFar_82 : decode cX4_laysFar 82 = .ok (.return_, 1) := dk_177 (dk_at dksX4_laysFar_3 12 rfl rfl)
abbrev cX4_farBy : ByteArray := prog_16_method_70_code
def yX4_farBy : MethodName := ⟨RX4, "farBy", "(II)I"⟩
def dkwX4_farBy_1 : List UInt8 := [19, 1, 57, 160, 0, 9, 19, 1, 57, 167, 0, 11, 42, 180, 0, 42, 29, 46, 4, 96, 172]
abbrev dktX4_farBy_1 : List UInt8 := dkwX4_farBy_1 ++ []
def dkwX4_farBy_0 : List UInt8 := [42, 180, 0, 39, 16, 8, 27, 104, 28, 96, 46, 62, 29, 2, 159, 0, 15, 42, 180, 0, 42, 29, 46]
abbrev dktX4_farBy_0 : List UInt8 := dkwX4_farBy_0 ++ dktX4_farBy_1
theorem dksX4_farBy_0 : cX4_farBy.data.toList.drop 0 = dktX4_farBy_0 := by decide +kernel
theorem dksX4_farBy_1 : cX4_farBy.data.toList.drop 23 = dktX4_farBy_1 := dk_seg dksX4_farBy_0 23 rfl rfl
theorem dX4_farBy_0 : decode cX4_farBy 0 = .ok (.aload_n 0, 1) := dk_42 (dk_at dksX4_farBy_0 0 rfl rfl)
theorem dX4_farBy_1 : decode cX4_farBy 1 = .ok (.getfield 39, 3) := dk_180 0 39 (dk_at dksX4_farBy_0 1 rfl rfl)
theorem dX4_farBy_4 : decode cX4_farBy 4 = .ok (.bipush 8, 2) := dk_16 8 (dk_at dksX4_farBy_0 4 rfl rfl)
theorem dX4_farBy_6 : decode cX4_farBy 6 = .ok (.iload_n 1, 1) := dk_27 (dk_at dksX4_farBy_0 6 rfl rfl)
theorem dX4_farBy_7 : decode cX4_farBy 7 = .ok (.imul, 1) := dk_104 (dk_at dksX4_farBy_0 7 rfl rfl)
theorem dX4_farBy_8 : decode cX4_farBy 8 = .ok (.iload_n 2, 1) := dk_28 (dk_at dksX4_farBy_0 8 rfl rfl)
theorem dX4_farBy_9 : decode cX4_farBy 9 = .ok (.iadd, 1) := dk_96 (dk_at dksX4_farBy_0 9 rfl rfl)
theorem dX4_farBy_10 : decode cX4_farBy 10 = .ok (.iaload, 1) := dk_46 (dk_at dksX4_farBy_0 10 rfl rfl)
theorem dX4_farBy_11 : decode cX4_farBy 11 = .ok (.istore_n 3, 1) := dk_62 (dk_at dksX4_farBy_0 11 rfl rfl)
theorem dX4_farBy_12 : decode cX4_farBy 12 = .ok (.iload_n 3, 1) := dk_29 (dk_at dksX4_farBy_0 12 rfl rfl)
theorem dX4_farBy_13 : decode cX4_farBy 13 = .ok (.iconst (-1), 1) := dk_2 (dk_at dksX4_farBy_0 13 rfl rfl)
theorem dX4_farBy_14 : decode cX4_farBy 14 = .ok (.if_icmp .eq 15, 3) := dk_159 0 15 (dk_at dksX4_farBy_0 14 rfl rfl)
theorem dX4_farBy_17 : decode cX4_farBy 17 = .ok (.aload_n 0, 1) := dk_42 (dk_at dksX4_farBy_0 17 rfl rfl)
theorem dX4_farBy_18 : decode cX4_farBy 18 = .ok (.getfield 42, 3) := dk_180 0 42 (dk_at dksX4_farBy_0 18 rfl rfl)
theorem dX4_farBy_21 : decode cX4_farBy 21 = .ok (.iload_n 3, 1) := dk_29 (dk_at dksX4_farBy_0 21 rfl rfl)
theorem dX4_farBy_22 : decode cX4_farBy 22 = .ok (.iaload, 1) := dk_46 (dk_at dksX4_farBy_0 22 rfl rfl)
theorem dX4_farBy_23 : decode cX4_farBy 23 = .ok (.ldc_w 313, 3) := dk_19 1 57 (dk_at dksX4_farBy_1 0 rfl rfl)
theorem dX4_farBy_26 : decode cX4_farBy 26 = .ok (.if_icmp .ne 9, 3) := dk_160 0 9 (dk_at dksX4_farBy_1 3 rfl rfl)
theorem dX4_farBy_29 : decode cX4_farBy 29 = .ok (.ldc_w 313, 3) := dk_19 1 57 (dk_at dksX4_farBy_1 6 rfl rfl)
theorem dX4_farBy_32 : decode cX4_farBy 32 = .ok (.goto 11, 3) := dk_167 0 11 (dk_at dksX4_farBy_1 9 rfl rfl)
theorem dX4_farBy_35 : decode cX4_farBy 35 = .ok (.aload_n 0, 1) := dk_42 (dk_at dksX4_farBy_1 12 rfl rfl)
theorem dX4_farBy_36 : decode cX4_farBy 36 = .ok (.getfield 42, 3) := dk_180 0 42 (dk_at dksX4_farBy_1 13 rfl rfl)
theorem dX4_farBy_39 : decode cX4_farBy 39 = .ok (.iload_n 3, 1) := dk_29 (dk_at dksX4_farBy_1 16 rfl rfl)
theorem dX4_farBy_40 : decode cX4_farBy 40 = .ok (.iaload, 1) := dk_46 (dk_at dksX4_farBy_1 17 rfl rfl)
theorem dX4_farBy_41 : decode cX4_farBy 41 = .ok (.iconst 1, 1) := dk_4 (dk_at dksX4_farBy_1 18 rfl rfl)
theorem dX4_farBy_42 : decode cX4_farBy 42 = .ok (.iadd, 1) := dk_96 (dk_at dksX4_farBy_1 19 rfl rfl)
theorem dX4_farBy_43 : decode cX4_farBy 43 = .ok (.ireturn, 1) := dk_172 (dk_at dksX4_farBy_1 20 rfl rfl)
abbrev cX4_way : ByteArray := prog_16_method_76_code
def yX4_way : MethodName := ⟨RX4, "way", "(III)I"⟩
def dkwX4_way_2 : List UInt8 := [182, 1, 78, 172]
abbrev dktX4_way_2 : List UInt8 := dkwX4_way_2 ++ []
def dkwX4_way_1 : List UInt8 := [156, 0, 6, 16, 253, 172, 42, 27, 28, 42, 180, 0, 13, 16, 44, 46, 182, 1, 75, 87, 42, 29]
abbrev dktX4_way_1 : List UInt8 := dkwX4_way_1 ++ dktX4_way_2
def dkwX4_way_0 : List UInt8 := [42, 3, 181, 0, 1, 42, 27, 28, 182, 1, 72, 54, 4, 21, 4, 153, 0, 6, 21, 4, 172, 29]
abbrev dktX4_way_0 : List UInt8 := dkwX4_way_0 ++ dktX4_way_1
theorem dksX4_way_0 : cX4_way.data.toList.drop 0 = dktX4_way_0 := by decide +kernel
theorem dksX4_way_1 : cX4_way.data.toList.drop 22 = dktX4_way_1 := dk_seg dksX4_way_0 22 rfl rfl
theorem dksX4_way_2 : cX4_way.data.toList.drop 44 = dktX4_way_2 := dk_seg dksX4_way_1 22 rfl rfl
theorem dX4_way_0 : decode cX4_way 0 = .ok (.aload_n 0, 1) := dk_42 (dk_at dksX4_way_0 0 rfl rfl)
theorem dX4_way_1 : decode cX4_way 1 = .ok (.iconst 0, 1) := dk_3 (dk_at dksX4_way_0 1 rfl rfl)
theorem dX4_way_2 : decode cX4_way 2 = .ok (.putfield 1, 3) := dk_181 0 1 (dk_at dksX4_way_0 2 rfl rfl)
theorem dX4_way_5 : decode cX4_way 5 = .ok (.aload_n 0, 1) := dk_42 (dk_at dksX4_way_0 5 rfl rfl)
theorem dX4_way_6 : decode cX4_way 6 = .ok (.iload_n 1, 1) := dk_27 (dk_at dksX4_way_0 6 rfl rfl)
theorem dX4_way_7 : decode cX4_way 7 = .ok (.iload_n 2, 1) := dk_28 (dk_at dksX4_way_0 7 rfl rfl)
theorem dX4_way_8 : decode cX4_way 8 = .ok (.invokevirtual 328, 3) := dk_182 1 72 (dk_at dksX4_way_0 8 rfl rfl)
theorem dX4_way_11 : decode cX4_way 11 = .ok (.istore 4, 2) := dk_54 4 (dk_at dksX4_way_0 11 rfl rfl)
theorem dX4_way_13 : decode cX4_way 13 = .ok (.iload 4, 2) := dk_21 4 (dk_at dksX4_way_0 13 rfl rfl)
theorem dX4_way_15 : decode cX4_way 15 = .ok (.ifCond .eq 6, 3) := dk_153 0 6 (dk_at dksX4_way_0 15 rfl rfl)
theorem dX4_way_18 : decode cX4_way 18 = .ok (.iload 4, 2) := dk_21 4 (dk_at dksX4_way_0 18 rfl rfl)
theorem dX4_way_20 : decode cX4_way 20 = .ok (.ireturn, 1) := dk_172 (dk_at dksX4_way_0 20 rfl rfl)
theorem dX4_way_21 : decode cX4_way 21 = .ok (.iload_n 3, 1) := dk_29 (dk_at dksX4_way_0 21 rfl rfl)
theorem dX4_way_22 : decode cX4_way 22 = .ok (.ifCond .ge 6, 3) := dk_156 0 6 (dk_at dksX4_way_1 0 rfl rfl)
theorem dX4_way_25 : decode cX4_way 25 = .ok (.bipush (-3), 2) := dk_16 253 (dk_at dksX4_way_1 3 rfl rfl)
theorem dX4_way_27 : decode cX4_way 27 = .ok (.ireturn, 1) := dk_172 (dk_at dksX4_way_1 5 rfl rfl)
theorem dX4_way_28 : decode cX4_way 28 = .ok (.aload_n 0, 1) := dk_42 (dk_at dksX4_way_1 6 rfl rfl)
theorem dX4_way_29 : decode cX4_way 29 = .ok (.iload_n 1, 1) := dk_27 (dk_at dksX4_way_1 7 rfl rfl)
theorem dX4_way_30 : decode cX4_way 30 = .ok (.iload_n 2, 1) := dk_28 (dk_at dksX4_way_1 8 rfl rfl)
theorem dX4_way_31 : decode cX4_way 31 = .ok (.aload_n 0, 1) := dk_42 (dk_at dksX4_way_1 9 rfl rfl)
theorem dX4_way_32 : decode cX4_way 32 = .ok (.getfield 13, 3) := dk_180 0 13 (dk_at dksX4_way_1 10 rfl rfl)
theorem dX4_way_35 : decode cX4_way 35 = .ok (.bipush 44, 2) := dk_16 44 (dk_at dksX4_way_1 13 rfl rfl)
theorem dX4_way_37 : decode cX4_way 37 = .ok (.iaload, 1) := dk_46 (dk_at dksX4_way_1 15 rfl rfl)
theorem dX4_way_38 : decode cX4_way 38 = .ok (.invokevirtual 331, 3) := dk_182 1 75 (dk_at dksX4_way_1 16 rfl rfl)
theorem dX4_way_41 : decode cX4_way 41 = .ok (.pop, 1) := dk_87 (dk_at dksX4_way_1 19 rfl rfl)
theorem dX4_way_42 : decode cX4_way 42 = .ok (.aload_n 0, 1) := dk_42 (dk_at dksX4_way_1 20 rfl rfl)
theorem dX4_way_43 : decode cX4_way 43 = .ok (.iload_n 3, 1) := dk_29 (dk_at dksX4_way_1 21 rfl rfl)
theorem dX4_way_44 : decode cX4_way 44 = .ok (.invokevirtual 334, 3) := dk_182 1 78 (dk_at dksX4_way_2 0 rfl rfl)
theorem dX4_way_47 : decode cX4_way 47 = .ok (.ireturn, 1) := dk_172 (dk_at dksX4_way_2 3 rfl rfl)
abbrev cX4_passageAt : ByteArray := prog_16_method_74_code
def yX4_passageAt : MethodName := ⟨RX4, "passageAt", "(I)I"⟩
def dkwX4_passageAt_3 : List UInt8 := [104, 21, 4, 96, 46, 61, 132, 3, 1, 167, 255, 186, 2, 172]
abbrev dktX4_passageAt_3 : List UInt8 := dkwX4_passageAt_3 ++ []
def dkwX4_passageAt_2 : List UInt8 := [159, 0, 9, 132, 4, 1, 167, 255, 237, 29, 27, 160, 0, 6, 21, 4, 172, 42, 180, 0, 39, 16, 8, 28]
abbrev dktX4_passageAt_2 : List UInt8 := dkwX4_passageAt_2 ++ dktX4_passageAt_3
def dkwX4_passageAt_1 : List UInt8 := [19, 1, 57, 162, 0, 55, 3, 54, 4, 42, 28, 21, 4, 182, 1, 61, 42, 180, 0, 42, 28, 46]
abbrev dktX4_passageAt_1 : List UInt8 := dkwX4_passageAt_1 ++ dktX4_passageAt_2
def dkwX4_passageAt_0 : List UInt8 := [42, 182, 0, 232, 61, 3, 62, 42, 180, 0, 42, 28, 46, 158, 0, 67, 42, 180, 0, 42, 28, 46]
abbrev dktX4_passageAt_0 : List UInt8 := dkwX4_passageAt_0 ++ dktX4_passageAt_1
theorem dksX4_passageAt_0 : cX4_passageAt.data.toList.drop 0 = dktX4_passageAt_0 := by decide +kernel
theorem dksX4_passageAt_1 : cX4_passageAt.data.toList.drop 22 = dktX4_passageAt_1 := dk_seg dksX4_passageAt_0 22 rfl rfl
theorem dksX4_passageAt_2 : cX4_passageAt.data.toList.drop 44 = dktX4_passageAt_2 := dk_seg dksX4_passageAt_1 22 rfl rfl
theorem dksX4_passageAt_3 : cX4_passageAt.data.toList.drop 68 = dktX4_passageAt_3 := dk_seg dksX4_passageAt_2 24 rfl rfl
theorem dX4_passageAt_0 : decode cX4_passageAt 0 = .ok (.aload_n 0, 1) := dk_42 (dk_at dksX4_passageAt_0 0 rfl rfl)
theorem dX4_passageAt_1 : decode cX4_passageAt 1 = .ok (.invokevirtual 232, 3) := dk_182 0 232 (dk_at dksX4_passageAt_0 1 rfl rfl)
theorem dX4_passageAt_4 : decode cX4_passageAt 4 = .ok (.istore_n 2, 1) := dk_61 (dk_at dksX4_passageAt_0 4 rfl rfl)
theorem dX4_passageAt_5 : decode cX4_passageAt 5 = .ok (.iconst 0, 1) := dk_3 (dk_at dksX4_passageAt_0 5 rfl rfl)
theorem dX4_passageAt_6 : decode cX4_passageAt 6 = .ok (.istore_n 3, 1) := dk_62 (dk_at dksX4_passageAt_0 6 rfl rfl)
theorem dX4_passageAt_7 : decode cX4_passageAt 7 = .ok (.aload_n 0, 1) := dk_42 (dk_at dksX4_passageAt_0 7 rfl rfl)
theorem dX4_passageAt_8 : decode cX4_passageAt 8 = .ok (.getfield 42, 3) := dk_180 0 42 (dk_at dksX4_passageAt_0 8 rfl rfl)
theorem dX4_passageAt_11 : decode cX4_passageAt 11 = .ok (.iload_n 2, 1) := dk_28 (dk_at dksX4_passageAt_0 11 rfl rfl)
theorem dX4_passageAt_12 : decode cX4_passageAt 12 = .ok (.iaload, 1) := dk_46 (dk_at dksX4_passageAt_0 12 rfl rfl)
theorem dX4_passageAt_13 : decode cX4_passageAt 13 = .ok (.ifCond .le 67, 3) := dk_158 0 67 (dk_at dksX4_passageAt_0 13 rfl rfl)
theorem dX4_passageAt_16 : decode cX4_passageAt 16 = .ok (.aload_n 0, 1) := dk_42 (dk_at dksX4_passageAt_0 16 rfl rfl)
theorem dX4_passageAt_17 : decode cX4_passageAt 17 = .ok (.getfield 42, 3) := dk_180 0 42 (dk_at dksX4_passageAt_0 17 rfl rfl)
theorem dX4_passageAt_20 : decode cX4_passageAt 20 = .ok (.iload_n 2, 1) := dk_28 (dk_at dksX4_passageAt_0 20 rfl rfl)
theorem dX4_passageAt_21 : decode cX4_passageAt 21 = .ok (.iaload, 1) := dk_46 (dk_at dksX4_passageAt_0 21 rfl rfl)
theorem dX4_passageAt_22 : decode cX4_passageAt 22 = .ok (.ldc_w 313, 3) := dk_19 1 57 (dk_at dksX4_passageAt_1 0 rfl rfl)
theorem dX4_passageAt_25 : decode cX4_passageAt 25 = .ok (.if_icmp .ge 55, 3) := dk_162 0 55 (dk_at dksX4_passageAt_1 3 rfl rfl)
theorem dX4_passageAt_28 : decode cX4_passageAt 28 = .ok (.iconst 0, 1) := dk_3 (dk_at dksX4_passageAt_1 6 rfl rfl)
theorem dX4_passageAt_29 : decode cX4_passageAt 29 = .ok (.istore 4, 2) := dk_54 4 (dk_at dksX4_passageAt_1 7 rfl rfl)
theorem dX4_passageAt_31 : decode cX4_passageAt 31 = .ok (.aload_n 0, 1) := dk_42 (dk_at dksX4_passageAt_1 9 rfl rfl)
theorem dX4_passageAt_32 : decode cX4_passageAt 32 = .ok (.iload_n 2, 1) := dk_28 (dk_at dksX4_passageAt_1 10 rfl rfl)
theorem dX4_passageAt_33 : decode cX4_passageAt 33 = .ok (.iload 4, 2) := dk_21 4 (dk_at dksX4_passageAt_1 11 rfl rfl)
theorem dX4_passageAt_35 : decode cX4_passageAt 35 = .ok (.invokevirtual 317, 3) := dk_182 1 61 (dk_at dksX4_passageAt_1 13 rfl rfl)
theorem dX4_passageAt_38 : decode cX4_passageAt 38 = .ok (.aload_n 0, 1) := dk_42 (dk_at dksX4_passageAt_1 16 rfl rfl)
theorem dX4_passageAt_39 : decode cX4_passageAt 39 = .ok (.getfield 42, 3) := dk_180 0 42 (dk_at dksX4_passageAt_1 17 rfl rfl)
theorem dX4_passageAt_42 : decode cX4_passageAt 42 = .ok (.iload_n 2, 1) := dk_28 (dk_at dksX4_passageAt_1 20 rfl rfl)
theorem dX4_passageAt_43 : decode cX4_passageAt 43 = .ok (.iaload, 1) := dk_46 (dk_at dksX4_passageAt_1 21 rfl rfl)
theorem dX4_passageAt_44 : decode cX4_passageAt 44 = .ok (.if_icmp .eq 9, 3) := dk_159 0 9 (dk_at dksX4_passageAt_2 0 rfl rfl)
theorem dX4_passageAt_47 : decode cX4_passageAt 47 = .ok (.iinc 4 1, 3) := dk_132 4 1 (dk_at dksX4_passageAt_2 3 rfl rfl)
theorem dX4_passageAt_50 : decode cX4_passageAt 50 = .ok (.goto (-19), 3) := dk_167 255 237 (dk_at dksX4_passageAt_2 6 rfl rfl)
theorem dX4_passageAt_53 : decode cX4_passageAt 53 = .ok (.iload_n 3, 1) := dk_29 (dk_at dksX4_passageAt_2 9 rfl rfl)
theorem dX4_passageAt_54 : decode cX4_passageAt 54 = .ok (.iload_n 1, 1) := dk_27 (dk_at dksX4_passageAt_2 10 rfl rfl)
theorem dX4_passageAt_55 : decode cX4_passageAt 55 = .ok (.if_icmp .ne 6, 3) := dk_160 0 6 (dk_at dksX4_passageAt_2 11 rfl rfl)
theorem dX4_passageAt_58 : decode cX4_passageAt 58 = .ok (.iload 4, 2) := dk_21 4 (dk_at dksX4_passageAt_2 14 rfl rfl)
theorem dX4_passageAt_60 : decode cX4_passageAt 60 = .ok (.ireturn, 1) := dk_172 (dk_at dksX4_passageAt_2 16 rfl rfl)
theorem dX4_passageAt_61 : decode cX4_passageAt 61 = .ok (.aload_n 0, 1) := dk_42 (dk_at dksX4_passageAt_2 17 rfl rfl)
theorem dX4_passageAt_62 : decode cX4_passageAt 62 = .ok (.getfield 39, 3) := dk_180 0 39 (dk_at dksX4_passageAt_2 18 rfl rfl)
theorem dX4_passageAt_65 : decode cX4_passageAt 65 = .ok (.bipush 8, 2) := dk_16 8 (dk_at dksX4_passageAt_2 21 rfl rfl)
theorem dX4_passageAt_67 : decode cX4_passageAt 67 = .ok (.iload_n 2, 1) := dk_28 (dk_at dksX4_passageAt_2 23 rfl rfl)
theorem dX4_passageAt_68 : decode cX4_passageAt 68 = .ok (.imul, 1) := dk_104 (dk_at dksX4_passageAt_3 0 rfl rfl)
theorem dX4_passageAt_69 : decode cX4_passageAt 69 = .ok (.iload 4, 2) := dk_21 4 (dk_at dksX4_passageAt_3 1 rfl rfl)
theorem dX4_passageAt_71 : decode cX4_passageAt 71 = .ok (.iadd, 1) := dk_96 (dk_at dksX4_passageAt_3 3 rfl rfl)
theorem dX4_passageAt_72 : decode cX4_passageAt 72 = .ok (.iaload, 1) := dk_46 (dk_at dksX4_passageAt_3 4 rfl rfl)
theorem dX4_passageAt_73 : decode cX4_passageAt 73 = .ok (.istore_n 2, 1) := dk_61 (dk_at dksX4_passageAt_3 5 rfl rfl)
theorem dX4_passageAt_74 : decode cX4_passageAt 74 = .ok (.iinc 3 1, 3) := dk_132 3 1 (dk_at dksX4_passageAt_3 6 rfl rfl)
theorem dX4_passageAt_77 : decode cX4_passageAt 77 = .ok (.goto (-70), 3) := dk_167 255 186 (dk_at dksX4_passageAt_3 9 rfl rfl)
theorem dX4_passageAt_80 : decode cX4_passageAt 80 = .ok (.iconst (-1), 1) := dk_2 (dk_at dksX4_passageAt_3 12 rfl rfl)
theorem dX4_passageAt_81 : decode cX4_passageAt 81 = .ok (.ireturn, 1) := dk_172 (dk_at dksX4_passageAt_3 13 rfl rfl)
abbrev cX4_least : ByteArray := prog_16_method_77_code
def yX4_least : MethodName := ⟨RX4, "least", "(I)I"⟩
def dkwX4_least_2 : List UInt8 := [167, 255, 227, 2, 172]
abbrev dktX4_least_2 : List UInt8 := dkwX4_least_2 ++ []
def dkwX4_least_1 : List UInt8 := [42, 27, 28, 42, 180, 0, 13, 16, 44, 46, 182, 1, 75, 19, 1, 57, 162, 0, 5, 28, 172, 132, 2, 1]
abbrev dktX4_least_1 : List UInt8 := dkwX4_least_1 ++ dktX4_least_2
def dkwX4_least_0 : List UInt8 := [42, 3, 181, 0, 1, 42, 27, 133, 182, 1, 5, 154, 0, 6, 16, 254, 172, 3, 61, 28, 8, 162, 0, 30]
abbrev dktX4_least_0 : List UInt8 := dkwX4_least_0 ++ dktX4_least_1
theorem dksX4_least_0 : cX4_least.data.toList.drop 0 = dktX4_least_0 := by decide +kernel
theorem dksX4_least_1 : cX4_least.data.toList.drop 24 = dktX4_least_1 := dk_seg dksX4_least_0 24 rfl rfl
theorem dksX4_least_2 : cX4_least.data.toList.drop 48 = dktX4_least_2 := dk_seg dksX4_least_1 24 rfl rfl
theorem dX4_least_0 : decode cX4_least 0 = .ok (.aload_n 0, 1) := dk_42 (dk_at dksX4_least_0 0 rfl rfl)
theorem dX4_least_1 : decode cX4_least 1 = .ok (.iconst 0, 1) := dk_3 (dk_at dksX4_least_0 1 rfl rfl)
theorem dX4_least_2 : decode cX4_least 2 = .ok (.putfield 1, 3) := dk_181 0 1 (dk_at dksX4_least_0 2 rfl rfl)
theorem dX4_least_5 : decode cX4_least 5 = .ok (.aload_n 0, 1) := dk_42 (dk_at dksX4_least_0 5 rfl rfl)
theorem dX4_least_6 : decode cX4_least 6 = .ok (.iload_n 1, 1) := dk_27 (dk_at dksX4_least_0 6 rfl rfl)
theorem dX4_least_7 : decode cX4_least 7 = .ok (.i2l, 1) := dk_133 (dk_at dksX4_least_0 7 rfl rfl)
theorem dX4_least_8 : decode cX4_least 8 = .ok (.invokevirtual 261, 3) := dk_182 1 5 (dk_at dksX4_least_0 8 rfl rfl)
theorem dX4_least_11 : decode cX4_least 11 = .ok (.ifCond .ne 6, 3) := dk_154 0 6 (dk_at dksX4_least_0 11 rfl rfl)
theorem dX4_least_14 : decode cX4_least 14 = .ok (.bipush (-2), 2) := dk_16 254 (dk_at dksX4_least_0 14 rfl rfl)
theorem dX4_least_16 : decode cX4_least 16 = .ok (.ireturn, 1) := dk_172 (dk_at dksX4_least_0 16 rfl rfl)
theorem dX4_least_17 : decode cX4_least 17 = .ok (.iconst 0, 1) := dk_3 (dk_at dksX4_least_0 17 rfl rfl)
theorem dX4_least_18 : decode cX4_least 18 = .ok (.istore_n 2, 1) := dk_61 (dk_at dksX4_least_0 18 rfl rfl)
theorem dX4_least_19 : decode cX4_least 19 = .ok (.iload_n 2, 1) := dk_28 (dk_at dksX4_least_0 19 rfl rfl)
theorem dX4_least_20 : decode cX4_least 20 = .ok (.iconst 5, 1) := dk_8 (dk_at dksX4_least_0 20 rfl rfl)
theorem dX4_least_21 : decode cX4_least 21 = .ok (.if_icmp .ge 30, 3) := dk_162 0 30 (dk_at dksX4_least_0 21 rfl rfl)
theorem dX4_least_24 : decode cX4_least 24 = .ok (.aload_n 0, 1) := dk_42 (dk_at dksX4_least_1 0 rfl rfl)
theorem dX4_least_25 : decode cX4_least 25 = .ok (.iload_n 1, 1) := dk_27 (dk_at dksX4_least_1 1 rfl rfl)
theorem dX4_least_26 : decode cX4_least 26 = .ok (.iload_n 2, 1) := dk_28 (dk_at dksX4_least_1 2 rfl rfl)
theorem dX4_least_27 : decode cX4_least 27 = .ok (.aload_n 0, 1) := dk_42 (dk_at dksX4_least_1 3 rfl rfl)
theorem dX4_least_28 : decode cX4_least 28 = .ok (.getfield 13, 3) := dk_180 0 13 (dk_at dksX4_least_1 4 rfl rfl)
theorem dX4_least_31 : decode cX4_least 31 = .ok (.bipush 44, 2) := dk_16 44 (dk_at dksX4_least_1 7 rfl rfl)
theorem dX4_least_33 : decode cX4_least 33 = .ok (.iaload, 1) := dk_46 (dk_at dksX4_least_1 9 rfl rfl)
theorem dX4_least_34 : decode cX4_least 34 = .ok (.invokevirtual 331, 3) := dk_182 1 75 (dk_at dksX4_least_1 10 rfl rfl)
theorem dX4_least_37 : decode cX4_least 37 = .ok (.ldc_w 313, 3) := dk_19 1 57 (dk_at dksX4_least_1 13 rfl rfl)
theorem dX4_least_40 : decode cX4_least 40 = .ok (.if_icmp .ge 5, 3) := dk_162 0 5 (dk_at dksX4_least_1 16 rfl rfl)
theorem dX4_least_43 : decode cX4_least 43 = .ok (.iload_n 2, 1) := dk_28 (dk_at dksX4_least_1 19 rfl rfl)
theorem dX4_least_44 : decode cX4_least 44 = .ok (.ireturn, 1) := dk_172 (dk_at dksX4_least_1 20 rfl rfl)
theorem dX4_least_45 : decode cX4_least 45 = .ok (.iinc 2 1, 3) := dk_132 2 1 (dk_at dksX4_least_1 21 rfl rfl)
theorem dX4_least_48 : decode cX4_least 48 = .ok (.goto (-29), 3) := dk_167 255 227 (dk_at dksX4_least_2 0 rfl rfl)
theorem dX4_least_51 : decode cX4_least 51 = .ok (.iconst (-1), 1) := dk_2 (dk_at dksX4_least_2 3 rfl rfl)
theorem dX4_least_52 : decode cX4_least 52 = .ok (.ireturn, 1) := dk_172 (dk_at dksX4_least_2 4 rfl rfl)
abbrev cX4_stands : ByteArray := prog_16_method_80_code
def yX4_stands : MethodName := ⟨RX4, "stands", "()I"⟩
def dkwX4_stands_1 : List UInt8 := [182, 1, 81, 42, 182, 1, 85, 172]
abbrev dktX4_stands_1 : List UInt8 := dkwX4_stands_1 ++ []
def dkwX4_stands_0 : List UInt8 := [42, 3, 181, 0, 1, 42, 42, 180, 0, 13, 16, 44, 46, 182, 1, 64, 42, 42, 182, 0, 232, 3]
abbrev dktX4_stands_0 : List UInt8 := dkwX4_stands_0 ++ dktX4_stands_1
theorem dksX4_stands_0 : cX4_stands.data.toList.drop 0 = dktX4_stands_0 := by decide +kernel
theorem dksX4_stands_1 : cX4_stands.data.toList.drop 22 = dktX4_stands_1 := dk_seg dksX4_stands_0 22 rfl rfl
theorem dX4_stands_0 : decode cX4_stands 0 = .ok (.aload_n 0, 1) := dk_42 (dk_at dksX4_stands_0 0 rfl rfl)
theorem dX4_stands_1 : decode cX4_stands 1 = .ok (.iconst 0, 1) := dk_3 (dk_at dksX4_stands_0 1 rfl rfl)
theorem dX4_stands_2 : decode cX4_stands 2 = .ok (.putfield 1, 3) := dk_181 0 1 (dk_at dksX4_stands_0 2 rfl rfl)
theorem dX4_stands_5 : decode cX4_stands 5 = .ok (.aload_n 0, 1) := dk_42 (dk_at dksX4_stands_0 5 rfl rfl)
theorem dX4_stands_6 : decode cX4_stands 6 = .ok (.aload_n 0, 1) := dk_42 (dk_at dksX4_stands_0 6 rfl rfl)
theorem dX4_stands_7 : decode cX4_stands 7 = .ok (.getfield 13, 3) := dk_180 0 13 (dk_at dksX4_stands_0 7 rfl rfl)
theorem dX4_stands_10 : decode cX4_stands 10 = .ok (.bipush 44, 2) := dk_16 44 (dk_at dksX4_stands_0 10 rfl rfl)
theorem dX4_stands_12 : decode cX4_stands 12 = .ok (.iaload, 1) := dk_46 (dk_at dksX4_stands_0 12 rfl rfl)
theorem dX4_stands_13 : decode cX4_stands 13 = .ok (.invokevirtual 320, 3) := dk_182 1 64 (dk_at dksX4_stands_0 13 rfl rfl)
theorem dX4_stands_16 : decode cX4_stands 16 = .ok (.aload_n 0, 1) := dk_42 (dk_at dksX4_stands_0 16 rfl rfl)
theorem dX4_stands_17 : decode cX4_stands 17 = .ok (.aload_n 0, 1) := dk_42 (dk_at dksX4_stands_0 17 rfl rfl)
theorem dX4_stands_18 : decode cX4_stands 18 = .ok (.invokevirtual 232, 3) := dk_182 0 232 (dk_at dksX4_stands_0 18 rfl rfl)
theorem dX4_stands_21 : decode cX4_stands 21 = .ok (.iconst 0, 1) := dk_3 (dk_at dksX4_stands_0 21 rfl rfl)
theorem dX4_stands_22 : decode cX4_stands 22 = .ok (.invokevirtual 337, 3) := dk_182 1 81 (dk_at dksX4_stands_1 0 rfl rfl)
theorem dX4_stands_25 : decode cX4_stands 25 = .ok (.aload_n 0, 1) := dk_42 (dk_at dksX4_stands_1 3 rfl rfl)
theorem dX4_stands_26 : decode cX4_stands 26 = .ok (.invokevirtual 341, 3) := dk_182 1 85 (dk_at dksX4_stands_1 4 rfl rfl)
theorem dX4_stands_29 : decode cX4_stands 29 = .ok (.ireturn, 1) := dk_172 (dk_at dksX4_stands_1 7 rfl rfl)
abbrev cX4_laysReached : ByteArray := prog_16_method_78_code
def yX4_laysReached : MethodName := ⟨RX4, "laysReached", "(IZ)V"⟩
def dkwX4_laysReached_6 : List UInt8 := [4, 62, 132, 5, 1, 167, 255, 163, 132, 4, 1, 167, 255, 145, 167, 255, 133, 177]
abbrev dktX4_laysReached_6 : List UInt8 := dkwX4_laysReached_6 ++ []
def dkwX4_laysReached_5 : List UInt8 := [153, 0, 26, 42, 180, 0, 45, 21, 8, 51, 153, 0, 6, 167, 0, 13, 42, 180, 0, 45, 21, 8, 4, 84]
abbrev dktX4_laysReached_5 : List UInt8 := dkwX4_laysReached_5 ++ dktX4_laysReached_6
def dkwX4_laysReached_4 : List UInt8 := [54, 7, 28, 153, 0, 8, 21, 4, 167, 0, 5, 21, 6, 54, 8, 42, 180, 0, 45, 21, 7, 51]
abbrev dktX4_laysReached_4 : List UInt8 := dkwX4_laysReached_4 ++ dktX4_laysReached_5
def dkwX4_laysReached_3 : List UInt8 := [96, 46, 54, 6, 21, 6, 2, 160, 0, 6, 167, 0, 62, 28, 153, 0, 8, 21, 6, 167, 0, 5, 21, 4]
abbrev dktX4_laysReached_3 : List UInt8 := dkwX4_laysReached_3 ++ dktX4_laysReached_4
def dkwX4_laysReached_2 : List UInt8 := [162, 0, 108, 3, 54, 5, 21, 5, 16, 8, 162, 0, 92, 42, 180, 0, 39, 16, 8, 21, 4, 104, 21, 5]
abbrev dktX4_laysReached_2 : List UInt8 := dkwX4_laysReached_2 ++ dktX4_laysReached_3
def dkwX4_laysReached_1 : List UInt8 := [132, 3, 1, 167, 255, 231, 4, 62, 29, 153, 0, 125, 3, 62, 3, 54, 4, 21, 4, 42, 182, 1, 58]
abbrev dktX4_laysReached_1 : List UInt8 := dkwX4_laysReached_1 ++ dktX4_laysReached_2
def dkwX4_laysReached_0 : List UInt8 := [3, 62, 29, 16, 36, 162, 0, 25, 42, 180, 0, 45, 29, 29, 27, 160, 0, 7, 4, 167, 0, 4, 3, 84]
abbrev dktX4_laysReached_0 : List UInt8 := dkwX4_laysReached_0 ++ dktX4_laysReached_1
theorem dksX4_laysReached_0 : cX4_laysReached.data.toList.drop 0 = dktX4_laysReached_0 := by decide +kernel
theorem dksX4_laysReached_1 : cX4_laysReached.data.toList.drop 24 = dktX4_laysReached_1 := dk_seg dksX4_laysReached_0 24 rfl rfl
theorem dksX4_laysReached_2 : cX4_laysReached.data.toList.drop 47 = dktX4_laysReached_2 := dk_seg dksX4_laysReached_1 23 rfl rfl
theorem dksX4_laysReached_3 : cX4_laysReached.data.toList.drop 71 = dktX4_laysReached_3 := dk_seg dksX4_laysReached_2 24 rfl rfl
theorem dksX4_laysReached_4 : cX4_laysReached.data.toList.drop 95 = dktX4_laysReached_4 := dk_seg dksX4_laysReached_3 24 rfl rfl
theorem dksX4_laysReached_5 : cX4_laysReached.data.toList.drop 117 = dktX4_laysReached_5 := dk_seg dksX4_laysReached_4 22 rfl rfl
theorem dksX4_laysReached_6 : cX4_laysReached.data.toList.drop 141 = dktX4_laysReached_6 := dk_seg dksX4_laysReached_5 24 rfl rfl
theorem dX4_laysReached_0 : decode cX4_laysReached 0 = .ok (.iconst 0, 1) := dk_3 (dk_at dksX4_laysReached_0 0 rfl rfl)
theorem dX4_laysReached_1 : decode cX4_laysReached 1 = .ok (.istore_n 3, 1) := dk_62 (dk_at dksX4_laysReached_0 1 rfl rfl)
theorem dX4_laysReached_2 : decode cX4_laysReached 2 = .ok (.iload_n 3, 1) := dk_29 (dk_at dksX4_laysReached_0 2 rfl rfl)
theorem dX4_laysReached_3 : decode cX4_laysReached 3 = .ok (.bipush 36, 2) := dk_16 36 (dk_at dksX4_laysReached_0 3 rfl rfl)
theorem dX4_laysReached_5 : decode cX4_laysReached 5 = .ok (.if_icmp .ge 25, 3) := dk_162 0 25 (dk_at dksX4_laysReached_0 5 rfl rfl)
theorem dX4_laysReached_8 : decode cX4_laysReached 8 = .ok (.aload_n 0, 1) := dk_42 (dk_at dksX4_laysReached_0 8 rfl rfl)
theorem dX4_laysReached_9 : decode cX4_laysReached 9 = .ok (.getfield 45, 3) := dk_180 0 45 (dk_at dksX4_laysReached_0 9 rfl rfl)
theorem dX4_laysReached_12 : decode cX4_laysReached 12 = .ok (.iload_n 3, 1) := dk_29 (dk_at dksX4_laysReached_0 12 rfl rfl)
theorem dX4_laysReached_13 : decode cX4_laysReached 13 = .ok (.iload_n 3, 1) := dk_29 (dk_at dksX4_laysReached_0 13 rfl rfl)
theorem dX4_laysReached_14 : decode cX4_laysReached 14 = .ok (.iload_n 1, 1) := dk_27 (dk_at dksX4_laysReached_0 14 rfl rfl)
theorem dX4_laysReached_15 : decode cX4_laysReached 15 = .ok (.if_icmp .ne 7, 3) := dk_160 0 7 (dk_at dksX4_laysReached_0 15 rfl rfl)
theorem dX4_laysReached_18 : decode cX4_laysReached 18 = .ok (.iconst 1, 1) := dk_4 (dk_at dksX4_laysReached_0 18 rfl rfl)
theorem dX4_laysReached_19 : decode cX4_laysReached 19 = .ok (.goto 4, 3) := dk_167 0 4 (dk_at dksX4_laysReached_0 19 rfl rfl)
theorem dX4_laysReached_22 : decode cX4_laysReached 22 = .ok (.iconst 0, 1) := dk_3 (dk_at dksX4_laysReached_0 22 rfl rfl)
theorem dX4_laysReached_23 : decode cX4_laysReached 23 = .ok (.bastore, 1) := dk_84 (dk_at dksX4_laysReached_0 23 rfl rfl)
theorem dX4_laysReached_24 : decode cX4_laysReached 24 = .ok (.iinc 3 1, 3) := dk_132 3 1 (dk_at dksX4_laysReached_1 0 rfl rfl)
theorem dX4_laysReached_27 : decode cX4_laysReached 27 = .ok (.goto (-25), 3) := dk_167 255 231 (dk_at dksX4_laysReached_1 3 rfl rfl)
theorem dX4_laysReached_30 : decode cX4_laysReached 30 = .ok (.iconst 1, 1) := dk_4 (dk_at dksX4_laysReached_1 6 rfl rfl)
theorem dX4_laysReached_31 : decode cX4_laysReached 31 = .ok (.istore_n 3, 1) := dk_62 (dk_at dksX4_laysReached_1 7 rfl rfl)
theorem dX4_laysReached_32 : decode cX4_laysReached 32 = .ok (.iload_n 3, 1) := dk_29 (dk_at dksX4_laysReached_1 8 rfl rfl)
theorem dX4_laysReached_33 : decode cX4_laysReached 33 = .ok (.ifCond .eq 125, 3) := dk_153 0 125 (dk_at dksX4_laysReached_1 9 rfl rfl)
theorem dX4_laysReached_36 : decode cX4_laysReached 36 = .ok (.iconst 0, 1) := dk_3 (dk_at dksX4_laysReached_1 12 rfl rfl)
theorem dX4_laysReached_37 : decode cX4_laysReached 37 = .ok (.istore_n 3, 1) := dk_62 (dk_at dksX4_laysReached_1 13 rfl rfl)
theorem dX4_laysReached_38 : decode cX4_laysReached 38 = .ok (.iconst 0, 1) := dk_3 (dk_at dksX4_laysReached_1 14 rfl rfl)
theorem dX4_laysReached_39 : decode cX4_laysReached 39 = .ok (.istore 4, 2) := dk_54 4 (dk_at dksX4_laysReached_1 15 rfl rfl)
theorem dX4_laysReached_41 : decode cX4_laysReached 41 = .ok (.iload 4, 2) := dk_21 4 (dk_at dksX4_laysReached_1 17 rfl rfl)
theorem dX4_laysReached_43 : decode cX4_laysReached 43 = .ok (.aload_n 0, 1) := dk_42 (dk_at dksX4_laysReached_1 19 rfl rfl)
theorem dX4_laysReached_44 : decode cX4_laysReached 44 = .ok (.invokevirtual 314, 3) := dk_182 1 58 (dk_at dksX4_laysReached_1 20 rfl rfl)
theorem dX4_laysReached_47 : decode cX4_laysReached 47 = .ok (.if_icmp .ge 108, 3) := dk_162 0 108 (dk_at dksX4_laysReached_2 0 rfl rfl)
theorem dX4_laysReached_50 : decode cX4_laysReached 50 = .ok (.iconst 0, 1) := dk_3 (dk_at dksX4_laysReached_2 3 rfl rfl)
theorem dX4_laysReached_51 : decode cX4_laysReached 51 = .ok (.istore 5, 2) := dk_54 5 (dk_at dksX4_laysReached_2 4 rfl rfl)
theorem dX4_laysReached_53 : decode cX4_laysReached 53 = .ok (.iload 5, 2) := dk_21 5 (dk_at dksX4_laysReached_2 6 rfl rfl)
theorem dX4_laysReached_55 : decode cX4_laysReached 55 = .ok (.bipush 8, 2) := dk_16 8 (dk_at dksX4_laysReached_2 8 rfl rfl)
theorem dX4_laysReached_57 : decode cX4_laysReached 57 = .ok (.if_icmp .ge 92, 3) := dk_162 0 92 (dk_at dksX4_laysReached_2 10 rfl rfl)
theorem dX4_laysReached_60 : decode cX4_laysReached 60 = .ok (.aload_n 0, 1) := dk_42 (dk_at dksX4_laysReached_2 13 rfl rfl)
theorem dX4_laysReached_61 : decode cX4_laysReached 61 = .ok (.getfield 39, 3) := dk_180 0 39 (dk_at dksX4_laysReached_2 14 rfl rfl)
theorem dX4_laysReached_64 : decode cX4_laysReached 64 = .ok (.bipush 8, 2) := dk_16 8 (dk_at dksX4_laysReached_2 17 rfl rfl)
theorem dX4_laysReached_66 : decode cX4_laysReached 66 = .ok (.iload 4, 2) := dk_21 4 (dk_at dksX4_laysReached_2 19 rfl rfl)
theorem dX4_laysReached_68 : decode cX4_laysReached 68 = .ok (.imul, 1) := dk_104 (dk_at dksX4_laysReached_2 21 rfl rfl)
theorem dX4_laysReached_69 : decode cX4_laysReached 69 = .ok (.iload 5, 2) := dk_21 5 (dk_at dksX4_laysReached_2 22 rfl rfl)
theorem dX4_laysReached_71 : decode cX4_laysReached 71 = .ok (.iadd, 1) := dk_96 (dk_at dksX4_laysReached_3 0 rfl rfl)
theorem dX4_laysReached_72 : decode cX4_laysReached 72 = .ok (.iaload, 1) := dk_46 (dk_at dksX4_laysReached_3 1 rfl rfl)
theorem dX4_laysReached_73 : decode cX4_laysReached 73 = .ok (.istore 6, 2) := dk_54 6 (dk_at dksX4_laysReached_3 2 rfl rfl)
theorem dX4_laysReached_75 : decode cX4_laysReached 75 = .ok (.iload 6, 2) := dk_21 6 (dk_at dksX4_laysReached_3 4 rfl rfl)
theorem dX4_laysReached_77 : decode cX4_laysReached 77 = .ok (.iconst (-1), 1) := dk_2 (dk_at dksX4_laysReached_3 6 rfl rfl)
theorem dX4_laysReached_78 : decode cX4_laysReached 78 = .ok (.if_icmp .ne 6, 3) := dk_160 0 6 (dk_at dksX4_laysReached_3 7 rfl rfl)
theorem dX4_laysReached_81 : decode cX4_laysReached 81 = .ok (.goto 62, 3) := dk_167 0 62 (dk_at dksX4_laysReached_3 10 rfl rfl)
theorem dX4_laysReached_84 : decode cX4_laysReached 84 = .ok (.iload_n 2, 1) := dk_28 (dk_at dksX4_laysReached_3 13 rfl rfl)
theorem dX4_laysReached_85 : decode cX4_laysReached 85 = .ok (.ifCond .eq 8, 3) := dk_153 0 8 (dk_at dksX4_laysReached_3 14 rfl rfl)
theorem dX4_laysReached_88 : decode cX4_laysReached 88 = .ok (.iload 6, 2) := dk_21 6 (dk_at dksX4_laysReached_3 17 rfl rfl)
theorem dX4_laysReached_90 : decode cX4_laysReached 90 = .ok (.goto 5, 3) := dk_167 0 5 (dk_at dksX4_laysReached_3 19 rfl rfl)
theorem dX4_laysReached_93 : decode cX4_laysReached 93 = .ok (.iload 4, 2) := dk_21 4 (dk_at dksX4_laysReached_3 22 rfl rfl)
theorem dX4_laysReached_95 : decode cX4_laysReached 95 = .ok (.istore 7, 2) := dk_54 7 (dk_at dksX4_laysReached_4 0 rfl rfl)
theorem dX4_laysReached_97 : decode cX4_laysReached 97 = .ok (.iload_n 2, 1) := dk_28 (dk_at dksX4_laysReached_4 2 rfl rfl)
theorem dX4_laysReached_98 : decode cX4_laysReached 98 = .ok (.ifCond .eq 8, 3) := dk_153 0 8 (dk_at dksX4_laysReached_4 3 rfl rfl)
theorem dX4_laysReached_101 : decode cX4_laysReached 101 = .ok (.iload 4, 2) := dk_21 4 (dk_at dksX4_laysReached_4 6 rfl rfl)
theorem dX4_laysReached_103 : decode cX4_laysReached 103 = .ok (.goto 5, 3) := dk_167 0 5 (dk_at dksX4_laysReached_4 8 rfl rfl)
theorem dX4_laysReached_106 : decode cX4_laysReached 106 = .ok (.iload 6, 2) := dk_21 6 (dk_at dksX4_laysReached_4 11 rfl rfl)
theorem dX4_laysReached_108 : decode cX4_laysReached 108 = .ok (.istore 8, 2) := dk_54 8 (dk_at dksX4_laysReached_4 13 rfl rfl)
theorem dX4_laysReached_110 : decode cX4_laysReached 110 = .ok (.aload_n 0, 1) := dk_42 (dk_at dksX4_laysReached_4 15 rfl rfl)
theorem dX4_laysReached_111 : decode cX4_laysReached 111 = .ok (.getfield 45, 3) := dk_180 0 45 (dk_at dksX4_laysReached_4 16 rfl rfl)
theorem dX4_laysReached_114 : decode cX4_laysReached 114 = .ok (.iload 7, 2) := dk_21 7 (dk_at dksX4_laysReached_4 19 rfl rfl)
theorem dX4_laysReached_116 : decode cX4_laysReached 116 = .ok (.baload, 1) := dk_51 (dk_at dksX4_laysReached_4 21 rfl rfl)
theorem dX4_laysReached_117 : decode cX4_laysReached 117 = .ok (.ifCond .eq 26, 3) := dk_153 0 26 (dk_at dksX4_laysReached_5 0 rfl rfl)
theorem dX4_laysReached_120 : decode cX4_laysReached 120 = .ok (.aload_n 0, 1) := dk_42 (dk_at dksX4_laysReached_5 3 rfl rfl)
theorem dX4_laysReached_121 : decode cX4_laysReached 121 = .ok (.getfield 45, 3) := dk_180 0 45 (dk_at dksX4_laysReached_5 4 rfl rfl)
theorem dX4_laysReached_124 : decode cX4_laysReached 124 = .ok (.iload 8, 2) := dk_21 8 (dk_at dksX4_laysReached_5 7 rfl rfl)
theorem dX4_laysReached_126 : decode cX4_laysReached 126 = .ok (.baload, 1) := dk_51 (dk_at dksX4_laysReached_5 9 rfl rfl)
theorem dX4_laysReached_127 : decode cX4_laysReached 127 = .ok (.ifCond .eq 6, 3) := dk_153 0 6 (dk_at dksX4_laysReached_5 10 rfl rfl)
theorem dX4_laysReached_130 : decode cX4_laysReached 130 = .ok (.goto 13, 3) := dk_167 0 13 (dk_at dksX4_laysReached_5 13 rfl rfl)
theorem dX4_laysReached_133 : decode cX4_laysReached 133 = .ok (.aload_n 0, 1) := dk_42 (dk_at dksX4_laysReached_5 16 rfl rfl)
theorem dX4_laysReached_134 : decode cX4_laysReached 134 = .ok (.getfield 45, 3) := dk_180 0 45 (dk_at dksX4_laysReached_5 17 rfl rfl)
theorem dX4_laysReached_137 : decode cX4_laysReached 137 = .ok (.iload 8, 2) := dk_21 8 (dk_at dksX4_laysReached_5 20 rfl rfl)
theorem dX4_laysReached_139 : decode cX4_laysReached 139 = .ok (.iconst 1, 1) := dk_4 (dk_at dksX4_laysReached_5 22 rfl rfl)
theorem dX4_laysReached_140 : decode cX4_laysReached 140 = .ok (.bastore, 1) := dk_84 (dk_at dksX4_laysReached_5 23 rfl rfl)
theorem dX4_laysReached_141 : decode cX4_laysReached 141 = .ok (.iconst 1, 1) := dk_4 (dk_at dksX4_laysReached_6 0 rfl rfl)
theorem dX4_laysReached_142 : decode cX4_laysReached 142 = .ok (.istore_n 3, 1) := dk_62 (dk_at dksX4_laysReached_6 1 rfl rfl)
theorem dX4_laysReached_143 : decode cX4_laysReached 143 = .ok (.iinc 5 1, 3) := dk_132 5 1 (dk_at dksX4_laysReached_6 2 rfl rfl)
theorem dX4_laysReached_146 : decode cX4_laysReached 146 = .ok (.goto (-93), 3) := dk_167 255 163 (dk_at dksX4_laysReached_6 5 rfl rfl)
theorem dX4_laysReached_149 : decode cX4_laysReached 149 = .ok (.iinc 4 1, 3) := dk_132 4 1 (dk_at dksX4_laysReached_6 8 rfl rfl)
theorem dX4_laysReached_152 : decode cX4_laysReached 152 = .ok (.goto (-111), 3) := dk_167 255 145 (dk_at dksX4_laysReached_6 11 rfl rfl)
theorem dX4_laysReached_155 : decode cX4_laysReached 155 = .ok (.goto (-123), 3) := dk_167 255 133 (dk_at dksX4_laysReached_6 14 rfl rfl)
theorem dX4_laysReached_158 : decode cX4_laysReached 158 = .ok (.return_, 1) := dk_177 (dk_at dksX4_laysReached_6 17 rfl rfl)
abbrev cX4_unlost : ByteArray := prog_16_method_79_code
def yX4_unlost : MethodName := ⟨RX4, "unlost", "()I"⟩
def dkwX4_unlost_1 : List UInt8 := [184, 0, 217, 154, 0, 7, 4, 167, 0, 4, 3, 96, 60, 132, 2, 1, 167, 255, 221, 27, 172]
abbrev dktX4_unlost_1 : List UInt8 := dkwX4_unlost_1 ++ []
def dkwX4_unlost_0 : List UInt8 := [3, 60, 3, 61, 28, 42, 182, 1, 58, 162, 0, 33, 27, 42, 180, 0, 45, 28, 51, 153, 0, 14, 28]
abbrev dktX4_unlost_0 : List UInt8 := dkwX4_unlost_0 ++ dktX4_unlost_1
theorem dksX4_unlost_0 : cX4_unlost.data.toList.drop 0 = dktX4_unlost_0 := by decide +kernel
theorem dksX4_unlost_1 : cX4_unlost.data.toList.drop 23 = dktX4_unlost_1 := dk_seg dksX4_unlost_0 23 rfl rfl
theorem dX4_unlost_0 : decode cX4_unlost 0 = .ok (.iconst 0, 1) := dk_3 (dk_at dksX4_unlost_0 0 rfl rfl)
theorem dX4_unlost_1 : decode cX4_unlost 1 = .ok (.istore_n 1, 1) := dk_60 (dk_at dksX4_unlost_0 1 rfl rfl)
theorem dX4_unlost_2 : decode cX4_unlost 2 = .ok (.iconst 0, 1) := dk_3 (dk_at dksX4_unlost_0 2 rfl rfl)
theorem dX4_unlost_3 : decode cX4_unlost 3 = .ok (.istore_n 2, 1) := dk_61 (dk_at dksX4_unlost_0 3 rfl rfl)
theorem dX4_unlost_4 : decode cX4_unlost 4 = .ok (.iload_n 2, 1) := dk_28 (dk_at dksX4_unlost_0 4 rfl rfl)
theorem dX4_unlost_5 : decode cX4_unlost 5 = .ok (.aload_n 0, 1) := dk_42 (dk_at dksX4_unlost_0 5 rfl rfl)
theorem dX4_unlost_6 : decode cX4_unlost 6 = .ok (.invokevirtual 314, 3) := dk_182 1 58 (dk_at dksX4_unlost_0 6 rfl rfl)
theorem dX4_unlost_9 : decode cX4_unlost 9 = .ok (.if_icmp .ge 33, 3) := dk_162 0 33 (dk_at dksX4_unlost_0 9 rfl rfl)
theorem dX4_unlost_12 : decode cX4_unlost 12 = .ok (.iload_n 1, 1) := dk_27 (dk_at dksX4_unlost_0 12 rfl rfl)
theorem dX4_unlost_13 : decode cX4_unlost 13 = .ok (.aload_n 0, 1) := dk_42 (dk_at dksX4_unlost_0 13 rfl rfl)
theorem dX4_unlost_14 : decode cX4_unlost 14 = .ok (.getfield 45, 3) := dk_180 0 45 (dk_at dksX4_unlost_0 14 rfl rfl)
theorem dX4_unlost_17 : decode cX4_unlost 17 = .ok (.iload_n 2, 1) := dk_28 (dk_at dksX4_unlost_0 17 rfl rfl)
theorem dX4_unlost_18 : decode cX4_unlost 18 = .ok (.baload, 1) := dk_51 (dk_at dksX4_unlost_0 18 rfl rfl)
theorem dX4_unlost_19 : decode cX4_unlost 19 = .ok (.ifCond .eq 14, 3) := dk_153 0 14 (dk_at dksX4_unlost_0 19 rfl rfl)
theorem dX4_unlost_22 : decode cX4_unlost 22 = .ok (.iload_n 2, 1) := dk_28 (dk_at dksX4_unlost_0 22 rfl rfl)
theorem dX4_unlost_23 : decode cX4_unlost 23 = .ok (.invokestatic 217, 3) := dk_184 0 217 (dk_at dksX4_unlost_1 0 rfl rfl)
theorem dX4_unlost_26 : decode cX4_unlost 26 = .ok (.ifCond .ne 7, 3) := dk_154 0 7 (dk_at dksX4_unlost_1 3 rfl rfl)
theorem dX4_unlost_29 : decode cX4_unlost 29 = .ok (.iconst 1, 1) := dk_4 (dk_at dksX4_unlost_1 6 rfl rfl)
theorem dX4_unlost_30 : decode cX4_unlost 30 = .ok (.goto 4, 3) := dk_167 0 4 (dk_at dksX4_unlost_1 7 rfl rfl)
theorem dX4_unlost_33 : decode cX4_unlost 33 = .ok (.iconst 0, 1) := dk_3 (dk_at dksX4_unlost_1 10 rfl rfl)
theorem dX4_unlost_34 : decode cX4_unlost 34 = .ok (.iadd, 1) := dk_96 (dk_at dksX4_unlost_1 11 rfl rfl)
theorem dX4_unlost_35 : decode cX4_unlost 35 = .ok (.istore_n 1, 1) := dk_60 (dk_at dksX4_unlost_1 12 rfl rfl)
theorem dX4_unlost_36 : decode cX4_unlost 36 = .ok (.iinc 2 1, 3) := dk_132 2 1 (dk_at dksX4_unlost_1 13 rfl rfl)
theorem dX4_unlost_39 : decode cX4_unlost 39 = .ok (.goto (-35), 3) := dk_167 255 221 (dk_at dksX4_unlost_1 16 rfl rfl)
theorem dX4_unlost_42 : decode cX4_unlost 42 = .ok (.iload_n 1, 1) := dk_27 (dk_at dksX4_unlost_1 19 rfl rfl)
theorem dX4_unlost_43 : decode cX4_unlost 43 = .ok (.ireturn, 1) := dk_172 (dk_at dksX4_unlost_1 20 rfl rfl)
abbrev cX4_before : ByteArray := prog_16_method_83_code
def yX4_before : MethodName := ⟨RX4, "before", "(II)I"⟩
def dkwX4_before_1 : List UInt8 := [16, 44, 46, 182, 1, 64, 42, 16, 6, 27, 104, 28, 96, 182, 1, 91, 172]
abbrev dktX4_before_1 : List UInt8 := dkwX4_before_1 ++ []
def dkwX4_before_0 : List UInt8 := [42, 3, 181, 0, 1, 42, 27, 28, 182, 1, 88, 62, 29, 153, 0, 5, 29, 172, 42, 42, 180, 0, 13]
abbrev dktX4_before_0 : List UInt8 := dkwX4_before_0 ++ dktX4_before_1
theorem dksX4_before_0 : cX4_before.data.toList.drop 0 = dktX4_before_0 := by decide +kernel
theorem dksX4_before_1 : cX4_before.data.toList.drop 23 = dktX4_before_1 := dk_seg dksX4_before_0 23 rfl rfl
theorem dX4_before_0 : decode cX4_before 0 = .ok (.aload_n 0, 1) := dk_42 (dk_at dksX4_before_0 0 rfl rfl)
theorem dX4_before_1 : decode cX4_before 1 = .ok (.iconst 0, 1) := dk_3 (dk_at dksX4_before_0 1 rfl rfl)
theorem dX4_before_2 : decode cX4_before 2 = .ok (.putfield 1, 3) := dk_181 0 1 (dk_at dksX4_before_0 2 rfl rfl)
theorem dX4_before_5 : decode cX4_before 5 = .ok (.aload_n 0, 1) := dk_42 (dk_at dksX4_before_0 5 rfl rfl)
theorem dX4_before_6 : decode cX4_before 6 = .ok (.iload_n 1, 1) := dk_27 (dk_at dksX4_before_0 6 rfl rfl)
theorem dX4_before_7 : decode cX4_before 7 = .ok (.iload_n 2, 1) := dk_28 (dk_at dksX4_before_0 7 rfl rfl)
theorem dX4_before_8 : decode cX4_before 8 = .ok (.invokevirtual 344, 3) := dk_182 1 88 (dk_at dksX4_before_0 8 rfl rfl)
theorem dX4_before_11 : decode cX4_before 11 = .ok (.istore_n 3, 1) := dk_62 (dk_at dksX4_before_0 11 rfl rfl)
theorem dX4_before_12 : decode cX4_before 12 = .ok (.iload_n 3, 1) := dk_29 (dk_at dksX4_before_0 12 rfl rfl)
theorem dX4_before_13 : decode cX4_before 13 = .ok (.ifCond .eq 5, 3) := dk_153 0 5 (dk_at dksX4_before_0 13 rfl rfl)
theorem dX4_before_16 : decode cX4_before 16 = .ok (.iload_n 3, 1) := dk_29 (dk_at dksX4_before_0 16 rfl rfl)
theorem dX4_before_17 : decode cX4_before 17 = .ok (.ireturn, 1) := dk_172 (dk_at dksX4_before_0 17 rfl rfl)
theorem dX4_before_18 : decode cX4_before 18 = .ok (.aload_n 0, 1) := dk_42 (dk_at dksX4_before_0 18 rfl rfl)
theorem dX4_before_19 : decode cX4_before 19 = .ok (.aload_n 0, 1) := dk_42 (dk_at dksX4_before_0 19 rfl rfl)
theorem dX4_before_20 : decode cX4_before 20 = .ok (.getfield 13, 3) := dk_180 0 13 (dk_at dksX4_before_0 20 rfl rfl)
theorem dX4_before_23 : decode cX4_before 23 = .ok (.bipush 44, 2) := dk_16 44 (dk_at dksX4_before_1 0 rfl rfl)
theorem dX4_before_25 : decode cX4_before 25 = .ok (.iaload, 1) := dk_46 (dk_at dksX4_before_1 2 rfl rfl)
theorem dX4_before_26 : decode cX4_before 26 = .ok (.invokevirtual 320, 3) := dk_182 1 64 (dk_at dksX4_before_1 3 rfl rfl)
theorem dX4_before_29 : decode cX4_before 29 = .ok (.aload_n 0, 1) := dk_42 (dk_at dksX4_before_1 6 rfl rfl)
theorem dX4_before_30 : decode cX4_before 30 = .ok (.bipush 6, 2) := dk_16 6 (dk_at dksX4_before_1 7 rfl rfl)
theorem dX4_before_32 : decode cX4_before 32 = .ok (.iload_n 1, 1) := dk_27 (dk_at dksX4_before_1 9 rfl rfl)
theorem dX4_before_33 : decode cX4_before 33 = .ok (.imul, 1) := dk_104 (dk_at dksX4_before_1 10 rfl rfl)
theorem dX4_before_34 : decode cX4_before 34 = .ok (.iload_n 2, 1) := dk_28 (dk_at dksX4_before_1 11 rfl rfl)
theorem dX4_before_35 : decode cX4_before 35 = .ok (.iadd, 1) := dk_96 (dk_at dksX4_before_1 12 rfl rfl)
theorem dX4_before_36 : decode cX4_before 36 = .ok (.invokevirtual 347, 3) := dk_182 1 91 (dk_at dksX4_before_1 13 rfl rfl)
theorem dX4_before_39 : decode cX4_before 39 = .ok (.ireturn, 1) := dk_172 (dk_at dksX4_before_1 16 rfl rfl)
abbrev cX4_noStand : ByteArray := prog_16_method_82_code
def yX4_noStand : MethodName := ⟨RX4, "noStand", "(II)I"⟩
def dkwX4_noStand_1 : List UInt8 := [167, 0, 5, 16, 253, 172]
abbrev dktX4_noStand_1 : List UInt8 := dkwX4_noStand_1 ++ []
def dkwX4_noStand_0 : List UInt8 := [42, 27, 133, 182, 1, 5, 154, 0, 8, 16, 254, 167, 0, 17, 28, 133, 184, 1, 8, 153, 0, 7, 3]
abbrev dktX4_noStand_0 : List UInt8 := dkwX4_noStand_0 ++ dktX4_noStand_1
theorem dksX4_noStand_0 : cX4_noStand.data.toList.drop 0 = dktX4_noStand_0 := by decide +kernel
theorem dksX4_noStand_1 : cX4_noStand.data.toList.drop 23 = dktX4_noStand_1 := dk_seg dksX4_noStand_0 23 rfl rfl
theorem dX4_noStand_0 : decode cX4_noStand 0 = .ok (.aload_n 0, 1) := dk_42 (dk_at dksX4_noStand_0 0 rfl rfl)
theorem dX4_noStand_1 : decode cX4_noStand 1 = .ok (.iload_n 1, 1) := dk_27 (dk_at dksX4_noStand_0 1 rfl rfl)
theorem dX4_noStand_2 : decode cX4_noStand 2 = .ok (.i2l, 1) := dk_133 (dk_at dksX4_noStand_0 2 rfl rfl)
theorem dX4_noStand_3 : decode cX4_noStand 3 = .ok (.invokevirtual 261, 3) := dk_182 1 5 (dk_at dksX4_noStand_0 3 rfl rfl)
theorem dX4_noStand_6 : decode cX4_noStand 6 = .ok (.ifCond .ne 8, 3) := dk_154 0 8 (dk_at dksX4_noStand_0 6 rfl rfl)
theorem dX4_noStand_9 : decode cX4_noStand 9 = .ok (.bipush (-2), 2) := dk_16 254 (dk_at dksX4_noStand_0 9 rfl rfl)
theorem dX4_noStand_11 : decode cX4_noStand 11 = .ok (.goto 17, 3) := dk_167 0 17 (dk_at dksX4_noStand_0 11 rfl rfl)
theorem dX4_noStand_14 : decode cX4_noStand 14 = .ok (.iload_n 2, 1) := dk_28 (dk_at dksX4_noStand_0 14 rfl rfl)
theorem dX4_noStand_15 : decode cX4_noStand 15 = .ok (.i2l, 1) := dk_133 (dk_at dksX4_noStand_0 15 rfl rfl)
theorem dX4_noStand_16 : decode cX4_noStand 16 = .ok (.invokestatic 264, 3) := dk_184 1 8 (dk_at dksX4_noStand_0 16 rfl rfl)
theorem dX4_noStand_19 : decode cX4_noStand 19 = .ok (.ifCond .eq 7, 3) := dk_153 0 7 (dk_at dksX4_noStand_0 19 rfl rfl)
theorem dX4_noStand_22 : decode cX4_noStand 22 = .ok (.iconst 0, 1) := dk_3 (dk_at dksX4_noStand_0 22 rfl rfl)
theorem dX4_noStand_23 : decode cX4_noStand 23 = .ok (.goto 5, 3) := dk_167 0 5 (dk_at dksX4_noStand_1 0 rfl rfl)
theorem dX4_noStand_26 : decode cX4_noStand 26 = .ok (.bipush (-3), 2) := dk_16 253 (dk_at dksX4_noStand_1 3 rfl rfl)
theorem dX4_noStand_28 : decode cX4_noStand 28 = .ok (.ireturn, 1) := dk_172 (dk_at dksX4_noStand_1 5 rfl rfl)
abbrev cX4_beforeOf : ByteArray := prog_16_method_81_code
def yX4_beforeOf : MethodName := ⟨RX4, "beforeOf", "(I)I"⟩
def dkwX4_beforeOf_3 : List UInt8 := [96, 61, 132, 3, 1, 167, 255, 187, 28, 172]
abbrev dktX4_beforeOf_3 : List UInt8 := dkwX4_beforeOf_3 ++ []
def dkwX4_beforeOf_2 : List UInt8 := [167, 0, 4, 3, 128, 54, 4, 132, 5, 1, 167, 255, 220, 28, 21, 4, 153, 0, 7, 4, 167, 0, 4, 3]
abbrev dktX4_beforeOf_2 : List UInt8 := dkwX4_beforeOf_2 ++ dktX4_beforeOf_3
def dkwX4_beforeOf_1 : List UInt8 := [162, 0, 35, 21, 4, 42, 180, 0, 39, 16, 8, 29, 104, 21, 5, 96, 46, 27, 160, 0, 7, 4]
abbrev dktX4_beforeOf_1 : List UInt8 := dkwX4_beforeOf_1 ++ dktX4_beforeOf_2
def dkwX4_beforeOf_0 : List UInt8 := [3, 61, 3, 62, 29, 42, 182, 1, 58, 162, 0, 67, 3, 54, 4, 3, 54, 5, 21, 5, 16, 8]
abbrev dktX4_beforeOf_0 : List UInt8 := dkwX4_beforeOf_0 ++ dktX4_beforeOf_1
theorem dksX4_beforeOf_0 : cX4_beforeOf.data.toList.drop 0 = dktX4_beforeOf_0 := by decide +kernel
theorem dksX4_beforeOf_1 : cX4_beforeOf.data.toList.drop 22 = dktX4_beforeOf_1 := dk_seg dksX4_beforeOf_0 22 rfl rfl
theorem dksX4_beforeOf_2 : cX4_beforeOf.data.toList.drop 44 = dktX4_beforeOf_2 := dk_seg dksX4_beforeOf_1 22 rfl rfl
theorem dksX4_beforeOf_3 : cX4_beforeOf.data.toList.drop 68 = dktX4_beforeOf_3 := dk_seg dksX4_beforeOf_2 24 rfl rfl
theorem dX4_beforeOf_0 : decode cX4_beforeOf 0 = .ok (.iconst 0, 1) := dk_3 (dk_at dksX4_beforeOf_0 0 rfl rfl)
theorem dX4_beforeOf_1 : decode cX4_beforeOf 1 = .ok (.istore_n 2, 1) := dk_61 (dk_at dksX4_beforeOf_0 1 rfl rfl)
theorem dX4_beforeOf_2 : decode cX4_beforeOf 2 = .ok (.iconst 0, 1) := dk_3 (dk_at dksX4_beforeOf_0 2 rfl rfl)
theorem dX4_beforeOf_3 : decode cX4_beforeOf 3 = .ok (.istore_n 3, 1) := dk_62 (dk_at dksX4_beforeOf_0 3 rfl rfl)
theorem dX4_beforeOf_4 : decode cX4_beforeOf 4 = .ok (.iload_n 3, 1) := dk_29 (dk_at dksX4_beforeOf_0 4 rfl rfl)
theorem dX4_beforeOf_5 : decode cX4_beforeOf 5 = .ok (.aload_n 0, 1) := dk_42 (dk_at dksX4_beforeOf_0 5 rfl rfl)
theorem dX4_beforeOf_6 : decode cX4_beforeOf 6 = .ok (.invokevirtual 314, 3) := dk_182 1 58 (dk_at dksX4_beforeOf_0 6 rfl rfl)
theorem dX4_beforeOf_9 : decode cX4_beforeOf 9 = .ok (.if_icmp .ge 67, 3) := dk_162 0 67 (dk_at dksX4_beforeOf_0 9 rfl rfl)
theorem dX4_beforeOf_12 : decode cX4_beforeOf 12 = .ok (.iconst 0, 1) := dk_3 (dk_at dksX4_beforeOf_0 12 rfl rfl)
theorem dX4_beforeOf_13 : decode cX4_beforeOf 13 = .ok (.istore 4, 2) := dk_54 4 (dk_at dksX4_beforeOf_0 13 rfl rfl)
theorem dX4_beforeOf_15 : decode cX4_beforeOf 15 = .ok (.iconst 0, 1) := dk_3 (dk_at dksX4_beforeOf_0 15 rfl rfl)
theorem dX4_beforeOf_16 : decode cX4_beforeOf 16 = .ok (.istore 5, 2) := dk_54 5 (dk_at dksX4_beforeOf_0 16 rfl rfl)
theorem dX4_beforeOf_18 : decode cX4_beforeOf 18 = .ok (.iload 5, 2) := dk_21 5 (dk_at dksX4_beforeOf_0 18 rfl rfl)
theorem dX4_beforeOf_20 : decode cX4_beforeOf 20 = .ok (.bipush 8, 2) := dk_16 8 (dk_at dksX4_beforeOf_0 20 rfl rfl)
theorem dX4_beforeOf_22 : decode cX4_beforeOf 22 = .ok (.if_icmp .ge 35, 3) := dk_162 0 35 (dk_at dksX4_beforeOf_1 0 rfl rfl)
theorem dX4_beforeOf_25 : decode cX4_beforeOf 25 = .ok (.iload 4, 2) := dk_21 4 (dk_at dksX4_beforeOf_1 3 rfl rfl)
theorem dX4_beforeOf_27 : decode cX4_beforeOf 27 = .ok (.aload_n 0, 1) := dk_42 (dk_at dksX4_beforeOf_1 5 rfl rfl)
theorem dX4_beforeOf_28 : decode cX4_beforeOf 28 = .ok (.getfield 39, 3) := dk_180 0 39 (dk_at dksX4_beforeOf_1 6 rfl rfl)
theorem dX4_beforeOf_31 : decode cX4_beforeOf 31 = .ok (.bipush 8, 2) := dk_16 8 (dk_at dksX4_beforeOf_1 9 rfl rfl)
theorem dX4_beforeOf_33 : decode cX4_beforeOf 33 = .ok (.iload_n 3, 1) := dk_29 (dk_at dksX4_beforeOf_1 11 rfl rfl)
theorem dX4_beforeOf_34 : decode cX4_beforeOf 34 = .ok (.imul, 1) := dk_104 (dk_at dksX4_beforeOf_1 12 rfl rfl)
theorem dX4_beforeOf_35 : decode cX4_beforeOf 35 = .ok (.iload 5, 2) := dk_21 5 (dk_at dksX4_beforeOf_1 13 rfl rfl)
theorem dX4_beforeOf_37 : decode cX4_beforeOf 37 = .ok (.iadd, 1) := dk_96 (dk_at dksX4_beforeOf_1 15 rfl rfl)
theorem dX4_beforeOf_38 : decode cX4_beforeOf 38 = .ok (.iaload, 1) := dk_46 (dk_at dksX4_beforeOf_1 16 rfl rfl)
theorem dX4_beforeOf_39 : decode cX4_beforeOf 39 = .ok (.iload_n 1, 1) := dk_27 (dk_at dksX4_beforeOf_1 17 rfl rfl)
theorem dX4_beforeOf_40 : decode cX4_beforeOf 40 = .ok (.if_icmp .ne 7, 3) := dk_160 0 7 (dk_at dksX4_beforeOf_1 18 rfl rfl)
theorem dX4_beforeOf_43 : decode cX4_beforeOf 43 = .ok (.iconst 1, 1) := dk_4 (dk_at dksX4_beforeOf_1 21 rfl rfl)
theorem dX4_beforeOf_44 : decode cX4_beforeOf 44 = .ok (.goto 4, 3) := dk_167 0 4 (dk_at dksX4_beforeOf_2 0 rfl rfl)
theorem dX4_beforeOf_47 : decode cX4_beforeOf 47 = .ok (.iconst 0, 1) := dk_3 (dk_at dksX4_beforeOf_2 3 rfl rfl)
theorem dX4_beforeOf_48 : decode cX4_beforeOf 48 = .ok (.ior, 1) := dk_128 (dk_at dksX4_beforeOf_2 4 rfl rfl)
theorem dX4_beforeOf_49 : decode cX4_beforeOf 49 = .ok (.istore 4, 2) := dk_54 4 (dk_at dksX4_beforeOf_2 5 rfl rfl)
theorem dX4_beforeOf_51 : decode cX4_beforeOf 51 = .ok (.iinc 5 1, 3) := dk_132 5 1 (dk_at dksX4_beforeOf_2 7 rfl rfl)
theorem dX4_beforeOf_54 : decode cX4_beforeOf 54 = .ok (.goto (-36), 3) := dk_167 255 220 (dk_at dksX4_beforeOf_2 10 rfl rfl)
theorem dX4_beforeOf_57 : decode cX4_beforeOf 57 = .ok (.iload_n 2, 1) := dk_28 (dk_at dksX4_beforeOf_2 13 rfl rfl)
theorem dX4_beforeOf_58 : decode cX4_beforeOf 58 = .ok (.iload 4, 2) := dk_21 4 (dk_at dksX4_beforeOf_2 14 rfl rfl)
theorem dX4_beforeOf_60 : decode cX4_beforeOf 60 = .ok (.ifCond .eq 7, 3) := dk_153 0 7 (dk_at dksX4_beforeOf_2 16 rfl rfl)
theorem dX4_beforeOf_63 : decode cX4_beforeOf 63 = .ok (.iconst 1, 1) := dk_4 (dk_at dksX4_beforeOf_2 19 rfl rfl)
theorem dX4_beforeOf_64 : decode cX4_beforeOf 64 = .ok (.goto 4, 3) := dk_167 0 4 (dk_at dksX4_beforeOf_2 20 rfl rfl)
theorem dX4_beforeOf_67 : decode cX4_beforeOf 67 = .ok (.iconst 0, 1) := dk_3 (dk_at dksX4_beforeOf_2 23 rfl rfl)
theorem dX4_beforeOf_68 : decode cX4_beforeOf 68 = .ok (.iadd, 1) := dk_96 (dk_at dksX4_beforeOf_3 0 rfl rfl)
theorem dX4_beforeOf_69 : decode cX4_beforeOf 69 = .ok (.istore_n 2, 1) := dk_61 (dk_at dksX4_beforeOf_3 1 rfl rfl)
theorem dX4_beforeOf_70 : decode cX4_beforeOf 70 = .ok (.iinc 3 1, 3) := dk_132 3 1 (dk_at dksX4_beforeOf_3 2 rfl rfl)
theorem dX4_beforeOf_73 : decode cX4_beforeOf 73 = .ok (.goto (-69), 3) := dk_167 255 187 (dk_at dksX4_beforeOf_3 5 rfl rfl)
theorem dX4_beforeOf_76 : decode cX4_beforeOf 76 = .ok (.iload_n 2, 1) := dk_28 (dk_at dksX4_beforeOf_3 8 rfl rfl)
theorem dX4_beforeOf_77 : decode cX4_beforeOf 77 = .ok (.ireturn, 1) := dk_172 (dk_at dksX4_beforeOf_3 9 rfl rfl)
abbrev cX4_ahead : ByteArray := prog_16_method_84_code
def yX4_ahead : MethodName := ⟨RX4, "ahead", "(II)I"⟩
def dkwX4_ahead_1 : List UInt8 := [16, 44, 46, 182, 1, 64, 42, 16, 6, 27, 104, 28, 96, 4, 182, 1, 81, 42, 182, 1, 85, 172]
abbrev dktX4_ahead_1 : List UInt8 := dkwX4_ahead_1 ++ []
def dkwX4_ahead_0 : List UInt8 := [42, 3, 181, 0, 1, 42, 27, 28, 182, 1, 88, 62, 29, 153, 0, 5, 29, 172, 42, 42, 180, 0, 13]
abbrev dktX4_ahead_0 : List UInt8 := dkwX4_ahead_0 ++ dktX4_ahead_1
theorem dksX4_ahead_0 : cX4_ahead.data.toList.drop 0 = dktX4_ahead_0 := by decide +kernel
theorem dksX4_ahead_1 : cX4_ahead.data.toList.drop 23 = dktX4_ahead_1 := dk_seg dksX4_ahead_0 23 rfl rfl
theorem dX4_ahead_0 : decode cX4_ahead 0 = .ok (.aload_n 0, 1) := dk_42 (dk_at dksX4_ahead_0 0 rfl rfl)
theorem dX4_ahead_1 : decode cX4_ahead 1 = .ok (.iconst 0, 1) := dk_3 (dk_at dksX4_ahead_0 1 rfl rfl)
theorem dX4_ahead_2 : decode cX4_ahead 2 = .ok (.putfield 1, 3) := dk_181 0 1 (dk_at dksX4_ahead_0 2 rfl rfl)
theorem dX4_ahead_5 : decode cX4_ahead 5 = .ok (.aload_n 0, 1) := dk_42 (dk_at dksX4_ahead_0 5 rfl rfl)
theorem dX4_ahead_6 : decode cX4_ahead 6 = .ok (.iload_n 1, 1) := dk_27 (dk_at dksX4_ahead_0 6 rfl rfl)
theorem dX4_ahead_7 : decode cX4_ahead 7 = .ok (.iload_n 2, 1) := dk_28 (dk_at dksX4_ahead_0 7 rfl rfl)
theorem dX4_ahead_8 : decode cX4_ahead 8 = .ok (.invokevirtual 344, 3) := dk_182 1 88 (dk_at dksX4_ahead_0 8 rfl rfl)
theorem dX4_ahead_11 : decode cX4_ahead 11 = .ok (.istore_n 3, 1) := dk_62 (dk_at dksX4_ahead_0 11 rfl rfl)
theorem dX4_ahead_12 : decode cX4_ahead 12 = .ok (.iload_n 3, 1) := dk_29 (dk_at dksX4_ahead_0 12 rfl rfl)
theorem dX4_ahead_13 : decode cX4_ahead 13 = .ok (.ifCond .eq 5, 3) := dk_153 0 5 (dk_at dksX4_ahead_0 13 rfl rfl)
theorem dX4_ahead_16 : decode cX4_ahead 16 = .ok (.iload_n 3, 1) := dk_29 (dk_at dksX4_ahead_0 16 rfl rfl)
theorem dX4_ahead_17 : decode cX4_ahead 17 = .ok (.ireturn, 1) := dk_172 (dk_at dksX4_ahead_0 17 rfl rfl)
theorem dX4_ahead_18 : decode cX4_ahead 18 = .ok (.aload_n 0, 1) := dk_42 (dk_at dksX4_ahead_0 18 rfl rfl)
theorem dX4_ahead_19 : decode cX4_ahead 19 = .ok (.aload_n 0, 1) := dk_42 (dk_at dksX4_ahead_0 19 rfl rfl)
theorem dX4_ahead_20 : decode cX4_ahead 20 = .ok (.getfield 13, 3) := dk_180 0 13 (dk_at dksX4_ahead_0 20 rfl rfl)
theorem dX4_ahead_23 : decode cX4_ahead 23 = .ok (.bipush 44, 2) := dk_16 44 (dk_at dksX4_ahead_1 0 rfl rfl)
theorem dX4_ahead_25 : decode cX4_ahead 25 = .ok (.iaload, 1) := dk_46 (dk_at dksX4_ahead_1 2 rfl rfl)
theorem dX4_ahead_26 : decode cX4_ahead 26 = .ok (.invokevirtual 320, 3) := dk_182 1 64 (dk_at dksX4_ahead_1 3 rfl rfl)
theorem dX4_ahead_29 : decode cX4_ahead 29 = .ok (.aload_n 0, 1) := dk_42 (dk_at dksX4_ahead_1 6 rfl rfl)
theorem dX4_ahead_30 : decode cX4_ahead 30 = .ok (.bipush 6, 2) := dk_16 6 (dk_at dksX4_ahead_1 7 rfl rfl)
theorem dX4_ahead_32 : decode cX4_ahead 32 = .ok (.iload_n 1, 1) := dk_27 (dk_at dksX4_ahead_1 9 rfl rfl)
theorem dX4_ahead_33 : decode cX4_ahead 33 = .ok (.imul, 1) := dk_104 (dk_at dksX4_ahead_1 10 rfl rfl)
theorem dX4_ahead_34 : decode cX4_ahead 34 = .ok (.iload_n 2, 1) := dk_28 (dk_at dksX4_ahead_1 11 rfl rfl)
theorem dX4_ahead_35 : decode cX4_ahead 35 = .ok (.iadd, 1) := dk_96 (dk_at dksX4_ahead_1 12 rfl rfl)
theorem dX4_ahead_36 : decode cX4_ahead 36 = .ok (.iconst 1, 1) := dk_4 (dk_at dksX4_ahead_1 13 rfl rfl)
theorem dX4_ahead_37 : decode cX4_ahead 37 = .ok (.invokevirtual 337, 3) := dk_182 1 81 (dk_at dksX4_ahead_1 14 rfl rfl)
theorem dX4_ahead_40 : decode cX4_ahead 40 = .ok (.aload_n 0, 1) := dk_42 (dk_at dksX4_ahead_1 17 rfl rfl)
theorem dX4_ahead_41 : decode cX4_ahead 41 = .ok (.invokevirtual 341, 3) := dk_182 1 85 (dk_at dksX4_ahead_1 18 rfl rfl)
theorem dX4_ahead_44 : decode cX4_ahead 44 = .ok (.ireturn, 1) := dk_172 (dk_at dksX4_ahead_1 21 rfl rfl)
abbrev cX4_orphans : ByteArray := prog_16_method_86_code
def yX4_orphans : MethodName := ⟨RX4, "orphans", "()I"⟩
def dkwX4_orphans_0 : List UInt8 := [42, 3, 181, 0, 1, 42, 2, 182, 1, 94, 172]
abbrev dktX4_orphans_0 : List UInt8 := dkwX4_orphans_0 ++ []
theorem dksX4_orphans_0 : cX4_orphans.data.toList.drop 0 = dktX4_orphans_0 := by decide +kernel
theorem dX4_orphans_0 : decode cX4_orphans 0 = .ok (.aload_n 0, 1) := dk_42 (dk_at dksX4_orphans_0 0 rfl rfl)
theorem dX4_orphans_1 : decode cX4_orphans 1 = .ok (.iconst 0, 1) := dk_3 (dk_at dksX4_orphans_0 1 rfl rfl)
theorem dX4_orphans_2 : decode cX4_orphans 2 = .ok (.putfield 1, 3) := dk_181 0 1 (dk_at dksX4_orphans_0 2 rfl rfl)
theorem dX4_orphans_5 : decode cX4_orphans 5 = .ok (.aload_n 0, 1) := dk_42 (dk_at dksX4_orphans_0 5 rfl rfl)
theorem dX4_orphans_6 : decode cX4_orphans 6 = .ok (.iconst (-1), 1) := dk_2 (dk_at dksX4_orphans_0 6 rfl rfl)
theorem dX4_orphans_7 : decode cX4_orphans 7 = .ok (.invokevirtual 350, 3) := dk_182 1 94 (dk_at dksX4_orphans_0 7 rfl rfl)
theorem dX4_orphans_10 : decode cX4_orphans 10 = .ok (.ireturn, 1) := dk_172 (dk_at dksX4_orphans_0 10 rfl rfl)
abbrev cX4_orphanAt : ByteArray := prog_16_method_85_code
def yX4_orphanAt : MethodName := ⟨RX4, "orphanAt", "(I)I"⟩
def dkwX4_orphanAt_3 : List UInt8 := [28, 167, 0, 4, 2, 172]
abbrev dktX4_orphanAt_3 : List UInt8 := dkwX4_orphanAt_3 ++ []
def dkwX4_orphanAt_2 : List UInt8 := [29, 16, 6, 108, 104, 29, 16, 6, 112, 96, 172, 132, 2, 1, 132, 3, 1, 167, 255, 206, 27, 156, 0, 7]
abbrev dktX4_orphanAt_2 : List UInt8 := dkwX4_orphanAt_2 ++ dktX4_orphanAt_3
def dkwX4_orphanAt_1 : List UInt8 := [184, 0, 217, 154, 0, 35, 42, 29, 182, 1, 91, 158, 0, 6, 167, 0, 24, 28, 27, 160, 0, 16, 16, 10]
abbrev dktX4_orphanAt_1 : List UInt8 := dkwX4_orphanAt_1 ++ dktX4_orphanAt_2
def dkwX4_orphanAt_0 : List UInt8 := [42, 42, 180, 0, 13, 16, 44, 46, 182, 1, 64, 3, 61, 3, 62, 29, 42, 182, 1, 58, 162, 0, 48, 29]
abbrev dktX4_orphanAt_0 : List UInt8 := dkwX4_orphanAt_0 ++ dktX4_orphanAt_1
theorem dksX4_orphanAt_0 : cX4_orphanAt.data.toList.drop 0 = dktX4_orphanAt_0 := by decide +kernel
theorem dksX4_orphanAt_1 : cX4_orphanAt.data.toList.drop 24 = dktX4_orphanAt_1 := dk_seg dksX4_orphanAt_0 24 rfl rfl
theorem dksX4_orphanAt_2 : cX4_orphanAt.data.toList.drop 48 = dktX4_orphanAt_2 := dk_seg dksX4_orphanAt_1 24 rfl rfl
theorem dksX4_orphanAt_3 : cX4_orphanAt.data.toList.drop 72 = dktX4_orphanAt_3 := dk_seg dksX4_orphanAt_2 24 rfl rfl
theorem dX4_orphanAt_0 : decode cX4_orphanAt 0 = .ok (.aload_n 0, 1) := dk_42 (dk_at dksX4_orphanAt_0 0 rfl rfl)
theorem dX4_orphanAt_1 : decode cX4_orphanAt 1 = .ok (.aload_n 0, 1) := dk_42 (dk_at dksX4_orphanAt_0 1 rfl rfl)
theorem dX4_orphanAt_2 : decode cX4_orphanAt 2 = .ok (.getfield 13, 3) := dk_180 0 13 (dk_at dksX4_orphanAt_0 2 rfl rfl)
theorem dX4_orphanAt_5 : decode cX4_orphanAt 5 = .ok (.bipush 44, 2) := dk_16 44 (dk_at dksX4_orphanAt_0 5 rfl rfl)
theorem dX4_orphanAt_7 : decode cX4_orphanAt 7 = .ok (.iaload, 1) := dk_46 (dk_at dksX4_orphanAt_0 7 rfl rfl)
theorem dX4_orphanAt_8 : decode cX4_orphanAt 8 = .ok (.invokevirtual 320, 3) := dk_182 1 64 (dk_at dksX4_orphanAt_0 8 rfl rfl)
theorem dX4_orphanAt_11 : decode cX4_orphanAt 11 = .ok (.iconst 0, 1) := dk_3 (dk_at dksX4_orphanAt_0 11 rfl rfl)
theorem dX4_orphanAt_12 : decode cX4_orphanAt 12 = .ok (.istore_n 2, 1) := dk_61 (dk_at dksX4_orphanAt_0 12 rfl rfl)
theorem dX4_orphanAt_13 : decode cX4_orphanAt 13 = .ok (.iconst 0, 1) := dk_3 (dk_at dksX4_orphanAt_0 13 rfl rfl)
theorem dX4_orphanAt_14 : decode cX4_orphanAt 14 = .ok (.istore_n 3, 1) := dk_62 (dk_at dksX4_orphanAt_0 14 rfl rfl)
theorem dX4_orphanAt_15 : decode cX4_orphanAt 15 = .ok (.iload_n 3, 1) := dk_29 (dk_at dksX4_orphanAt_0 15 rfl rfl)
theorem dX4_orphanAt_16 : decode cX4_orphanAt 16 = .ok (.aload_n 0, 1) := dk_42 (dk_at dksX4_orphanAt_0 16 rfl rfl)
theorem dX4_orphanAt_17 : decode cX4_orphanAt 17 = .ok (.invokevirtual 314, 3) := dk_182 1 58 (dk_at dksX4_orphanAt_0 17 rfl rfl)
theorem dX4_orphanAt_20 : decode cX4_orphanAt 20 = .ok (.if_icmp .ge 48, 3) := dk_162 0 48 (dk_at dksX4_orphanAt_0 20 rfl rfl)
theorem dX4_orphanAt_23 : decode cX4_orphanAt 23 = .ok (.iload_n 3, 1) := dk_29 (dk_at dksX4_orphanAt_0 23 rfl rfl)
theorem dX4_orphanAt_24 : decode cX4_orphanAt 24 = .ok (.invokestatic 217, 3) := dk_184 0 217 (dk_at dksX4_orphanAt_1 0 rfl rfl)
theorem dX4_orphanAt_27 : decode cX4_orphanAt 27 = .ok (.ifCond .ne 35, 3) := dk_154 0 35 (dk_at dksX4_orphanAt_1 3 rfl rfl)
theorem dX4_orphanAt_30 : decode cX4_orphanAt 30 = .ok (.aload_n 0, 1) := dk_42 (dk_at dksX4_orphanAt_1 6 rfl rfl)
theorem dX4_orphanAt_31 : decode cX4_orphanAt 31 = .ok (.iload_n 3, 1) := dk_29 (dk_at dksX4_orphanAt_1 7 rfl rfl)
theorem dX4_orphanAt_32 : decode cX4_orphanAt 32 = .ok (.invokevirtual 347, 3) := dk_182 1 91 (dk_at dksX4_orphanAt_1 8 rfl rfl)
theorem dX4_orphanAt_35 : decode cX4_orphanAt 35 = .ok (.ifCond .le 6, 3) := dk_158 0 6 (dk_at dksX4_orphanAt_1 11 rfl rfl)
theorem dX4_orphanAt_38 : decode cX4_orphanAt 38 = .ok (.goto 24, 3) := dk_167 0 24 (dk_at dksX4_orphanAt_1 14 rfl rfl)
theorem dX4_orphanAt_41 : decode cX4_orphanAt 41 = .ok (.iload_n 2, 1) := dk_28 (dk_at dksX4_orphanAt_1 17 rfl rfl)
theorem dX4_orphanAt_42 : decode cX4_orphanAt 42 = .ok (.iload_n 1, 1) := dk_27 (dk_at dksX4_orphanAt_1 18 rfl rfl)
theorem dX4_orphanAt_43 : decode cX4_orphanAt 43 = .ok (.if_icmp .ne 16, 3) := dk_160 0 16 (dk_at dksX4_orphanAt_1 19 rfl rfl)
theorem dX4_orphanAt_46 : decode cX4_orphanAt 46 = .ok (.bipush 10, 2) := dk_16 10 (dk_at dksX4_orphanAt_1 22 rfl rfl)
theorem dX4_orphanAt_48 : decode cX4_orphanAt 48 = .ok (.iload_n 3, 1) := dk_29 (dk_at dksX4_orphanAt_2 0 rfl rfl)
theorem dX4_orphanAt_49 : decode cX4_orphanAt 49 = .ok (.bipush 6, 2) := dk_16 6 (dk_at dksX4_orphanAt_2 1 rfl rfl)
theorem dX4_orphanAt_51 : decode cX4_orphanAt 51 = .ok (.idiv, 1) := dk_108 (dk_at dksX4_orphanAt_2 3 rfl rfl)
theorem dX4_orphanAt_52 : decode cX4_orphanAt 52 = .ok (.imul, 1) := dk_104 (dk_at dksX4_orphanAt_2 4 rfl rfl)
theorem dX4_orphanAt_53 : decode cX4_orphanAt 53 = .ok (.iload_n 3, 1) := dk_29 (dk_at dksX4_orphanAt_2 5 rfl rfl)
theorem dX4_orphanAt_54 : decode cX4_orphanAt 54 = .ok (.bipush 6, 2) := dk_16 6 (dk_at dksX4_orphanAt_2 6 rfl rfl)
theorem dX4_orphanAt_56 : decode cX4_orphanAt 56 = .ok (.irem, 1) := dk_112 (dk_at dksX4_orphanAt_2 8 rfl rfl)
theorem dX4_orphanAt_57 : decode cX4_orphanAt 57 = .ok (.iadd, 1) := dk_96 (dk_at dksX4_orphanAt_2 9 rfl rfl)
theorem dX4_orphanAt_58 : decode cX4_orphanAt 58 = .ok (.ireturn, 1) := dk_172 (dk_at dksX4_orphanAt_2 10 rfl rfl)
theorem dX4_orphanAt_59 : decode cX4_orphanAt 59 = .ok (.iinc 2 1, 3) := dk_132 2 1 (dk_at dksX4_orphanAt_2 11 rfl rfl)
theorem dX4_orphanAt_62 : decode cX4_orphanAt 62 = .ok (.iinc 3 1, 3) := dk_132 3 1 (dk_at dksX4_orphanAt_2 14 rfl rfl)
theorem dX4_orphanAt_65 : decode cX4_orphanAt 65 = .ok (.goto (-50), 3) := dk_167 255 206 (dk_at dksX4_orphanAt_2 17 rfl rfl)
theorem dX4_orphanAt_68 : decode cX4_orphanAt 68 = .ok (.iload_n 1, 1) := dk_27 (dk_at dksX4_orphanAt_2 20 rfl rfl)
theorem dX4_orphanAt_69 : decode cX4_orphanAt 69 = .ok (.ifCond .ge 7, 3) := dk_156 0 7 (dk_at dksX4_orphanAt_2 21 rfl rfl)
theorem dX4_orphanAt_72 : decode cX4_orphanAt 72 = .ok (.iload_n 2, 1) := dk_28 (dk_at dksX4_orphanAt_3 0 rfl rfl)
theorem dX4_orphanAt_73 : decode cX4_orphanAt 73 = .ok (.goto 4, 3) := dk_167 0 4 (dk_at dksX4_orphanAt_3 1 rfl rfl)
theorem dX4_orphanAt_76 : decode cX4_orphanAt 76 = .ok (.iconst (-1), 1) := dk_2 (dk_at dksX4_orphanAt_3 4 rfl rfl)
theorem dX4_orphanAt_77 : decode cX4_orphanAt 77 = .ok (.ireturn, 1) := dk_172 (dk_at dksX4_orphanAt_3 5 rfl rfl)
abbrev cX4_orphan : ByteArray := prog_16_method_87_code
def yX4_orphan : MethodName := ⟨RX4, "orphan", "(I)I"⟩
def dkwX4_orphan_0 : List UInt8 := [42, 3, 181, 0, 1, 27, 156, 0, 8, 16, 253, 167, 0, 8, 42, 27, 182, 1, 94, 172]
abbrev dktX4_orphan_0 : List UInt8 := dkwX4_orphan_0 ++ []
theorem dksX4_orphan_0 : cX4_orphan.data.toList.drop 0 = dktX4_orphan_0 := by decide +kernel
theorem dX4_orphan_0 : decode cX4_orphan 0 = .ok (.aload_n 0, 1) := dk_42 (dk_at dksX4_orphan_0 0 rfl rfl)
theorem dX4_orphan_1 : decode cX4_orphan 1 = .ok (.iconst 0, 1) := dk_3 (dk_at dksX4_orphan_0 1 rfl rfl)
theorem dX4_orphan_2 : decode cX4_orphan 2 = .ok (.putfield 1, 3) := dk_181 0 1 (dk_at dksX4_orphan_0 2 rfl rfl)
theorem dX4_orphan_5 : decode cX4_orphan 5 = .ok (.iload_n 1, 1) := dk_27 (dk_at dksX4_orphan_0 5 rfl rfl)
theorem dX4_orphan_6 : decode cX4_orphan 6 = .ok (.ifCond .ge 8, 3) := dk_156 0 8 (dk_at dksX4_orphan_0 6 rfl rfl)
theorem dX4_orphan_9 : decode cX4_orphan 9 = .ok (.bipush (-3), 2) := dk_16 253 (dk_at dksX4_orphan_0 9 rfl rfl)
theorem dX4_orphan_11 : decode cX4_orphan 11 = .ok (.goto 8, 3) := dk_167 0 8 (dk_at dksX4_orphan_0 11 rfl rfl)
theorem dX4_orphan_14 : decode cX4_orphan 14 = .ok (.aload_n 0, 1) := dk_42 (dk_at dksX4_orphan_0 14 rfl rfl)
theorem dX4_orphan_15 : decode cX4_orphan 15 = .ok (.iload_n 1, 1) := dk_27 (dk_at dksX4_orphan_0 15 rfl rfl)
theorem dX4_orphan_16 : decode cX4_orphan 16 = .ok (.invokevirtual 350, 3) := dk_182 1 94 (dk_at dksX4_orphan_0 16 rfl rfl)
theorem dX4_orphan_19 : decode cX4_orphan 19 = .ok (.ireturn, 1) := dk_172 (dk_at dksX4_orphan_0 19 rfl rfl)
abbrev cX4_ring : ByteArray := prog_16_method_88_code
def yX4_ring : MethodName := ⟨RX4, "ring", "(II)I"⟩
def dkwX4_ring_6 : List UInt8 := [167, 0, 5, 21, 5, 172]
abbrev dktX4_ring_6 : List UInt8 := dkwX4_ring_6 ++ []
def dkwX4_ring_5 : List UInt8 := [167, 0, 5, 21, 5, 54, 5, 132, 6, 1, 167, 255, 218, 21, 5, 19, 1, 57, 160, 0, 7, 2]
abbrev dktX4_ring_5 : List UInt8 := dkwX4_ring_5 ++ dktX4_ring_6
def dkwX4_ring_4 : List UInt8 := [162, 0, 37, 42, 21, 4, 21, 6, 182, 1, 61, 21, 5, 162, 0, 14, 42, 21, 4, 21, 6, 182, 1, 61]
abbrev dktX4_ring_4 : List UInt8 := dkwX4_ring_4 ++ dktX4_ring_5
def dkwX4_ring_3 : List UInt8 := [132, 5, 1, 167, 255, 223, 42, 182, 1, 67, 19, 1, 57, 54, 5, 3, 54, 6, 21, 6, 16, 8]
abbrev dktX4_ring_3 : List UInt8 := dkwX4_ring_3 ++ dktX4_ring_4
def dkwX4_ring_2 : List UInt8 := [162, 0, 30, 42, 180, 0, 42, 21, 5, 21, 5, 21, 4, 160, 0, 7, 3, 167, 0, 6, 19, 1, 57, 79]
abbrev dktX4_ring_2 : List UInt8 := dkwX4_ring_2 ++ dktX4_ring_3
def dkwX4_ring_1 : List UInt8 := [54, 4, 42, 42, 180, 0, 13, 16, 44, 46, 182, 1, 64, 3, 54, 5, 21, 5, 42, 182, 1, 58]
abbrev dktX4_ring_1 : List UInt8 := dkwX4_ring_1 ++ dktX4_ring_2
def dkwX4_ring_0 : List UInt8 := [42, 3, 181, 0, 1, 42, 27, 28, 182, 1, 72, 62, 29, 153, 0, 5, 29, 172, 16, 6, 27, 104, 28, 96]
abbrev dktX4_ring_0 : List UInt8 := dkwX4_ring_0 ++ dktX4_ring_1
theorem dksX4_ring_0 : cX4_ring.data.toList.drop 0 = dktX4_ring_0 := by decide +kernel
theorem dksX4_ring_1 : cX4_ring.data.toList.drop 24 = dktX4_ring_1 := dk_seg dksX4_ring_0 24 rfl rfl
theorem dksX4_ring_2 : cX4_ring.data.toList.drop 46 = dktX4_ring_2 := dk_seg dksX4_ring_1 22 rfl rfl
theorem dksX4_ring_3 : cX4_ring.data.toList.drop 70 = dktX4_ring_3 := dk_seg dksX4_ring_2 24 rfl rfl
theorem dksX4_ring_4 : cX4_ring.data.toList.drop 92 = dktX4_ring_4 := dk_seg dksX4_ring_3 22 rfl rfl
theorem dksX4_ring_5 : cX4_ring.data.toList.drop 116 = dktX4_ring_5 := dk_seg dksX4_ring_4 24 rfl rfl
theorem dksX4_ring_6 : cX4_ring.data.toList.drop 138 = dktX4_ring_6 := dk_seg dksX4_ring_5 22 rfl rfl
theorem dX4_ring_0 : decode cX4_ring 0 = .ok (.aload_n 0, 1) := dk_42 (dk_at dksX4_ring_0 0 rfl rfl)
theorem dX4_ring_1 : decode cX4_ring 1 = .ok (.iconst 0, 1) := dk_3 (dk_at dksX4_ring_0 1 rfl rfl)
theorem dX4_ring_2 : decode cX4_ring 2 = .ok (.putfield 1, 3) := dk_181 0 1 (dk_at dksX4_ring_0 2 rfl rfl)
theorem dX4_ring_5 : decode cX4_ring 5 = .ok (.aload_n 0, 1) := dk_42 (dk_at dksX4_ring_0 5 rfl rfl)
theorem dX4_ring_6 : decode cX4_ring 6 = .ok (.iload_n 1, 1) := dk_27 (dk_at dksX4_ring_0 6 rfl rfl)
theorem dX4_ring_7 : decode cX4_ring 7 = .ok (.iload_n 2, 1) := dk_28 (dk_at dksX4_ring_0 7 rfl rfl)
theorem dX4_ring_8 : decode cX4_ring 8 = .ok (.invokevirtual 328, 3) := dk_182 1 72 (dk_at dksX4_ring_0 8 rfl rfl)
theorem dX4_ring_11 : decode cX4_ring 11 = .ok (.istore_n 3, 1) := dk_62 (dk_at dksX4_ring_0 11 rfl rfl)
theorem dX4_ring_12 : decode cX4_ring 12 = .ok (.iload_n 3, 1) := dk_29 (dk_at dksX4_ring_0 12 rfl rfl)
theorem dX4_ring_13 : decode cX4_ring 13 = .ok (.ifCond .eq 5, 3) := dk_153 0 5 (dk_at dksX4_ring_0 13 rfl rfl)
theorem dX4_ring_16 : decode cX4_ring 16 = .ok (.iload_n 3, 1) := dk_29 (dk_at dksX4_ring_0 16 rfl rfl)
theorem dX4_ring_17 : decode cX4_ring 17 = .ok (.ireturn, 1) := dk_172 (dk_at dksX4_ring_0 17 rfl rfl)
theorem dX4_ring_18 : decode cX4_ring 18 = .ok (.bipush 6, 2) := dk_16 6 (dk_at dksX4_ring_0 18 rfl rfl)
theorem dX4_ring_20 : decode cX4_ring 20 = .ok (.iload_n 1, 1) := dk_27 (dk_at dksX4_ring_0 20 rfl rfl)
theorem dX4_ring_21 : decode cX4_ring 21 = .ok (.imul, 1) := dk_104 (dk_at dksX4_ring_0 21 rfl rfl)
theorem dX4_ring_22 : decode cX4_ring 22 = .ok (.iload_n 2, 1) := dk_28 (dk_at dksX4_ring_0 22 rfl rfl)
theorem dX4_ring_23 : decode cX4_ring 23 = .ok (.iadd, 1) := dk_96 (dk_at dksX4_ring_0 23 rfl rfl)
theorem dX4_ring_24 : decode cX4_ring 24 = .ok (.istore 4, 2) := dk_54 4 (dk_at dksX4_ring_1 0 rfl rfl)
theorem dX4_ring_26 : decode cX4_ring 26 = .ok (.aload_n 0, 1) := dk_42 (dk_at dksX4_ring_1 2 rfl rfl)
theorem dX4_ring_27 : decode cX4_ring 27 = .ok (.aload_n 0, 1) := dk_42 (dk_at dksX4_ring_1 3 rfl rfl)
theorem dX4_ring_28 : decode cX4_ring 28 = .ok (.getfield 13, 3) := dk_180 0 13 (dk_at dksX4_ring_1 4 rfl rfl)
theorem dX4_ring_31 : decode cX4_ring 31 = .ok (.bipush 44, 2) := dk_16 44 (dk_at dksX4_ring_1 7 rfl rfl)
theorem dX4_ring_33 : decode cX4_ring 33 = .ok (.iaload, 1) := dk_46 (dk_at dksX4_ring_1 9 rfl rfl)
theorem dX4_ring_34 : decode cX4_ring 34 = .ok (.invokevirtual 320, 3) := dk_182 1 64 (dk_at dksX4_ring_1 10 rfl rfl)
theorem dX4_ring_37 : decode cX4_ring 37 = .ok (.iconst 0, 1) := dk_3 (dk_at dksX4_ring_1 13 rfl rfl)
theorem dX4_ring_38 : decode cX4_ring 38 = .ok (.istore 5, 2) := dk_54 5 (dk_at dksX4_ring_1 14 rfl rfl)
theorem dX4_ring_40 : decode cX4_ring 40 = .ok (.iload 5, 2) := dk_21 5 (dk_at dksX4_ring_1 16 rfl rfl)
theorem dX4_ring_42 : decode cX4_ring 42 = .ok (.aload_n 0, 1) := dk_42 (dk_at dksX4_ring_1 18 rfl rfl)
theorem dX4_ring_43 : decode cX4_ring 43 = .ok (.invokevirtual 314, 3) := dk_182 1 58 (dk_at dksX4_ring_1 19 rfl rfl)
theorem dX4_ring_46 : decode cX4_ring 46 = .ok (.if_icmp .ge 30, 3) := dk_162 0 30 (dk_at dksX4_ring_2 0 rfl rfl)
theorem dX4_ring_49 : decode cX4_ring 49 = .ok (.aload_n 0, 1) := dk_42 (dk_at dksX4_ring_2 3 rfl rfl)
theorem dX4_ring_50 : decode cX4_ring 50 = .ok (.getfield 42, 3) := dk_180 0 42 (dk_at dksX4_ring_2 4 rfl rfl)
theorem dX4_ring_53 : decode cX4_ring 53 = .ok (.iload 5, 2) := dk_21 5 (dk_at dksX4_ring_2 7 rfl rfl)
theorem dX4_ring_55 : decode cX4_ring 55 = .ok (.iload 5, 2) := dk_21 5 (dk_at dksX4_ring_2 9 rfl rfl)
theorem dX4_ring_57 : decode cX4_ring 57 = .ok (.iload 4, 2) := dk_21 4 (dk_at dksX4_ring_2 11 rfl rfl)
theorem dX4_ring_59 : decode cX4_ring 59 = .ok (.if_icmp .ne 7, 3) := dk_160 0 7 (dk_at dksX4_ring_2 13 rfl rfl)
theorem dX4_ring_62 : decode cX4_ring 62 = .ok (.iconst 0, 1) := dk_3 (dk_at dksX4_ring_2 16 rfl rfl)
theorem dX4_ring_63 : decode cX4_ring 63 = .ok (.goto 6, 3) := dk_167 0 6 (dk_at dksX4_ring_2 17 rfl rfl)
theorem dX4_ring_66 : decode cX4_ring 66 = .ok (.ldc_w 313, 3) := dk_19 1 57 (dk_at dksX4_ring_2 20 rfl rfl)
theorem dX4_ring_69 : decode cX4_ring 69 = .ok (.iastore, 1) := dk_79 (dk_at dksX4_ring_2 23 rfl rfl)
theorem dX4_ring_70 : decode cX4_ring 70 = .ok (.iinc 5 1, 3) := dk_132 5 1 (dk_at dksX4_ring_3 0 rfl rfl)
theorem dX4_ring_73 : decode cX4_ring 73 = .ok (.goto (-33), 3) := dk_167 255 223 (dk_at dksX4_ring_3 3 rfl rfl)
theorem dX4_ring_76 : decode cX4_ring 76 = .ok (.aload_n 0, 1) := dk_42 (dk_at dksX4_ring_3 6 rfl rfl)
theorem dX4_ring_77 : decode cX4_ring 77 = .ok (.invokevirtual 323, 3) := dk_182 1 67 (dk_at dksX4_ring_3 7 rfl rfl)
theorem dX4_ring_80 : decode cX4_ring 80 = .ok (.ldc_w 313, 3) := dk_19 1 57 (dk_at dksX4_ring_3 10 rfl rfl)
theorem dX4_ring_83 : decode cX4_ring 83 = .ok (.istore 5, 2) := dk_54 5 (dk_at dksX4_ring_3 13 rfl rfl)
theorem dX4_ring_85 : decode cX4_ring 85 = .ok (.iconst 0, 1) := dk_3 (dk_at dksX4_ring_3 15 rfl rfl)
theorem dX4_ring_86 : decode cX4_ring 86 = .ok (.istore 6, 2) := dk_54 6 (dk_at dksX4_ring_3 16 rfl rfl)
theorem dX4_ring_88 : decode cX4_ring 88 = .ok (.iload 6, 2) := dk_21 6 (dk_at dksX4_ring_3 18 rfl rfl)
theorem dX4_ring_90 : decode cX4_ring 90 = .ok (.bipush 8, 2) := dk_16 8 (dk_at dksX4_ring_3 20 rfl rfl)
theorem dX4_ring_92 : decode cX4_ring 92 = .ok (.if_icmp .ge 37, 3) := dk_162 0 37 (dk_at dksX4_ring_4 0 rfl rfl)
theorem dX4_ring_95 : decode cX4_ring 95 = .ok (.aload_n 0, 1) := dk_42 (dk_at dksX4_ring_4 3 rfl rfl)
theorem dX4_ring_96 : decode cX4_ring 96 = .ok (.iload 4, 2) := dk_21 4 (dk_at dksX4_ring_4 4 rfl rfl)
theorem dX4_ring_98 : decode cX4_ring 98 = .ok (.iload 6, 2) := dk_21 6 (dk_at dksX4_ring_4 6 rfl rfl)
theorem dX4_ring_100 : decode cX4_ring 100 = .ok (.invokevirtual 317, 3) := dk_182 1 61 (dk_at dksX4_ring_4 8 rfl rfl)
theorem dX4_ring_103 : decode cX4_ring 103 = .ok (.iload 5, 2) := dk_21 5 (dk_at dksX4_ring_4 11 rfl rfl)
theorem dX4_ring_105 : decode cX4_ring 105 = .ok (.if_icmp .ge 14, 3) := dk_162 0 14 (dk_at dksX4_ring_4 13 rfl rfl)
theorem dX4_ring_108 : decode cX4_ring 108 = .ok (.aload_n 0, 1) := dk_42 (dk_at dksX4_ring_4 16 rfl rfl)
theorem dX4_ring_109 : decode cX4_ring 109 = .ok (.iload 4, 2) := dk_21 4 (dk_at dksX4_ring_4 17 rfl rfl)
theorem dX4_ring_111 : decode cX4_ring 111 = .ok (.iload 6, 2) := dk_21 6 (dk_at dksX4_ring_4 19 rfl rfl)
theorem dX4_ring_113 : decode cX4_ring 113 = .ok (.invokevirtual 317, 3) := dk_182 1 61 (dk_at dksX4_ring_4 21 rfl rfl)
theorem dX4_ring_116 : decode cX4_ring 116 = .ok (.goto 5, 3) := dk_167 0 5 (dk_at dksX4_ring_5 0 rfl rfl)
theorem dX4_ring_119 : decode cX4_ring 119 = .ok (.iload 5, 2) := dk_21 5 (dk_at dksX4_ring_5 3 rfl rfl)
theorem dX4_ring_121 : decode cX4_ring 121 = .ok (.istore 5, 2) := dk_54 5 (dk_at dksX4_ring_5 5 rfl rfl)
theorem dX4_ring_123 : decode cX4_ring 123 = .ok (.iinc 6 1, 3) := dk_132 6 1 (dk_at dksX4_ring_5 7 rfl rfl)
theorem dX4_ring_126 : decode cX4_ring 126 = .ok (.goto (-38), 3) := dk_167 255 218 (dk_at dksX4_ring_5 10 rfl rfl)
theorem dX4_ring_129 : decode cX4_ring 129 = .ok (.iload 5, 2) := dk_21 5 (dk_at dksX4_ring_5 13 rfl rfl)
theorem dX4_ring_131 : decode cX4_ring 131 = .ok (.ldc_w 313, 3) := dk_19 1 57 (dk_at dksX4_ring_5 15 rfl rfl)
theorem dX4_ring_134 : decode cX4_ring 134 = .ok (.if_icmp .ne 7, 3) := dk_160 0 7 (dk_at dksX4_ring_5 18 rfl rfl)
theorem dX4_ring_137 : decode cX4_ring 137 = .ok (.iconst (-1), 1) := dk_2 (dk_at dksX4_ring_5 21 rfl rfl)
theorem dX4_ring_138 : decode cX4_ring 138 = .ok (.goto 5, 3) := dk_167 0 5 (dk_at dksX4_ring_6 0 rfl rfl)
theorem dX4_ring_141 : decode cX4_ring 141 = .ok (.iload 5, 2) := dk_21 5 (dk_at dksX4_ring_6 3 rfl rfl)
theorem dX4_ring_143 : decode cX4_ring 143 = .ok (.ireturn, 1) := dk_172 (dk_at dksX4_ring_6 5 rfl rfl)
abbrev cX4_found : ByteArray := prog_16_method_91_code
def yX4_found : MethodName := ⟨RX4, "found", "(III)J"⟩
def dkwX4_found_1 : List UInt8 := [167, 0, 11, 42, 27, 28, 29, 2, 182, 1, 100, 173]
abbrev dktX4_found_1 : List UInt8 := dkwX4_found_1 ++ []
def dkwX4_found_0 : List UInt8 := [42, 3, 181, 0, 1, 42, 27, 28, 29, 182, 1, 97, 54, 4, 21, 4, 153, 0, 9, 21, 4, 133]
abbrev dktX4_found_0 : List UInt8 := dkwX4_found_0 ++ dktX4_found_1
theorem dksX4_found_0 : cX4_found.data.toList.drop 0 = dktX4_found_0 := by decide +kernel
theorem dksX4_found_1 : cX4_found.data.toList.drop 22 = dktX4_found_1 := dk_seg dksX4_found_0 22 rfl rfl
theorem dX4_found_0 : decode cX4_found 0 = .ok (.aload_n 0, 1) := dk_42 (dk_at dksX4_found_0 0 rfl rfl)
theorem dX4_found_1 : decode cX4_found 1 = .ok (.iconst 0, 1) := dk_3 (dk_at dksX4_found_0 1 rfl rfl)
theorem dX4_found_2 : decode cX4_found 2 = .ok (.putfield 1, 3) := dk_181 0 1 (dk_at dksX4_found_0 2 rfl rfl)
theorem dX4_found_5 : decode cX4_found 5 = .ok (.aload_n 0, 1) := dk_42 (dk_at dksX4_found_0 5 rfl rfl)
theorem dX4_found_6 : decode cX4_found 6 = .ok (.iload_n 1, 1) := dk_27 (dk_at dksX4_found_0 6 rfl rfl)
theorem dX4_found_7 : decode cX4_found 7 = .ok (.iload_n 2, 1) := dk_28 (dk_at dksX4_found_0 7 rfl rfl)
theorem dX4_found_8 : decode cX4_found 8 = .ok (.iload_n 3, 1) := dk_29 (dk_at dksX4_found_0 8 rfl rfl)
theorem dX4_found_9 : decode cX4_found 9 = .ok (.invokevirtual 353, 3) := dk_182 1 97 (dk_at dksX4_found_0 9 rfl rfl)
theorem dX4_found_12 : decode cX4_found 12 = .ok (.istore 4, 2) := dk_54 4 (dk_at dksX4_found_0 12 rfl rfl)
theorem dX4_found_14 : decode cX4_found 14 = .ok (.iload 4, 2) := dk_21 4 (dk_at dksX4_found_0 14 rfl rfl)
theorem dX4_found_16 : decode cX4_found 16 = .ok (.ifCond .eq 9, 3) := dk_153 0 9 (dk_at dksX4_found_0 16 rfl rfl)
theorem dX4_found_19 : decode cX4_found 19 = .ok (.iload 4, 2) := dk_21 4 (dk_at dksX4_found_0 19 rfl rfl)
theorem dX4_found_21 : decode cX4_found 21 = .ok (.i2l, 1) := dk_133 (dk_at dksX4_found_0 21 rfl rfl)
theorem dX4_found_22 : decode cX4_found 22 = .ok (.goto 11, 3) := dk_167 0 11 (dk_at dksX4_found_1 0 rfl rfl)
theorem dX4_found_25 : decode cX4_found 25 = .ok (.aload_n 0, 1) := dk_42 (dk_at dksX4_found_1 3 rfl rfl)
theorem dX4_found_26 : decode cX4_found 26 = .ok (.iload_n 1, 1) := dk_27 (dk_at dksX4_found_1 4 rfl rfl)
theorem dX4_found_27 : decode cX4_found 27 = .ok (.iload_n 2, 1) := dk_28 (dk_at dksX4_found_1 5 rfl rfl)
theorem dX4_found_28 : decode cX4_found 28 = .ok (.iload_n 3, 1) := dk_29 (dk_at dksX4_found_1 6 rfl rfl)
theorem dX4_found_29 : decode cX4_found 29 = .ok (.iconst (-1), 1) := dk_2 (dk_at dksX4_found_1 7 rfl rfl)
theorem dX4_found_30 : decode cX4_found 30 = .ok (.invokevirtual 356, 3) := dk_182 1 100 (dk_at dksX4_found_1 8 rfl rfl)
theorem dX4_found_33 : decode cX4_found 33 = .ok (.lreturn, 1) := dk_173 (dk_at dksX4_found_1 11 rfl rfl)
abbrev cX4_noFound : ByteArray := prog_16_method_89_code
def yX4_noFound : MethodName := ⟨RX4, "noFound", "(III)I"⟩
def dkwX4_noFound_1 : List UInt8 := [9, 20, 1, 13, 184, 0, 142, 153, 0, 7, 3, 167, 0, 5, 16, 253, 172]
abbrev dktX4_noFound_1 : List UInt8 := dkwX4_noFound_1 ++ []
def dkwX4_noFound_0 : List UInt8 := [42, 28, 133, 182, 1, 5, 154, 0, 8, 16, 254, 167, 0, 29, 29, 133, 184, 1, 8, 153, 0, 19, 27, 133]
abbrev dktX4_noFound_0 : List UInt8 := dkwX4_noFound_0 ++ dktX4_noFound_1
theorem dksX4_noFound_0 : cX4_noFound.data.toList.drop 0 = dktX4_noFound_0 := by decide +kernel
theorem dksX4_noFound_1 : cX4_noFound.data.toList.drop 24 = dktX4_noFound_1 := dk_seg dksX4_noFound_0 24 rfl rfl
theorem dX4_noFound_0 : decode cX4_noFound 0 = .ok (.aload_n 0, 1) := dk_42 (dk_at dksX4_noFound_0 0 rfl rfl)
theorem dX4_noFound_1 : decode cX4_noFound 1 = .ok (.iload_n 2, 1) := dk_28 (dk_at dksX4_noFound_0 1 rfl rfl)
theorem dX4_noFound_2 : decode cX4_noFound 2 = .ok (.i2l, 1) := dk_133 (dk_at dksX4_noFound_0 2 rfl rfl)
theorem dX4_noFound_3 : decode cX4_noFound 3 = .ok (.invokevirtual 261, 3) := dk_182 1 5 (dk_at dksX4_noFound_0 3 rfl rfl)
theorem dX4_noFound_6 : decode cX4_noFound 6 = .ok (.ifCond .ne 8, 3) := dk_154 0 8 (dk_at dksX4_noFound_0 6 rfl rfl)
theorem dX4_noFound_9 : decode cX4_noFound 9 = .ok (.bipush (-2), 2) := dk_16 254 (dk_at dksX4_noFound_0 9 rfl rfl)
theorem dX4_noFound_11 : decode cX4_noFound 11 = .ok (.goto 29, 3) := dk_167 0 29 (dk_at dksX4_noFound_0 11 rfl rfl)
theorem dX4_noFound_14 : decode cX4_noFound 14 = .ok (.iload_n 3, 1) := dk_29 (dk_at dksX4_noFound_0 14 rfl rfl)
theorem dX4_noFound_15 : decode cX4_noFound 15 = .ok (.i2l, 1) := dk_133 (dk_at dksX4_noFound_0 15 rfl rfl)
theorem dX4_noFound_16 : decode cX4_noFound 16 = .ok (.invokestatic 264, 3) := dk_184 1 8 (dk_at dksX4_noFound_0 16 rfl rfl)
theorem dX4_noFound_19 : decode cX4_noFound 19 = .ok (.ifCond .eq 19, 3) := dk_153 0 19 (dk_at dksX4_noFound_0 19 rfl rfl)
theorem dX4_noFound_22 : decode cX4_noFound 22 = .ok (.iload_n 1, 1) := dk_27 (dk_at dksX4_noFound_0 22 rfl rfl)
theorem dX4_noFound_23 : decode cX4_noFound 23 = .ok (.i2l, 1) := dk_133 (dk_at dksX4_noFound_0 23 rfl rfl)
theorem dX4_noFound_24 : decode cX4_noFound 24 = .ok (.lconst 0, 1) := dk_9 (dk_at dksX4_noFound_1 0 rfl rfl)
theorem dX4_noFound_25 : decode cX4_noFound 25 = .ok (.ldc2_w 269, 3) := dk_20 1 13 (dk_at dksX4_noFound_1 1 rfl rfl)
theorem dX4_noFound_28 : decode cX4_noFound 28 = .ok (.invokestatic 142, 3) := dk_184 0 142 (dk_at dksX4_noFound_1 4 rfl rfl)
theorem dX4_noFound_31 : decode cX4_noFound 31 = .ok (.ifCond .eq 7, 3) := dk_153 0 7 (dk_at dksX4_noFound_1 7 rfl rfl)
theorem dX4_noFound_34 : decode cX4_noFound 34 = .ok (.iconst 0, 1) := dk_3 (dk_at dksX4_noFound_1 10 rfl rfl)
theorem dX4_noFound_35 : decode cX4_noFound 35 = .ok (.goto 5, 3) := dk_167 0 5 (dk_at dksX4_noFound_1 11 rfl rfl)
theorem dX4_noFound_38 : decode cX4_noFound 38 = .ok (.bipush (-3), 2) := dk_16 253 (dk_at dksX4_noFound_1 14 rfl rfl)
theorem dX4_noFound_40 : decode cX4_noFound 40 = .ok (.ireturn, 1) := dk_172 (dk_at dksX4_noFound_1 16 rfl rfl)
abbrev cX4_laysFound : ByteArray := prog_16_method_90_code
def yX4_laysFound : MethodName := ⟨RX4, "laysFound", "(IIII)J"⟩
def dkwX4_laysFound_7 : List UInt8 := [167, 255, 147, 42, 180, 0, 48, 16, 36, 27, 104, 42, 182, 0, 232, 96, 47, 173]
abbrev dktX4_laysFound_7 : List UInt8 := dkwX4_laysFound_7 ++ []
def dkwX4_laysFound_6 : List UInt8 := [180, 0, 48, 16, 36, 21, 5, 104, 21, 6, 96, 22, 7, 80, 132, 6, 1, 167, 255, 162, 132, 5, 1]
abbrev dktX4_laysFound_6 : List UInt8 := dkwX4_laysFound_6 ++ dktX4_laysFound_7
def dkwX4_laysFound_5 : List UInt8 := [180, 0, 48, 16, 36, 21, 5, 4, 100, 104, 21, 10, 96, 47, 97, 55, 7, 132, 9, 1, 167, 255, 198, 42]
abbrev dktX4_laysFound_5 : List UInt8 := dkwX4_laysFound_5 ++ dktX4_laysFound_6
def dkwX4_laysFound_4 : List UInt8 := [104, 21, 9, 96, 46, 54, 10, 21, 10, 2, 159, 0, 30, 21, 9, 21, 4, 159, 0, 23, 22, 7, 42]
abbrev dktX4_laysFound_4 : List UInt8 := dkwX4_laysFound_4 ++ dktX4_laysFound_5
def dkwX4_laysFound_3 : List UInt8 := [162, 0, 91, 9, 55, 7, 3, 54, 9, 21, 9, 16, 8, 162, 0, 57, 42, 180, 0, 39, 16, 8, 21, 6]
abbrev dktX4_laysFound_3 : List UInt8 := dkwX4_laysFound_3 ++ dktX4_laysFound_4
def dkwX4_laysFound_2 : List UInt8 := [132, 5, 1, 167, 255, 223, 4, 54, 5, 21, 5, 27, 163, 0, 109, 3, 54, 6, 21, 6, 42, 182, 1, 58]
abbrev dktX4_laysFound_2 : List UInt8 := dkwX4_laysFound_2 ++ dktX4_laysFound_3
def dkwX4_laysFound_1 : List UInt8 := [180, 0, 48, 21, 5, 21, 5, 16, 6, 28, 104, 29, 96, 160, 0, 7, 10, 167, 0, 4, 9, 80]
abbrev dktX4_laysFound_1 : List UInt8 := dkwX4_laysFound_1 ++ dktX4_laysFound_2
def dkwX4_laysFound_0 : List UInt8 := [42, 42, 180, 0, 13, 16, 44, 46, 182, 1, 64, 3, 54, 5, 21, 5, 16, 36, 162, 0, 32, 42]
abbrev dktX4_laysFound_0 : List UInt8 := dkwX4_laysFound_0 ++ dktX4_laysFound_1
theorem dksX4_laysFound_0 : cX4_laysFound.data.toList.drop 0 = dktX4_laysFound_0 := by decide +kernel
theorem dksX4_laysFound_1 : cX4_laysFound.data.toList.drop 22 = dktX4_laysFound_1 := dk_seg dksX4_laysFound_0 22 rfl rfl
theorem dksX4_laysFound_2 : cX4_laysFound.data.toList.drop 44 = dktX4_laysFound_2 := dk_seg dksX4_laysFound_1 22 rfl rfl
theorem dksX4_laysFound_3 : cX4_laysFound.data.toList.drop 68 = dktX4_laysFound_3 := dk_seg dksX4_laysFound_2 24 rfl rfl
theorem dksX4_laysFound_4 : cX4_laysFound.data.toList.drop 92 = dktX4_laysFound_4 := dk_seg dksX4_laysFound_3 24 rfl rfl
theorem dksX4_laysFound_5 : cX4_laysFound.data.toList.drop 115 = dktX4_laysFound_5 := dk_seg dksX4_laysFound_4 23 rfl rfl
theorem dksX4_laysFound_6 : cX4_laysFound.data.toList.drop 139 = dktX4_laysFound_6 := dk_seg dksX4_laysFound_5 24 rfl rfl
theorem dksX4_laysFound_7 : cX4_laysFound.data.toList.drop 162 = dktX4_laysFound_7 := dk_seg dksX4_laysFound_6 23 rfl rfl
theorem dX4_laysFound_0 : decode cX4_laysFound 0 = .ok (.aload_n 0, 1) := dk_42 (dk_at dksX4_laysFound_0 0 rfl rfl)
theorem dX4_laysFound_1 : decode cX4_laysFound 1 = .ok (.aload_n 0, 1) := dk_42 (dk_at dksX4_laysFound_0 1 rfl rfl)
theorem dX4_laysFound_2 : decode cX4_laysFound 2 = .ok (.getfield 13, 3) := dk_180 0 13 (dk_at dksX4_laysFound_0 2 rfl rfl)
theorem dX4_laysFound_5 : decode cX4_laysFound 5 = .ok (.bipush 44, 2) := dk_16 44 (dk_at dksX4_laysFound_0 5 rfl rfl)
theorem dX4_laysFound_7 : decode cX4_laysFound 7 = .ok (.iaload, 1) := dk_46 (dk_at dksX4_laysFound_0 7 rfl rfl)
theorem dX4_laysFound_8 : decode cX4_laysFound 8 = .ok (.invokevirtual 320, 3) := dk_182 1 64 (dk_at dksX4_laysFound_0 8 rfl rfl)
theorem dX4_laysFound_11 : decode cX4_laysFound 11 = .ok (.iconst 0, 1) := dk_3 (dk_at dksX4_laysFound_0 11 rfl rfl)
theorem dX4_laysFound_12 : decode cX4_laysFound 12 = .ok (.istore 5, 2) := dk_54 5 (dk_at dksX4_laysFound_0 12 rfl rfl)
theorem dX4_laysFound_14 : decode cX4_laysFound 14 = .ok (.iload 5, 2) := dk_21 5 (dk_at dksX4_laysFound_0 14 rfl rfl)
theorem dX4_laysFound_16 : decode cX4_laysFound 16 = .ok (.bipush 36, 2) := dk_16 36 (dk_at dksX4_laysFound_0 16 rfl rfl)
theorem dX4_laysFound_18 : decode cX4_laysFound 18 = .ok (.if_icmp .ge 32, 3) := dk_162 0 32 (dk_at dksX4_laysFound_0 18 rfl rfl)
theorem dX4_laysFound_21 : decode cX4_laysFound 21 = .ok (.aload_n 0, 1) := dk_42 (dk_at dksX4_laysFound_0 21 rfl rfl)
theorem dX4_laysFound_22 : decode cX4_laysFound 22 = .ok (.getfield 48, 3) := dk_180 0 48 (dk_at dksX4_laysFound_1 0 rfl rfl)
theorem dX4_laysFound_25 : decode cX4_laysFound 25 = .ok (.iload 5, 2) := dk_21 5 (dk_at dksX4_laysFound_1 3 rfl rfl)
theorem dX4_laysFound_27 : decode cX4_laysFound 27 = .ok (.iload 5, 2) := dk_21 5 (dk_at dksX4_laysFound_1 5 rfl rfl)
theorem dX4_laysFound_29 : decode cX4_laysFound 29 = .ok (.bipush 6, 2) := dk_16 6 (dk_at dksX4_laysFound_1 7 rfl rfl)
theorem dX4_laysFound_31 : decode cX4_laysFound 31 = .ok (.iload_n 2, 1) := dk_28 (dk_at dksX4_laysFound_1 9 rfl rfl)
theorem dX4_laysFound_32 : decode cX4_laysFound 32 = .ok (.imul, 1) := dk_104 (dk_at dksX4_laysFound_1 10 rfl rfl)
theorem dX4_laysFound_33 : decode cX4_laysFound 33 = .ok (.iload_n 3, 1) := dk_29 (dk_at dksX4_laysFound_1 11 rfl rfl)
theorem dX4_laysFound_34 : decode cX4_laysFound 34 = .ok (.iadd, 1) := dk_96 (dk_at dksX4_laysFound_1 12 rfl rfl)
theorem dX4_laysFound_35 : decode cX4_laysFound 35 = .ok (.if_icmp .ne 7, 3) := dk_160 0 7 (dk_at dksX4_laysFound_1 13 rfl rfl)
theorem dX4_laysFound_38 : decode cX4_laysFound 38 = .ok (.lconst 1, 1) := dk_10 (dk_at dksX4_laysFound_1 16 rfl rfl)
theorem dX4_laysFound_39 : decode cX4_laysFound 39 = .ok (.goto 4, 3) := dk_167 0 4 (dk_at dksX4_laysFound_1 17 rfl rfl)
theorem dX4_laysFound_42 : decode cX4_laysFound 42 = .ok (.lconst 0, 1) := dk_9 (dk_at dksX4_laysFound_1 20 rfl rfl)
theorem dX4_laysFound_43 : decode cX4_laysFound 43 = .ok (.lastore, 1) := dk_80 (dk_at dksX4_laysFound_1 21 rfl rfl)
theorem dX4_laysFound_44 : decode cX4_laysFound 44 = .ok (.iinc 5 1, 3) := dk_132 5 1 (dk_at dksX4_laysFound_2 0 rfl rfl)
theorem dX4_laysFound_47 : decode cX4_laysFound 47 = .ok (.goto (-33), 3) := dk_167 255 223 (dk_at dksX4_laysFound_2 3 rfl rfl)
theorem dX4_laysFound_50 : decode cX4_laysFound 50 = .ok (.iconst 1, 1) := dk_4 (dk_at dksX4_laysFound_2 6 rfl rfl)
theorem dX4_laysFound_51 : decode cX4_laysFound 51 = .ok (.istore 5, 2) := dk_54 5 (dk_at dksX4_laysFound_2 7 rfl rfl)
theorem dX4_laysFound_53 : decode cX4_laysFound 53 = .ok (.iload 5, 2) := dk_21 5 (dk_at dksX4_laysFound_2 9 rfl rfl)
theorem dX4_laysFound_55 : decode cX4_laysFound 55 = .ok (.iload_n 1, 1) := dk_27 (dk_at dksX4_laysFound_2 11 rfl rfl)
theorem dX4_laysFound_56 : decode cX4_laysFound 56 = .ok (.if_icmp .gt 109, 3) := dk_163 0 109 (dk_at dksX4_laysFound_2 12 rfl rfl)
theorem dX4_laysFound_59 : decode cX4_laysFound 59 = .ok (.iconst 0, 1) := dk_3 (dk_at dksX4_laysFound_2 15 rfl rfl)
theorem dX4_laysFound_60 : decode cX4_laysFound 60 = .ok (.istore 6, 2) := dk_54 6 (dk_at dksX4_laysFound_2 16 rfl rfl)
theorem dX4_laysFound_62 : decode cX4_laysFound 62 = .ok (.iload 6, 2) := dk_21 6 (dk_at dksX4_laysFound_2 18 rfl rfl)
theorem dX4_laysFound_64 : decode cX4_laysFound 64 = .ok (.aload_n 0, 1) := dk_42 (dk_at dksX4_laysFound_2 20 rfl rfl)
theorem dX4_laysFound_65 : decode cX4_laysFound 65 = .ok (.invokevirtual 314, 3) := dk_182 1 58 (dk_at dksX4_laysFound_2 21 rfl rfl)
theorem dX4_laysFound_68 : decode cX4_laysFound 68 = .ok (.if_icmp .ge 91, 3) := dk_162 0 91 (dk_at dksX4_laysFound_3 0 rfl rfl)
theorem dX4_laysFound_71 : decode cX4_laysFound 71 = .ok (.lconst 0, 1) := dk_9 (dk_at dksX4_laysFound_3 3 rfl rfl)
theorem dX4_laysFound_72 : decode cX4_laysFound 72 = .ok (.lstore 7, 2) := dk_55 7 (dk_at dksX4_laysFound_3 4 rfl rfl)
theorem dX4_laysFound_74 : decode cX4_laysFound 74 = .ok (.iconst 0, 1) := dk_3 (dk_at dksX4_laysFound_3 6 rfl rfl)
theorem dX4_laysFound_75 : decode cX4_laysFound 75 = .ok (.istore 9, 2) := dk_54 9 (dk_at dksX4_laysFound_3 7 rfl rfl)
theorem dX4_laysFound_77 : decode cX4_laysFound 77 = .ok (.iload 9, 2) := dk_21 9 (dk_at dksX4_laysFound_3 9 rfl rfl)
theorem dX4_laysFound_79 : decode cX4_laysFound 79 = .ok (.bipush 8, 2) := dk_16 8 (dk_at dksX4_laysFound_3 11 rfl rfl)
theorem dX4_laysFound_81 : decode cX4_laysFound 81 = .ok (.if_icmp .ge 57, 3) := dk_162 0 57 (dk_at dksX4_laysFound_3 13 rfl rfl)
theorem dX4_laysFound_84 : decode cX4_laysFound 84 = .ok (.aload_n 0, 1) := dk_42 (dk_at dksX4_laysFound_3 16 rfl rfl)
theorem dX4_laysFound_85 : decode cX4_laysFound 85 = .ok (.getfield 39, 3) := dk_180 0 39 (dk_at dksX4_laysFound_3 17 rfl rfl)
theorem dX4_laysFound_88 : decode cX4_laysFound 88 = .ok (.bipush 8, 2) := dk_16 8 (dk_at dksX4_laysFound_3 20 rfl rfl)
theorem dX4_laysFound_90 : decode cX4_laysFound 90 = .ok (.iload 6, 2) := dk_21 6 (dk_at dksX4_laysFound_3 22 rfl rfl)
theorem dX4_laysFound_92 : decode cX4_laysFound 92 = .ok (.imul, 1) := dk_104 (dk_at dksX4_laysFound_4 0 rfl rfl)
theorem dX4_laysFound_93 : decode cX4_laysFound 93 = .ok (.iload 9, 2) := dk_21 9 (dk_at dksX4_laysFound_4 1 rfl rfl)
theorem dX4_laysFound_95 : decode cX4_laysFound 95 = .ok (.iadd, 1) := dk_96 (dk_at dksX4_laysFound_4 3 rfl rfl)
theorem dX4_laysFound_96 : decode cX4_laysFound 96 = .ok (.iaload, 1) := dk_46 (dk_at dksX4_laysFound_4 4 rfl rfl)
theorem dX4_laysFound_97 : decode cX4_laysFound 97 = .ok (.istore 10, 2) := dk_54 10 (dk_at dksX4_laysFound_4 5 rfl rfl)
theorem dX4_laysFound_99 : decode cX4_laysFound 99 = .ok (.iload 10, 2) := dk_21 10 (dk_at dksX4_laysFound_4 7 rfl rfl)
theorem dX4_laysFound_101 : decode cX4_laysFound 101 = .ok (.iconst (-1), 1) := dk_2 (dk_at dksX4_laysFound_4 9 rfl rfl)
theorem dX4_laysFound_102 : decode cX4_laysFound 102 = .ok (.if_icmp .eq 30, 3) := dk_159 0 30 (dk_at dksX4_laysFound_4 10 rfl rfl)
theorem dX4_laysFound_105 : decode cX4_laysFound 105 = .ok (.iload 9, 2) := dk_21 9 (dk_at dksX4_laysFound_4 13 rfl rfl)
theorem dX4_laysFound_107 : decode cX4_laysFound 107 = .ok (.iload 4, 2) := dk_21 4 (dk_at dksX4_laysFound_4 15 rfl rfl)
theorem dX4_laysFound_109 : decode cX4_laysFound 109 = .ok (.if_icmp .eq 23, 3) := dk_159 0 23 (dk_at dksX4_laysFound_4 17 rfl rfl)
theorem dX4_laysFound_112 : decode cX4_laysFound 112 = .ok (.lload 7, 2) := dk_22 7 (dk_at dksX4_laysFound_4 20 rfl rfl)
theorem dX4_laysFound_114 : decode cX4_laysFound 114 = .ok (.aload_n 0, 1) := dk_42 (dk_at dksX4_laysFound_4 22 rfl rfl)
theorem dX4_laysFound_115 : decode cX4_laysFound 115 = .ok (.getfield 48, 3) := dk_180 0 48 (dk_at dksX4_laysFound_5 0 rfl rfl)
theorem dX4_laysFound_118 : decode cX4_laysFound 118 = .ok (.bipush 36, 2) := dk_16 36 (dk_at dksX4_laysFound_5 3 rfl rfl)
theorem dX4_laysFound_120 : decode cX4_laysFound 120 = .ok (.iload 5, 2) := dk_21 5 (dk_at dksX4_laysFound_5 5 rfl rfl)
theorem dX4_laysFound_122 : decode cX4_laysFound 122 = .ok (.iconst 1, 1) := dk_4 (dk_at dksX4_laysFound_5 7 rfl rfl)
theorem dX4_laysFound_123 : decode cX4_laysFound 123 = .ok (.isub, 1) := dk_100 (dk_at dksX4_laysFound_5 8 rfl rfl)
theorem dX4_laysFound_124 : decode cX4_laysFound 124 = .ok (.imul, 1) := dk_104 (dk_at dksX4_laysFound_5 9 rfl rfl)
theorem dX4_laysFound_125 : decode cX4_laysFound 125 = .ok (.iload 10, 2) := dk_21 10 (dk_at dksX4_laysFound_5 10 rfl rfl)
theorem dX4_laysFound_127 : decode cX4_laysFound 127 = .ok (.iadd, 1) := dk_96 (dk_at dksX4_laysFound_5 12 rfl rfl)
theorem dX4_laysFound_128 : decode cX4_laysFound 128 = .ok (.laload, 1) := dk_47 (dk_at dksX4_laysFound_5 13 rfl rfl)
theorem dX4_laysFound_129 : decode cX4_laysFound 129 = .ok (.ladd, 1) := dk_97 (dk_at dksX4_laysFound_5 14 rfl rfl)
theorem dX4_laysFound_130 : decode cX4_laysFound 130 = .ok (.lstore 7, 2) := dk_55 7 (dk_at dksX4_laysFound_5 15 rfl rfl)
theorem dX4_laysFound_132 : decode cX4_laysFound 132 = .ok (.iinc 9 1, 3) := dk_132 9 1 (dk_at dksX4_laysFound_5 17 rfl rfl)
theorem dX4_laysFound_135 : decode cX4_laysFound 135 = .ok (.goto (-58), 3) := dk_167 255 198 (dk_at dksX4_laysFound_5 20 rfl rfl)
theorem dX4_laysFound_138 : decode cX4_laysFound 138 = .ok (.aload_n 0, 1) := dk_42 (dk_at dksX4_laysFound_5 23 rfl rfl)
theorem dX4_laysFound_139 : decode cX4_laysFound 139 = .ok (.getfield 48, 3) := dk_180 0 48 (dk_at dksX4_laysFound_6 0 rfl rfl)
theorem dX4_laysFound_142 : decode cX4_laysFound 142 = .ok (.bipush 36, 2) := dk_16 36 (dk_at dksX4_laysFound_6 3 rfl rfl)
theorem dX4_laysFound_144 : decode cX4_laysFound 144 = .ok (.iload 5, 2) := dk_21 5 (dk_at dksX4_laysFound_6 5 rfl rfl)
theorem dX4_laysFound_146 : decode cX4_laysFound 146 = .ok (.imul, 1) := dk_104 (dk_at dksX4_laysFound_6 7 rfl rfl)
theorem dX4_laysFound_147 : decode cX4_laysFound 147 = .ok (.iload 6, 2) := dk_21 6 (dk_at dksX4_laysFound_6 8 rfl rfl)
theorem dX4_laysFound_149 : decode cX4_laysFound 149 = .ok (.iadd, 1) := dk_96 (dk_at dksX4_laysFound_6 10 rfl rfl)
theorem dX4_laysFound_150 : decode cX4_laysFound 150 = .ok (.lload 7, 2) := dk_22 7 (dk_at dksX4_laysFound_6 11 rfl rfl)
theorem dX4_laysFound_152 : decode cX4_laysFound 152 = .ok (.lastore, 1) := dk_80 (dk_at dksX4_laysFound_6 13 rfl rfl)
theorem dX4_laysFound_153 : decode cX4_laysFound 153 = .ok (.iinc 6 1, 3) := dk_132 6 1 (dk_at dksX4_laysFound_6 14 rfl rfl)
theorem dX4_laysFound_156 : decode cX4_laysFound 156 = .ok (.goto (-94), 3) := dk_167 255 162 (dk_at dksX4_laysFound_6 17 rfl rfl)
theorem dX4_laysFound_159 : decode cX4_laysFound 159 = .ok (.iinc 5 1, 3) := dk_132 5 1 (dk_at dksX4_laysFound_6 20 rfl rfl)
theorem dX4_laysFound_162 : decode cX4_laysFound 162 = .ok (.goto (-109), 3) := dk_167 255 147 (dk_at dksX4_laysFound_7 0 rfl rfl)
theorem dX4_laysFound_165 : decode cX4_laysFound 165 = .ok (.aload_n 0, 1) := dk_42 (dk_at dksX4_laysFound_7 3 rfl rfl)
theorem dX4_laysFound_166 : decode cX4_laysFound 166 = .ok (.getfield 48, 3) := dk_180 0 48 (dk_at dksX4_laysFound_7 4 rfl rfl)
theorem dX4_laysFound_169 : decode cX4_laysFound 169 = .ok (.bipush 36, 2) := dk_16 36 (dk_at dksX4_laysFound_7 7 rfl rfl)
theorem dX4_laysFound_171 : decode cX4_laysFound 171 = .ok (.iload_n 1, 1) := dk_27 (dk_at dksX4_laysFound_7 9 rfl rfl)
theorem dX4_laysFound_172 : decode cX4_laysFound 172 = .ok (.imul, 1) := dk_104 (dk_at dksX4_laysFound_7 10 rfl rfl)
theorem dX4_laysFound_173 : decode cX4_laysFound 173 = .ok (.aload_n 0, 1) := dk_42 (dk_at dksX4_laysFound_7 11 rfl rfl)
theorem dX4_laysFound_174 : decode cX4_laysFound 174 = .ok (.invokevirtual 232, 3) := dk_182 0 232 (dk_at dksX4_laysFound_7 12 rfl rfl)
theorem dX4_laysFound_177 : decode cX4_laysFound 177 = .ok (.iadd, 1) := dk_96 (dk_at dksX4_laysFound_7 15 rfl rfl)
theorem dX4_laysFound_178 : decode cX4_laysFound 178 = .ok (.laload, 1) := dk_47 (dk_at dksX4_laysFound_7 16 rfl rfl)
theorem dX4_laysFound_179 : decode cX4_laysFound 179 = .ok (.lreturn, 1) := dk_173 (dk_at dksX4_laysFound_7 17 rfl rfl)
abbrev cX4_foundBy : ByteArray := prog_16_method_92_code
def yX4_foundBy : MethodName := ⟨RX4, "foundBy", "(IIII)I"⟩
def dkwX4_foundBy_6 : List UInt8 := [96, 46, 54, 6, 132, 7, 1, 167, 255, 169]
abbrev dktX4_foundBy_6 : List UInt8 := dkwX4_foundBy_6 ++ []
def dkwX4_foundBy_5 : List UInt8 := [167, 255, 203, 21, 7, 21, 4, 160, 0, 6, 21, 8, 172, 42, 180, 0, 39, 16, 8, 21, 6, 104, 21, 8]
abbrev dktX4_foundBy_5 : List UInt8 := dkwX4_foundBy_5 ++ dktX4_foundBy_6
def dkwX4_foundBy_4 : List UInt8 := [42, 180, 0, 39, 16, 8, 21, 6, 104, 21, 8, 96, 46, 96, 47, 9, 148, 154, 0, 9, 132, 8, 1]
abbrev dktX4_foundBy_4 : List UInt8 := dkwX4_foundBy_4 ++ dktX4_foundBy_5
def dkwX4_foundBy_3 : List UInt8 := [21, 6, 104, 21, 8, 96, 46, 2, 159, 0, 36, 42, 180, 0, 48, 16, 36, 27, 21, 7, 100, 4, 100, 104]
abbrev dktX4_foundBy_3 : List UInt8 := dkwX4_foundBy_3 ++ dktX4_foundBy_4
def dkwX4_foundBy_2 : List UInt8 := [161, 0, 5, 2, 172, 42, 182, 0, 232, 54, 6, 3, 54, 7, 3, 54, 8, 42, 180, 0, 39, 16, 8]
abbrev dktX4_foundBy_2 : List UInt8 := dkwX4_foundBy_2 ++ dktX4_foundBy_3
def dkwX4_foundBy_1 : List UInt8 := [156, 0, 6, 16, 253, 172, 42, 27, 28, 29, 2, 182, 1, 100, 9, 148, 153, 0, 9, 21, 4, 27]
abbrev dktX4_foundBy_1 : List UInt8 := dkwX4_foundBy_1 ++ dktX4_foundBy_2
def dkwX4_foundBy_0 : List UInt8 := [42, 3, 181, 0, 1, 42, 27, 28, 29, 182, 1, 97, 54, 5, 21, 5, 153, 0, 6, 21, 5, 172, 21, 4]
abbrev dktX4_foundBy_0 : List UInt8 := dkwX4_foundBy_0 ++ dktX4_foundBy_1
theorem dksX4_foundBy_0 : cX4_foundBy.data.toList.drop 0 = dktX4_foundBy_0 := by decide +kernel
theorem dksX4_foundBy_1 : cX4_foundBy.data.toList.drop 24 = dktX4_foundBy_1 := dk_seg dksX4_foundBy_0 24 rfl rfl
theorem dksX4_foundBy_2 : cX4_foundBy.data.toList.drop 46 = dktX4_foundBy_2 := dk_seg dksX4_foundBy_1 22 rfl rfl
theorem dksX4_foundBy_3 : cX4_foundBy.data.toList.drop 69 = dktX4_foundBy_3 := dk_seg dksX4_foundBy_2 23 rfl rfl
theorem dksX4_foundBy_4 : cX4_foundBy.data.toList.drop 93 = dktX4_foundBy_4 := dk_seg dksX4_foundBy_3 24 rfl rfl
theorem dksX4_foundBy_5 : cX4_foundBy.data.toList.drop 116 = dktX4_foundBy_5 := dk_seg dksX4_foundBy_4 23 rfl rfl
theorem dksX4_foundBy_6 : cX4_foundBy.data.toList.drop 140 = dktX4_foundBy_6 := dk_seg dksX4_foundBy_5 24 rfl rfl
theorem dX4_foundBy_0 : decode cX4_foundBy 0 = .ok (.aload_n 0, 1) := dk_42 (dk_at dksX4_foundBy_0 0 rfl rfl)
theorem dX4_foundBy_1 : decode cX4_foundBy 1 = .ok (.iconst 0, 1) := dk_3 (dk_at dksX4_foundBy_0 1 rfl rfl)
theorem dX4_foundBy_2 : decode cX4_foundBy 2 = .ok (.putfield 1, 3) := dk_181 0 1 (dk_at dksX4_foundBy_0 2 rfl rfl)
theorem dX4_foundBy_5 : decode cX4_foundBy 5 = .ok (.aload_n 0, 1) := dk_42 (dk_at dksX4_foundBy_0 5 rfl rfl)
theorem dX4_foundBy_6 : decode cX4_foundBy 6 = .ok (.iload_n 1, 1) := dk_27 (dk_at dksX4_foundBy_0 6 rfl rfl)
theorem dX4_foundBy_7 : decode cX4_foundBy 7 = .ok (.iload_n 2, 1) := dk_28 (dk_at dksX4_foundBy_0 7 rfl rfl)
theorem dX4_foundBy_8 : decode cX4_foundBy 8 = .ok (.iload_n 3, 1) := dk_29 (dk_at dksX4_foundBy_0 8 rfl rfl)
theorem dX4_foundBy_9 : decode cX4_foundBy 9 = .ok (.invokevirtual 353, 3) := dk_182 1 97 (dk_at dksX4_foundBy_0 9 rfl rfl)
theorem dX4_foundBy_12 : decode cX4_foundBy 12 = .ok (.istore 5, 2) := dk_54 5 (dk_at dksX4_foundBy_0 12 rfl rfl)
theorem dX4_foundBy_14 : decode cX4_foundBy 14 = .ok (.iload 5, 2) := dk_21 5 (dk_at dksX4_foundBy_0 14 rfl rfl)
theorem dX4_foundBy_16 : decode cX4_foundBy 16 = .ok (.ifCond .eq 6, 3) := dk_153 0 6 (dk_at dksX4_foundBy_0 16 rfl rfl)
theorem dX4_foundBy_19 : decode cX4_foundBy 19 = .ok (.iload 5, 2) := dk_21 5 (dk_at dksX4_foundBy_0 19 rfl rfl)
theorem dX4_foundBy_21 : decode cX4_foundBy 21 = .ok (.ireturn, 1) := dk_172 (dk_at dksX4_foundBy_0 21 rfl rfl)
theorem dX4_foundBy_22 : decode cX4_foundBy 22 = .ok (.iload 4, 2) := dk_21 4 (dk_at dksX4_foundBy_0 22 rfl rfl)
theorem dX4_foundBy_24 : decode cX4_foundBy 24 = .ok (.ifCond .ge 6, 3) := dk_156 0 6 (dk_at dksX4_foundBy_1 0 rfl rfl)
theorem dX4_foundBy_27 : decode cX4_foundBy 27 = .ok (.bipush (-3), 2) := dk_16 253 (dk_at dksX4_foundBy_1 3 rfl rfl)
theorem dX4_foundBy_29 : decode cX4_foundBy 29 = .ok (.ireturn, 1) := dk_172 (dk_at dksX4_foundBy_1 5 rfl rfl)
theorem dX4_foundBy_30 : decode cX4_foundBy 30 = .ok (.aload_n 0, 1) := dk_42 (dk_at dksX4_foundBy_1 6 rfl rfl)
theorem dX4_foundBy_31 : decode cX4_foundBy 31 = .ok (.iload_n 1, 1) := dk_27 (dk_at dksX4_foundBy_1 7 rfl rfl)
theorem dX4_foundBy_32 : decode cX4_foundBy 32 = .ok (.iload_n 2, 1) := dk_28 (dk_at dksX4_foundBy_1 8 rfl rfl)
theorem dX4_foundBy_33 : decode cX4_foundBy 33 = .ok (.iload_n 3, 1) := dk_29 (dk_at dksX4_foundBy_1 9 rfl rfl)
theorem dX4_foundBy_34 : decode cX4_foundBy 34 = .ok (.iconst (-1), 1) := dk_2 (dk_at dksX4_foundBy_1 10 rfl rfl)
theorem dX4_foundBy_35 : decode cX4_foundBy 35 = .ok (.invokevirtual 356, 3) := dk_182 1 100 (dk_at dksX4_foundBy_1 11 rfl rfl)
theorem dX4_foundBy_38 : decode cX4_foundBy 38 = .ok (.lconst 0, 1) := dk_9 (dk_at dksX4_foundBy_1 14 rfl rfl)
theorem dX4_foundBy_39 : decode cX4_foundBy 39 = .ok (.lcmp, 1) := dk_148 (dk_at dksX4_foundBy_1 15 rfl rfl)
theorem dX4_foundBy_40 : decode cX4_foundBy 40 = .ok (.ifCond .eq 9, 3) := dk_153 0 9 (dk_at dksX4_foundBy_1 16 rfl rfl)
theorem dX4_foundBy_43 : decode cX4_foundBy 43 = .ok (.iload 4, 2) := dk_21 4 (dk_at dksX4_foundBy_1 19 rfl rfl)
theorem dX4_foundBy_45 : decode cX4_foundBy 45 = .ok (.iload_n 1, 1) := dk_27 (dk_at dksX4_foundBy_1 21 rfl rfl)
theorem dX4_foundBy_46 : decode cX4_foundBy 46 = .ok (.if_icmp .lt 5, 3) := dk_161 0 5 (dk_at dksX4_foundBy_2 0 rfl rfl)
theorem dX4_foundBy_49 : decode cX4_foundBy 49 = .ok (.iconst (-1), 1) := dk_2 (dk_at dksX4_foundBy_2 3 rfl rfl)
theorem dX4_foundBy_50 : decode cX4_foundBy 50 = .ok (.ireturn, 1) := dk_172 (dk_at dksX4_foundBy_2 4 rfl rfl)
theorem dX4_foundBy_51 : decode cX4_foundBy 51 = .ok (.aload_n 0, 1) := dk_42 (dk_at dksX4_foundBy_2 5 rfl rfl)
theorem dX4_foundBy_52 : decode cX4_foundBy 52 = .ok (.invokevirtual 232, 3) := dk_182 0 232 (dk_at dksX4_foundBy_2 6 rfl rfl)
theorem dX4_foundBy_55 : decode cX4_foundBy 55 = .ok (.istore 6, 2) := dk_54 6 (dk_at dksX4_foundBy_2 9 rfl rfl)
theorem dX4_foundBy_57 : decode cX4_foundBy 57 = .ok (.iconst 0, 1) := dk_3 (dk_at dksX4_foundBy_2 11 rfl rfl)
theorem dX4_foundBy_58 : decode cX4_foundBy 58 = .ok (.istore 7, 2) := dk_54 7 (dk_at dksX4_foundBy_2 12 rfl rfl)
theorem dX4_foundBy_60 : decode cX4_foundBy 60 = .ok (.iconst 0, 1) := dk_3 (dk_at dksX4_foundBy_2 14 rfl rfl)
theorem dX4_foundBy_61 : decode cX4_foundBy 61 = .ok (.istore 8, 2) := dk_54 8 (dk_at dksX4_foundBy_2 15 rfl rfl)
theorem dX4_foundBy_63 : decode cX4_foundBy 63 = .ok (.aload_n 0, 1) := dk_42 (dk_at dksX4_foundBy_2 17 rfl rfl)
theorem dX4_foundBy_64 : decode cX4_foundBy 64 = .ok (.getfield 39, 3) := dk_180 0 39 (dk_at dksX4_foundBy_2 18 rfl rfl)
theorem dX4_foundBy_67 : decode cX4_foundBy 67 = .ok (.bipush 8, 2) := dk_16 8 (dk_at dksX4_foundBy_2 21 rfl rfl)
theorem dX4_foundBy_69 : decode cX4_foundBy 69 = .ok (.iload 6, 2) := dk_21 6 (dk_at dksX4_foundBy_3 0 rfl rfl)
theorem dX4_foundBy_71 : decode cX4_foundBy 71 = .ok (.imul, 1) := dk_104 (dk_at dksX4_foundBy_3 2 rfl rfl)
theorem dX4_foundBy_72 : decode cX4_foundBy 72 = .ok (.iload 8, 2) := dk_21 8 (dk_at dksX4_foundBy_3 3 rfl rfl)
theorem dX4_foundBy_74 : decode cX4_foundBy 74 = .ok (.iadd, 1) := dk_96 (dk_at dksX4_foundBy_3 5 rfl rfl)
theorem dX4_foundBy_75 : decode cX4_foundBy 75 = .ok (.iaload, 1) := dk_46 (dk_at dksX4_foundBy_3 6 rfl rfl)
theorem dX4_foundBy_76 : decode cX4_foundBy 76 = .ok (.iconst (-1), 1) := dk_2 (dk_at dksX4_foundBy_3 7 rfl rfl)
theorem dX4_foundBy_77 : decode cX4_foundBy 77 = .ok (.if_icmp .eq 36, 3) := dk_159 0 36 (dk_at dksX4_foundBy_3 8 rfl rfl)
theorem dX4_foundBy_80 : decode cX4_foundBy 80 = .ok (.aload_n 0, 1) := dk_42 (dk_at dksX4_foundBy_3 11 rfl rfl)
theorem dX4_foundBy_81 : decode cX4_foundBy 81 = .ok (.getfield 48, 3) := dk_180 0 48 (dk_at dksX4_foundBy_3 12 rfl rfl)
theorem dX4_foundBy_84 : decode cX4_foundBy 84 = .ok (.bipush 36, 2) := dk_16 36 (dk_at dksX4_foundBy_3 15 rfl rfl)
theorem dX4_foundBy_86 : decode cX4_foundBy 86 = .ok (.iload_n 1, 1) := dk_27 (dk_at dksX4_foundBy_3 17 rfl rfl)
theorem dX4_foundBy_87 : decode cX4_foundBy 87 = .ok (.iload 7, 2) := dk_21 7 (dk_at dksX4_foundBy_3 18 rfl rfl)
theorem dX4_foundBy_89 : decode cX4_foundBy 89 = .ok (.isub, 1) := dk_100 (dk_at dksX4_foundBy_3 20 rfl rfl)
theorem dX4_foundBy_90 : decode cX4_foundBy 90 = .ok (.iconst 1, 1) := dk_4 (dk_at dksX4_foundBy_3 21 rfl rfl)
theorem dX4_foundBy_91 : decode cX4_foundBy 91 = .ok (.isub, 1) := dk_100 (dk_at dksX4_foundBy_3 22 rfl rfl)
theorem dX4_foundBy_92 : decode cX4_foundBy 92 = .ok (.imul, 1) := dk_104 (dk_at dksX4_foundBy_3 23 rfl rfl)
theorem dX4_foundBy_93 : decode cX4_foundBy 93 = .ok (.aload_n 0, 1) := dk_42 (dk_at dksX4_foundBy_4 0 rfl rfl)
theorem dX4_foundBy_94 : decode cX4_foundBy 94 = .ok (.getfield 39, 3) := dk_180 0 39 (dk_at dksX4_foundBy_4 1 rfl rfl)
theorem dX4_foundBy_97 : decode cX4_foundBy 97 = .ok (.bipush 8, 2) := dk_16 8 (dk_at dksX4_foundBy_4 4 rfl rfl)
theorem dX4_foundBy_99 : decode cX4_foundBy 99 = .ok (.iload 6, 2) := dk_21 6 (dk_at dksX4_foundBy_4 6 rfl rfl)
theorem dX4_foundBy_101 : decode cX4_foundBy 101 = .ok (.imul, 1) := dk_104 (dk_at dksX4_foundBy_4 8 rfl rfl)
theorem dX4_foundBy_102 : decode cX4_foundBy 102 = .ok (.iload 8, 2) := dk_21 8 (dk_at dksX4_foundBy_4 9 rfl rfl)
theorem dX4_foundBy_104 : decode cX4_foundBy 104 = .ok (.iadd, 1) := dk_96 (dk_at dksX4_foundBy_4 11 rfl rfl)
theorem dX4_foundBy_105 : decode cX4_foundBy 105 = .ok (.iaload, 1) := dk_46 (dk_at dksX4_foundBy_4 12 rfl rfl)
theorem dX4_foundBy_106 : decode cX4_foundBy 106 = .ok (.iadd, 1) := dk_96 (dk_at dksX4_foundBy_4 13 rfl rfl)
theorem dX4_foundBy_107 : decode cX4_foundBy 107 = .ok (.laload, 1) := dk_47 (dk_at dksX4_foundBy_4 14 rfl rfl)
theorem dX4_foundBy_108 : decode cX4_foundBy 108 = .ok (.lconst 0, 1) := dk_9 (dk_at dksX4_foundBy_4 15 rfl rfl)
theorem dX4_foundBy_109 : decode cX4_foundBy 109 = .ok (.lcmp, 1) := dk_148 (dk_at dksX4_foundBy_4 16 rfl rfl)
theorem dX4_foundBy_110 : decode cX4_foundBy 110 = .ok (.ifCond .ne 9, 3) := dk_154 0 9 (dk_at dksX4_foundBy_4 17 rfl rfl)
theorem dX4_foundBy_113 : decode cX4_foundBy 113 = .ok (.iinc 8 1, 3) := dk_132 8 1 (dk_at dksX4_foundBy_4 20 rfl rfl)
theorem dX4_foundBy_116 : decode cX4_foundBy 116 = .ok (.goto (-53), 3) := dk_167 255 203 (dk_at dksX4_foundBy_5 0 rfl rfl)
theorem dX4_foundBy_119 : decode cX4_foundBy 119 = .ok (.iload 7, 2) := dk_21 7 (dk_at dksX4_foundBy_5 3 rfl rfl)
theorem dX4_foundBy_121 : decode cX4_foundBy 121 = .ok (.iload 4, 2) := dk_21 4 (dk_at dksX4_foundBy_5 5 rfl rfl)
theorem dX4_foundBy_123 : decode cX4_foundBy 123 = .ok (.if_icmp .ne 6, 3) := dk_160 0 6 (dk_at dksX4_foundBy_5 7 rfl rfl)
theorem dX4_foundBy_126 : decode cX4_foundBy 126 = .ok (.iload 8, 2) := dk_21 8 (dk_at dksX4_foundBy_5 10 rfl rfl)
theorem dX4_foundBy_128 : decode cX4_foundBy 128 = .ok (.ireturn, 1) := dk_172 (dk_at dksX4_foundBy_5 12 rfl rfl)
theorem dX4_foundBy_129 : decode cX4_foundBy 129 = .ok (.aload_n 0, 1) := dk_42 (dk_at dksX4_foundBy_5 13 rfl rfl)
theorem dX4_foundBy_130 : decode cX4_foundBy 130 = .ok (.getfield 39, 3) := dk_180 0 39 (dk_at dksX4_foundBy_5 14 rfl rfl)
theorem dX4_foundBy_133 : decode cX4_foundBy 133 = .ok (.bipush 8, 2) := dk_16 8 (dk_at dksX4_foundBy_5 17 rfl rfl)
theorem dX4_foundBy_135 : decode cX4_foundBy 135 = .ok (.iload 6, 2) := dk_21 6 (dk_at dksX4_foundBy_5 19 rfl rfl)
theorem dX4_foundBy_137 : decode cX4_foundBy 137 = .ok (.imul, 1) := dk_104 (dk_at dksX4_foundBy_5 21 rfl rfl)
theorem dX4_foundBy_138 : decode cX4_foundBy 138 = .ok (.iload 8, 2) := dk_21 8 (dk_at dksX4_foundBy_5 22 rfl rfl)
theorem dX4_foundBy_140 : decode cX4_foundBy 140 = .ok (.iadd, 1) := dk_96 (dk_at dksX4_foundBy_6 0 rfl rfl)
theorem dX4_foundBy_141 : decode cX4_foundBy 141 = .ok (.iaload, 1) := dk_46 (dk_at dksX4_foundBy_6 1 rfl rfl)
theorem dX4_foundBy_142 : decode cX4_foundBy 142 = .ok (.istore 6, 2) := dk_54 6 (dk_at dksX4_foundBy_6 2 rfl rfl)
theorem dX4_foundBy_144 : decode cX4_foundBy 144 = .ok (.iinc 7 1, 3) := dk_132 7 1 (dk_at dksX4_foundBy_6 4 rfl rfl)
theorem dX4_foundBy_147 : decode cX4_foundBy 147 = .ok (.goto (-87), 3) := dk_167 255 169 (dk_at dksX4_foundBy_6 7 rfl rfl)
abbrev cX4_surely : ByteArray := prog_16_method_93_code
def yX4_surely : MethodName := ⟨RX4, "surely", "(III)I"⟩
def dkwX4_surely_3 : List UInt8 := [4, 21, 6, 120, 167, 0, 4, 3, 128, 54, 5, 132, 6, 1, 167, 255, 215, 21, 5, 172]
abbrev dktX4_surely_3 : List UInt8 := dkwX4_surely_3 ++ []
def dkwX4_surely_2 : List UInt8 := [180, 0, 13, 5, 46, 162, 0, 36, 21, 5, 42, 27, 28, 29, 21, 6, 182, 1, 100, 9, 148, 154, 0, 10]
abbrev dktX4_surely_2 : List UInt8 := dkwX4_surely_2 ++ dktX4_surely_3
def dkwX4_surely_1 : List UInt8 := [54, 5, 42, 27, 28, 29, 2, 182, 1, 100, 9, 148, 154, 0, 6, 21, 5, 172, 3, 54, 6, 21, 6, 42]
abbrev dktX4_surely_1 : List UInt8 := dkwX4_surely_1 ++ dktX4_surely_2
def dkwX4_surely_0 : List UInt8 := [42, 3, 181, 0, 1, 42, 27, 28, 29, 182, 1, 97, 54, 4, 21, 4, 153, 0, 6, 21, 4, 172, 3]
abbrev dktX4_surely_0 : List UInt8 := dkwX4_surely_0 ++ dktX4_surely_1
theorem dksX4_surely_0 : cX4_surely.data.toList.drop 0 = dktX4_surely_0 := by decide +kernel
theorem dksX4_surely_1 : cX4_surely.data.toList.drop 23 = dktX4_surely_1 := dk_seg dksX4_surely_0 23 rfl rfl
theorem dksX4_surely_2 : cX4_surely.data.toList.drop 47 = dktX4_surely_2 := dk_seg dksX4_surely_1 24 rfl rfl
theorem dksX4_surely_3 : cX4_surely.data.toList.drop 71 = dktX4_surely_3 := dk_seg dksX4_surely_2 24 rfl rfl
theorem dX4_surely_0 : decode cX4_surely 0 = .ok (.aload_n 0, 1) := dk_42 (dk_at dksX4_surely_0 0 rfl rfl)
theorem dX4_surely_1 : decode cX4_surely 1 = .ok (.iconst 0, 1) := dk_3 (dk_at dksX4_surely_0 1 rfl rfl)
theorem dX4_surely_2 : decode cX4_surely 2 = .ok (.putfield 1, 3) := dk_181 0 1 (dk_at dksX4_surely_0 2 rfl rfl)
theorem dX4_surely_5 : decode cX4_surely 5 = .ok (.aload_n 0, 1) := dk_42 (dk_at dksX4_surely_0 5 rfl rfl)
theorem dX4_surely_6 : decode cX4_surely 6 = .ok (.iload_n 1, 1) := dk_27 (dk_at dksX4_surely_0 6 rfl rfl)
theorem dX4_surely_7 : decode cX4_surely 7 = .ok (.iload_n 2, 1) := dk_28 (dk_at dksX4_surely_0 7 rfl rfl)
theorem dX4_surely_8 : decode cX4_surely 8 = .ok (.iload_n 3, 1) := dk_29 (dk_at dksX4_surely_0 8 rfl rfl)
theorem dX4_surely_9 : decode cX4_surely 9 = .ok (.invokevirtual 353, 3) := dk_182 1 97 (dk_at dksX4_surely_0 9 rfl rfl)
theorem dX4_surely_12 : decode cX4_surely 12 = .ok (.istore 4, 2) := dk_54 4 (dk_at dksX4_surely_0 12 rfl rfl)
theorem dX4_surely_14 : decode cX4_surely 14 = .ok (.iload 4, 2) := dk_21 4 (dk_at dksX4_surely_0 14 rfl rfl)
theorem dX4_surely_16 : decode cX4_surely 16 = .ok (.ifCond .eq 6, 3) := dk_153 0 6 (dk_at dksX4_surely_0 16 rfl rfl)
theorem dX4_surely_19 : decode cX4_surely 19 = .ok (.iload 4, 2) := dk_21 4 (dk_at dksX4_surely_0 19 rfl rfl)
theorem dX4_surely_21 : decode cX4_surely 21 = .ok (.ireturn, 1) := dk_172 (dk_at dksX4_surely_0 21 rfl rfl)
theorem dX4_surely_22 : decode cX4_surely 22 = .ok (.iconst 0, 1) := dk_3 (dk_at dksX4_surely_0 22 rfl rfl)
theorem dX4_surely_23 : decode cX4_surely 23 = .ok (.istore 5, 2) := dk_54 5 (dk_at dksX4_surely_1 0 rfl rfl)
theorem dX4_surely_25 : decode cX4_surely 25 = .ok (.aload_n 0, 1) := dk_42 (dk_at dksX4_surely_1 2 rfl rfl)
theorem dX4_surely_26 : decode cX4_surely 26 = .ok (.iload_n 1, 1) := dk_27 (dk_at dksX4_surely_1 3 rfl rfl)
theorem dX4_surely_27 : decode cX4_surely 27 = .ok (.iload_n 2, 1) := dk_28 (dk_at dksX4_surely_1 4 rfl rfl)
theorem dX4_surely_28 : decode cX4_surely 28 = .ok (.iload_n 3, 1) := dk_29 (dk_at dksX4_surely_1 5 rfl rfl)
theorem dX4_surely_29 : decode cX4_surely 29 = .ok (.iconst (-1), 1) := dk_2 (dk_at dksX4_surely_1 6 rfl rfl)
theorem dX4_surely_30 : decode cX4_surely 30 = .ok (.invokevirtual 356, 3) := dk_182 1 100 (dk_at dksX4_surely_1 7 rfl rfl)
theorem dX4_surely_33 : decode cX4_surely 33 = .ok (.lconst 0, 1) := dk_9 (dk_at dksX4_surely_1 10 rfl rfl)
theorem dX4_surely_34 : decode cX4_surely 34 = .ok (.lcmp, 1) := dk_148 (dk_at dksX4_surely_1 11 rfl rfl)
theorem dX4_surely_35 : decode cX4_surely 35 = .ok (.ifCond .ne 6, 3) := dk_154 0 6 (dk_at dksX4_surely_1 12 rfl rfl)
theorem dX4_surely_38 : decode cX4_surely 38 = .ok (.iload 5, 2) := dk_21 5 (dk_at dksX4_surely_1 15 rfl rfl)
theorem dX4_surely_40 : decode cX4_surely 40 = .ok (.ireturn, 1) := dk_172 (dk_at dksX4_surely_1 17 rfl rfl)
theorem dX4_surely_41 : decode cX4_surely 41 = .ok (.iconst 0, 1) := dk_3 (dk_at dksX4_surely_1 18 rfl rfl)
theorem dX4_surely_42 : decode cX4_surely 42 = .ok (.istore 6, 2) := dk_54 6 (dk_at dksX4_surely_1 19 rfl rfl)
theorem dX4_surely_44 : decode cX4_surely 44 = .ok (.iload 6, 2) := dk_21 6 (dk_at dksX4_surely_1 21 rfl rfl)
theorem dX4_surely_46 : decode cX4_surely 46 = .ok (.aload_n 0, 1) := dk_42 (dk_at dksX4_surely_1 23 rfl rfl)
theorem dX4_surely_47 : decode cX4_surely 47 = .ok (.getfield 13, 3) := dk_180 0 13 (dk_at dksX4_surely_2 0 rfl rfl)
theorem dX4_surely_50 : decode cX4_surely 50 = .ok (.iconst 2, 1) := dk_5 (dk_at dksX4_surely_2 3 rfl rfl)
theorem dX4_surely_51 : decode cX4_surely 51 = .ok (.iaload, 1) := dk_46 (dk_at dksX4_surely_2 4 rfl rfl)
theorem dX4_surely_52 : decode cX4_surely 52 = .ok (.if_icmp .ge 36, 3) := dk_162 0 36 (dk_at dksX4_surely_2 5 rfl rfl)
theorem dX4_surely_55 : decode cX4_surely 55 = .ok (.iload 5, 2) := dk_21 5 (dk_at dksX4_surely_2 8 rfl rfl)
theorem dX4_surely_57 : decode cX4_surely 57 = .ok (.aload_n 0, 1) := dk_42 (dk_at dksX4_surely_2 10 rfl rfl)
theorem dX4_surely_58 : decode cX4_surely 58 = .ok (.iload_n 1, 1) := dk_27 (dk_at dksX4_surely_2 11 rfl rfl)
theorem dX4_surely_59 : decode cX4_surely 59 = .ok (.iload_n 2, 1) := dk_28 (dk_at dksX4_surely_2 12 rfl rfl)
theorem dX4_surely_60 : decode cX4_surely 60 = .ok (.iload_n 3, 1) := dk_29 (dk_at dksX4_surely_2 13 rfl rfl)
theorem dX4_surely_61 : decode cX4_surely 61 = .ok (.iload 6, 2) := dk_21 6 (dk_at dksX4_surely_2 14 rfl rfl)
theorem dX4_surely_63 : decode cX4_surely 63 = .ok (.invokevirtual 356, 3) := dk_182 1 100 (dk_at dksX4_surely_2 16 rfl rfl)
theorem dX4_surely_66 : decode cX4_surely 66 = .ok (.lconst 0, 1) := dk_9 (dk_at dksX4_surely_2 19 rfl rfl)
theorem dX4_surely_67 : decode cX4_surely 67 = .ok (.lcmp, 1) := dk_148 (dk_at dksX4_surely_2 20 rfl rfl)
theorem dX4_surely_68 : decode cX4_surely 68 = .ok (.ifCond .ne 10, 3) := dk_154 0 10 (dk_at dksX4_surely_2 21 rfl rfl)
theorem dX4_surely_71 : decode cX4_surely 71 = .ok (.iconst 1, 1) := dk_4 (dk_at dksX4_surely_3 0 rfl rfl)
theorem dX4_surely_72 : decode cX4_surely 72 = .ok (.iload 6, 2) := dk_21 6 (dk_at dksX4_surely_3 1 rfl rfl)
theorem dX4_surely_74 : decode cX4_surely 74 = .ok (.ishl, 1) := dk_120 (dk_at dksX4_surely_3 3 rfl rfl)
theorem dX4_surely_75 : decode cX4_surely 75 = .ok (.goto 4, 3) := dk_167 0 4 (dk_at dksX4_surely_3 4 rfl rfl)
theorem dX4_surely_78 : decode cX4_surely 78 = .ok (.iconst 0, 1) := dk_3 (dk_at dksX4_surely_3 7 rfl rfl)
theorem dX4_surely_79 : decode cX4_surely 79 = .ok (.ior, 1) := dk_128 (dk_at dksX4_surely_3 8 rfl rfl)
theorem dX4_surely_80 : decode cX4_surely 80 = .ok (.istore 5, 2) := dk_54 5 (dk_at dksX4_surely_3 9 rfl rfl)
theorem dX4_surely_82 : decode cX4_surely 82 = .ok (.iinc 6 1, 3) := dk_132 6 1 (dk_at dksX4_surely_3 11 rfl rfl)
theorem dX4_surely_85 : decode cX4_surely 85 = .ok (.goto (-41), 3) := dk_167 255 215 (dk_at dksX4_surely_3 14 rfl rfl)
theorem dX4_surely_88 : decode cX4_surely 88 = .ok (.iload 5, 2) := dk_21 5 (dk_at dksX4_surely_3 17 rfl rfl)
theorem dX4_surely_90 : decode cX4_surely 90 = .ok (.ireturn, 1) := dk_172 (dk_at dksX4_surely_3 19 rfl rfl)
abbrev cX4_both : ByteArray := prog_16_method_96_code
def yX4_both : MethodName := ⟨RX4, "both", "(IIII)I"⟩
def dkwX4_both_5 : List UInt8 := [167, 0, 4, 3, 96, 54, 6, 132, 7, 1, 167, 255, 204, 21, 6, 172]
abbrev dktX4_both_5 : List UInt8 := dkwX4_both_5 ++ []
def dkwX4_both_4 : List UInt8 := [153, 0, 27, 42, 180, 0, 48, 16, 36, 27, 21, 4, 100, 104, 21, 7, 96, 47, 9, 148, 158, 0, 7, 4]
abbrev dktX4_both_4 : List UInt8 := dkwX4_both_4 ++ dktX4_both_5
def dkwX4_both_3 : List UInt8 := [3, 54, 6, 3, 54, 7, 21, 7, 42, 182, 1, 58, 162, 0, 49, 21, 6, 42, 180, 0, 52, 21, 7, 51]
abbrev dktX4_both_3 : List UInt8 := dkwX4_both_3 ++ dktX4_both_4
def dkwX4_both_2 : List UInt8 := [182, 1, 104, 3, 54, 6, 21, 6, 21, 4, 162, 0, 14, 42, 3, 182, 1, 107, 132, 6, 1, 167, 255, 241]
abbrev dktX4_both_2 : List UInt8 := dkwX4_both_2 ++ dktX4_both_3
def dkwX4_both_1 : List UInt8 := [133, 9, 27, 133, 184, 0, 142, 154, 0, 6, 16, 253, 172, 42, 27, 28, 29, 2, 182, 1, 100, 88, 42]
abbrev dktX4_both_1 : List UInt8 := dkwX4_both_1 ++ dktX4_both_2
def dkwX4_both_0 : List UInt8 := [42, 3, 181, 0, 1, 42, 27, 28, 29, 182, 1, 97, 54, 5, 21, 5, 153, 0, 6, 21, 5, 172, 21, 4]
abbrev dktX4_both_0 : List UInt8 := dkwX4_both_0 ++ dktX4_both_1
theorem dksX4_both_0 : cX4_both.data.toList.drop 0 = dktX4_both_0 := by decide +kernel
theorem dksX4_both_1 : cX4_both.data.toList.drop 24 = dktX4_both_1 := dk_seg dksX4_both_0 24 rfl rfl
theorem dksX4_both_2 : cX4_both.data.toList.drop 47 = dktX4_both_2 := dk_seg dksX4_both_1 23 rfl rfl
theorem dksX4_both_3 : cX4_both.data.toList.drop 71 = dktX4_both_3 := dk_seg dksX4_both_2 24 rfl rfl
theorem dksX4_both_4 : cX4_both.data.toList.drop 95 = dktX4_both_4 := dk_seg dksX4_both_3 24 rfl rfl
theorem dksX4_both_5 : cX4_both.data.toList.drop 119 = dktX4_both_5 := dk_seg dksX4_both_4 24 rfl rfl
theorem dX4_both_0 : decode cX4_both 0 = .ok (.aload_n 0, 1) := dk_42 (dk_at dksX4_both_0 0 rfl rfl)
theorem dX4_both_1 : decode cX4_both 1 = .ok (.iconst 0, 1) := dk_3 (dk_at dksX4_both_0 1 rfl rfl)
theorem dX4_both_2 : decode cX4_both 2 = .ok (.putfield 1, 3) := dk_181 0 1 (dk_at dksX4_both_0 2 rfl rfl)
theorem dX4_both_5 : decode cX4_both 5 = .ok (.aload_n 0, 1) := dk_42 (dk_at dksX4_both_0 5 rfl rfl)
theorem dX4_both_6 : decode cX4_both 6 = .ok (.iload_n 1, 1) := dk_27 (dk_at dksX4_both_0 6 rfl rfl)
theorem dX4_both_7 : decode cX4_both 7 = .ok (.iload_n 2, 1) := dk_28 (dk_at dksX4_both_0 7 rfl rfl)
theorem dX4_both_8 : decode cX4_both 8 = .ok (.iload_n 3, 1) := dk_29 (dk_at dksX4_both_0 8 rfl rfl)
theorem dX4_both_9 : decode cX4_both 9 = .ok (.invokevirtual 353, 3) := dk_182 1 97 (dk_at dksX4_both_0 9 rfl rfl)
theorem dX4_both_12 : decode cX4_both 12 = .ok (.istore 5, 2) := dk_54 5 (dk_at dksX4_both_0 12 rfl rfl)
theorem dX4_both_14 : decode cX4_both 14 = .ok (.iload 5, 2) := dk_21 5 (dk_at dksX4_both_0 14 rfl rfl)
theorem dX4_both_16 : decode cX4_both 16 = .ok (.ifCond .eq 6, 3) := dk_153 0 6 (dk_at dksX4_both_0 16 rfl rfl)
theorem dX4_both_19 : decode cX4_both 19 = .ok (.iload 5, 2) := dk_21 5 (dk_at dksX4_both_0 19 rfl rfl)
theorem dX4_both_21 : decode cX4_both 21 = .ok (.ireturn, 1) := dk_172 (dk_at dksX4_both_0 21 rfl rfl)
theorem dX4_both_22 : decode cX4_both 22 = .ok (.iload 4, 2) := dk_21 4 (dk_at dksX4_both_0 22 rfl rfl)
theorem dX4_both_24 : decode cX4_both 24 = .ok (.i2l, 1) := dk_133 (dk_at dksX4_both_1 0 rfl rfl)
theorem dX4_both_25 : decode cX4_both 25 = .ok (.lconst 0, 1) := dk_9 (dk_at dksX4_both_1 1 rfl rfl)
theorem dX4_both_26 : decode cX4_both 26 = .ok (.iload_n 1, 1) := dk_27 (dk_at dksX4_both_1 2 rfl rfl)
theorem dX4_both_27 : decode cX4_both 27 = .ok (.i2l, 1) := dk_133 (dk_at dksX4_both_1 3 rfl rfl)
theorem dX4_both_28 : decode cX4_both 28 = .ok (.invokestatic 142, 3) := dk_184 0 142 (dk_at dksX4_both_1 4 rfl rfl)
theorem dX4_both_31 : decode cX4_both 31 = .ok (.ifCond .ne 6, 3) := dk_154 0 6 (dk_at dksX4_both_1 7 rfl rfl)
theorem dX4_both_34 : decode cX4_both 34 = .ok (.bipush (-3), 2) := dk_16 253 (dk_at dksX4_both_1 10 rfl rfl)
theorem dX4_both_36 : decode cX4_both 36 = .ok (.ireturn, 1) := dk_172 (dk_at dksX4_both_1 12 rfl rfl)
theorem dX4_both_37 : decode cX4_both 37 = .ok (.aload_n 0, 1) := dk_42 (dk_at dksX4_both_1 13 rfl rfl)
theorem dX4_both_38 : decode cX4_both 38 = .ok (.iload_n 1, 1) := dk_27 (dk_at dksX4_both_1 14 rfl rfl)
theorem dX4_both_39 : decode cX4_both 39 = .ok (.iload_n 2, 1) := dk_28 (dk_at dksX4_both_1 15 rfl rfl)
theorem dX4_both_40 : decode cX4_both 40 = .ok (.iload_n 3, 1) := dk_29 (dk_at dksX4_both_1 16 rfl rfl)
theorem dX4_both_41 : decode cX4_both 41 = .ok (.iconst (-1), 1) := dk_2 (dk_at dksX4_both_1 17 rfl rfl)
theorem dX4_both_42 : decode cX4_both 42 = .ok (.invokevirtual 356, 3) := dk_182 1 100 (dk_at dksX4_both_1 18 rfl rfl)
theorem dX4_both_45 : decode cX4_both 45 = .ok (.pop2, 1) := dk_88 (dk_at dksX4_both_1 21 rfl rfl)
theorem dX4_both_46 : decode cX4_both 46 = .ok (.aload_n 0, 1) := dk_42 (dk_at dksX4_both_1 22 rfl rfl)
theorem dX4_both_47 : decode cX4_both 47 = .ok (.invokevirtual 360, 3) := dk_182 1 104 (dk_at dksX4_both_2 0 rfl rfl)
theorem dX4_both_50 : decode cX4_both 50 = .ok (.iconst 0, 1) := dk_3 (dk_at dksX4_both_2 3 rfl rfl)
theorem dX4_both_51 : decode cX4_both 51 = .ok (.istore 6, 2) := dk_54 6 (dk_at dksX4_both_2 4 rfl rfl)
theorem dX4_both_53 : decode cX4_both 53 = .ok (.iload 6, 2) := dk_21 6 (dk_at dksX4_both_2 6 rfl rfl)
theorem dX4_both_55 : decode cX4_both 55 = .ok (.iload 4, 2) := dk_21 4 (dk_at dksX4_both_2 8 rfl rfl)
theorem dX4_both_57 : decode cX4_both 57 = .ok (.if_icmp .ge 14, 3) := dk_162 0 14 (dk_at dksX4_both_2 10 rfl rfl)
theorem dX4_both_60 : decode cX4_both 60 = .ok (.aload_n 0, 1) := dk_42 (dk_at dksX4_both_2 13 rfl rfl)
theorem dX4_both_61 : decode cX4_both 61 = .ok (.iconst 0, 1) := dk_3 (dk_at dksX4_both_2 14 rfl rfl)
theorem dX4_both_62 : decode cX4_both 62 = .ok (.invokevirtual 363, 3) := dk_182 1 107 (dk_at dksX4_both_2 15 rfl rfl)
theorem dX4_both_65 : decode cX4_both 65 = .ok (.iinc 6 1, 3) := dk_132 6 1 (dk_at dksX4_both_2 18 rfl rfl)
theorem dX4_both_68 : decode cX4_both 68 = .ok (.goto (-15), 3) := dk_167 255 241 (dk_at dksX4_both_2 21 rfl rfl)
theorem dX4_both_71 : decode cX4_both 71 = .ok (.iconst 0, 1) := dk_3 (dk_at dksX4_both_3 0 rfl rfl)
theorem dX4_both_72 : decode cX4_both 72 = .ok (.istore 6, 2) := dk_54 6 (dk_at dksX4_both_3 1 rfl rfl)
theorem dX4_both_74 : decode cX4_both 74 = .ok (.iconst 0, 1) := dk_3 (dk_at dksX4_both_3 3 rfl rfl)
theorem dX4_both_75 : decode cX4_both 75 = .ok (.istore 7, 2) := dk_54 7 (dk_at dksX4_both_3 4 rfl rfl)
theorem dX4_both_77 : decode cX4_both 77 = .ok (.iload 7, 2) := dk_21 7 (dk_at dksX4_both_3 6 rfl rfl)
theorem dX4_both_79 : decode cX4_both 79 = .ok (.aload_n 0, 1) := dk_42 (dk_at dksX4_both_3 8 rfl rfl)
theorem dX4_both_80 : decode cX4_both 80 = .ok (.invokevirtual 314, 3) := dk_182 1 58 (dk_at dksX4_both_3 9 rfl rfl)
theorem dX4_both_83 : decode cX4_both 83 = .ok (.if_icmp .ge 49, 3) := dk_162 0 49 (dk_at dksX4_both_3 12 rfl rfl)
theorem dX4_both_86 : decode cX4_both 86 = .ok (.iload 6, 2) := dk_21 6 (dk_at dksX4_both_3 15 rfl rfl)
theorem dX4_both_88 : decode cX4_both 88 = .ok (.aload_n 0, 1) := dk_42 (dk_at dksX4_both_3 17 rfl rfl)
theorem dX4_both_89 : decode cX4_both 89 = .ok (.getfield 52, 3) := dk_180 0 52 (dk_at dksX4_both_3 18 rfl rfl)
theorem dX4_both_92 : decode cX4_both 92 = .ok (.iload 7, 2) := dk_21 7 (dk_at dksX4_both_3 21 rfl rfl)
theorem dX4_both_94 : decode cX4_both 94 = .ok (.baload, 1) := dk_51 (dk_at dksX4_both_3 23 rfl rfl)
theorem dX4_both_95 : decode cX4_both 95 = .ok (.ifCond .eq 27, 3) := dk_153 0 27 (dk_at dksX4_both_4 0 rfl rfl)
theorem dX4_both_98 : decode cX4_both 98 = .ok (.aload_n 0, 1) := dk_42 (dk_at dksX4_both_4 3 rfl rfl)
theorem dX4_both_99 : decode cX4_both 99 = .ok (.getfield 48, 3) := dk_180 0 48 (dk_at dksX4_both_4 4 rfl rfl)
theorem dX4_both_102 : decode cX4_both 102 = .ok (.bipush 36, 2) := dk_16 36 (dk_at dksX4_both_4 7 rfl rfl)
theorem dX4_both_104 : decode cX4_both 104 = .ok (.iload_n 1, 1) := dk_27 (dk_at dksX4_both_4 9 rfl rfl)
theorem dX4_both_105 : decode cX4_both 105 = .ok (.iload 4, 2) := dk_21 4 (dk_at dksX4_both_4 10 rfl rfl)
theorem dX4_both_107 : decode cX4_both 107 = .ok (.isub, 1) := dk_100 (dk_at dksX4_both_4 12 rfl rfl)
theorem dX4_both_108 : decode cX4_both 108 = .ok (.imul, 1) := dk_104 (dk_at dksX4_both_4 13 rfl rfl)
theorem dX4_both_109 : decode cX4_both 109 = .ok (.iload 7, 2) := dk_21 7 (dk_at dksX4_both_4 14 rfl rfl)
theorem dX4_both_111 : decode cX4_both 111 = .ok (.iadd, 1) := dk_96 (dk_at dksX4_both_4 16 rfl rfl)
theorem dX4_both_112 : decode cX4_both 112 = .ok (.laload, 1) := dk_47 (dk_at dksX4_both_4 17 rfl rfl)
theorem dX4_both_113 : decode cX4_both 113 = .ok (.lconst 0, 1) := dk_9 (dk_at dksX4_both_4 18 rfl rfl)
theorem dX4_both_114 : decode cX4_both 114 = .ok (.lcmp, 1) := dk_148 (dk_at dksX4_both_4 19 rfl rfl)
theorem dX4_both_115 : decode cX4_both 115 = .ok (.ifCond .le 7, 3) := dk_158 0 7 (dk_at dksX4_both_4 20 rfl rfl)
theorem dX4_both_118 : decode cX4_both 118 = .ok (.iconst 1, 1) := dk_4 (dk_at dksX4_both_4 23 rfl rfl)
theorem dX4_both_119 : decode cX4_both 119 = .ok (.goto 4, 3) := dk_167 0 4 (dk_at dksX4_both_5 0 rfl rfl)
theorem dX4_both_122 : decode cX4_both 122 = .ok (.iconst 0, 1) := dk_3 (dk_at dksX4_both_5 3 rfl rfl)
theorem dX4_both_123 : decode cX4_both 123 = .ok (.iadd, 1) := dk_96 (dk_at dksX4_both_5 4 rfl rfl)
theorem dX4_both_124 : decode cX4_both 124 = .ok (.istore 6, 2) := dk_54 6 (dk_at dksX4_both_5 5 rfl rfl)
theorem dX4_both_126 : decode cX4_both 126 = .ok (.iinc 7 1, 3) := dk_132 7 1 (dk_at dksX4_both_5 7 rfl rfl)
theorem dX4_both_129 : decode cX4_both 129 = .ok (.goto (-52), 3) := dk_167 255 204 (dk_at dksX4_both_5 10 rfl rfl)
theorem dX4_both_132 : decode cX4_both 132 = .ok (.iload 6, 2) := dk_21 6 (dk_at dksX4_both_5 13 rfl rfl)
theorem dX4_both_134 : decode cX4_both 134 = .ok (.ireturn, 1) := dk_172 (dk_at dksX4_both_5 15 rfl rfl)
abbrev cX4_beginsCan : ByteArray := prog_16_method_94_code
def yX4_beginsCan : MethodName := ⟨RX4, "beginsCan", "()V"⟩
def dkwX4_beginsCan_1 : List UInt8 := [167, 0, 4, 3, 84, 42, 180, 0, 55, 27, 3, 84, 132, 1, 1, 167, 255, 221, 177]
abbrev dktX4_beginsCan_1 : List UInt8 := dkwX4_beginsCan_1 ++ []
def dkwX4_beginsCan_0 : List UInt8 := [3, 60, 27, 16, 36, 162, 0, 35, 42, 180, 0, 52, 27, 27, 42, 182, 0, 232, 160, 0, 7, 4]
abbrev dktX4_beginsCan_0 : List UInt8 := dkwX4_beginsCan_0 ++ dktX4_beginsCan_1
theorem dksX4_beginsCan_0 : cX4_beginsCan.data.toList.drop 0 = dktX4_beginsCan_0 := by decide +kernel
theorem dksX4_beginsCan_1 : cX4_beginsCan.data.toList.drop 22 = dktX4_beginsCan_1 := dk_seg dksX4_beginsCan_0 22 rfl rfl
theorem dX4_beginsCan_0 : decode cX4_beginsCan 0 = .ok (.iconst 0, 1) := dk_3 (dk_at dksX4_beginsCan_0 0 rfl rfl)
theorem dX4_beginsCan_1 : decode cX4_beginsCan 1 = .ok (.istore_n 1, 1) := dk_60 (dk_at dksX4_beginsCan_0 1 rfl rfl)
theorem dX4_beginsCan_2 : decode cX4_beginsCan 2 = .ok (.iload_n 1, 1) := dk_27 (dk_at dksX4_beginsCan_0 2 rfl rfl)
theorem dX4_beginsCan_3 : decode cX4_beginsCan 3 = .ok (.bipush 36, 2) := dk_16 36 (dk_at dksX4_beginsCan_0 3 rfl rfl)
theorem dX4_beginsCan_5 : decode cX4_beginsCan 5 = .ok (.if_icmp .ge 35, 3) := dk_162 0 35 (dk_at dksX4_beginsCan_0 5 rfl rfl)
theorem dX4_beginsCan_8 : decode cX4_beginsCan 8 = .ok (.aload_n 0, 1) := dk_42 (dk_at dksX4_beginsCan_0 8 rfl rfl)
theorem dX4_beginsCan_9 : decode cX4_beginsCan 9 = .ok (.getfield 52, 3) := dk_180 0 52 (dk_at dksX4_beginsCan_0 9 rfl rfl)
theorem dX4_beginsCan_12 : decode cX4_beginsCan 12 = .ok (.iload_n 1, 1) := dk_27 (dk_at dksX4_beginsCan_0 12 rfl rfl)
theorem dX4_beginsCan_13 : decode cX4_beginsCan 13 = .ok (.iload_n 1, 1) := dk_27 (dk_at dksX4_beginsCan_0 13 rfl rfl)
theorem dX4_beginsCan_14 : decode cX4_beginsCan 14 = .ok (.aload_n 0, 1) := dk_42 (dk_at dksX4_beginsCan_0 14 rfl rfl)
theorem dX4_beginsCan_15 : decode cX4_beginsCan 15 = .ok (.invokevirtual 232, 3) := dk_182 0 232 (dk_at dksX4_beginsCan_0 15 rfl rfl)
theorem dX4_beginsCan_18 : decode cX4_beginsCan 18 = .ok (.if_icmp .ne 7, 3) := dk_160 0 7 (dk_at dksX4_beginsCan_0 18 rfl rfl)
theorem dX4_beginsCan_21 : decode cX4_beginsCan 21 = .ok (.iconst 1, 1) := dk_4 (dk_at dksX4_beginsCan_0 21 rfl rfl)
theorem dX4_beginsCan_22 : decode cX4_beginsCan 22 = .ok (.goto 4, 3) := dk_167 0 4 (dk_at dksX4_beginsCan_1 0 rfl rfl)
theorem dX4_beginsCan_25 : decode cX4_beginsCan 25 = .ok (.iconst 0, 1) := dk_3 (dk_at dksX4_beginsCan_1 3 rfl rfl)
theorem dX4_beginsCan_26 : decode cX4_beginsCan 26 = .ok (.bastore, 1) := dk_84 (dk_at dksX4_beginsCan_1 4 rfl rfl)
theorem dX4_beginsCan_27 : decode cX4_beginsCan 27 = .ok (.aload_n 0, 1) := dk_42 (dk_at dksX4_beginsCan_1 5 rfl rfl)
theorem dX4_beginsCan_28 : decode cX4_beginsCan 28 = .ok (.getfield 55, 3) := dk_180 0 55 (dk_at dksX4_beginsCan_1 6 rfl rfl)
theorem dX4_beginsCan_31 : decode cX4_beginsCan 31 = .ok (.iload_n 1, 1) := dk_27 (dk_at dksX4_beginsCan_1 9 rfl rfl)
theorem dX4_beginsCan_32 : decode cX4_beginsCan 32 = .ok (.iconst 0, 1) := dk_3 (dk_at dksX4_beginsCan_1 10 rfl rfl)
theorem dX4_beginsCan_33 : decode cX4_beginsCan 33 = .ok (.bastore, 1) := dk_84 (dk_at dksX4_beginsCan_1 11 rfl rfl)
theorem dX4_beginsCan_34 : decode cX4_beginsCan 34 = .ok (.iinc 1 1, 3) := dk_132 1 1 (dk_at dksX4_beginsCan_1 12 rfl rfl)
theorem dX4_beginsCan_37 : decode cX4_beginsCan 37 = .ok (.goto (-35), 3) := dk_167 255 221 (dk_at dksX4_beginsCan_1 15 rfl rfl)
theorem dX4_beginsCan_40 : decode cX4_beginsCan 40 = .ok (.return_, 1) := dk_177 (dk_at dksX4_beginsCan_1 18 rfl rfl)
abbrev cX4_goesCan : ByteArray := prog_16_method_95_code
def yX4_goesCan : MethodName := ⟨RX4, "goesCan", "(I)V"⟩
def dkwX4_goesCan_4 : List UInt8 := [180, 0, 55, 28, 51, 84, 42, 180, 0, 55, 28, 3, 84, 132, 2, 1, 167, 255, 228, 177]
abbrev dktX4_goesCan_4 : List UInt8 := dkwX4_goesCan_4 ++ []
def dkwX4_goesCan_3 : List UInt8 := [167, 255, 198, 132, 2, 1, 167, 255, 182, 3, 61, 28, 16, 36, 162, 0, 28, 42, 180, 0, 52, 28, 42]
abbrev dktX4_goesCan_3 : List UInt8 := dkwX4_goesCan_3 ++ dktX4_goesCan_4
def dkwX4_goesCan_2 : List UInt8 := [21, 4, 16, 6, 108, 184, 0, 224, 154, 0, 11, 42, 180, 0, 55, 21, 4, 4, 84, 132, 3, 1]
abbrev dktX4_goesCan_2 : List UInt8 := dkwX4_goesCan_2 ++ dktX4_goesCan_3
def dkwX4_goesCan_1 : List UInt8 := [153, 0, 49, 42, 180, 0, 39, 16, 8, 28, 104, 29, 96, 46, 54, 4, 21, 4, 2, 159, 0, 24, 27, 133]
abbrev dktX4_goesCan_1 : List UInt8 := dkwX4_goesCan_1 ++ dktX4_goesCan_2
def dkwX4_goesCan_0 : List UInt8 := [3, 61, 28, 42, 182, 1, 58, 162, 0, 72, 3, 62, 29, 16, 8, 162, 0, 58, 42, 180, 0, 52, 28, 51]
abbrev dktX4_goesCan_0 : List UInt8 := dkwX4_goesCan_0 ++ dktX4_goesCan_1
theorem dksX4_goesCan_0 : cX4_goesCan.data.toList.drop 0 = dktX4_goesCan_0 := by decide +kernel
theorem dksX4_goesCan_1 : cX4_goesCan.data.toList.drop 24 = dktX4_goesCan_1 := dk_seg dksX4_goesCan_0 24 rfl rfl
theorem dksX4_goesCan_2 : cX4_goesCan.data.toList.drop 48 = dktX4_goesCan_2 := dk_seg dksX4_goesCan_1 24 rfl rfl
theorem dksX4_goesCan_3 : cX4_goesCan.data.toList.drop 70 = dktX4_goesCan_3 := dk_seg dksX4_goesCan_2 22 rfl rfl
theorem dksX4_goesCan_4 : cX4_goesCan.data.toList.drop 93 = dktX4_goesCan_4 := dk_seg dksX4_goesCan_3 23 rfl rfl
theorem dX4_goesCan_0 : decode cX4_goesCan 0 = .ok (.iconst 0, 1) := dk_3 (dk_at dksX4_goesCan_0 0 rfl rfl)
theorem dX4_goesCan_1 : decode cX4_goesCan 1 = .ok (.istore_n 2, 1) := dk_61 (dk_at dksX4_goesCan_0 1 rfl rfl)
theorem dX4_goesCan_2 : decode cX4_goesCan 2 = .ok (.iload_n 2, 1) := dk_28 (dk_at dksX4_goesCan_0 2 rfl rfl)
theorem dX4_goesCan_3 : decode cX4_goesCan 3 = .ok (.aload_n 0, 1) := dk_42 (dk_at dksX4_goesCan_0 3 rfl rfl)
theorem dX4_goesCan_4 : decode cX4_goesCan 4 = .ok (.invokevirtual 314, 3) := dk_182 1 58 (dk_at dksX4_goesCan_0 4 rfl rfl)
theorem dX4_goesCan_7 : decode cX4_goesCan 7 = .ok (.if_icmp .ge 72, 3) := dk_162 0 72 (dk_at dksX4_goesCan_0 7 rfl rfl)
theorem dX4_goesCan_10 : decode cX4_goesCan 10 = .ok (.iconst 0, 1) := dk_3 (dk_at dksX4_goesCan_0 10 rfl rfl)
theorem dX4_goesCan_11 : decode cX4_goesCan 11 = .ok (.istore_n 3, 1) := dk_62 (dk_at dksX4_goesCan_0 11 rfl rfl)
theorem dX4_goesCan_12 : decode cX4_goesCan 12 = .ok (.iload_n 3, 1) := dk_29 (dk_at dksX4_goesCan_0 12 rfl rfl)
theorem dX4_goesCan_13 : decode cX4_goesCan 13 = .ok (.bipush 8, 2) := dk_16 8 (dk_at dksX4_goesCan_0 13 rfl rfl)
theorem dX4_goesCan_15 : decode cX4_goesCan 15 = .ok (.if_icmp .ge 58, 3) := dk_162 0 58 (dk_at dksX4_goesCan_0 15 rfl rfl)
theorem dX4_goesCan_18 : decode cX4_goesCan 18 = .ok (.aload_n 0, 1) := dk_42 (dk_at dksX4_goesCan_0 18 rfl rfl)
theorem dX4_goesCan_19 : decode cX4_goesCan 19 = .ok (.getfield 52, 3) := dk_180 0 52 (dk_at dksX4_goesCan_0 19 rfl rfl)
theorem dX4_goesCan_22 : decode cX4_goesCan 22 = .ok (.iload_n 2, 1) := dk_28 (dk_at dksX4_goesCan_0 22 rfl rfl)
theorem dX4_goesCan_23 : decode cX4_goesCan 23 = .ok (.baload, 1) := dk_51 (dk_at dksX4_goesCan_0 23 rfl rfl)
theorem dX4_goesCan_24 : decode cX4_goesCan 24 = .ok (.ifCond .eq 49, 3) := dk_153 0 49 (dk_at dksX4_goesCan_1 0 rfl rfl)
theorem dX4_goesCan_27 : decode cX4_goesCan 27 = .ok (.aload_n 0, 1) := dk_42 (dk_at dksX4_goesCan_1 3 rfl rfl)
theorem dX4_goesCan_28 : decode cX4_goesCan 28 = .ok (.getfield 39, 3) := dk_180 0 39 (dk_at dksX4_goesCan_1 4 rfl rfl)
theorem dX4_goesCan_31 : decode cX4_goesCan 31 = .ok (.bipush 8, 2) := dk_16 8 (dk_at dksX4_goesCan_1 7 rfl rfl)
theorem dX4_goesCan_33 : decode cX4_goesCan 33 = .ok (.iload_n 2, 1) := dk_28 (dk_at dksX4_goesCan_1 9 rfl rfl)
theorem dX4_goesCan_34 : decode cX4_goesCan 34 = .ok (.imul, 1) := dk_104 (dk_at dksX4_goesCan_1 10 rfl rfl)
theorem dX4_goesCan_35 : decode cX4_goesCan 35 = .ok (.iload_n 3, 1) := dk_29 (dk_at dksX4_goesCan_1 11 rfl rfl)
theorem dX4_goesCan_36 : decode cX4_goesCan 36 = .ok (.iadd, 1) := dk_96 (dk_at dksX4_goesCan_1 12 rfl rfl)
theorem dX4_goesCan_37 : decode cX4_goesCan 37 = .ok (.iaload, 1) := dk_46 (dk_at dksX4_goesCan_1 13 rfl rfl)
theorem dX4_goesCan_38 : decode cX4_goesCan 38 = .ok (.istore 4, 2) := dk_54 4 (dk_at dksX4_goesCan_1 14 rfl rfl)
theorem dX4_goesCan_40 : decode cX4_goesCan 40 = .ok (.iload 4, 2) := dk_21 4 (dk_at dksX4_goesCan_1 16 rfl rfl)
theorem dX4_goesCan_42 : decode cX4_goesCan 42 = .ok (.iconst (-1), 1) := dk_2 (dk_at dksX4_goesCan_1 18 rfl rfl)
theorem dX4_goesCan_43 : decode cX4_goesCan 43 = .ok (.if_icmp .eq 24, 3) := dk_159 0 24 (dk_at dksX4_goesCan_1 19 rfl rfl)
theorem dX4_goesCan_46 : decode cX4_goesCan 46 = .ok (.iload_n 1, 1) := dk_27 (dk_at dksX4_goesCan_1 22 rfl rfl)
theorem dX4_goesCan_47 : decode cX4_goesCan 47 = .ok (.i2l, 1) := dk_133 (dk_at dksX4_goesCan_1 23 rfl rfl)
theorem dX4_goesCan_48 : decode cX4_goesCan 48 = .ok (.iload 4, 2) := dk_21 4 (dk_at dksX4_goesCan_2 0 rfl rfl)
theorem dX4_goesCan_50 : decode cX4_goesCan 50 = .ok (.bipush 6, 2) := dk_16 6 (dk_at dksX4_goesCan_2 2 rfl rfl)
theorem dX4_goesCan_52 : decode cX4_goesCan 52 = .ok (.idiv, 1) := dk_108 (dk_at dksX4_goesCan_2 4 rfl rfl)
theorem dX4_goesCan_53 : decode cX4_goesCan 53 = .ok (.invokestatic 224, 3) := dk_184 0 224 (dk_at dksX4_goesCan_2 5 rfl rfl)
theorem dX4_goesCan_56 : decode cX4_goesCan 56 = .ok (.ifCond .ne 11, 3) := dk_154 0 11 (dk_at dksX4_goesCan_2 8 rfl rfl)
theorem dX4_goesCan_59 : decode cX4_goesCan 59 = .ok (.aload_n 0, 1) := dk_42 (dk_at dksX4_goesCan_2 11 rfl rfl)
theorem dX4_goesCan_60 : decode cX4_goesCan 60 = .ok (.getfield 55, 3) := dk_180 0 55 (dk_at dksX4_goesCan_2 12 rfl rfl)
theorem dX4_goesCan_63 : decode cX4_goesCan 63 = .ok (.iload 4, 2) := dk_21 4 (dk_at dksX4_goesCan_2 15 rfl rfl)
theorem dX4_goesCan_65 : decode cX4_goesCan 65 = .ok (.iconst 1, 1) := dk_4 (dk_at dksX4_goesCan_2 17 rfl rfl)
theorem dX4_goesCan_66 : decode cX4_goesCan 66 = .ok (.bastore, 1) := dk_84 (dk_at dksX4_goesCan_2 18 rfl rfl)
theorem dX4_goesCan_67 : decode cX4_goesCan 67 = .ok (.iinc 3 1, 3) := dk_132 3 1 (dk_at dksX4_goesCan_2 19 rfl rfl)
theorem dX4_goesCan_70 : decode cX4_goesCan 70 = .ok (.goto (-58), 3) := dk_167 255 198 (dk_at dksX4_goesCan_3 0 rfl rfl)
theorem dX4_goesCan_73 : decode cX4_goesCan 73 = .ok (.iinc 2 1, 3) := dk_132 2 1 (dk_at dksX4_goesCan_3 3 rfl rfl)
theorem dX4_goesCan_76 : decode cX4_goesCan 76 = .ok (.goto (-74), 3) := dk_167 255 182 (dk_at dksX4_goesCan_3 6 rfl rfl)
theorem dX4_goesCan_79 : decode cX4_goesCan 79 = .ok (.iconst 0, 1) := dk_3 (dk_at dksX4_goesCan_3 9 rfl rfl)
theorem dX4_goesCan_80 : decode cX4_goesCan 80 = .ok (.istore_n 2, 1) := dk_61 (dk_at dksX4_goesCan_3 10 rfl rfl)
theorem dX4_goesCan_81 : decode cX4_goesCan 81 = .ok (.iload_n 2, 1) := dk_28 (dk_at dksX4_goesCan_3 11 rfl rfl)
theorem dX4_goesCan_82 : decode cX4_goesCan 82 = .ok (.bipush 36, 2) := dk_16 36 (dk_at dksX4_goesCan_3 12 rfl rfl)
theorem dX4_goesCan_84 : decode cX4_goesCan 84 = .ok (.if_icmp .ge 28, 3) := dk_162 0 28 (dk_at dksX4_goesCan_3 14 rfl rfl)
theorem dX4_goesCan_87 : decode cX4_goesCan 87 = .ok (.aload_n 0, 1) := dk_42 (dk_at dksX4_goesCan_3 17 rfl rfl)
theorem dX4_goesCan_88 : decode cX4_goesCan 88 = .ok (.getfield 52, 3) := dk_180 0 52 (dk_at dksX4_goesCan_3 18 rfl rfl)
theorem dX4_goesCan_91 : decode cX4_goesCan 91 = .ok (.iload_n 2, 1) := dk_28 (dk_at dksX4_goesCan_3 21 rfl rfl)
theorem dX4_goesCan_92 : decode cX4_goesCan 92 = .ok (.aload_n 0, 1) := dk_42 (dk_at dksX4_goesCan_3 22 rfl rfl)
theorem dX4_goesCan_93 : decode cX4_goesCan 93 = .ok (.getfield 55, 3) := dk_180 0 55 (dk_at dksX4_goesCan_4 0 rfl rfl)
theorem dX4_goesCan_96 : decode cX4_goesCan 96 = .ok (.iload_n 2, 1) := dk_28 (dk_at dksX4_goesCan_4 3 rfl rfl)
theorem dX4_goesCan_97 : decode cX4_goesCan 97 = .ok (.baload, 1) := dk_51 (dk_at dksX4_goesCan_4 4 rfl rfl)
theorem dX4_goesCan_98 : decode cX4_goesCan 98 = .ok (.bastore, 1) := dk_84 (dk_at dksX4_goesCan_4 5 rfl rfl)
theorem dX4_goesCan_99 : decode cX4_goesCan 99 = .ok (.aload_n 0, 1) := dk_42 (dk_at dksX4_goesCan_4 6 rfl rfl)
theorem dX4_goesCan_100 : decode cX4_goesCan 100 = .ok (.getfield 55, 3) := dk_180 0 55 (dk_at dksX4_goesCan_4 7 rfl rfl)
theorem dX4_goesCan_103 : decode cX4_goesCan 103 = .ok (.iload_n 2, 1) := dk_28 (dk_at dksX4_goesCan_4 10 rfl rfl)
theorem dX4_goesCan_104 : decode cX4_goesCan 104 = .ok (.iconst 0, 1) := dk_3 (dk_at dksX4_goesCan_4 11 rfl rfl)
theorem dX4_goesCan_105 : decode cX4_goesCan 105 = .ok (.bastore, 1) := dk_84 (dk_at dksX4_goesCan_4 12 rfl rfl)
theorem dX4_goesCan_106 : decode cX4_goesCan 106 = .ok (.iinc 2 1, 3) := dk_132 2 1 (dk_at dksX4_goesCan_4 13 rfl rfl)
theorem dX4_goesCan_109 : decode cX4_goesCan 109 = .ok (.goto (-28), 3) := dk_167 255 228 (dk_at dksX4_goesCan_4 16 rfl rfl)
theorem dX4_goesCan_112 : decode cX4_goesCan 112 = .ok (.return_, 1) := dk_177 (dk_at dksX4_goesCan_4 19 rfl rfl)
abbrev cX4_ropes : ByteArray := prog_16_method_97_code
def yX4_ropes : MethodName := ⟨RX4, "ropes", "(III)I"⟩
def dkwX4_ropes_6 : List UInt8 := [21, 4, 167, 0, 8, 21, 4, 184, 1, 110, 172]
abbrev dktX4_ropes_6 : List UInt8 := dkwX4_ropes_6 ++ []
def dkwX4_ropes_5 : List UInt8 := [162, 0, 7, 21, 5, 54, 4, 132, 5, 1, 167, 255, 179, 21, 4, 2, 159, 0, 8, 29, 4, 160, 0, 8]
abbrev dktX4_ropes_5 : List UInt8 := dkwX4_ropes_5 ++ dktX4_ropes_6
def dkwX4_ropes_4 : List UInt8 := [167, 0, 29, 42, 27, 28, 42, 180, 0, 13, 16, 44, 46, 21, 5, 128, 182, 1, 75, 19, 1, 57]
abbrev dktX4_ropes_4 : List UInt8 := dkwX4_ropes_4 ++ dktX4_ropes_5
def dkwX4_ropes_3 : List UInt8 := [154, 0, 51, 21, 4, 2, 159, 0, 19, 21, 5, 184, 1, 110, 21, 4, 184, 1, 110, 161, 0, 6]
abbrev dktX4_ropes_3 : List UInt8 := dkwX4_ropes_3 ++ dktX4_ropes_4
def dkwX4_ropes_2 : List UInt8 := [21, 5, 4, 42, 180, 0, 13, 5, 46, 120, 162, 0, 70, 21, 5, 42, 180, 0, 13, 16, 44, 46, 126]
abbrev dktX4_ropes_2 : List UInt8 := dkwX4_ropes_2 ++ dktX4_ropes_3
def dkwX4_ropes_1 : List UInt8 := [16, 254, 172, 28, 133, 9, 20, 1, 70, 184, 0, 142, 154, 0, 6, 16, 253, 172, 2, 54, 4, 3, 54, 5]
abbrev dktX4_ropes_1 : List UInt8 := dkwX4_ropes_1 ++ dktX4_ropes_2
def dkwX4_ropes_0 : List UInt8 := [42, 3, 181, 0, 1, 42, 27, 133, 182, 1, 5, 153, 0, 13, 29, 133, 9, 10, 184, 0, 142, 154, 0, 6]
abbrev dktX4_ropes_0 : List UInt8 := dkwX4_ropes_0 ++ dktX4_ropes_1
theorem dksX4_ropes_0 : cX4_ropes.data.toList.drop 0 = dktX4_ropes_0 := by decide +kernel
theorem dksX4_ropes_1 : cX4_ropes.data.toList.drop 24 = dktX4_ropes_1 := dk_seg dksX4_ropes_0 24 rfl rfl
theorem dksX4_ropes_2 : cX4_ropes.data.toList.drop 48 = dktX4_ropes_2 := dk_seg dksX4_ropes_1 24 rfl rfl
theorem dksX4_ropes_3 : cX4_ropes.data.toList.drop 71 = dktX4_ropes_3 := dk_seg dksX4_ropes_2 23 rfl rfl
theorem dksX4_ropes_4 : cX4_ropes.data.toList.drop 93 = dktX4_ropes_4 := dk_seg dksX4_ropes_3 22 rfl rfl
theorem dksX4_ropes_5 : cX4_ropes.data.toList.drop 115 = dktX4_ropes_5 := dk_seg dksX4_ropes_4 22 rfl rfl
theorem dksX4_ropes_6 : cX4_ropes.data.toList.drop 139 = dktX4_ropes_6 := dk_seg dksX4_ropes_5 24 rfl rfl
theorem dX4_ropes_0 : decode cX4_ropes 0 = .ok (.aload_n 0, 1) := dk_42 (dk_at dksX4_ropes_0 0 rfl rfl)
theorem dX4_ropes_1 : decode cX4_ropes 1 = .ok (.iconst 0, 1) := dk_3 (dk_at dksX4_ropes_0 1 rfl rfl)
theorem dX4_ropes_2 : decode cX4_ropes 2 = .ok (.putfield 1, 3) := dk_181 0 1 (dk_at dksX4_ropes_0 2 rfl rfl)
theorem dX4_ropes_5 : decode cX4_ropes 5 = .ok (.aload_n 0, 1) := dk_42 (dk_at dksX4_ropes_0 5 rfl rfl)
theorem dX4_ropes_6 : decode cX4_ropes 6 = .ok (.iload_n 1, 1) := dk_27 (dk_at dksX4_ropes_0 6 rfl rfl)
theorem dX4_ropes_7 : decode cX4_ropes 7 = .ok (.i2l, 1) := dk_133 (dk_at dksX4_ropes_0 7 rfl rfl)
theorem dX4_ropes_8 : decode cX4_ropes 8 = .ok (.invokevirtual 261, 3) := dk_182 1 5 (dk_at dksX4_ropes_0 8 rfl rfl)
theorem dX4_ropes_11 : decode cX4_ropes 11 = .ok (.ifCond .eq 13, 3) := dk_153 0 13 (dk_at dksX4_ropes_0 11 rfl rfl)
theorem dX4_ropes_14 : decode cX4_ropes 14 = .ok (.iload_n 3, 1) := dk_29 (dk_at dksX4_ropes_0 14 rfl rfl)
theorem dX4_ropes_15 : decode cX4_ropes 15 = .ok (.i2l, 1) := dk_133 (dk_at dksX4_ropes_0 15 rfl rfl)
theorem dX4_ropes_16 : decode cX4_ropes 16 = .ok (.lconst 0, 1) := dk_9 (dk_at dksX4_ropes_0 16 rfl rfl)
theorem dX4_ropes_17 : decode cX4_ropes 17 = .ok (.lconst 1, 1) := dk_10 (dk_at dksX4_ropes_0 17 rfl rfl)
theorem dX4_ropes_18 : decode cX4_ropes 18 = .ok (.invokestatic 142, 3) := dk_184 0 142 (dk_at dksX4_ropes_0 18 rfl rfl)
theorem dX4_ropes_21 : decode cX4_ropes 21 = .ok (.ifCond .ne 6, 3) := dk_154 0 6 (dk_at dksX4_ropes_0 21 rfl rfl)
theorem dX4_ropes_24 : decode cX4_ropes 24 = .ok (.bipush (-2), 2) := dk_16 254 (dk_at dksX4_ropes_1 0 rfl rfl)
theorem dX4_ropes_26 : decode cX4_ropes 26 = .ok (.ireturn, 1) := dk_172 (dk_at dksX4_ropes_1 2 rfl rfl)
theorem dX4_ropes_27 : decode cX4_ropes 27 = .ok (.iload_n 2, 1) := dk_28 (dk_at dksX4_ropes_1 3 rfl rfl)
theorem dX4_ropes_28 : decode cX4_ropes 28 = .ok (.i2l, 1) := dk_133 (dk_at dksX4_ropes_1 4 rfl rfl)
theorem dX4_ropes_29 : decode cX4_ropes 29 = .ok (.lconst 0, 1) := dk_9 (dk_at dksX4_ropes_1 5 rfl rfl)
theorem dX4_ropes_30 : decode cX4_ropes 30 = .ok (.ldc2_w 326, 3) := dk_20 1 70 (dk_at dksX4_ropes_1 6 rfl rfl)
theorem dX4_ropes_33 : decode cX4_ropes 33 = .ok (.invokestatic 142, 3) := dk_184 0 142 (dk_at dksX4_ropes_1 9 rfl rfl)
theorem dX4_ropes_36 : decode cX4_ropes 36 = .ok (.ifCond .ne 6, 3) := dk_154 0 6 (dk_at dksX4_ropes_1 12 rfl rfl)
theorem dX4_ropes_39 : decode cX4_ropes 39 = .ok (.bipush (-3), 2) := dk_16 253 (dk_at dksX4_ropes_1 15 rfl rfl)
theorem dX4_ropes_41 : decode cX4_ropes 41 = .ok (.ireturn, 1) := dk_172 (dk_at dksX4_ropes_1 17 rfl rfl)
theorem dX4_ropes_42 : decode cX4_ropes 42 = .ok (.iconst (-1), 1) := dk_2 (dk_at dksX4_ropes_1 18 rfl rfl)
theorem dX4_ropes_43 : decode cX4_ropes 43 = .ok (.istore 4, 2) := dk_54 4 (dk_at dksX4_ropes_1 19 rfl rfl)
theorem dX4_ropes_45 : decode cX4_ropes 45 = .ok (.iconst 0, 1) := dk_3 (dk_at dksX4_ropes_1 21 rfl rfl)
theorem dX4_ropes_46 : decode cX4_ropes 46 = .ok (.istore 5, 2) := dk_54 5 (dk_at dksX4_ropes_1 22 rfl rfl)
theorem dX4_ropes_48 : decode cX4_ropes 48 = .ok (.iload 5, 2) := dk_21 5 (dk_at dksX4_ropes_2 0 rfl rfl)
theorem dX4_ropes_50 : decode cX4_ropes 50 = .ok (.iconst 1, 1) := dk_4 (dk_at dksX4_ropes_2 2 rfl rfl)
theorem dX4_ropes_51 : decode cX4_ropes 51 = .ok (.aload_n 0, 1) := dk_42 (dk_at dksX4_ropes_2 3 rfl rfl)
theorem dX4_ropes_52 : decode cX4_ropes 52 = .ok (.getfield 13, 3) := dk_180 0 13 (dk_at dksX4_ropes_2 4 rfl rfl)
theorem dX4_ropes_55 : decode cX4_ropes 55 = .ok (.iconst 2, 1) := dk_5 (dk_at dksX4_ropes_2 7 rfl rfl)
theorem dX4_ropes_56 : decode cX4_ropes 56 = .ok (.iaload, 1) := dk_46 (dk_at dksX4_ropes_2 8 rfl rfl)
theorem dX4_ropes_57 : decode cX4_ropes 57 = .ok (.ishl, 1) := dk_120 (dk_at dksX4_ropes_2 9 rfl rfl)
theorem dX4_ropes_58 : decode cX4_ropes 58 = .ok (.if_icmp .ge 70, 3) := dk_162 0 70 (dk_at dksX4_ropes_2 10 rfl rfl)
theorem dX4_ropes_61 : decode cX4_ropes 61 = .ok (.iload 5, 2) := dk_21 5 (dk_at dksX4_ropes_2 13 rfl rfl)
theorem dX4_ropes_63 : decode cX4_ropes 63 = .ok (.aload_n 0, 1) := dk_42 (dk_at dksX4_ropes_2 15 rfl rfl)
theorem dX4_ropes_64 : decode cX4_ropes 64 = .ok (.getfield 13, 3) := dk_180 0 13 (dk_at dksX4_ropes_2 16 rfl rfl)
theorem dX4_ropes_67 : decode cX4_ropes 67 = .ok (.bipush 44, 2) := dk_16 44 (dk_at dksX4_ropes_2 19 rfl rfl)
theorem dX4_ropes_69 : decode cX4_ropes 69 = .ok (.iaload, 1) := dk_46 (dk_at dksX4_ropes_2 21 rfl rfl)
theorem dX4_ropes_70 : decode cX4_ropes 70 = .ok (.iand, 1) := dk_126 (dk_at dksX4_ropes_2 22 rfl rfl)
theorem dX4_ropes_71 : decode cX4_ropes 71 = .ok (.ifCond .ne 51, 3) := dk_154 0 51 (dk_at dksX4_ropes_3 0 rfl rfl)
theorem dX4_ropes_74 : decode cX4_ropes 74 = .ok (.iload 4, 2) := dk_21 4 (dk_at dksX4_ropes_3 3 rfl rfl)
theorem dX4_ropes_76 : decode cX4_ropes 76 = .ok (.iconst (-1), 1) := dk_2 (dk_at dksX4_ropes_3 5 rfl rfl)
theorem dX4_ropes_77 : decode cX4_ropes 77 = .ok (.if_icmp .eq 19, 3) := dk_159 0 19 (dk_at dksX4_ropes_3 6 rfl rfl)
theorem dX4_ropes_80 : decode cX4_ropes 80 = .ok (.iload 5, 2) := dk_21 5 (dk_at dksX4_ropes_3 9 rfl rfl)
theorem dX4_ropes_82 : decode cX4_ropes 82 = .ok (.invokestatic 366, 3) := dk_184 1 110 (dk_at dksX4_ropes_3 11 rfl rfl)
theorem dX4_ropes_85 : decode cX4_ropes 85 = .ok (.iload 4, 2) := dk_21 4 (dk_at dksX4_ropes_3 14 rfl rfl)
theorem dX4_ropes_87 : decode cX4_ropes 87 = .ok (.invokestatic 366, 3) := dk_184 1 110 (dk_at dksX4_ropes_3 16 rfl rfl)
theorem dX4_ropes_90 : decode cX4_ropes 90 = .ok (.if_icmp .lt 6, 3) := dk_161 0 6 (dk_at dksX4_ropes_3 19 rfl rfl)
theorem dX4_ropes_93 : decode cX4_ropes 93 = .ok (.goto 29, 3) := dk_167 0 29 (dk_at dksX4_ropes_4 0 rfl rfl)
theorem dX4_ropes_96 : decode cX4_ropes 96 = .ok (.aload_n 0, 1) := dk_42 (dk_at dksX4_ropes_4 3 rfl rfl)
theorem dX4_ropes_97 : decode cX4_ropes 97 = .ok (.iload_n 1, 1) := dk_27 (dk_at dksX4_ropes_4 4 rfl rfl)
theorem dX4_ropes_98 : decode cX4_ropes 98 = .ok (.iload_n 2, 1) := dk_28 (dk_at dksX4_ropes_4 5 rfl rfl)
theorem dX4_ropes_99 : decode cX4_ropes 99 = .ok (.aload_n 0, 1) := dk_42 (dk_at dksX4_ropes_4 6 rfl rfl)
theorem dX4_ropes_100 : decode cX4_ropes 100 = .ok (.getfield 13, 3) := dk_180 0 13 (dk_at dksX4_ropes_4 7 rfl rfl)
theorem dX4_ropes_103 : decode cX4_ropes 103 = .ok (.bipush 44, 2) := dk_16 44 (dk_at dksX4_ropes_4 10 rfl rfl)
theorem dX4_ropes_105 : decode cX4_ropes 105 = .ok (.iaload, 1) := dk_46 (dk_at dksX4_ropes_4 12 rfl rfl)
theorem dX4_ropes_106 : decode cX4_ropes 106 = .ok (.iload 5, 2) := dk_21 5 (dk_at dksX4_ropes_4 13 rfl rfl)
theorem dX4_ropes_108 : decode cX4_ropes 108 = .ok (.ior, 1) := dk_128 (dk_at dksX4_ropes_4 15 rfl rfl)
theorem dX4_ropes_109 : decode cX4_ropes 109 = .ok (.invokevirtual 331, 3) := dk_182 1 75 (dk_at dksX4_ropes_4 16 rfl rfl)
theorem dX4_ropes_112 : decode cX4_ropes 112 = .ok (.ldc_w 313, 3) := dk_19 1 57 (dk_at dksX4_ropes_4 19 rfl rfl)
theorem dX4_ropes_115 : decode cX4_ropes 115 = .ok (.if_icmp .ge 7, 3) := dk_162 0 7 (dk_at dksX4_ropes_5 0 rfl rfl)
theorem dX4_ropes_118 : decode cX4_ropes 118 = .ok (.iload 5, 2) := dk_21 5 (dk_at dksX4_ropes_5 3 rfl rfl)
theorem dX4_ropes_120 : decode cX4_ropes 120 = .ok (.istore 4, 2) := dk_54 4 (dk_at dksX4_ropes_5 5 rfl rfl)
theorem dX4_ropes_122 : decode cX4_ropes 122 = .ok (.iinc 5 1, 3) := dk_132 5 1 (dk_at dksX4_ropes_5 7 rfl rfl)
theorem dX4_ropes_125 : decode cX4_ropes 125 = .ok (.goto (-77), 3) := dk_167 255 179 (dk_at dksX4_ropes_5 10 rfl rfl)
theorem dX4_ropes_128 : decode cX4_ropes 128 = .ok (.iload 4, 2) := dk_21 4 (dk_at dksX4_ropes_5 13 rfl rfl)
theorem dX4_ropes_130 : decode cX4_ropes 130 = .ok (.iconst (-1), 1) := dk_2 (dk_at dksX4_ropes_5 15 rfl rfl)
theorem dX4_ropes_131 : decode cX4_ropes 131 = .ok (.if_icmp .eq 8, 3) := dk_159 0 8 (dk_at dksX4_ropes_5 16 rfl rfl)
theorem dX4_ropes_134 : decode cX4_ropes 134 = .ok (.iload_n 3, 1) := dk_29 (dk_at dksX4_ropes_5 19 rfl rfl)
theorem dX4_ropes_135 : decode cX4_ropes 135 = .ok (.iconst 1, 1) := dk_4 (dk_at dksX4_ropes_5 20 rfl rfl)
theorem dX4_ropes_136 : decode cX4_ropes 136 = .ok (.if_icmp .ne 8, 3) := dk_160 0 8 (dk_at dksX4_ropes_5 21 rfl rfl)
theorem dX4_ropes_139 : decode cX4_ropes 139 = .ok (.iload 4, 2) := dk_21 4 (dk_at dksX4_ropes_6 0 rfl rfl)
theorem dX4_ropes_141 : decode cX4_ropes 141 = .ok (.goto 8, 3) := dk_167 0 8 (dk_at dksX4_ropes_6 2 rfl rfl)
theorem dX4_ropes_144 : decode cX4_ropes 144 = .ok (.iload 4, 2) := dk_21 4 (dk_at dksX4_ropes_6 5 rfl rfl)
theorem dX4_ropes_146 : decode cX4_ropes 146 = .ok (.invokestatic 366, 3) := dk_184 1 110 (dk_at dksX4_ropes_6 7 rfl rfl)
theorem dX4_ropes_149 : decode cX4_ropes 149 = .ok (.ireturn, 1) := dk_172 (dk_at dksX4_ropes_6 10 rfl rfl)
abbrev cX4_bitsOf : ByteArray := prog_16_method_38_code
def yX4_bitsOf : MethodName := ⟨RX4, "bitsOf", "(I)I"⟩
def dkwX4_bitsOf_1 : List UInt8 := [27, 172]
abbrev dktX4_bitsOf_1 : List UInt8 := dkwX4_bitsOf_1 ++ []
def dkwX4_bitsOf_0 : List UInt8 := [3, 60, 3, 61, 28, 16, 10, 162, 0, 17, 27, 26, 28, 122, 4, 126, 96, 60, 132, 2, 1, 167, 255, 239]
abbrev dktX4_bitsOf_0 : List UInt8 := dkwX4_bitsOf_0 ++ dktX4_bitsOf_1
theorem dksX4_bitsOf_0 : cX4_bitsOf.data.toList.drop 0 = dktX4_bitsOf_0 := by decide +kernel
theorem dksX4_bitsOf_1 : cX4_bitsOf.data.toList.drop 24 = dktX4_bitsOf_1 := dk_seg dksX4_bitsOf_0 24 rfl rfl
theorem dX4_bitsOf_0 : decode cX4_bitsOf 0 = .ok (.iconst 0, 1) := dk_3 (dk_at dksX4_bitsOf_0 0 rfl rfl)
theorem dX4_bitsOf_1 : decode cX4_bitsOf 1 = .ok (.istore_n 1, 1) := dk_60 (dk_at dksX4_bitsOf_0 1 rfl rfl)
theorem dX4_bitsOf_2 : decode cX4_bitsOf 2 = .ok (.iconst 0, 1) := dk_3 (dk_at dksX4_bitsOf_0 2 rfl rfl)
theorem dX4_bitsOf_3 : decode cX4_bitsOf 3 = .ok (.istore_n 2, 1) := dk_61 (dk_at dksX4_bitsOf_0 3 rfl rfl)
theorem dX4_bitsOf_4 : decode cX4_bitsOf 4 = .ok (.iload_n 2, 1) := dk_28 (dk_at dksX4_bitsOf_0 4 rfl rfl)
theorem dX4_bitsOf_5 : decode cX4_bitsOf 5 = .ok (.bipush 10, 2) := dk_16 10 (dk_at dksX4_bitsOf_0 5 rfl rfl)
theorem dX4_bitsOf_7 : decode cX4_bitsOf 7 = .ok (.if_icmp .ge 17, 3) := dk_162 0 17 (dk_at dksX4_bitsOf_0 7 rfl rfl)
theorem dX4_bitsOf_10 : decode cX4_bitsOf 10 = .ok (.iload_n 1, 1) := dk_27 (dk_at dksX4_bitsOf_0 10 rfl rfl)
theorem dX4_bitsOf_11 : decode cX4_bitsOf 11 = .ok (.iload_n 0, 1) := dk_26 (dk_at dksX4_bitsOf_0 11 rfl rfl)
theorem dX4_bitsOf_12 : decode cX4_bitsOf 12 = .ok (.iload_n 2, 1) := dk_28 (dk_at dksX4_bitsOf_0 12 rfl rfl)
theorem dX4_bitsOf_13 : decode cX4_bitsOf 13 = .ok (.ishr, 1) := dk_122 (dk_at dksX4_bitsOf_0 13 rfl rfl)
theorem dX4_bitsOf_14 : decode cX4_bitsOf 14 = .ok (.iconst 1, 1) := dk_4 (dk_at dksX4_bitsOf_0 14 rfl rfl)
theorem dX4_bitsOf_15 : decode cX4_bitsOf 15 = .ok (.iand, 1) := dk_126 (dk_at dksX4_bitsOf_0 15 rfl rfl)
theorem dX4_bitsOf_16 : decode cX4_bitsOf 16 = .ok (.iadd, 1) := dk_96 (dk_at dksX4_bitsOf_0 16 rfl rfl)
theorem dX4_bitsOf_17 : decode cX4_bitsOf 17 = .ok (.istore_n 1, 1) := dk_60 (dk_at dksX4_bitsOf_0 17 rfl rfl)
theorem dX4_bitsOf_18 : decode cX4_bitsOf 18 = .ok (.iinc 2 1, 3) := dk_132 2 1 (dk_at dksX4_bitsOf_0 18 rfl rfl)
theorem dX4_bitsOf_21 : decode cX4_bitsOf 21 = .ok (.goto (-17), 3) := dk_167 255 239 (dk_at dksX4_bitsOf_0 21 rfl rfl)
theorem dX4_bitsOf_24 : decode cX4_bitsOf 24 = .ok (.iload_n 1, 1) := dk_27 (dk_at dksX4_bitsOf_1 0 rfl rfl)
theorem dX4_bitsOf_25 : decode cX4_bitsOf 25 = .ok (.ireturn, 1) := dk_172 (dk_at dksX4_bitsOf_1 1 rfl rfl)
abbrev cX4_watch : ByteArray := prog_16_method_99_code
def yX4_watch : MethodName := ⟨RX4, "watch", "(II)I"⟩
def dkwX4_watch_5 : List UInt8 := [159, 0, 8, 28, 4, 160, 0, 7, 29, 167, 0, 7, 29, 184, 1, 110, 172]
abbrev dktX4_watch_5 : List UInt8 := dkwX4_watch_5 ++ []
def dkwX4_watch_4 : List UInt8 := [167, 0, 16, 42, 21, 4, 27, 182, 1, 113, 153, 0, 6, 21, 4, 62, 132, 4, 1, 167, 255, 191, 29, 2]
abbrev dktX4_watch_4 : List UInt8 := dkwX4_watch_4 ++ dktX4_watch_5
def dkwX4_watch_3 : List UInt8 := [46, 184, 0, 224, 154, 0, 36, 29, 2, 159, 0, 18, 21, 4, 184, 1, 110, 29, 184, 1, 110, 161, 0, 6]
abbrev dktX4_watch_3 : List UInt8 := dkwX4_watch_3 ++ dktX4_watch_4
def dkwX4_watch_2 : List UInt8 := [54, 4, 21, 4, 4, 42, 180, 0, 13, 4, 46, 120, 162, 0, 58, 21, 4, 133, 42, 180, 0, 13, 16, 42]
abbrev dktX4_watch_2 : List UInt8 := dkwX4_watch_2 ++ dktX4_watch_3
def dkwX4_watch_1 : List UInt8 := [184, 0, 142, 154, 0, 6, 16, 253, 172, 42, 42, 180, 0, 13, 16, 44, 46, 182, 1, 64, 2, 62, 3]
abbrev dktX4_watch_1 : List UInt8 := dkwX4_watch_1 ++ dktX4_watch_2
def dkwX4_watch_0 : List UInt8 := [42, 3, 181, 0, 1, 28, 133, 9, 10, 184, 0, 142, 154, 0, 6, 16, 254, 172, 27, 133, 10, 20, 1, 13]
abbrev dktX4_watch_0 : List UInt8 := dkwX4_watch_0 ++ dktX4_watch_1
theorem dksX4_watch_0 : cX4_watch.data.toList.drop 0 = dktX4_watch_0 := by decide +kernel
theorem dksX4_watch_1 : cX4_watch.data.toList.drop 24 = dktX4_watch_1 := dk_seg dksX4_watch_0 24 rfl rfl
theorem dksX4_watch_2 : cX4_watch.data.toList.drop 47 = dktX4_watch_2 := dk_seg dksX4_watch_1 23 rfl rfl
theorem dksX4_watch_3 : cX4_watch.data.toList.drop 71 = dktX4_watch_3 := dk_seg dksX4_watch_2 24 rfl rfl
theorem dksX4_watch_4 : cX4_watch.data.toList.drop 95 = dktX4_watch_4 := dk_seg dksX4_watch_3 24 rfl rfl
theorem dksX4_watch_5 : cX4_watch.data.toList.drop 119 = dktX4_watch_5 := dk_seg dksX4_watch_4 24 rfl rfl
theorem dX4_watch_0 : decode cX4_watch 0 = .ok (.aload_n 0, 1) := dk_42 (dk_at dksX4_watch_0 0 rfl rfl)
theorem dX4_watch_1 : decode cX4_watch 1 = .ok (.iconst 0, 1) := dk_3 (dk_at dksX4_watch_0 1 rfl rfl)
theorem dX4_watch_2 : decode cX4_watch 2 = .ok (.putfield 1, 3) := dk_181 0 1 (dk_at dksX4_watch_0 2 rfl rfl)
theorem dX4_watch_5 : decode cX4_watch 5 = .ok (.iload_n 2, 1) := dk_28 (dk_at dksX4_watch_0 5 rfl rfl)
theorem dX4_watch_6 : decode cX4_watch 6 = .ok (.i2l, 1) := dk_133 (dk_at dksX4_watch_0 6 rfl rfl)
theorem dX4_watch_7 : decode cX4_watch 7 = .ok (.lconst 0, 1) := dk_9 (dk_at dksX4_watch_0 7 rfl rfl)
theorem dX4_watch_8 : decode cX4_watch 8 = .ok (.lconst 1, 1) := dk_10 (dk_at dksX4_watch_0 8 rfl rfl)
theorem dX4_watch_9 : decode cX4_watch 9 = .ok (.invokestatic 142, 3) := dk_184 0 142 (dk_at dksX4_watch_0 9 rfl rfl)
theorem dX4_watch_12 : decode cX4_watch 12 = .ok (.ifCond .ne 6, 3) := dk_154 0 6 (dk_at dksX4_watch_0 12 rfl rfl)
theorem dX4_watch_15 : decode cX4_watch 15 = .ok (.bipush (-2), 2) := dk_16 254 (dk_at dksX4_watch_0 15 rfl rfl)
theorem dX4_watch_17 : decode cX4_watch 17 = .ok (.ireturn, 1) := dk_172 (dk_at dksX4_watch_0 17 rfl rfl)
theorem dX4_watch_18 : decode cX4_watch 18 = .ok (.iload_n 1, 1) := dk_27 (dk_at dksX4_watch_0 18 rfl rfl)
theorem dX4_watch_19 : decode cX4_watch 19 = .ok (.i2l, 1) := dk_133 (dk_at dksX4_watch_0 19 rfl rfl)
theorem dX4_watch_20 : decode cX4_watch 20 = .ok (.lconst 1, 1) := dk_10 (dk_at dksX4_watch_0 20 rfl rfl)
theorem dX4_watch_21 : decode cX4_watch 21 = .ok (.ldc2_w 269, 3) := dk_20 1 13 (dk_at dksX4_watch_0 21 rfl rfl)
theorem dX4_watch_24 : decode cX4_watch 24 = .ok (.invokestatic 142, 3) := dk_184 0 142 (dk_at dksX4_watch_1 0 rfl rfl)
theorem dX4_watch_27 : decode cX4_watch 27 = .ok (.ifCond .ne 6, 3) := dk_154 0 6 (dk_at dksX4_watch_1 3 rfl rfl)
theorem dX4_watch_30 : decode cX4_watch 30 = .ok (.bipush (-3), 2) := dk_16 253 (dk_at dksX4_watch_1 6 rfl rfl)
theorem dX4_watch_32 : decode cX4_watch 32 = .ok (.ireturn, 1) := dk_172 (dk_at dksX4_watch_1 8 rfl rfl)
theorem dX4_watch_33 : decode cX4_watch 33 = .ok (.aload_n 0, 1) := dk_42 (dk_at dksX4_watch_1 9 rfl rfl)
theorem dX4_watch_34 : decode cX4_watch 34 = .ok (.aload_n 0, 1) := dk_42 (dk_at dksX4_watch_1 10 rfl rfl)
theorem dX4_watch_35 : decode cX4_watch 35 = .ok (.getfield 13, 3) := dk_180 0 13 (dk_at dksX4_watch_1 11 rfl rfl)
theorem dX4_watch_38 : decode cX4_watch 38 = .ok (.bipush 44, 2) := dk_16 44 (dk_at dksX4_watch_1 14 rfl rfl)
theorem dX4_watch_40 : decode cX4_watch 40 = .ok (.iaload, 1) := dk_46 (dk_at dksX4_watch_1 16 rfl rfl)
theorem dX4_watch_41 : decode cX4_watch 41 = .ok (.invokevirtual 320, 3) := dk_182 1 64 (dk_at dksX4_watch_1 17 rfl rfl)
theorem dX4_watch_44 : decode cX4_watch 44 = .ok (.iconst (-1), 1) := dk_2 (dk_at dksX4_watch_1 20 rfl rfl)
theorem dX4_watch_45 : decode cX4_watch 45 = .ok (.istore_n 3, 1) := dk_62 (dk_at dksX4_watch_1 21 rfl rfl)
theorem dX4_watch_46 : decode cX4_watch 46 = .ok (.iconst 0, 1) := dk_3 (dk_at dksX4_watch_1 22 rfl rfl)
theorem dX4_watch_47 : decode cX4_watch 47 = .ok (.istore 4, 2) := dk_54 4 (dk_at dksX4_watch_2 0 rfl rfl)
theorem dX4_watch_49 : decode cX4_watch 49 = .ok (.iload 4, 2) := dk_21 4 (dk_at dksX4_watch_2 2 rfl rfl)
theorem dX4_watch_51 : decode cX4_watch 51 = .ok (.iconst 1, 1) := dk_4 (dk_at dksX4_watch_2 4 rfl rfl)
theorem dX4_watch_52 : decode cX4_watch 52 = .ok (.aload_n 0, 1) := dk_42 (dk_at dksX4_watch_2 5 rfl rfl)
theorem dX4_watch_53 : decode cX4_watch 53 = .ok (.getfield 13, 3) := dk_180 0 13 (dk_at dksX4_watch_2 6 rfl rfl)
theorem dX4_watch_56 : decode cX4_watch 56 = .ok (.iconst 1, 1) := dk_4 (dk_at dksX4_watch_2 9 rfl rfl)
theorem dX4_watch_57 : decode cX4_watch 57 = .ok (.iaload, 1) := dk_46 (dk_at dksX4_watch_2 10 rfl rfl)
theorem dX4_watch_58 : decode cX4_watch 58 = .ok (.ishl, 1) := dk_120 (dk_at dksX4_watch_2 11 rfl rfl)
theorem dX4_watch_59 : decode cX4_watch 59 = .ok (.if_icmp .ge 58, 3) := dk_162 0 58 (dk_at dksX4_watch_2 12 rfl rfl)
theorem dX4_watch_62 : decode cX4_watch 62 = .ok (.iload 4, 2) := dk_21 4 (dk_at dksX4_watch_2 15 rfl rfl)
theorem dX4_watch_64 : decode cX4_watch 64 = .ok (.i2l, 1) := dk_133 (dk_at dksX4_watch_2 17 rfl rfl)
theorem dX4_watch_65 : decode cX4_watch 65 = .ok (.aload_n 0, 1) := dk_42 (dk_at dksX4_watch_2 18 rfl rfl)
theorem dX4_watch_66 : decode cX4_watch 66 = .ok (.getfield 13, 3) := dk_180 0 13 (dk_at dksX4_watch_2 19 rfl rfl)
theorem dX4_watch_69 : decode cX4_watch 69 = .ok (.bipush 42, 2) := dk_16 42 (dk_at dksX4_watch_2 22 rfl rfl)
theorem dX4_watch_71 : decode cX4_watch 71 = .ok (.iaload, 1) := dk_46 (dk_at dksX4_watch_3 0 rfl rfl)
theorem dX4_watch_72 : decode cX4_watch 72 = .ok (.invokestatic 224, 3) := dk_184 0 224 (dk_at dksX4_watch_3 1 rfl rfl)
theorem dX4_watch_75 : decode cX4_watch 75 = .ok (.ifCond .ne 36, 3) := dk_154 0 36 (dk_at dksX4_watch_3 4 rfl rfl)
theorem dX4_watch_78 : decode cX4_watch 78 = .ok (.iload_n 3, 1) := dk_29 (dk_at dksX4_watch_3 7 rfl rfl)
theorem dX4_watch_79 : decode cX4_watch 79 = .ok (.iconst (-1), 1) := dk_2 (dk_at dksX4_watch_3 8 rfl rfl)
theorem dX4_watch_80 : decode cX4_watch 80 = .ok (.if_icmp .eq 18, 3) := dk_159 0 18 (dk_at dksX4_watch_3 9 rfl rfl)
theorem dX4_watch_83 : decode cX4_watch 83 = .ok (.iload 4, 2) := dk_21 4 (dk_at dksX4_watch_3 12 rfl rfl)
theorem dX4_watch_85 : decode cX4_watch 85 = .ok (.invokestatic 366, 3) := dk_184 1 110 (dk_at dksX4_watch_3 14 rfl rfl)
theorem dX4_watch_88 : decode cX4_watch 88 = .ok (.iload_n 3, 1) := dk_29 (dk_at dksX4_watch_3 17 rfl rfl)
theorem dX4_watch_89 : decode cX4_watch 89 = .ok (.invokestatic 366, 3) := dk_184 1 110 (dk_at dksX4_watch_3 18 rfl rfl)
theorem dX4_watch_92 : decode cX4_watch 92 = .ok (.if_icmp .lt 6, 3) := dk_161 0 6 (dk_at dksX4_watch_3 21 rfl rfl)
theorem dX4_watch_95 : decode cX4_watch 95 = .ok (.goto 16, 3) := dk_167 0 16 (dk_at dksX4_watch_4 0 rfl rfl)
theorem dX4_watch_98 : decode cX4_watch 98 = .ok (.aload_n 0, 1) := dk_42 (dk_at dksX4_watch_4 3 rfl rfl)
theorem dX4_watch_99 : decode cX4_watch 99 = .ok (.iload 4, 2) := dk_21 4 (dk_at dksX4_watch_4 4 rfl rfl)
theorem dX4_watch_101 : decode cX4_watch 101 = .ok (.iload_n 1, 1) := dk_27 (dk_at dksX4_watch_4 6 rfl rfl)
theorem dX4_watch_102 : decode cX4_watch 102 = .ok (.invokevirtual 369, 3) := dk_182 1 113 (dk_at dksX4_watch_4 7 rfl rfl)
theorem dX4_watch_105 : decode cX4_watch 105 = .ok (.ifCond .eq 6, 3) := dk_153 0 6 (dk_at dksX4_watch_4 10 rfl rfl)
theorem dX4_watch_108 : decode cX4_watch 108 = .ok (.iload 4, 2) := dk_21 4 (dk_at dksX4_watch_4 13 rfl rfl)
theorem dX4_watch_110 : decode cX4_watch 110 = .ok (.istore_n 3, 1) := dk_62 (dk_at dksX4_watch_4 15 rfl rfl)
theorem dX4_watch_111 : decode cX4_watch 111 = .ok (.iinc 4 1, 3) := dk_132 4 1 (dk_at dksX4_watch_4 16 rfl rfl)
theorem dX4_watch_114 : decode cX4_watch 114 = .ok (.goto (-65), 3) := dk_167 255 191 (dk_at dksX4_watch_4 19 rfl rfl)
theorem dX4_watch_117 : decode cX4_watch 117 = .ok (.iload_n 3, 1) := dk_29 (dk_at dksX4_watch_4 22 rfl rfl)
theorem dX4_watch_118 : decode cX4_watch 118 = .ok (.iconst (-1), 1) := dk_2 (dk_at dksX4_watch_4 23 rfl rfl)
theorem dX4_watch_119 : decode cX4_watch 119 = .ok (.if_icmp .eq 8, 3) := dk_159 0 8 (dk_at dksX4_watch_5 0 rfl rfl)
theorem dX4_watch_122 : decode cX4_watch 122 = .ok (.iload_n 2, 1) := dk_28 (dk_at dksX4_watch_5 3 rfl rfl)
theorem dX4_watch_123 : decode cX4_watch 123 = .ok (.iconst 1, 1) := dk_4 (dk_at dksX4_watch_5 4 rfl rfl)
theorem dX4_watch_124 : decode cX4_watch 124 = .ok (.if_icmp .ne 7, 3) := dk_160 0 7 (dk_at dksX4_watch_5 5 rfl rfl)
theorem dX4_watch_127 : decode cX4_watch 127 = .ok (.iload_n 3, 1) := dk_29 (dk_at dksX4_watch_5 8 rfl rfl)
theorem dX4_watch_128 : decode cX4_watch 128 = .ok (.goto 7, 3) := dk_167 0 7 (dk_at dksX4_watch_5 9 rfl rfl)
theorem dX4_watch_131 : decode cX4_watch 131 = .ok (.iload_n 3, 1) := dk_29 (dk_at dksX4_watch_5 12 rfl rfl)
theorem dX4_watch_132 : decode cX4_watch 132 = .ok (.invokestatic 366, 3) := dk_184 1 110 (dk_at dksX4_watch_5 13 rfl rfl)
theorem dX4_watch_135 : decode cX4_watch 135 = .ok (.ireturn, 1) := dk_172 (dk_at dksX4_watch_5 16 rfl rfl)
abbrev cX4_isWatched : ByteArray := prog_16_method_98_code
def yX4_isWatched : MethodName := ⟨RX4, "isWatched", "(II)Z"⟩
def dkwX4_isWatched_2 : List UInt8 := [172]
abbrev dktX4_isWatched_2 : List UInt8 := dkwX4_isWatched_2 ++ []
def dkwX4_isWatched_1 : List UInt8 := [29, 16, 36, 162, 0, 20, 42, 180, 0, 52, 29, 51, 153, 0, 5, 3, 172, 132, 3, 1, 167, 255, 236, 4]
abbrev dktX4_isWatched_1 : List UInt8 := dkwX4_isWatched_1 ++ dktX4_isWatched_2
def dkwX4_isWatched_0 : List UInt8 := [42, 182, 1, 104, 3, 62, 29, 28, 162, 0, 14, 42, 27, 182, 1, 107, 132, 3, 1, 167, 255, 243, 3, 62]
abbrev dktX4_isWatched_0 : List UInt8 := dkwX4_isWatched_0 ++ dktX4_isWatched_1
theorem dksX4_isWatched_0 : cX4_isWatched.data.toList.drop 0 = dktX4_isWatched_0 := by decide +kernel
theorem dksX4_isWatched_1 : cX4_isWatched.data.toList.drop 24 = dktX4_isWatched_1 := dk_seg dksX4_isWatched_0 24 rfl rfl
theorem dksX4_isWatched_2 : cX4_isWatched.data.toList.drop 48 = dktX4_isWatched_2 := dk_seg dksX4_isWatched_1 24 rfl rfl
theorem dX4_isWatched_0 : decode cX4_isWatched 0 = .ok (.aload_n 0, 1) := dk_42 (dk_at dksX4_isWatched_0 0 rfl rfl)
theorem dX4_isWatched_1 : decode cX4_isWatched 1 = .ok (.invokevirtual 360, 3) := dk_182 1 104 (dk_at dksX4_isWatched_0 1 rfl rfl)
theorem dX4_isWatched_4 : decode cX4_isWatched 4 = .ok (.iconst 0, 1) := dk_3 (dk_at dksX4_isWatched_0 4 rfl rfl)
theorem dX4_isWatched_5 : decode cX4_isWatched 5 = .ok (.istore_n 3, 1) := dk_62 (dk_at dksX4_isWatched_0 5 rfl rfl)
theorem dX4_isWatched_6 : decode cX4_isWatched 6 = .ok (.iload_n 3, 1) := dk_29 (dk_at dksX4_isWatched_0 6 rfl rfl)
theorem dX4_isWatched_7 : decode cX4_isWatched 7 = .ok (.iload_n 2, 1) := dk_28 (dk_at dksX4_isWatched_0 7 rfl rfl)
theorem dX4_isWatched_8 : decode cX4_isWatched 8 = .ok (.if_icmp .ge 14, 3) := dk_162 0 14 (dk_at dksX4_isWatched_0 8 rfl rfl)
theorem dX4_isWatched_11 : decode cX4_isWatched 11 = .ok (.aload_n 0, 1) := dk_42 (dk_at dksX4_isWatched_0 11 rfl rfl)
theorem dX4_isWatched_12 : decode cX4_isWatched 12 = .ok (.iload_n 1, 1) := dk_27 (dk_at dksX4_isWatched_0 12 rfl rfl)
theorem dX4_isWatched_13 : decode cX4_isWatched 13 = .ok (.invokevirtual 363, 3) := dk_182 1 107 (dk_at dksX4_isWatched_0 13 rfl rfl)
theorem dX4_isWatched_16 : decode cX4_isWatched 16 = .ok (.iinc 3 1, 3) := dk_132 3 1 (dk_at dksX4_isWatched_0 16 rfl rfl)
theorem dX4_isWatched_19 : decode cX4_isWatched 19 = .ok (.goto (-13), 3) := dk_167 255 243 (dk_at dksX4_isWatched_0 19 rfl rfl)
theorem dX4_isWatched_22 : decode cX4_isWatched 22 = .ok (.iconst 0, 1) := dk_3 (dk_at dksX4_isWatched_0 22 rfl rfl)
theorem dX4_isWatched_23 : decode cX4_isWatched 23 = .ok (.istore_n 3, 1) := dk_62 (dk_at dksX4_isWatched_0 23 rfl rfl)
theorem dX4_isWatched_24 : decode cX4_isWatched 24 = .ok (.iload_n 3, 1) := dk_29 (dk_at dksX4_isWatched_1 0 rfl rfl)
theorem dX4_isWatched_25 : decode cX4_isWatched 25 = .ok (.bipush 36, 2) := dk_16 36 (dk_at dksX4_isWatched_1 1 rfl rfl)
theorem dX4_isWatched_27 : decode cX4_isWatched 27 = .ok (.if_icmp .ge 20, 3) := dk_162 0 20 (dk_at dksX4_isWatched_1 3 rfl rfl)
theorem dX4_isWatched_30 : decode cX4_isWatched 30 = .ok (.aload_n 0, 1) := dk_42 (dk_at dksX4_isWatched_1 6 rfl rfl)
theorem dX4_isWatched_31 : decode cX4_isWatched 31 = .ok (.getfield 52, 3) := dk_180 0 52 (dk_at dksX4_isWatched_1 7 rfl rfl)
theorem dX4_isWatched_34 : decode cX4_isWatched 34 = .ok (.iload_n 3, 1) := dk_29 (dk_at dksX4_isWatched_1 10 rfl rfl)
theorem dX4_isWatched_35 : decode cX4_isWatched 35 = .ok (.baload, 1) := dk_51 (dk_at dksX4_isWatched_1 11 rfl rfl)
theorem dX4_isWatched_36 : decode cX4_isWatched 36 = .ok (.ifCond .eq 5, 3) := dk_153 0 5 (dk_at dksX4_isWatched_1 12 rfl rfl)
theorem dX4_isWatched_39 : decode cX4_isWatched 39 = .ok (.iconst 0, 1) := dk_3 (dk_at dksX4_isWatched_1 15 rfl rfl)
theorem dX4_isWatched_40 : decode cX4_isWatched 40 = .ok (.ireturn, 1) := dk_172 (dk_at dksX4_isWatched_1 16 rfl rfl)
theorem dX4_isWatched_41 : decode cX4_isWatched 41 = .ok (.iinc 3 1, 3) := dk_132 3 1 (dk_at dksX4_isWatched_1 17 rfl rfl)
theorem dX4_isWatched_44 : decode cX4_isWatched 44 = .ok (.goto (-20), 3) := dk_167 255 236 (dk_at dksX4_isWatched_1 20 rfl rfl)
theorem dX4_isWatched_47 : decode cX4_isWatched 47 = .ok (.iconst 1, 1) := dk_4 (dk_at dksX4_isWatched_1 23 rfl rfl)
theorem dX4_isWatched_48 : decode cX4_isWatched 48 = .ok (.ireturn, 1) := dk_172 (dk_at dksX4_isWatched_2 0 rfl rfl)
abbrev cX4_slacks : ByteArray := prog_16_method_102_code
def yX4_slacks : MethodName := ⟨RX4, "slacks", "(II)I"⟩
def dkwX4_slacks_1 : List UInt8 := [182, 1, 120, 172]
abbrev dktX4_slacks_1 : List UInt8 := dkwX4_slacks_1 ++ []
def dkwX4_slacks_0 : List UInt8 := [42, 3, 181, 0, 1, 42, 27, 28, 182, 1, 117, 62, 29, 153, 0, 7, 29, 167, 0, 9, 42, 27, 28]
abbrev dktX4_slacks_0 : List UInt8 := dkwX4_slacks_0 ++ dktX4_slacks_1
theorem dksX4_slacks_0 : cX4_slacks.data.toList.drop 0 = dktX4_slacks_0 := by decide +kernel
theorem dksX4_slacks_1 : cX4_slacks.data.toList.drop 23 = dktX4_slacks_1 := dk_seg dksX4_slacks_0 23 rfl rfl
theorem dX4_slacks_0 : decode cX4_slacks 0 = .ok (.aload_n 0, 1) := dk_42 (dk_at dksX4_slacks_0 0 rfl rfl)
theorem dX4_slacks_1 : decode cX4_slacks 1 = .ok (.iconst 0, 1) := dk_3 (dk_at dksX4_slacks_0 1 rfl rfl)
theorem dX4_slacks_2 : decode cX4_slacks 2 = .ok (.putfield 1, 3) := dk_181 0 1 (dk_at dksX4_slacks_0 2 rfl rfl)
theorem dX4_slacks_5 : decode cX4_slacks 5 = .ok (.aload_n 0, 1) := dk_42 (dk_at dksX4_slacks_0 5 rfl rfl)
theorem dX4_slacks_6 : decode cX4_slacks 6 = .ok (.iload_n 1, 1) := dk_27 (dk_at dksX4_slacks_0 6 rfl rfl)
theorem dX4_slacks_7 : decode cX4_slacks 7 = .ok (.iload_n 2, 1) := dk_28 (dk_at dksX4_slacks_0 7 rfl rfl)
theorem dX4_slacks_8 : decode cX4_slacks 8 = .ok (.invokevirtual 373, 3) := dk_182 1 117 (dk_at dksX4_slacks_0 8 rfl rfl)
theorem dX4_slacks_11 : decode cX4_slacks 11 = .ok (.istore_n 3, 1) := dk_62 (dk_at dksX4_slacks_0 11 rfl rfl)
theorem dX4_slacks_12 : decode cX4_slacks 12 = .ok (.iload_n 3, 1) := dk_29 (dk_at dksX4_slacks_0 12 rfl rfl)
theorem dX4_slacks_13 : decode cX4_slacks 13 = .ok (.ifCond .eq 7, 3) := dk_153 0 7 (dk_at dksX4_slacks_0 13 rfl rfl)
theorem dX4_slacks_16 : decode cX4_slacks 16 = .ok (.iload_n 3, 1) := dk_29 (dk_at dksX4_slacks_0 16 rfl rfl)
theorem dX4_slacks_17 : decode cX4_slacks 17 = .ok (.goto 9, 3) := dk_167 0 9 (dk_at dksX4_slacks_0 17 rfl rfl)
theorem dX4_slacks_20 : decode cX4_slacks 20 = .ok (.aload_n 0, 1) := dk_42 (dk_at dksX4_slacks_0 20 rfl rfl)
theorem dX4_slacks_21 : decode cX4_slacks 21 = .ok (.iload_n 1, 1) := dk_27 (dk_at dksX4_slacks_0 21 rfl rfl)
theorem dX4_slacks_22 : decode cX4_slacks 22 = .ok (.iload_n 2, 1) := dk_28 (dk_at dksX4_slacks_0 22 rfl rfl)
theorem dX4_slacks_23 : decode cX4_slacks 23 = .ok (.invokevirtual 376, 3) := dk_182 1 120 (dk_at dksX4_slacks_1 0 rfl rfl)
theorem dX4_slacks_26 : decode cX4_slacks 26 = .ok (.ireturn, 1) := dk_172 (dk_at dksX4_slacks_1 3 rfl rfl)
abbrev cX4_noTook : ByteArray := prog_16_method_100_code
def yX4_noTook : MethodName := ⟨RX4, "noTook", "(II)I"⟩
def dkwX4_noTook_3 : List UInt8 := [167, 255, 220, 28, 133, 184, 1, 8, 153, 0, 7, 3, 167, 0, 5, 16, 253, 172]
abbrev dktX4_noTook_3 : List UInt8 := dkwX4_noTook_3 ++ []
def dkwX4_noTook_2 : List UInt8 := [42, 180, 0, 73, 16, 40, 27, 104, 21, 4, 96, 47, 182, 0, 228, 154, 0, 6, 16, 253, 172, 132, 4, 1]
abbrev dktX4_noTook_2 : List UInt8 := dkwX4_noTook_2 ++ dktX4_noTook_3
def dkwX4_noTook_1 : List UInt8 := [184, 0, 142, 154, 0, 6, 16, 252, 172, 3, 54, 4, 21, 4, 42, 180, 0, 70, 27, 46, 162, 0, 31, 42]
abbrev dktX4_noTook_1 : List UInt8 := dkwX4_noTook_1 ++ dktX4_noTook_2
def dkwX4_noTook_0 : List UInt8 := [42, 27, 182, 1, 36, 62, 29, 153, 0, 5, 29, 172, 42, 180, 0, 70, 27, 46, 133, 10, 20, 1, 13]
abbrev dktX4_noTook_0 : List UInt8 := dkwX4_noTook_0 ++ dktX4_noTook_1
theorem dksX4_noTook_0 : cX4_noTook.data.toList.drop 0 = dktX4_noTook_0 := by decide +kernel
theorem dksX4_noTook_1 : cX4_noTook.data.toList.drop 23 = dktX4_noTook_1 := dk_seg dksX4_noTook_0 23 rfl rfl
theorem dksX4_noTook_2 : cX4_noTook.data.toList.drop 47 = dktX4_noTook_2 := dk_seg dksX4_noTook_1 24 rfl rfl
theorem dksX4_noTook_3 : cX4_noTook.data.toList.drop 71 = dktX4_noTook_3 := dk_seg dksX4_noTook_2 24 rfl rfl
theorem dX4_noTook_0 : decode cX4_noTook 0 = .ok (.aload_n 0, 1) := dk_42 (dk_at dksX4_noTook_0 0 rfl rfl)
theorem dX4_noTook_1 : decode cX4_noTook 1 = .ok (.iload_n 1, 1) := dk_27 (dk_at dksX4_noTook_0 1 rfl rfl)
theorem dX4_noTook_2 : decode cX4_noTook 2 = .ok (.invokevirtual 292, 3) := dk_182 1 36 (dk_at dksX4_noTook_0 2 rfl rfl)
theorem dX4_noTook_5 : decode cX4_noTook 5 = .ok (.istore_n 3, 1) := dk_62 (dk_at dksX4_noTook_0 5 rfl rfl)
theorem dX4_noTook_6 : decode cX4_noTook 6 = .ok (.iload_n 3, 1) := dk_29 (dk_at dksX4_noTook_0 6 rfl rfl)
theorem dX4_noTook_7 : decode cX4_noTook 7 = .ok (.ifCond .eq 5, 3) := dk_153 0 5 (dk_at dksX4_noTook_0 7 rfl rfl)
theorem dX4_noTook_10 : decode cX4_noTook 10 = .ok (.iload_n 3, 1) := dk_29 (dk_at dksX4_noTook_0 10 rfl rfl)
theorem dX4_noTook_11 : decode cX4_noTook 11 = .ok (.ireturn, 1) := dk_172 (dk_at dksX4_noTook_0 11 rfl rfl)
theorem dX4_noTook_12 : decode cX4_noTook 12 = .ok (.aload_n 0, 1) := dk_42 (dk_at dksX4_noTook_0 12 rfl rfl)
theorem dX4_noTook_13 : decode cX4_noTook 13 = .ok (.getfield 70, 3) := dk_180 0 70 (dk_at dksX4_noTook_0 13 rfl rfl)
theorem dX4_noTook_16 : decode cX4_noTook 16 = .ok (.iload_n 1, 1) := dk_27 (dk_at dksX4_noTook_0 16 rfl rfl)
theorem dX4_noTook_17 : decode cX4_noTook 17 = .ok (.iaload, 1) := dk_46 (dk_at dksX4_noTook_0 17 rfl rfl)
theorem dX4_noTook_18 : decode cX4_noTook 18 = .ok (.i2l, 1) := dk_133 (dk_at dksX4_noTook_0 18 rfl rfl)
theorem dX4_noTook_19 : decode cX4_noTook 19 = .ok (.lconst 1, 1) := dk_10 (dk_at dksX4_noTook_0 19 rfl rfl)
theorem dX4_noTook_20 : decode cX4_noTook 20 = .ok (.ldc2_w 269, 3) := dk_20 1 13 (dk_at dksX4_noTook_0 20 rfl rfl)
theorem dX4_noTook_23 : decode cX4_noTook 23 = .ok (.invokestatic 142, 3) := dk_184 0 142 (dk_at dksX4_noTook_1 0 rfl rfl)
theorem dX4_noTook_26 : decode cX4_noTook 26 = .ok (.ifCond .ne 6, 3) := dk_154 0 6 (dk_at dksX4_noTook_1 3 rfl rfl)
theorem dX4_noTook_29 : decode cX4_noTook 29 = .ok (.bipush (-4), 2) := dk_16 252 (dk_at dksX4_noTook_1 6 rfl rfl)
theorem dX4_noTook_31 : decode cX4_noTook 31 = .ok (.ireturn, 1) := dk_172 (dk_at dksX4_noTook_1 8 rfl rfl)
theorem dX4_noTook_32 : decode cX4_noTook 32 = .ok (.iconst 0, 1) := dk_3 (dk_at dksX4_noTook_1 9 rfl rfl)
theorem dX4_noTook_33 : decode cX4_noTook 33 = .ok (.istore 4, 2) := dk_54 4 (dk_at dksX4_noTook_1 10 rfl rfl)
theorem dX4_noTook_35 : decode cX4_noTook 35 = .ok (.iload 4, 2) := dk_21 4 (dk_at dksX4_noTook_1 12 rfl rfl)
theorem dX4_noTook_37 : decode cX4_noTook 37 = .ok (.aload_n 0, 1) := dk_42 (dk_at dksX4_noTook_1 14 rfl rfl)
theorem dX4_noTook_38 : decode cX4_noTook 38 = .ok (.getfield 70, 3) := dk_180 0 70 (dk_at dksX4_noTook_1 15 rfl rfl)
theorem dX4_noTook_41 : decode cX4_noTook 41 = .ok (.iload_n 1, 1) := dk_27 (dk_at dksX4_noTook_1 18 rfl rfl)
theorem dX4_noTook_42 : decode cX4_noTook 42 = .ok (.iaload, 1) := dk_46 (dk_at dksX4_noTook_1 19 rfl rfl)
theorem dX4_noTook_43 : decode cX4_noTook 43 = .ok (.if_icmp .ge 31, 3) := dk_162 0 31 (dk_at dksX4_noTook_1 20 rfl rfl)
theorem dX4_noTook_46 : decode cX4_noTook 46 = .ok (.aload_n 0, 1) := dk_42 (dk_at dksX4_noTook_1 23 rfl rfl)
theorem dX4_noTook_47 : decode cX4_noTook 47 = .ok (.aload_n 0, 1) := dk_42 (dk_at dksX4_noTook_2 0 rfl rfl)
theorem dX4_noTook_48 : decode cX4_noTook 48 = .ok (.getfield 73, 3) := dk_180 0 73 (dk_at dksX4_noTook_2 1 rfl rfl)
theorem dX4_noTook_51 : decode cX4_noTook 51 = .ok (.bipush 40, 2) := dk_16 40 (dk_at dksX4_noTook_2 4 rfl rfl)
theorem dX4_noTook_53 : decode cX4_noTook 53 = .ok (.iload_n 1, 1) := dk_27 (dk_at dksX4_noTook_2 6 rfl rfl)
theorem dX4_noTook_54 : decode cX4_noTook 54 = .ok (.imul, 1) := dk_104 (dk_at dksX4_noTook_2 7 rfl rfl)
theorem dX4_noTook_55 : decode cX4_noTook 55 = .ok (.iload 4, 2) := dk_21 4 (dk_at dksX4_noTook_2 8 rfl rfl)
theorem dX4_noTook_57 : decode cX4_noTook 57 = .ok (.iadd, 1) := dk_96 (dk_at dksX4_noTook_2 10 rfl rfl)
theorem dX4_noTook_58 : decode cX4_noTook 58 = .ok (.laload, 1) := dk_47 (dk_at dksX4_noTook_2 11 rfl rfl)
theorem dX4_noTook_59 : decode cX4_noTook 59 = .ok (.invokevirtual 228, 3) := dk_182 0 228 (dk_at dksX4_noTook_2 12 rfl rfl)
theorem dX4_noTook_62 : decode cX4_noTook 62 = .ok (.ifCond .ne 6, 3) := dk_154 0 6 (dk_at dksX4_noTook_2 15 rfl rfl)
theorem dX4_noTook_65 : decode cX4_noTook 65 = .ok (.bipush (-3), 2) := dk_16 253 (dk_at dksX4_noTook_2 18 rfl rfl)
theorem dX4_noTook_67 : decode cX4_noTook 67 = .ok (.ireturn, 1) := dk_172 (dk_at dksX4_noTook_2 20 rfl rfl)
theorem dX4_noTook_68 : decode cX4_noTook 68 = .ok (.iinc 4 1, 3) := dk_132 4 1 (dk_at dksX4_noTook_2 21 rfl rfl)
theorem dX4_noTook_71 : decode cX4_noTook 71 = .ok (.goto (-36), 3) := dk_167 255 220 (dk_at dksX4_noTook_3 0 rfl rfl)
theorem dX4_noTook_74 : decode cX4_noTook 74 = .ok (.iload_n 2, 1) := dk_28 (dk_at dksX4_noTook_3 3 rfl rfl)
theorem dX4_noTook_75 : decode cX4_noTook 75 = .ok (.i2l, 1) := dk_133 (dk_at dksX4_noTook_3 4 rfl rfl)
theorem dX4_noTook_76 : decode cX4_noTook 76 = .ok (.invokestatic 264, 3) := dk_184 1 8 (dk_at dksX4_noTook_3 5 rfl rfl)
theorem dX4_noTook_79 : decode cX4_noTook 79 = .ok (.ifCond .eq 7, 3) := dk_153 0 7 (dk_at dksX4_noTook_3 8 rfl rfl)
theorem dX4_noTook_82 : decode cX4_noTook 82 = .ok (.iconst 0, 1) := dk_3 (dk_at dksX4_noTook_3 11 rfl rfl)
theorem dX4_noTook_83 : decode cX4_noTook 83 = .ok (.goto 5, 3) := dk_167 0 5 (dk_at dksX4_noTook_3 12 rfl rfl)
theorem dX4_noTook_86 : decode cX4_noTook 86 = .ok (.bipush (-3), 2) := dk_16 253 (dk_at dksX4_noTook_3 15 rfl rfl)
theorem dX4_noTook_88 : decode cX4_noTook 88 = .ok (.ireturn, 1) := dk_172 (dk_at dksX4_noTook_3 17 rfl rfl)
abbrev cX4_slacksOf : ByteArray := prog_16_method_101_code
def yX4_slacksOf : MethodName := ⟨RX4, "slacksOf", "(II)I"⟩
def dkwX4_slacksOf_5 : List UInt8 := [4, 21, 4, 120, 167, 0, 4, 3, 128, 62, 132, 4, 1, 167, 255, 130, 29, 172]
abbrev dktX4_slacksOf_5 : List UInt8 := dkwX4_slacksOf_5 ++ []
def dkwX4_slacksOf_4 : List UInt8 := [54, 5, 132, 6, 1, 167, 255, 178, 29, 21, 5, 2, 159, 0, 19, 21, 5, 16, 6, 112, 28, 160, 0, 10]
abbrev dktX4_slacksOf_4 : List UInt8 := dkwX4_slacksOf_4 ++ dktX4_slacksOf_5
def dkwX4_slacksOf_3 : List UInt8 := [154, 0, 23, 42, 21, 5, 21, 7, 42, 180, 0, 13, 16, 44, 46, 21, 4, 182, 0, 239, 167, 0, 4, 2]
abbrev dktX4_slacksOf_3 : List UInt8 := dkwX4_slacksOf_3 ++ dktX4_slacksOf_4
def dkwX4_slacksOf_2 : List UInt8 := [96, 47, 136, 54, 7, 42, 21, 5, 21, 7, 42, 180, 0, 13, 16, 44, 46, 21, 4, 182, 0, 235]
abbrev dktX4_slacksOf_2 : List UInt8 := dkwX4_slacksOf_2 ++ dktX4_slacksOf_3
def dkwX4_slacksOf_1 : List UInt8 := [180, 0, 70, 27, 46, 162, 0, 73, 21, 5, 2, 159, 0, 67, 42, 180, 0, 73, 16, 40, 27, 104, 21, 6]
abbrev dktX4_slacksOf_1 : List UInt8 := dkwX4_slacksOf_1 ++ dktX4_slacksOf_2
def dkwX4_slacksOf_0 : List UInt8 := [3, 62, 3, 54, 4, 21, 4, 16, 10, 162, 0, 125, 42, 182, 0, 232, 54, 5, 3, 54, 6, 21, 6, 42]
abbrev dktX4_slacksOf_0 : List UInt8 := dkwX4_slacksOf_0 ++ dktX4_slacksOf_1
theorem dksX4_slacksOf_0 : cX4_slacksOf.data.toList.drop 0 = dktX4_slacksOf_0 := by decide +kernel
theorem dksX4_slacksOf_1 : cX4_slacksOf.data.toList.drop 24 = dktX4_slacksOf_1 := dk_seg dksX4_slacksOf_0 24 rfl rfl
theorem dksX4_slacksOf_2 : cX4_slacksOf.data.toList.drop 48 = dktX4_slacksOf_2 := dk_seg dksX4_slacksOf_1 24 rfl rfl
theorem dksX4_slacksOf_3 : cX4_slacksOf.data.toList.drop 70 = dktX4_slacksOf_3 := dk_seg dksX4_slacksOf_2 22 rfl rfl
theorem dksX4_slacksOf_4 : cX4_slacksOf.data.toList.drop 94 = dktX4_slacksOf_4 := dk_seg dksX4_slacksOf_3 24 rfl rfl
theorem dksX4_slacksOf_5 : cX4_slacksOf.data.toList.drop 118 = dktX4_slacksOf_5 := dk_seg dksX4_slacksOf_4 24 rfl rfl
theorem dX4_slacksOf_0 : decode cX4_slacksOf 0 = .ok (.iconst 0, 1) := dk_3 (dk_at dksX4_slacksOf_0 0 rfl rfl)
theorem dX4_slacksOf_1 : decode cX4_slacksOf 1 = .ok (.istore_n 3, 1) := dk_62 (dk_at dksX4_slacksOf_0 1 rfl rfl)
theorem dX4_slacksOf_2 : decode cX4_slacksOf 2 = .ok (.iconst 0, 1) := dk_3 (dk_at dksX4_slacksOf_0 2 rfl rfl)
theorem dX4_slacksOf_3 : decode cX4_slacksOf 3 = .ok (.istore 4, 2) := dk_54 4 (dk_at dksX4_slacksOf_0 3 rfl rfl)
theorem dX4_slacksOf_5 : decode cX4_slacksOf 5 = .ok (.iload 4, 2) := dk_21 4 (dk_at dksX4_slacksOf_0 5 rfl rfl)
theorem dX4_slacksOf_7 : decode cX4_slacksOf 7 = .ok (.bipush 10, 2) := dk_16 10 (dk_at dksX4_slacksOf_0 7 rfl rfl)
theorem dX4_slacksOf_9 : decode cX4_slacksOf 9 = .ok (.if_icmp .ge 125, 3) := dk_162 0 125 (dk_at dksX4_slacksOf_0 9 rfl rfl)
theorem dX4_slacksOf_12 : decode cX4_slacksOf 12 = .ok (.aload_n 0, 1) := dk_42 (dk_at dksX4_slacksOf_0 12 rfl rfl)
theorem dX4_slacksOf_13 : decode cX4_slacksOf 13 = .ok (.invokevirtual 232, 3) := dk_182 0 232 (dk_at dksX4_slacksOf_0 13 rfl rfl)
theorem dX4_slacksOf_16 : decode cX4_slacksOf 16 = .ok (.istore 5, 2) := dk_54 5 (dk_at dksX4_slacksOf_0 16 rfl rfl)
theorem dX4_slacksOf_18 : decode cX4_slacksOf 18 = .ok (.iconst 0, 1) := dk_3 (dk_at dksX4_slacksOf_0 18 rfl rfl)
theorem dX4_slacksOf_19 : decode cX4_slacksOf 19 = .ok (.istore 6, 2) := dk_54 6 (dk_at dksX4_slacksOf_0 19 rfl rfl)
theorem dX4_slacksOf_21 : decode cX4_slacksOf 21 = .ok (.iload 6, 2) := dk_21 6 (dk_at dksX4_slacksOf_0 21 rfl rfl)
theorem dX4_slacksOf_23 : decode cX4_slacksOf 23 = .ok (.aload_n 0, 1) := dk_42 (dk_at dksX4_slacksOf_0 23 rfl rfl)
theorem dX4_slacksOf_24 : decode cX4_slacksOf 24 = .ok (.getfield 70, 3) := dk_180 0 70 (dk_at dksX4_slacksOf_1 0 rfl rfl)
theorem dX4_slacksOf_27 : decode cX4_slacksOf 27 = .ok (.iload_n 1, 1) := dk_27 (dk_at dksX4_slacksOf_1 3 rfl rfl)
theorem dX4_slacksOf_28 : decode cX4_slacksOf 28 = .ok (.iaload, 1) := dk_46 (dk_at dksX4_slacksOf_1 4 rfl rfl)
theorem dX4_slacksOf_29 : decode cX4_slacksOf 29 = .ok (.if_icmp .ge 73, 3) := dk_162 0 73 (dk_at dksX4_slacksOf_1 5 rfl rfl)
theorem dX4_slacksOf_32 : decode cX4_slacksOf 32 = .ok (.iload 5, 2) := dk_21 5 (dk_at dksX4_slacksOf_1 8 rfl rfl)
theorem dX4_slacksOf_34 : decode cX4_slacksOf 34 = .ok (.iconst (-1), 1) := dk_2 (dk_at dksX4_slacksOf_1 10 rfl rfl)
theorem dX4_slacksOf_35 : decode cX4_slacksOf 35 = .ok (.if_icmp .eq 67, 3) := dk_159 0 67 (dk_at dksX4_slacksOf_1 11 rfl rfl)
theorem dX4_slacksOf_38 : decode cX4_slacksOf 38 = .ok (.aload_n 0, 1) := dk_42 (dk_at dksX4_slacksOf_1 14 rfl rfl)
theorem dX4_slacksOf_39 : decode cX4_slacksOf 39 = .ok (.getfield 73, 3) := dk_180 0 73 (dk_at dksX4_slacksOf_1 15 rfl rfl)
theorem dX4_slacksOf_42 : decode cX4_slacksOf 42 = .ok (.bipush 40, 2) := dk_16 40 (dk_at dksX4_slacksOf_1 18 rfl rfl)
theorem dX4_slacksOf_44 : decode cX4_slacksOf 44 = .ok (.iload_n 1, 1) := dk_27 (dk_at dksX4_slacksOf_1 20 rfl rfl)
theorem dX4_slacksOf_45 : decode cX4_slacksOf 45 = .ok (.imul, 1) := dk_104 (dk_at dksX4_slacksOf_1 21 rfl rfl)
theorem dX4_slacksOf_46 : decode cX4_slacksOf 46 = .ok (.iload 6, 2) := dk_21 6 (dk_at dksX4_slacksOf_1 22 rfl rfl)
theorem dX4_slacksOf_48 : decode cX4_slacksOf 48 = .ok (.iadd, 1) := dk_96 (dk_at dksX4_slacksOf_2 0 rfl rfl)
theorem dX4_slacksOf_49 : decode cX4_slacksOf 49 = .ok (.laload, 1) := dk_47 (dk_at dksX4_slacksOf_2 1 rfl rfl)
theorem dX4_slacksOf_50 : decode cX4_slacksOf 50 = .ok (.l2i, 1) := dk_136 (dk_at dksX4_slacksOf_2 2 rfl rfl)
theorem dX4_slacksOf_51 : decode cX4_slacksOf 51 = .ok (.istore 7, 2) := dk_54 7 (dk_at dksX4_slacksOf_2 3 rfl rfl)
theorem dX4_slacksOf_53 : decode cX4_slacksOf 53 = .ok (.aload_n 0, 1) := dk_42 (dk_at dksX4_slacksOf_2 5 rfl rfl)
theorem dX4_slacksOf_54 : decode cX4_slacksOf 54 = .ok (.iload 5, 2) := dk_21 5 (dk_at dksX4_slacksOf_2 6 rfl rfl)
theorem dX4_slacksOf_56 : decode cX4_slacksOf 56 = .ok (.iload 7, 2) := dk_21 7 (dk_at dksX4_slacksOf_2 8 rfl rfl)
theorem dX4_slacksOf_58 : decode cX4_slacksOf 58 = .ok (.aload_n 0, 1) := dk_42 (dk_at dksX4_slacksOf_2 10 rfl rfl)
theorem dX4_slacksOf_59 : decode cX4_slacksOf 59 = .ok (.getfield 13, 3) := dk_180 0 13 (dk_at dksX4_slacksOf_2 11 rfl rfl)
theorem dX4_slacksOf_62 : decode cX4_slacksOf 62 = .ok (.bipush 44, 2) := dk_16 44 (dk_at dksX4_slacksOf_2 14 rfl rfl)
theorem dX4_slacksOf_64 : decode cX4_slacksOf 64 = .ok (.iaload, 1) := dk_46 (dk_at dksX4_slacksOf_2 16 rfl rfl)
theorem dX4_slacksOf_65 : decode cX4_slacksOf 65 = .ok (.iload 4, 2) := dk_21 4 (dk_at dksX4_slacksOf_2 17 rfl rfl)
theorem dX4_slacksOf_67 : decode cX4_slacksOf 67 = .ok (.invokevirtual 235, 3) := dk_182 0 235 (dk_at dksX4_slacksOf_2 19 rfl rfl)
theorem dX4_slacksOf_70 : decode cX4_slacksOf 70 = .ok (.ifCond .ne 23, 3) := dk_154 0 23 (dk_at dksX4_slacksOf_3 0 rfl rfl)
theorem dX4_slacksOf_73 : decode cX4_slacksOf 73 = .ok (.aload_n 0, 1) := dk_42 (dk_at dksX4_slacksOf_3 3 rfl rfl)
theorem dX4_slacksOf_74 : decode cX4_slacksOf 74 = .ok (.iload 5, 2) := dk_21 5 (dk_at dksX4_slacksOf_3 4 rfl rfl)
theorem dX4_slacksOf_76 : decode cX4_slacksOf 76 = .ok (.iload 7, 2) := dk_21 7 (dk_at dksX4_slacksOf_3 6 rfl rfl)
theorem dX4_slacksOf_78 : decode cX4_slacksOf 78 = .ok (.aload_n 0, 1) := dk_42 (dk_at dksX4_slacksOf_3 8 rfl rfl)
theorem dX4_slacksOf_79 : decode cX4_slacksOf 79 = .ok (.getfield 13, 3) := dk_180 0 13 (dk_at dksX4_slacksOf_3 9 rfl rfl)
theorem dX4_slacksOf_82 : decode cX4_slacksOf 82 = .ok (.bipush 44, 2) := dk_16 44 (dk_at dksX4_slacksOf_3 12 rfl rfl)
theorem dX4_slacksOf_84 : decode cX4_slacksOf 84 = .ok (.iaload, 1) := dk_46 (dk_at dksX4_slacksOf_3 14 rfl rfl)
theorem dX4_slacksOf_85 : decode cX4_slacksOf 85 = .ok (.iload 4, 2) := dk_21 4 (dk_at dksX4_slacksOf_3 15 rfl rfl)
theorem dX4_slacksOf_87 : decode cX4_slacksOf 87 = .ok (.invokevirtual 239, 3) := dk_182 0 239 (dk_at dksX4_slacksOf_3 17 rfl rfl)
theorem dX4_slacksOf_90 : decode cX4_slacksOf 90 = .ok (.goto 4, 3) := dk_167 0 4 (dk_at dksX4_slacksOf_3 20 rfl rfl)
theorem dX4_slacksOf_93 : decode cX4_slacksOf 93 = .ok (.iconst (-1), 1) := dk_2 (dk_at dksX4_slacksOf_3 23 rfl rfl)
theorem dX4_slacksOf_94 : decode cX4_slacksOf 94 = .ok (.istore 5, 2) := dk_54 5 (dk_at dksX4_slacksOf_4 0 rfl rfl)
theorem dX4_slacksOf_96 : decode cX4_slacksOf 96 = .ok (.iinc 6 1, 3) := dk_132 6 1 (dk_at dksX4_slacksOf_4 2 rfl rfl)
theorem dX4_slacksOf_99 : decode cX4_slacksOf 99 = .ok (.goto (-78), 3) := dk_167 255 178 (dk_at dksX4_slacksOf_4 5 rfl rfl)
theorem dX4_slacksOf_102 : decode cX4_slacksOf 102 = .ok (.iload_n 3, 1) := dk_29 (dk_at dksX4_slacksOf_4 8 rfl rfl)
theorem dX4_slacksOf_103 : decode cX4_slacksOf 103 = .ok (.iload 5, 2) := dk_21 5 (dk_at dksX4_slacksOf_4 9 rfl rfl)
theorem dX4_slacksOf_105 : decode cX4_slacksOf 105 = .ok (.iconst (-1), 1) := dk_2 (dk_at dksX4_slacksOf_4 11 rfl rfl)
theorem dX4_slacksOf_106 : decode cX4_slacksOf 106 = .ok (.if_icmp .eq 19, 3) := dk_159 0 19 (dk_at dksX4_slacksOf_4 12 rfl rfl)
theorem dX4_slacksOf_109 : decode cX4_slacksOf 109 = .ok (.iload 5, 2) := dk_21 5 (dk_at dksX4_slacksOf_4 15 rfl rfl)
theorem dX4_slacksOf_111 : decode cX4_slacksOf 111 = .ok (.bipush 6, 2) := dk_16 6 (dk_at dksX4_slacksOf_4 17 rfl rfl)
theorem dX4_slacksOf_113 : decode cX4_slacksOf 113 = .ok (.irem, 1) := dk_112 (dk_at dksX4_slacksOf_4 19 rfl rfl)
theorem dX4_slacksOf_114 : decode cX4_slacksOf 114 = .ok (.iload_n 2, 1) := dk_28 (dk_at dksX4_slacksOf_4 20 rfl rfl)
theorem dX4_slacksOf_115 : decode cX4_slacksOf 115 = .ok (.if_icmp .ne 10, 3) := dk_160 0 10 (dk_at dksX4_slacksOf_4 21 rfl rfl)
theorem dX4_slacksOf_118 : decode cX4_slacksOf 118 = .ok (.iconst 1, 1) := dk_4 (dk_at dksX4_slacksOf_5 0 rfl rfl)
theorem dX4_slacksOf_119 : decode cX4_slacksOf 119 = .ok (.iload 4, 2) := dk_21 4 (dk_at dksX4_slacksOf_5 1 rfl rfl)
theorem dX4_slacksOf_121 : decode cX4_slacksOf 121 = .ok (.ishl, 1) := dk_120 (dk_at dksX4_slacksOf_5 3 rfl rfl)
theorem dX4_slacksOf_122 : decode cX4_slacksOf 122 = .ok (.goto 4, 3) := dk_167 0 4 (dk_at dksX4_slacksOf_5 4 rfl rfl)
theorem dX4_slacksOf_125 : decode cX4_slacksOf 125 = .ok (.iconst 0, 1) := dk_3 (dk_at dksX4_slacksOf_5 7 rfl rfl)
theorem dX4_slacksOf_126 : decode cX4_slacksOf 126 = .ok (.ior, 1) := dk_128 (dk_at dksX4_slacksOf_5 8 rfl rfl)
theorem dX4_slacksOf_127 : decode cX4_slacksOf 127 = .ok (.istore_n 3, 1) := dk_62 (dk_at dksX4_slacksOf_5 9 rfl rfl)
theorem dX4_slacksOf_128 : decode cX4_slacksOf 128 = .ok (.iinc 4 1, 3) := dk_132 4 1 (dk_at dksX4_slacksOf_5 10 rfl rfl)
theorem dX4_slacksOf_131 : decode cX4_slacksOf 131 = .ok (.goto (-126), 3) := dk_167 255 130 (dk_at dksX4_slacksOf_5 13 rfl rfl)
theorem dX4_slacksOf_134 : decode cX4_slacksOf 134 = .ok (.iload_n 3, 1) := dk_29 (dk_at dksX4_slacksOf_5 16 rfl rfl)
theorem dX4_slacksOf_135 : decode cX4_slacksOf 135 = .ok (.ireturn, 1) := dk_172 (dk_at dksX4_slacksOf_5 17 rfl rfl)
abbrev cX4_attempt : ByteArray := prog_16_method_104_code
def yX4_attempt : MethodName := ⟨RX4, "attempt", "(II)I"⟩
def dkwX4_attempt_3 : List UInt8 := [167, 0, 11, 21, 7, 54, 5, 21, 8, 54, 6, 132, 7, 1, 167, 255, 209, 21, 5, 172]
abbrev dktX4_attempt_3 : List UInt8 := dkwX4_attempt_3 ++ []
def dkwX4_attempt_2 : List UInt8 := [21, 4, 153, 0, 37, 42, 21, 7, 21, 4, 182, 1, 123, 54, 8, 21, 8, 21, 6, 161, 0, 6]
abbrev dktX4_attempt_2 : List UInt8 := dkwX4_attempt_2 ++ dktX4_attempt_3
def dkwX4_attempt_1 : List UInt8 := [54, 4, 2, 54, 5, 19, 1, 57, 54, 6, 3, 54, 7, 21, 7, 42, 180, 0, 13, 5, 46, 162, 0, 42]
abbrev dktX4_attempt_1 : List UInt8 := dkwX4_attempt_1 ++ dktX4_attempt_2
def dkwX4_attempt_0 : List UInt8 := [42, 3, 181, 0, 1, 42, 27, 28, 182, 1, 117, 62, 29, 153, 0, 5, 29, 172, 42, 27, 28, 182, 1, 120]
abbrev dktX4_attempt_0 : List UInt8 := dkwX4_attempt_0 ++ dktX4_attempt_1
theorem dksX4_attempt_0 : cX4_attempt.data.toList.drop 0 = dktX4_attempt_0 := by decide +kernel
theorem dksX4_attempt_1 : cX4_attempt.data.toList.drop 24 = dktX4_attempt_1 := dk_seg dksX4_attempt_0 24 rfl rfl
theorem dksX4_attempt_2 : cX4_attempt.data.toList.drop 48 = dktX4_attempt_2 := dk_seg dksX4_attempt_1 24 rfl rfl
theorem dksX4_attempt_3 : cX4_attempt.data.toList.drop 70 = dktX4_attempt_3 := dk_seg dksX4_attempt_2 22 rfl rfl
theorem dX4_attempt_0 : decode cX4_attempt 0 = .ok (.aload_n 0, 1) := dk_42 (dk_at dksX4_attempt_0 0 rfl rfl)
theorem dX4_attempt_1 : decode cX4_attempt 1 = .ok (.iconst 0, 1) := dk_3 (dk_at dksX4_attempt_0 1 rfl rfl)
theorem dX4_attempt_2 : decode cX4_attempt 2 = .ok (.putfield 1, 3) := dk_181 0 1 (dk_at dksX4_attempt_0 2 rfl rfl)
theorem dX4_attempt_5 : decode cX4_attempt 5 = .ok (.aload_n 0, 1) := dk_42 (dk_at dksX4_attempt_0 5 rfl rfl)
theorem dX4_attempt_6 : decode cX4_attempt 6 = .ok (.iload_n 1, 1) := dk_27 (dk_at dksX4_attempt_0 6 rfl rfl)
theorem dX4_attempt_7 : decode cX4_attempt 7 = .ok (.iload_n 2, 1) := dk_28 (dk_at dksX4_attempt_0 7 rfl rfl)
theorem dX4_attempt_8 : decode cX4_attempt 8 = .ok (.invokevirtual 373, 3) := dk_182 1 117 (dk_at dksX4_attempt_0 8 rfl rfl)
theorem dX4_attempt_11 : decode cX4_attempt 11 = .ok (.istore_n 3, 1) := dk_62 (dk_at dksX4_attempt_0 11 rfl rfl)
theorem dX4_attempt_12 : decode cX4_attempt 12 = .ok (.iload_n 3, 1) := dk_29 (dk_at dksX4_attempt_0 12 rfl rfl)
theorem dX4_attempt_13 : decode cX4_attempt 13 = .ok (.ifCond .eq 5, 3) := dk_153 0 5 (dk_at dksX4_attempt_0 13 rfl rfl)
theorem dX4_attempt_16 : decode cX4_attempt 16 = .ok (.iload_n 3, 1) := dk_29 (dk_at dksX4_attempt_0 16 rfl rfl)
theorem dX4_attempt_17 : decode cX4_attempt 17 = .ok (.ireturn, 1) := dk_172 (dk_at dksX4_attempt_0 17 rfl rfl)
theorem dX4_attempt_18 : decode cX4_attempt 18 = .ok (.aload_n 0, 1) := dk_42 (dk_at dksX4_attempt_0 18 rfl rfl)
theorem dX4_attempt_19 : decode cX4_attempt 19 = .ok (.iload_n 1, 1) := dk_27 (dk_at dksX4_attempt_0 19 rfl rfl)
theorem dX4_attempt_20 : decode cX4_attempt 20 = .ok (.iload_n 2, 1) := dk_28 (dk_at dksX4_attempt_0 20 rfl rfl)
theorem dX4_attempt_21 : decode cX4_attempt 21 = .ok (.invokevirtual 376, 3) := dk_182 1 120 (dk_at dksX4_attempt_0 21 rfl rfl)
theorem dX4_attempt_24 : decode cX4_attempt 24 = .ok (.istore 4, 2) := dk_54 4 (dk_at dksX4_attempt_1 0 rfl rfl)
theorem dX4_attempt_26 : decode cX4_attempt 26 = .ok (.iconst (-1), 1) := dk_2 (dk_at dksX4_attempt_1 2 rfl rfl)
theorem dX4_attempt_27 : decode cX4_attempt 27 = .ok (.istore 5, 2) := dk_54 5 (dk_at dksX4_attempt_1 3 rfl rfl)
theorem dX4_attempt_29 : decode cX4_attempt 29 = .ok (.ldc_w 313, 3) := dk_19 1 57 (dk_at dksX4_attempt_1 5 rfl rfl)
theorem dX4_attempt_32 : decode cX4_attempt 32 = .ok (.istore 6, 2) := dk_54 6 (dk_at dksX4_attempt_1 8 rfl rfl)
theorem dX4_attempt_34 : decode cX4_attempt 34 = .ok (.iconst 0, 1) := dk_3 (dk_at dksX4_attempt_1 10 rfl rfl)
theorem dX4_attempt_35 : decode cX4_attempt 35 = .ok (.istore 7, 2) := dk_54 7 (dk_at dksX4_attempt_1 11 rfl rfl)
theorem dX4_attempt_37 : decode cX4_attempt 37 = .ok (.iload 7, 2) := dk_21 7 (dk_at dksX4_attempt_1 13 rfl rfl)
theorem dX4_attempt_39 : decode cX4_attempt 39 = .ok (.aload_n 0, 1) := dk_42 (dk_at dksX4_attempt_1 15 rfl rfl)
theorem dX4_attempt_40 : decode cX4_attempt 40 = .ok (.getfield 13, 3) := dk_180 0 13 (dk_at dksX4_attempt_1 16 rfl rfl)
theorem dX4_attempt_43 : decode cX4_attempt 43 = .ok (.iconst 2, 1) := dk_5 (dk_at dksX4_attempt_1 19 rfl rfl)
theorem dX4_attempt_44 : decode cX4_attempt 44 = .ok (.iaload, 1) := dk_46 (dk_at dksX4_attempt_1 20 rfl rfl)
theorem dX4_attempt_45 : decode cX4_attempt 45 = .ok (.if_icmp .ge 42, 3) := dk_162 0 42 (dk_at dksX4_attempt_1 21 rfl rfl)
theorem dX4_attempt_48 : decode cX4_attempt 48 = .ok (.iload 4, 2) := dk_21 4 (dk_at dksX4_attempt_2 0 rfl rfl)
theorem dX4_attempt_50 : decode cX4_attempt 50 = .ok (.ifCond .eq 37, 3) := dk_153 0 37 (dk_at dksX4_attempt_2 2 rfl rfl)
theorem dX4_attempt_53 : decode cX4_attempt 53 = .ok (.aload_n 0, 1) := dk_42 (dk_at dksX4_attempt_2 5 rfl rfl)
theorem dX4_attempt_54 : decode cX4_attempt 54 = .ok (.iload 7, 2) := dk_21 7 (dk_at dksX4_attempt_2 6 rfl rfl)
theorem dX4_attempt_56 : decode cX4_attempt 56 = .ok (.iload 4, 2) := dk_21 4 (dk_at dksX4_attempt_2 8 rfl rfl)
theorem dX4_attempt_58 : decode cX4_attempt 58 = .ok (.invokevirtual 379, 3) := dk_182 1 123 (dk_at dksX4_attempt_2 10 rfl rfl)
theorem dX4_attempt_61 : decode cX4_attempt 61 = .ok (.istore 8, 2) := dk_54 8 (dk_at dksX4_attempt_2 13 rfl rfl)
theorem dX4_attempt_63 : decode cX4_attempt 63 = .ok (.iload 8, 2) := dk_21 8 (dk_at dksX4_attempt_2 15 rfl rfl)
theorem dX4_attempt_65 : decode cX4_attempt 65 = .ok (.iload 6, 2) := dk_21 6 (dk_at dksX4_attempt_2 17 rfl rfl)
theorem dX4_attempt_67 : decode cX4_attempt 67 = .ok (.if_icmp .lt 6, 3) := dk_161 0 6 (dk_at dksX4_attempt_2 19 rfl rfl)
theorem dX4_attempt_70 : decode cX4_attempt 70 = .ok (.goto 11, 3) := dk_167 0 11 (dk_at dksX4_attempt_3 0 rfl rfl)
theorem dX4_attempt_73 : decode cX4_attempt 73 = .ok (.iload 7, 2) := dk_21 7 (dk_at dksX4_attempt_3 3 rfl rfl)
theorem dX4_attempt_75 : decode cX4_attempt 75 = .ok (.istore 5, 2) := dk_54 5 (dk_at dksX4_attempt_3 5 rfl rfl)
theorem dX4_attempt_77 : decode cX4_attempt 77 = .ok (.iload 8, 2) := dk_21 8 (dk_at dksX4_attempt_3 7 rfl rfl)
theorem dX4_attempt_79 : decode cX4_attempt 79 = .ok (.istore 6, 2) := dk_54 6 (dk_at dksX4_attempt_3 9 rfl rfl)
theorem dX4_attempt_81 : decode cX4_attempt 81 = .ok (.iinc 7 1, 3) := dk_132 7 1 (dk_at dksX4_attempt_3 11 rfl rfl)
theorem dX4_attempt_84 : decode cX4_attempt 84 = .ok (.goto (-47), 3) := dk_167 255 209 (dk_at dksX4_attempt_3 14 rfl rfl)
theorem dX4_attempt_87 : decode cX4_attempt 87 = .ok (.iload 5, 2) := dk_21 5 (dk_at dksX4_attempt_3 17 rfl rfl)
theorem dX4_attempt_89 : decode cX4_attempt 89 = .ok (.ireturn, 1) := dk_172 (dk_at dksX4_attempt_3 19 rfl rfl)
abbrev cX4_mostOften : ByteArray := prog_16_method_103_code
def yX4_mostOften : MethodName := ⟨RX4, "mostOften", "(II)I"⟩
def dkwX4_mostOften_6 : List UInt8 := [167, 255, 145, 29, 172]
abbrev dktX4_mostOften_6 : List UInt8 := dkwX4_mostOften_6 ++ []
def dkwX4_mostOften_5 : List UInt8 := [21, 5, 46, 29, 164, 0, 13, 42, 180, 0, 58, 21, 5, 46, 167, 0, 4, 29, 62, 132, 4, 1]
abbrev dktX4_mostOften_5 : List UInt8 := dkwX4_mostOften_5 ++ dktX4_mostOften_6
def dkwX4_mostOften_4 : List UInt8 := [42, 180, 0, 13, 16, 43, 46, 54, 5, 42, 180, 0, 58, 21, 5, 92, 46, 4, 96, 79, 42, 180, 0, 58]
abbrev dktX4_mostOften_4 : List UInt8 := dkwX4_mostOften_4 ++ dktX4_mostOften_5
def dkwX4_mostOften_3 : List UInt8 := [42, 42, 182, 0, 232, 27, 42, 180, 0, 13, 16, 44, 46, 21, 4, 182, 0, 239, 16, 6, 112, 167, 0, 10]
abbrev dktX4_mostOften_3 : List UInt8 := dkwX4_mostOften_3 ++ dktX4_mostOften_4
def dkwX4_mostOften_2 : List UInt8 := [167, 0, 91, 42, 42, 182, 0, 232, 27, 42, 180, 0, 13, 16, 44, 46, 21, 4, 182, 0, 235, 154, 0, 27]
abbrev dktX4_mostOften_2 : List UInt8 := dkwX4_mostOften_2 ++ dktX4_mostOften_3
def dkwX4_mostOften_1 : List UInt8 := [167, 255, 239, 3, 54, 4, 21, 4, 16, 10, 162, 0, 110, 28, 133, 21, 4, 184, 0, 224, 154, 0, 6]
abbrev dktX4_mostOften_1 : List UInt8 := dkwX4_mostOften_1 ++ dktX4_mostOften_2
def dkwX4_mostOften_0 : List UInt8 := [3, 62, 3, 54, 4, 21, 4, 8, 163, 0, 17, 42, 180, 0, 58, 21, 4, 3, 79, 132, 4, 1]
abbrev dktX4_mostOften_0 : List UInt8 := dkwX4_mostOften_0 ++ dktX4_mostOften_1
theorem dksX4_mostOften_0 : cX4_mostOften.data.toList.drop 0 = dktX4_mostOften_0 := by decide +kernel
theorem dksX4_mostOften_1 : cX4_mostOften.data.toList.drop 22 = dktX4_mostOften_1 := dk_seg dksX4_mostOften_0 22 rfl rfl
theorem dksX4_mostOften_2 : cX4_mostOften.data.toList.drop 45 = dktX4_mostOften_2 := dk_seg dksX4_mostOften_1 23 rfl rfl
theorem dksX4_mostOften_3 : cX4_mostOften.data.toList.drop 69 = dktX4_mostOften_3 := dk_seg dksX4_mostOften_2 24 rfl rfl
theorem dksX4_mostOften_4 : cX4_mostOften.data.toList.drop 93 = dktX4_mostOften_4 := dk_seg dksX4_mostOften_3 24 rfl rfl
theorem dksX4_mostOften_5 : cX4_mostOften.data.toList.drop 117 = dktX4_mostOften_5 := dk_seg dksX4_mostOften_4 24 rfl rfl
theorem dksX4_mostOften_6 : cX4_mostOften.data.toList.drop 139 = dktX4_mostOften_6 := dk_seg dksX4_mostOften_5 22 rfl rfl
theorem dX4_mostOften_0 : decode cX4_mostOften 0 = .ok (.iconst 0, 1) := dk_3 (dk_at dksX4_mostOften_0 0 rfl rfl)
theorem dX4_mostOften_1 : decode cX4_mostOften 1 = .ok (.istore_n 3, 1) := dk_62 (dk_at dksX4_mostOften_0 1 rfl rfl)
theorem dX4_mostOften_2 : decode cX4_mostOften 2 = .ok (.iconst 0, 1) := dk_3 (dk_at dksX4_mostOften_0 2 rfl rfl)
theorem dX4_mostOften_3 : decode cX4_mostOften 3 = .ok (.istore 4, 2) := dk_54 4 (dk_at dksX4_mostOften_0 3 rfl rfl)
theorem dX4_mostOften_5 : decode cX4_mostOften 5 = .ok (.iload 4, 2) := dk_21 4 (dk_at dksX4_mostOften_0 5 rfl rfl)
theorem dX4_mostOften_7 : decode cX4_mostOften 7 = .ok (.iconst 5, 1) := dk_8 (dk_at dksX4_mostOften_0 7 rfl rfl)
theorem dX4_mostOften_8 : decode cX4_mostOften 8 = .ok (.if_icmp .gt 17, 3) := dk_163 0 17 (dk_at dksX4_mostOften_0 8 rfl rfl)
theorem dX4_mostOften_11 : decode cX4_mostOften 11 = .ok (.aload_n 0, 1) := dk_42 (dk_at dksX4_mostOften_0 11 rfl rfl)
theorem dX4_mostOften_12 : decode cX4_mostOften 12 = .ok (.getfield 58, 3) := dk_180 0 58 (dk_at dksX4_mostOften_0 12 rfl rfl)
theorem dX4_mostOften_15 : decode cX4_mostOften 15 = .ok (.iload 4, 2) := dk_21 4 (dk_at dksX4_mostOften_0 15 rfl rfl)
theorem dX4_mostOften_17 : decode cX4_mostOften 17 = .ok (.iconst 0, 1) := dk_3 (dk_at dksX4_mostOften_0 17 rfl rfl)
theorem dX4_mostOften_18 : decode cX4_mostOften 18 = .ok (.iastore, 1) := dk_79 (dk_at dksX4_mostOften_0 18 rfl rfl)
theorem dX4_mostOften_19 : decode cX4_mostOften 19 = .ok (.iinc 4 1, 3) := dk_132 4 1 (dk_at dksX4_mostOften_0 19 rfl rfl)
theorem dX4_mostOften_22 : decode cX4_mostOften 22 = .ok (.goto (-17), 3) := dk_167 255 239 (dk_at dksX4_mostOften_1 0 rfl rfl)
theorem dX4_mostOften_25 : decode cX4_mostOften 25 = .ok (.iconst 0, 1) := dk_3 (dk_at dksX4_mostOften_1 3 rfl rfl)
theorem dX4_mostOften_26 : decode cX4_mostOften 26 = .ok (.istore 4, 2) := dk_54 4 (dk_at dksX4_mostOften_1 4 rfl rfl)
theorem dX4_mostOften_28 : decode cX4_mostOften 28 = .ok (.iload 4, 2) := dk_21 4 (dk_at dksX4_mostOften_1 6 rfl rfl)
theorem dX4_mostOften_30 : decode cX4_mostOften 30 = .ok (.bipush 10, 2) := dk_16 10 (dk_at dksX4_mostOften_1 8 rfl rfl)
theorem dX4_mostOften_32 : decode cX4_mostOften 32 = .ok (.if_icmp .ge 110, 3) := dk_162 0 110 (dk_at dksX4_mostOften_1 10 rfl rfl)
theorem dX4_mostOften_35 : decode cX4_mostOften 35 = .ok (.iload_n 2, 1) := dk_28 (dk_at dksX4_mostOften_1 13 rfl rfl)
theorem dX4_mostOften_36 : decode cX4_mostOften 36 = .ok (.i2l, 1) := dk_133 (dk_at dksX4_mostOften_1 14 rfl rfl)
theorem dX4_mostOften_37 : decode cX4_mostOften 37 = .ok (.iload 4, 2) := dk_21 4 (dk_at dksX4_mostOften_1 15 rfl rfl)
theorem dX4_mostOften_39 : decode cX4_mostOften 39 = .ok (.invokestatic 224, 3) := dk_184 0 224 (dk_at dksX4_mostOften_1 17 rfl rfl)
theorem dX4_mostOften_42 : decode cX4_mostOften 42 = .ok (.ifCond .ne 6, 3) := dk_154 0 6 (dk_at dksX4_mostOften_1 20 rfl rfl)
theorem dX4_mostOften_45 : decode cX4_mostOften 45 = .ok (.goto 91, 3) := dk_167 0 91 (dk_at dksX4_mostOften_2 0 rfl rfl)
theorem dX4_mostOften_48 : decode cX4_mostOften 48 = .ok (.aload_n 0, 1) := dk_42 (dk_at dksX4_mostOften_2 3 rfl rfl)
theorem dX4_mostOften_49 : decode cX4_mostOften 49 = .ok (.aload_n 0, 1) := dk_42 (dk_at dksX4_mostOften_2 4 rfl rfl)
theorem dX4_mostOften_50 : decode cX4_mostOften 50 = .ok (.invokevirtual 232, 3) := dk_182 0 232 (dk_at dksX4_mostOften_2 5 rfl rfl)
theorem dX4_mostOften_53 : decode cX4_mostOften 53 = .ok (.iload_n 1, 1) := dk_27 (dk_at dksX4_mostOften_2 8 rfl rfl)
theorem dX4_mostOften_54 : decode cX4_mostOften 54 = .ok (.aload_n 0, 1) := dk_42 (dk_at dksX4_mostOften_2 9 rfl rfl)
theorem dX4_mostOften_55 : decode cX4_mostOften 55 = .ok (.getfield 13, 3) := dk_180 0 13 (dk_at dksX4_mostOften_2 10 rfl rfl)
theorem dX4_mostOften_58 : decode cX4_mostOften 58 = .ok (.bipush 44, 2) := dk_16 44 (dk_at dksX4_mostOften_2 13 rfl rfl)
theorem dX4_mostOften_60 : decode cX4_mostOften 60 = .ok (.iaload, 1) := dk_46 (dk_at dksX4_mostOften_2 15 rfl rfl)
theorem dX4_mostOften_61 : decode cX4_mostOften 61 = .ok (.iload 4, 2) := dk_21 4 (dk_at dksX4_mostOften_2 16 rfl rfl)
theorem dX4_mostOften_63 : decode cX4_mostOften 63 = .ok (.invokevirtual 235, 3) := dk_182 0 235 (dk_at dksX4_mostOften_2 18 rfl rfl)
theorem dX4_mostOften_66 : decode cX4_mostOften 66 = .ok (.ifCond .ne 27, 3) := dk_154 0 27 (dk_at dksX4_mostOften_2 21 rfl rfl)
theorem dX4_mostOften_69 : decode cX4_mostOften 69 = .ok (.aload_n 0, 1) := dk_42 (dk_at dksX4_mostOften_3 0 rfl rfl)
theorem dX4_mostOften_70 : decode cX4_mostOften 70 = .ok (.aload_n 0, 1) := dk_42 (dk_at dksX4_mostOften_3 1 rfl rfl)
theorem dX4_mostOften_71 : decode cX4_mostOften 71 = .ok (.invokevirtual 232, 3) := dk_182 0 232 (dk_at dksX4_mostOften_3 2 rfl rfl)
theorem dX4_mostOften_74 : decode cX4_mostOften 74 = .ok (.iload_n 1, 1) := dk_27 (dk_at dksX4_mostOften_3 5 rfl rfl)
theorem dX4_mostOften_75 : decode cX4_mostOften 75 = .ok (.aload_n 0, 1) := dk_42 (dk_at dksX4_mostOften_3 6 rfl rfl)
theorem dX4_mostOften_76 : decode cX4_mostOften 76 = .ok (.getfield 13, 3) := dk_180 0 13 (dk_at dksX4_mostOften_3 7 rfl rfl)
theorem dX4_mostOften_79 : decode cX4_mostOften 79 = .ok (.bipush 44, 2) := dk_16 44 (dk_at dksX4_mostOften_3 10 rfl rfl)
theorem dX4_mostOften_81 : decode cX4_mostOften 81 = .ok (.iaload, 1) := dk_46 (dk_at dksX4_mostOften_3 12 rfl rfl)
theorem dX4_mostOften_82 : decode cX4_mostOften 82 = .ok (.iload 4, 2) := dk_21 4 (dk_at dksX4_mostOften_3 13 rfl rfl)
theorem dX4_mostOften_84 : decode cX4_mostOften 84 = .ok (.invokevirtual 239, 3) := dk_182 0 239 (dk_at dksX4_mostOften_3 15 rfl rfl)
theorem dX4_mostOften_87 : decode cX4_mostOften 87 = .ok (.bipush 6, 2) := dk_16 6 (dk_at dksX4_mostOften_3 18 rfl rfl)
theorem dX4_mostOften_89 : decode cX4_mostOften 89 = .ok (.irem, 1) := dk_112 (dk_at dksX4_mostOften_3 20 rfl rfl)
theorem dX4_mostOften_90 : decode cX4_mostOften 90 = .ok (.goto 10, 3) := dk_167 0 10 (dk_at dksX4_mostOften_3 21 rfl rfl)
theorem dX4_mostOften_93 : decode cX4_mostOften 93 = .ok (.aload_n 0, 1) := dk_42 (dk_at dksX4_mostOften_4 0 rfl rfl)
theorem dX4_mostOften_94 : decode cX4_mostOften 94 = .ok (.getfield 13, 3) := dk_180 0 13 (dk_at dksX4_mostOften_4 1 rfl rfl)
theorem dX4_mostOften_97 : decode cX4_mostOften 97 = .ok (.bipush 43, 2) := dk_16 43 (dk_at dksX4_mostOften_4 4 rfl rfl)
theorem dX4_mostOften_99 : decode cX4_mostOften 99 = .ok (.iaload, 1) := dk_46 (dk_at dksX4_mostOften_4 6 rfl rfl)
theorem dX4_mostOften_100 : decode cX4_mostOften 100 = .ok (.istore 5, 2) := dk_54 5 (dk_at dksX4_mostOften_4 7 rfl rfl)
theorem dX4_mostOften_102 : decode cX4_mostOften 102 = .ok (.aload_n 0, 1) := dk_42 (dk_at dksX4_mostOften_4 9 rfl rfl)
theorem dX4_mostOften_103 : decode cX4_mostOften 103 = .ok (.getfield 58, 3) := dk_180 0 58 (dk_at dksX4_mostOften_4 10 rfl rfl)
theorem dX4_mostOften_106 : decode cX4_mostOften 106 = .ok (.iload 5, 2) := dk_21 5 (dk_at dksX4_mostOften_4 13 rfl rfl)
theorem dX4_mostOften_108 : decode cX4_mostOften 108 = .ok (.dup2, 1) := dk_92 (dk_at dksX4_mostOften_4 15 rfl rfl)
theorem dX4_mostOften_109 : decode cX4_mostOften 109 = .ok (.iaload, 1) := dk_46 (dk_at dksX4_mostOften_4 16 rfl rfl)
theorem dX4_mostOften_110 : decode cX4_mostOften 110 = .ok (.iconst 1, 1) := dk_4 (dk_at dksX4_mostOften_4 17 rfl rfl)
theorem dX4_mostOften_111 : decode cX4_mostOften 111 = .ok (.iadd, 1) := dk_96 (dk_at dksX4_mostOften_4 18 rfl rfl)
theorem dX4_mostOften_112 : decode cX4_mostOften 112 = .ok (.iastore, 1) := dk_79 (dk_at dksX4_mostOften_4 19 rfl rfl)
theorem dX4_mostOften_113 : decode cX4_mostOften 113 = .ok (.aload_n 0, 1) := dk_42 (dk_at dksX4_mostOften_4 20 rfl rfl)
theorem dX4_mostOften_114 : decode cX4_mostOften 114 = .ok (.getfield 58, 3) := dk_180 0 58 (dk_at dksX4_mostOften_4 21 rfl rfl)
theorem dX4_mostOften_117 : decode cX4_mostOften 117 = .ok (.iload 5, 2) := dk_21 5 (dk_at dksX4_mostOften_5 0 rfl rfl)
theorem dX4_mostOften_119 : decode cX4_mostOften 119 = .ok (.iaload, 1) := dk_46 (dk_at dksX4_mostOften_5 2 rfl rfl)
theorem dX4_mostOften_120 : decode cX4_mostOften 120 = .ok (.iload_n 3, 1) := dk_29 (dk_at dksX4_mostOften_5 3 rfl rfl)
theorem dX4_mostOften_121 : decode cX4_mostOften 121 = .ok (.if_icmp .le 13, 3) := dk_164 0 13 (dk_at dksX4_mostOften_5 4 rfl rfl)
theorem dX4_mostOften_124 : decode cX4_mostOften 124 = .ok (.aload_n 0, 1) := dk_42 (dk_at dksX4_mostOften_5 7 rfl rfl)
theorem dX4_mostOften_125 : decode cX4_mostOften 125 = .ok (.getfield 58, 3) := dk_180 0 58 (dk_at dksX4_mostOften_5 8 rfl rfl)
theorem dX4_mostOften_128 : decode cX4_mostOften 128 = .ok (.iload 5, 2) := dk_21 5 (dk_at dksX4_mostOften_5 11 rfl rfl)
theorem dX4_mostOften_130 : decode cX4_mostOften 130 = .ok (.iaload, 1) := dk_46 (dk_at dksX4_mostOften_5 13 rfl rfl)
theorem dX4_mostOften_131 : decode cX4_mostOften 131 = .ok (.goto 4, 3) := dk_167 0 4 (dk_at dksX4_mostOften_5 14 rfl rfl)
theorem dX4_mostOften_134 : decode cX4_mostOften 134 = .ok (.iload_n 3, 1) := dk_29 (dk_at dksX4_mostOften_5 17 rfl rfl)
theorem dX4_mostOften_135 : decode cX4_mostOften 135 = .ok (.istore_n 3, 1) := dk_62 (dk_at dksX4_mostOften_5 18 rfl rfl)
theorem dX4_mostOften_136 : decode cX4_mostOften 136 = .ok (.iinc 4 1, 3) := dk_132 4 1 (dk_at dksX4_mostOften_5 19 rfl rfl)
theorem dX4_mostOften_139 : decode cX4_mostOften 139 = .ok (.goto (-111), 3) := dk_167 255 145 (dk_at dksX4_mostOften_6 0 rfl rfl)
theorem dX4_mostOften_142 : decode cX4_mostOften 142 = .ok (.iload_n 3, 1) := dk_29 (dk_at dksX4_mostOften_6 3 rfl rfl)
theorem dX4_mostOften_143 : decode cX4_mostOften 143 = .ok (.ireturn, 1) := dk_172 (dk_at dksX4_mostOften_6 4 rfl rfl)
abbrev cX4_withstands : ByteArray := prog_16_method_108_code
def yX4_withstands : MethodName := ⟨RX4, "withstands", "(I)I"⟩
def dkwX4_withstands_2 : List UInt8 := [16, 36, 29, 104, 42, 182, 0, 232, 96, 51, 153, 0, 5, 29, 61, 132, 3, 1, 167, 255, 222, 28, 172]
abbrev dktX4_withstands_2 : List UInt8 := dkwX4_withstands_2 ++ []
def dkwX4_withstands_1 : List UInt8 := [46, 182, 1, 64, 2, 61, 3, 62, 29, 16, 10, 162, 0, 34, 42, 27, 29, 182, 1, 133, 42, 180, 0, 61]
abbrev dktX4_withstands_1 : List UInt8 := dkwX4_withstands_1 ++ dktX4_withstands_2
def dkwX4_withstands_0 : List UInt8 := [42, 3, 181, 0, 1, 42, 27, 133, 182, 1, 5, 154, 0, 6, 16, 254, 172, 42, 42, 180, 0, 13, 16, 44]
abbrev dktX4_withstands_0 : List UInt8 := dkwX4_withstands_0 ++ dktX4_withstands_1
theorem dksX4_withstands_0 : cX4_withstands.data.toList.drop 0 = dktX4_withstands_0 := by decide +kernel
theorem dksX4_withstands_1 : cX4_withstands.data.toList.drop 24 = dktX4_withstands_1 := dk_seg dksX4_withstands_0 24 rfl rfl
theorem dksX4_withstands_2 : cX4_withstands.data.toList.drop 48 = dktX4_withstands_2 := dk_seg dksX4_withstands_1 24 rfl rfl
theorem dX4_withstands_0 : decode cX4_withstands 0 = .ok (.aload_n 0, 1) := dk_42 (dk_at dksX4_withstands_0 0 rfl rfl)
theorem dX4_withstands_1 : decode cX4_withstands 1 = .ok (.iconst 0, 1) := dk_3 (dk_at dksX4_withstands_0 1 rfl rfl)
theorem dX4_withstands_2 : decode cX4_withstands 2 = .ok (.putfield 1, 3) := dk_181 0 1 (dk_at dksX4_withstands_0 2 rfl rfl)
theorem dX4_withstands_5 : decode cX4_withstands 5 = .ok (.aload_n 0, 1) := dk_42 (dk_at dksX4_withstands_0 5 rfl rfl)
theorem dX4_withstands_6 : decode cX4_withstands 6 = .ok (.iload_n 1, 1) := dk_27 (dk_at dksX4_withstands_0 6 rfl rfl)
theorem dX4_withstands_7 : decode cX4_withstands 7 = .ok (.i2l, 1) := dk_133 (dk_at dksX4_withstands_0 7 rfl rfl)
theorem dX4_withstands_8 : decode cX4_withstands 8 = .ok (.invokevirtual 261, 3) := dk_182 1 5 (dk_at dksX4_withstands_0 8 rfl rfl)
theorem dX4_withstands_11 : decode cX4_withstands 11 = .ok (.ifCond .ne 6, 3) := dk_154 0 6 (dk_at dksX4_withstands_0 11 rfl rfl)
theorem dX4_withstands_14 : decode cX4_withstands 14 = .ok (.bipush (-2), 2) := dk_16 254 (dk_at dksX4_withstands_0 14 rfl rfl)
theorem dX4_withstands_16 : decode cX4_withstands 16 = .ok (.ireturn, 1) := dk_172 (dk_at dksX4_withstands_0 16 rfl rfl)
theorem dX4_withstands_17 : decode cX4_withstands 17 = .ok (.aload_n 0, 1) := dk_42 (dk_at dksX4_withstands_0 17 rfl rfl)
theorem dX4_withstands_18 : decode cX4_withstands 18 = .ok (.aload_n 0, 1) := dk_42 (dk_at dksX4_withstands_0 18 rfl rfl)
theorem dX4_withstands_19 : decode cX4_withstands 19 = .ok (.getfield 13, 3) := dk_180 0 13 (dk_at dksX4_withstands_0 19 rfl rfl)
theorem dX4_withstands_22 : decode cX4_withstands 22 = .ok (.bipush 44, 2) := dk_16 44 (dk_at dksX4_withstands_0 22 rfl rfl)
theorem dX4_withstands_24 : decode cX4_withstands 24 = .ok (.iaload, 1) := dk_46 (dk_at dksX4_withstands_1 0 rfl rfl)
theorem dX4_withstands_25 : decode cX4_withstands 25 = .ok (.invokevirtual 320, 3) := dk_182 1 64 (dk_at dksX4_withstands_1 1 rfl rfl)
theorem dX4_withstands_28 : decode cX4_withstands 28 = .ok (.iconst (-1), 1) := dk_2 (dk_at dksX4_withstands_1 4 rfl rfl)
theorem dX4_withstands_29 : decode cX4_withstands 29 = .ok (.istore_n 2, 1) := dk_61 (dk_at dksX4_withstands_1 5 rfl rfl)
theorem dX4_withstands_30 : decode cX4_withstands 30 = .ok (.iconst 0, 1) := dk_3 (dk_at dksX4_withstands_1 6 rfl rfl)
theorem dX4_withstands_31 : decode cX4_withstands 31 = .ok (.istore_n 3, 1) := dk_62 (dk_at dksX4_withstands_1 7 rfl rfl)
theorem dX4_withstands_32 : decode cX4_withstands 32 = .ok (.iload_n 3, 1) := dk_29 (dk_at dksX4_withstands_1 8 rfl rfl)
theorem dX4_withstands_33 : decode cX4_withstands 33 = .ok (.bipush 10, 2) := dk_16 10 (dk_at dksX4_withstands_1 9 rfl rfl)
theorem dX4_withstands_35 : decode cX4_withstands 35 = .ok (.if_icmp .ge 34, 3) := dk_162 0 34 (dk_at dksX4_withstands_1 11 rfl rfl)
theorem dX4_withstands_38 : decode cX4_withstands 38 = .ok (.aload_n 0, 1) := dk_42 (dk_at dksX4_withstands_1 14 rfl rfl)
theorem dX4_withstands_39 : decode cX4_withstands 39 = .ok (.iload_n 1, 1) := dk_27 (dk_at dksX4_withstands_1 15 rfl rfl)
theorem dX4_withstands_40 : decode cX4_withstands 40 = .ok (.iload_n 3, 1) := dk_29 (dk_at dksX4_withstands_1 16 rfl rfl)
theorem dX4_withstands_41 : decode cX4_withstands 41 = .ok (.invokevirtual 389, 3) := dk_182 1 133 (dk_at dksX4_withstands_1 17 rfl rfl)
theorem dX4_withstands_44 : decode cX4_withstands 44 = .ok (.aload_n 0, 1) := dk_42 (dk_at dksX4_withstands_1 20 rfl rfl)
theorem dX4_withstands_45 : decode cX4_withstands 45 = .ok (.getfield 61, 3) := dk_180 0 61 (dk_at dksX4_withstands_1 21 rfl rfl)
theorem dX4_withstands_48 : decode cX4_withstands 48 = .ok (.bipush 36, 2) := dk_16 36 (dk_at dksX4_withstands_2 0 rfl rfl)
theorem dX4_withstands_50 : decode cX4_withstands 50 = .ok (.iload_n 3, 1) := dk_29 (dk_at dksX4_withstands_2 2 rfl rfl)
theorem dX4_withstands_51 : decode cX4_withstands 51 = .ok (.imul, 1) := dk_104 (dk_at dksX4_withstands_2 3 rfl rfl)
theorem dX4_withstands_52 : decode cX4_withstands 52 = .ok (.aload_n 0, 1) := dk_42 (dk_at dksX4_withstands_2 4 rfl rfl)
theorem dX4_withstands_53 : decode cX4_withstands 53 = .ok (.invokevirtual 232, 3) := dk_182 0 232 (dk_at dksX4_withstands_2 5 rfl rfl)
theorem dX4_withstands_56 : decode cX4_withstands 56 = .ok (.iadd, 1) := dk_96 (dk_at dksX4_withstands_2 8 rfl rfl)
theorem dX4_withstands_57 : decode cX4_withstands 57 = .ok (.baload, 1) := dk_51 (dk_at dksX4_withstands_2 9 rfl rfl)
theorem dX4_withstands_58 : decode cX4_withstands 58 = .ok (.ifCond .eq 5, 3) := dk_153 0 5 (dk_at dksX4_withstands_2 10 rfl rfl)
theorem dX4_withstands_61 : decode cX4_withstands 61 = .ok (.iload_n 3, 1) := dk_29 (dk_at dksX4_withstands_2 13 rfl rfl)
theorem dX4_withstands_62 : decode cX4_withstands 62 = .ok (.istore_n 2, 1) := dk_61 (dk_at dksX4_withstands_2 14 rfl rfl)
theorem dX4_withstands_63 : decode cX4_withstands 63 = .ok (.iinc 3 1, 3) := dk_132 3 1 (dk_at dksX4_withstands_2 15 rfl rfl)
theorem dX4_withstands_66 : decode cX4_withstands 66 = .ok (.goto (-34), 3) := dk_167 255 222 (dk_at dksX4_withstands_2 18 rfl rfl)
theorem dX4_withstands_69 : decode cX4_withstands 69 = .ok (.iload_n 2, 1) := dk_28 (dk_at dksX4_withstands_2 21 rfl rfl)
theorem dX4_withstands_70 : decode cX4_withstands 70 = .ok (.ireturn, 1) := dk_172 (dk_at dksX4_withstands_2 22 rfl rfl)
abbrev cX4_laysStood : ByteArray := prog_16_method_107_code
def yX4_laysStood : MethodName := ⟨RX4, "laysStood", "(II)V"⟩
def dkwX4_laysStood_5 : List UInt8 := [84, 4, 62, 132, 5, 1, 167, 255, 201, 132, 4, 1, 167, 255, 183, 167, 255, 171, 177]
abbrev dktX4_laysStood_5 : List UInt8 := dkwX4_laysStood_5 ++ []
def dkwX4_laysStood_4 : List UInt8 := [21, 5, 28, 182, 1, 129, 154, 0, 6, 167, 0, 18, 42, 180, 0, 61, 16, 36, 28, 104, 21, 4, 96, 4]
abbrev dktX4_laysStood_4 : List UInt8 := dkwX4_laysStood_4 ++ dktX4_laysStood_5
def dkwX4_laysStood_3 : List UInt8 := [16, 8, 162, 0, 54, 42, 180, 0, 61, 16, 36, 28, 104, 21, 4, 96, 51, 154, 0, 39, 42, 21, 4]
abbrev dktX4_laysStood_3 : List UInt8 := dkwX4_laysStood_3 ++ dktX4_laysStood_4
def dkwX4_laysStood_2 : List UInt8 := [29, 153, 0, 87, 3, 62, 3, 54, 4, 21, 4, 42, 182, 1, 58, 162, 0, 70, 3, 54, 5, 21, 5]
abbrev dktX4_laysStood_2 : List UInt8 := dkwX4_laysStood_2 ++ dktX4_laysStood_3
def dkwX4_laysStood_1 : List UInt8 := [160, 0, 14, 29, 184, 0, 217, 154, 0, 7, 4, 167, 0, 4, 3, 84, 132, 3, 1, 167, 255, 216, 4, 62]
abbrev dktX4_laysStood_1 : List UInt8 := dkwX4_laysStood_1 ++ dktX4_laysStood_2
def dkwX4_laysStood_0 : List UInt8 := [3, 62, 29, 16, 36, 162, 0, 40, 42, 180, 0, 61, 16, 36, 28, 104, 29, 96, 29, 16, 6, 108, 27]
abbrev dktX4_laysStood_0 : List UInt8 := dkwX4_laysStood_0 ++ dktX4_laysStood_1
theorem dksX4_laysStood_0 : cX4_laysStood.data.toList.drop 0 = dktX4_laysStood_0 := by decide +kernel
theorem dksX4_laysStood_1 : cX4_laysStood.data.toList.drop 23 = dktX4_laysStood_1 := dk_seg dksX4_laysStood_0 23 rfl rfl
theorem dksX4_laysStood_2 : cX4_laysStood.data.toList.drop 47 = dktX4_laysStood_2 := dk_seg dksX4_laysStood_1 24 rfl rfl
theorem dksX4_laysStood_3 : cX4_laysStood.data.toList.drop 70 = dktX4_laysStood_3 := dk_seg dksX4_laysStood_2 23 rfl rfl
theorem dksX4_laysStood_4 : cX4_laysStood.data.toList.drop 93 = dktX4_laysStood_4 := dk_seg dksX4_laysStood_3 23 rfl rfl
theorem dksX4_laysStood_5 : cX4_laysStood.data.toList.drop 117 = dktX4_laysStood_5 := dk_seg dksX4_laysStood_4 24 rfl rfl
theorem dX4_laysStood_0 : decode cX4_laysStood 0 = .ok (.iconst 0, 1) := dk_3 (dk_at dksX4_laysStood_0 0 rfl rfl)
theorem dX4_laysStood_1 : decode cX4_laysStood 1 = .ok (.istore_n 3, 1) := dk_62 (dk_at dksX4_laysStood_0 1 rfl rfl)
theorem dX4_laysStood_2 : decode cX4_laysStood 2 = .ok (.iload_n 3, 1) := dk_29 (dk_at dksX4_laysStood_0 2 rfl rfl)
theorem dX4_laysStood_3 : decode cX4_laysStood 3 = .ok (.bipush 36, 2) := dk_16 36 (dk_at dksX4_laysStood_0 3 rfl rfl)
theorem dX4_laysStood_5 : decode cX4_laysStood 5 = .ok (.if_icmp .ge 40, 3) := dk_162 0 40 (dk_at dksX4_laysStood_0 5 rfl rfl)
theorem dX4_laysStood_8 : decode cX4_laysStood 8 = .ok (.aload_n 0, 1) := dk_42 (dk_at dksX4_laysStood_0 8 rfl rfl)
theorem dX4_laysStood_9 : decode cX4_laysStood 9 = .ok (.getfield 61, 3) := dk_180 0 61 (dk_at dksX4_laysStood_0 9 rfl rfl)
theorem dX4_laysStood_12 : decode cX4_laysStood 12 = .ok (.bipush 36, 2) := dk_16 36 (dk_at dksX4_laysStood_0 12 rfl rfl)
theorem dX4_laysStood_14 : decode cX4_laysStood 14 = .ok (.iload_n 2, 1) := dk_28 (dk_at dksX4_laysStood_0 14 rfl rfl)
theorem dX4_laysStood_15 : decode cX4_laysStood 15 = .ok (.imul, 1) := dk_104 (dk_at dksX4_laysStood_0 15 rfl rfl)
theorem dX4_laysStood_16 : decode cX4_laysStood 16 = .ok (.iload_n 3, 1) := dk_29 (dk_at dksX4_laysStood_0 16 rfl rfl)
theorem dX4_laysStood_17 : decode cX4_laysStood 17 = .ok (.iadd, 1) := dk_96 (dk_at dksX4_laysStood_0 17 rfl rfl)
theorem dX4_laysStood_18 : decode cX4_laysStood 18 = .ok (.iload_n 3, 1) := dk_29 (dk_at dksX4_laysStood_0 18 rfl rfl)
theorem dX4_laysStood_19 : decode cX4_laysStood 19 = .ok (.bipush 6, 2) := dk_16 6 (dk_at dksX4_laysStood_0 19 rfl rfl)
theorem dX4_laysStood_21 : decode cX4_laysStood 21 = .ok (.idiv, 1) := dk_108 (dk_at dksX4_laysStood_0 21 rfl rfl)
theorem dX4_laysStood_22 : decode cX4_laysStood 22 = .ok (.iload_n 1, 1) := dk_27 (dk_at dksX4_laysStood_0 22 rfl rfl)
theorem dX4_laysStood_23 : decode cX4_laysStood 23 = .ok (.if_icmp .ne 14, 3) := dk_160 0 14 (dk_at dksX4_laysStood_1 0 rfl rfl)
theorem dX4_laysStood_26 : decode cX4_laysStood 26 = .ok (.iload_n 3, 1) := dk_29 (dk_at dksX4_laysStood_1 3 rfl rfl)
theorem dX4_laysStood_27 : decode cX4_laysStood 27 = .ok (.invokestatic 217, 3) := dk_184 0 217 (dk_at dksX4_laysStood_1 4 rfl rfl)
theorem dX4_laysStood_30 : decode cX4_laysStood 30 = .ok (.ifCond .ne 7, 3) := dk_154 0 7 (dk_at dksX4_laysStood_1 7 rfl rfl)
theorem dX4_laysStood_33 : decode cX4_laysStood 33 = .ok (.iconst 1, 1) := dk_4 (dk_at dksX4_laysStood_1 10 rfl rfl)
theorem dX4_laysStood_34 : decode cX4_laysStood 34 = .ok (.goto 4, 3) := dk_167 0 4 (dk_at dksX4_laysStood_1 11 rfl rfl)
theorem dX4_laysStood_37 : decode cX4_laysStood 37 = .ok (.iconst 0, 1) := dk_3 (dk_at dksX4_laysStood_1 14 rfl rfl)
theorem dX4_laysStood_38 : decode cX4_laysStood 38 = .ok (.bastore, 1) := dk_84 (dk_at dksX4_laysStood_1 15 rfl rfl)
theorem dX4_laysStood_39 : decode cX4_laysStood 39 = .ok (.iinc 3 1, 3) := dk_132 3 1 (dk_at dksX4_laysStood_1 16 rfl rfl)
theorem dX4_laysStood_42 : decode cX4_laysStood 42 = .ok (.goto (-40), 3) := dk_167 255 216 (dk_at dksX4_laysStood_1 19 rfl rfl)
theorem dX4_laysStood_45 : decode cX4_laysStood 45 = .ok (.iconst 1, 1) := dk_4 (dk_at dksX4_laysStood_1 22 rfl rfl)
theorem dX4_laysStood_46 : decode cX4_laysStood 46 = .ok (.istore_n 3, 1) := dk_62 (dk_at dksX4_laysStood_1 23 rfl rfl)
theorem dX4_laysStood_47 : decode cX4_laysStood 47 = .ok (.iload_n 3, 1) := dk_29 (dk_at dksX4_laysStood_2 0 rfl rfl)
theorem dX4_laysStood_48 : decode cX4_laysStood 48 = .ok (.ifCond .eq 87, 3) := dk_153 0 87 (dk_at dksX4_laysStood_2 1 rfl rfl)
theorem dX4_laysStood_51 : decode cX4_laysStood 51 = .ok (.iconst 0, 1) := dk_3 (dk_at dksX4_laysStood_2 4 rfl rfl)
theorem dX4_laysStood_52 : decode cX4_laysStood 52 = .ok (.istore_n 3, 1) := dk_62 (dk_at dksX4_laysStood_2 5 rfl rfl)
theorem dX4_laysStood_53 : decode cX4_laysStood 53 = .ok (.iconst 0, 1) := dk_3 (dk_at dksX4_laysStood_2 6 rfl rfl)
theorem dX4_laysStood_54 : decode cX4_laysStood 54 = .ok (.istore 4, 2) := dk_54 4 (dk_at dksX4_laysStood_2 7 rfl rfl)
theorem dX4_laysStood_56 : decode cX4_laysStood 56 = .ok (.iload 4, 2) := dk_21 4 (dk_at dksX4_laysStood_2 9 rfl rfl)
theorem dX4_laysStood_58 : decode cX4_laysStood 58 = .ok (.aload_n 0, 1) := dk_42 (dk_at dksX4_laysStood_2 11 rfl rfl)
theorem dX4_laysStood_59 : decode cX4_laysStood 59 = .ok (.invokevirtual 314, 3) := dk_182 1 58 (dk_at dksX4_laysStood_2 12 rfl rfl)
theorem dX4_laysStood_62 : decode cX4_laysStood 62 = .ok (.if_icmp .ge 70, 3) := dk_162 0 70 (dk_at dksX4_laysStood_2 15 rfl rfl)
theorem dX4_laysStood_65 : decode cX4_laysStood 65 = .ok (.iconst 0, 1) := dk_3 (dk_at dksX4_laysStood_2 18 rfl rfl)
theorem dX4_laysStood_66 : decode cX4_laysStood 66 = .ok (.istore 5, 2) := dk_54 5 (dk_at dksX4_laysStood_2 19 rfl rfl)
theorem dX4_laysStood_68 : decode cX4_laysStood 68 = .ok (.iload 5, 2) := dk_21 5 (dk_at dksX4_laysStood_2 21 rfl rfl)
theorem dX4_laysStood_70 : decode cX4_laysStood 70 = .ok (.bipush 8, 2) := dk_16 8 (dk_at dksX4_laysStood_3 0 rfl rfl)
theorem dX4_laysStood_72 : decode cX4_laysStood 72 = .ok (.if_icmp .ge 54, 3) := dk_162 0 54 (dk_at dksX4_laysStood_3 2 rfl rfl)
theorem dX4_laysStood_75 : decode cX4_laysStood 75 = .ok (.aload_n 0, 1) := dk_42 (dk_at dksX4_laysStood_3 5 rfl rfl)
theorem dX4_laysStood_76 : decode cX4_laysStood 76 = .ok (.getfield 61, 3) := dk_180 0 61 (dk_at dksX4_laysStood_3 6 rfl rfl)
theorem dX4_laysStood_79 : decode cX4_laysStood 79 = .ok (.bipush 36, 2) := dk_16 36 (dk_at dksX4_laysStood_3 9 rfl rfl)
theorem dX4_laysStood_81 : decode cX4_laysStood 81 = .ok (.iload_n 2, 1) := dk_28 (dk_at dksX4_laysStood_3 11 rfl rfl)
theorem dX4_laysStood_82 : decode cX4_laysStood 82 = .ok (.imul, 1) := dk_104 (dk_at dksX4_laysStood_3 12 rfl rfl)
theorem dX4_laysStood_83 : decode cX4_laysStood 83 = .ok (.iload 4, 2) := dk_21 4 (dk_at dksX4_laysStood_3 13 rfl rfl)
theorem dX4_laysStood_85 : decode cX4_laysStood 85 = .ok (.iadd, 1) := dk_96 (dk_at dksX4_laysStood_3 15 rfl rfl)
theorem dX4_laysStood_86 : decode cX4_laysStood 86 = .ok (.baload, 1) := dk_51 (dk_at dksX4_laysStood_3 16 rfl rfl)
theorem dX4_laysStood_87 : decode cX4_laysStood 87 = .ok (.ifCond .ne 39, 3) := dk_154 0 39 (dk_at dksX4_laysStood_3 17 rfl rfl)
theorem dX4_laysStood_90 : decode cX4_laysStood 90 = .ok (.aload_n 0, 1) := dk_42 (dk_at dksX4_laysStood_3 20 rfl rfl)
theorem dX4_laysStood_91 : decode cX4_laysStood 91 = .ok (.iload 4, 2) := dk_21 4 (dk_at dksX4_laysStood_3 21 rfl rfl)
theorem dX4_laysStood_93 : decode cX4_laysStood 93 = .ok (.iload 5, 2) := dk_21 5 (dk_at dksX4_laysStood_4 0 rfl rfl)
theorem dX4_laysStood_95 : decode cX4_laysStood 95 = .ok (.iload_n 2, 1) := dk_28 (dk_at dksX4_laysStood_4 2 rfl rfl)
theorem dX4_laysStood_96 : decode cX4_laysStood 96 = .ok (.invokevirtual 385, 3) := dk_182 1 129 (dk_at dksX4_laysStood_4 3 rfl rfl)
theorem dX4_laysStood_99 : decode cX4_laysStood 99 = .ok (.ifCond .ne 6, 3) := dk_154 0 6 (dk_at dksX4_laysStood_4 6 rfl rfl)
theorem dX4_laysStood_102 : decode cX4_laysStood 102 = .ok (.goto 18, 3) := dk_167 0 18 (dk_at dksX4_laysStood_4 9 rfl rfl)
theorem dX4_laysStood_105 : decode cX4_laysStood 105 = .ok (.aload_n 0, 1) := dk_42 (dk_at dksX4_laysStood_4 12 rfl rfl)
theorem dX4_laysStood_106 : decode cX4_laysStood 106 = .ok (.getfield 61, 3) := dk_180 0 61 (dk_at dksX4_laysStood_4 13 rfl rfl)
theorem dX4_laysStood_109 : decode cX4_laysStood 109 = .ok (.bipush 36, 2) := dk_16 36 (dk_at dksX4_laysStood_4 16 rfl rfl)
theorem dX4_laysStood_111 : decode cX4_laysStood 111 = .ok (.iload_n 2, 1) := dk_28 (dk_at dksX4_laysStood_4 18 rfl rfl)
theorem dX4_laysStood_112 : decode cX4_laysStood 112 = .ok (.imul, 1) := dk_104 (dk_at dksX4_laysStood_4 19 rfl rfl)
theorem dX4_laysStood_113 : decode cX4_laysStood 113 = .ok (.iload 4, 2) := dk_21 4 (dk_at dksX4_laysStood_4 20 rfl rfl)
theorem dX4_laysStood_115 : decode cX4_laysStood 115 = .ok (.iadd, 1) := dk_96 (dk_at dksX4_laysStood_4 22 rfl rfl)
theorem dX4_laysStood_116 : decode cX4_laysStood 116 = .ok (.iconst 1, 1) := dk_4 (dk_at dksX4_laysStood_4 23 rfl rfl)
theorem dX4_laysStood_117 : decode cX4_laysStood 117 = .ok (.bastore, 1) := dk_84 (dk_at dksX4_laysStood_5 0 rfl rfl)
theorem dX4_laysStood_118 : decode cX4_laysStood 118 = .ok (.iconst 1, 1) := dk_4 (dk_at dksX4_laysStood_5 1 rfl rfl)
theorem dX4_laysStood_119 : decode cX4_laysStood 119 = .ok (.istore_n 3, 1) := dk_62 (dk_at dksX4_laysStood_5 2 rfl rfl)
theorem dX4_laysStood_120 : decode cX4_laysStood 120 = .ok (.iinc 5 1, 3) := dk_132 5 1 (dk_at dksX4_laysStood_5 3 rfl rfl)
theorem dX4_laysStood_123 : decode cX4_laysStood 123 = .ok (.goto (-55), 3) := dk_167 255 201 (dk_at dksX4_laysStood_5 6 rfl rfl)
theorem dX4_laysStood_126 : decode cX4_laysStood 126 = .ok (.iinc 4 1, 3) := dk_132 4 1 (dk_at dksX4_laysStood_5 9 rfl rfl)
theorem dX4_laysStood_129 : decode cX4_laysStood 129 = .ok (.goto (-73), 3) := dk_167 255 183 (dk_at dksX4_laysStood_5 12 rfl rfl)
theorem dX4_laysStood_132 : decode cX4_laysStood 132 = .ok (.goto (-85), 3) := dk_167 255 171 (dk_at dksX4_laysStood_5 15 rfl rfl)
theorem dX4_laysStood_135 : decode cX4_laysStood 135 = .ok (.return_, 1) := dk_177 (dk_at dksX4_laysStood_5 18 rfl rfl)
abbrev cX4_standsBy : ByteArray := prog_16_method_106_code
def yX4_standsBy : MethodName := ⟨RX4, "standsBy", "(III)Z"⟩
def dkwX4_standsBy_2 : List UInt8 := [104, 21, 4, 184, 1, 126, 96, 51, 153, 0, 7, 4, 167, 0, 4, 3, 172]
abbrev dktX4_standsBy_2 : List UInt8 := dkwX4_standsBy_2 ++ []
def dkwX4_standsBy_1 : List UInt8 := [16, 36, 29, 104, 21, 4, 96, 51, 153, 0, 31, 29, 153, 0, 23, 42, 180, 0, 61, 16, 36, 29, 4, 100]
abbrev dktX4_standsBy_1 : List UInt8 := dkwX4_standsBy_1 ++ dktX4_standsBy_2
def dkwX4_standsBy_0 : List UInt8 := [42, 180, 0, 39, 16, 8, 27, 104, 28, 96, 46, 54, 4, 21, 4, 2, 159, 0, 46, 42, 180, 0, 61]
abbrev dktX4_standsBy_0 : List UInt8 := dkwX4_standsBy_0 ++ dktX4_standsBy_1
theorem dksX4_standsBy_0 : cX4_standsBy.data.toList.drop 0 = dktX4_standsBy_0 := by decide +kernel
theorem dksX4_standsBy_1 : cX4_standsBy.data.toList.drop 23 = dktX4_standsBy_1 := dk_seg dksX4_standsBy_0 23 rfl rfl
theorem dksX4_standsBy_2 : cX4_standsBy.data.toList.drop 47 = dktX4_standsBy_2 := dk_seg dksX4_standsBy_1 24 rfl rfl
theorem dX4_standsBy_0 : decode cX4_standsBy 0 = .ok (.aload_n 0, 1) := dk_42 (dk_at dksX4_standsBy_0 0 rfl rfl)
theorem dX4_standsBy_1 : decode cX4_standsBy 1 = .ok (.getfield 39, 3) := dk_180 0 39 (dk_at dksX4_standsBy_0 1 rfl rfl)
theorem dX4_standsBy_4 : decode cX4_standsBy 4 = .ok (.bipush 8, 2) := dk_16 8 (dk_at dksX4_standsBy_0 4 rfl rfl)
theorem dX4_standsBy_6 : decode cX4_standsBy 6 = .ok (.iload_n 1, 1) := dk_27 (dk_at dksX4_standsBy_0 6 rfl rfl)
theorem dX4_standsBy_7 : decode cX4_standsBy 7 = .ok (.imul, 1) := dk_104 (dk_at dksX4_standsBy_0 7 rfl rfl)
theorem dX4_standsBy_8 : decode cX4_standsBy 8 = .ok (.iload_n 2, 1) := dk_28 (dk_at dksX4_standsBy_0 8 rfl rfl)
theorem dX4_standsBy_9 : decode cX4_standsBy 9 = .ok (.iadd, 1) := dk_96 (dk_at dksX4_standsBy_0 9 rfl rfl)
theorem dX4_standsBy_10 : decode cX4_standsBy 10 = .ok (.iaload, 1) := dk_46 (dk_at dksX4_standsBy_0 10 rfl rfl)
theorem dX4_standsBy_11 : decode cX4_standsBy 11 = .ok (.istore 4, 2) := dk_54 4 (dk_at dksX4_standsBy_0 11 rfl rfl)
theorem dX4_standsBy_13 : decode cX4_standsBy 13 = .ok (.iload 4, 2) := dk_21 4 (dk_at dksX4_standsBy_0 13 rfl rfl)
theorem dX4_standsBy_15 : decode cX4_standsBy 15 = .ok (.iconst (-1), 1) := dk_2 (dk_at dksX4_standsBy_0 15 rfl rfl)
theorem dX4_standsBy_16 : decode cX4_standsBy 16 = .ok (.if_icmp .eq 46, 3) := dk_159 0 46 (dk_at dksX4_standsBy_0 16 rfl rfl)
theorem dX4_standsBy_19 : decode cX4_standsBy 19 = .ok (.aload_n 0, 1) := dk_42 (dk_at dksX4_standsBy_0 19 rfl rfl)
theorem dX4_standsBy_20 : decode cX4_standsBy 20 = .ok (.getfield 61, 3) := dk_180 0 61 (dk_at dksX4_standsBy_0 20 rfl rfl)
theorem dX4_standsBy_23 : decode cX4_standsBy 23 = .ok (.bipush 36, 2) := dk_16 36 (dk_at dksX4_standsBy_1 0 rfl rfl)
theorem dX4_standsBy_25 : decode cX4_standsBy 25 = .ok (.iload_n 3, 1) := dk_29 (dk_at dksX4_standsBy_1 2 rfl rfl)
theorem dX4_standsBy_26 : decode cX4_standsBy 26 = .ok (.imul, 1) := dk_104 (dk_at dksX4_standsBy_1 3 rfl rfl)
theorem dX4_standsBy_27 : decode cX4_standsBy 27 = .ok (.iload 4, 2) := dk_21 4 (dk_at dksX4_standsBy_1 4 rfl rfl)
theorem dX4_standsBy_29 : decode cX4_standsBy 29 = .ok (.iadd, 1) := dk_96 (dk_at dksX4_standsBy_1 6 rfl rfl)
theorem dX4_standsBy_30 : decode cX4_standsBy 30 = .ok (.baload, 1) := dk_51 (dk_at dksX4_standsBy_1 7 rfl rfl)
theorem dX4_standsBy_31 : decode cX4_standsBy 31 = .ok (.ifCond .eq 31, 3) := dk_153 0 31 (dk_at dksX4_standsBy_1 8 rfl rfl)
theorem dX4_standsBy_34 : decode cX4_standsBy 34 = .ok (.iload_n 3, 1) := dk_29 (dk_at dksX4_standsBy_1 11 rfl rfl)
theorem dX4_standsBy_35 : decode cX4_standsBy 35 = .ok (.ifCond .eq 23, 3) := dk_153 0 23 (dk_at dksX4_standsBy_1 12 rfl rfl)
theorem dX4_standsBy_38 : decode cX4_standsBy 38 = .ok (.aload_n 0, 1) := dk_42 (dk_at dksX4_standsBy_1 15 rfl rfl)
theorem dX4_standsBy_39 : decode cX4_standsBy 39 = .ok (.getfield 61, 3) := dk_180 0 61 (dk_at dksX4_standsBy_1 16 rfl rfl)
theorem dX4_standsBy_42 : decode cX4_standsBy 42 = .ok (.bipush 36, 2) := dk_16 36 (dk_at dksX4_standsBy_1 19 rfl rfl)
theorem dX4_standsBy_44 : decode cX4_standsBy 44 = .ok (.iload_n 3, 1) := dk_29 (dk_at dksX4_standsBy_1 21 rfl rfl)
theorem dX4_standsBy_45 : decode cX4_standsBy 45 = .ok (.iconst 1, 1) := dk_4 (dk_at dksX4_standsBy_1 22 rfl rfl)
theorem dX4_standsBy_46 : decode cX4_standsBy 46 = .ok (.isub, 1) := dk_100 (dk_at dksX4_standsBy_1 23 rfl rfl)
theorem dX4_standsBy_47 : decode cX4_standsBy 47 = .ok (.imul, 1) := dk_104 (dk_at dksX4_standsBy_2 0 rfl rfl)
theorem dX4_standsBy_48 : decode cX4_standsBy 48 = .ok (.iload 4, 2) := dk_21 4 (dk_at dksX4_standsBy_2 1 rfl rfl)
theorem dX4_standsBy_50 : decode cX4_standsBy 50 = .ok (.invokestatic 382, 3) := dk_184 1 126 (dk_at dksX4_standsBy_2 3 rfl rfl)
theorem dX4_standsBy_53 : decode cX4_standsBy 53 = .ok (.iadd, 1) := dk_96 (dk_at dksX4_standsBy_2 6 rfl rfl)
theorem dX4_standsBy_54 : decode cX4_standsBy 54 = .ok (.baload, 1) := dk_51 (dk_at dksX4_standsBy_2 7 rfl rfl)
theorem dX4_standsBy_55 : decode cX4_standsBy 55 = .ok (.ifCond .eq 7, 3) := dk_153 0 7 (dk_at dksX4_standsBy_2 8 rfl rfl)
theorem dX4_standsBy_58 : decode cX4_standsBy 58 = .ok (.iconst 1, 1) := dk_4 (dk_at dksX4_standsBy_2 11 rfl rfl)
theorem dX4_standsBy_59 : decode cX4_standsBy 59 = .ok (.goto 4, 3) := dk_167 0 4 (dk_at dksX4_standsBy_2 12 rfl rfl)
theorem dX4_standsBy_62 : decode cX4_standsBy 62 = .ok (.iconst 0, 1) := dk_3 (dk_at dksX4_standsBy_2 15 rfl rfl)
theorem dX4_standsBy_63 : decode cX4_standsBy 63 = .ok (.ireturn, 1) := dk_172 (dk_at dksX4_standsBy_2 16 rfl rfl)
abbrev cX4_fallen : ByteArray := prog_16_method_105_code
def yX4_fallen : MethodName := ⟨RX4, "fallen", "(I)I"⟩
def dkwX4_fallen_0 : List UInt8 := [26, 184, 0, 217, 153, 0, 7, 26, 167, 0, 6, 26, 4, 96, 172]
abbrev dktX4_fallen_0 : List UInt8 := dkwX4_fallen_0 ++ []
theorem dksX4_fallen_0 : cX4_fallen.data.toList.drop 0 = dktX4_fallen_0 := by decide +kernel
theorem dX4_fallen_0 : decode cX4_fallen 0 = .ok (.iload_n 0, 1) := dk_26 (dk_at dksX4_fallen_0 0 rfl rfl)
theorem dX4_fallen_1 : decode cX4_fallen 1 = .ok (.invokestatic 217, 3) := dk_184 0 217 (dk_at dksX4_fallen_0 1 rfl rfl)
theorem dX4_fallen_4 : decode cX4_fallen 4 = .ok (.ifCond .eq 7, 3) := dk_153 0 7 (dk_at dksX4_fallen_0 4 rfl rfl)
theorem dX4_fallen_7 : decode cX4_fallen 7 = .ok (.iload_n 0, 1) := dk_26 (dk_at dksX4_fallen_0 7 rfl rfl)
theorem dX4_fallen_8 : decode cX4_fallen 8 = .ok (.goto 6, 3) := dk_167 0 6 (dk_at dksX4_fallen_0 8 rfl rfl)
theorem dX4_fallen_11 : decode cX4_fallen 11 = .ok (.iload_n 0, 1) := dk_26 (dk_at dksX4_fallen_0 11 rfl rfl)
theorem dX4_fallen_12 : decode cX4_fallen 12 = .ok (.iconst 1, 1) := dk_4 (dk_at dksX4_fallen_0 12 rfl rfl)
theorem dX4_fallen_13 : decode cX4_fallen 13 = .ok (.iadd, 1) := dk_96 (dk_at dksX4_fallen_0 13 rfl rfl)
theorem dX4_fallen_14 : decode cX4_fallen 14 = .ok (.ireturn, 1) := dk_172 (dk_at dksX4_fallen_0 14 rfl rfl)
abbrev cX4_chance : ByteArray := prog_16_method_113_code
def yX4_chance : MethodName := ⟨RX4, "chance", "(III)I"⟩
def dkwX4_chance_3 : List UInt8 := [108, 172]
abbrev dktX4_chance_3 : List UInt8 := dkwX4_chance_3 ++ []
def dkwX4_chance_2 : List UInt8 := [54, 4, 29, 154, 0, 8, 21, 4, 167, 0, 7, 28, 184, 1, 137, 21, 4, 28, 184, 1, 137, 184, 1, 143]
abbrev dktX4_chance_2 : List UInt8 := dkwX4_chance_2 ++ dktX4_chance_3
def dkwX4_chance_1 : List UInt8 := [16, 254, 172, 28, 133, 9, 20, 1, 146, 184, 0, 142, 154, 0, 6, 16, 253, 172, 42, 27, 28, 182, 1, 148]
abbrev dktX4_chance_1 : List UInt8 := dkwX4_chance_1 ++ dktX4_chance_2
def dkwX4_chance_0 : List UInt8 := [42, 3, 181, 0, 1, 42, 27, 133, 182, 1, 5, 153, 0, 13, 29, 133, 9, 10, 184, 0, 142, 154, 0, 6]
abbrev dktX4_chance_0 : List UInt8 := dkwX4_chance_0 ++ dktX4_chance_1
theorem dksX4_chance_0 : cX4_chance.data.toList.drop 0 = dktX4_chance_0 := by decide +kernel
theorem dksX4_chance_1 : cX4_chance.data.toList.drop 24 = dktX4_chance_1 := dk_seg dksX4_chance_0 24 rfl rfl
theorem dksX4_chance_2 : cX4_chance.data.toList.drop 48 = dktX4_chance_2 := dk_seg dksX4_chance_1 24 rfl rfl
theorem dksX4_chance_3 : cX4_chance.data.toList.drop 72 = dktX4_chance_3 := dk_seg dksX4_chance_2 24 rfl rfl
theorem dX4_chance_0 : decode cX4_chance 0 = .ok (.aload_n 0, 1) := dk_42 (dk_at dksX4_chance_0 0 rfl rfl)
theorem dX4_chance_1 : decode cX4_chance 1 = .ok (.iconst 0, 1) := dk_3 (dk_at dksX4_chance_0 1 rfl rfl)
theorem dX4_chance_2 : decode cX4_chance 2 = .ok (.putfield 1, 3) := dk_181 0 1 (dk_at dksX4_chance_0 2 rfl rfl)
theorem dX4_chance_5 : decode cX4_chance 5 = .ok (.aload_n 0, 1) := dk_42 (dk_at dksX4_chance_0 5 rfl rfl)
theorem dX4_chance_6 : decode cX4_chance 6 = .ok (.iload_n 1, 1) := dk_27 (dk_at dksX4_chance_0 6 rfl rfl)
theorem dX4_chance_7 : decode cX4_chance 7 = .ok (.i2l, 1) := dk_133 (dk_at dksX4_chance_0 7 rfl rfl)
theorem dX4_chance_8 : decode cX4_chance 8 = .ok (.invokevirtual 261, 3) := dk_182 1 5 (dk_at dksX4_chance_0 8 rfl rfl)
theorem dX4_chance_11 : decode cX4_chance 11 = .ok (.ifCond .eq 13, 3) := dk_153 0 13 (dk_at dksX4_chance_0 11 rfl rfl)
theorem dX4_chance_14 : decode cX4_chance 14 = .ok (.iload_n 3, 1) := dk_29 (dk_at dksX4_chance_0 14 rfl rfl)
theorem dX4_chance_15 : decode cX4_chance 15 = .ok (.i2l, 1) := dk_133 (dk_at dksX4_chance_0 15 rfl rfl)
theorem dX4_chance_16 : decode cX4_chance 16 = .ok (.lconst 0, 1) := dk_9 (dk_at dksX4_chance_0 16 rfl rfl)
theorem dX4_chance_17 : decode cX4_chance 17 = .ok (.lconst 1, 1) := dk_10 (dk_at dksX4_chance_0 17 rfl rfl)
theorem dX4_chance_18 : decode cX4_chance 18 = .ok (.invokestatic 142, 3) := dk_184 0 142 (dk_at dksX4_chance_0 18 rfl rfl)
theorem dX4_chance_21 : decode cX4_chance 21 = .ok (.ifCond .ne 6, 3) := dk_154 0 6 (dk_at dksX4_chance_0 21 rfl rfl)
theorem dX4_chance_24 : decode cX4_chance 24 = .ok (.bipush (-2), 2) := dk_16 254 (dk_at dksX4_chance_1 0 rfl rfl)
theorem dX4_chance_26 : decode cX4_chance 26 = .ok (.ireturn, 1) := dk_172 (dk_at dksX4_chance_1 2 rfl rfl)
theorem dX4_chance_27 : decode cX4_chance 27 = .ok (.iload_n 2, 1) := dk_28 (dk_at dksX4_chance_1 3 rfl rfl)
theorem dX4_chance_28 : decode cX4_chance 28 = .ok (.i2l, 1) := dk_133 (dk_at dksX4_chance_1 4 rfl rfl)
theorem dX4_chance_29 : decode cX4_chance 29 = .ok (.lconst 0, 1) := dk_9 (dk_at dksX4_chance_1 5 rfl rfl)
theorem dX4_chance_30 : decode cX4_chance 30 = .ok (.ldc2_w 402, 3) := dk_20 1 146 (dk_at dksX4_chance_1 6 rfl rfl)
theorem dX4_chance_33 : decode cX4_chance 33 = .ok (.invokestatic 142, 3) := dk_184 0 142 (dk_at dksX4_chance_1 9 rfl rfl)
theorem dX4_chance_36 : decode cX4_chance 36 = .ok (.ifCond .ne 6, 3) := dk_154 0 6 (dk_at dksX4_chance_1 12 rfl rfl)
theorem dX4_chance_39 : decode cX4_chance 39 = .ok (.bipush (-3), 2) := dk_16 253 (dk_at dksX4_chance_1 15 rfl rfl)
theorem dX4_chance_41 : decode cX4_chance 41 = .ok (.ireturn, 1) := dk_172 (dk_at dksX4_chance_1 17 rfl rfl)
theorem dX4_chance_42 : decode cX4_chance 42 = .ok (.aload_n 0, 1) := dk_42 (dk_at dksX4_chance_1 18 rfl rfl)
theorem dX4_chance_43 : decode cX4_chance 43 = .ok (.iload_n 1, 1) := dk_27 (dk_at dksX4_chance_1 19 rfl rfl)
theorem dX4_chance_44 : decode cX4_chance 44 = .ok (.iload_n 2, 1) := dk_28 (dk_at dksX4_chance_1 20 rfl rfl)
theorem dX4_chance_45 : decode cX4_chance 45 = .ok (.invokevirtual 404, 3) := dk_182 1 148 (dk_at dksX4_chance_1 21 rfl rfl)
theorem dX4_chance_48 : decode cX4_chance 48 = .ok (.istore 4, 2) := dk_54 4 (dk_at dksX4_chance_2 0 rfl rfl)
theorem dX4_chance_50 : decode cX4_chance 50 = .ok (.iload_n 3, 1) := dk_29 (dk_at dksX4_chance_2 2 rfl rfl)
theorem dX4_chance_51 : decode cX4_chance 51 = .ok (.ifCond .ne 8, 3) := dk_154 0 8 (dk_at dksX4_chance_2 3 rfl rfl)
theorem dX4_chance_54 : decode cX4_chance 54 = .ok (.iload 4, 2) := dk_21 4 (dk_at dksX4_chance_2 6 rfl rfl)
theorem dX4_chance_56 : decode cX4_chance 56 = .ok (.goto 7, 3) := dk_167 0 7 (dk_at dksX4_chance_2 8 rfl rfl)
theorem dX4_chance_59 : decode cX4_chance 59 = .ok (.iload_n 2, 1) := dk_28 (dk_at dksX4_chance_2 11 rfl rfl)
theorem dX4_chance_60 : decode cX4_chance 60 = .ok (.invokestatic 393, 3) := dk_184 1 137 (dk_at dksX4_chance_2 12 rfl rfl)
theorem dX4_chance_63 : decode cX4_chance 63 = .ok (.iload 4, 2) := dk_21 4 (dk_at dksX4_chance_2 15 rfl rfl)
theorem dX4_chance_65 : decode cX4_chance 65 = .ok (.iload_n 2, 1) := dk_28 (dk_at dksX4_chance_2 17 rfl rfl)
theorem dX4_chance_66 : decode cX4_chance 66 = .ok (.invokestatic 393, 3) := dk_184 1 137 (dk_at dksX4_chance_2 18 rfl rfl)
theorem dX4_chance_69 : decode cX4_chance 69 = .ok (.invokestatic 399, 3) := dk_184 1 143 (dk_at dksX4_chance_2 21 rfl rfl)
theorem dX4_chance_72 : decode cX4_chance 72 = .ok (.idiv, 1) := dk_108 (dk_at dksX4_chance_3 0 rfl rfl)
theorem dX4_chance_73 : decode cX4_chance 73 = .ok (.ireturn, 1) := dk_172 (dk_at dksX4_chance_3 1 rfl rfl)
abbrev cX4_laysLikely : ByteArray := prog_16_method_111_code
def yX4_laysLikely : MethodName := ⟨RX4, "laysLikely", "(II)I"⟩
def dkwX4_laysLikely_6 : List UInt8 := [167, 255, 130, 42, 180, 0, 64, 16, 36, 28, 104, 42, 182, 0, 232, 96, 46, 172]
abbrev dktX4_laysLikely_6 : List UInt8 := dkwX4_laysLikely_6 ++ []
def dkwX4_laysLikely_5 : List UInt8 := [180, 0, 64, 16, 36, 29, 104, 21, 4, 96, 21, 5, 79, 132, 4, 1, 167, 255, 144, 132, 3, 1]
abbrev dktX4_laysLikely_5 : List UInt8 := dkwX4_laysLikely_5 ++ dktX4_laysLikely_6
def dkwX4_laysLikely_4 : List UInt8 := [21, 4, 21, 6, 29, 182, 1, 140, 167, 0, 5, 21, 5, 54, 5, 132, 6, 1, 167, 255, 203, 42]
abbrev dktX4_laysLikely_4 : List UInt8 := dkwX4_laysLikely_4 ++ dktX4_laysLikely_5
def dkwX4_laysLikely_3 : List UInt8 := [21, 5, 29, 184, 1, 137, 162, 0, 39, 42, 21, 4, 21, 6, 29, 182, 1, 140, 21, 5, 164, 0, 15, 42]
abbrev dktX4_laysLikely_3 : List UInt8 := dkwX4_laysLikely_3 ++ dktX4_laysLikely_4
def dkwX4_laysLikely_2 : List UInt8 := [184, 1, 137, 167, 0, 4, 3, 54, 5, 3, 54, 6, 21, 6, 16, 8, 162, 0, 52, 29, 158, 0, 48]
abbrev dktX4_laysLikely_2 : List UInt8 := dkwX4_laysLikely_2 ++ dktX4_laysLikely_3
def dkwX4_laysLikely_1 : List UInt8 := [182, 1, 58, 162, 0, 109, 21, 4, 16, 6, 108, 27, 160, 0, 18, 21, 4, 184, 0, 217, 154, 0, 10, 29]
abbrev dktX4_laysLikely_1 : List UInt8 := dkwX4_laysLikely_1 ++ dktX4_laysLikely_2
def dkwX4_laysLikely_0 : List UInt8 := [42, 42, 180, 0, 13, 16, 44, 46, 182, 1, 64, 3, 62, 29, 28, 163, 0, 127, 3, 54, 4, 21, 4, 42]
abbrev dktX4_laysLikely_0 : List UInt8 := dkwX4_laysLikely_0 ++ dktX4_laysLikely_1
theorem dksX4_laysLikely_0 : cX4_laysLikely.data.toList.drop 0 = dktX4_laysLikely_0 := by decide +kernel
theorem dksX4_laysLikely_1 : cX4_laysLikely.data.toList.drop 24 = dktX4_laysLikely_1 := dk_seg dksX4_laysLikely_0 24 rfl rfl
theorem dksX4_laysLikely_2 : cX4_laysLikely.data.toList.drop 48 = dktX4_laysLikely_2 := dk_seg dksX4_laysLikely_1 24 rfl rfl
theorem dksX4_laysLikely_3 : cX4_laysLikely.data.toList.drop 71 = dktX4_laysLikely_3 := dk_seg dksX4_laysLikely_2 23 rfl rfl
theorem dksX4_laysLikely_4 : cX4_laysLikely.data.toList.drop 95 = dktX4_laysLikely_4 := dk_seg dksX4_laysLikely_3 24 rfl rfl
theorem dksX4_laysLikely_5 : cX4_laysLikely.data.toList.drop 117 = dktX4_laysLikely_5 := dk_seg dksX4_laysLikely_4 22 rfl rfl
theorem dksX4_laysLikely_6 : cX4_laysLikely.data.toList.drop 139 = dktX4_laysLikely_6 := dk_seg dksX4_laysLikely_5 22 rfl rfl
theorem dX4_laysLikely_0 : decode cX4_laysLikely 0 = .ok (.aload_n 0, 1) := dk_42 (dk_at dksX4_laysLikely_0 0 rfl rfl)
theorem dX4_laysLikely_1 : decode cX4_laysLikely 1 = .ok (.aload_n 0, 1) := dk_42 (dk_at dksX4_laysLikely_0 1 rfl rfl)
theorem dX4_laysLikely_2 : decode cX4_laysLikely 2 = .ok (.getfield 13, 3) := dk_180 0 13 (dk_at dksX4_laysLikely_0 2 rfl rfl)
theorem dX4_laysLikely_5 : decode cX4_laysLikely 5 = .ok (.bipush 44, 2) := dk_16 44 (dk_at dksX4_laysLikely_0 5 rfl rfl)
theorem dX4_laysLikely_7 : decode cX4_laysLikely 7 = .ok (.iaload, 1) := dk_46 (dk_at dksX4_laysLikely_0 7 rfl rfl)
theorem dX4_laysLikely_8 : decode cX4_laysLikely 8 = .ok (.invokevirtual 320, 3) := dk_182 1 64 (dk_at dksX4_laysLikely_0 8 rfl rfl)
theorem dX4_laysLikely_11 : decode cX4_laysLikely 11 = .ok (.iconst 0, 1) := dk_3 (dk_at dksX4_laysLikely_0 11 rfl rfl)
theorem dX4_laysLikely_12 : decode cX4_laysLikely 12 = .ok (.istore_n 3, 1) := dk_62 (dk_at dksX4_laysLikely_0 12 rfl rfl)
theorem dX4_laysLikely_13 : decode cX4_laysLikely 13 = .ok (.iload_n 3, 1) := dk_29 (dk_at dksX4_laysLikely_0 13 rfl rfl)
theorem dX4_laysLikely_14 : decode cX4_laysLikely 14 = .ok (.iload_n 2, 1) := dk_28 (dk_at dksX4_laysLikely_0 14 rfl rfl)
theorem dX4_laysLikely_15 : decode cX4_laysLikely 15 = .ok (.if_icmp .gt 127, 3) := dk_163 0 127 (dk_at dksX4_laysLikely_0 15 rfl rfl)
theorem dX4_laysLikely_18 : decode cX4_laysLikely 18 = .ok (.iconst 0, 1) := dk_3 (dk_at dksX4_laysLikely_0 18 rfl rfl)
theorem dX4_laysLikely_19 : decode cX4_laysLikely 19 = .ok (.istore 4, 2) := dk_54 4 (dk_at dksX4_laysLikely_0 19 rfl rfl)
theorem dX4_laysLikely_21 : decode cX4_laysLikely 21 = .ok (.iload 4, 2) := dk_21 4 (dk_at dksX4_laysLikely_0 21 rfl rfl)
theorem dX4_laysLikely_23 : decode cX4_laysLikely 23 = .ok (.aload_n 0, 1) := dk_42 (dk_at dksX4_laysLikely_0 23 rfl rfl)
theorem dX4_laysLikely_24 : decode cX4_laysLikely 24 = .ok (.invokevirtual 314, 3) := dk_182 1 58 (dk_at dksX4_laysLikely_1 0 rfl rfl)
theorem dX4_laysLikely_27 : decode cX4_laysLikely 27 = .ok (.if_icmp .ge 109, 3) := dk_162 0 109 (dk_at dksX4_laysLikely_1 3 rfl rfl)
theorem dX4_laysLikely_30 : decode cX4_laysLikely 30 = .ok (.iload 4, 2) := dk_21 4 (dk_at dksX4_laysLikely_1 6 rfl rfl)
theorem dX4_laysLikely_32 : decode cX4_laysLikely 32 = .ok (.bipush 6, 2) := dk_16 6 (dk_at dksX4_laysLikely_1 8 rfl rfl)
theorem dX4_laysLikely_34 : decode cX4_laysLikely 34 = .ok (.idiv, 1) := dk_108 (dk_at dksX4_laysLikely_1 10 rfl rfl)
theorem dX4_laysLikely_35 : decode cX4_laysLikely 35 = .ok (.iload_n 1, 1) := dk_27 (dk_at dksX4_laysLikely_1 11 rfl rfl)
theorem dX4_laysLikely_36 : decode cX4_laysLikely 36 = .ok (.if_icmp .ne 18, 3) := dk_160 0 18 (dk_at dksX4_laysLikely_1 12 rfl rfl)
theorem dX4_laysLikely_39 : decode cX4_laysLikely 39 = .ok (.iload 4, 2) := dk_21 4 (dk_at dksX4_laysLikely_1 15 rfl rfl)
theorem dX4_laysLikely_41 : decode cX4_laysLikely 41 = .ok (.invokestatic 217, 3) := dk_184 0 217 (dk_at dksX4_laysLikely_1 17 rfl rfl)
theorem dX4_laysLikely_44 : decode cX4_laysLikely 44 = .ok (.ifCond .ne 10, 3) := dk_154 0 10 (dk_at dksX4_laysLikely_1 20 rfl rfl)
theorem dX4_laysLikely_47 : decode cX4_laysLikely 47 = .ok (.iload_n 3, 1) := dk_29 (dk_at dksX4_laysLikely_1 23 rfl rfl)
theorem dX4_laysLikely_48 : decode cX4_laysLikely 48 = .ok (.invokestatic 393, 3) := dk_184 1 137 (dk_at dksX4_laysLikely_2 0 rfl rfl)
theorem dX4_laysLikely_51 : decode cX4_laysLikely 51 = .ok (.goto 4, 3) := dk_167 0 4 (dk_at dksX4_laysLikely_2 3 rfl rfl)
theorem dX4_laysLikely_54 : decode cX4_laysLikely 54 = .ok (.iconst 0, 1) := dk_3 (dk_at dksX4_laysLikely_2 6 rfl rfl)
theorem dX4_laysLikely_55 : decode cX4_laysLikely 55 = .ok (.istore 5, 2) := dk_54 5 (dk_at dksX4_laysLikely_2 7 rfl rfl)
theorem dX4_laysLikely_57 : decode cX4_laysLikely 57 = .ok (.iconst 0, 1) := dk_3 (dk_at dksX4_laysLikely_2 9 rfl rfl)
theorem dX4_laysLikely_58 : decode cX4_laysLikely 58 = .ok (.istore 6, 2) := dk_54 6 (dk_at dksX4_laysLikely_2 10 rfl rfl)
theorem dX4_laysLikely_60 : decode cX4_laysLikely 60 = .ok (.iload 6, 2) := dk_21 6 (dk_at dksX4_laysLikely_2 12 rfl rfl)
theorem dX4_laysLikely_62 : decode cX4_laysLikely 62 = .ok (.bipush 8, 2) := dk_16 8 (dk_at dksX4_laysLikely_2 14 rfl rfl)
theorem dX4_laysLikely_64 : decode cX4_laysLikely 64 = .ok (.if_icmp .ge 52, 3) := dk_162 0 52 (dk_at dksX4_laysLikely_2 16 rfl rfl)
theorem dX4_laysLikely_67 : decode cX4_laysLikely 67 = .ok (.iload_n 3, 1) := dk_29 (dk_at dksX4_laysLikely_2 19 rfl rfl)
theorem dX4_laysLikely_68 : decode cX4_laysLikely 68 = .ok (.ifCond .le 48, 3) := dk_158 0 48 (dk_at dksX4_laysLikely_2 20 rfl rfl)
theorem dX4_laysLikely_71 : decode cX4_laysLikely 71 = .ok (.iload 5, 2) := dk_21 5 (dk_at dksX4_laysLikely_3 0 rfl rfl)
theorem dX4_laysLikely_73 : decode cX4_laysLikely 73 = .ok (.iload_n 3, 1) := dk_29 (dk_at dksX4_laysLikely_3 2 rfl rfl)
theorem dX4_laysLikely_74 : decode cX4_laysLikely 74 = .ok (.invokestatic 393, 3) := dk_184 1 137 (dk_at dksX4_laysLikely_3 3 rfl rfl)
theorem dX4_laysLikely_77 : decode cX4_laysLikely 77 = .ok (.if_icmp .ge 39, 3) := dk_162 0 39 (dk_at dksX4_laysLikely_3 6 rfl rfl)
theorem dX4_laysLikely_80 : decode cX4_laysLikely 80 = .ok (.aload_n 0, 1) := dk_42 (dk_at dksX4_laysLikely_3 9 rfl rfl)
theorem dX4_laysLikely_81 : decode cX4_laysLikely 81 = .ok (.iload 4, 2) := dk_21 4 (dk_at dksX4_laysLikely_3 10 rfl rfl)
theorem dX4_laysLikely_83 : decode cX4_laysLikely 83 = .ok (.iload 6, 2) := dk_21 6 (dk_at dksX4_laysLikely_3 12 rfl rfl)
theorem dX4_laysLikely_85 : decode cX4_laysLikely 85 = .ok (.iload_n 3, 1) := dk_29 (dk_at dksX4_laysLikely_3 14 rfl rfl)
theorem dX4_laysLikely_86 : decode cX4_laysLikely 86 = .ok (.invokevirtual 396, 3) := dk_182 1 140 (dk_at dksX4_laysLikely_3 15 rfl rfl)
theorem dX4_laysLikely_89 : decode cX4_laysLikely 89 = .ok (.iload 5, 2) := dk_21 5 (dk_at dksX4_laysLikely_3 18 rfl rfl)
theorem dX4_laysLikely_91 : decode cX4_laysLikely 91 = .ok (.if_icmp .le 15, 3) := dk_164 0 15 (dk_at dksX4_laysLikely_3 20 rfl rfl)
theorem dX4_laysLikely_94 : decode cX4_laysLikely 94 = .ok (.aload_n 0, 1) := dk_42 (dk_at dksX4_laysLikely_3 23 rfl rfl)
theorem dX4_laysLikely_95 : decode cX4_laysLikely 95 = .ok (.iload 4, 2) := dk_21 4 (dk_at dksX4_laysLikely_4 0 rfl rfl)
theorem dX4_laysLikely_97 : decode cX4_laysLikely 97 = .ok (.iload 6, 2) := dk_21 6 (dk_at dksX4_laysLikely_4 2 rfl rfl)
theorem dX4_laysLikely_99 : decode cX4_laysLikely 99 = .ok (.iload_n 3, 1) := dk_29 (dk_at dksX4_laysLikely_4 4 rfl rfl)
theorem dX4_laysLikely_100 : decode cX4_laysLikely 100 = .ok (.invokevirtual 396, 3) := dk_182 1 140 (dk_at dksX4_laysLikely_4 5 rfl rfl)
theorem dX4_laysLikely_103 : decode cX4_laysLikely 103 = .ok (.goto 5, 3) := dk_167 0 5 (dk_at dksX4_laysLikely_4 8 rfl rfl)
theorem dX4_laysLikely_106 : decode cX4_laysLikely 106 = .ok (.iload 5, 2) := dk_21 5 (dk_at dksX4_laysLikely_4 11 rfl rfl)
theorem dX4_laysLikely_108 : decode cX4_laysLikely 108 = .ok (.istore 5, 2) := dk_54 5 (dk_at dksX4_laysLikely_4 13 rfl rfl)
theorem dX4_laysLikely_110 : decode cX4_laysLikely 110 = .ok (.iinc 6 1, 3) := dk_132 6 1 (dk_at dksX4_laysLikely_4 15 rfl rfl)
theorem dX4_laysLikely_113 : decode cX4_laysLikely 113 = .ok (.goto (-53), 3) := dk_167 255 203 (dk_at dksX4_laysLikely_4 18 rfl rfl)
theorem dX4_laysLikely_116 : decode cX4_laysLikely 116 = .ok (.aload_n 0, 1) := dk_42 (dk_at dksX4_laysLikely_4 21 rfl rfl)
theorem dX4_laysLikely_117 : decode cX4_laysLikely 117 = .ok (.getfield 64, 3) := dk_180 0 64 (dk_at dksX4_laysLikely_5 0 rfl rfl)
theorem dX4_laysLikely_120 : decode cX4_laysLikely 120 = .ok (.bipush 36, 2) := dk_16 36 (dk_at dksX4_laysLikely_5 3 rfl rfl)
theorem dX4_laysLikely_122 : decode cX4_laysLikely 122 = .ok (.iload_n 3, 1) := dk_29 (dk_at dksX4_laysLikely_5 5 rfl rfl)
theorem dX4_laysLikely_123 : decode cX4_laysLikely 123 = .ok (.imul, 1) := dk_104 (dk_at dksX4_laysLikely_5 6 rfl rfl)
theorem dX4_laysLikely_124 : decode cX4_laysLikely 124 = .ok (.iload 4, 2) := dk_21 4 (dk_at dksX4_laysLikely_5 7 rfl rfl)
theorem dX4_laysLikely_126 : decode cX4_laysLikely 126 = .ok (.iadd, 1) := dk_96 (dk_at dksX4_laysLikely_5 9 rfl rfl)
theorem dX4_laysLikely_127 : decode cX4_laysLikely 127 = .ok (.iload 5, 2) := dk_21 5 (dk_at dksX4_laysLikely_5 10 rfl rfl)
theorem dX4_laysLikely_129 : decode cX4_laysLikely 129 = .ok (.iastore, 1) := dk_79 (dk_at dksX4_laysLikely_5 12 rfl rfl)
theorem dX4_laysLikely_130 : decode cX4_laysLikely 130 = .ok (.iinc 4 1, 3) := dk_132 4 1 (dk_at dksX4_laysLikely_5 13 rfl rfl)
theorem dX4_laysLikely_133 : decode cX4_laysLikely 133 = .ok (.goto (-112), 3) := dk_167 255 144 (dk_at dksX4_laysLikely_5 16 rfl rfl)
theorem dX4_laysLikely_136 : decode cX4_laysLikely 136 = .ok (.iinc 3 1, 3) := dk_132 3 1 (dk_at dksX4_laysLikely_5 19 rfl rfl)
theorem dX4_laysLikely_139 : decode cX4_laysLikely 139 = .ok (.goto (-126), 3) := dk_167 255 130 (dk_at dksX4_laysLikely_6 0 rfl rfl)
theorem dX4_laysLikely_142 : decode cX4_laysLikely 142 = .ok (.aload_n 0, 1) := dk_42 (dk_at dksX4_laysLikely_6 3 rfl rfl)
theorem dX4_laysLikely_143 : decode cX4_laysLikely 143 = .ok (.getfield 64, 3) := dk_180 0 64 (dk_at dksX4_laysLikely_6 4 rfl rfl)
theorem dX4_laysLikely_146 : decode cX4_laysLikely 146 = .ok (.bipush 36, 2) := dk_16 36 (dk_at dksX4_laysLikely_6 7 rfl rfl)
theorem dX4_laysLikely_148 : decode cX4_laysLikely 148 = .ok (.iload_n 2, 1) := dk_28 (dk_at dksX4_laysLikely_6 9 rfl rfl)
theorem dX4_laysLikely_149 : decode cX4_laysLikely 149 = .ok (.imul, 1) := dk_104 (dk_at dksX4_laysLikely_6 10 rfl rfl)
theorem dX4_laysLikely_150 : decode cX4_laysLikely 150 = .ok (.aload_n 0, 1) := dk_42 (dk_at dksX4_laysLikely_6 11 rfl rfl)
theorem dX4_laysLikely_151 : decode cX4_laysLikely 151 = .ok (.invokevirtual 232, 3) := dk_182 0 232 (dk_at dksX4_laysLikely_6 12 rfl rfl)
theorem dX4_laysLikely_154 : decode cX4_laysLikely 154 = .ok (.iadd, 1) := dk_96 (dk_at dksX4_laysLikely_6 15 rfl rfl)
theorem dX4_laysLikely_155 : decode cX4_laysLikely 155 = .ok (.iaload, 1) := dk_46 (dk_at dksX4_laysLikely_6 16 rfl rfl)
theorem dX4_laysLikely_156 : decode cX4_laysLikely 156 = .ok (.ireturn, 1) := dk_172 (dk_at dksX4_laysLikely_6 17 rfl rfl)
abbrev cX4_wholeOf : ByteArray := prog_16_method_109_code
def yX4_wholeOf : MethodName := ⟨RX4, "wholeOf", "(I)I"⟩
def dkwX4_wholeOf_0 : List UInt8 := [4, 60, 3, 61, 28, 26, 162, 0, 14, 27, 16, 10, 104, 60, 132, 2, 1, 167, 255, 243, 27, 172]
abbrev dktX4_wholeOf_0 : List UInt8 := dkwX4_wholeOf_0 ++ []
theorem dksX4_wholeOf_0 : cX4_wholeOf.data.toList.drop 0 = dktX4_wholeOf_0 := by decide +kernel
theorem dX4_wholeOf_0 : decode cX4_wholeOf 0 = .ok (.iconst 1, 1) := dk_4 (dk_at dksX4_wholeOf_0 0 rfl rfl)
theorem dX4_wholeOf_1 : decode cX4_wholeOf 1 = .ok (.istore_n 1, 1) := dk_60 (dk_at dksX4_wholeOf_0 1 rfl rfl)
theorem dX4_wholeOf_2 : decode cX4_wholeOf 2 = .ok (.iconst 0, 1) := dk_3 (dk_at dksX4_wholeOf_0 2 rfl rfl)
theorem dX4_wholeOf_3 : decode cX4_wholeOf 3 = .ok (.istore_n 2, 1) := dk_61 (dk_at dksX4_wholeOf_0 3 rfl rfl)
theorem dX4_wholeOf_4 : decode cX4_wholeOf 4 = .ok (.iload_n 2, 1) := dk_28 (dk_at dksX4_wholeOf_0 4 rfl rfl)
theorem dX4_wholeOf_5 : decode cX4_wholeOf 5 = .ok (.iload_n 0, 1) := dk_26 (dk_at dksX4_wholeOf_0 5 rfl rfl)
theorem dX4_wholeOf_6 : decode cX4_wholeOf 6 = .ok (.if_icmp .ge 14, 3) := dk_162 0 14 (dk_at dksX4_wholeOf_0 6 rfl rfl)
theorem dX4_wholeOf_9 : decode cX4_wholeOf 9 = .ok (.iload_n 1, 1) := dk_27 (dk_at dksX4_wholeOf_0 9 rfl rfl)
theorem dX4_wholeOf_10 : decode cX4_wholeOf 10 = .ok (.bipush 10, 2) := dk_16 10 (dk_at dksX4_wholeOf_0 10 rfl rfl)
theorem dX4_wholeOf_12 : decode cX4_wholeOf 12 = .ok (.imul, 1) := dk_104 (dk_at dksX4_wholeOf_0 12 rfl rfl)
theorem dX4_wholeOf_13 : decode cX4_wholeOf 13 = .ok (.istore_n 1, 1) := dk_60 (dk_at dksX4_wholeOf_0 13 rfl rfl)
theorem dX4_wholeOf_14 : decode cX4_wholeOf 14 = .ok (.iinc 2 1, 3) := dk_132 2 1 (dk_at dksX4_wholeOf_0 14 rfl rfl)
theorem dX4_wholeOf_17 : decode cX4_wholeOf 17 = .ok (.goto (-13), 3) := dk_167 255 243 (dk_at dksX4_wholeOf_0 17 rfl rfl)
theorem dX4_wholeOf_20 : decode cX4_wholeOf 20 = .ok (.iload_n 1, 1) := dk_27 (dk_at dksX4_wholeOf_0 20 rfl rfl)
theorem dX4_wholeOf_21 : decode cX4_wholeOf 21 = .ok (.ireturn, 1) := dk_172 (dk_at dksX4_wholeOf_0 21 rfl rfl)
abbrev cX4_likelyBy : ByteArray := prog_16_method_110_code
def yX4_likelyBy : MethodName := ⟨RX4, "likelyBy", "(III)I"⟩
def dkwX4_likelyBy_3 : List UInt8 := [96, 172]
abbrev dktX4_likelyBy_3 : List UInt8 := dkwX4_likelyBy_3 ++ []
def dkwX4_likelyBy_2 : List UInt8 := [42, 180, 0, 13, 6, 46, 42, 180, 0, 64, 16, 36, 29, 4, 100, 104, 21, 4, 184, 1, 126, 96, 46, 104]
abbrev dktX4_likelyBy_2 : List UInt8 := dkwX4_likelyBy_2 ++ dktX4_likelyBy_3
def dkwX4_likelyBy_1 : List UInt8 := [16, 10, 42, 180, 0, 13, 6, 46, 100, 42, 180, 0, 64, 16, 36, 29, 4, 100, 104, 21, 4, 96, 46, 104]
abbrev dktX4_likelyBy_1 : List UInt8 := dkwX4_likelyBy_1 ++ dktX4_likelyBy_2
def dkwX4_likelyBy_0 : List UInt8 := [42, 180, 0, 39, 16, 8, 27, 104, 28, 96, 46, 54, 4, 21, 4, 2, 160, 0, 7, 2, 167, 0, 52]
abbrev dktX4_likelyBy_0 : List UInt8 := dkwX4_likelyBy_0 ++ dktX4_likelyBy_1
theorem dksX4_likelyBy_0 : cX4_likelyBy.data.toList.drop 0 = dktX4_likelyBy_0 := by decide +kernel
theorem dksX4_likelyBy_1 : cX4_likelyBy.data.toList.drop 23 = dktX4_likelyBy_1 := dk_seg dksX4_likelyBy_0 23 rfl rfl
theorem dksX4_likelyBy_2 : cX4_likelyBy.data.toList.drop 47 = dktX4_likelyBy_2 := dk_seg dksX4_likelyBy_1 24 rfl rfl
theorem dksX4_likelyBy_3 : cX4_likelyBy.data.toList.drop 71 = dktX4_likelyBy_3 := dk_seg dksX4_likelyBy_2 24 rfl rfl
theorem dX4_likelyBy_0 : decode cX4_likelyBy 0 = .ok (.aload_n 0, 1) := dk_42 (dk_at dksX4_likelyBy_0 0 rfl rfl)
theorem dX4_likelyBy_1 : decode cX4_likelyBy 1 = .ok (.getfield 39, 3) := dk_180 0 39 (dk_at dksX4_likelyBy_0 1 rfl rfl)
theorem dX4_likelyBy_4 : decode cX4_likelyBy 4 = .ok (.bipush 8, 2) := dk_16 8 (dk_at dksX4_likelyBy_0 4 rfl rfl)
theorem dX4_likelyBy_6 : decode cX4_likelyBy 6 = .ok (.iload_n 1, 1) := dk_27 (dk_at dksX4_likelyBy_0 6 rfl rfl)
theorem dX4_likelyBy_7 : decode cX4_likelyBy 7 = .ok (.imul, 1) := dk_104 (dk_at dksX4_likelyBy_0 7 rfl rfl)
theorem dX4_likelyBy_8 : decode cX4_likelyBy 8 = .ok (.iload_n 2, 1) := dk_28 (dk_at dksX4_likelyBy_0 8 rfl rfl)
theorem dX4_likelyBy_9 : decode cX4_likelyBy 9 = .ok (.iadd, 1) := dk_96 (dk_at dksX4_likelyBy_0 9 rfl rfl)
theorem dX4_likelyBy_10 : decode cX4_likelyBy 10 = .ok (.iaload, 1) := dk_46 (dk_at dksX4_likelyBy_0 10 rfl rfl)
theorem dX4_likelyBy_11 : decode cX4_likelyBy 11 = .ok (.istore 4, 2) := dk_54 4 (dk_at dksX4_likelyBy_0 11 rfl rfl)
theorem dX4_likelyBy_13 : decode cX4_likelyBy 13 = .ok (.iload 4, 2) := dk_21 4 (dk_at dksX4_likelyBy_0 13 rfl rfl)
theorem dX4_likelyBy_15 : decode cX4_likelyBy 15 = .ok (.iconst (-1), 1) := dk_2 (dk_at dksX4_likelyBy_0 15 rfl rfl)
theorem dX4_likelyBy_16 : decode cX4_likelyBy 16 = .ok (.if_icmp .ne 7, 3) := dk_160 0 7 (dk_at dksX4_likelyBy_0 16 rfl rfl)
theorem dX4_likelyBy_19 : decode cX4_likelyBy 19 = .ok (.iconst (-1), 1) := dk_2 (dk_at dksX4_likelyBy_0 19 rfl rfl)
theorem dX4_likelyBy_20 : decode cX4_likelyBy 20 = .ok (.goto 52, 3) := dk_167 0 52 (dk_at dksX4_likelyBy_0 20 rfl rfl)
theorem dX4_likelyBy_23 : decode cX4_likelyBy 23 = .ok (.bipush 10, 2) := dk_16 10 (dk_at dksX4_likelyBy_1 0 rfl rfl)
theorem dX4_likelyBy_25 : decode cX4_likelyBy 25 = .ok (.aload_n 0, 1) := dk_42 (dk_at dksX4_likelyBy_1 2 rfl rfl)
theorem dX4_likelyBy_26 : decode cX4_likelyBy 26 = .ok (.getfield 13, 3) := dk_180 0 13 (dk_at dksX4_likelyBy_1 3 rfl rfl)
theorem dX4_likelyBy_29 : decode cX4_likelyBy 29 = .ok (.iconst 3, 1) := dk_6 (dk_at dksX4_likelyBy_1 6 rfl rfl)
theorem dX4_likelyBy_30 : decode cX4_likelyBy 30 = .ok (.iaload, 1) := dk_46 (dk_at dksX4_likelyBy_1 7 rfl rfl)
theorem dX4_likelyBy_31 : decode cX4_likelyBy 31 = .ok (.isub, 1) := dk_100 (dk_at dksX4_likelyBy_1 8 rfl rfl)
theorem dX4_likelyBy_32 : decode cX4_likelyBy 32 = .ok (.aload_n 0, 1) := dk_42 (dk_at dksX4_likelyBy_1 9 rfl rfl)
theorem dX4_likelyBy_33 : decode cX4_likelyBy 33 = .ok (.getfield 64, 3) := dk_180 0 64 (dk_at dksX4_likelyBy_1 10 rfl rfl)
theorem dX4_likelyBy_36 : decode cX4_likelyBy 36 = .ok (.bipush 36, 2) := dk_16 36 (dk_at dksX4_likelyBy_1 13 rfl rfl)
theorem dX4_likelyBy_38 : decode cX4_likelyBy 38 = .ok (.iload_n 3, 1) := dk_29 (dk_at dksX4_likelyBy_1 15 rfl rfl)
theorem dX4_likelyBy_39 : decode cX4_likelyBy 39 = .ok (.iconst 1, 1) := dk_4 (dk_at dksX4_likelyBy_1 16 rfl rfl)
theorem dX4_likelyBy_40 : decode cX4_likelyBy 40 = .ok (.isub, 1) := dk_100 (dk_at dksX4_likelyBy_1 17 rfl rfl)
theorem dX4_likelyBy_41 : decode cX4_likelyBy 41 = .ok (.imul, 1) := dk_104 (dk_at dksX4_likelyBy_1 18 rfl rfl)
theorem dX4_likelyBy_42 : decode cX4_likelyBy 42 = .ok (.iload 4, 2) := dk_21 4 (dk_at dksX4_likelyBy_1 19 rfl rfl)
theorem dX4_likelyBy_44 : decode cX4_likelyBy 44 = .ok (.iadd, 1) := dk_96 (dk_at dksX4_likelyBy_1 21 rfl rfl)
theorem dX4_likelyBy_45 : decode cX4_likelyBy 45 = .ok (.iaload, 1) := dk_46 (dk_at dksX4_likelyBy_1 22 rfl rfl)
theorem dX4_likelyBy_46 : decode cX4_likelyBy 46 = .ok (.imul, 1) := dk_104 (dk_at dksX4_likelyBy_1 23 rfl rfl)
theorem dX4_likelyBy_47 : decode cX4_likelyBy 47 = .ok (.aload_n 0, 1) := dk_42 (dk_at dksX4_likelyBy_2 0 rfl rfl)
theorem dX4_likelyBy_48 : decode cX4_likelyBy 48 = .ok (.getfield 13, 3) := dk_180 0 13 (dk_at dksX4_likelyBy_2 1 rfl rfl)
theorem dX4_likelyBy_51 : decode cX4_likelyBy 51 = .ok (.iconst 3, 1) := dk_6 (dk_at dksX4_likelyBy_2 4 rfl rfl)
theorem dX4_likelyBy_52 : decode cX4_likelyBy 52 = .ok (.iaload, 1) := dk_46 (dk_at dksX4_likelyBy_2 5 rfl rfl)
theorem dX4_likelyBy_53 : decode cX4_likelyBy 53 = .ok (.aload_n 0, 1) := dk_42 (dk_at dksX4_likelyBy_2 6 rfl rfl)
theorem dX4_likelyBy_54 : decode cX4_likelyBy 54 = .ok (.getfield 64, 3) := dk_180 0 64 (dk_at dksX4_likelyBy_2 7 rfl rfl)
theorem dX4_likelyBy_57 : decode cX4_likelyBy 57 = .ok (.bipush 36, 2) := dk_16 36 (dk_at dksX4_likelyBy_2 10 rfl rfl)
theorem dX4_likelyBy_59 : decode cX4_likelyBy 59 = .ok (.iload_n 3, 1) := dk_29 (dk_at dksX4_likelyBy_2 12 rfl rfl)
theorem dX4_likelyBy_60 : decode cX4_likelyBy 60 = .ok (.iconst 1, 1) := dk_4 (dk_at dksX4_likelyBy_2 13 rfl rfl)
theorem dX4_likelyBy_61 : decode cX4_likelyBy 61 = .ok (.isub, 1) := dk_100 (dk_at dksX4_likelyBy_2 14 rfl rfl)
theorem dX4_likelyBy_62 : decode cX4_likelyBy 62 = .ok (.imul, 1) := dk_104 (dk_at dksX4_likelyBy_2 15 rfl rfl)
theorem dX4_likelyBy_63 : decode cX4_likelyBy 63 = .ok (.iload 4, 2) := dk_21 4 (dk_at dksX4_likelyBy_2 16 rfl rfl)
theorem dX4_likelyBy_65 : decode cX4_likelyBy 65 = .ok (.invokestatic 382, 3) := dk_184 1 126 (dk_at dksX4_likelyBy_2 18 rfl rfl)
theorem dX4_likelyBy_68 : decode cX4_likelyBy 68 = .ok (.iadd, 1) := dk_96 (dk_at dksX4_likelyBy_2 21 rfl rfl)
theorem dX4_likelyBy_69 : decode cX4_likelyBy 69 = .ok (.iaload, 1) := dk_46 (dk_at dksX4_likelyBy_2 22 rfl rfl)
theorem dX4_likelyBy_70 : decode cX4_likelyBy 70 = .ok (.imul, 1) := dk_104 (dk_at dksX4_likelyBy_2 23 rfl rfl)
theorem dX4_likelyBy_71 : decode cX4_likelyBy 71 = .ok (.iadd, 1) := dk_96 (dk_at dksX4_likelyBy_3 0 rfl rfl)
theorem dX4_likelyBy_72 : decode cX4_likelyBy 72 = .ok (.ireturn, 1) := dk_172 (dk_at dksX4_likelyBy_3 1 rfl rfl)
abbrev cX4_common : ByteArray := prog_16_method_112_code
def yX4_common : MethodName := ⟨RX4, "common", "(II)I"⟩
def dkwX4_common_0 : List UInt8 := [27, 154, 0, 7, 26, 167, 0, 10, 27, 26, 27, 112, 184, 1, 143, 172]
abbrev dktX4_common_0 : List UInt8 := dkwX4_common_0 ++ []
theorem dksX4_common_0 : cX4_common.data.toList.drop 0 = dktX4_common_0 := by decide +kernel
theorem dX4_common_0 : decode cX4_common 0 = .ok (.iload_n 1, 1) := dk_27 (dk_at dksX4_common_0 0 rfl rfl)
theorem dX4_common_1 : decode cX4_common 1 = .ok (.ifCond .ne 7, 3) := dk_154 0 7 (dk_at dksX4_common_0 1 rfl rfl)
theorem dX4_common_4 : decode cX4_common 4 = .ok (.iload_n 0, 1) := dk_26 (dk_at dksX4_common_0 4 rfl rfl)
theorem dX4_common_5 : decode cX4_common 5 = .ok (.goto 10, 3) := dk_167 0 10 (dk_at dksX4_common_0 5 rfl rfl)
theorem dX4_common_8 : decode cX4_common 8 = .ok (.iload_n 1, 1) := dk_27 (dk_at dksX4_common_0 8 rfl rfl)
theorem dX4_common_9 : decode cX4_common 9 = .ok (.iload_n 0, 1) := dk_26 (dk_at dksX4_common_0 9 rfl rfl)
theorem dX4_common_10 : decode cX4_common 10 = .ok (.iload_n 1, 1) := dk_27 (dk_at dksX4_common_0 10 rfl rfl)
theorem dX4_common_11 : decode cX4_common 11 = .ok (.irem, 1) := dk_112 (dk_at dksX4_common_0 11 rfl rfl)
theorem dX4_common_12 : decode cX4_common 12 = .ok (.invokestatic 399, 3) := dk_184 1 143 (dk_at dksX4_common_0 12 rfl rfl)
theorem dX4_common_15 : decode cX4_common 15 = .ok (.ireturn, 1) := dk_172 (dk_at dksX4_common_0 15 rfl rfl)
abbrev cX4_best : ByteArray := prog_16_method_114_code
def yX4_best : MethodName := ⟨RX4, "best", "(II)I"⟩
def dkwX4_best_3 : List UInt8 := [54, 5, 42, 21, 4, 21, 5, 28, 182, 1, 140, 29, 159, 0, 9, 132, 5, 1, 167, 255, 240, 21, 5, 172]
abbrev dktX4_best_3 : List UInt8 := dkwX4_best_3 ++ []
def dkwX4_best_2 : List UInt8 := [153, 0, 20, 21, 4, 16, 6, 108, 27, 160, 0, 13, 21, 4, 184, 0, 217, 154, 0, 5, 2, 172, 3]
abbrev dktX4_best_2 : List UInt8 := dkwX4_best_2 ++ dktX4_best_3
def dkwX4_best_1 : List UInt8 := [184, 0, 142, 154, 0, 6, 16, 253, 172, 42, 27, 28, 182, 1, 148, 62, 42, 182, 0, 232, 54, 4, 29]
abbrev dktX4_best_1 : List UInt8 := dkwX4_best_1 ++ dktX4_best_2
def dkwX4_best_0 : List UInt8 := [42, 3, 181, 0, 1, 42, 27, 133, 182, 1, 5, 154, 0, 6, 16, 254, 172, 28, 133, 9, 20, 1, 146]
abbrev dktX4_best_0 : List UInt8 := dkwX4_best_0 ++ dktX4_best_1
theorem dksX4_best_0 : cX4_best.data.toList.drop 0 = dktX4_best_0 := by decide +kernel
theorem dksX4_best_1 : cX4_best.data.toList.drop 23 = dktX4_best_1 := dk_seg dksX4_best_0 23 rfl rfl
theorem dksX4_best_2 : cX4_best.data.toList.drop 46 = dktX4_best_2 := dk_seg dksX4_best_1 23 rfl rfl
theorem dksX4_best_3 : cX4_best.data.toList.drop 69 = dktX4_best_3 := dk_seg dksX4_best_2 23 rfl rfl
theorem dX4_best_0 : decode cX4_best 0 = .ok (.aload_n 0, 1) := dk_42 (dk_at dksX4_best_0 0 rfl rfl)
theorem dX4_best_1 : decode cX4_best 1 = .ok (.iconst 0, 1) := dk_3 (dk_at dksX4_best_0 1 rfl rfl)
theorem dX4_best_2 : decode cX4_best 2 = .ok (.putfield 1, 3) := dk_181 0 1 (dk_at dksX4_best_0 2 rfl rfl)
theorem dX4_best_5 : decode cX4_best 5 = .ok (.aload_n 0, 1) := dk_42 (dk_at dksX4_best_0 5 rfl rfl)
theorem dX4_best_6 : decode cX4_best 6 = .ok (.iload_n 1, 1) := dk_27 (dk_at dksX4_best_0 6 rfl rfl)
theorem dX4_best_7 : decode cX4_best 7 = .ok (.i2l, 1) := dk_133 (dk_at dksX4_best_0 7 rfl rfl)
theorem dX4_best_8 : decode cX4_best 8 = .ok (.invokevirtual 261, 3) := dk_182 1 5 (dk_at dksX4_best_0 8 rfl rfl)
theorem dX4_best_11 : decode cX4_best 11 = .ok (.ifCond .ne 6, 3) := dk_154 0 6 (dk_at dksX4_best_0 11 rfl rfl)
theorem dX4_best_14 : decode cX4_best 14 = .ok (.bipush (-2), 2) := dk_16 254 (dk_at dksX4_best_0 14 rfl rfl)
theorem dX4_best_16 : decode cX4_best 16 = .ok (.ireturn, 1) := dk_172 (dk_at dksX4_best_0 16 rfl rfl)
theorem dX4_best_17 : decode cX4_best 17 = .ok (.iload_n 2, 1) := dk_28 (dk_at dksX4_best_0 17 rfl rfl)
theorem dX4_best_18 : decode cX4_best 18 = .ok (.i2l, 1) := dk_133 (dk_at dksX4_best_0 18 rfl rfl)
theorem dX4_best_19 : decode cX4_best 19 = .ok (.lconst 0, 1) := dk_9 (dk_at dksX4_best_0 19 rfl rfl)
theorem dX4_best_20 : decode cX4_best 20 = .ok (.ldc2_w 402, 3) := dk_20 1 146 (dk_at dksX4_best_0 20 rfl rfl)
theorem dX4_best_23 : decode cX4_best 23 = .ok (.invokestatic 142, 3) := dk_184 0 142 (dk_at dksX4_best_1 0 rfl rfl)
theorem dX4_best_26 : decode cX4_best 26 = .ok (.ifCond .ne 6, 3) := dk_154 0 6 (dk_at dksX4_best_1 3 rfl rfl)
theorem dX4_best_29 : decode cX4_best 29 = .ok (.bipush (-3), 2) := dk_16 253 (dk_at dksX4_best_1 6 rfl rfl)
theorem dX4_best_31 : decode cX4_best 31 = .ok (.ireturn, 1) := dk_172 (dk_at dksX4_best_1 8 rfl rfl)
theorem dX4_best_32 : decode cX4_best 32 = .ok (.aload_n 0, 1) := dk_42 (dk_at dksX4_best_1 9 rfl rfl)
theorem dX4_best_33 : decode cX4_best 33 = .ok (.iload_n 1, 1) := dk_27 (dk_at dksX4_best_1 10 rfl rfl)
theorem dX4_best_34 : decode cX4_best 34 = .ok (.iload_n 2, 1) := dk_28 (dk_at dksX4_best_1 11 rfl rfl)
theorem dX4_best_35 : decode cX4_best 35 = .ok (.invokevirtual 404, 3) := dk_182 1 148 (dk_at dksX4_best_1 12 rfl rfl)
theorem dX4_best_38 : decode cX4_best 38 = .ok (.istore_n 3, 1) := dk_62 (dk_at dksX4_best_1 15 rfl rfl)
theorem dX4_best_39 : decode cX4_best 39 = .ok (.aload_n 0, 1) := dk_42 (dk_at dksX4_best_1 16 rfl rfl)
theorem dX4_best_40 : decode cX4_best 40 = .ok (.invokevirtual 232, 3) := dk_182 0 232 (dk_at dksX4_best_1 17 rfl rfl)
theorem dX4_best_43 : decode cX4_best 43 = .ok (.istore 4, 2) := dk_54 4 (dk_at dksX4_best_1 20 rfl rfl)
theorem dX4_best_45 : decode cX4_best 45 = .ok (.iload_n 3, 1) := dk_29 (dk_at dksX4_best_1 22 rfl rfl)
theorem dX4_best_46 : decode cX4_best 46 = .ok (.ifCond .eq 20, 3) := dk_153 0 20 (dk_at dksX4_best_2 0 rfl rfl)
theorem dX4_best_49 : decode cX4_best 49 = .ok (.iload 4, 2) := dk_21 4 (dk_at dksX4_best_2 3 rfl rfl)
theorem dX4_best_51 : decode cX4_best 51 = .ok (.bipush 6, 2) := dk_16 6 (dk_at dksX4_best_2 5 rfl rfl)
theorem dX4_best_53 : decode cX4_best 53 = .ok (.idiv, 1) := dk_108 (dk_at dksX4_best_2 7 rfl rfl)
theorem dX4_best_54 : decode cX4_best 54 = .ok (.iload_n 1, 1) := dk_27 (dk_at dksX4_best_2 8 rfl rfl)
theorem dX4_best_55 : decode cX4_best 55 = .ok (.if_icmp .ne 13, 3) := dk_160 0 13 (dk_at dksX4_best_2 9 rfl rfl)
theorem dX4_best_58 : decode cX4_best 58 = .ok (.iload 4, 2) := dk_21 4 (dk_at dksX4_best_2 12 rfl rfl)
theorem dX4_best_60 : decode cX4_best 60 = .ok (.invokestatic 217, 3) := dk_184 0 217 (dk_at dksX4_best_2 14 rfl rfl)
theorem dX4_best_63 : decode cX4_best 63 = .ok (.ifCond .ne 5, 3) := dk_154 0 5 (dk_at dksX4_best_2 17 rfl rfl)
theorem dX4_best_66 : decode cX4_best 66 = .ok (.iconst (-1), 1) := dk_2 (dk_at dksX4_best_2 20 rfl rfl)
theorem dX4_best_67 : decode cX4_best 67 = .ok (.ireturn, 1) := dk_172 (dk_at dksX4_best_2 21 rfl rfl)
theorem dX4_best_68 : decode cX4_best 68 = .ok (.iconst 0, 1) := dk_3 (dk_at dksX4_best_2 22 rfl rfl)
theorem dX4_best_69 : decode cX4_best 69 = .ok (.istore 5, 2) := dk_54 5 (dk_at dksX4_best_3 0 rfl rfl)
theorem dX4_best_71 : decode cX4_best 71 = .ok (.aload_n 0, 1) := dk_42 (dk_at dksX4_best_3 2 rfl rfl)
theorem dX4_best_72 : decode cX4_best 72 = .ok (.iload 4, 2) := dk_21 4 (dk_at dksX4_best_3 3 rfl rfl)
theorem dX4_best_74 : decode cX4_best 74 = .ok (.iload 5, 2) := dk_21 5 (dk_at dksX4_best_3 5 rfl rfl)
theorem dX4_best_76 : decode cX4_best 76 = .ok (.iload_n 2, 1) := dk_28 (dk_at dksX4_best_3 7 rfl rfl)
theorem dX4_best_77 : decode cX4_best 77 = .ok (.invokevirtual 396, 3) := dk_182 1 140 (dk_at dksX4_best_3 8 rfl rfl)
theorem dX4_best_80 : decode cX4_best 80 = .ok (.iload_n 3, 1) := dk_29 (dk_at dksX4_best_3 11 rfl rfl)
theorem dX4_best_81 : decode cX4_best 81 = .ok (.if_icmp .eq 9, 3) := dk_159 0 9 (dk_at dksX4_best_3 12 rfl rfl)
theorem dX4_best_84 : decode cX4_best 84 = .ok (.iinc 5 1, 3) := dk_132 5 1 (dk_at dksX4_best_3 15 rfl rfl)
theorem dX4_best_87 : decode cX4_best 87 = .ok (.goto (-16), 3) := dk_167 255 240 (dk_at dksX4_best_3 18 rfl rfl)
theorem dX4_best_90 : decode cX4_best 90 = .ok (.iload 5, 2) := dk_21 5 (dk_at dksX4_best_3 21 rfl rfl)
theorem dX4_best_92 : decode cX4_best 92 = .ok (.ireturn, 1) := dk_172 (dk_at dksX4_best_3 23 rfl rfl)
abbrev cX4_numbers : ByteArray := prog_16_method_116_code
def yX4_numbers : MethodName := ⟨RX4, "numbers", "(III)I"⟩
def dkwX4_numbers_3 : List UInt8 := [180, 0, 73, 16, 40, 27, 104, 21, 4, 96, 9, 80, 132, 4, 1, 167, 255, 234, 3, 172]
abbrev dktX4_numbers_3 : List UInt8 := dkwX4_numbers_3 ++ []
def dkwX4_numbers_2 : List UInt8 := [42, 180, 0, 67, 27, 28, 79, 42, 180, 0, 70, 27, 29, 79, 3, 54, 4, 21, 4, 29, 162, 0, 22, 42]
abbrev dktX4_numbers_2 : List UInt8 := dkwX4_numbers_2 ++ dktX4_numbers_3
def dkwX4_numbers_1 : List UInt8 := [184, 0, 142, 154, 0, 6, 16, 254, 172, 29, 133, 9, 20, 1, 52, 184, 0, 142, 154, 0, 6, 16, 253, 172]
abbrev dktX4_numbers_1 : List UInt8 := dkwX4_numbers_1 ++ dktX4_numbers_2
def dkwX4_numbers_0 : List UInt8 := [42, 3, 181, 0, 1, 27, 133, 9, 20, 1, 34, 184, 0, 142, 153, 0, 15, 28, 133, 9, 20, 1, 34]
abbrev dktX4_numbers_0 : List UInt8 := dkwX4_numbers_0 ++ dktX4_numbers_1
theorem dksX4_numbers_0 : cX4_numbers.data.toList.drop 0 = dktX4_numbers_0 := by decide +kernel
theorem dksX4_numbers_1 : cX4_numbers.data.toList.drop 23 = dktX4_numbers_1 := dk_seg dksX4_numbers_0 23 rfl rfl
theorem dksX4_numbers_2 : cX4_numbers.data.toList.drop 47 = dktX4_numbers_2 := dk_seg dksX4_numbers_1 24 rfl rfl
theorem dksX4_numbers_3 : cX4_numbers.data.toList.drop 71 = dktX4_numbers_3 := dk_seg dksX4_numbers_2 24 rfl rfl
theorem dX4_numbers_0 : decode cX4_numbers 0 = .ok (.aload_n 0, 1) := dk_42 (dk_at dksX4_numbers_0 0 rfl rfl)
theorem dX4_numbers_1 : decode cX4_numbers 1 = .ok (.iconst 0, 1) := dk_3 (dk_at dksX4_numbers_0 1 rfl rfl)
theorem dX4_numbers_2 : decode cX4_numbers 2 = .ok (.putfield 1, 3) := dk_181 0 1 (dk_at dksX4_numbers_0 2 rfl rfl)
theorem dX4_numbers_5 : decode cX4_numbers 5 = .ok (.iload_n 1, 1) := dk_27 (dk_at dksX4_numbers_0 5 rfl rfl)
theorem dX4_numbers_6 : decode cX4_numbers 6 = .ok (.i2l, 1) := dk_133 (dk_at dksX4_numbers_0 6 rfl rfl)
theorem dX4_numbers_7 : decode cX4_numbers 7 = .ok (.lconst 0, 1) := dk_9 (dk_at dksX4_numbers_0 7 rfl rfl)
theorem dX4_numbers_8 : decode cX4_numbers 8 = .ok (.ldc2_w 290, 3) := dk_20 1 34 (dk_at dksX4_numbers_0 8 rfl rfl)
theorem dX4_numbers_11 : decode cX4_numbers 11 = .ok (.invokestatic 142, 3) := dk_184 0 142 (dk_at dksX4_numbers_0 11 rfl rfl)
theorem dX4_numbers_14 : decode cX4_numbers 14 = .ok (.ifCond .eq 15, 3) := dk_153 0 15 (dk_at dksX4_numbers_0 14 rfl rfl)
theorem dX4_numbers_17 : decode cX4_numbers 17 = .ok (.iload_n 2, 1) := dk_28 (dk_at dksX4_numbers_0 17 rfl rfl)
theorem dX4_numbers_18 : decode cX4_numbers 18 = .ok (.i2l, 1) := dk_133 (dk_at dksX4_numbers_0 18 rfl rfl)
theorem dX4_numbers_19 : decode cX4_numbers 19 = .ok (.lconst 0, 1) := dk_9 (dk_at dksX4_numbers_0 19 rfl rfl)
theorem dX4_numbers_20 : decode cX4_numbers 20 = .ok (.ldc2_w 290, 3) := dk_20 1 34 (dk_at dksX4_numbers_0 20 rfl rfl)
theorem dX4_numbers_23 : decode cX4_numbers 23 = .ok (.invokestatic 142, 3) := dk_184 0 142 (dk_at dksX4_numbers_1 0 rfl rfl)
theorem dX4_numbers_26 : decode cX4_numbers 26 = .ok (.ifCond .ne 6, 3) := dk_154 0 6 (dk_at dksX4_numbers_1 3 rfl rfl)
theorem dX4_numbers_29 : decode cX4_numbers 29 = .ok (.bipush (-2), 2) := dk_16 254 (dk_at dksX4_numbers_1 6 rfl rfl)
theorem dX4_numbers_31 : decode cX4_numbers 31 = .ok (.ireturn, 1) := dk_172 (dk_at dksX4_numbers_1 8 rfl rfl)
theorem dX4_numbers_32 : decode cX4_numbers 32 = .ok (.iload_n 3, 1) := dk_29 (dk_at dksX4_numbers_1 9 rfl rfl)
theorem dX4_numbers_33 : decode cX4_numbers 33 = .ok (.i2l, 1) := dk_133 (dk_at dksX4_numbers_1 10 rfl rfl)
theorem dX4_numbers_34 : decode cX4_numbers 34 = .ok (.lconst 0, 1) := dk_9 (dk_at dksX4_numbers_1 11 rfl rfl)
theorem dX4_numbers_35 : decode cX4_numbers 35 = .ok (.ldc2_w 308, 3) := dk_20 1 52 (dk_at dksX4_numbers_1 12 rfl rfl)
theorem dX4_numbers_38 : decode cX4_numbers 38 = .ok (.invokestatic 142, 3) := dk_184 0 142 (dk_at dksX4_numbers_1 15 rfl rfl)
theorem dX4_numbers_41 : decode cX4_numbers 41 = .ok (.ifCond .ne 6, 3) := dk_154 0 6 (dk_at dksX4_numbers_1 18 rfl rfl)
theorem dX4_numbers_44 : decode cX4_numbers 44 = .ok (.bipush (-3), 2) := dk_16 253 (dk_at dksX4_numbers_1 21 rfl rfl)
theorem dX4_numbers_46 : decode cX4_numbers 46 = .ok (.ireturn, 1) := dk_172 (dk_at dksX4_numbers_1 23 rfl rfl)
theorem dX4_numbers_47 : decode cX4_numbers 47 = .ok (.aload_n 0, 1) := dk_42 (dk_at dksX4_numbers_2 0 rfl rfl)
theorem dX4_numbers_48 : decode cX4_numbers 48 = .ok (.getfield 67, 3) := dk_180 0 67 (dk_at dksX4_numbers_2 1 rfl rfl)
theorem dX4_numbers_51 : decode cX4_numbers 51 = .ok (.iload_n 1, 1) := dk_27 (dk_at dksX4_numbers_2 4 rfl rfl)
theorem dX4_numbers_52 : decode cX4_numbers 52 = .ok (.iload_n 2, 1) := dk_28 (dk_at dksX4_numbers_2 5 rfl rfl)
theorem dX4_numbers_53 : decode cX4_numbers 53 = .ok (.iastore, 1) := dk_79 (dk_at dksX4_numbers_2 6 rfl rfl)
theorem dX4_numbers_54 : decode cX4_numbers 54 = .ok (.aload_n 0, 1) := dk_42 (dk_at dksX4_numbers_2 7 rfl rfl)
theorem dX4_numbers_55 : decode cX4_numbers 55 = .ok (.getfield 70, 3) := dk_180 0 70 (dk_at dksX4_numbers_2 8 rfl rfl)
theorem dX4_numbers_58 : decode cX4_numbers 58 = .ok (.iload_n 1, 1) := dk_27 (dk_at dksX4_numbers_2 11 rfl rfl)
theorem dX4_numbers_59 : decode cX4_numbers 59 = .ok (.iload_n 3, 1) := dk_29 (dk_at dksX4_numbers_2 12 rfl rfl)
theorem dX4_numbers_60 : decode cX4_numbers 60 = .ok (.iastore, 1) := dk_79 (dk_at dksX4_numbers_2 13 rfl rfl)
theorem dX4_numbers_61 : decode cX4_numbers 61 = .ok (.iconst 0, 1) := dk_3 (dk_at dksX4_numbers_2 14 rfl rfl)
theorem dX4_numbers_62 : decode cX4_numbers 62 = .ok (.istore 4, 2) := dk_54 4 (dk_at dksX4_numbers_2 15 rfl rfl)
theorem dX4_numbers_64 : decode cX4_numbers 64 = .ok (.iload 4, 2) := dk_21 4 (dk_at dksX4_numbers_2 17 rfl rfl)
theorem dX4_numbers_66 : decode cX4_numbers 66 = .ok (.iload_n 3, 1) := dk_29 (dk_at dksX4_numbers_2 19 rfl rfl)
theorem dX4_numbers_67 : decode cX4_numbers 67 = .ok (.if_icmp .ge 22, 3) := dk_162 0 22 (dk_at dksX4_numbers_2 20 rfl rfl)
theorem dX4_numbers_70 : decode cX4_numbers 70 = .ok (.aload_n 0, 1) := dk_42 (dk_at dksX4_numbers_2 23 rfl rfl)
theorem dX4_numbers_71 : decode cX4_numbers 71 = .ok (.getfield 73, 3) := dk_180 0 73 (dk_at dksX4_numbers_3 0 rfl rfl)
theorem dX4_numbers_74 : decode cX4_numbers 74 = .ok (.bipush 40, 2) := dk_16 40 (dk_at dksX4_numbers_3 3 rfl rfl)
theorem dX4_numbers_76 : decode cX4_numbers 76 = .ok (.iload_n 1, 1) := dk_27 (dk_at dksX4_numbers_3 5 rfl rfl)
theorem dX4_numbers_77 : decode cX4_numbers 77 = .ok (.imul, 1) := dk_104 (dk_at dksX4_numbers_3 6 rfl rfl)
theorem dX4_numbers_78 : decode cX4_numbers 78 = .ok (.iload 4, 2) := dk_21 4 (dk_at dksX4_numbers_3 7 rfl rfl)
theorem dX4_numbers_80 : decode cX4_numbers 80 = .ok (.iadd, 1) := dk_96 (dk_at dksX4_numbers_3 9 rfl rfl)
theorem dX4_numbers_81 : decode cX4_numbers 81 = .ok (.lconst 0, 1) := dk_9 (dk_at dksX4_numbers_3 10 rfl rfl)
theorem dX4_numbers_82 : decode cX4_numbers 82 = .ok (.lastore, 1) := dk_80 (dk_at dksX4_numbers_3 11 rfl rfl)
theorem dX4_numbers_83 : decode cX4_numbers 83 = .ok (.iinc 4 1, 3) := dk_132 4 1 (dk_at dksX4_numbers_3 12 rfl rfl)
theorem dX4_numbers_86 : decode cX4_numbers 86 = .ok (.goto (-22), 3) := dk_167 255 234 (dk_at dksX4_numbers_3 15 rfl rfl)
theorem dX4_numbers_89 : decode cX4_numbers 89 = .ok (.iconst 0, 1) := dk_3 (dk_at dksX4_numbers_3 18 rfl rfl)
theorem dX4_numbers_90 : decode cX4_numbers 90 = .ok (.ireturn, 1) := dk_172 (dk_at dksX4_numbers_3 19 rfl rfl)
abbrev cX4_write : ByteArray := prog_16_method_117_code
def yX4_write : MethodName := ⟨RX4, "write", "(IIJ)J"⟩
def dkwX4_write_3 : List UInt8 := [104, 28, 96, 47, 173]
abbrev dktX4_write_3 : List UInt8 := dkwX4_write_3 ++ []
def dkwX4_write_2 : List UInt8 := [16, 40, 27, 104, 28, 96, 33, 42, 180, 0, 67, 27, 46, 184, 1, 153, 80, 42, 180, 0, 73, 16, 40, 27]
abbrev dktX4_write_2 : List UInt8 := dkwX4_write_2 ++ dktX4_write_3
def dkwX4_write_1 : List UInt8 := [42, 180, 0, 70, 27, 46, 4, 100, 133, 184, 0, 142, 154, 0, 7, 20, 1, 151, 173, 42, 180, 0, 73]
abbrev dktX4_write_1 : List UInt8 := dkwX4_write_1 ++ dktX4_write_2
def dkwX4_write_0 : List UInt8 := [42, 3, 181, 0, 1, 42, 27, 182, 1, 36, 54, 5, 21, 5, 153, 0, 7, 21, 5, 133, 173, 28, 133, 9]
abbrev dktX4_write_0 : List UInt8 := dkwX4_write_0 ++ dktX4_write_1
theorem dksX4_write_0 : cX4_write.data.toList.drop 0 = dktX4_write_0 := by decide +kernel
theorem dksX4_write_1 : cX4_write.data.toList.drop 24 = dktX4_write_1 := dk_seg dksX4_write_0 24 rfl rfl
theorem dksX4_write_2 : cX4_write.data.toList.drop 47 = dktX4_write_2 := dk_seg dksX4_write_1 23 rfl rfl
theorem dksX4_write_3 : cX4_write.data.toList.drop 71 = dktX4_write_3 := dk_seg dksX4_write_2 24 rfl rfl
theorem dX4_write_0 : decode cX4_write 0 = .ok (.aload_n 0, 1) := dk_42 (dk_at dksX4_write_0 0 rfl rfl)
theorem dX4_write_1 : decode cX4_write 1 = .ok (.iconst 0, 1) := dk_3 (dk_at dksX4_write_0 1 rfl rfl)
theorem dX4_write_2 : decode cX4_write 2 = .ok (.putfield 1, 3) := dk_181 0 1 (dk_at dksX4_write_0 2 rfl rfl)
theorem dX4_write_5 : decode cX4_write 5 = .ok (.aload_n 0, 1) := dk_42 (dk_at dksX4_write_0 5 rfl rfl)
theorem dX4_write_6 : decode cX4_write 6 = .ok (.iload_n 1, 1) := dk_27 (dk_at dksX4_write_0 6 rfl rfl)
theorem dX4_write_7 : decode cX4_write 7 = .ok (.invokevirtual 292, 3) := dk_182 1 36 (dk_at dksX4_write_0 7 rfl rfl)
theorem dX4_write_10 : decode cX4_write 10 = .ok (.istore 5, 2) := dk_54 5 (dk_at dksX4_write_0 10 rfl rfl)
theorem dX4_write_12 : decode cX4_write 12 = .ok (.iload 5, 2) := dk_21 5 (dk_at dksX4_write_0 12 rfl rfl)
theorem dX4_write_14 : decode cX4_write 14 = .ok (.ifCond .eq 7, 3) := dk_153 0 7 (dk_at dksX4_write_0 14 rfl rfl)
theorem dX4_write_17 : decode cX4_write 17 = .ok (.iload 5, 2) := dk_21 5 (dk_at dksX4_write_0 17 rfl rfl)
theorem dX4_write_19 : decode cX4_write 19 = .ok (.i2l, 1) := dk_133 (dk_at dksX4_write_0 19 rfl rfl)
theorem dX4_write_20 : decode cX4_write 20 = .ok (.lreturn, 1) := dk_173 (dk_at dksX4_write_0 20 rfl rfl)
theorem dX4_write_21 : decode cX4_write 21 = .ok (.iload_n 2, 1) := dk_28 (dk_at dksX4_write_0 21 rfl rfl)
theorem dX4_write_22 : decode cX4_write 22 = .ok (.i2l, 1) := dk_133 (dk_at dksX4_write_0 22 rfl rfl)
theorem dX4_write_23 : decode cX4_write 23 = .ok (.lconst 0, 1) := dk_9 (dk_at dksX4_write_0 23 rfl rfl)
theorem dX4_write_24 : decode cX4_write 24 = .ok (.aload_n 0, 1) := dk_42 (dk_at dksX4_write_1 0 rfl rfl)
theorem dX4_write_25 : decode cX4_write 25 = .ok (.getfield 70, 3) := dk_180 0 70 (dk_at dksX4_write_1 1 rfl rfl)
theorem dX4_write_28 : decode cX4_write 28 = .ok (.iload_n 1, 1) := dk_27 (dk_at dksX4_write_1 4 rfl rfl)
theorem dX4_write_29 : decode cX4_write 29 = .ok (.iaload, 1) := dk_46 (dk_at dksX4_write_1 5 rfl rfl)
theorem dX4_write_30 : decode cX4_write 30 = .ok (.iconst 1, 1) := dk_4 (dk_at dksX4_write_1 6 rfl rfl)
theorem dX4_write_31 : decode cX4_write 31 = .ok (.isub, 1) := dk_100 (dk_at dksX4_write_1 7 rfl rfl)
theorem dX4_write_32 : decode cX4_write 32 = .ok (.i2l, 1) := dk_133 (dk_at dksX4_write_1 8 rfl rfl)
theorem dX4_write_33 : decode cX4_write 33 = .ok (.invokestatic 142, 3) := dk_184 0 142 (dk_at dksX4_write_1 9 rfl rfl)
theorem dX4_write_36 : decode cX4_write 36 = .ok (.ifCond .ne 7, 3) := dk_154 0 7 (dk_at dksX4_write_1 12 rfl rfl)
theorem dX4_write_39 : decode cX4_write 39 = .ok (.ldc2_w 407, 3) := dk_20 1 151 (dk_at dksX4_write_1 15 rfl rfl)
theorem dX4_write_42 : decode cX4_write 42 = .ok (.lreturn, 1) := dk_173 (dk_at dksX4_write_1 18 rfl rfl)
theorem dX4_write_43 : decode cX4_write 43 = .ok (.aload_n 0, 1) := dk_42 (dk_at dksX4_write_1 19 rfl rfl)
theorem dX4_write_44 : decode cX4_write 44 = .ok (.getfield 73, 3) := dk_180 0 73 (dk_at dksX4_write_1 20 rfl rfl)
theorem dX4_write_47 : decode cX4_write 47 = .ok (.bipush 40, 2) := dk_16 40 (dk_at dksX4_write_2 0 rfl rfl)
theorem dX4_write_49 : decode cX4_write 49 = .ok (.iload_n 1, 1) := dk_27 (dk_at dksX4_write_2 2 rfl rfl)
theorem dX4_write_50 : decode cX4_write 50 = .ok (.imul, 1) := dk_104 (dk_at dksX4_write_2 3 rfl rfl)
theorem dX4_write_51 : decode cX4_write 51 = .ok (.iload_n 2, 1) := dk_28 (dk_at dksX4_write_2 4 rfl rfl)
theorem dX4_write_52 : decode cX4_write 52 = .ok (.iadd, 1) := dk_96 (dk_at dksX4_write_2 5 rfl rfl)
theorem dX4_write_53 : decode cX4_write 53 = .ok (.lload_n 3, 1) := dk_33 (dk_at dksX4_write_2 6 rfl rfl)
theorem dX4_write_54 : decode cX4_write 54 = .ok (.aload_n 0, 1) := dk_42 (dk_at dksX4_write_2 7 rfl rfl)
theorem dX4_write_55 : decode cX4_write 55 = .ok (.getfield 67, 3) := dk_180 0 67 (dk_at dksX4_write_2 8 rfl rfl)
theorem dX4_write_58 : decode cX4_write 58 = .ok (.iload_n 1, 1) := dk_27 (dk_at dksX4_write_2 11 rfl rfl)
theorem dX4_write_59 : decode cX4_write 59 = .ok (.iaload, 1) := dk_46 (dk_at dksX4_write_2 12 rfl rfl)
theorem dX4_write_60 : decode cX4_write 60 = .ok (.invokestatic 409, 3) := dk_184 1 153 (dk_at dksX4_write_2 13 rfl rfl)
theorem dX4_write_63 : decode cX4_write 63 = .ok (.lastore, 1) := dk_80 (dk_at dksX4_write_2 16 rfl rfl)
theorem dX4_write_64 : decode cX4_write 64 = .ok (.aload_n 0, 1) := dk_42 (dk_at dksX4_write_2 17 rfl rfl)
theorem dX4_write_65 : decode cX4_write 65 = .ok (.getfield 73, 3) := dk_180 0 73 (dk_at dksX4_write_2 18 rfl rfl)
theorem dX4_write_68 : decode cX4_write 68 = .ok (.bipush 40, 2) := dk_16 40 (dk_at dksX4_write_2 21 rfl rfl)
theorem dX4_write_70 : decode cX4_write 70 = .ok (.iload_n 1, 1) := dk_27 (dk_at dksX4_write_2 23 rfl rfl)
theorem dX4_write_71 : decode cX4_write 71 = .ok (.imul, 1) := dk_104 (dk_at dksX4_write_3 0 rfl rfl)
theorem dX4_write_72 : decode cX4_write 72 = .ok (.iload_n 2, 1) := dk_28 (dk_at dksX4_write_3 1 rfl rfl)
theorem dX4_write_73 : decode cX4_write 73 = .ok (.iadd, 1) := dk_96 (dk_at dksX4_write_3 2 rfl rfl)
theorem dX4_write_74 : decode cX4_write 74 = .ok (.laload, 1) := dk_47 (dk_at dksX4_write_3 3 rfl rfl)
theorem dX4_write_75 : decode cX4_write 75 = .ok (.lreturn, 1) := dk_173 (dk_at dksX4_write_3 4 rfl rfl)
abbrev cX4_cut : ByteArray := prog_16_method_115_code
def yX4_cut : MethodName := ⟨RX4, "cut", "(JI)J"⟩
def dkwX4_cut_1 : List UInt8 := [5, 160, 0, 9, 30, 136, 133, 167, 0, 4, 30, 173]
abbrev dktX4_cut_1 : List UInt8 := dkwX4_cut_1 ++ []
def dkwX4_cut_0 : List UInt8 := [28, 154, 0, 10, 30, 136, 145, 133, 167, 0, 27, 28, 4, 160, 0, 10, 30, 136, 147, 133, 167, 0, 15, 28]
abbrev dktX4_cut_0 : List UInt8 := dkwX4_cut_0 ++ dktX4_cut_1
theorem dksX4_cut_0 : cX4_cut.data.toList.drop 0 = dktX4_cut_0 := by decide +kernel
theorem dksX4_cut_1 : cX4_cut.data.toList.drop 24 = dktX4_cut_1 := dk_seg dksX4_cut_0 24 rfl rfl
theorem dX4_cut_0 : decode cX4_cut 0 = .ok (.iload_n 2, 1) := dk_28 (dk_at dksX4_cut_0 0 rfl rfl)
theorem dX4_cut_1 : decode cX4_cut 1 = .ok (.ifCond .ne 10, 3) := dk_154 0 10 (dk_at dksX4_cut_0 1 rfl rfl)
theorem dX4_cut_4 : decode cX4_cut 4 = .ok (.lload_n 0, 1) := dk_30 (dk_at dksX4_cut_0 4 rfl rfl)
theorem dX4_cut_5 : decode cX4_cut 5 = .ok (.l2i, 1) := dk_136 (dk_at dksX4_cut_0 5 rfl rfl)
theorem dX4_cut_6 : decode cX4_cut 6 = .ok (.i2b, 1) := dk_145 (dk_at dksX4_cut_0 6 rfl rfl)
theorem dX4_cut_7 : decode cX4_cut 7 = .ok (.i2l, 1) := dk_133 (dk_at dksX4_cut_0 7 rfl rfl)
theorem dX4_cut_8 : decode cX4_cut 8 = .ok (.goto 27, 3) := dk_167 0 27 (dk_at dksX4_cut_0 8 rfl rfl)
theorem dX4_cut_11 : decode cX4_cut 11 = .ok (.iload_n 2, 1) := dk_28 (dk_at dksX4_cut_0 11 rfl rfl)
theorem dX4_cut_12 : decode cX4_cut 12 = .ok (.iconst 1, 1) := dk_4 (dk_at dksX4_cut_0 12 rfl rfl)
theorem dX4_cut_13 : decode cX4_cut 13 = .ok (.if_icmp .ne 10, 3) := dk_160 0 10 (dk_at dksX4_cut_0 13 rfl rfl)
theorem dX4_cut_16 : decode cX4_cut 16 = .ok (.lload_n 0, 1) := dk_30 (dk_at dksX4_cut_0 16 rfl rfl)
theorem dX4_cut_17 : decode cX4_cut 17 = .ok (.l2i, 1) := dk_136 (dk_at dksX4_cut_0 17 rfl rfl)
theorem dX4_cut_18 : decode cX4_cut 18 = .ok (.i2s, 1) := dk_147 (dk_at dksX4_cut_0 18 rfl rfl)
theorem dX4_cut_19 : decode cX4_cut 19 = .ok (.i2l, 1) := dk_133 (dk_at dksX4_cut_0 19 rfl rfl)
theorem dX4_cut_20 : decode cX4_cut 20 = .ok (.goto 15, 3) := dk_167 0 15 (dk_at dksX4_cut_0 20 rfl rfl)
theorem dX4_cut_23 : decode cX4_cut 23 = .ok (.iload_n 2, 1) := dk_28 (dk_at dksX4_cut_0 23 rfl rfl)
theorem dX4_cut_24 : decode cX4_cut 24 = .ok (.iconst 2, 1) := dk_5 (dk_at dksX4_cut_1 0 rfl rfl)
theorem dX4_cut_25 : decode cX4_cut 25 = .ok (.if_icmp .ne 9, 3) := dk_160 0 9 (dk_at dksX4_cut_1 1 rfl rfl)
theorem dX4_cut_28 : decode cX4_cut 28 = .ok (.lload_n 0, 1) := dk_30 (dk_at dksX4_cut_1 4 rfl rfl)
theorem dX4_cut_29 : decode cX4_cut 29 = .ok (.l2i, 1) := dk_136 (dk_at dksX4_cut_1 5 rfl rfl)
theorem dX4_cut_30 : decode cX4_cut 30 = .ok (.i2l, 1) := dk_133 (dk_at dksX4_cut_1 6 rfl rfl)
theorem dX4_cut_31 : decode cX4_cut 31 = .ok (.goto 4, 3) := dk_167 0 4 (dk_at dksX4_cut_1 7 rfl rfl)
theorem dX4_cut_34 : decode cX4_cut 34 = .ok (.lload_n 0, 1) := dk_30 (dk_at dksX4_cut_1 10 rfl rfl)
theorem dX4_cut_35 : decode cX4_cut 35 = .ok (.lreturn, 1) := dk_173 (dk_at dksX4_cut_1 11 rfl rfl)
abbrev cX4_lists : ByteArray := prog_16_method_118_code
def yX4_lists : MethodName := ⟨RX4, "lists", "(III)I"⟩
def dkwX4_lists_6 : List UInt8 := [132, 7, 1, 167, 255, 227, 21, 6, 172]
abbrev dktX4_lists_6 : List UInt8 := dkwX4_lists_6 ++ []
def dkwX4_lists_5 : List UInt8 := [162, 0, 28, 42, 180, 0, 73, 16, 40, 27, 104, 21, 7, 96, 42, 21, 7, 182, 1, 78, 133, 80]
abbrev dktX4_lists_5 : List UInt8 := dkwX4_lists_5 ++ dktX4_lists_6
def dkwX4_lists_4 : List UInt8 := [162, 0, 8, 21, 5, 167, 0, 9, 42, 180, 0, 70, 27, 46, 54, 6, 3, 54, 7, 21, 7, 21, 6]
abbrev dktX4_lists_4 : List UInt8 := dkwX4_lists_4 ++ dktX4_lists_5
def dkwX4_lists_3 : List UInt8 := [182, 1, 75, 54, 5, 21, 5, 19, 1, 57, 160, 0, 6, 16, 251, 172, 21, 5, 42, 180, 0, 70, 27, 46]
abbrev dktX4_lists_3 : List UInt8 := dkwX4_lists_3 ++ dktX4_lists_4
def dkwX4_lists_2 : List UInt8 := [182, 1, 72, 54, 4, 21, 4, 153, 0, 6, 21, 4, 172, 42, 28, 29, 42, 180, 0, 13, 16, 44, 46]
abbrev dktX4_lists_2 : List UInt8 := dkwX4_lists_2 ++ dktX4_lists_3
def dkwX4_lists_1 : List UInt8 := [154, 0, 6, 16, 254, 172, 42, 27, 182, 1, 36, 54, 4, 21, 4, 153, 0, 6, 21, 4, 172, 42, 28, 29]
abbrev dktX4_lists_1 : List UInt8 := dkwX4_lists_1 ++ dktX4_lists_2
def dkwX4_lists_0 : List UInt8 := [42, 3, 181, 0, 1, 27, 133, 9, 20, 1, 34, 184, 0, 142, 153, 0, 12, 42, 28, 133, 182, 1, 5]
abbrev dktX4_lists_0 : List UInt8 := dkwX4_lists_0 ++ dktX4_lists_1
theorem dksX4_lists_0 : cX4_lists.data.toList.drop 0 = dktX4_lists_0 := by decide +kernel
theorem dksX4_lists_1 : cX4_lists.data.toList.drop 23 = dktX4_lists_1 := dk_seg dksX4_lists_0 23 rfl rfl
theorem dksX4_lists_2 : cX4_lists.data.toList.drop 47 = dktX4_lists_2 := dk_seg dksX4_lists_1 24 rfl rfl
theorem dksX4_lists_3 : cX4_lists.data.toList.drop 70 = dktX4_lists_3 := dk_seg dksX4_lists_2 23 rfl rfl
theorem dksX4_lists_4 : cX4_lists.data.toList.drop 94 = dktX4_lists_4 := dk_seg dksX4_lists_3 24 rfl rfl
theorem dksX4_lists_5 : cX4_lists.data.toList.drop 117 = dktX4_lists_5 := dk_seg dksX4_lists_4 23 rfl rfl
theorem dksX4_lists_6 : cX4_lists.data.toList.drop 139 = dktX4_lists_6 := dk_seg dksX4_lists_5 22 rfl rfl
theorem dX4_lists_0 : decode cX4_lists 0 = .ok (.aload_n 0, 1) := dk_42 (dk_at dksX4_lists_0 0 rfl rfl)
theorem dX4_lists_1 : decode cX4_lists 1 = .ok (.iconst 0, 1) := dk_3 (dk_at dksX4_lists_0 1 rfl rfl)
theorem dX4_lists_2 : decode cX4_lists 2 = .ok (.putfield 1, 3) := dk_181 0 1 (dk_at dksX4_lists_0 2 rfl rfl)
theorem dX4_lists_5 : decode cX4_lists 5 = .ok (.iload_n 1, 1) := dk_27 (dk_at dksX4_lists_0 5 rfl rfl)
theorem dX4_lists_6 : decode cX4_lists 6 = .ok (.i2l, 1) := dk_133 (dk_at dksX4_lists_0 6 rfl rfl)
theorem dX4_lists_7 : decode cX4_lists 7 = .ok (.lconst 0, 1) := dk_9 (dk_at dksX4_lists_0 7 rfl rfl)
theorem dX4_lists_8 : decode cX4_lists 8 = .ok (.ldc2_w 290, 3) := dk_20 1 34 (dk_at dksX4_lists_0 8 rfl rfl)
theorem dX4_lists_11 : decode cX4_lists 11 = .ok (.invokestatic 142, 3) := dk_184 0 142 (dk_at dksX4_lists_0 11 rfl rfl)
theorem dX4_lists_14 : decode cX4_lists 14 = .ok (.ifCond .eq 12, 3) := dk_153 0 12 (dk_at dksX4_lists_0 14 rfl rfl)
theorem dX4_lists_17 : decode cX4_lists 17 = .ok (.aload_n 0, 1) := dk_42 (dk_at dksX4_lists_0 17 rfl rfl)
theorem dX4_lists_18 : decode cX4_lists 18 = .ok (.iload_n 2, 1) := dk_28 (dk_at dksX4_lists_0 18 rfl rfl)
theorem dX4_lists_19 : decode cX4_lists 19 = .ok (.i2l, 1) := dk_133 (dk_at dksX4_lists_0 19 rfl rfl)
theorem dX4_lists_20 : decode cX4_lists 20 = .ok (.invokevirtual 261, 3) := dk_182 1 5 (dk_at dksX4_lists_0 20 rfl rfl)
theorem dX4_lists_23 : decode cX4_lists 23 = .ok (.ifCond .ne 6, 3) := dk_154 0 6 (dk_at dksX4_lists_1 0 rfl rfl)
theorem dX4_lists_26 : decode cX4_lists 26 = .ok (.bipush (-2), 2) := dk_16 254 (dk_at dksX4_lists_1 3 rfl rfl)
theorem dX4_lists_28 : decode cX4_lists 28 = .ok (.ireturn, 1) := dk_172 (dk_at dksX4_lists_1 5 rfl rfl)
theorem dX4_lists_29 : decode cX4_lists 29 = .ok (.aload_n 0, 1) := dk_42 (dk_at dksX4_lists_1 6 rfl rfl)
theorem dX4_lists_30 : decode cX4_lists 30 = .ok (.iload_n 1, 1) := dk_27 (dk_at dksX4_lists_1 7 rfl rfl)
theorem dX4_lists_31 : decode cX4_lists 31 = .ok (.invokevirtual 292, 3) := dk_182 1 36 (dk_at dksX4_lists_1 8 rfl rfl)
theorem dX4_lists_34 : decode cX4_lists 34 = .ok (.istore 4, 2) := dk_54 4 (dk_at dksX4_lists_1 11 rfl rfl)
theorem dX4_lists_36 : decode cX4_lists 36 = .ok (.iload 4, 2) := dk_21 4 (dk_at dksX4_lists_1 13 rfl rfl)
theorem dX4_lists_38 : decode cX4_lists 38 = .ok (.ifCond .eq 6, 3) := dk_153 0 6 (dk_at dksX4_lists_1 15 rfl rfl)
theorem dX4_lists_41 : decode cX4_lists 41 = .ok (.iload 4, 2) := dk_21 4 (dk_at dksX4_lists_1 18 rfl rfl)
theorem dX4_lists_43 : decode cX4_lists 43 = .ok (.ireturn, 1) := dk_172 (dk_at dksX4_lists_1 20 rfl rfl)
theorem dX4_lists_44 : decode cX4_lists 44 = .ok (.aload_n 0, 1) := dk_42 (dk_at dksX4_lists_1 21 rfl rfl)
theorem dX4_lists_45 : decode cX4_lists 45 = .ok (.iload_n 2, 1) := dk_28 (dk_at dksX4_lists_1 22 rfl rfl)
theorem dX4_lists_46 : decode cX4_lists 46 = .ok (.iload_n 3, 1) := dk_29 (dk_at dksX4_lists_1 23 rfl rfl)
theorem dX4_lists_47 : decode cX4_lists 47 = .ok (.invokevirtual 328, 3) := dk_182 1 72 (dk_at dksX4_lists_2 0 rfl rfl)
theorem dX4_lists_50 : decode cX4_lists 50 = .ok (.istore 4, 2) := dk_54 4 (dk_at dksX4_lists_2 3 rfl rfl)
theorem dX4_lists_52 : decode cX4_lists 52 = .ok (.iload 4, 2) := dk_21 4 (dk_at dksX4_lists_2 5 rfl rfl)
theorem dX4_lists_54 : decode cX4_lists 54 = .ok (.ifCond .eq 6, 3) := dk_153 0 6 (dk_at dksX4_lists_2 7 rfl rfl)
theorem dX4_lists_57 : decode cX4_lists 57 = .ok (.iload 4, 2) := dk_21 4 (dk_at dksX4_lists_2 10 rfl rfl)
theorem dX4_lists_59 : decode cX4_lists 59 = .ok (.ireturn, 1) := dk_172 (dk_at dksX4_lists_2 12 rfl rfl)
theorem dX4_lists_60 : decode cX4_lists 60 = .ok (.aload_n 0, 1) := dk_42 (dk_at dksX4_lists_2 13 rfl rfl)
theorem dX4_lists_61 : decode cX4_lists 61 = .ok (.iload_n 2, 1) := dk_28 (dk_at dksX4_lists_2 14 rfl rfl)
theorem dX4_lists_62 : decode cX4_lists 62 = .ok (.iload_n 3, 1) := dk_29 (dk_at dksX4_lists_2 15 rfl rfl)
theorem dX4_lists_63 : decode cX4_lists 63 = .ok (.aload_n 0, 1) := dk_42 (dk_at dksX4_lists_2 16 rfl rfl)
theorem dX4_lists_64 : decode cX4_lists 64 = .ok (.getfield 13, 3) := dk_180 0 13 (dk_at dksX4_lists_2 17 rfl rfl)
theorem dX4_lists_67 : decode cX4_lists 67 = .ok (.bipush 44, 2) := dk_16 44 (dk_at dksX4_lists_2 20 rfl rfl)
theorem dX4_lists_69 : decode cX4_lists 69 = .ok (.iaload, 1) := dk_46 (dk_at dksX4_lists_2 22 rfl rfl)
theorem dX4_lists_70 : decode cX4_lists 70 = .ok (.invokevirtual 331, 3) := dk_182 1 75 (dk_at dksX4_lists_3 0 rfl rfl)
theorem dX4_lists_73 : decode cX4_lists 73 = .ok (.istore 5, 2) := dk_54 5 (dk_at dksX4_lists_3 3 rfl rfl)
theorem dX4_lists_75 : decode cX4_lists 75 = .ok (.iload 5, 2) := dk_21 5 (dk_at dksX4_lists_3 5 rfl rfl)
theorem dX4_lists_77 : decode cX4_lists 77 = .ok (.ldc_w 313, 3) := dk_19 1 57 (dk_at dksX4_lists_3 7 rfl rfl)
theorem dX4_lists_80 : decode cX4_lists 80 = .ok (.if_icmp .ne 6, 3) := dk_160 0 6 (dk_at dksX4_lists_3 10 rfl rfl)
theorem dX4_lists_83 : decode cX4_lists 83 = .ok (.bipush (-5), 2) := dk_16 251 (dk_at dksX4_lists_3 13 rfl rfl)
theorem dX4_lists_85 : decode cX4_lists 85 = .ok (.ireturn, 1) := dk_172 (dk_at dksX4_lists_3 15 rfl rfl)
theorem dX4_lists_86 : decode cX4_lists 86 = .ok (.iload 5, 2) := dk_21 5 (dk_at dksX4_lists_3 16 rfl rfl)
theorem dX4_lists_88 : decode cX4_lists 88 = .ok (.aload_n 0, 1) := dk_42 (dk_at dksX4_lists_3 18 rfl rfl)
theorem dX4_lists_89 : decode cX4_lists 89 = .ok (.getfield 70, 3) := dk_180 0 70 (dk_at dksX4_lists_3 19 rfl rfl)
theorem dX4_lists_92 : decode cX4_lists 92 = .ok (.iload_n 1, 1) := dk_27 (dk_at dksX4_lists_3 22 rfl rfl)
theorem dX4_lists_93 : decode cX4_lists 93 = .ok (.iaload, 1) := dk_46 (dk_at dksX4_lists_3 23 rfl rfl)
theorem dX4_lists_94 : decode cX4_lists 94 = .ok (.if_icmp .ge 8, 3) := dk_162 0 8 (dk_at dksX4_lists_4 0 rfl rfl)
theorem dX4_lists_97 : decode cX4_lists 97 = .ok (.iload 5, 2) := dk_21 5 (dk_at dksX4_lists_4 3 rfl rfl)
theorem dX4_lists_99 : decode cX4_lists 99 = .ok (.goto 9, 3) := dk_167 0 9 (dk_at dksX4_lists_4 5 rfl rfl)
theorem dX4_lists_102 : decode cX4_lists 102 = .ok (.aload_n 0, 1) := dk_42 (dk_at dksX4_lists_4 8 rfl rfl)
theorem dX4_lists_103 : decode cX4_lists 103 = .ok (.getfield 70, 3) := dk_180 0 70 (dk_at dksX4_lists_4 9 rfl rfl)
theorem dX4_lists_106 : decode cX4_lists 106 = .ok (.iload_n 1, 1) := dk_27 (dk_at dksX4_lists_4 12 rfl rfl)
theorem dX4_lists_107 : decode cX4_lists 107 = .ok (.iaload, 1) := dk_46 (dk_at dksX4_lists_4 13 rfl rfl)
theorem dX4_lists_108 : decode cX4_lists 108 = .ok (.istore 6, 2) := dk_54 6 (dk_at dksX4_lists_4 14 rfl rfl)
theorem dX4_lists_110 : decode cX4_lists 110 = .ok (.iconst 0, 1) := dk_3 (dk_at dksX4_lists_4 16 rfl rfl)
theorem dX4_lists_111 : decode cX4_lists 111 = .ok (.istore 7, 2) := dk_54 7 (dk_at dksX4_lists_4 17 rfl rfl)
theorem dX4_lists_113 : decode cX4_lists 113 = .ok (.iload 7, 2) := dk_21 7 (dk_at dksX4_lists_4 19 rfl rfl)
theorem dX4_lists_115 : decode cX4_lists 115 = .ok (.iload 6, 2) := dk_21 6 (dk_at dksX4_lists_4 21 rfl rfl)
theorem dX4_lists_117 : decode cX4_lists 117 = .ok (.if_icmp .ge 28, 3) := dk_162 0 28 (dk_at dksX4_lists_5 0 rfl rfl)
theorem dX4_lists_120 : decode cX4_lists 120 = .ok (.aload_n 0, 1) := dk_42 (dk_at dksX4_lists_5 3 rfl rfl)
theorem dX4_lists_121 : decode cX4_lists 121 = .ok (.getfield 73, 3) := dk_180 0 73 (dk_at dksX4_lists_5 4 rfl rfl)
theorem dX4_lists_124 : decode cX4_lists 124 = .ok (.bipush 40, 2) := dk_16 40 (dk_at dksX4_lists_5 7 rfl rfl)
theorem dX4_lists_126 : decode cX4_lists 126 = .ok (.iload_n 1, 1) := dk_27 (dk_at dksX4_lists_5 9 rfl rfl)
theorem dX4_lists_127 : decode cX4_lists 127 = .ok (.imul, 1) := dk_104 (dk_at dksX4_lists_5 10 rfl rfl)
theorem dX4_lists_128 : decode cX4_lists 128 = .ok (.iload 7, 2) := dk_21 7 (dk_at dksX4_lists_5 11 rfl rfl)
theorem dX4_lists_130 : decode cX4_lists 130 = .ok (.iadd, 1) := dk_96 (dk_at dksX4_lists_5 13 rfl rfl)
theorem dX4_lists_131 : decode cX4_lists 131 = .ok (.aload_n 0, 1) := dk_42 (dk_at dksX4_lists_5 14 rfl rfl)
theorem dX4_lists_132 : decode cX4_lists 132 = .ok (.iload 7, 2) := dk_21 7 (dk_at dksX4_lists_5 15 rfl rfl)
theorem dX4_lists_134 : decode cX4_lists 134 = .ok (.invokevirtual 334, 3) := dk_182 1 78 (dk_at dksX4_lists_5 17 rfl rfl)
theorem dX4_lists_137 : decode cX4_lists 137 = .ok (.i2l, 1) := dk_133 (dk_at dksX4_lists_5 20 rfl rfl)
theorem dX4_lists_138 : decode cX4_lists 138 = .ok (.lastore, 1) := dk_80 (dk_at dksX4_lists_5 21 rfl rfl)
theorem dX4_lists_139 : decode cX4_lists 139 = .ok (.iinc 7 1, 3) := dk_132 7 1 (dk_at dksX4_lists_6 0 rfl rfl)
theorem dX4_lists_142 : decode cX4_lists 142 = .ok (.goto (-29), 3) := dk_167 255 227 (dk_at dksX4_lists_6 3 rfl rfl)
theorem dX4_lists_145 : decode cX4_lists 145 = .ok (.iload 6, 2) := dk_21 6 (dk_at dksX4_lists_6 6 rfl rfl)
theorem dX4_lists_147 : decode cX4_lists 147 = .ok (.ireturn, 1) := dk_172 (dk_at dksX4_lists_6 8 rfl rfl)
abbrev cX4_image : ByteArray := prog_16_method_119_code
def yX4_image : MethodName := ⟨RX4, "image", "(I)I"⟩
def dkwX4_image_2 : List UInt8 := [132, 2, 1, 167, 255, 226, 42, 180, 0, 17, 27, 4, 84, 3, 172]
abbrev dktX4_image_2 : List UInt8 := dkwX4_image_2 ++ []
def dkwX4_image_1 : List UInt8 := [162, 0, 29, 42, 180, 0, 13, 17, 3, 231, 27, 4, 96, 104, 28, 96, 42, 180, 0, 13, 28, 46, 79]
abbrev dktX4_image_1 : List UInt8 := dkwX4_image_1 ++ dktX4_image_2
def dkwX4_image_0 : List UInt8 := [42, 3, 181, 0, 1, 27, 133, 9, 10, 184, 0, 142, 154, 0, 6, 16, 254, 172, 3, 61, 28, 17, 3, 231]
abbrev dktX4_image_0 : List UInt8 := dkwX4_image_0 ++ dktX4_image_1
theorem dksX4_image_0 : cX4_image.data.toList.drop 0 = dktX4_image_0 := by decide +kernel
theorem dksX4_image_1 : cX4_image.data.toList.drop 24 = dktX4_image_1 := dk_seg dksX4_image_0 24 rfl rfl
theorem dksX4_image_2 : cX4_image.data.toList.drop 47 = dktX4_image_2 := dk_seg dksX4_image_1 23 rfl rfl
theorem dX4_image_0 : decode cX4_image 0 = .ok (.aload_n 0, 1) := dk_42 (dk_at dksX4_image_0 0 rfl rfl)
theorem dX4_image_1 : decode cX4_image 1 = .ok (.iconst 0, 1) := dk_3 (dk_at dksX4_image_0 1 rfl rfl)
theorem dX4_image_2 : decode cX4_image 2 = .ok (.putfield 1, 3) := dk_181 0 1 (dk_at dksX4_image_0 2 rfl rfl)
theorem dX4_image_5 : decode cX4_image 5 = .ok (.iload_n 1, 1) := dk_27 (dk_at dksX4_image_0 5 rfl rfl)
theorem dX4_image_6 : decode cX4_image 6 = .ok (.i2l, 1) := dk_133 (dk_at dksX4_image_0 6 rfl rfl)
theorem dX4_image_7 : decode cX4_image 7 = .ok (.lconst 0, 1) := dk_9 (dk_at dksX4_image_0 7 rfl rfl)
theorem dX4_image_8 : decode cX4_image 8 = .ok (.lconst 1, 1) := dk_10 (dk_at dksX4_image_0 8 rfl rfl)
theorem dX4_image_9 : decode cX4_image 9 = .ok (.invokestatic 142, 3) := dk_184 0 142 (dk_at dksX4_image_0 9 rfl rfl)
theorem dX4_image_12 : decode cX4_image 12 = .ok (.ifCond .ne 6, 3) := dk_154 0 6 (dk_at dksX4_image_0 12 rfl rfl)
theorem dX4_image_15 : decode cX4_image 15 = .ok (.bipush (-2), 2) := dk_16 254 (dk_at dksX4_image_0 15 rfl rfl)
theorem dX4_image_17 : decode cX4_image 17 = .ok (.ireturn, 1) := dk_172 (dk_at dksX4_image_0 17 rfl rfl)
theorem dX4_image_18 : decode cX4_image 18 = .ok (.iconst 0, 1) := dk_3 (dk_at dksX4_image_0 18 rfl rfl)
theorem dX4_image_19 : decode cX4_image 19 = .ok (.istore_n 2, 1) := dk_61 (dk_at dksX4_image_0 19 rfl rfl)
theorem dX4_image_20 : decode cX4_image 20 = .ok (.iload_n 2, 1) := dk_28 (dk_at dksX4_image_0 20 rfl rfl)
theorem dX4_image_21 : decode cX4_image 21 = .ok (.sipush 999, 3) := dk_17 3 231 (dk_at dksX4_image_0 21 rfl rfl)
theorem dX4_image_24 : decode cX4_image 24 = .ok (.if_icmp .ge 29, 3) := dk_162 0 29 (dk_at dksX4_image_1 0 rfl rfl)
theorem dX4_image_27 : decode cX4_image 27 = .ok (.aload_n 0, 1) := dk_42 (dk_at dksX4_image_1 3 rfl rfl)
theorem dX4_image_28 : decode cX4_image 28 = .ok (.getfield 13, 3) := dk_180 0 13 (dk_at dksX4_image_1 4 rfl rfl)
theorem dX4_image_31 : decode cX4_image 31 = .ok (.sipush 999, 3) := dk_17 3 231 (dk_at dksX4_image_1 7 rfl rfl)
theorem dX4_image_34 : decode cX4_image 34 = .ok (.iload_n 1, 1) := dk_27 (dk_at dksX4_image_1 10 rfl rfl)
theorem dX4_image_35 : decode cX4_image 35 = .ok (.iconst 1, 1) := dk_4 (dk_at dksX4_image_1 11 rfl rfl)
theorem dX4_image_36 : decode cX4_image 36 = .ok (.iadd, 1) := dk_96 (dk_at dksX4_image_1 12 rfl rfl)
theorem dX4_image_37 : decode cX4_image 37 = .ok (.imul, 1) := dk_104 (dk_at dksX4_image_1 13 rfl rfl)
theorem dX4_image_38 : decode cX4_image 38 = .ok (.iload_n 2, 1) := dk_28 (dk_at dksX4_image_1 14 rfl rfl)
theorem dX4_image_39 : decode cX4_image 39 = .ok (.iadd, 1) := dk_96 (dk_at dksX4_image_1 15 rfl rfl)
theorem dX4_image_40 : decode cX4_image 40 = .ok (.aload_n 0, 1) := dk_42 (dk_at dksX4_image_1 16 rfl rfl)
theorem dX4_image_41 : decode cX4_image 41 = .ok (.getfield 13, 3) := dk_180 0 13 (dk_at dksX4_image_1 17 rfl rfl)
theorem dX4_image_44 : decode cX4_image 44 = .ok (.iload_n 2, 1) := dk_28 (dk_at dksX4_image_1 20 rfl rfl)
theorem dX4_image_45 : decode cX4_image 45 = .ok (.iaload, 1) := dk_46 (dk_at dksX4_image_1 21 rfl rfl)
theorem dX4_image_46 : decode cX4_image 46 = .ok (.iastore, 1) := dk_79 (dk_at dksX4_image_1 22 rfl rfl)
theorem dX4_image_47 : decode cX4_image 47 = .ok (.iinc 2 1, 3) := dk_132 2 1 (dk_at dksX4_image_2 0 rfl rfl)
theorem dX4_image_50 : decode cX4_image 50 = .ok (.goto (-30), 3) := dk_167 255 226 (dk_at dksX4_image_2 3 rfl rfl)
theorem dX4_image_53 : decode cX4_image 53 = .ok (.aload_n 0, 1) := dk_42 (dk_at dksX4_image_2 6 rfl rfl)
theorem dX4_image_54 : decode cX4_image 54 = .ok (.getfield 17, 3) := dk_180 0 17 (dk_at dksX4_image_2 7 rfl rfl)
theorem dX4_image_57 : decode cX4_image 57 = .ok (.iload_n 1, 1) := dk_27 (dk_at dksX4_image_2 10 rfl rfl)
theorem dX4_image_58 : decode cX4_image 58 = .ok (.iconst 1, 1) := dk_4 (dk_at dksX4_image_2 11 rfl rfl)
theorem dX4_image_59 : decode cX4_image 59 = .ok (.bastore, 1) := dk_84 (dk_at dksX4_image_2 12 rfl rfl)
theorem dX4_image_60 : decode cX4_image 60 = .ok (.iconst 0, 1) := dk_3 (dk_at dksX4_image_2 13 rfl rfl)
theorem dX4_image_61 : decode cX4_image 61 = .ok (.ireturn, 1) := dk_172 (dk_at dksX4_image_2 14 rfl rfl)
abbrev cX4_restore : ByteArray := prog_16_method_120_code
def yX4_restore : MethodName := ⟨RX4, "restore", "(I)I"⟩
def dkwX4_restore_3 : List UInt8 := [79, 3, 172]
abbrev dktX4_restore_3 : List UInt8 := dkwX4_restore_3 ++ []
def dkwX4_restore_2 : List UInt8 := [17, 3, 231, 27, 4, 96, 104, 28, 96, 46, 79, 132, 2, 1, 167, 255, 226, 42, 180, 0, 13, 16, 47, 3]
abbrev dktX4_restore_2 : List UInt8 := dkwX4_restore_2 ++ dktX4_restore_3
def dkwX4_restore_1 : List UInt8 := [154, 0, 6, 16, 251, 172, 3, 61, 28, 17, 3, 231, 162, 0, 29, 42, 180, 0, 13, 28, 42, 180, 0, 13]
abbrev dktX4_restore_1 : List UInt8 := dkwX4_restore_1 ++ dktX4_restore_2
def dkwX4_restore_0 : List UInt8 := [42, 3, 181, 0, 1, 27, 133, 9, 10, 184, 0, 142, 154, 0, 6, 16, 254, 172, 42, 180, 0, 17, 27, 51]
abbrev dktX4_restore_0 : List UInt8 := dkwX4_restore_0 ++ dktX4_restore_1
theorem dksX4_restore_0 : cX4_restore.data.toList.drop 0 = dktX4_restore_0 := by decide +kernel
theorem dksX4_restore_1 : cX4_restore.data.toList.drop 24 = dktX4_restore_1 := dk_seg dksX4_restore_0 24 rfl rfl
theorem dksX4_restore_2 : cX4_restore.data.toList.drop 48 = dktX4_restore_2 := dk_seg dksX4_restore_1 24 rfl rfl
theorem dksX4_restore_3 : cX4_restore.data.toList.drop 72 = dktX4_restore_3 := dk_seg dksX4_restore_2 24 rfl rfl
theorem dX4_restore_0 : decode cX4_restore 0 = .ok (.aload_n 0, 1) := dk_42 (dk_at dksX4_restore_0 0 rfl rfl)
theorem dX4_restore_1 : decode cX4_restore 1 = .ok (.iconst 0, 1) := dk_3 (dk_at dksX4_restore_0 1 rfl rfl)
theorem dX4_restore_2 : decode cX4_restore 2 = .ok (.putfield 1, 3) := dk_181 0 1 (dk_at dksX4_restore_0 2 rfl rfl)
theorem dX4_restore_5 : decode cX4_restore 5 = .ok (.iload_n 1, 1) := dk_27 (dk_at dksX4_restore_0 5 rfl rfl)
theorem dX4_restore_6 : decode cX4_restore 6 = .ok (.i2l, 1) := dk_133 (dk_at dksX4_restore_0 6 rfl rfl)
theorem dX4_restore_7 : decode cX4_restore 7 = .ok (.lconst 0, 1) := dk_9 (dk_at dksX4_restore_0 7 rfl rfl)
theorem dX4_restore_8 : decode cX4_restore 8 = .ok (.lconst 1, 1) := dk_10 (dk_at dksX4_restore_0 8 rfl rfl)
theorem dX4_restore_9 : decode cX4_restore 9 = .ok (.invokestatic 142, 3) := dk_184 0 142 (dk_at dksX4_restore_0 9 rfl rfl)
theorem dX4_restore_12 : decode cX4_restore 12 = .ok (.ifCond .ne 6, 3) := dk_154 0 6 (dk_at dksX4_restore_0 12 rfl rfl)
theorem dX4_restore_15 : decode cX4_restore 15 = .ok (.bipush (-2), 2) := dk_16 254 (dk_at dksX4_restore_0 15 rfl rfl)
theorem dX4_restore_17 : decode cX4_restore 17 = .ok (.ireturn, 1) := dk_172 (dk_at dksX4_restore_0 17 rfl rfl)
theorem dX4_restore_18 : decode cX4_restore 18 = .ok (.aload_n 0, 1) := dk_42 (dk_at dksX4_restore_0 18 rfl rfl)
theorem dX4_restore_19 : decode cX4_restore 19 = .ok (.getfield 17, 3) := dk_180 0 17 (dk_at dksX4_restore_0 19 rfl rfl)
theorem dX4_restore_22 : decode cX4_restore 22 = .ok (.iload_n 1, 1) := dk_27 (dk_at dksX4_restore_0 22 rfl rfl)
theorem dX4_restore_23 : decode cX4_restore 23 = .ok (.baload, 1) := dk_51 (dk_at dksX4_restore_0 23 rfl rfl)
theorem dX4_restore_24 : decode cX4_restore 24 = .ok (.ifCond .ne 6, 3) := dk_154 0 6 (dk_at dksX4_restore_1 0 rfl rfl)
theorem dX4_restore_27 : decode cX4_restore 27 = .ok (.bipush (-5), 2) := dk_16 251 (dk_at dksX4_restore_1 3 rfl rfl)
theorem dX4_restore_29 : decode cX4_restore 29 = .ok (.ireturn, 1) := dk_172 (dk_at dksX4_restore_1 5 rfl rfl)
theorem dX4_restore_30 : decode cX4_restore 30 = .ok (.iconst 0, 1) := dk_3 (dk_at dksX4_restore_1 6 rfl rfl)
theorem dX4_restore_31 : decode cX4_restore 31 = .ok (.istore_n 2, 1) := dk_61 (dk_at dksX4_restore_1 7 rfl rfl)
theorem dX4_restore_32 : decode cX4_restore 32 = .ok (.iload_n 2, 1) := dk_28 (dk_at dksX4_restore_1 8 rfl rfl)
theorem dX4_restore_33 : decode cX4_restore 33 = .ok (.sipush 999, 3) := dk_17 3 231 (dk_at dksX4_restore_1 9 rfl rfl)
theorem dX4_restore_36 : decode cX4_restore 36 = .ok (.if_icmp .ge 29, 3) := dk_162 0 29 (dk_at dksX4_restore_1 12 rfl rfl)
theorem dX4_restore_39 : decode cX4_restore 39 = .ok (.aload_n 0, 1) := dk_42 (dk_at dksX4_restore_1 15 rfl rfl)
theorem dX4_restore_40 : decode cX4_restore 40 = .ok (.getfield 13, 3) := dk_180 0 13 (dk_at dksX4_restore_1 16 rfl rfl)
theorem dX4_restore_43 : decode cX4_restore 43 = .ok (.iload_n 2, 1) := dk_28 (dk_at dksX4_restore_1 19 rfl rfl)
theorem dX4_restore_44 : decode cX4_restore 44 = .ok (.aload_n 0, 1) := dk_42 (dk_at dksX4_restore_1 20 rfl rfl)
theorem dX4_restore_45 : decode cX4_restore 45 = .ok (.getfield 13, 3) := dk_180 0 13 (dk_at dksX4_restore_1 21 rfl rfl)
theorem dX4_restore_48 : decode cX4_restore 48 = .ok (.sipush 999, 3) := dk_17 3 231 (dk_at dksX4_restore_2 0 rfl rfl)
theorem dX4_restore_51 : decode cX4_restore 51 = .ok (.iload_n 1, 1) := dk_27 (dk_at dksX4_restore_2 3 rfl rfl)
theorem dX4_restore_52 : decode cX4_restore 52 = .ok (.iconst 1, 1) := dk_4 (dk_at dksX4_restore_2 4 rfl rfl)
theorem dX4_restore_53 : decode cX4_restore 53 = .ok (.iadd, 1) := dk_96 (dk_at dksX4_restore_2 5 rfl rfl)
theorem dX4_restore_54 : decode cX4_restore 54 = .ok (.imul, 1) := dk_104 (dk_at dksX4_restore_2 6 rfl rfl)
theorem dX4_restore_55 : decode cX4_restore 55 = .ok (.iload_n 2, 1) := dk_28 (dk_at dksX4_restore_2 7 rfl rfl)
theorem dX4_restore_56 : decode cX4_restore 56 = .ok (.iadd, 1) := dk_96 (dk_at dksX4_restore_2 8 rfl rfl)
theorem dX4_restore_57 : decode cX4_restore 57 = .ok (.iaload, 1) := dk_46 (dk_at dksX4_restore_2 9 rfl rfl)
theorem dX4_restore_58 : decode cX4_restore 58 = .ok (.iastore, 1) := dk_79 (dk_at dksX4_restore_2 10 rfl rfl)
theorem dX4_restore_59 : decode cX4_restore 59 = .ok (.iinc 2 1, 3) := dk_132 2 1 (dk_at dksX4_restore_2 11 rfl rfl)
theorem dX4_restore_62 : decode cX4_restore 62 = .ok (.goto (-30), 3) := dk_167 255 226 (dk_at dksX4_restore_2 14 rfl rfl)
theorem dX4_restore_65 : decode cX4_restore 65 = .ok (.aload_n 0, 1) := dk_42 (dk_at dksX4_restore_2 17 rfl rfl)
theorem dX4_restore_66 : decode cX4_restore 66 = .ok (.getfield 13, 3) := dk_180 0 13 (dk_at dksX4_restore_2 18 rfl rfl)
theorem dX4_restore_69 : decode cX4_restore 69 = .ok (.bipush 47, 2) := dk_16 47 (dk_at dksX4_restore_2 21 rfl rfl)
theorem dX4_restore_71 : decode cX4_restore 71 = .ok (.iconst 0, 1) := dk_3 (dk_at dksX4_restore_2 23 rfl rfl)
theorem dX4_restore_72 : decode cX4_restore 72 = .ok (.iastore, 1) := dk_79 (dk_at dksX4_restore_3 0 rfl rfl)
theorem dX4_restore_73 : decode cX4_restore 73 = .ok (.iconst 0, 1) := dk_3 (dk_at dksX4_restore_3 1 rfl rfl)
theorem dX4_restore_74 : decode cX4_restore 74 = .ok (.ireturn, 1) := dk_172 (dk_at dksX4_restore_3 2 rfl rfl)
abbrev cX4_count : ByteArray := prog_16_method_121_code
def yX4_count : MethodName := ⟨RX4, "count", "(I)I"⟩
def dkwX4_count_5 : List UInt8 := [3, 46, 172, 2, 172]
abbrev dktX4_count_5 : List UInt8 := dkwX4_count_5 ++ []
def dkwX4_count_4 : List UInt8 := [180, 0, 13, 16, 46, 46, 172, 42, 180, 0, 13, 16, 47, 46, 172, 42, 180, 0, 80, 172, 42, 180, 0, 13]
abbrev dktX4_count_4 : List UInt8 := dkwX4_count_4 ++ dktX4_count_5
def dkwX4_count_3 : List UInt8 := [180, 0, 13, 16, 43, 46, 172, 42, 180, 0, 13, 16, 44, 46, 172, 42, 180, 0, 13, 16, 45, 46, 172, 42]
abbrev dktX4_count_3 : List UInt8 := dkwX4_count_3 ++ dktX4_count_4
def dkwX4_count_2 : List UInt8 := [42, 180, 0, 13, 4, 46, 172, 42, 180, 0, 13, 5, 46, 172, 42, 180, 0, 13, 16, 42, 46, 172, 42]
abbrev dktX4_count_2 : List UInt8 := dkwX4_count_2 ++ dktX4_count_3
def dkwX4_count_1 : List UInt8 := [170, 0, 0, 0, 0, 128, 0, 0, 0, 0, 0, 0, 0, 9, 0, 0, 0, 54, 0, 0, 0, 61, 0, 0, 0, 68, 0, 0, 0, 76, 0, 0, 0, 84, 0, 0, 0, 92, 0, 0, 0, 100, 0, 0, 0, 108, 0, 0, 0, 116, 0, 0, 0, 121]
abbrev dktX4_count_1 : List UInt8 := dkwX4_count_1 ++ dktX4_count_2
def dkwX4_count_0 : List UInt8 := [42, 3, 181, 0, 1, 27]
abbrev dktX4_count_0 : List UInt8 := dkwX4_count_0 ++ dktX4_count_1
theorem dksX4_count_0 : cX4_count.data.toList.drop 0 = dktX4_count_0 := by decide +kernel
theorem dksX4_count_1 : cX4_count.data.toList.drop 6 = dktX4_count_1 := dk_seg dksX4_count_0 6 rfl rfl
theorem dksX4_count_2 : cX4_count.data.toList.drop 60 = dktX4_count_2 := dk_seg dksX4_count_1 54 rfl rfl
theorem dksX4_count_3 : cX4_count.data.toList.drop 83 = dktX4_count_3 := dk_seg dksX4_count_2 23 rfl rfl
theorem dksX4_count_4 : cX4_count.data.toList.drop 107 = dktX4_count_4 := dk_seg dksX4_count_3 24 rfl rfl
theorem dksX4_count_5 : cX4_count.data.toList.drop 131 = dktX4_count_5 := dk_seg dksX4_count_4 24 rfl rfl
theorem dX4_count_0 : decode cX4_count 0 = .ok (.aload_n 0, 1) := dk_42 (dk_at dksX4_count_0 0 rfl rfl)
theorem dX4_count_1 : decode cX4_count 1 = .ok (.iconst 0, 1) := dk_3 (dk_at dksX4_count_0 1 rfl rfl)
theorem dX4_count_2 : decode cX4_count 2 = .ok (.putfield 1, 3) := dk_181 0 1 (dk_at dksX4_count_0 2 rfl rfl)
theorem dX4_count_5 : decode cX4_count 5 = .ok (.iload_n 1, 1) := dk_27 (dk_at dksX4_count_0 5 rfl rfl)
theorem dX4_count_6 : decode cX4_count 6 = .ok (.tableswitch 128 0 9 #[54, 61, 68, 76, 84, 92, 100, 108, 116, 121], 54) := by decide +kernel
theorem dX4_count_60 : decode cX4_count 60 = .ok (.aload_n 0, 1) := dk_42 (dk_at dksX4_count_2 0 rfl rfl)
theorem dX4_count_61 : decode cX4_count 61 = .ok (.getfield 13, 3) := dk_180 0 13 (dk_at dksX4_count_2 1 rfl rfl)
theorem dX4_count_64 : decode cX4_count 64 = .ok (.iconst 1, 1) := dk_4 (dk_at dksX4_count_2 4 rfl rfl)
theorem dX4_count_65 : decode cX4_count 65 = .ok (.iaload, 1) := dk_46 (dk_at dksX4_count_2 5 rfl rfl)
theorem dX4_count_66 : decode cX4_count 66 = .ok (.ireturn, 1) := dk_172 (dk_at dksX4_count_2 6 rfl rfl)
theorem dX4_count_67 : decode cX4_count 67 = .ok (.aload_n 0, 1) := dk_42 (dk_at dksX4_count_2 7 rfl rfl)
theorem dX4_count_68 : decode cX4_count 68 = .ok (.getfield 13, 3) := dk_180 0 13 (dk_at dksX4_count_2 8 rfl rfl)
theorem dX4_count_71 : decode cX4_count 71 = .ok (.iconst 2, 1) := dk_5 (dk_at dksX4_count_2 11 rfl rfl)
theorem dX4_count_72 : decode cX4_count 72 = .ok (.iaload, 1) := dk_46 (dk_at dksX4_count_2 12 rfl rfl)
theorem dX4_count_73 : decode cX4_count 73 = .ok (.ireturn, 1) := dk_172 (dk_at dksX4_count_2 13 rfl rfl)
theorem dX4_count_74 : decode cX4_count 74 = .ok (.aload_n 0, 1) := dk_42 (dk_at dksX4_count_2 14 rfl rfl)
theorem dX4_count_75 : decode cX4_count 75 = .ok (.getfield 13, 3) := dk_180 0 13 (dk_at dksX4_count_2 15 rfl rfl)
theorem dX4_count_78 : decode cX4_count 78 = .ok (.bipush 42, 2) := dk_16 42 (dk_at dksX4_count_2 18 rfl rfl)
theorem dX4_count_80 : decode cX4_count 80 = .ok (.iaload, 1) := dk_46 (dk_at dksX4_count_2 20 rfl rfl)
theorem dX4_count_81 : decode cX4_count 81 = .ok (.ireturn, 1) := dk_172 (dk_at dksX4_count_2 21 rfl rfl)
theorem dX4_count_82 : decode cX4_count 82 = .ok (.aload_n 0, 1) := dk_42 (dk_at dksX4_count_2 22 rfl rfl)
theorem dX4_count_83 : decode cX4_count 83 = .ok (.getfield 13, 3) := dk_180 0 13 (dk_at dksX4_count_3 0 rfl rfl)
theorem dX4_count_86 : decode cX4_count 86 = .ok (.bipush 43, 2) := dk_16 43 (dk_at dksX4_count_3 3 rfl rfl)
theorem dX4_count_88 : decode cX4_count 88 = .ok (.iaload, 1) := dk_46 (dk_at dksX4_count_3 5 rfl rfl)
theorem dX4_count_89 : decode cX4_count 89 = .ok (.ireturn, 1) := dk_172 (dk_at dksX4_count_3 6 rfl rfl)
theorem dX4_count_90 : decode cX4_count 90 = .ok (.aload_n 0, 1) := dk_42 (dk_at dksX4_count_3 7 rfl rfl)
theorem dX4_count_91 : decode cX4_count 91 = .ok (.getfield 13, 3) := dk_180 0 13 (dk_at dksX4_count_3 8 rfl rfl)
theorem dX4_count_94 : decode cX4_count 94 = .ok (.bipush 44, 2) := dk_16 44 (dk_at dksX4_count_3 11 rfl rfl)
theorem dX4_count_96 : decode cX4_count 96 = .ok (.iaload, 1) := dk_46 (dk_at dksX4_count_3 13 rfl rfl)
theorem dX4_count_97 : decode cX4_count 97 = .ok (.ireturn, 1) := dk_172 (dk_at dksX4_count_3 14 rfl rfl)
theorem dX4_count_98 : decode cX4_count 98 = .ok (.aload_n 0, 1) := dk_42 (dk_at dksX4_count_3 15 rfl rfl)
theorem dX4_count_99 : decode cX4_count 99 = .ok (.getfield 13, 3) := dk_180 0 13 (dk_at dksX4_count_3 16 rfl rfl)
theorem dX4_count_102 : decode cX4_count 102 = .ok (.bipush 45, 2) := dk_16 45 (dk_at dksX4_count_3 19 rfl rfl)
theorem dX4_count_104 : decode cX4_count 104 = .ok (.iaload, 1) := dk_46 (dk_at dksX4_count_3 21 rfl rfl)
theorem dX4_count_105 : decode cX4_count 105 = .ok (.ireturn, 1) := dk_172 (dk_at dksX4_count_3 22 rfl rfl)
theorem dX4_count_106 : decode cX4_count 106 = .ok (.aload_n 0, 1) := dk_42 (dk_at dksX4_count_3 23 rfl rfl)
theorem dX4_count_107 : decode cX4_count 107 = .ok (.getfield 13, 3) := dk_180 0 13 (dk_at dksX4_count_4 0 rfl rfl)
theorem dX4_count_110 : decode cX4_count 110 = .ok (.bipush 46, 2) := dk_16 46 (dk_at dksX4_count_4 3 rfl rfl)
theorem dX4_count_112 : decode cX4_count 112 = .ok (.iaload, 1) := dk_46 (dk_at dksX4_count_4 5 rfl rfl)
theorem dX4_count_113 : decode cX4_count 113 = .ok (.ireturn, 1) := dk_172 (dk_at dksX4_count_4 6 rfl rfl)
theorem dX4_count_114 : decode cX4_count 114 = .ok (.aload_n 0, 1) := dk_42 (dk_at dksX4_count_4 7 rfl rfl)
theorem dX4_count_115 : decode cX4_count 115 = .ok (.getfield 13, 3) := dk_180 0 13 (dk_at dksX4_count_4 8 rfl rfl)
theorem dX4_count_118 : decode cX4_count 118 = .ok (.bipush 47, 2) := dk_16 47 (dk_at dksX4_count_4 11 rfl rfl)
theorem dX4_count_120 : decode cX4_count 120 = .ok (.iaload, 1) := dk_46 (dk_at dksX4_count_4 13 rfl rfl)
theorem dX4_count_121 : decode cX4_count 121 = .ok (.ireturn, 1) := dk_172 (dk_at dksX4_count_4 14 rfl rfl)
theorem dX4_count_122 : decode cX4_count 122 = .ok (.aload_n 0, 1) := dk_42 (dk_at dksX4_count_4 15 rfl rfl)
theorem dX4_count_123 : decode cX4_count 123 = .ok (.getfield 80, 3) := dk_180 0 80 (dk_at dksX4_count_4 16 rfl rfl)
theorem dX4_count_126 : decode cX4_count 126 = .ok (.ireturn, 1) := dk_172 (dk_at dksX4_count_4 19 rfl rfl)
theorem dX4_count_127 : decode cX4_count 127 = .ok (.aload_n 0, 1) := dk_42 (dk_at dksX4_count_4 20 rfl rfl)
theorem dX4_count_128 : decode cX4_count 128 = .ok (.getfield 13, 3) := dk_180 0 13 (dk_at dksX4_count_4 21 rfl rfl)
theorem dX4_count_131 : decode cX4_count 131 = .ok (.iconst 0, 1) := dk_3 (dk_at dksX4_count_5 0 rfl rfl)
theorem dX4_count_132 : decode cX4_count 132 = .ok (.iaload, 1) := dk_46 (dk_at dksX4_count_5 1 rfl rfl)
theorem dX4_count_133 : decode cX4_count 133 = .ok (.ireturn, 1) := dk_172 (dk_at dksX4_count_5 2 rfl rfl)
theorem dX4_count_134 : decode cX4_count 134 = .ok (.iconst (-1), 1) := dk_2 (dk_at dksX4_count_5 3 rfl rfl)
theorem dX4_count_135 : decode cX4_count 135 = .ok (.ireturn, 1) := dk_172 (dk_at dksX4_count_5 4 rfl rfl)
theorem q138 : (Jvm.Cond.initialized "BackRescueModel") ∈ lw_all := lw_g (lw_at lw_m1 5 rfl) rfl
theorem q1383 : (Jvm.Cond.instantiable "BackRescueModel" (33 : Nat)) ∈ lw_all := lw_g (lw_at lw_m6 50 rfl) rfl
theorem q1385 : (Jvm.Cond.instanceMethod ({ cls := "BackRescueModel", name := "<init>", desc := "()V" } : Jvm.MethodName)) ∈ lw_all := lw_g (lw_at lw_m6 52 rfl) rfl
theorem q1386 : (Jvm.Cond.code ({ cls := "BackRescueModel", name := "<init>", desc := "()V" } : Jvm.MethodName) prog_16_method_3_code (1 : Nat) (Option.none : Option Jvm.ClassFile.FieldType)) ∈ lw_all := lw_g (lw_at lw_m6 53 rfl) rfl
theorem q1387 : (Jvm.Cond.methodLink "BackRescueModel" (7 : Nat) ({ cls := "java/lang/Object", name := "<init>", desc := "()V" } : Jvm.MethodName)) ∈ lw_all := lw_g (lw_at lw_m6 54 rfl) rfl
theorem q1388 : (Jvm.Cond.methodLink "BackRescueModel" (76 : Nat) ({ cls := "BackRescueModel", name := "plain", desc := "([I)V" } : Jvm.MethodName)) ∈ lw_all := lw_g (lw_at lw_m6 55 rfl) rfl
theorem q1389 : (Jvm.Cond.static ({ cls := "BackRescueModel", name := "plain", desc := "([I)V" } : Jvm.MethodName)) ∈ lw_all := lw_g (lw_at lw_m6 56 rfl) rfl
theorem q1390 : (Jvm.Cond.code ({ cls := "BackRescueModel", name := "plain", desc := "([I)V" } : Jvm.MethodName) prog_16_method_4_code (2 : Nat) (Option.none : Option Jvm.ClassFile.FieldType)) ∈ lw_all := lw_g (lw_at lw_m6 57 rfl) rfl
theorem q1391 : (Jvm.Cond.fieldLink "BackRescueModel" (1 : Nat) "BackRescueModel" "thrown" "I") ∈ lw_all := lw_g (lw_at lw_m6 58 rfl) rfl
theorem q1392 : (Jvm.Cond.fieldLink "BackRescueModel" (13 : Nat) "BackRescueModel" "all" "[I") ∈ lw_all := lw_g (lw_at lw_m6 59 rfl) rfl
theorem q1393 : (Jvm.Cond.fieldLink "BackRescueModel" (17 : Nat) "BackRescueModel" "hasImage" "[Z") ∈ lw_all := lw_g (lw_at lw_m6 60 rfl) rfl
theorem q1394 : (Jvm.Cond.fieldLink "BackRescueModel" (21 : Nat) "BackRescueModel" "tape" "[I") ∈ lw_all := lw_g (lw_at lw_m6 61 rfl) rfl
theorem q1395 : (Jvm.Cond.fieldLink "BackRescueModel" (24 : Nat) "BackRescueModel" "fresh" "[I") ∈ lw_all := lw_g (lw_at lw_m6 62 rfl) rfl
theorem q1396 : (Jvm.Cond.fieldLink "BackRescueModel" (80 : Nat) "BackRescueModel" "taped" "I") ∈ lw_all := lw_g (lw_at lw_m6 63 rfl) rfl
theorem q1397 : (Jvm.Cond.fieldLink "BackRescueModel" (98 : Nat) "BackRescueModel" "at" "I") ∈ lw_all := lw_g (lw_at lw_m6 64 rfl) rfl
theorem q1398 : (Jvm.Cond.fieldLink "BackRescueModel" (101 : Nat) "BackRescueModel" "behind" "I") ∈ lw_all := lw_g (lw_at lw_m6 65 rfl) rfl
theorem q1399 : (Jvm.Cond.fieldLink "BackRescueModel" (83 : Nat) "BackRescueModel" "size" "I") ∈ lw_all := lw_g (lw_at lw_m6 66 rfl) rfl
theorem q1400 : (Jvm.Cond.fieldLink "BackRescueModel" (108 : Nat) "BackRescueModel" "kind" "I") ∈ lw_all := lw_g (lw_at lw_m6 67 rfl) rfl
theorem q1401 : (Jvm.Cond.fieldLink "BackRescueModel" (121 : Nat) "BackRescueModel" "number" "I") ∈ lw_all := lw_g (lw_at lw_m6 68 rfl) rfl
theorem q1402 : (Jvm.Cond.fieldLink "BackRescueModel" (126 : Nat) "BackRescueModel" "wrong" "I") ∈ lw_all := lw_g (lw_at lw_m6 69 rfl) rfl
theorem q1403 : (Jvm.Cond.fieldLink "BackRescueModel" (129 : Nat) "BackRescueModel" "wrongAt" "I") ∈ lw_all := lw_g (lw_at lw_m6 70 rfl) rfl
theorem q1404 : (Jvm.Cond.fieldLink "BackRescueModel" (204 : Nat) "BackRescueModel" "faultKind" "I") ∈ lw_all := lw_g (lw_at lw_m6 71 rfl) rfl
theorem q1405 : (Jvm.Cond.fieldLink "BackRescueModel" (27 : Nat) "BackRescueModel" "faultPlace" "I") ∈ lw_all := lw_g (lw_at lw_m6 72 rfl) rfl
theorem q1406 : (Jvm.Cond.fieldLink "BackRescueModel" (146 : Nat) "BackRescueModel" "reading" "I") ∈ lw_all := lw_g (lw_at lw_m6 73 rfl) rfl
theorem q1407 : (Jvm.Cond.fieldLink "BackRescueModel" (30 : Nat) "BackRescueModel" "reckoned" "[I") ∈ lw_all := lw_g (lw_at lw_m6 74 rfl) rfl
theorem q1408 : (Jvm.Cond.fieldLink "BackRescueModel" (33 : Nat) "BackRescueModel" "words" "[I") ∈ lw_all := lw_g (lw_at lw_m6 75 rfl) rfl
theorem q1409 : (Jvm.Cond.fieldLink "BackRescueModel" (36 : Nat) "BackRescueModel" "was" "[I") ∈ lw_all := lw_g (lw_at lw_m6 76 rfl) rfl
theorem q1410 : (Jvm.Cond.fieldLink "BackRescueModel" (281 : Nat) "BackRescueModel" "toldWhy" "I") ∈ lw_all := lw_g (lw_at lw_m6 77 rfl) rfl
theorem q1411 : (Jvm.Cond.fieldLink "BackRescueModel" (302 : Nat) "BackRescueModel" "x" "I") ∈ lw_all := lw_g (lw_at lw_m6 78 rfl) rfl
theorem q1412 : (Jvm.Cond.fieldLink "BackRescueModel" (39 : Nat) "BackRescueModel" "then" "[I") ∈ lw_all := lw_g (lw_at lw_m6 79 rfl) rfl
theorem q1413 : (Jvm.Cond.fieldLink "BackRescueModel" (42 : Nat) "BackRescueModel" "far" "[I") ∈ lw_all := lw_g (lw_at lw_m6 80 rfl) rfl
theorem q1414 : (Jvm.Cond.fieldLink "BackRescueModel" (45 : Nat) "BackRescueModel" "reached" "[Z") ∈ lw_all := lw_g (lw_at lw_m6 81 rfl) rfl
theorem q1415 : (Jvm.Cond.fieldLink "BackRescueModel" (48 : Nat) "BackRescueModel" "many" "[J") ∈ lw_all := lw_g (lw_at lw_m6 82 rfl) rfl
theorem q1416 : (Jvm.Cond.fieldLink "BackRescueModel" (52 : Nat) "BackRescueModel" "can" "[Z") ∈ lw_all := lw_g (lw_at lw_m6 83 rfl) rfl
theorem q1417 : (Jvm.Cond.fieldLink "BackRescueModel" (55 : Nat) "BackRescueModel" "canThen" "[Z") ∈ lw_all := lw_g (lw_at lw_m6 84 rfl) rfl
theorem q1418 : (Jvm.Cond.fieldLink "BackRescueModel" (58 : Nat) "BackRescueModel" "often" "[I") ∈ lw_all := lw_g (lw_at lw_m6 85 rfl) rfl
theorem q1419 : (Jvm.Cond.fieldLink "BackRescueModel" (61 : Nat) "BackRescueModel" "stood" "[Z") ∈ lw_all := lw_g (lw_at lw_m6 86 rfl) rfl
theorem q1420 : (Jvm.Cond.fieldLink "BackRescueModel" (64 : Nat) "BackRescueModel" "likely" "[I") ∈ lw_all := lw_g (lw_at lw_m6 87 rfl) rfl
theorem q1421 : (Jvm.Cond.fieldLink "BackRescueModel" (67 : Nat) "BackRescueModel" "rowSort" "[I") ∈ lw_all := lw_g (lw_at lw_m6 88 rfl) rfl
theorem q1422 : (Jvm.Cond.fieldLink "BackRescueModel" (70 : Nat) "BackRescueModel" "rowMany" "[I") ∈ lw_all := lw_g (lw_at lw_m6 89 rfl) rfl
theorem q1423 : (Jvm.Cond.fieldLink "BackRescueModel" (73 : Nat) "BackRescueModel" "numbers" "[J") ∈ lw_all := lw_g (lw_at lw_m6 90 rfl) rfl
theorem q1424 : (Jvm.Cond.lays "BackRescueModel" "BackRescueModel" "thrown" "I") ∈ lw_all := lw_g (lw_at lw_m6 91 rfl) rfl
theorem q1425 : (Jvm.Cond.soleField "BackRescueModel" "thrown") ∈ lw_all := lw_g (lw_at lw_m6 92 rfl) rfl
theorem q1426 : (Jvm.Cond.laysFinal "BackRescueModel" "BackRescueModel" "all" "[I") ∈ lw_all := lw_g (lw_at lw_m6 93 rfl) rfl
theorem q1427 : (Jvm.Cond.soleField "BackRescueModel" "all") ∈ lw_all := lw_g (lw_at lw_m6 94 rfl) rfl
theorem q1428 : (Jvm.Cond.laysFinal "BackRescueModel" "BackRescueModel" "hasImage" "[Z") ∈ lw_all := lw_g (lw_at lw_m6 95 rfl) rfl
theorem q1429 : (Jvm.Cond.soleField "BackRescueModel" "hasImage") ∈ lw_all := lw_g (lw_at lw_m6 96 rfl) rfl
theorem q1430 : (Jvm.Cond.laysFinal "BackRescueModel" "BackRescueModel" "tape" "[I") ∈ lw_all := lw_g (lw_at lw_m6 97 rfl) rfl
theorem q1431 : (Jvm.Cond.soleField "BackRescueModel" "tape") ∈ lw_all := lw_g (lw_at lw_m6 98 rfl) rfl
theorem q1432 : (Jvm.Cond.laysFinal "BackRescueModel" "BackRescueModel" "fresh" "[I") ∈ lw_all := lw_g (lw_at lw_m6 99 rfl) rfl
theorem q1433 : (Jvm.Cond.soleField "BackRescueModel" "fresh") ∈ lw_all := lw_g (lw_at lw_m6 100 rfl) rfl
theorem q1434 : (Jvm.Cond.lays "BackRescueModel" "BackRescueModel" "taped" "I") ∈ lw_all := lw_g (lw_at lw_m6 101 rfl) rfl
theorem q1435 : (Jvm.Cond.soleField "BackRescueModel" "taped") ∈ lw_all := lw_g (lw_at lw_m6 102 rfl) rfl
theorem q1436 : (Jvm.Cond.lays "BackRescueModel" "BackRescueModel" "at" "I") ∈ lw_all := lw_g (lw_at lw_m6 103 rfl) rfl
theorem q1437 : (Jvm.Cond.soleField "BackRescueModel" "at") ∈ lw_all := lw_g (lw_at lw_m6 104 rfl) rfl
theorem q1438 : (Jvm.Cond.lays "BackRescueModel" "BackRescueModel" "behind" "I") ∈ lw_all := lw_g (lw_at lw_m6 105 rfl) rfl
theorem q1439 : (Jvm.Cond.soleField "BackRescueModel" "behind") ∈ lw_all := lw_g (lw_at lw_m6 106 rfl) rfl
theorem q1440 : (Jvm.Cond.lays "BackRescueModel" "BackRescueModel" "size" "I") ∈ lw_all := lw_g (lw_at lw_m6 107 rfl) rfl
theorem q1441 : (Jvm.Cond.soleField "BackRescueModel" "size") ∈ lw_all := lw_g (lw_at lw_m6 108 rfl) rfl
theorem q1442 : (Jvm.Cond.lays "BackRescueModel" "BackRescueModel" "kind" "I") ∈ lw_all := lw_g (lw_at lw_m6 109 rfl) rfl
theorem q1443 : (Jvm.Cond.soleField "BackRescueModel" "kind") ∈ lw_all := lw_g (lw_at lw_m6 110 rfl) rfl
theorem q1444 : (Jvm.Cond.lays "BackRescueModel" "BackRescueModel" "number" "I") ∈ lw_all := lw_g (lw_at lw_m6 111 rfl) rfl
theorem q1445 : (Jvm.Cond.soleField "BackRescueModel" "number") ∈ lw_all := lw_g (lw_at lw_m6 112 rfl) rfl
theorem q1446 : (Jvm.Cond.lays "BackRescueModel" "BackRescueModel" "wrong" "I") ∈ lw_all := lw_g (lw_at lw_m6 113 rfl) rfl
theorem q1447 : (Jvm.Cond.soleField "BackRescueModel" "wrong") ∈ lw_all := lw_g (lw_at lw_m6 114 rfl) rfl
theorem q1448 : (Jvm.Cond.lays "BackRescueModel" "BackRescueModel" "wrongAt" "I") ∈ lw_all := lw_g (lw_at lw_m6 115 rfl) rfl
theorem q1449 : (Jvm.Cond.soleField "BackRescueModel" "wrongAt") ∈ lw_all := lw_g (lw_at lw_m6 116 rfl) rfl
theorem q1450 : (Jvm.Cond.lays "BackRescueModel" "BackRescueModel" "faultKind" "I") ∈ lw_all := lw_g (lw_at lw_m6 117 rfl) rfl
theorem q1451 : (Jvm.Cond.soleField "BackRescueModel" "faultKind") ∈ lw_all := lw_g (lw_at lw_m6 118 rfl) rfl
theorem q1452 : (Jvm.Cond.lays "BackRescueModel" "BackRescueModel" "faultPlace" "I") ∈ lw_all := lw_g (lw_at lw_m6 119 rfl) rfl
theorem q1453 : (Jvm.Cond.soleField "BackRescueModel" "faultPlace") ∈ lw_all := lw_g (lw_at lw_m6 120 rfl) rfl
theorem q1454 : (Jvm.Cond.lays "BackRescueModel" "BackRescueModel" "reading" "I") ∈ lw_all := lw_g (lw_at lw_m6 121 rfl) rfl
theorem q1455 : (Jvm.Cond.soleField "BackRescueModel" "reading") ∈ lw_all := lw_g (lw_at lw_m6 122 rfl) rfl
theorem q1456 : (Jvm.Cond.laysFinal "BackRescueModel" "BackRescueModel" "reckoned" "[I") ∈ lw_all := lw_g (lw_at lw_m6 123 rfl) rfl
theorem q1457 : (Jvm.Cond.soleField "BackRescueModel" "reckoned") ∈ lw_all := lw_g (lw_at lw_m6 124 rfl) rfl
theorem q1458 : (Jvm.Cond.laysFinal "BackRescueModel" "BackRescueModel" "words" "[I") ∈ lw_all := lw_g (lw_at lw_m6 125 rfl) rfl
theorem q1459 : (Jvm.Cond.soleField "BackRescueModel" "words") ∈ lw_all := lw_g (lw_at lw_m6 126 rfl) rfl
theorem q1460 : (Jvm.Cond.laysFinal "BackRescueModel" "BackRescueModel" "was" "[I") ∈ lw_all := lw_g (lw_at lw_m6 127 rfl) rfl
theorem q1461 : (Jvm.Cond.soleField "BackRescueModel" "was") ∈ lw_all := lw_g (lw_at lw_m6 128 rfl) rfl
theorem q1462 : (Jvm.Cond.lays "BackRescueModel" "BackRescueModel" "toldWhy" "I") ∈ lw_all := lw_g (lw_at lw_m6 129 rfl) rfl
theorem q1463 : (Jvm.Cond.soleField "BackRescueModel" "toldWhy") ∈ lw_all := lw_g (lw_at lw_m6 130 rfl) rfl
theorem q1464 : (Jvm.Cond.lays "BackRescueModel" "BackRescueModel" "x" "I") ∈ lw_all := lw_g (lw_at lw_m6 131 rfl) rfl
theorem q1465 : (Jvm.Cond.soleField "BackRescueModel" "x") ∈ lw_all := lw_g (lw_at lw_m6 132 rfl) rfl
theorem q1466 : (Jvm.Cond.laysFinal "BackRescueModel" "BackRescueModel" "then" "[I") ∈ lw_all := lw_g (lw_at lw_m6 133 rfl) rfl
theorem q1467 : (Jvm.Cond.soleField "BackRescueModel" "then") ∈ lw_all := lw_g (lw_at lw_m6 134 rfl) rfl
theorem q1468 : (Jvm.Cond.laysFinal "BackRescueModel" "BackRescueModel" "far" "[I") ∈ lw_all := lw_g (lw_at lw_m6 135 rfl) rfl
theorem q1469 : (Jvm.Cond.soleField "BackRescueModel" "far") ∈ lw_all := lw_g (lw_at lw_m6 136 rfl) rfl
theorem q1470 : (Jvm.Cond.laysFinal "BackRescueModel" "BackRescueModel" "reached" "[Z") ∈ lw_all := lw_g (lw_at lw_m6 137 rfl) rfl
theorem q1471 : (Jvm.Cond.soleField "BackRescueModel" "reached") ∈ lw_all := lw_g (lw_at lw_m6 138 rfl) rfl
theorem q1472 : (Jvm.Cond.laysFinal "BackRescueModel" "BackRescueModel" "many" "[J") ∈ lw_all := lw_g (lw_at lw_m6 139 rfl) rfl
theorem q1473 : (Jvm.Cond.soleField "BackRescueModel" "many") ∈ lw_all := lw_g (lw_at lw_m6 140 rfl) rfl
theorem q1474 : (Jvm.Cond.laysFinal "BackRescueModel" "BackRescueModel" "can" "[Z") ∈ lw_all := lw_g (lw_at lw_m6 141 rfl) rfl
theorem q1475 : (Jvm.Cond.soleField "BackRescueModel" "can") ∈ lw_all := lw_g (lw_at lw_m6 142 rfl) rfl
theorem q1476 : (Jvm.Cond.laysFinal "BackRescueModel" "BackRescueModel" "canThen" "[Z") ∈ lw_all := lw_g (lw_at lw_m6 143 rfl) rfl
theorem q1477 : (Jvm.Cond.soleField "BackRescueModel" "canThen") ∈ lw_all := lw_g (lw_at lw_m6 144 rfl) rfl
theorem q1478 : (Jvm.Cond.laysFinal "BackRescueModel" "BackRescueModel" "often" "[I") ∈ lw_all := lw_g (lw_at lw_m6 145 rfl) rfl
theorem q1479 : (Jvm.Cond.soleField "BackRescueModel" "often") ∈ lw_all := lw_g (lw_at lw_m6 146 rfl) rfl
theorem q1480 : (Jvm.Cond.laysFinal "BackRescueModel" "BackRescueModel" "stood" "[Z") ∈ lw_all := lw_g (lw_at lw_m6 147 rfl) rfl
theorem q1481 : (Jvm.Cond.soleField "BackRescueModel" "stood") ∈ lw_all := lw_g (lw_at lw_m6 148 rfl) rfl
theorem q1482 : (Jvm.Cond.laysFinal "BackRescueModel" "BackRescueModel" "likely" "[I") ∈ lw_all := lw_g (lw_at lw_m6 149 rfl) rfl
theorem q1483 : (Jvm.Cond.soleField "BackRescueModel" "likely") ∈ lw_all := lw_g (lw_at lw_m6 150 rfl) rfl
theorem q1484 : (Jvm.Cond.laysFinal "BackRescueModel" "BackRescueModel" "rowSort" "[I") ∈ lw_all := lw_g (lw_at lw_m6 151 rfl) rfl
theorem q1485 : (Jvm.Cond.soleField "BackRescueModel" "rowSort") ∈ lw_all := lw_g (lw_at lw_m6 152 rfl) rfl
theorem q1486 : (Jvm.Cond.laysFinal "BackRescueModel" "BackRescueModel" "rowMany" "[I") ∈ lw_all := lw_g (lw_at lw_m6 153 rfl) rfl
theorem q1487 : (Jvm.Cond.soleField "BackRescueModel" "rowMany") ∈ lw_all := lw_g (lw_at lw_m6 154 rfl) rfl
theorem q1488 : (Jvm.Cond.laysFinal "BackRescueModel" "BackRescueModel" "numbers" "[J") ∈ lw_all := lw_g (lw_at lw_m6 155 rfl) rfl
theorem q1489 : (Jvm.Cond.soleField "BackRescueModel" "numbers") ∈ lw_all := lw_g (lw_at lw_m6 156 rfl) rfl
theorem q1490 : (Jvm.Cond.superclass "BackRescueModel" "java/lang/Object") ∈ lw_all := lw_g (lw_at lw_m6 157 rfl) rfl
theorem q1492 : (Jvm.Cond.instanceMethod ({ cls := "BackRescueModel", name := "feed", desc := "(IIIII)I" } : Jvm.MethodName)) ∈ lw_all := lw_g (lw_at lw_m6 159 rfl) rfl
theorem q1493 : (Jvm.Cond.selects "BackRescueModel" ({ cls := "BackRescueModel", name := "feed", desc := "(IIIII)I" } : Jvm.MethodName) ({ cls := "BackRescueModel", name := "feed", desc := "(IIIII)I" } : Jvm.MethodName)) ∈ lw_all := lw_g (lw_at lw_m6 160 rfl) rfl
theorem q1494 : (Jvm.Cond.code ({ cls := "BackRescueModel", name := "feed", desc := "(IIIII)I" } : Jvm.MethodName) prog_16_method_5_code (8 : Nat) (Option.some Jvm.ClassFile.FieldType.int)) ∈ lw_all := lw_g (lw_at lw_m6 161 rfl) rfl
theorem q1496 : (Jvm.Cond.instanceMethod ({ cls := "BackRescueModel", name := "cave", desc := "(I)I" } : Jvm.MethodName)) ∈ lw_all := lw_g (lw_at lw_m6 163 rfl) rfl
theorem q1497 : (Jvm.Cond.selects "BackRescueModel" ({ cls := "BackRescueModel", name := "cave", desc := "(I)I" } : Jvm.MethodName) ({ cls := "BackRescueModel", name := "cave", desc := "(I)I" } : Jvm.MethodName)) ∈ lw_all := lw_g (lw_at lw_m6 164 rfl) rfl
theorem q1498 : (Jvm.Cond.code ({ cls := "BackRescueModel", name := "cave", desc := "(I)I" } : Jvm.MethodName) prog_16_method_32_code (3 : Nat) (Option.some Jvm.ClassFile.FieldType.int)) ∈ lw_all := lw_g (lw_at lw_m6 165 rfl) rfl
theorem q1499 : (Jvm.Cond.methodLink "BackRescueModel" (142 : Nat) ({ cls := "BackRescueModel", name := "within", desc := "(JJJ)Z" } : Jvm.MethodName)) ∈ lw_all := lw_g (lw_at lw_m6 166 rfl) rfl
theorem q1500 : (Jvm.Cond.static ({ cls := "BackRescueModel", name := "within", desc := "(JJJ)Z" } : Jvm.MethodName)) ∈ lw_all := lw_g (lw_at lw_m6 167 rfl) rfl
theorem q1501 : (Jvm.Cond.code ({ cls := "BackRescueModel", name := "within", desc := "(JJJ)Z" } : Jvm.MethodName) prog_16_method_2_code (6 : Nat) (Option.some Jvm.ClassFile.FieldType.boolean)) ∈ lw_all := lw_g (lw_at lw_m6 168 rfl) rfl
theorem q1502 : (Jvm.Cond.methodLink "BackRescueModel" (135 : Nat) ({ cls := "BackRescueModel", name := "next", desc := "()V" } : Jvm.MethodName)) ∈ lw_all := lw_g (lw_at lw_m6 169 rfl) rfl
theorem q1503 : (Jvm.Cond.privateMethod ({ cls := "BackRescueModel", name := "next", desc := "()V" } : Jvm.MethodName)) ∈ lw_tbl := lw_at lw_m6 170 rfl
theorem q1504 : (Jvm.Cond.instanceMethod ({ cls := "BackRescueModel", name := "next", desc := "()V" } : Jvm.MethodName)) ∈ lw_all := lw_g (lw_at lw_m6 171 rfl) rfl
theorem q1505 : (Jvm.Cond.code ({ cls := "BackRescueModel", name := "next", desc := "()V" } : Jvm.MethodName) prog_16_method_10_code (2 : Nat) (Option.none : Option Jvm.ClassFile.FieldType)) ∈ lw_all := lw_g (lw_at lw_m6 172 rfl) rfl
theorem q1506 : (Jvm.Cond.methodLink "BackRescueModel" (104 : Nat) ({ cls := "BackRescueModel", name := "see", desc := "(I)I" } : Jvm.MethodName)) ∈ lw_all := lw_g (lw_at lw_m6 173 rfl) rfl
theorem q1507 : (Jvm.Cond.privateMethod ({ cls := "BackRescueModel", name := "see", desc := "(I)I" } : Jvm.MethodName)) ∈ lw_tbl := lw_at lw_m6 174 rfl
theorem q1508 : (Jvm.Cond.instanceMethod ({ cls := "BackRescueModel", name := "see", desc := "(I)I" } : Jvm.MethodName)) ∈ lw_all := lw_g (lw_at lw_m6 175 rfl) rfl
theorem q1509 : (Jvm.Cond.code ({ cls := "BackRescueModel", name := "see", desc := "(I)I" } : Jvm.MethodName) prog_16_method_6_code (2 : Nat) (Option.some Jvm.ClassFile.FieldType.int)) ∈ lw_all := lw_g (lw_at lw_m6 176 rfl) rfl
theorem q1510 : (Jvm.Cond.methodLink "BackRescueModel" (111 : Nat) ({ cls := "BackRescueModel", name := "isSmall", desc := "(I)Z" } : Jvm.MethodName)) ∈ lw_all := lw_g (lw_at lw_m6 177 rfl) rfl
theorem q1511 : (Jvm.Cond.static ({ cls := "BackRescueModel", name := "isSmall", desc := "(I)Z" } : Jvm.MethodName)) ∈ lw_all := lw_g (lw_at lw_m6 178 rfl) rfl
theorem q1512 : (Jvm.Cond.code ({ cls := "BackRescueModel", name := "isSmall", desc := "(I)Z" } : Jvm.MethodName) prog_16_method_7_code (1 : Nat) (Option.some Jvm.ClassFile.FieldType.boolean)) ∈ lw_all := lw_g (lw_at lw_m6 179 rfl) rfl
theorem q1513 : (Jvm.Cond.methodLink "BackRescueModel" (115 : Nat) ({ cls := "BackRescueModel", name := "keyAt", desc := "()I" } : Jvm.MethodName)) ∈ lw_all := lw_g (lw_at lw_m6 180 rfl) rfl
theorem q1514 : (Jvm.Cond.privateMethod ({ cls := "BackRescueModel", name := "keyAt", desc := "()I" } : Jvm.MethodName)) ∈ lw_tbl := lw_at lw_m6 181 rfl
theorem q1515 : (Jvm.Cond.instanceMethod ({ cls := "BackRescueModel", name := "keyAt", desc := "()I" } : Jvm.MethodName)) ∈ lw_all := lw_g (lw_at lw_m6 182 rfl) rfl
theorem q1516 : (Jvm.Cond.code ({ cls := "BackRescueModel", name := "keyAt", desc := "()I" } : Jvm.MethodName) prog_16_method_9_code (4 : Nat) (Option.some Jvm.ClassFile.FieldType.int)) ∈ lw_all := lw_g (lw_at lw_m6 183 rfl) rfl
theorem q1517 : (Jvm.Cond.stringRef "BackRescueModel" (86 : Nat) " cave rooms passage drop both roped lost hurt slack falls hurts may if then else end back room and or not ") ∈ lw_tbl := lw_at lw_m6 184 rfl
theorem q1518 : (Jvm.Cond.methodLink "BackRescueModel" (88 : Nat) ({ cls := "java/lang/String", name := "length", desc := "()I" } : Jvm.MethodName)) ∈ lw_all := lw_g (lw_at lw_m6 185 rfl) rfl
theorem q1519 : (Jvm.Cond.methodLink "BackRescueModel" (94 : Nat) ({ cls := "java/lang/String", name := "charAt", desc := "(I)C" } : Jvm.MethodName)) ∈ lw_all := lw_g (lw_at lw_m6 186 rfl) rfl
theorem q1520 : (Jvm.Cond.methodLink "BackRescueModel" (118 : Nat) ({ cls := "BackRescueModel", name := "isDigit", desc := "(I)Z" } : Jvm.MethodName)) ∈ lw_all := lw_g (lw_at lw_m6 187 rfl) rfl
theorem q1521 : (Jvm.Cond.static ({ cls := "BackRescueModel", name := "isDigit", desc := "(I)Z" } : Jvm.MethodName)) ∈ lw_all := lw_g (lw_at lw_m6 188 rfl) rfl
theorem q1522 : (Jvm.Cond.code ({ cls := "BackRescueModel", name := "isDigit", desc := "(I)Z" } : Jvm.MethodName) prog_16_method_8_code (1 : Nat) (Option.some Jvm.ClassFile.FieldType.boolean)) ∈ lw_all := lw_g (lw_at lw_m6 189 rfl) rfl
theorem q1523 : (Jvm.Cond.stringRef "BackRescueModel" (124 : Nat) ";:+-*()[]=<>") ∈ lw_tbl := lw_at lw_m6 190 rfl
theorem q1524 : (Jvm.Cond.methodLink "BackRescueModel" (161 : Nat) ({ cls := "BackRescueModel", name := "eats", desc := "(I)Z" } : Jvm.MethodName)) ∈ lw_all := lw_g (lw_at lw_m6 191 rfl) rfl
theorem q1525 : (Jvm.Cond.privateMethod ({ cls := "BackRescueModel", name := "eats", desc := "(I)Z" } : Jvm.MethodName)) ∈ lw_tbl := lw_at lw_m6 192 rfl
theorem q1526 : (Jvm.Cond.instanceMethod ({ cls := "BackRescueModel", name := "eats", desc := "(I)Z" } : Jvm.MethodName)) ∈ lw_all := lw_g (lw_at lw_m6 193 rfl) rfl
theorem q1527 : (Jvm.Cond.code ({ cls := "BackRescueModel", name := "eats", desc := "(I)Z" } : Jvm.MethodName) prog_16_method_13_code (2 : Nat) (Option.some Jvm.ClassFile.FieldType.boolean)) ∈ lw_all := lw_g (lw_at lw_m6 194 rfl) rfl
theorem q1528 : (Jvm.Cond.methodLink "BackRescueModel" (132 : Nat) ({ cls := "BackRescueModel", name := "is", desc := "(I)Z" } : Jvm.MethodName)) ∈ lw_all := lw_g (lw_at lw_m6 195 rfl) rfl
theorem q1529 : (Jvm.Cond.privateMethod ({ cls := "BackRescueModel", name := "is", desc := "(I)Z" } : Jvm.MethodName)) ∈ lw_tbl := lw_at lw_m6 196 rfl
theorem q1530 : (Jvm.Cond.instanceMethod ({ cls := "BackRescueModel", name := "is", desc := "(I)Z" } : Jvm.MethodName)) ∈ lw_all := lw_g (lw_at lw_m6 197 rfl) rfl
theorem q1531 : (Jvm.Cond.code ({ cls := "BackRescueModel", name := "is", desc := "(I)Z" } : Jvm.MethodName) prog_16_method_12_code (2 : Nat) (Option.some Jvm.ClassFile.FieldType.boolean)) ∈ lw_all := lw_g (lw_at lw_m6 198 rfl) rfl
theorem q1532 : (Jvm.Cond.methodLink "BackRescueModel" (138 : Nat) ({ cls := "BackRescueModel", name := "fails", desc := "(I)V" } : Jvm.MethodName)) ∈ lw_all := lw_g (lw_at lw_m6 199 rfl) rfl
theorem q1533 : (Jvm.Cond.privateMethod ({ cls := "BackRescueModel", name := "fails", desc := "(I)V" } : Jvm.MethodName)) ∈ lw_tbl := lw_at lw_m6 200 rfl
theorem q1534 : (Jvm.Cond.instanceMethod ({ cls := "BackRescueModel", name := "fails", desc := "(I)V" } : Jvm.MethodName)) ∈ lw_all := lw_g (lw_at lw_m6 201 rfl) rfl
theorem q1535 : (Jvm.Cond.code ({ cls := "BackRescueModel", name := "fails", desc := "(I)V" } : Jvm.MethodName) prog_16_method_11_code (2 : Nat) (Option.none : Option Jvm.ClassFile.FieldType)) ∈ lw_all := lw_g (lw_at lw_m6 202 rfl) rfl
theorem q1536 : (Jvm.Cond.methodLink "BackRescueModel" (182 : Nat) ({ cls := "BackRescueModel", name := "takes", desc := "(II)I" } : Jvm.MethodName)) ∈ lw_all := lw_g (lw_at lw_m6 203 rfl) rfl
theorem q1537 : (Jvm.Cond.privateMethod ({ cls := "BackRescueModel", name := "takes", desc := "(II)I" } : Jvm.MethodName)) ∈ lw_tbl := lw_at lw_m6 204 rfl
theorem q1538 : (Jvm.Cond.instanceMethod ({ cls := "BackRescueModel", name := "takes", desc := "(II)I" } : Jvm.MethodName)) ∈ lw_all := lw_g (lw_at lw_m6 205 rfl) rfl
theorem q1539 : (Jvm.Cond.code ({ cls := "BackRescueModel", name := "takes", desc := "(II)I" } : Jvm.MethodName) prog_16_method_14_code (4 : Nat) (Option.some Jvm.ClassFile.FieldType.int)) ∈ lw_all := lw_g (lw_at lw_m6 206 rfl) rfl
theorem q1540 : (Jvm.Cond.methodLink "BackRescueModel" (198 : Nat) ({ cls := "BackRescueModel", name := "closes", desc := "()V" } : Jvm.MethodName)) ∈ lw_all := lw_g (lw_at lw_m6 207 rfl) rfl
theorem q1541 : (Jvm.Cond.privateMethod ({ cls := "BackRescueModel", name := "closes", desc := "()V" } : Jvm.MethodName)) ∈ lw_tbl := lw_at lw_m6 208 rfl
theorem q1542 : (Jvm.Cond.instanceMethod ({ cls := "BackRescueModel", name := "closes", desc := "()V" } : Jvm.MethodName)) ∈ lw_all := lw_g (lw_at lw_m6 209 rfl) rfl
theorem q1543 : (Jvm.Cond.code ({ cls := "BackRescueModel", name := "closes", desc := "()V" } : Jvm.MethodName) prog_16_method_31_code (1 : Nat) (Option.none : Option Jvm.ClassFile.FieldType)) ∈ lw_all := lw_g (lw_at lw_m6 210 rfl) rfl
theorem q1544 : (Jvm.Cond.methodLink "BackRescueModel" (201 : Nat) ({ cls := "BackRescueModel", name := "readLine", desc := "()V" } : Jvm.MethodName)) ∈ lw_all := lw_g (lw_at lw_m6 211 rfl) rfl
theorem q1545 : (Jvm.Cond.privateMethod ({ cls := "BackRescueModel", name := "readLine", desc := "()V" } : Jvm.MethodName)) ∈ lw_tbl := lw_at lw_m6 212 rfl
theorem q1546 : (Jvm.Cond.instanceMethod ({ cls := "BackRescueModel", name := "readLine", desc := "()V" } : Jvm.MethodName)) ∈ lw_all := lw_g (lw_at lw_m6 213 rfl) rfl
theorem q1547 : (Jvm.Cond.code ({ cls := "BackRescueModel", name := "readLine", desc := "()V" } : Jvm.MethodName) prog_16_method_30_code (1 : Nat) (Option.none : Option Jvm.ClassFile.FieldType)) ∈ lw_all := lw_g (lw_at lw_m6 214 rfl) rfl
theorem q1548 : (Jvm.Cond.methodLink "BackRescueModel" (189 : Nat) ({ cls := "BackRescueModel", name := "readPassage", desc := "()V" } : Jvm.MethodName)) ∈ lw_all := lw_g (lw_at lw_m6 215 rfl) rfl
theorem q1549 : (Jvm.Cond.privateMethod ({ cls := "BackRescueModel", name := "readPassage", desc := "()V" } : Jvm.MethodName)) ∈ lw_tbl := lw_at lw_m6 216 rfl
theorem q1550 : (Jvm.Cond.instanceMethod ({ cls := "BackRescueModel", name := "readPassage", desc := "()V" } : Jvm.MethodName)) ∈ lw_all := lw_g (lw_at lw_m6 217 rfl) rfl
theorem q1551 : (Jvm.Cond.code ({ cls := "BackRescueModel", name := "readPassage", desc := "()V" } : Jvm.MethodName) prog_16_method_27_code (2 : Nat) (Option.none : Option Jvm.ClassFile.FieldType)) ∈ lw_all := lw_g (lw_at lw_m6 218 rfl) rfl
theorem q1552 : (Jvm.Cond.methodLink "BackRescueModel" (186 : Nat) ({ cls := "BackRescueModel", name := "readPart", desc := "(I)Z" } : Jvm.MethodName)) ∈ lw_all := lw_g (lw_at lw_m6 219 rfl) rfl
theorem q1553 : (Jvm.Cond.privateMethod ({ cls := "BackRescueModel", name := "readPart", desc := "(I)Z" } : Jvm.MethodName)) ∈ lw_tbl := lw_at lw_m6 220 rfl
theorem q1554 : (Jvm.Cond.instanceMethod ({ cls := "BackRescueModel", name := "readPart", desc := "(I)Z" } : Jvm.MethodName)) ∈ lw_all := lw_g (lw_at lw_m6 221 rfl) rfl
theorem q1555 : (Jvm.Cond.code ({ cls := "BackRescueModel", name := "readPart", desc := "(I)Z" } : Jvm.MethodName) prog_16_method_26_code (2 : Nat) (Option.some Jvm.ClassFile.FieldType.boolean)) ∈ lw_all := lw_g (lw_at lw_m6 222 rfl) rfl
theorem q1556 : (Jvm.Cond.methodLink "BackRescueModel" (192 : Nat) ({ cls := "BackRescueModel", name := "readLost", desc := "()V" } : Jvm.MethodName)) ∈ lw_all := lw_g (lw_at lw_m6 223 rfl) rfl
theorem q1557 : (Jvm.Cond.privateMethod ({ cls := "BackRescueModel", name := "readLost", desc := "()V" } : Jvm.MethodName)) ∈ lw_tbl := lw_at lw_m6 224 rfl
theorem q1558 : (Jvm.Cond.instanceMethod ({ cls := "BackRescueModel", name := "readLost", desc := "()V" } : Jvm.MethodName)) ∈ lw_all := lw_g (lw_at lw_m6 225 rfl) rfl
theorem q1559 : (Jvm.Cond.code ({ cls := "BackRescueModel", name := "readLost", desc := "()V" } : Jvm.MethodName) prog_16_method_28_code (1 : Nat) (Option.none : Option Jvm.ClassFile.FieldType)) ∈ lw_all := lw_g (lw_at lw_m6 226 rfl) rfl
theorem q1560 : (Jvm.Cond.methodLink "BackRescueModel" (195 : Nat) ({ cls := "BackRescueModel", name := "readLaw", desc := "(I)V" } : Jvm.MethodName)) ∈ lw_all := lw_g (lw_at lw_m6 227 rfl) rfl
theorem q1561 : (Jvm.Cond.privateMethod ({ cls := "BackRescueModel", name := "readLaw", desc := "(I)V" } : Jvm.MethodName)) ∈ lw_tbl := lw_at lw_m6 228 rfl
theorem q1562 : (Jvm.Cond.instanceMethod ({ cls := "BackRescueModel", name := "readLaw", desc := "(I)V" } : Jvm.MethodName)) ∈ lw_all := lw_g (lw_at lw_m6 229 rfl) rfl
theorem q1563 : (Jvm.Cond.code ({ cls := "BackRescueModel", name := "readLaw", desc := "(I)V" } : Jvm.MethodName) prog_16_method_29_code (3 : Nat) (Option.none : Option Jvm.ClassFile.FieldType)) ∈ lw_all := lw_g (lw_at lw_m6 230 rfl) rfl
theorem q1564 : (Jvm.Cond.methodLink "BackRescueModel" (158 : Nat) ({ cls := "BackRescueModel", name := "readSum", desc := "(I)V" } : Jvm.MethodName)) ∈ lw_all := lw_g (lw_at lw_m6 231 rfl) rfl
theorem q1565 : (Jvm.Cond.privateMethod ({ cls := "BackRescueModel", name := "readSum", desc := "(I)V" } : Jvm.MethodName)) ∈ lw_tbl := lw_at lw_m6 232 rfl
theorem q1566 : (Jvm.Cond.instanceMethod ({ cls := "BackRescueModel", name := "readSum", desc := "(I)V" } : Jvm.MethodName)) ∈ lw_all := lw_g (lw_at lw_m6 233 rfl) rfl
theorem q1567 : (Jvm.Cond.code ({ cls := "BackRescueModel", name := "readSum", desc := "(I)V" } : Jvm.MethodName) prog_16_method_22_code (3 : Nat) (Option.none : Option Jvm.ClassFile.FieldType)) ∈ lw_all := lw_g (lw_at lw_m6 234 rfl) rfl
theorem q1568 : (Jvm.Cond.methodLink "BackRescueModel" (173 : Nat) ({ cls := "BackRescueModel", name := "readTerm", desc := "(I)V" } : Jvm.MethodName)) ∈ lw_all := lw_g (lw_at lw_m6 235 rfl) rfl
theorem q1569 : (Jvm.Cond.privateMethod ({ cls := "BackRescueModel", name := "readTerm", desc := "(I)V" } : Jvm.MethodName)) ∈ lw_tbl := lw_at lw_m6 236 rfl
theorem q1570 : (Jvm.Cond.instanceMethod ({ cls := "BackRescueModel", name := "readTerm", desc := "(I)V" } : Jvm.MethodName)) ∈ lw_all := lw_g (lw_at lw_m6 237 rfl) rfl
theorem q1571 : (Jvm.Cond.code ({ cls := "BackRescueModel", name := "readTerm", desc := "(I)V" } : Jvm.MethodName) prog_16_method_21_code (2 : Nat) (Option.none : Option Jvm.ClassFile.FieldType)) ∈ lw_all := lw_g (lw_at lw_m6 238 rfl) rfl
theorem q1572 : (Jvm.Cond.methodLink "BackRescueModel" (170 : Nat) ({ cls := "BackRescueModel", name := "readAtom", desc := "(I)V" } : Jvm.MethodName)) ∈ lw_all := lw_g (lw_at lw_m6 239 rfl) rfl
theorem q1573 : (Jvm.Cond.privateMethod ({ cls := "BackRescueModel", name := "readAtom", desc := "(I)V" } : Jvm.MethodName)) ∈ lw_tbl := lw_at lw_m7 0 rfl
theorem q1574 : (Jvm.Cond.instanceMethod ({ cls := "BackRescueModel", name := "readAtom", desc := "(I)V" } : Jvm.MethodName)) ∈ lw_all := lw_g (lw_at lw_m7 1 rfl) rfl
theorem q1575 : (Jvm.Cond.code ({ cls := "BackRescueModel", name := "readAtom", desc := "(I)V" } : Jvm.MethodName) prog_16_method_19_code (2 : Nat) (Option.none : Option Jvm.ClassFile.FieldType)) ∈ lw_all := lw_g (lw_at lw_m7 2 rfl) rfl
theorem q1576 : (Jvm.Cond.methodLink "BackRescueModel" (149 : Nat) ({ cls := "BackRescueModel", name := "codes", desc := "(I)V" } : Jvm.MethodName)) ∈ lw_all := lw_g (lw_at lw_m7 3 rfl) rfl
theorem q1577 : (Jvm.Cond.privateMethod ({ cls := "BackRescueModel", name := "codes", desc := "(I)V" } : Jvm.MethodName)) ∈ lw_tbl := lw_at lw_m7 4 rfl
theorem q1578 : (Jvm.Cond.instanceMethod ({ cls := "BackRescueModel", name := "codes", desc := "(I)V" } : Jvm.MethodName)) ∈ lw_all := lw_g (lw_at lw_m7 5 rfl) rfl
theorem q1579 : (Jvm.Cond.code ({ cls := "BackRescueModel", name := "codes", desc := "(I)V" } : Jvm.MethodName) prog_16_method_17_code (2 : Nat) (Option.none : Option Jvm.ClassFile.FieldType)) ∈ lw_all := lw_g (lw_at lw_m7 6 rfl) rfl
theorem q1580 : (Jvm.Cond.methodLink "BackRescueModel" (152 : Nat) ({ cls := "BackRescueModel", name := "wordOf", desc := "(I)I" } : Jvm.MethodName)) ∈ lw_all := lw_g (lw_at lw_m7 7 rfl) rfl
theorem q1581 : (Jvm.Cond.privateMethod ({ cls := "BackRescueModel", name := "wordOf", desc := "(I)I" } : Jvm.MethodName)) ∈ lw_tbl := lw_at lw_m7 8 rfl
theorem q1582 : (Jvm.Cond.instanceMethod ({ cls := "BackRescueModel", name := "wordOf", desc := "(I)I" } : Jvm.MethodName)) ∈ lw_all := lw_g (lw_at lw_m7 9 rfl) rfl
theorem q1583 : (Jvm.Cond.code ({ cls := "BackRescueModel", name := "wordOf", desc := "(I)I" } : Jvm.MethodName) prog_16_method_16_code (2 : Nat) (Option.some Jvm.ClassFile.FieldType.int)) ∈ lw_all := lw_g (lw_at lw_m7 10 rfl) rfl
theorem q1584 : (Jvm.Cond.methodLink "BackRescueModel" (155 : Nat) ({ cls := "BackRescueModel", name := "goesIn", desc := "(I)Z" } : Jvm.MethodName)) ∈ lw_all := lw_g (lw_at lw_m7 11 rfl) rfl
theorem q1585 : (Jvm.Cond.privateMethod ({ cls := "BackRescueModel", name := "goesIn", desc := "(I)Z" } : Jvm.MethodName)) ∈ lw_tbl := lw_at lw_m7 12 rfl
theorem q1586 : (Jvm.Cond.instanceMethod ({ cls := "BackRescueModel", name := "goesIn", desc := "(I)Z" } : Jvm.MethodName)) ∈ lw_all := lw_g (lw_at lw_m7 13 rfl) rfl
theorem q1587 : (Jvm.Cond.code ({ cls := "BackRescueModel", name := "goesIn", desc := "(I)Z" } : Jvm.MethodName) prog_16_method_18_code (2 : Nat) (Option.some Jvm.ClassFile.FieldType.boolean)) ∈ lw_all := lw_g (lw_at lw_m7 14 rfl) rfl
theorem q1588 : (Jvm.Cond.methodLink "BackRescueModel" (164 : Nat) ({ cls := "BackRescueModel", name := "readIf", desc := "(I)V" } : Jvm.MethodName)) ∈ lw_all := lw_g (lw_at lw_m7 15 rfl) rfl
theorem q1589 : (Jvm.Cond.privateMethod ({ cls := "BackRescueModel", name := "readIf", desc := "(I)V" } : Jvm.MethodName)) ∈ lw_tbl := lw_at lw_m7 16 rfl
theorem q1590 : (Jvm.Cond.instanceMethod ({ cls := "BackRescueModel", name := "readIf", desc := "(I)V" } : Jvm.MethodName)) ∈ lw_all := lw_g (lw_at lw_m7 17 rfl) rfl
theorem q1591 : (Jvm.Cond.code ({ cls := "BackRescueModel", name := "readIf", desc := "(I)V" } : Jvm.MethodName) prog_16_method_20_code (2 : Nat) (Option.none : Option Jvm.ClassFile.FieldType)) ∈ lw_all := lw_g (lw_at lw_m7 18 rfl) rfl
theorem q1592 : (Jvm.Cond.methodLink "BackRescueModel" (167 : Nat) ({ cls := "BackRescueModel", name := "readTruth", desc := "(I)V" } : Jvm.MethodName)) ∈ lw_all := lw_g (lw_at lw_m7 19 rfl) rfl
theorem q1593 : (Jvm.Cond.privateMethod ({ cls := "BackRescueModel", name := "readTruth", desc := "(I)V" } : Jvm.MethodName)) ∈ lw_tbl := lw_at lw_m7 20 rfl
theorem q1594 : (Jvm.Cond.instanceMethod ({ cls := "BackRescueModel", name := "readTruth", desc := "(I)V" } : Jvm.MethodName)) ∈ lw_all := lw_g (lw_at lw_m7 21 rfl) rfl
theorem q1595 : (Jvm.Cond.code ({ cls := "BackRescueModel", name := "readTruth", desc := "(I)V" } : Jvm.MethodName) prog_16_method_25_code (2 : Nat) (Option.none : Option Jvm.ClassFile.FieldType)) ∈ lw_all := lw_g (lw_at lw_m7 22 rfl) rfl
theorem q1596 : (Jvm.Cond.methodLink "BackRescueModel" (179 : Nat) ({ cls := "BackRescueModel", name := "readBoth", desc := "(I)V" } : Jvm.MethodName)) ∈ lw_all := lw_g (lw_at lw_m7 23 rfl) rfl
theorem q1597 : (Jvm.Cond.privateMethod ({ cls := "BackRescueModel", name := "readBoth", desc := "(I)V" } : Jvm.MethodName)) ∈ lw_tbl := lw_at lw_m7 24 rfl
theorem q1598 : (Jvm.Cond.instanceMethod ({ cls := "BackRescueModel", name := "readBoth", desc := "(I)V" } : Jvm.MethodName)) ∈ lw_all := lw_g (lw_at lw_m7 25 rfl) rfl
theorem q1599 : (Jvm.Cond.code ({ cls := "BackRescueModel", name := "readBoth", desc := "(I)V" } : Jvm.MethodName) prog_16_method_24_code (2 : Nat) (Option.none : Option Jvm.ClassFile.FieldType)) ∈ lw_all := lw_g (lw_at lw_m7 26 rfl) rfl
theorem q1600 : (Jvm.Cond.methodLink "BackRescueModel" (176 : Nat) ({ cls := "BackRescueModel", name := "readUnit", desc := "(I)V" } : Jvm.MethodName)) ∈ lw_all := lw_g (lw_at lw_m7 27 rfl) rfl
theorem q1601 : (Jvm.Cond.privateMethod ({ cls := "BackRescueModel", name := "readUnit", desc := "(I)V" } : Jvm.MethodName)) ∈ lw_tbl := lw_at lw_m7 28 rfl
theorem q1602 : (Jvm.Cond.instanceMethod ({ cls := "BackRescueModel", name := "readUnit", desc := "(I)V" } : Jvm.MethodName)) ∈ lw_all := lw_g (lw_at lw_m7 29 rfl) rfl
theorem q1603 : (Jvm.Cond.code ({ cls := "BackRescueModel", name := "readUnit", desc := "(I)V" } : Jvm.MethodName) prog_16_method_23_code (3 : Nat) (Option.none : Option Jvm.ClassFile.FieldType)) ∈ lw_all := lw_g (lw_at lw_m7 30 rfl) rfl
theorem q1605 : (Jvm.Cond.instanceMethod ({ cls := "BackRescueModel", name := "fault", desc := "(I)I" } : Jvm.MethodName)) ∈ lw_all := lw_g (lw_at lw_m7 32 rfl) rfl
theorem q1606 : (Jvm.Cond.selects "BackRescueModel" ({ cls := "BackRescueModel", name := "fault", desc := "(I)I" } : Jvm.MethodName) ({ cls := "BackRescueModel", name := "fault", desc := "(I)I" } : Jvm.MethodName)) ∈ lw_all := lw_g (lw_at lw_m7 33 rfl) rfl
theorem q1607 : (Jvm.Cond.code ({ cls := "BackRescueModel", name := "fault", desc := "(I)I" } : Jvm.MethodName) prog_16_method_33_code (2 : Nat) (Option.some Jvm.ClassFile.FieldType.int)) ∈ lw_all := lw_g (lw_at lw_m7 34 rfl) rfl
theorem q1609 : (Jvm.Cond.instanceMethod ({ cls := "BackRescueModel", name := "passage", desc := "(II)I" } : Jvm.MethodName)) ∈ lw_all := lw_g (lw_at lw_m7 36 rfl) rfl
theorem q1610 : (Jvm.Cond.selects "BackRescueModel" ({ cls := "BackRescueModel", name := "passage", desc := "(II)I" } : Jvm.MethodName) ({ cls := "BackRescueModel", name := "passage", desc := "(II)I" } : Jvm.MethodName)) ∈ lw_all := lw_g (lw_at lw_m7 37 rfl) rfl
theorem q1611 : (Jvm.Cond.code ({ cls := "BackRescueModel", name := "passage", desc := "(II)I" } : Jvm.MethodName) prog_16_method_46_code (3 : Nat) (Option.some Jvm.ClassFile.FieldType.int)) ∈ lw_all := lw_g (lw_at lw_m7 38 rfl) rfl
theorem q1612 : (Jvm.Cond.methodLink "BackRescueModel" (228 : Nat) ({ cls := "BackRescueModel", name := "isPassage", desc := "(J)Z" } : Jvm.MethodName)) ∈ lw_all := lw_g (lw_at lw_m7 39 rfl) rfl
theorem q1613 : (Jvm.Cond.privateMethod ({ cls := "BackRescueModel", name := "isPassage", desc := "(J)Z" } : Jvm.MethodName)) ∈ lw_tbl := lw_at lw_m7 40 rfl
theorem q1614 : (Jvm.Cond.instanceMethod ({ cls := "BackRescueModel", name := "isPassage", desc := "(J)Z" } : Jvm.MethodName)) ∈ lw_all := lw_g (lw_at lw_m7 41 rfl) rfl
theorem q1615 : (Jvm.Cond.code ({ cls := "BackRescueModel", name := "isPassage", desc := "(J)Z" } : Jvm.MethodName) prog_16_method_35_code (3 : Nat) (Option.some Jvm.ClassFile.FieldType.boolean)) ∈ lw_all := lw_g (lw_at lw_m7 42 rfl) rfl
theorem q1617 : (Jvm.Cond.instanceMethod ({ cls := "BackRescueModel", name := "why", desc := "(I)I" } : Jvm.MethodName)) ∈ lw_all := lw_g (lw_at lw_m7 44 rfl) rfl
theorem q1618 : (Jvm.Cond.selects "BackRescueModel" ({ cls := "BackRescueModel", name := "why", desc := "(I)I" } : Jvm.MethodName) ({ cls := "BackRescueModel", name := "why", desc := "(I)I" } : Jvm.MethodName)) ∈ lw_all := lw_g (lw_at lw_m7 45 rfl) rfl
theorem q1619 : (Jvm.Cond.code ({ cls := "BackRescueModel", name := "why", desc := "(I)I" } : Jvm.MethodName) prog_16_method_47_code (2 : Nat) (Option.some Jvm.ClassFile.FieldType.int)) ∈ lw_all := lw_g (lw_at lw_m7 46 rfl) rfl
theorem q1620 : (Jvm.Cond.methodLink "BackRescueModel" (242 : Nat) ({ cls := "BackRescueModel", name := "whyGo", desc := "(J)I" } : Jvm.MethodName)) ∈ lw_all := lw_g (lw_at lw_m7 47 rfl) rfl
theorem q1621 : (Jvm.Cond.privateMethod ({ cls := "BackRescueModel", name := "whyGo", desc := "(J)I" } : Jvm.MethodName)) ∈ lw_tbl := lw_at lw_m7 48 rfl
theorem q1622 : (Jvm.Cond.instanceMethod ({ cls := "BackRescueModel", name := "whyGo", desc := "(J)I" } : Jvm.MethodName)) ∈ lw_all := lw_g (lw_at lw_m7 49 rfl) rfl
theorem q1623 : (Jvm.Cond.code ({ cls := "BackRescueModel", name := "whyGo", desc := "(J)I" } : Jvm.MethodName) prog_16_method_44_code (3 : Nat) (Option.some Jvm.ClassFile.FieldType.int)) ∈ lw_all := lw_g (lw_at lw_m7 50 rfl) rfl
theorem q1624 : (Jvm.Cond.methodLink "BackRescueModel" (232 : Nat) ({ cls := "BackRescueModel", name := "standNow", desc := "()I" } : Jvm.MethodName)) ∈ lw_all := lw_g (lw_at lw_m7 51 rfl) rfl
theorem q1625 : (Jvm.Cond.privateMethod ({ cls := "BackRescueModel", name := "standNow", desc := "()I" } : Jvm.MethodName)) ∈ lw_tbl := lw_at lw_m7 52 rfl
theorem q1626 : (Jvm.Cond.instanceMethod ({ cls := "BackRescueModel", name := "standNow", desc := "()I" } : Jvm.MethodName)) ∈ lw_all := lw_g (lw_at lw_m7 53 rfl) rfl
theorem q1627 : (Jvm.Cond.code ({ cls := "BackRescueModel", name := "standNow", desc := "()I" } : Jvm.MethodName) prog_16_method_39_code (1 : Nat) (Option.some Jvm.ClassFile.FieldType.int)) ∈ lw_all := lw_g (lw_at lw_m7 54 rfl) rfl
theorem q1628 : (Jvm.Cond.methodLink "BackRescueModel" (235 : Nat) ({ cls := "BackRescueModel", name := "whyBy", desc := "(IIII)I" } : Jvm.MethodName)) ∈ lw_all := lw_g (lw_at lw_m7 55 rfl) rfl
theorem q1629 : (Jvm.Cond.privateMethod ({ cls := "BackRescueModel", name := "whyBy", desc := "(IIII)I" } : Jvm.MethodName)) ∈ lw_tbl := lw_at lw_m7 56 rfl
theorem q1630 : (Jvm.Cond.instanceMethod ({ cls := "BackRescueModel", name := "whyBy", desc := "(IIII)I" } : Jvm.MethodName)) ∈ lw_all := lw_g (lw_at lw_m7 57 rfl) rfl
theorem q1631 : (Jvm.Cond.code ({ cls := "BackRescueModel", name := "whyBy", desc := "(IIII)I" } : Jvm.MethodName) prog_16_method_42_code (6 : Nat) (Option.some Jvm.ClassFile.FieldType.int)) ∈ lw_all := lw_g (lw_at lw_m7 58 rfl) rfl
theorem q1632 : (Jvm.Cond.methodLink "BackRescueModel" (217 : Nat) ({ cls := "BackRescueModel", name := "isLost", desc := "(I)Z" } : Jvm.MethodName)) ∈ lw_all := lw_g (lw_at lw_m7 59 rfl) rfl
theorem q1633 : (Jvm.Cond.static ({ cls := "BackRescueModel", name := "isLost", desc := "(I)Z" } : Jvm.MethodName)) ∈ lw_all := lw_g (lw_at lw_m7 60 rfl) rfl
theorem q1634 : (Jvm.Cond.code ({ cls := "BackRescueModel", name := "isLost", desc := "(I)Z" } : Jvm.MethodName) prog_16_method_37_code (1 : Nat) (Option.some Jvm.ClassFile.FieldType.boolean)) ∈ lw_all := lw_g (lw_at lw_m7 61 rfl) rfl
theorem q1635 : (Jvm.Cond.methodLink "BackRescueModel" (220 : Nat) ({ cls := "BackRescueModel", name := "reckons", desc := "(IIIII)I" } : Jvm.MethodName)) ∈ lw_all := lw_g (lw_at lw_m7 62 rfl) rfl
theorem q1636 : (Jvm.Cond.privateMethod ({ cls := "BackRescueModel", name := "reckons", desc := "(IIIII)I" } : Jvm.MethodName)) ∈ lw_tbl := lw_at lw_m7 63 rfl
theorem q1637 : (Jvm.Cond.instanceMethod ({ cls := "BackRescueModel", name := "reckons", desc := "(IIIII)I" } : Jvm.MethodName)) ∈ lw_all := lw_g (lw_at lw_m7 64 rfl) rfl
theorem q1638 : (Jvm.Cond.code ({ cls := "BackRescueModel", name := "reckons", desc := "(IIIII)I" } : Jvm.MethodName) prog_16_method_41_code (10 : Nat) (Option.some Jvm.ClassFile.FieldType.int)) ∈ lw_all := lw_g (lw_at lw_m7 65 rfl) rfl
theorem q1639 : (Jvm.Cond.methodLink "BackRescueModel" (213 : Nat) ({ cls := "BackRescueModel", name := "between", desc := "(III)I" } : Jvm.MethodName)) ∈ lw_all := lw_g (lw_at lw_m7 66 rfl) rfl
theorem q1640 : (Jvm.Cond.static ({ cls := "BackRescueModel", name := "between", desc := "(III)I" } : Jvm.MethodName)) ∈ lw_all := lw_g (lw_at lw_m7 67 rfl) rfl
theorem q1641 : (Jvm.Cond.code ({ cls := "BackRescueModel", name := "between", desc := "(III)I" } : Jvm.MethodName) prog_16_method_40_code (5 : Nat) (Option.some Jvm.ClassFile.FieldType.int)) ∈ lw_all := lw_g (lw_at lw_m7 68 rfl) rfl
theorem q1642 : (Jvm.Cond.constantLong "BackRescueModel" (209 : Nat) (1000000 : Int64)) ∈ lw_all := lw_g (lw_at lw_m7 69 rfl) rfl
theorem q1643 : (Jvm.Cond.constantLong "BackRescueModel" (211 : Nat) (-1000000 : Int64)) ∈ lw_all := lw_g (lw_at lw_m7 70 rfl) rfl
theorem q1645 : (Jvm.Cond.instanceMethod ({ cls := "BackRescueModel", name := "by", desc := "(II)I" } : Jvm.MethodName)) ∈ lw_all := lw_g (lw_at lw_m7 72 rfl) rfl
theorem q1646 : (Jvm.Cond.selects "BackRescueModel" ({ cls := "BackRescueModel", name := "by", desc := "(II)I" } : Jvm.MethodName) ({ cls := "BackRescueModel", name := "by", desc := "(II)I" } : Jvm.MethodName)) ∈ lw_all := lw_g (lw_at lw_m7 73 rfl) rfl
theorem q1647 : (Jvm.Cond.code ({ cls := "BackRescueModel", name := "by", desc := "(II)I" } : Jvm.MethodName) prog_16_method_48_code (3 : Nat) (Option.some Jvm.ClassFile.FieldType.int)) ∈ lw_all := lw_g (lw_at lw_m7 74 rfl) rfl
theorem q1648 : (Jvm.Cond.methodLink "BackRescueModel" (246 : Nat) ({ cls := "BackRescueModel", name := "toBy", desc := "(I)I" } : Jvm.MethodName)) ∈ lw_all := lw_g (lw_at lw_m7 75 rfl) rfl
theorem q1649 : (Jvm.Cond.privateMethod ({ cls := "BackRescueModel", name := "toBy", desc := "(I)I" } : Jvm.MethodName)) ∈ lw_tbl := lw_at lw_m7 76 rfl
theorem q1650 : (Jvm.Cond.instanceMethod ({ cls := "BackRescueModel", name := "toBy", desc := "(I)I" } : Jvm.MethodName)) ∈ lw_all := lw_g (lw_at lw_m7 77 rfl) rfl
theorem q1651 : (Jvm.Cond.code ({ cls := "BackRescueModel", name := "toBy", desc := "(I)I" } : Jvm.MethodName) prog_16_method_45_code (2 : Nat) (Option.some Jvm.ClassFile.FieldType.int)) ∈ lw_all := lw_g (lw_at lw_m7 78 rfl) rfl
theorem q1652 : (Jvm.Cond.methodLink "BackRescueModel" (239 : Nat) ({ cls := "BackRescueModel", name := "goneTo", desc := "(IIII)I" } : Jvm.MethodName)) ∈ lw_all := lw_g (lw_at lw_m7 79 rfl) rfl
theorem q1653 : (Jvm.Cond.privateMethod ({ cls := "BackRescueModel", name := "goneTo", desc := "(IIII)I" } : Jvm.MethodName)) ∈ lw_tbl := lw_at lw_m7 80 rfl
theorem q1654 : (Jvm.Cond.instanceMethod ({ cls := "BackRescueModel", name := "goneTo", desc := "(IIII)I" } : Jvm.MethodName)) ∈ lw_all := lw_g (lw_at lw_m7 81 rfl) rfl
theorem q1655 : (Jvm.Cond.code ({ cls := "BackRescueModel", name := "goneTo", desc := "(IIII)I" } : Jvm.MethodName) prog_16_method_43_code (7 : Nat) (Option.some Jvm.ClassFile.FieldType.int)) ∈ lw_all := lw_g (lw_at lw_m7 82 rfl) rfl
theorem q1656 : (Jvm.Cond.methodLink "BackRescueModel" (224 : Nat) ({ cls := "BackRescueModel", name := "isIn", desc := "(JI)Z" } : Jvm.MethodName)) ∈ lw_all := lw_g (lw_at lw_m7 83 rfl) rfl
theorem q1657 : (Jvm.Cond.static ({ cls := "BackRescueModel", name := "isIn", desc := "(JI)Z" } : Jvm.MethodName)) ∈ lw_all := lw_g (lw_at lw_m7 84 rfl) rfl
theorem q1658 : (Jvm.Cond.code ({ cls := "BackRescueModel", name := "isIn", desc := "(JI)Z" } : Jvm.MethodName) prog_16_method_15_code (3 : Nat) (Option.some Jvm.ClassFile.FieldType.boolean)) ∈ lw_all := lw_g (lw_at lw_m7 85 rfl) rfl
theorem q1660 : (Jvm.Cond.instanceMethod ({ cls := "BackRescueModel", name := "go", desc := "(I)I" } : Jvm.MethodName)) ∈ lw_all := lw_g (lw_at lw_m7 87 rfl) rfl
theorem q1661 : (Jvm.Cond.selects "BackRescueModel" ({ cls := "BackRescueModel", name := "go", desc := "(I)I" } : Jvm.MethodName) ({ cls := "BackRescueModel", name := "go", desc := "(I)I" } : Jvm.MethodName)) ∈ lw_all := lw_g (lw_at lw_m7 88 rfl) rfl
theorem q1662 : (Jvm.Cond.code ({ cls := "BackRescueModel", name := "go", desc := "(I)I" } : Jvm.MethodName) prog_16_method_54_code (3 : Nat) (Option.some Jvm.ClassFile.FieldType.int)) ∈ lw_all := lw_g (lw_at lw_m7 89 rfl) rfl
theorem q1663 : (Jvm.Cond.methodLink "BackRescueModel" (252 : Nat) ({ cls := "BackRescueModel", name := "keeps", desc := "()V" } : Jvm.MethodName)) ∈ lw_all := lw_g (lw_at lw_m7 90 rfl) rfl
theorem q1664 : (Jvm.Cond.privateMethod ({ cls := "BackRescueModel", name := "keeps", desc := "()V" } : Jvm.MethodName)) ∈ lw_tbl := lw_at lw_m7 91 rfl
theorem q1665 : (Jvm.Cond.instanceMethod ({ cls := "BackRescueModel", name := "keeps", desc := "()V" } : Jvm.MethodName)) ∈ lw_all := lw_g (lw_at lw_m7 92 rfl) rfl
theorem q1666 : (Jvm.Cond.code ({ cls := "BackRescueModel", name := "keeps", desc := "()V" } : Jvm.MethodName) prog_16_method_49_code (2 : Nat) (Option.none : Option Jvm.ClassFile.FieldType)) ∈ lw_all := lw_g (lw_at lw_m7 93 rfl) rfl
theorem q1667 : (Jvm.Cond.methodLink "BackRescueModel" (255 : Nat) ({ cls := "BackRescueModel", name := "steps", desc := "(I)V" } : Jvm.MethodName)) ∈ lw_all := lw_g (lw_at lw_m7 94 rfl) rfl
theorem q1668 : (Jvm.Cond.privateMethod ({ cls := "BackRescueModel", name := "steps", desc := "(I)V" } : Jvm.MethodName)) ∈ lw_tbl := lw_at lw_m7 95 rfl
theorem q1669 : (Jvm.Cond.instanceMethod ({ cls := "BackRescueModel", name := "steps", desc := "(I)V" } : Jvm.MethodName)) ∈ lw_all := lw_g (lw_at lw_m7 96 rfl) rfl
theorem q1670 : (Jvm.Cond.code ({ cls := "BackRescueModel", name := "steps", desc := "(I)V" } : Jvm.MethodName) prog_16_method_53_code (2 : Nat) (Option.none : Option Jvm.ClassFile.FieldType)) ∈ lw_all := lw_g (lw_at lw_m7 97 rfl) rfl
theorem q1671 : (Jvm.Cond.methodLink "BackRescueModel" (249 : Nat) ({ cls := "BackRescueModel", name := "isAt", desc := "(I)V" } : Jvm.MethodName)) ∈ lw_all := lw_g (lw_at lw_m7 98 rfl) rfl
theorem q1672 : (Jvm.Cond.privateMethod ({ cls := "BackRescueModel", name := "isAt", desc := "(I)V" } : Jvm.MethodName)) ∈ lw_tbl := lw_at lw_m7 99 rfl
theorem q1673 : (Jvm.Cond.instanceMethod ({ cls := "BackRescueModel", name := "isAt", desc := "(I)V" } : Jvm.MethodName)) ∈ lw_all := lw_g (lw_at lw_m7 100 rfl) rfl
theorem q1674 : (Jvm.Cond.code ({ cls := "BackRescueModel", name := "isAt", desc := "(I)V" } : Jvm.MethodName) prog_16_method_52_code (2 : Nat) (Option.none : Option Jvm.ClassFile.FieldType)) ∈ lw_all := lw_g (lw_at lw_m7 101 rfl) rfl
theorem q1675 : (Jvm.Cond.methodLink "BackRescueModel" (258 : Nat) ({ cls := "BackRescueModel", name := "notes", desc := "()V" } : Jvm.MethodName)) ∈ lw_all := lw_g (lw_at lw_m7 102 rfl) rfl
theorem q1676 : (Jvm.Cond.privateMethod ({ cls := "BackRescueModel", name := "notes", desc := "()V" } : Jvm.MethodName)) ∈ lw_tbl := lw_at lw_m7 103 rfl
theorem q1677 : (Jvm.Cond.instanceMethod ({ cls := "BackRescueModel", name := "notes", desc := "()V" } : Jvm.MethodName)) ∈ lw_all := lw_g (lw_at lw_m7 104 rfl) rfl
theorem q1678 : (Jvm.Cond.code ({ cls := "BackRescueModel", name := "notes", desc := "()V" } : Jvm.MethodName) prog_16_method_51_code (2 : Nat) (Option.none : Option Jvm.ClassFile.FieldType)) ∈ lw_all := lw_g (lw_at lw_m7 105 rfl) rfl
theorem q1680 : (Jvm.Cond.instanceMethod ({ cls := "BackRescueModel", name := "rope", desc := "(I)I" } : Jvm.MethodName)) ∈ lw_all := lw_g (lw_at lw_m7 107 rfl) rfl
theorem q1681 : (Jvm.Cond.selects "BackRescueModel" ({ cls := "BackRescueModel", name := "rope", desc := "(I)I" } : Jvm.MethodName) ({ cls := "BackRescueModel", name := "rope", desc := "(I)I" } : Jvm.MethodName)) ∈ lw_all := lw_g (lw_at lw_m7 108 rfl) rfl
theorem q1682 : (Jvm.Cond.code ({ cls := "BackRescueModel", name := "rope", desc := "(I)I" } : Jvm.MethodName) prog_16_method_55_code (2 : Nat) (Option.some Jvm.ClassFile.FieldType.int)) ∈ lw_all := lw_g (lw_at lw_m7 109 rfl) rfl
theorem q1684 : (Jvm.Cond.instanceMethod ({ cls := "BackRescueModel", name := "put", desc := "(II)I" } : Jvm.MethodName)) ∈ lw_all := lw_g (lw_at lw_m7 111 rfl) rfl
theorem q1685 : (Jvm.Cond.selects "BackRescueModel" ({ cls := "BackRescueModel", name := "put", desc := "(II)I" } : Jvm.MethodName) ({ cls := "BackRescueModel", name := "put", desc := "(II)I" } : Jvm.MethodName)) ∈ lw_all := lw_g (lw_at lw_m7 112 rfl) rfl
theorem q1686 : (Jvm.Cond.code ({ cls := "BackRescueModel", name := "put", desc := "(II)I" } : Jvm.MethodName) prog_16_method_56_code (3 : Nat) (Option.some Jvm.ClassFile.FieldType.int)) ∈ lw_all := lw_g (lw_at lw_m7 113 rfl) rfl
theorem q1687 : (Jvm.Cond.methodLink "BackRescueModel" (261 : Nat) ({ cls := "BackRescueModel", name := "isRoom", desc := "(J)Z" } : Jvm.MethodName)) ∈ lw_all := lw_g (lw_at lw_m7 114 rfl) rfl
theorem q1688 : (Jvm.Cond.privateMethod ({ cls := "BackRescueModel", name := "isRoom", desc := "(J)Z" } : Jvm.MethodName)) ∈ lw_tbl := lw_at lw_m7 115 rfl
theorem q1689 : (Jvm.Cond.instanceMethod ({ cls := "BackRescueModel", name := "isRoom", desc := "(J)Z" } : Jvm.MethodName)) ∈ lw_all := lw_g (lw_at lw_m7 116 rfl) rfl
theorem q1690 : (Jvm.Cond.code ({ cls := "BackRescueModel", name := "isRoom", desc := "(J)Z" } : Jvm.MethodName) prog_16_method_34_code (3 : Nat) (Option.some Jvm.ClassFile.FieldType.boolean)) ∈ lw_all := lw_g (lw_at lw_m7 117 rfl) rfl
theorem q1691 : (Jvm.Cond.methodLink "BackRescueModel" (264 : Nat) ({ cls := "BackRescueModel", name := "isHurt", desc := "(J)Z" } : Jvm.MethodName)) ∈ lw_all := lw_g (lw_at lw_m7 118 rfl) rfl
theorem q1692 : (Jvm.Cond.static ({ cls := "BackRescueModel", name := "isHurt", desc := "(J)Z" } : Jvm.MethodName)) ∈ lw_all := lw_g (lw_at lw_m7 119 rfl) rfl
theorem q1693 : (Jvm.Cond.code ({ cls := "BackRescueModel", name := "isHurt", desc := "(J)Z" } : Jvm.MethodName) prog_16_method_36_code (2 : Nat) (Option.some Jvm.ClassFile.FieldType.boolean)) ∈ lw_all := lw_g (lw_at lw_m7 120 rfl) rfl
theorem q1694 : (Jvm.Cond.constantLong "BackRescueModel" (207 : Nat) (5 : Int64)) ∈ lw_all := lw_g (lw_at lw_m7 121 rfl) rfl
theorem q1696 : (Jvm.Cond.instanceMethod ({ cls := "BackRescueModel", name := "slack", desc := "(I)I" } : Jvm.MethodName)) ∈ lw_all := lw_g (lw_at lw_m7 123 rfl) rfl
theorem q1697 : (Jvm.Cond.selects "BackRescueModel" ({ cls := "BackRescueModel", name := "slack", desc := "(I)I" } : Jvm.MethodName) ({ cls := "BackRescueModel", name := "slack", desc := "(I)I" } : Jvm.MethodName)) ∈ lw_all := lw_g (lw_at lw_m7 124 rfl) rfl
theorem q1698 : (Jvm.Cond.code ({ cls := "BackRescueModel", name := "slack", desc := "(I)I" } : Jvm.MethodName) prog_16_method_57_code (2 : Nat) (Option.some Jvm.ClassFile.FieldType.int)) ∈ lw_all := lw_g (lw_at lw_m7 125 rfl) rfl
theorem q1699 : (Jvm.Cond.constantLong "BackRescueModel" (267 : Nat) (9 : Int64)) ∈ lw_all := lw_g (lw_at lw_m7 126 rfl) rfl
theorem q1701 : (Jvm.Cond.instanceMethod ({ cls := "BackRescueModel", name := "undo", desc := "(I)I" } : Jvm.MethodName)) ∈ lw_all := lw_g (lw_at lw_m7 128 rfl) rfl
theorem q1702 : (Jvm.Cond.selects "BackRescueModel" ({ cls := "BackRescueModel", name := "undo", desc := "(I)I" } : Jvm.MethodName) ({ cls := "BackRescueModel", name := "undo", desc := "(I)I" } : Jvm.MethodName)) ∈ lw_all := lw_g (lw_at lw_m7 129 rfl) rfl
theorem q1703 : (Jvm.Cond.code ({ cls := "BackRescueModel", name := "undo", desc := "(I)I" } : Jvm.MethodName) prog_16_method_58_code (3 : Nat) (Option.some Jvm.ClassFile.FieldType.int)) ∈ lw_all := lw_g (lw_at lw_m7 130 rfl) rfl
theorem q1704 : (Jvm.Cond.constantLong "BackRescueModel" (269 : Nat) (10 : Int64)) ∈ lw_all := lw_g (lw_at lw_m7 131 rfl) rfl
theorem q1706 : (Jvm.Cond.instanceMethod ({ cls := "BackRescueModel", name := "judge", desc := "(II)I" } : Jvm.MethodName)) ∈ lw_all := lw_g (lw_at lw_m7 133 rfl) rfl
theorem q1707 : (Jvm.Cond.selects "BackRescueModel" ({ cls := "BackRescueModel", name := "judge", desc := "(II)I" } : Jvm.MethodName) ({ cls := "BackRescueModel", name := "judge", desc := "(II)I" } : Jvm.MethodName)) ∈ lw_all := lw_g (lw_at lw_m7 134 rfl) rfl
theorem q1708 : (Jvm.Cond.code ({ cls := "BackRescueModel", name := "judge", desc := "(II)I" } : Jvm.MethodName) prog_16_method_63_code (6 : Nat) (Option.some Jvm.ClassFile.FieldType.int)) ∈ lw_all := lw_g (lw_at lw_m7 135 rfl) rfl
theorem q1709 : (Jvm.Cond.constantLong "BackRescueModel" (290 : Nat) (3 : Int64)) ∈ lw_all := lw_g (lw_at lw_m7 136 rfl) rfl
theorem q1710 : (Jvm.Cond.methodLink "BackRescueModel" (292 : Nat) ({ cls := "BackRescueModel", name := "noTray", desc := "(I)I" } : Jvm.MethodName)) ∈ lw_all := lw_g (lw_at lw_m7 137 rfl) rfl
theorem q1711 : (Jvm.Cond.privateMethod ({ cls := "BackRescueModel", name := "noTray", desc := "(I)I" } : Jvm.MethodName)) ∈ lw_tbl := lw_at lw_m7 138 rfl
theorem q1712 : (Jvm.Cond.instanceMethod ({ cls := "BackRescueModel", name := "noTray", desc := "(I)I" } : Jvm.MethodName)) ∈ lw_all := lw_g (lw_at lw_m7 139 rfl) rfl
theorem q1713 : (Jvm.Cond.code ({ cls := "BackRescueModel", name := "noTray", desc := "(I)I" } : Jvm.MethodName) prog_16_method_62_code (2 : Nat) (Option.some Jvm.ClassFile.FieldType.int)) ∈ lw_all := lw_g (lw_at lw_m7 140 rfl) rfl
theorem q1714 : (Jvm.Cond.methodLink "BackRescueModel" (295 : Nat) ({ cls := "BackRescueModel", name := "tells", desc := "(I)I" } : Jvm.MethodName)) ∈ lw_all := lw_g (lw_at lw_m7 141 rfl) rfl
theorem q1715 : (Jvm.Cond.privateMethod ({ cls := "BackRescueModel", name := "tells", desc := "(I)I" } : Jvm.MethodName)) ∈ lw_tbl := lw_at lw_m7 142 rfl
theorem q1716 : (Jvm.Cond.instanceMethod ({ cls := "BackRescueModel", name := "tells", desc := "(I)I" } : Jvm.MethodName)) ∈ lw_all := lw_g (lw_at lw_m7 143 rfl) rfl
theorem q1717 : (Jvm.Cond.code ({ cls := "BackRescueModel", name := "tells", desc := "(I)I" } : Jvm.MethodName) prog_16_method_61_code (3 : Nat) (Option.some Jvm.ClassFile.FieldType.int)) ∈ lw_all := lw_g (lw_at lw_m7 144 rfl) rfl
theorem q1718 : (Jvm.Cond.methodLink "BackRescueModel" (284 : Nat) ({ cls := "BackRescueModel", name := "whyNot", desc := "(J)I" } : Jvm.MethodName)) ∈ lw_all := lw_g (lw_at lw_m7 145 rfl) rfl
theorem q1719 : (Jvm.Cond.privateMethod ({ cls := "BackRescueModel", name := "whyNot", desc := "(J)I" } : Jvm.MethodName)) ∈ lw_tbl := lw_at lw_m7 146 rfl
theorem q1720 : (Jvm.Cond.instanceMethod ({ cls := "BackRescueModel", name := "whyNot", desc := "(J)I" } : Jvm.MethodName)) ∈ lw_all := lw_g (lw_at lw_m7 147 rfl) rfl
theorem q1721 : (Jvm.Cond.code ({ cls := "BackRescueModel", name := "whyNot", desc := "(J)I" } : Jvm.MethodName) prog_16_method_59_code (3 : Nat) (Option.some Jvm.ClassFile.FieldType.int)) ∈ lw_all := lw_g (lw_at lw_m7 148 rfl) rfl
theorem q1722 : (Jvm.Cond.constantLong "BackRescueModel" (271 : Nat) (19 : Int64)) ∈ lw_all := lw_g (lw_at lw_m7 149 rfl) rfl
theorem q1723 : (Jvm.Cond.constantLong "BackRescueModel" (273 : Nat) (20 : Int64)) ∈ lw_all := lw_g (lw_at lw_m7 150 rfl) rfl
theorem q1724 : (Jvm.Cond.constantLong "BackRescueModel" (275 : Nat) (29 : Int64)) ∈ lw_all := lw_g (lw_at lw_m7 151 rfl) rfl
theorem q1725 : (Jvm.Cond.constantLong "BackRescueModel" (277 : Nat) (100 : Int64)) ∈ lw_all := lw_g (lw_at lw_m7 152 rfl) rfl
theorem q1726 : (Jvm.Cond.constantLong "BackRescueModel" (279 : Nat) (199 : Int64)) ∈ lw_all := lw_g (lw_at lw_m7 153 rfl) rfl
theorem q1727 : (Jvm.Cond.methodLink "BackRescueModel" (287 : Nat) ({ cls := "BackRescueModel", name := "does", desc := "(I)V" } : Jvm.MethodName)) ∈ lw_all := lw_g (lw_at lw_m7 154 rfl) rfl
theorem q1728 : (Jvm.Cond.privateMethod ({ cls := "BackRescueModel", name := "does", desc := "(I)V" } : Jvm.MethodName)) ∈ lw_tbl := lw_at lw_m7 155 rfl
theorem q1729 : (Jvm.Cond.instanceMethod ({ cls := "BackRescueModel", name := "does", desc := "(I)V" } : Jvm.MethodName)) ∈ lw_all := lw_g (lw_at lw_m7 156 rfl) rfl
theorem q1730 : (Jvm.Cond.code ({ cls := "BackRescueModel", name := "does", desc := "(I)V" } : Jvm.MethodName) prog_16_method_60_code (2 : Nat) (Option.none : Option Jvm.ClassFile.FieldType)) ∈ lw_all := lw_g (lw_at lw_m7 157 rfl) rfl
theorem q1731 : (Jvm.Cond.methodLink "BackRescueModel" (298 : Nat) ({ cls := "BackRescueModel", name := "isAgain", desc := "()V" } : Jvm.MethodName)) ∈ lw_all := lw_g (lw_at lw_m7 158 rfl) rfl
theorem q1732 : (Jvm.Cond.privateMethod ({ cls := "BackRescueModel", name := "isAgain", desc := "()V" } : Jvm.MethodName)) ∈ lw_tbl := lw_at lw_m7 159 rfl
theorem q1733 : (Jvm.Cond.instanceMethod ({ cls := "BackRescueModel", name := "isAgain", desc := "()V" } : Jvm.MethodName)) ∈ lw_all := lw_g (lw_at lw_m7 160 rfl) rfl
theorem q1734 : (Jvm.Cond.code ({ cls := "BackRescueModel", name := "isAgain", desc := "()V" } : Jvm.MethodName) prog_16_method_50_code (2 : Nat) (Option.none : Option Jvm.ClassFile.FieldType)) ∈ lw_all := lw_g (lw_at lw_m7 161 rfl) rfl
theorem q1736 : (Jvm.Cond.instanceMethod ({ cls := "BackRescueModel", name := "perform", desc := "(I)I" } : Jvm.MethodName)) ∈ lw_all := lw_g (lw_at lw_m7 163 rfl) rfl
theorem q1737 : (Jvm.Cond.selects "BackRescueModel" ({ cls := "BackRescueModel", name := "perform", desc := "(I)I" } : Jvm.MethodName) ({ cls := "BackRescueModel", name := "perform", desc := "(I)I" } : Jvm.MethodName)) ∈ lw_all := lw_g (lw_at lw_m7 164 rfl) rfl
theorem q1738 : (Jvm.Cond.code ({ cls := "BackRescueModel", name := "perform", desc := "(I)I" } : Jvm.MethodName) prog_16_method_64_code (4 : Nat) (Option.some Jvm.ClassFile.FieldType.int)) ∈ lw_all := lw_g (lw_at lw_m7 165 rfl) rfl
theorem q1740 : (Jvm.Cond.instanceMethod ({ cls := "BackRescueModel", name := "day", desc := "(II)I" } : Jvm.MethodName)) ∈ lw_all := lw_g (lw_at lw_m7 167 rfl) rfl
theorem q1741 : (Jvm.Cond.selects "BackRescueModel" ({ cls := "BackRescueModel", name := "day", desc := "(II)I" } : Jvm.MethodName) ({ cls := "BackRescueModel", name := "day", desc := "(II)I" } : Jvm.MethodName)) ∈ lw_all := lw_g (lw_at lw_m7 168 rfl) rfl
theorem q1742 : (Jvm.Cond.code ({ cls := "BackRescueModel", name := "day", desc := "(II)I" } : Jvm.MethodName) prog_16_method_67_code (6 : Nat) (Option.some Jvm.ClassFile.FieldType.int)) ∈ lw_all := lw_g (lw_at lw_m7 169 rfl) rfl
theorem q1743 : (Jvm.Cond.constantLong "BackRescueModel" (308 : Nat) (40 : Int64)) ∈ lw_all := lw_g (lw_at lw_m7 170 rfl) rfl
theorem q1744 : (Jvm.Cond.methodLink "BackRescueModel" (310 : Nat) ({ cls := "BackRescueModel", name := "drawn", desc := "()I" } : Jvm.MethodName)) ∈ lw_all := lw_g (lw_at lw_m7 171 rfl) rfl
theorem q1745 : (Jvm.Cond.privateMethod ({ cls := "BackRescueModel", name := "drawn", desc := "()I" } : Jvm.MethodName)) ∈ lw_tbl := lw_at lw_m7 172 rfl
theorem q1746 : (Jvm.Cond.instanceMethod ({ cls := "BackRescueModel", name := "drawn", desc := "()I" } : Jvm.MethodName)) ∈ lw_all := lw_g (lw_at lw_m7 173 rfl) rfl
theorem q1747 : (Jvm.Cond.code ({ cls := "BackRescueModel", name := "drawn", desc := "()I" } : Jvm.MethodName) prog_16_method_66_code (3 : Nat) (Option.some Jvm.ClassFile.FieldType.int)) ∈ lw_all := lw_g (lw_at lw_m7 174 rfl) rfl
theorem q1748 : (Jvm.Cond.methodLink "BackRescueModel" (305 : Nat) ({ cls := "BackRescueModel", name := "draw", desc := "(I)I" } : Jvm.MethodName)) ∈ lw_all := lw_g (lw_at lw_m7 175 rfl) rfl
theorem q1749 : (Jvm.Cond.privateMethod ({ cls := "BackRescueModel", name := "draw", desc := "(I)I" } : Jvm.MethodName)) ∈ lw_tbl := lw_at lw_m7 176 rfl
theorem q1750 : (Jvm.Cond.instanceMethod ({ cls := "BackRescueModel", name := "draw", desc := "(I)I" } : Jvm.MethodName)) ∈ lw_all := lw_g (lw_at lw_m7 177 rfl) rfl
theorem q1751 : (Jvm.Cond.code ({ cls := "BackRescueModel", name := "draw", desc := "(I)I" } : Jvm.MethodName) prog_16_method_65_code (2 : Nat) (Option.some Jvm.ClassFile.FieldType.int)) ∈ lw_all := lw_g (lw_at lw_m7 178 rfl) rfl
theorem q1752 : (Jvm.Cond.constant "BackRescueModel" (301 : Nat) (1103515245 : Int32)) ∈ lw_all := lw_g (lw_at lw_m7 179 rfl) rfl
theorem q1754 : (Jvm.Cond.instanceMethod ({ cls := "BackRescueModel", name := "soonest", desc := "(II)I" } : Jvm.MethodName)) ∈ lw_all := lw_g (lw_at lw_m7 181 rfl) rfl
theorem q1755 : (Jvm.Cond.selects "BackRescueModel" ({ cls := "BackRescueModel", name := "soonest", desc := "(II)I" } : Jvm.MethodName) ({ cls := "BackRescueModel", name := "soonest", desc := "(II)I" } : Jvm.MethodName)) ∈ lw_all := lw_g (lw_at lw_m7 182 rfl) rfl
theorem q1756 : (Jvm.Cond.code ({ cls := "BackRescueModel", name := "soonest", desc := "(II)I" } : Jvm.MethodName) prog_16_method_75_code (5 : Nat) (Option.some Jvm.ClassFile.FieldType.int)) ∈ lw_all := lw_g (lw_at lw_m7 183 rfl) rfl
theorem q1757 : (Jvm.Cond.methodLink "BackRescueModel" (328 : Nat) ({ cls := "BackRescueModel", name := "noComing", desc := "(II)I" } : Jvm.MethodName)) ∈ lw_all := lw_g (lw_at lw_m7 184 rfl) rfl
theorem q1758 : (Jvm.Cond.privateMethod ({ cls := "BackRescueModel", name := "noComing", desc := "(II)I" } : Jvm.MethodName)) ∈ lw_tbl := lw_at lw_m7 185 rfl
theorem q1759 : (Jvm.Cond.instanceMethod ({ cls := "BackRescueModel", name := "noComing", desc := "(II)I" } : Jvm.MethodName)) ∈ lw_all := lw_g (lw_at lw_m7 186 rfl) rfl
theorem q1760 : (Jvm.Cond.code ({ cls := "BackRescueModel", name := "noComing", desc := "(II)I" } : Jvm.MethodName) prog_16_method_73_code (3 : Nat) (Option.some Jvm.ClassFile.FieldType.int)) ∈ lw_all := lw_g (lw_at lw_m7 187 rfl) rfl
theorem q1761 : (Jvm.Cond.constantLong "BackRescueModel" (326 : Nat) (4 : Int64)) ∈ lw_all := lw_g (lw_at lw_m7 188 rfl) rfl
theorem q1762 : (Jvm.Cond.methodLink "BackRescueModel" (331 : Nat) ({ cls := "BackRescueModel", name := "laysComing", desc := "(III)I" } : Jvm.MethodName)) ∈ lw_all := lw_g (lw_at lw_m7 189 rfl) rfl
theorem q1763 : (Jvm.Cond.privateMethod ({ cls := "BackRescueModel", name := "laysComing", desc := "(III)I" } : Jvm.MethodName)) ∈ lw_tbl := lw_at lw_m7 190 rfl
theorem q1764 : (Jvm.Cond.instanceMethod ({ cls := "BackRescueModel", name := "laysComing", desc := "(III)I" } : Jvm.MethodName)) ∈ lw_all := lw_g (lw_at lw_m7 191 rfl) rfl
theorem q1765 : (Jvm.Cond.code ({ cls := "BackRescueModel", name := "laysComing", desc := "(III)I" } : Jvm.MethodName) prog_16_method_72_code (5 : Nat) (Option.some Jvm.ClassFile.FieldType.int)) ∈ lw_all := lw_g (lw_at lw_m7 192 rfl) rfl
theorem q1766 : (Jvm.Cond.methodLink "BackRescueModel" (320 : Nat) ({ cls := "BackRescueModel", name := "laysThen", desc := "(I)V" } : Jvm.MethodName)) ∈ lw_all := lw_g (lw_at lw_m7 193 rfl) rfl
theorem q1767 : (Jvm.Cond.privateMethod ({ cls := "BackRescueModel", name := "laysThen", desc := "(I)V" } : Jvm.MethodName)) ∈ lw_tbl := lw_at lw_m7 194 rfl
theorem q1768 : (Jvm.Cond.instanceMethod ({ cls := "BackRescueModel", name := "laysThen", desc := "(I)V" } : Jvm.MethodName)) ∈ lw_all := lw_g (lw_at lw_m7 195 rfl) rfl
theorem q1769 : (Jvm.Cond.code ({ cls := "BackRescueModel", name := "laysThen", desc := "(I)V" } : Jvm.MethodName) prog_16_method_68_code (4 : Nat) (Option.none : Option Jvm.ClassFile.FieldType)) ∈ lw_all := lw_g (lw_at lw_m7 196 rfl) rfl
theorem q1770 : (Jvm.Cond.methodLink "BackRescueModel" (314 : Nat) ({ cls := "BackRescueModel", name := "standsAll", desc := "()I" } : Jvm.MethodName)) ∈ lw_all := lw_g (lw_at lw_m7 197 rfl) rfl
theorem q1771 : (Jvm.Cond.privateMethod ({ cls := "BackRescueModel", name := "standsAll", desc := "()I" } : Jvm.MethodName)) ∈ lw_tbl := lw_at lw_m7 198 rfl
theorem q1772 : (Jvm.Cond.instanceMethod ({ cls := "BackRescueModel", name := "standsAll", desc := "()I" } : Jvm.MethodName)) ∈ lw_all := lw_g (lw_at lw_m7 199 rfl) rfl
theorem q1773 : (Jvm.Cond.code ({ cls := "BackRescueModel", name := "standsAll", desc := "()I" } : Jvm.MethodName) prog_16_method_69_code (1 : Nat) (Option.some Jvm.ClassFile.FieldType.int)) ∈ lw_all := lw_g (lw_at lw_m7 200 rfl) rfl
theorem q1774 : (Jvm.Cond.constant "BackRescueModel" (313 : Nat) (268435456 : Int32)) ∈ lw_all := lw_g (lw_at lw_m7 201 rfl) rfl
theorem q1775 : (Jvm.Cond.methodLink "BackRescueModel" (323 : Nat) ({ cls := "BackRescueModel", name := "laysFar", desc := "()V" } : Jvm.MethodName)) ∈ lw_all := lw_g (lw_at lw_m7 202 rfl) rfl
theorem q1776 : (Jvm.Cond.privateMethod ({ cls := "BackRescueModel", name := "laysFar", desc := "()V" } : Jvm.MethodName)) ∈ lw_tbl := lw_at lw_m7 203 rfl
theorem q1777 : (Jvm.Cond.instanceMethod ({ cls := "BackRescueModel", name := "laysFar", desc := "()V" } : Jvm.MethodName)) ∈ lw_all := lw_g (lw_at lw_m7 204 rfl) rfl
theorem q1778 : (Jvm.Cond.code ({ cls := "BackRescueModel", name := "laysFar", desc := "()V" } : Jvm.MethodName) prog_16_method_71_code (4 : Nat) (Option.none : Option Jvm.ClassFile.FieldType)) ∈ lw_all := lw_g (lw_at lw_m7 205 rfl) rfl
theorem q1779 : (Jvm.Cond.methodLink "BackRescueModel" (317 : Nat) ({ cls := "BackRescueModel", name := "farBy", desc := "(II)I" } : Jvm.MethodName)) ∈ lw_all := lw_g (lw_at lw_m7 206 rfl) rfl
theorem q1780 : (Jvm.Cond.privateMethod ({ cls := "BackRescueModel", name := "farBy", desc := "(II)I" } : Jvm.MethodName)) ∈ lw_tbl := lw_at lw_m7 207 rfl
theorem q1781 : (Jvm.Cond.instanceMethod ({ cls := "BackRescueModel", name := "farBy", desc := "(II)I" } : Jvm.MethodName)) ∈ lw_all := lw_g (lw_at lw_m7 208 rfl) rfl
theorem q1782 : (Jvm.Cond.code ({ cls := "BackRescueModel", name := "farBy", desc := "(II)I" } : Jvm.MethodName) prog_16_method_70_code (4 : Nat) (Option.some Jvm.ClassFile.FieldType.int)) ∈ lw_all := lw_g (lw_at lw_m7 209 rfl) rfl
theorem q1784 : (Jvm.Cond.instanceMethod ({ cls := "BackRescueModel", name := "way", desc := "(III)I" } : Jvm.MethodName)) ∈ lw_all := lw_g (lw_at lw_m7 211 rfl) rfl
theorem q1785 : (Jvm.Cond.selects "BackRescueModel" ({ cls := "BackRescueModel", name := "way", desc := "(III)I" } : Jvm.MethodName) ({ cls := "BackRescueModel", name := "way", desc := "(III)I" } : Jvm.MethodName)) ∈ lw_all := lw_g (lw_at lw_m7 212 rfl) rfl
theorem q1786 : (Jvm.Cond.code ({ cls := "BackRescueModel", name := "way", desc := "(III)I" } : Jvm.MethodName) prog_16_method_76_code (5 : Nat) (Option.some Jvm.ClassFile.FieldType.int)) ∈ lw_all := lw_g (lw_at lw_m7 213 rfl) rfl
theorem q1787 : (Jvm.Cond.methodLink "BackRescueModel" (334 : Nat) ({ cls := "BackRescueModel", name := "passageAt", desc := "(I)I" } : Jvm.MethodName)) ∈ lw_all := lw_g (lw_at lw_m7 214 rfl) rfl
theorem q1788 : (Jvm.Cond.privateMethod ({ cls := "BackRescueModel", name := "passageAt", desc := "(I)I" } : Jvm.MethodName)) ∈ lw_tbl := lw_at lw_m7 215 rfl
theorem q1789 : (Jvm.Cond.instanceMethod ({ cls := "BackRescueModel", name := "passageAt", desc := "(I)I" } : Jvm.MethodName)) ∈ lw_all := lw_g (lw_at lw_m7 216 rfl) rfl
theorem q1790 : (Jvm.Cond.code ({ cls := "BackRescueModel", name := "passageAt", desc := "(I)I" } : Jvm.MethodName) prog_16_method_74_code (5 : Nat) (Option.some Jvm.ClassFile.FieldType.int)) ∈ lw_all := lw_g (lw_at lw_m7 217 rfl) rfl
theorem q1792 : (Jvm.Cond.instanceMethod ({ cls := "BackRescueModel", name := "least", desc := "(I)I" } : Jvm.MethodName)) ∈ lw_all := lw_g (lw_at lw_m7 219 rfl) rfl
theorem q1793 : (Jvm.Cond.selects "BackRescueModel" ({ cls := "BackRescueModel", name := "least", desc := "(I)I" } : Jvm.MethodName) ({ cls := "BackRescueModel", name := "least", desc := "(I)I" } : Jvm.MethodName)) ∈ lw_all := lw_g (lw_at lw_m7 220 rfl) rfl
theorem q1794 : (Jvm.Cond.code ({ cls := "BackRescueModel", name := "least", desc := "(I)I" } : Jvm.MethodName) prog_16_method_77_code (3 : Nat) (Option.some Jvm.ClassFile.FieldType.int)) ∈ lw_all := lw_g (lw_at lw_m7 221 rfl) rfl
theorem q1796 : (Jvm.Cond.instanceMethod ({ cls := "BackRescueModel", name := "stands", desc := "()I" } : Jvm.MethodName)) ∈ lw_all := lw_g (lw_at lw_m7 223 rfl) rfl
theorem q1797 : (Jvm.Cond.selects "BackRescueModel" ({ cls := "BackRescueModel", name := "stands", desc := "()I" } : Jvm.MethodName) ({ cls := "BackRescueModel", name := "stands", desc := "()I" } : Jvm.MethodName)) ∈ lw_all := lw_g (lw_at lw_m7 224 rfl) rfl
theorem q1798 : (Jvm.Cond.code ({ cls := "BackRescueModel", name := "stands", desc := "()I" } : Jvm.MethodName) prog_16_method_80_code (1 : Nat) (Option.some Jvm.ClassFile.FieldType.int)) ∈ lw_all := lw_g (lw_at lw_m7 225 rfl) rfl
theorem q1799 : (Jvm.Cond.methodLink "BackRescueModel" (337 : Nat) ({ cls := "BackRescueModel", name := "laysReached", desc := "(IZ)V" } : Jvm.MethodName)) ∈ lw_all := lw_g (lw_at lw_m7 226 rfl) rfl
theorem q1800 : (Jvm.Cond.privateMethod ({ cls := "BackRescueModel", name := "laysReached", desc := "(IZ)V" } : Jvm.MethodName)) ∈ lw_tbl := lw_at lw_m7 227 rfl
theorem q1801 : (Jvm.Cond.instanceMethod ({ cls := "BackRescueModel", name := "laysReached", desc := "(IZ)V" } : Jvm.MethodName)) ∈ lw_all := lw_g (lw_at lw_m7 228 rfl) rfl
theorem q1802 : (Jvm.Cond.code ({ cls := "BackRescueModel", name := "laysReached", desc := "(IZ)V" } : Jvm.MethodName) prog_16_method_78_code (9 : Nat) (Option.none : Option Jvm.ClassFile.FieldType)) ∈ lw_all := lw_g (lw_at lw_m7 229 rfl) rfl
theorem q1803 : (Jvm.Cond.methodLink "BackRescueModel" (341 : Nat) ({ cls := "BackRescueModel", name := "unlost", desc := "()I" } : Jvm.MethodName)) ∈ lw_all := lw_g (lw_at lw_m7 230 rfl) rfl
theorem q1804 : (Jvm.Cond.privateMethod ({ cls := "BackRescueModel", name := "unlost", desc := "()I" } : Jvm.MethodName)) ∈ lw_tbl := lw_at lw_m7 231 rfl
theorem q1805 : (Jvm.Cond.instanceMethod ({ cls := "BackRescueModel", name := "unlost", desc := "()I" } : Jvm.MethodName)) ∈ lw_all := lw_g (lw_at lw_m7 232 rfl) rfl
theorem q1806 : (Jvm.Cond.code ({ cls := "BackRescueModel", name := "unlost", desc := "()I" } : Jvm.MethodName) prog_16_method_79_code (3 : Nat) (Option.some Jvm.ClassFile.FieldType.int)) ∈ lw_all := lw_g (lw_at lw_m7 233 rfl) rfl
theorem q1808 : (Jvm.Cond.instanceMethod ({ cls := "BackRescueModel", name := "before", desc := "(II)I" } : Jvm.MethodName)) ∈ lw_all := lw_g (lw_at lw_m7 235 rfl) rfl
theorem q1809 : (Jvm.Cond.selects "BackRescueModel" ({ cls := "BackRescueModel", name := "before", desc := "(II)I" } : Jvm.MethodName) ({ cls := "BackRescueModel", name := "before", desc := "(II)I" } : Jvm.MethodName)) ∈ lw_all := lw_g (lw_at lw_m7 236 rfl) rfl
theorem q1810 : (Jvm.Cond.code ({ cls := "BackRescueModel", name := "before", desc := "(II)I" } : Jvm.MethodName) prog_16_method_83_code (4 : Nat) (Option.some Jvm.ClassFile.FieldType.int)) ∈ lw_all := lw_g (lw_at lw_m7 237 rfl) rfl
theorem q1811 : (Jvm.Cond.methodLink "BackRescueModel" (344 : Nat) ({ cls := "BackRescueModel", name := "noStand", desc := "(II)I" } : Jvm.MethodName)) ∈ lw_all := lw_g (lw_at lw_m7 238 rfl) rfl
theorem q1812 : (Jvm.Cond.privateMethod ({ cls := "BackRescueModel", name := "noStand", desc := "(II)I" } : Jvm.MethodName)) ∈ lw_tbl := lw_at lw_m7 239 rfl
theorem q1813 : (Jvm.Cond.instanceMethod ({ cls := "BackRescueModel", name := "noStand", desc := "(II)I" } : Jvm.MethodName)) ∈ lw_all := lw_g (lw_at lw_m8 0 rfl) rfl
theorem q1814 : (Jvm.Cond.code ({ cls := "BackRescueModel", name := "noStand", desc := "(II)I" } : Jvm.MethodName) prog_16_method_82_code (3 : Nat) (Option.some Jvm.ClassFile.FieldType.int)) ∈ lw_all := lw_g (lw_at lw_m8 1 rfl) rfl
theorem q1815 : (Jvm.Cond.methodLink "BackRescueModel" (347 : Nat) ({ cls := "BackRescueModel", name := "beforeOf", desc := "(I)I" } : Jvm.MethodName)) ∈ lw_all := lw_g (lw_at lw_m8 2 rfl) rfl
theorem q1816 : (Jvm.Cond.privateMethod ({ cls := "BackRescueModel", name := "beforeOf", desc := "(I)I" } : Jvm.MethodName)) ∈ lw_tbl := lw_at lw_m8 3 rfl
theorem q1817 : (Jvm.Cond.instanceMethod ({ cls := "BackRescueModel", name := "beforeOf", desc := "(I)I" } : Jvm.MethodName)) ∈ lw_all := lw_g (lw_at lw_m8 4 rfl) rfl
theorem q1818 : (Jvm.Cond.code ({ cls := "BackRescueModel", name := "beforeOf", desc := "(I)I" } : Jvm.MethodName) prog_16_method_81_code (6 : Nat) (Option.some Jvm.ClassFile.FieldType.int)) ∈ lw_all := lw_g (lw_at lw_m8 5 rfl) rfl
theorem q1820 : (Jvm.Cond.instanceMethod ({ cls := "BackRescueModel", name := "ahead", desc := "(II)I" } : Jvm.MethodName)) ∈ lw_all := lw_g (lw_at lw_m8 7 rfl) rfl
theorem q1821 : (Jvm.Cond.selects "BackRescueModel" ({ cls := "BackRescueModel", name := "ahead", desc := "(II)I" } : Jvm.MethodName) ({ cls := "BackRescueModel", name := "ahead", desc := "(II)I" } : Jvm.MethodName)) ∈ lw_all := lw_g (lw_at lw_m8 8 rfl) rfl
theorem q1822 : (Jvm.Cond.code ({ cls := "BackRescueModel", name := "ahead", desc := "(II)I" } : Jvm.MethodName) prog_16_method_84_code (4 : Nat) (Option.some Jvm.ClassFile.FieldType.int)) ∈ lw_all := lw_g (lw_at lw_m8 9 rfl) rfl
theorem q1824 : (Jvm.Cond.instanceMethod ({ cls := "BackRescueModel", name := "orphans", desc := "()I" } : Jvm.MethodName)) ∈ lw_all := lw_g (lw_at lw_m8 11 rfl) rfl
theorem q1825 : (Jvm.Cond.selects "BackRescueModel" ({ cls := "BackRescueModel", name := "orphans", desc := "()I" } : Jvm.MethodName) ({ cls := "BackRescueModel", name := "orphans", desc := "()I" } : Jvm.MethodName)) ∈ lw_all := lw_g (lw_at lw_m8 12 rfl) rfl
theorem q1826 : (Jvm.Cond.code ({ cls := "BackRescueModel", name := "orphans", desc := "()I" } : Jvm.MethodName) prog_16_method_86_code (1 : Nat) (Option.some Jvm.ClassFile.FieldType.int)) ∈ lw_all := lw_g (lw_at lw_m8 13 rfl) rfl
theorem q1827 : (Jvm.Cond.methodLink "BackRescueModel" (350 : Nat) ({ cls := "BackRescueModel", name := "orphanAt", desc := "(I)I" } : Jvm.MethodName)) ∈ lw_all := lw_g (lw_at lw_m8 14 rfl) rfl
theorem q1828 : (Jvm.Cond.privateMethod ({ cls := "BackRescueModel", name := "orphanAt", desc := "(I)I" } : Jvm.MethodName)) ∈ lw_tbl := lw_at lw_m8 15 rfl
theorem q1829 : (Jvm.Cond.instanceMethod ({ cls := "BackRescueModel", name := "orphanAt", desc := "(I)I" } : Jvm.MethodName)) ∈ lw_all := lw_g (lw_at lw_m8 16 rfl) rfl
theorem q1830 : (Jvm.Cond.code ({ cls := "BackRescueModel", name := "orphanAt", desc := "(I)I" } : Jvm.MethodName) prog_16_method_85_code (4 : Nat) (Option.some Jvm.ClassFile.FieldType.int)) ∈ lw_all := lw_g (lw_at lw_m8 17 rfl) rfl
theorem q1832 : (Jvm.Cond.instanceMethod ({ cls := "BackRescueModel", name := "orphan", desc := "(I)I" } : Jvm.MethodName)) ∈ lw_all := lw_g (lw_at lw_m8 19 rfl) rfl
theorem q1833 : (Jvm.Cond.selects "BackRescueModel" ({ cls := "BackRescueModel", name := "orphan", desc := "(I)I" } : Jvm.MethodName) ({ cls := "BackRescueModel", name := "orphan", desc := "(I)I" } : Jvm.MethodName)) ∈ lw_all := lw_g (lw_at lw_m8 20 rfl) rfl
theorem q1834 : (Jvm.Cond.code ({ cls := "BackRescueModel", name := "orphan", desc := "(I)I" } : Jvm.MethodName) prog_16_method_87_code (2 : Nat) (Option.some Jvm.ClassFile.FieldType.int)) ∈ lw_all := lw_g (lw_at lw_m8 21 rfl) rfl
theorem q1836 : (Jvm.Cond.instanceMethod ({ cls := "BackRescueModel", name := "ring", desc := "(II)I" } : Jvm.MethodName)) ∈ lw_all := lw_g (lw_at lw_m8 23 rfl) rfl
theorem q1837 : (Jvm.Cond.selects "BackRescueModel" ({ cls := "BackRescueModel", name := "ring", desc := "(II)I" } : Jvm.MethodName) ({ cls := "BackRescueModel", name := "ring", desc := "(II)I" } : Jvm.MethodName)) ∈ lw_all := lw_g (lw_at lw_m8 24 rfl) rfl
theorem q1838 : (Jvm.Cond.code ({ cls := "BackRescueModel", name := "ring", desc := "(II)I" } : Jvm.MethodName) prog_16_method_88_code (7 : Nat) (Option.some Jvm.ClassFile.FieldType.int)) ∈ lw_all := lw_g (lw_at lw_m8 25 rfl) rfl
theorem q1840 : (Jvm.Cond.instanceMethod ({ cls := "BackRescueModel", name := "found", desc := "(III)J" } : Jvm.MethodName)) ∈ lw_all := lw_g (lw_at lw_m8 27 rfl) rfl
theorem q1841 : (Jvm.Cond.selects "BackRescueModel" ({ cls := "BackRescueModel", name := "found", desc := "(III)J" } : Jvm.MethodName) ({ cls := "BackRescueModel", name := "found", desc := "(III)J" } : Jvm.MethodName)) ∈ lw_all := lw_g (lw_at lw_m8 28 rfl) rfl
theorem q1842 : (Jvm.Cond.code ({ cls := "BackRescueModel", name := "found", desc := "(III)J" } : Jvm.MethodName) prog_16_method_91_code (5 : Nat) (Option.some Jvm.ClassFile.FieldType.long)) ∈ lw_all := lw_g (lw_at lw_m8 29 rfl) rfl
theorem q1843 : (Jvm.Cond.methodLink "BackRescueModel" (353 : Nat) ({ cls := "BackRescueModel", name := "noFound", desc := "(III)I" } : Jvm.MethodName)) ∈ lw_all := lw_g (lw_at lw_m8 30 rfl) rfl
theorem q1844 : (Jvm.Cond.privateMethod ({ cls := "BackRescueModel", name := "noFound", desc := "(III)I" } : Jvm.MethodName)) ∈ lw_tbl := lw_at lw_m8 31 rfl
theorem q1845 : (Jvm.Cond.instanceMethod ({ cls := "BackRescueModel", name := "noFound", desc := "(III)I" } : Jvm.MethodName)) ∈ lw_all := lw_g (lw_at lw_m8 32 rfl) rfl
theorem q1846 : (Jvm.Cond.code ({ cls := "BackRescueModel", name := "noFound", desc := "(III)I" } : Jvm.MethodName) prog_16_method_89_code (4 : Nat) (Option.some Jvm.ClassFile.FieldType.int)) ∈ lw_all := lw_g (lw_at lw_m8 33 rfl) rfl
theorem q1847 : (Jvm.Cond.methodLink "BackRescueModel" (356 : Nat) ({ cls := "BackRescueModel", name := "laysFound", desc := "(IIII)J" } : Jvm.MethodName)) ∈ lw_all := lw_g (lw_at lw_m8 34 rfl) rfl
theorem q1848 : (Jvm.Cond.privateMethod ({ cls := "BackRescueModel", name := "laysFound", desc := "(IIII)J" } : Jvm.MethodName)) ∈ lw_tbl := lw_at lw_m8 35 rfl
theorem q1849 : (Jvm.Cond.instanceMethod ({ cls := "BackRescueModel", name := "laysFound", desc := "(IIII)J" } : Jvm.MethodName)) ∈ lw_all := lw_g (lw_at lw_m8 36 rfl) rfl
theorem q1850 : (Jvm.Cond.code ({ cls := "BackRescueModel", name := "laysFound", desc := "(IIII)J" } : Jvm.MethodName) prog_16_method_90_code (11 : Nat) (Option.some Jvm.ClassFile.FieldType.long)) ∈ lw_all := lw_g (lw_at lw_m8 37 rfl) rfl
theorem q1852 : (Jvm.Cond.instanceMethod ({ cls := "BackRescueModel", name := "foundBy", desc := "(IIII)I" } : Jvm.MethodName)) ∈ lw_all := lw_g (lw_at lw_m8 39 rfl) rfl
theorem q1853 : (Jvm.Cond.selects "BackRescueModel" ({ cls := "BackRescueModel", name := "foundBy", desc := "(IIII)I" } : Jvm.MethodName) ({ cls := "BackRescueModel", name := "foundBy", desc := "(IIII)I" } : Jvm.MethodName)) ∈ lw_all := lw_g (lw_at lw_m8 40 rfl) rfl
theorem q1854 : (Jvm.Cond.code ({ cls := "BackRescueModel", name := "foundBy", desc := "(IIII)I" } : Jvm.MethodName) prog_16_method_92_code (9 : Nat) (Option.some Jvm.ClassFile.FieldType.int)) ∈ lw_all := lw_g (lw_at lw_m8 41 rfl) rfl
theorem q1856 : (Jvm.Cond.instanceMethod ({ cls := "BackRescueModel", name := "surely", desc := "(III)I" } : Jvm.MethodName)) ∈ lw_all := lw_g (lw_at lw_m8 43 rfl) rfl
theorem q1857 : (Jvm.Cond.selects "BackRescueModel" ({ cls := "BackRescueModel", name := "surely", desc := "(III)I" } : Jvm.MethodName) ({ cls := "BackRescueModel", name := "surely", desc := "(III)I" } : Jvm.MethodName)) ∈ lw_all := lw_g (lw_at lw_m8 44 rfl) rfl
theorem q1858 : (Jvm.Cond.code ({ cls := "BackRescueModel", name := "surely", desc := "(III)I" } : Jvm.MethodName) prog_16_method_93_code (7 : Nat) (Option.some Jvm.ClassFile.FieldType.int)) ∈ lw_all := lw_g (lw_at lw_m8 45 rfl) rfl
theorem q1860 : (Jvm.Cond.instanceMethod ({ cls := "BackRescueModel", name := "both", desc := "(IIII)I" } : Jvm.MethodName)) ∈ lw_all := lw_g (lw_at lw_m8 47 rfl) rfl
theorem q1861 : (Jvm.Cond.selects "BackRescueModel" ({ cls := "BackRescueModel", name := "both", desc := "(IIII)I" } : Jvm.MethodName) ({ cls := "BackRescueModel", name := "both", desc := "(IIII)I" } : Jvm.MethodName)) ∈ lw_all := lw_g (lw_at lw_m8 48 rfl) rfl
theorem q1862 : (Jvm.Cond.code ({ cls := "BackRescueModel", name := "both", desc := "(IIII)I" } : Jvm.MethodName) prog_16_method_96_code (8 : Nat) (Option.some Jvm.ClassFile.FieldType.int)) ∈ lw_all := lw_g (lw_at lw_m8 49 rfl) rfl
theorem q1863 : (Jvm.Cond.methodLink "BackRescueModel" (360 : Nat) ({ cls := "BackRescueModel", name := "beginsCan", desc := "()V" } : Jvm.MethodName)) ∈ lw_all := lw_g (lw_at lw_m8 50 rfl) rfl
theorem q1864 : (Jvm.Cond.privateMethod ({ cls := "BackRescueModel", name := "beginsCan", desc := "()V" } : Jvm.MethodName)) ∈ lw_tbl := lw_at lw_m8 51 rfl
theorem q1865 : (Jvm.Cond.instanceMethod ({ cls := "BackRescueModel", name := "beginsCan", desc := "()V" } : Jvm.MethodName)) ∈ lw_all := lw_g (lw_at lw_m8 52 rfl) rfl
theorem q1866 : (Jvm.Cond.code ({ cls := "BackRescueModel", name := "beginsCan", desc := "()V" } : Jvm.MethodName) prog_16_method_94_code (2 : Nat) (Option.none : Option Jvm.ClassFile.FieldType)) ∈ lw_all := lw_g (lw_at lw_m8 53 rfl) rfl
theorem q1867 : (Jvm.Cond.methodLink "BackRescueModel" (363 : Nat) ({ cls := "BackRescueModel", name := "goesCan", desc := "(I)V" } : Jvm.MethodName)) ∈ lw_all := lw_g (lw_at lw_m8 54 rfl) rfl
theorem q1868 : (Jvm.Cond.privateMethod ({ cls := "BackRescueModel", name := "goesCan", desc := "(I)V" } : Jvm.MethodName)) ∈ lw_tbl := lw_at lw_m8 55 rfl
theorem q1869 : (Jvm.Cond.instanceMethod ({ cls := "BackRescueModel", name := "goesCan", desc := "(I)V" } : Jvm.MethodName)) ∈ lw_all := lw_g (lw_at lw_m8 56 rfl) rfl
theorem q1870 : (Jvm.Cond.code ({ cls := "BackRescueModel", name := "goesCan", desc := "(I)V" } : Jvm.MethodName) prog_16_method_95_code (5 : Nat) (Option.none : Option Jvm.ClassFile.FieldType)) ∈ lw_all := lw_g (lw_at lw_m8 57 rfl) rfl
theorem q1872 : (Jvm.Cond.instanceMethod ({ cls := "BackRescueModel", name := "ropes", desc := "(III)I" } : Jvm.MethodName)) ∈ lw_all := lw_g (lw_at lw_m8 59 rfl) rfl
theorem q1873 : (Jvm.Cond.selects "BackRescueModel" ({ cls := "BackRescueModel", name := "ropes", desc := "(III)I" } : Jvm.MethodName) ({ cls := "BackRescueModel", name := "ropes", desc := "(III)I" } : Jvm.MethodName)) ∈ lw_all := lw_g (lw_at lw_m8 60 rfl) rfl
theorem q1874 : (Jvm.Cond.code ({ cls := "BackRescueModel", name := "ropes", desc := "(III)I" } : Jvm.MethodName) prog_16_method_97_code (6 : Nat) (Option.some Jvm.ClassFile.FieldType.int)) ∈ lw_all := lw_g (lw_at lw_m8 61 rfl) rfl
theorem q1875 : (Jvm.Cond.methodLink "BackRescueModel" (366 : Nat) ({ cls := "BackRescueModel", name := "bitsOf", desc := "(I)I" } : Jvm.MethodName)) ∈ lw_all := lw_g (lw_at lw_m8 62 rfl) rfl
theorem q1876 : (Jvm.Cond.static ({ cls := "BackRescueModel", name := "bitsOf", desc := "(I)I" } : Jvm.MethodName)) ∈ lw_all := lw_g (lw_at lw_m8 63 rfl) rfl
theorem q1877 : (Jvm.Cond.code ({ cls := "BackRescueModel", name := "bitsOf", desc := "(I)I" } : Jvm.MethodName) prog_16_method_38_code (3 : Nat) (Option.some Jvm.ClassFile.FieldType.int)) ∈ lw_all := lw_g (lw_at lw_m8 64 rfl) rfl
theorem q1879 : (Jvm.Cond.instanceMethod ({ cls := "BackRescueModel", name := "watch", desc := "(II)I" } : Jvm.MethodName)) ∈ lw_all := lw_g (lw_at lw_m8 66 rfl) rfl
theorem q1880 : (Jvm.Cond.selects "BackRescueModel" ({ cls := "BackRescueModel", name := "watch", desc := "(II)I" } : Jvm.MethodName) ({ cls := "BackRescueModel", name := "watch", desc := "(II)I" } : Jvm.MethodName)) ∈ lw_all := lw_g (lw_at lw_m8 67 rfl) rfl
theorem q1881 : (Jvm.Cond.code ({ cls := "BackRescueModel", name := "watch", desc := "(II)I" } : Jvm.MethodName) prog_16_method_99_code (5 : Nat) (Option.some Jvm.ClassFile.FieldType.int)) ∈ lw_all := lw_g (lw_at lw_m8 68 rfl) rfl
theorem q1882 : (Jvm.Cond.methodLink "BackRescueModel" (369 : Nat) ({ cls := "BackRescueModel", name := "isWatched", desc := "(II)Z" } : Jvm.MethodName)) ∈ lw_all := lw_g (lw_at lw_m8 69 rfl) rfl
theorem q1883 : (Jvm.Cond.privateMethod ({ cls := "BackRescueModel", name := "isWatched", desc := "(II)Z" } : Jvm.MethodName)) ∈ lw_tbl := lw_at lw_m8 70 rfl
theorem q1884 : (Jvm.Cond.instanceMethod ({ cls := "BackRescueModel", name := "isWatched", desc := "(II)Z" } : Jvm.MethodName)) ∈ lw_all := lw_g (lw_at lw_m8 71 rfl) rfl
theorem q1885 : (Jvm.Cond.code ({ cls := "BackRescueModel", name := "isWatched", desc := "(II)Z" } : Jvm.MethodName) prog_16_method_98_code (4 : Nat) (Option.some Jvm.ClassFile.FieldType.boolean)) ∈ lw_all := lw_g (lw_at lw_m8 72 rfl) rfl
theorem q1887 : (Jvm.Cond.instanceMethod ({ cls := "BackRescueModel", name := "slacks", desc := "(II)I" } : Jvm.MethodName)) ∈ lw_all := lw_g (lw_at lw_m8 74 rfl) rfl
theorem q1888 : (Jvm.Cond.selects "BackRescueModel" ({ cls := "BackRescueModel", name := "slacks", desc := "(II)I" } : Jvm.MethodName) ({ cls := "BackRescueModel", name := "slacks", desc := "(II)I" } : Jvm.MethodName)) ∈ lw_all := lw_g (lw_at lw_m8 75 rfl) rfl
theorem q1889 : (Jvm.Cond.code ({ cls := "BackRescueModel", name := "slacks", desc := "(II)I" } : Jvm.MethodName) prog_16_method_102_code (4 : Nat) (Option.some Jvm.ClassFile.FieldType.int)) ∈ lw_all := lw_g (lw_at lw_m8 76 rfl) rfl
theorem q1890 : (Jvm.Cond.methodLink "BackRescueModel" (373 : Nat) ({ cls := "BackRescueModel", name := "noTook", desc := "(II)I" } : Jvm.MethodName)) ∈ lw_all := lw_g (lw_at lw_m8 77 rfl) rfl
theorem q1891 : (Jvm.Cond.privateMethod ({ cls := "BackRescueModel", name := "noTook", desc := "(II)I" } : Jvm.MethodName)) ∈ lw_tbl := lw_at lw_m8 78 rfl
theorem q1892 : (Jvm.Cond.instanceMethod ({ cls := "BackRescueModel", name := "noTook", desc := "(II)I" } : Jvm.MethodName)) ∈ lw_all := lw_g (lw_at lw_m8 79 rfl) rfl
theorem q1893 : (Jvm.Cond.code ({ cls := "BackRescueModel", name := "noTook", desc := "(II)I" } : Jvm.MethodName) prog_16_method_100_code (5 : Nat) (Option.some Jvm.ClassFile.FieldType.int)) ∈ lw_all := lw_g (lw_at lw_m8 80 rfl) rfl
theorem q1894 : (Jvm.Cond.methodLink "BackRescueModel" (376 : Nat) ({ cls := "BackRescueModel", name := "slacksOf", desc := "(II)I" } : Jvm.MethodName)) ∈ lw_all := lw_g (lw_at lw_m8 81 rfl) rfl
theorem q1895 : (Jvm.Cond.privateMethod ({ cls := "BackRescueModel", name := "slacksOf", desc := "(II)I" } : Jvm.MethodName)) ∈ lw_tbl := lw_at lw_m8 82 rfl
theorem q1896 : (Jvm.Cond.instanceMethod ({ cls := "BackRescueModel", name := "slacksOf", desc := "(II)I" } : Jvm.MethodName)) ∈ lw_all := lw_g (lw_at lw_m8 83 rfl) rfl
theorem q1897 : (Jvm.Cond.code ({ cls := "BackRescueModel", name := "slacksOf", desc := "(II)I" } : Jvm.MethodName) prog_16_method_101_code (8 : Nat) (Option.some Jvm.ClassFile.FieldType.int)) ∈ lw_all := lw_g (lw_at lw_m8 84 rfl) rfl
theorem q1899 : (Jvm.Cond.instanceMethod ({ cls := "BackRescueModel", name := "attempt", desc := "(II)I" } : Jvm.MethodName)) ∈ lw_all := lw_g (lw_at lw_m8 86 rfl) rfl
theorem q1900 : (Jvm.Cond.selects "BackRescueModel" ({ cls := "BackRescueModel", name := "attempt", desc := "(II)I" } : Jvm.MethodName) ({ cls := "BackRescueModel", name := "attempt", desc := "(II)I" } : Jvm.MethodName)) ∈ lw_all := lw_g (lw_at lw_m8 87 rfl) rfl
theorem q1901 : (Jvm.Cond.code ({ cls := "BackRescueModel", name := "attempt", desc := "(II)I" } : Jvm.MethodName) prog_16_method_104_code (9 : Nat) (Option.some Jvm.ClassFile.FieldType.int)) ∈ lw_all := lw_g (lw_at lw_m8 88 rfl) rfl
theorem q1902 : (Jvm.Cond.methodLink "BackRescueModel" (379 : Nat) ({ cls := "BackRescueModel", name := "mostOften", desc := "(II)I" } : Jvm.MethodName)) ∈ lw_all := lw_g (lw_at lw_m8 89 rfl) rfl
theorem q1903 : (Jvm.Cond.privateMethod ({ cls := "BackRescueModel", name := "mostOften", desc := "(II)I" } : Jvm.MethodName)) ∈ lw_tbl := lw_at lw_m8 90 rfl
theorem q1904 : (Jvm.Cond.instanceMethod ({ cls := "BackRescueModel", name := "mostOften", desc := "(II)I" } : Jvm.MethodName)) ∈ lw_all := lw_g (lw_at lw_m8 91 rfl) rfl
theorem q1905 : (Jvm.Cond.code ({ cls := "BackRescueModel", name := "mostOften", desc := "(II)I" } : Jvm.MethodName) prog_16_method_103_code (6 : Nat) (Option.some Jvm.ClassFile.FieldType.int)) ∈ lw_all := lw_g (lw_at lw_m8 92 rfl) rfl
theorem q1907 : (Jvm.Cond.instanceMethod ({ cls := "BackRescueModel", name := "withstands", desc := "(I)I" } : Jvm.MethodName)) ∈ lw_all := lw_g (lw_at lw_m8 94 rfl) rfl
theorem q1908 : (Jvm.Cond.selects "BackRescueModel" ({ cls := "BackRescueModel", name := "withstands", desc := "(I)I" } : Jvm.MethodName) ({ cls := "BackRescueModel", name := "withstands", desc := "(I)I" } : Jvm.MethodName)) ∈ lw_all := lw_g (lw_at lw_m8 95 rfl) rfl
theorem q1909 : (Jvm.Cond.code ({ cls := "BackRescueModel", name := "withstands", desc := "(I)I" } : Jvm.MethodName) prog_16_method_108_code (4 : Nat) (Option.some Jvm.ClassFile.FieldType.int)) ∈ lw_all := lw_g (lw_at lw_m8 96 rfl) rfl
theorem q1910 : (Jvm.Cond.methodLink "BackRescueModel" (389 : Nat) ({ cls := "BackRescueModel", name := "laysStood", desc := "(II)V" } : Jvm.MethodName)) ∈ lw_all := lw_g (lw_at lw_m8 97 rfl) rfl
theorem q1911 : (Jvm.Cond.privateMethod ({ cls := "BackRescueModel", name := "laysStood", desc := "(II)V" } : Jvm.MethodName)) ∈ lw_tbl := lw_at lw_m8 98 rfl
theorem q1912 : (Jvm.Cond.instanceMethod ({ cls := "BackRescueModel", name := "laysStood", desc := "(II)V" } : Jvm.MethodName)) ∈ lw_all := lw_g (lw_at lw_m8 99 rfl) rfl
theorem q1913 : (Jvm.Cond.code ({ cls := "BackRescueModel", name := "laysStood", desc := "(II)V" } : Jvm.MethodName) prog_16_method_107_code (6 : Nat) (Option.none : Option Jvm.ClassFile.FieldType)) ∈ lw_all := lw_g (lw_at lw_m8 100 rfl) rfl
theorem q1914 : (Jvm.Cond.methodLink "BackRescueModel" (385 : Nat) ({ cls := "BackRescueModel", name := "standsBy", desc := "(III)Z" } : Jvm.MethodName)) ∈ lw_all := lw_g (lw_at lw_m8 101 rfl) rfl
theorem q1915 : (Jvm.Cond.privateMethod ({ cls := "BackRescueModel", name := "standsBy", desc := "(III)Z" } : Jvm.MethodName)) ∈ lw_tbl := lw_at lw_m8 102 rfl
theorem q1916 : (Jvm.Cond.instanceMethod ({ cls := "BackRescueModel", name := "standsBy", desc := "(III)Z" } : Jvm.MethodName)) ∈ lw_all := lw_g (lw_at lw_m8 103 rfl) rfl
theorem q1917 : (Jvm.Cond.code ({ cls := "BackRescueModel", name := "standsBy", desc := "(III)Z" } : Jvm.MethodName) prog_16_method_106_code (5 : Nat) (Option.some Jvm.ClassFile.FieldType.boolean)) ∈ lw_all := lw_g (lw_at lw_m8 104 rfl) rfl
theorem q1918 : (Jvm.Cond.methodLink "BackRescueModel" (382 : Nat) ({ cls := "BackRescueModel", name := "fallen", desc := "(I)I" } : Jvm.MethodName)) ∈ lw_all := lw_g (lw_at lw_m8 105 rfl) rfl
theorem q1919 : (Jvm.Cond.static ({ cls := "BackRescueModel", name := "fallen", desc := "(I)I" } : Jvm.MethodName)) ∈ lw_all := lw_g (lw_at lw_m8 106 rfl) rfl
theorem q1920 : (Jvm.Cond.code ({ cls := "BackRescueModel", name := "fallen", desc := "(I)I" } : Jvm.MethodName) prog_16_method_105_code (1 : Nat) (Option.some Jvm.ClassFile.FieldType.int)) ∈ lw_all := lw_g (lw_at lw_m8 107 rfl) rfl
theorem q1922 : (Jvm.Cond.instanceMethod ({ cls := "BackRescueModel", name := "chance", desc := "(III)I" } : Jvm.MethodName)) ∈ lw_all := lw_g (lw_at lw_m8 109 rfl) rfl
theorem q1923 : (Jvm.Cond.selects "BackRescueModel" ({ cls := "BackRescueModel", name := "chance", desc := "(III)I" } : Jvm.MethodName) ({ cls := "BackRescueModel", name := "chance", desc := "(III)I" } : Jvm.MethodName)) ∈ lw_all := lw_g (lw_at lw_m8 110 rfl) rfl
theorem q1924 : (Jvm.Cond.code ({ cls := "BackRescueModel", name := "chance", desc := "(III)I" } : Jvm.MethodName) prog_16_method_113_code (5 : Nat) (Option.some Jvm.ClassFile.FieldType.int)) ∈ lw_all := lw_g (lw_at lw_m8 111 rfl) rfl
theorem q1925 : (Jvm.Cond.constantLong "BackRescueModel" (402 : Nat) (8 : Int64)) ∈ lw_all := lw_g (lw_at lw_m8 112 rfl) rfl
theorem q1926 : (Jvm.Cond.methodLink "BackRescueModel" (404 : Nat) ({ cls := "BackRescueModel", name := "laysLikely", desc := "(II)I" } : Jvm.MethodName)) ∈ lw_all := lw_g (lw_at lw_m8 113 rfl) rfl
theorem q1927 : (Jvm.Cond.privateMethod ({ cls := "BackRescueModel", name := "laysLikely", desc := "(II)I" } : Jvm.MethodName)) ∈ lw_tbl := lw_at lw_m8 114 rfl
theorem q1928 : (Jvm.Cond.instanceMethod ({ cls := "BackRescueModel", name := "laysLikely", desc := "(II)I" } : Jvm.MethodName)) ∈ lw_all := lw_g (lw_at lw_m8 115 rfl) rfl
theorem q1929 : (Jvm.Cond.code ({ cls := "BackRescueModel", name := "laysLikely", desc := "(II)I" } : Jvm.MethodName) prog_16_method_111_code (7 : Nat) (Option.some Jvm.ClassFile.FieldType.int)) ∈ lw_all := lw_g (lw_at lw_m8 116 rfl) rfl
theorem q1930 : (Jvm.Cond.methodLink "BackRescueModel" (393 : Nat) ({ cls := "BackRescueModel", name := "wholeOf", desc := "(I)I" } : Jvm.MethodName)) ∈ lw_all := lw_g (lw_at lw_m8 117 rfl) rfl
theorem q1931 : (Jvm.Cond.static ({ cls := "BackRescueModel", name := "wholeOf", desc := "(I)I" } : Jvm.MethodName)) ∈ lw_all := lw_g (lw_at lw_m8 118 rfl) rfl
theorem q1932 : (Jvm.Cond.code ({ cls := "BackRescueModel", name := "wholeOf", desc := "(I)I" } : Jvm.MethodName) prog_16_method_109_code (3 : Nat) (Option.some Jvm.ClassFile.FieldType.int)) ∈ lw_all := lw_g (lw_at lw_m8 119 rfl) rfl
theorem q1933 : (Jvm.Cond.methodLink "BackRescueModel" (396 : Nat) ({ cls := "BackRescueModel", name := "likelyBy", desc := "(III)I" } : Jvm.MethodName)) ∈ lw_all := lw_g (lw_at lw_m8 120 rfl) rfl
theorem q1934 : (Jvm.Cond.privateMethod ({ cls := "BackRescueModel", name := "likelyBy", desc := "(III)I" } : Jvm.MethodName)) ∈ lw_tbl := lw_at lw_m8 121 rfl
theorem q1935 : (Jvm.Cond.instanceMethod ({ cls := "BackRescueModel", name := "likelyBy", desc := "(III)I" } : Jvm.MethodName)) ∈ lw_all := lw_g (lw_at lw_m8 122 rfl) rfl
theorem q1936 : (Jvm.Cond.code ({ cls := "BackRescueModel", name := "likelyBy", desc := "(III)I" } : Jvm.MethodName) prog_16_method_110_code (5 : Nat) (Option.some Jvm.ClassFile.FieldType.int)) ∈ lw_all := lw_g (lw_at lw_m8 123 rfl) rfl
theorem q1937 : (Jvm.Cond.methodLink "BackRescueModel" (399 : Nat) ({ cls := "BackRescueModel", name := "common", desc := "(II)I" } : Jvm.MethodName)) ∈ lw_all := lw_g (lw_at lw_m8 124 rfl) rfl
theorem q1938 : (Jvm.Cond.static ({ cls := "BackRescueModel", name := "common", desc := "(II)I" } : Jvm.MethodName)) ∈ lw_all := lw_g (lw_at lw_m8 125 rfl) rfl
theorem q1939 : (Jvm.Cond.code ({ cls := "BackRescueModel", name := "common", desc := "(II)I" } : Jvm.MethodName) prog_16_method_112_code (2 : Nat) (Option.some Jvm.ClassFile.FieldType.int)) ∈ lw_all := lw_g (lw_at lw_m8 126 rfl) rfl
theorem q1941 : (Jvm.Cond.instanceMethod ({ cls := "BackRescueModel", name := "best", desc := "(II)I" } : Jvm.MethodName)) ∈ lw_all := lw_g (lw_at lw_m8 128 rfl) rfl
theorem q1942 : (Jvm.Cond.selects "BackRescueModel" ({ cls := "BackRescueModel", name := "best", desc := "(II)I" } : Jvm.MethodName) ({ cls := "BackRescueModel", name := "best", desc := "(II)I" } : Jvm.MethodName)) ∈ lw_all := lw_g (lw_at lw_m8 129 rfl) rfl
theorem q1943 : (Jvm.Cond.code ({ cls := "BackRescueModel", name := "best", desc := "(II)I" } : Jvm.MethodName) prog_16_method_114_code (6 : Nat) (Option.some Jvm.ClassFile.FieldType.int)) ∈ lw_all := lw_g (lw_at lw_m8 130 rfl) rfl
theorem q1945 : (Jvm.Cond.instanceMethod ({ cls := "BackRescueModel", name := "numbers", desc := "(III)I" } : Jvm.MethodName)) ∈ lw_all := lw_g (lw_at lw_m8 132 rfl) rfl
theorem q1946 : (Jvm.Cond.selects "BackRescueModel" ({ cls := "BackRescueModel", name := "numbers", desc := "(III)I" } : Jvm.MethodName) ({ cls := "BackRescueModel", name := "numbers", desc := "(III)I" } : Jvm.MethodName)) ∈ lw_all := lw_g (lw_at lw_m8 133 rfl) rfl
theorem q1947 : (Jvm.Cond.code ({ cls := "BackRescueModel", name := "numbers", desc := "(III)I" } : Jvm.MethodName) prog_16_method_116_code (5 : Nat) (Option.some Jvm.ClassFile.FieldType.int)) ∈ lw_all := lw_g (lw_at lw_m8 134 rfl) rfl
theorem q1949 : (Jvm.Cond.instanceMethod ({ cls := "BackRescueModel", name := "write", desc := "(IIJ)J" } : Jvm.MethodName)) ∈ lw_all := lw_g (lw_at lw_m8 136 rfl) rfl
theorem q1950 : (Jvm.Cond.selects "BackRescueModel" ({ cls := "BackRescueModel", name := "write", desc := "(IIJ)J" } : Jvm.MethodName) ({ cls := "BackRescueModel", name := "write", desc := "(IIJ)J" } : Jvm.MethodName)) ∈ lw_all := lw_g (lw_at lw_m8 137 rfl) rfl
theorem q1951 : (Jvm.Cond.code ({ cls := "BackRescueModel", name := "write", desc := "(IIJ)J" } : Jvm.MethodName) prog_16_method_117_code (6 : Nat) (Option.some Jvm.ClassFile.FieldType.long)) ∈ lw_all := lw_g (lw_at lw_m8 138 rfl) rfl
theorem q1952 : (Jvm.Cond.constantLong "BackRescueModel" (407 : Nat) (-7 : Int64)) ∈ lw_all := lw_g (lw_at lw_m8 139 rfl) rfl
theorem q1953 : (Jvm.Cond.methodLink "BackRescueModel" (409 : Nat) ({ cls := "BackRescueModel", name := "cut", desc := "(JI)J" } : Jvm.MethodName)) ∈ lw_all := lw_g (lw_at lw_m8 140 rfl) rfl
theorem q1954 : (Jvm.Cond.static ({ cls := "BackRescueModel", name := "cut", desc := "(JI)J" } : Jvm.MethodName)) ∈ lw_all := lw_g (lw_at lw_m8 141 rfl) rfl
theorem q1955 : (Jvm.Cond.code ({ cls := "BackRescueModel", name := "cut", desc := "(JI)J" } : Jvm.MethodName) prog_16_method_115_code (3 : Nat) (Option.some Jvm.ClassFile.FieldType.long)) ∈ lw_all := lw_g (lw_at lw_m8 142 rfl) rfl
theorem q1957 : (Jvm.Cond.instanceMethod ({ cls := "BackRescueModel", name := "lists", desc := "(III)I" } : Jvm.MethodName)) ∈ lw_all := lw_g (lw_at lw_m8 144 rfl) rfl
theorem q1958 : (Jvm.Cond.selects "BackRescueModel" ({ cls := "BackRescueModel", name := "lists", desc := "(III)I" } : Jvm.MethodName) ({ cls := "BackRescueModel", name := "lists", desc := "(III)I" } : Jvm.MethodName)) ∈ lw_all := lw_g (lw_at lw_m8 145 rfl) rfl
theorem q1959 : (Jvm.Cond.code ({ cls := "BackRescueModel", name := "lists", desc := "(III)I" } : Jvm.MethodName) prog_16_method_118_code (8 : Nat) (Option.some Jvm.ClassFile.FieldType.int)) ∈ lw_all := lw_g (lw_at lw_m8 146 rfl) rfl
theorem q1961 : (Jvm.Cond.instanceMethod ({ cls := "BackRescueModel", name := "image", desc := "(I)I" } : Jvm.MethodName)) ∈ lw_all := lw_g (lw_at lw_m8 148 rfl) rfl
theorem q1962 : (Jvm.Cond.selects "BackRescueModel" ({ cls := "BackRescueModel", name := "image", desc := "(I)I" } : Jvm.MethodName) ({ cls := "BackRescueModel", name := "image", desc := "(I)I" } : Jvm.MethodName)) ∈ lw_all := lw_g (lw_at lw_m8 149 rfl) rfl
theorem q1963 : (Jvm.Cond.code ({ cls := "BackRescueModel", name := "image", desc := "(I)I" } : Jvm.MethodName) prog_16_method_119_code (3 : Nat) (Option.some Jvm.ClassFile.FieldType.int)) ∈ lw_all := lw_g (lw_at lw_m8 150 rfl) rfl
theorem q1965 : (Jvm.Cond.instanceMethod ({ cls := "BackRescueModel", name := "restore", desc := "(I)I" } : Jvm.MethodName)) ∈ lw_all := lw_g (lw_at lw_m8 152 rfl) rfl
theorem q1966 : (Jvm.Cond.selects "BackRescueModel" ({ cls := "BackRescueModel", name := "restore", desc := "(I)I" } : Jvm.MethodName) ({ cls := "BackRescueModel", name := "restore", desc := "(I)I" } : Jvm.MethodName)) ∈ lw_all := lw_g (lw_at lw_m8 153 rfl) rfl
theorem q1967 : (Jvm.Cond.code ({ cls := "BackRescueModel", name := "restore", desc := "(I)I" } : Jvm.MethodName) prog_16_method_120_code (3 : Nat) (Option.some Jvm.ClassFile.FieldType.int)) ∈ lw_all := lw_g (lw_at lw_m8 154 rfl) rfl
theorem q1969 : (Jvm.Cond.instanceMethod ({ cls := "BackRescueModel", name := "count", desc := "(I)I" } : Jvm.MethodName)) ∈ lw_all := lw_g (lw_at lw_m8 156 rfl) rfl
theorem q1970 : (Jvm.Cond.selects "BackRescueModel" ({ cls := "BackRescueModel", name := "count", desc := "(I)I" } : Jvm.MethodName) ({ cls := "BackRescueModel", name := "count", desc := "(I)I" } : Jvm.MethodName)) ∈ lw_all := lw_g (lw_at lw_m8 157 rfl) rfl
theorem q1971 : (Jvm.Cond.code ({ cls := "BackRescueModel", name := "count", desc := "(I)I" } : Jvm.MethodName) prog_16_method_121_code (2 : Nat) (Option.some Jvm.ClassFile.FieldType.int)) ∈ lw_all := lw_g (lw_at lw_m8 158 rfl) rfl
theorem in_X4 : ∀ w ∈ wsX40, w ∈ lw_all := lw_in wsX40 [1424, 1426, 1428, 1430, 1432, 1434, 1436, 1438, 1440, 1442, 1444, 1446, 1448, 1450, 1452, 1454, 1456, 1458, 1460, 1462, 1464, 1466, 1468, 1470, 1472, 1474, 1476, 1478, 1480, 1482, 1484, 1486, 1488] (by decide +kernel) (by decide +kernel)
