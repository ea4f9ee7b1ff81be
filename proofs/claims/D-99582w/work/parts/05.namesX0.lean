/-! BackRescue -/
set_option maxRecDepth 100000
def RX0 : String := "BackRescue"
def TX0 : u_T := fun k => match k with
  | 0 => ("BackRescue", "its", "LBackRescue$Cave;", false)
  | 1 => ("BackRescue", "now", "LBackRescue$State;", true)
  | 2 => ("BackRescue", "thought", "LBackRescue$State;", true)
  | 3 => ("BackRescue", "tape", "[B", true)
  | 4 => ("BackRescue", "taped", "I", false)
  | 5 => ("BackRescue", "faultKind", "I", false)
  | 6 => ("BackRescue", "faultPlace", "I", false)
  | 7 => ("BackRescue", "undos", "[LBackRescue$State;", true)
  | 8 => ("BackRescue", "undoMany", "I", false)
  | 9 => ("BackRescue", "undoAt", "I", false)
  | 10 => ("BackRescue", "x", "I", false)
  | 11 => ("BackRescue", "next", "[I", true)
  | 12 => ("BackRescue", "far", "[I", true)
  | 13 => ("BackRescue", "path", "[I", true)
  | 14 => ("BackRescue", "pathMany", "I", false)
  | 15 => ("BackRescue", "isMet", "[Z", true)
  | 16 => ("BackRescue", "onward", "[J", true)
  | 17 => ("BackRescue", "many", "[J", true)
  | 18 => ("BackRescue", "like", "[I", true)
  | 19 => ("BackRescue", "wins", "[Z", true)
  | 20 => ("BackRescue", "chances", "[I", true)
  | 21 => ("BackRescue", "trays", "[LBackRescue$Numbers;", true)
  | 22 => ("BackRescue", "caves", "[LBackRescue$Cave;", true)
  | _ => ("BackRescue", "states", "[LBackRescue$State;", true)
def tyX0 : Nat → FieldType := fun k => match k with
  | 0 => .object "BackRescue$Cave"
  | 1 => .object "BackRescue$State"
  | 2 => .object "BackRescue$State"
  | 3 => .array .byte
  | 4 => .int
  | 5 => .int
  | 6 => .int
  | 7 => .array (.object "BackRescue$State")
  | 8 => .int
  | 9 => .int
  | 10 => .int
  | 11 => .array .int
  | 12 => .array .int
  | 13 => .array .int
  | 14 => .int
  | 15 => .array .boolean
  | 16 => .array .long
  | 17 => .array .long
  | 18 => .array .int
  | 19 => .array .boolean
  | 20 => .array .int
  | 21 => .array (.object "BackRescue$Numbers")
  | 22 => .array (.object "BackRescue$Cave")
  | _ => .array (.object "BackRescue$State")
abbrev wsX00 : List Cond := u_ws RX0 TX0 24
set_option maxRecDepth 100000 in
theorem nmX0 : ∀ a, a < 24 → ∀ b, b < 24 → a ≠ b → (TX0 a).2.1 ≠ (TX0 b).2.1 := by decide +kernel
set_option maxRecDepth 100000 in
theorem tyX0_ok : ∀ k, k < 24 → parseFieldDescriptor (TX0 k).2.2.1 = some (tyX0 k) := by decide +kernel
abbrev cX0_init : ByteArray := prog_1_method_9_code
def yX0_init : MethodName := ⟨RX0, "<init>", "()V"⟩
def dkwX0_init_14 : List UInt8 := [187, 0, 25, 89, 42, 183, 0, 27, 83, 181, 0, 90, 42, 180, 0, 30, 182, 0, 93, 177]
abbrev dktX0_init_14 : List UInt8 := dkwX0_init_14 ++ []
def dkwX0_init_13 : List UInt8 := [189, 0, 18, 181, 0, 86, 42, 5, 189, 0, 25, 89, 3, 187, 0, 25, 89, 42, 183, 0, 27, 83, 89, 4]
abbrev dktX0_init_13 : List UInt8 := dkwX0_init_13 ++ dktX0_init_14
def dkwX0_init_12 : List UInt8 := [5, 187, 0, 79, 89, 183, 0, 81, 83, 89, 6, 187, 0, 79, 89, 183, 0, 81, 83, 181, 0, 82, 42, 5]
abbrev dktX0_init_12 : List UInt8 := dkwX0_init_12 ++ dktX0_init_13
def dkwX0_init_11 : List UInt8 := [189, 0, 79, 89, 3, 187, 0, 79, 89, 183, 0, 81, 83, 89, 4, 187, 0, 79, 89, 183, 0, 81, 83, 89]
abbrev dktX0_init_11 : List UInt8 := dkwX0_init_11 ++ dktX0_init_12
def dkwX0_init_10 : List UInt8 := [181, 0, 70, 42, 17, 1, 104, 188, 4, 181, 0, 73, 42, 17, 1, 68, 188, 10, 181, 0, 76, 42, 7]
abbrev dktX0_init_10 : List UInt8 := dkwX0_init_10 ++ dktX0_init_11
def dkwX0_init_9 : List UInt8 := [17, 1, 140, 188, 11, 181, 0, 63, 42, 17, 1, 140, 188, 11, 181, 0, 67, 42, 16, 6, 188, 10]
abbrev dktX0_init_9 : List UInt8 := dkwX0_init_9 ++ dktX0_init_10
def dkwX0_init_8 : List UInt8 := [188, 10, 181, 0, 53, 42, 16, 36, 188, 10, 181, 0, 56, 42, 16, 36, 188, 4, 181, 0, 59, 42]
abbrev dktX0_init_8 : List UInt8 := dkwX0_init_8 ++ dktX0_init_9
def dkwX0_init_7 : List UInt8 := [187, 0, 25, 89, 42, 183, 0, 27, 83, 181, 0, 45, 42, 17, 1, 32, 188, 10, 181, 0, 49, 42, 16, 36]
abbrev dktX0_init_7 : List UInt8 := dkwX0_init_7 ++ dktX0_init_8
def dkwX0_init_6 : List UInt8 := [187, 0, 25, 89, 42, 183, 0, 27, 83, 89, 16, 8, 187, 0, 25, 89, 42, 183, 0, 27, 83, 89, 16, 9]
abbrev dktX0_init_6 : List UInt8 := dkwX0_init_6 ++ dktX0_init_7
def dkwX0_init_5 : List UInt8 := [187, 0, 25, 89, 42, 183, 0, 27, 83, 89, 16, 6, 187, 0, 25, 89, 42, 183, 0, 27, 83, 89, 16, 7]
abbrev dktX0_init_5 : List UInt8 := dkwX0_init_5 ++ dktX0_init_6
def dkwX0_init_4 : List UInt8 := [187, 0, 25, 89, 42, 183, 0, 27, 83, 89, 7, 187, 0, 25, 89, 42, 183, 0, 27, 83, 89, 8]
abbrev dktX0_init_4 : List UInt8 := dkwX0_init_4 ++ dktX0_init_5
def dkwX0_init_3 : List UInt8 := [187, 0, 25, 89, 42, 183, 0, 27, 83, 89, 5, 187, 0, 25, 89, 42, 183, 0, 27, 83, 89, 6]
abbrev dktX0_init_3 : List UInt8 := dkwX0_init_3 ++ dktX0_init_4
def dkwX0_init_2 : List UInt8 := [42, 2, 181, 0, 41, 42, 16, 10, 189, 0, 25, 89, 3, 187, 0, 25, 89, 42, 183, 0, 27, 83, 89, 4]
abbrev dktX0_init_2 : List UInt8 := dkwX0_init_2 ++ dktX0_init_3
def dkwX0_init_1 : List UInt8 := [181, 0, 30, 42, 187, 0, 25, 89, 42, 183, 0, 27, 181, 0, 34, 42, 17, 3, 132, 188, 8, 181, 0, 37]
abbrev dktX0_init_1 : List UInt8 := dkwX0_init_1 ++ dktX0_init_2
def dkwX0_init_0 : List UInt8 := [42, 183, 0, 12, 42, 187, 0, 18, 89, 183, 0, 20, 181, 0, 21, 42, 187, 0, 25, 89, 42, 183, 0, 27]
abbrev dktX0_init_0 : List UInt8 := dkwX0_init_0 ++ dktX0_init_1
theorem dksX0_init_0 : cX0_init.data.toList.drop 0 = dktX0_init_0 := by decide +kernel
theorem dksX0_init_1 : cX0_init.data.toList.drop 24 = dktX0_init_1 := dk_seg dksX0_init_0 24 rfl rfl
theorem dksX0_init_2 : cX0_init.data.toList.drop 48 = dktX0_init_2 := dk_seg dksX0_init_1 24 rfl rfl
theorem dksX0_init_3 : cX0_init.data.toList.drop 72 = dktX0_init_3 := dk_seg dksX0_init_2 24 rfl rfl
theorem dksX0_init_4 : cX0_init.data.toList.drop 94 = dktX0_init_4 := dk_seg dksX0_init_3 22 rfl rfl
theorem dksX0_init_5 : cX0_init.data.toList.drop 116 = dktX0_init_5 := dk_seg dksX0_init_4 22 rfl rfl
theorem dksX0_init_6 : cX0_init.data.toList.drop 140 = dktX0_init_6 := dk_seg dksX0_init_5 24 rfl rfl
theorem dksX0_init_7 : cX0_init.data.toList.drop 164 = dktX0_init_7 := dk_seg dksX0_init_6 24 rfl rfl
theorem dksX0_init_8 : cX0_init.data.toList.drop 188 = dktX0_init_8 := dk_seg dksX0_init_7 24 rfl rfl
theorem dksX0_init_9 : cX0_init.data.toList.drop 210 = dktX0_init_9 := dk_seg dksX0_init_8 22 rfl rfl
theorem dksX0_init_10 : cX0_init.data.toList.drop 232 = dktX0_init_10 := dk_seg dksX0_init_9 22 rfl rfl
theorem dksX0_init_11 : cX0_init.data.toList.drop 255 = dktX0_init_11 := dk_seg dksX0_init_10 23 rfl rfl
theorem dksX0_init_12 : cX0_init.data.toList.drop 279 = dktX0_init_12 := dk_seg dksX0_init_11 24 rfl rfl
theorem dksX0_init_13 : cX0_init.data.toList.drop 303 = dktX0_init_13 := dk_seg dksX0_init_12 24 rfl rfl
theorem dksX0_init_14 : cX0_init.data.toList.drop 327 = dktX0_init_14 := dk_seg dksX0_init_13 24 rfl rfl
theorem dX0_init_0 : decode cX0_init 0 = .ok (.aload_n 0, 1) := dk_42 (dk_at dksX0_init_0 0 rfl rfl)
theorem dX0_init_1 : decode cX0_init 1 = .ok (.invokespecial 12, 3) := dk_183 0 12 (dk_at dksX0_init_0 1 rfl rfl)
theorem dX0_init_4 : decode cX0_init 4 = .ok (.aload_n 0, 1) := dk_42 (dk_at dksX0_init_0 4 rfl rfl)
theorem dX0_init_5 : decode cX0_init 5 = .ok (.new 18, 3) := dk_187 0 18 (dk_at dksX0_init_0 5 rfl rfl)
theorem dX0_init_8 : decode cX0_init 8 = .ok (.dup, 1) := dk_89 (dk_at dksX0_init_0 8 rfl rfl)
theorem dX0_init_9 : decode cX0_init 9 = .ok (.invokespecial 20, 3) := dk_183 0 20 (dk_at dksX0_init_0 9 rfl rfl)
theorem dX0_init_12 : decode cX0_init 12 = .ok (.putfield 21, 3) := dk_181 0 21 (dk_at dksX0_init_0 12 rfl rfl)
theorem dX0_init_15 : decode cX0_init 15 = .ok (.aload_n 0, 1) := dk_42 (dk_at dksX0_init_0 15 rfl rfl)
theorem dX0_init_16 : decode cX0_init 16 = .ok (.new 25, 3) := dk_187 0 25 (dk_at dksX0_init_0 16 rfl rfl)
theorem dX0_init_19 : decode cX0_init 19 = .ok (.dup, 1) := dk_89 (dk_at dksX0_init_0 19 rfl rfl)
theorem dX0_init_20 : decode cX0_init 20 = .ok (.aload_n 0, 1) := dk_42 (dk_at dksX0_init_0 20 rfl rfl)
theorem dX0_init_21 : decode cX0_init 21 = .ok (.invokespecial 27, 3) := dk_183 0 27 (dk_at dksX0_init_0 21 rfl rfl)
theorem dX0_init_24 : decode cX0_init 24 = .ok (.putfield 30, 3) := dk_181 0 30 (dk_at dksX0_init_1 0 rfl rfl)
theorem dX0_init_27 : decode cX0_init 27 = .ok (.aload_n 0, 1) := dk_42 (dk_at dksX0_init_1 3 rfl rfl)
theorem dX0_init_28 : decode cX0_init 28 = .ok (.new 25, 3) := dk_187 0 25 (dk_at dksX0_init_1 4 rfl rfl)
theorem dX0_init_31 : decode cX0_init 31 = .ok (.dup, 1) := dk_89 (dk_at dksX0_init_1 7 rfl rfl)
theorem dX0_init_32 : decode cX0_init 32 = .ok (.aload_n 0, 1) := dk_42 (dk_at dksX0_init_1 8 rfl rfl)
theorem dX0_init_33 : decode cX0_init 33 = .ok (.invokespecial 27, 3) := dk_183 0 27 (dk_at dksX0_init_1 9 rfl rfl)
theorem dX0_init_36 : decode cX0_init 36 = .ok (.putfield 34, 3) := dk_181 0 34 (dk_at dksX0_init_1 12 rfl rfl)
theorem dX0_init_39 : decode cX0_init 39 = .ok (.aload_n 0, 1) := dk_42 (dk_at dksX0_init_1 15 rfl rfl)
theorem dX0_init_40 : decode cX0_init 40 = .ok (.sipush 900, 3) := dk_17 3 132 (dk_at dksX0_init_1 16 rfl rfl)
theorem dX0_init_43 : decode cX0_init 43 = .ok (.newarray .byte, 2) := dk_188_8 (dk_at dksX0_init_1 19 rfl rfl)
theorem dX0_init_45 : decode cX0_init 45 = .ok (.putfield 37, 3) := dk_181 0 37 (dk_at dksX0_init_1 21 rfl rfl)
theorem dX0_init_48 : decode cX0_init 48 = .ok (.aload_n 0, 1) := dk_42 (dk_at dksX0_init_2 0 rfl rfl)
theorem dX0_init_49 : decode cX0_init 49 = .ok (.iconst (-1), 1) := dk_2 (dk_at dksX0_init_2 1 rfl rfl)
theorem dX0_init_50 : decode cX0_init 50 = .ok (.putfield 41, 3) := dk_181 0 41 (dk_at dksX0_init_2 2 rfl rfl)
theorem dX0_init_53 : decode cX0_init 53 = .ok (.aload_n 0, 1) := dk_42 (dk_at dksX0_init_2 5 rfl rfl)
theorem dX0_init_54 : decode cX0_init 54 = .ok (.bipush 10, 2) := dk_16 10 (dk_at dksX0_init_2 6 rfl rfl)
theorem dX0_init_56 : decode cX0_init 56 = .ok (.anewarray 25, 3) := dk_189 0 25 (dk_at dksX0_init_2 8 rfl rfl)
theorem dX0_init_59 : decode cX0_init 59 = .ok (.dup, 1) := dk_89 (dk_at dksX0_init_2 11 rfl rfl)
theorem dX0_init_60 : decode cX0_init 60 = .ok (.iconst 0, 1) := dk_3 (dk_at dksX0_init_2 12 rfl rfl)
theorem dX0_init_61 : decode cX0_init 61 = .ok (.new 25, 3) := dk_187 0 25 (dk_at dksX0_init_2 13 rfl rfl)
theorem dX0_init_64 : decode cX0_init 64 = .ok (.dup, 1) := dk_89 (dk_at dksX0_init_2 16 rfl rfl)
theorem dX0_init_65 : decode cX0_init 65 = .ok (.aload_n 0, 1) := dk_42 (dk_at dksX0_init_2 17 rfl rfl)
theorem dX0_init_66 : decode cX0_init 66 = .ok (.invokespecial 27, 3) := dk_183 0 27 (dk_at dksX0_init_2 18 rfl rfl)
theorem dX0_init_69 : decode cX0_init 69 = .ok (.aastore, 1) := dk_83 (dk_at dksX0_init_2 21 rfl rfl)
theorem dX0_init_70 : decode cX0_init 70 = .ok (.dup, 1) := dk_89 (dk_at dksX0_init_2 22 rfl rfl)
theorem dX0_init_71 : decode cX0_init 71 = .ok (.iconst 1, 1) := dk_4 (dk_at dksX0_init_2 23 rfl rfl)
theorem dX0_init_72 : decode cX0_init 72 = .ok (.new 25, 3) := dk_187 0 25 (dk_at dksX0_init_3 0 rfl rfl)
theorem dX0_init_75 : decode cX0_init 75 = .ok (.dup, 1) := dk_89 (dk_at dksX0_init_3 3 rfl rfl)
theorem dX0_init_76 : decode cX0_init 76 = .ok (.aload_n 0, 1) := dk_42 (dk_at dksX0_init_3 4 rfl rfl)
theorem dX0_init_77 : decode cX0_init 77 = .ok (.invokespecial 27, 3) := dk_183 0 27 (dk_at dksX0_init_3 5 rfl rfl)
theorem dX0_init_80 : decode cX0_init 80 = .ok (.aastore, 1) := dk_83 (dk_at dksX0_init_3 8 rfl rfl)
theorem dX0_init_81 : decode cX0_init 81 = .ok (.dup, 1) := dk_89 (dk_at dksX0_init_3 9 rfl rfl)
theorem dX0_init_82 : decode cX0_init 82 = .ok (.iconst 2, 1) := dk_5 (dk_at dksX0_init_3 10 rfl rfl)
theorem dX0_init_83 : decode cX0_init 83 = .ok (.new 25, 3) := dk_187 0 25 (dk_at dksX0_init_3 11 rfl rfl)
theorem dX0_init_86 : decode cX0_init 86 = .ok (.dup, 1) := dk_89 (dk_at dksX0_init_3 14 rfl rfl)
theorem dX0_init_87 : decode cX0_init 87 = .ok (.aload_n 0, 1) := dk_42 (dk_at dksX0_init_3 15 rfl rfl)
theorem dX0_init_88 : decode cX0_init 88 = .ok (.invokespecial 27, 3) := dk_183 0 27 (dk_at dksX0_init_3 16 rfl rfl)
theorem dX0_init_91 : decode cX0_init 91 = .ok (.aastore, 1) := dk_83 (dk_at dksX0_init_3 19 rfl rfl)
theorem dX0_init_92 : decode cX0_init 92 = .ok (.dup, 1) := dk_89 (dk_at dksX0_init_3 20 rfl rfl)
theorem dX0_init_93 : decode cX0_init 93 = .ok (.iconst 3, 1) := dk_6 (dk_at dksX0_init_3 21 rfl rfl)
theorem dX0_init_94 : decode cX0_init 94 = .ok (.new 25, 3) := dk_187 0 25 (dk_at dksX0_init_4 0 rfl rfl)
theorem dX0_init_97 : decode cX0_init 97 = .ok (.dup, 1) := dk_89 (dk_at dksX0_init_4 3 rfl rfl)
theorem dX0_init_98 : decode cX0_init 98 = .ok (.aload_n 0, 1) := dk_42 (dk_at dksX0_init_4 4 rfl rfl)
theorem dX0_init_99 : decode cX0_init 99 = .ok (.invokespecial 27, 3) := dk_183 0 27 (dk_at dksX0_init_4 5 rfl rfl)
theorem dX0_init_102 : decode cX0_init 102 = .ok (.aastore, 1) := dk_83 (dk_at dksX0_init_4 8 rfl rfl)
theorem dX0_init_103 : decode cX0_init 103 = .ok (.dup, 1) := dk_89 (dk_at dksX0_init_4 9 rfl rfl)
theorem dX0_init_104 : decode cX0_init 104 = .ok (.iconst 4, 1) := dk_7 (dk_at dksX0_init_4 10 rfl rfl)
theorem dX0_init_105 : decode cX0_init 105 = .ok (.new 25, 3) := dk_187 0 25 (dk_at dksX0_init_4 11 rfl rfl)
theorem dX0_init_108 : decode cX0_init 108 = .ok (.dup, 1) := dk_89 (dk_at dksX0_init_4 14 rfl rfl)
theorem dX0_init_109 : decode cX0_init 109 = .ok (.aload_n 0, 1) := dk_42 (dk_at dksX0_init_4 15 rfl rfl)
theorem dX0_init_110 : decode cX0_init 110 = .ok (.invokespecial 27, 3) := dk_183 0 27 (dk_at dksX0_init_4 16 rfl rfl)
theorem dX0_init_113 : decode cX0_init 113 = .ok (.aastore, 1) := dk_83 (dk_at dksX0_init_4 19 rfl rfl)
theorem dX0_init_114 : decode cX0_init 114 = .ok (.dup, 1) := dk_89 (dk_at dksX0_init_4 20 rfl rfl)
theorem dX0_init_115 : decode cX0_init 115 = .ok (.iconst 5, 1) := dk_8 (dk_at dksX0_init_4 21 rfl rfl)
theorem dX0_init_116 : decode cX0_init 116 = .ok (.new 25, 3) := dk_187 0 25 (dk_at dksX0_init_5 0 rfl rfl)
theorem dX0_init_119 : decode cX0_init 119 = .ok (.dup, 1) := dk_89 (dk_at dksX0_init_5 3 rfl rfl)
theorem dX0_init_120 : decode cX0_init 120 = .ok (.aload_n 0, 1) := dk_42 (dk_at dksX0_init_5 4 rfl rfl)
theorem dX0_init_121 : decode cX0_init 121 = .ok (.invokespecial 27, 3) := dk_183 0 27 (dk_at dksX0_init_5 5 rfl rfl)
theorem dX0_init_124 : decode cX0_init 124 = .ok (.aastore, 1) := dk_83 (dk_at dksX0_init_5 8 rfl rfl)
theorem dX0_init_125 : decode cX0_init 125 = .ok (.dup, 1) := dk_89 (dk_at dksX0_init_5 9 rfl rfl)
theorem dX0_init_126 : decode cX0_init 126 = .ok (.bipush 6, 2) := dk_16 6 (dk_at dksX0_init_5 10 rfl rfl)
theorem dX0_init_128 : decode cX0_init 128 = .ok (.new 25, 3) := dk_187 0 25 (dk_at dksX0_init_5 12 rfl rfl)
theorem dX0_init_131 : decode cX0_init 131 = .ok (.dup, 1) := dk_89 (dk_at dksX0_init_5 15 rfl rfl)
theorem dX0_init_132 : decode cX0_init 132 = .ok (.aload_n 0, 1) := dk_42 (dk_at dksX0_init_5 16 rfl rfl)
theorem dX0_init_133 : decode cX0_init 133 = .ok (.invokespecial 27, 3) := dk_183 0 27 (dk_at dksX0_init_5 17 rfl rfl)
theorem dX0_init_136 : decode cX0_init 136 = .ok (.aastore, 1) := dk_83 (dk_at dksX0_init_5 20 rfl rfl)
theorem dX0_init_137 : decode cX0_init 137 = .ok (.dup, 1) := dk_89 (dk_at dksX0_init_5 21 rfl rfl)
theorem dX0_init_138 : decode cX0_init 138 = .ok (.bipush 7, 2) := dk_16 7 (dk_at dksX0_init_5 22 rfl rfl)
theorem dX0_init_140 : decode cX0_init 140 = .ok (.new 25, 3) := dk_187 0 25 (dk_at dksX0_init_6 0 rfl rfl)
theorem dX0_init_143 : decode cX0_init 143 = .ok (.dup, 1) := dk_89 (dk_at dksX0_init_6 3 rfl rfl)
theorem dX0_init_144 : decode cX0_init 144 = .ok (.aload_n 0, 1) := dk_42 (dk_at dksX0_init_6 4 rfl rfl)
theorem dX0_init_145 : decode cX0_init 145 = .ok (.invokespecial 27, 3) := dk_183 0 27 (dk_at dksX0_init_6 5 rfl rfl)
theorem dX0_init_148 : decode cX0_init 148 = .ok (.aastore, 1) := dk_83 (dk_at dksX0_init_6 8 rfl rfl)
theorem dX0_init_149 : decode cX0_init 149 = .ok (.dup, 1) := dk_89 (dk_at dksX0_init_6 9 rfl rfl)
theorem dX0_init_150 : decode cX0_init 150 = .ok (.bipush 8, 2) := dk_16 8 (dk_at dksX0_init_6 10 rfl rfl)
theorem dX0_init_152 : decode cX0_init 152 = .ok (.new 25, 3) := dk_187 0 25 (dk_at dksX0_init_6 12 rfl rfl)
theorem dX0_init_155 : decode cX0_init 155 = .ok (.dup, 1) := dk_89 (dk_at dksX0_init_6 15 rfl rfl)
theorem dX0_init_156 : decode cX0_init 156 = .ok (.aload_n 0, 1) := dk_42 (dk_at dksX0_init_6 16 rfl rfl)
theorem dX0_init_157 : decode cX0_init 157 = .ok (.invokespecial 27, 3) := dk_183 0 27 (dk_at dksX0_init_6 17 rfl rfl)
theorem dX0_init_160 : decode cX0_init 160 = .ok (.aastore, 1) := dk_83 (dk_at dksX0_init_6 20 rfl rfl)
theorem dX0_init_161 : decode cX0_init 161 = .ok (.dup, 1) := dk_89 (dk_at dksX0_init_6 21 rfl rfl)
theorem dX0_init_162 : decode cX0_init 162 = .ok (.bipush 9, 2) := dk_16 9 (dk_at dksX0_init_6 22 rfl rfl)
theorem dX0_init_164 : decode cX0_init 164 = .ok (.new 25, 3) := dk_187 0 25 (dk_at dksX0_init_7 0 rfl rfl)
theorem dX0_init_167 : decode cX0_init 167 = .ok (.dup, 1) := dk_89 (dk_at dksX0_init_7 3 rfl rfl)
theorem dX0_init_168 : decode cX0_init 168 = .ok (.aload_n 0, 1) := dk_42 (dk_at dksX0_init_7 4 rfl rfl)
theorem dX0_init_169 : decode cX0_init 169 = .ok (.invokespecial 27, 3) := dk_183 0 27 (dk_at dksX0_init_7 5 rfl rfl)
theorem dX0_init_172 : decode cX0_init 172 = .ok (.aastore, 1) := dk_83 (dk_at dksX0_init_7 8 rfl rfl)
theorem dX0_init_173 : decode cX0_init 173 = .ok (.putfield 45, 3) := dk_181 0 45 (dk_at dksX0_init_7 9 rfl rfl)
theorem dX0_init_176 : decode cX0_init 176 = .ok (.aload_n 0, 1) := dk_42 (dk_at dksX0_init_7 12 rfl rfl)
theorem dX0_init_177 : decode cX0_init 177 = .ok (.sipush 288, 3) := dk_17 1 32 (dk_at dksX0_init_7 13 rfl rfl)
theorem dX0_init_180 : decode cX0_init 180 = .ok (.newarray .int, 2) := dk_188_10 (dk_at dksX0_init_7 16 rfl rfl)
theorem dX0_init_182 : decode cX0_init 182 = .ok (.putfield 49, 3) := dk_181 0 49 (dk_at dksX0_init_7 18 rfl rfl)
theorem dX0_init_185 : decode cX0_init 185 = .ok (.aload_n 0, 1) := dk_42 (dk_at dksX0_init_7 21 rfl rfl)
theorem dX0_init_186 : decode cX0_init 186 = .ok (.bipush 36, 2) := dk_16 36 (dk_at dksX0_init_7 22 rfl rfl)
theorem dX0_init_188 : decode cX0_init 188 = .ok (.newarray .int, 2) := dk_188_10 (dk_at dksX0_init_8 0 rfl rfl)
theorem dX0_init_190 : decode cX0_init 190 = .ok (.putfield 53, 3) := dk_181 0 53 (dk_at dksX0_init_8 2 rfl rfl)
theorem dX0_init_193 : decode cX0_init 193 = .ok (.aload_n 0, 1) := dk_42 (dk_at dksX0_init_8 5 rfl rfl)
theorem dX0_init_194 : decode cX0_init 194 = .ok (.bipush 36, 2) := dk_16 36 (dk_at dksX0_init_8 6 rfl rfl)
theorem dX0_init_196 : decode cX0_init 196 = .ok (.newarray .int, 2) := dk_188_10 (dk_at dksX0_init_8 8 rfl rfl)
theorem dX0_init_198 : decode cX0_init 198 = .ok (.putfield 56, 3) := dk_181 0 56 (dk_at dksX0_init_8 10 rfl rfl)
theorem dX0_init_201 : decode cX0_init 201 = .ok (.aload_n 0, 1) := dk_42 (dk_at dksX0_init_8 13 rfl rfl)
theorem dX0_init_202 : decode cX0_init 202 = .ok (.bipush 36, 2) := dk_16 36 (dk_at dksX0_init_8 14 rfl rfl)
theorem dX0_init_204 : decode cX0_init 204 = .ok (.newarray .boolean, 2) := dk_188_4 (dk_at dksX0_init_8 16 rfl rfl)
theorem dX0_init_206 : decode cX0_init 206 = .ok (.putfield 59, 3) := dk_181 0 59 (dk_at dksX0_init_8 18 rfl rfl)
theorem dX0_init_209 : decode cX0_init 209 = .ok (.aload_n 0, 1) := dk_42 (dk_at dksX0_init_8 21 rfl rfl)
theorem dX0_init_210 : decode cX0_init 210 = .ok (.sipush 396, 3) := dk_17 1 140 (dk_at dksX0_init_9 0 rfl rfl)
theorem dX0_init_213 : decode cX0_init 213 = .ok (.newarray .long, 2) := dk_188_11 (dk_at dksX0_init_9 3 rfl rfl)
theorem dX0_init_215 : decode cX0_init 215 = .ok (.putfield 63, 3) := dk_181 0 63 (dk_at dksX0_init_9 5 rfl rfl)
theorem dX0_init_218 : decode cX0_init 218 = .ok (.aload_n 0, 1) := dk_42 (dk_at dksX0_init_9 8 rfl rfl)
theorem dX0_init_219 : decode cX0_init 219 = .ok (.sipush 396, 3) := dk_17 1 140 (dk_at dksX0_init_9 9 rfl rfl)
theorem dX0_init_222 : decode cX0_init 222 = .ok (.newarray .long, 2) := dk_188_11 (dk_at dksX0_init_9 12 rfl rfl)
theorem dX0_init_224 : decode cX0_init 224 = .ok (.putfield 67, 3) := dk_181 0 67 (dk_at dksX0_init_9 14 rfl rfl)
theorem dX0_init_227 : decode cX0_init 227 = .ok (.aload_n 0, 1) := dk_42 (dk_at dksX0_init_9 17 rfl rfl)
theorem dX0_init_228 : decode cX0_init 228 = .ok (.bipush 6, 2) := dk_16 6 (dk_at dksX0_init_9 18 rfl rfl)
theorem dX0_init_230 : decode cX0_init 230 = .ok (.newarray .int, 2) := dk_188_10 (dk_at dksX0_init_9 20 rfl rfl)
theorem dX0_init_232 : decode cX0_init 232 = .ok (.putfield 70, 3) := dk_181 0 70 (dk_at dksX0_init_10 0 rfl rfl)
theorem dX0_init_235 : decode cX0_init 235 = .ok (.aload_n 0, 1) := dk_42 (dk_at dksX0_init_10 3 rfl rfl)
theorem dX0_init_236 : decode cX0_init 236 = .ok (.sipush 360, 3) := dk_17 1 104 (dk_at dksX0_init_10 4 rfl rfl)
theorem dX0_init_239 : decode cX0_init 239 = .ok (.newarray .boolean, 2) := dk_188_4 (dk_at dksX0_init_10 7 rfl rfl)
theorem dX0_init_241 : decode cX0_init 241 = .ok (.putfield 73, 3) := dk_181 0 73 (dk_at dksX0_init_10 9 rfl rfl)
theorem dX0_init_244 : decode cX0_init 244 = .ok (.aload_n 0, 1) := dk_42 (dk_at dksX0_init_10 12 rfl rfl)
theorem dX0_init_245 : decode cX0_init 245 = .ok (.sipush 324, 3) := dk_17 1 68 (dk_at dksX0_init_10 13 rfl rfl)
theorem dX0_init_248 : decode cX0_init 248 = .ok (.newarray .int, 2) := dk_188_10 (dk_at dksX0_init_10 16 rfl rfl)
theorem dX0_init_250 : decode cX0_init 250 = .ok (.putfield 76, 3) := dk_181 0 76 (dk_at dksX0_init_10 18 rfl rfl)
theorem dX0_init_253 : decode cX0_init 253 = .ok (.aload_n 0, 1) := dk_42 (dk_at dksX0_init_10 21 rfl rfl)
theorem dX0_init_254 : decode cX0_init 254 = .ok (.iconst 4, 1) := dk_7 (dk_at dksX0_init_10 22 rfl rfl)
theorem dX0_init_255 : decode cX0_init 255 = .ok (.anewarray 79, 3) := dk_189 0 79 (dk_at dksX0_init_11 0 rfl rfl)
theorem dX0_init_258 : decode cX0_init 258 = .ok (.dup, 1) := dk_89 (dk_at dksX0_init_11 3 rfl rfl)
theorem dX0_init_259 : decode cX0_init 259 = .ok (.iconst 0, 1) := dk_3 (dk_at dksX0_init_11 4 rfl rfl)
theorem dX0_init_260 : decode cX0_init 260 = .ok (.new 79, 3) := dk_187 0 79 (dk_at dksX0_init_11 5 rfl rfl)
theorem dX0_init_263 : decode cX0_init 263 = .ok (.dup, 1) := dk_89 (dk_at dksX0_init_11 8 rfl rfl)
theorem dX0_init_264 : decode cX0_init 264 = .ok (.invokespecial 81, 3) := dk_183 0 81 (dk_at dksX0_init_11 9 rfl rfl)
theorem dX0_init_267 : decode cX0_init 267 = .ok (.aastore, 1) := dk_83 (dk_at dksX0_init_11 12 rfl rfl)
theorem dX0_init_268 : decode cX0_init 268 = .ok (.dup, 1) := dk_89 (dk_at dksX0_init_11 13 rfl rfl)
theorem dX0_init_269 : decode cX0_init 269 = .ok (.iconst 1, 1) := dk_4 (dk_at dksX0_init_11 14 rfl rfl)
theorem dX0_init_270 : decode cX0_init 270 = .ok (.new 79, 3) := dk_187 0 79 (dk_at dksX0_init_11 15 rfl rfl)
theorem dX0_init_273 : decode cX0_init 273 = .ok (.dup, 1) := dk_89 (dk_at dksX0_init_11 18 rfl rfl)
theorem dX0_init_274 : decode cX0_init 274 = .ok (.invokespecial 81, 3) := dk_183 0 81 (dk_at dksX0_init_11 19 rfl rfl)
theorem dX0_init_277 : decode cX0_init 277 = .ok (.aastore, 1) := dk_83 (dk_at dksX0_init_11 22 rfl rfl)
theorem dX0_init_278 : decode cX0_init 278 = .ok (.dup, 1) := dk_89 (dk_at dksX0_init_11 23 rfl rfl)
theorem dX0_init_279 : decode cX0_init 279 = .ok (.iconst 2, 1) := dk_5 (dk_at dksX0_init_12 0 rfl rfl)
theorem dX0_init_280 : decode cX0_init 280 = .ok (.new 79, 3) := dk_187 0 79 (dk_at dksX0_init_12 1 rfl rfl)
theorem dX0_init_283 : decode cX0_init 283 = .ok (.dup, 1) := dk_89 (dk_at dksX0_init_12 4 rfl rfl)
theorem dX0_init_284 : decode cX0_init 284 = .ok (.invokespecial 81, 3) := dk_183 0 81 (dk_at dksX0_init_12 5 rfl rfl)
theorem dX0_init_287 : decode cX0_init 287 = .ok (.aastore, 1) := dk_83 (dk_at dksX0_init_12 8 rfl rfl)
theorem dX0_init_288 : decode cX0_init 288 = .ok (.dup, 1) := dk_89 (dk_at dksX0_init_12 9 rfl rfl)
theorem dX0_init_289 : decode cX0_init 289 = .ok (.iconst 3, 1) := dk_6 (dk_at dksX0_init_12 10 rfl rfl)
theorem dX0_init_290 : decode cX0_init 290 = .ok (.new 79, 3) := dk_187 0 79 (dk_at dksX0_init_12 11 rfl rfl)
theorem dX0_init_293 : decode cX0_init 293 = .ok (.dup, 1) := dk_89 (dk_at dksX0_init_12 14 rfl rfl)
theorem dX0_init_294 : decode cX0_init 294 = .ok (.invokespecial 81, 3) := dk_183 0 81 (dk_at dksX0_init_12 15 rfl rfl)
theorem dX0_init_297 : decode cX0_init 297 = .ok (.aastore, 1) := dk_83 (dk_at dksX0_init_12 18 rfl rfl)
theorem dX0_init_298 : decode cX0_init 298 = .ok (.putfield 82, 3) := dk_181 0 82 (dk_at dksX0_init_12 19 rfl rfl)
theorem dX0_init_301 : decode cX0_init 301 = .ok (.aload_n 0, 1) := dk_42 (dk_at dksX0_init_12 22 rfl rfl)
theorem dX0_init_302 : decode cX0_init 302 = .ok (.iconst 2, 1) := dk_5 (dk_at dksX0_init_12 23 rfl rfl)
theorem dX0_init_303 : decode cX0_init 303 = .ok (.anewarray 18, 3) := dk_189 0 18 (dk_at dksX0_init_13 0 rfl rfl)
theorem dX0_init_306 : decode cX0_init 306 = .ok (.putfield 86, 3) := dk_181 0 86 (dk_at dksX0_init_13 3 rfl rfl)
theorem dX0_init_309 : decode cX0_init 309 = .ok (.aload_n 0, 1) := dk_42 (dk_at dksX0_init_13 6 rfl rfl)
theorem dX0_init_310 : decode cX0_init 310 = .ok (.iconst 2, 1) := dk_5 (dk_at dksX0_init_13 7 rfl rfl)
theorem dX0_init_311 : decode cX0_init 311 = .ok (.anewarray 25, 3) := dk_189 0 25 (dk_at dksX0_init_13 8 rfl rfl)
theorem dX0_init_314 : decode cX0_init 314 = .ok (.dup, 1) := dk_89 (dk_at dksX0_init_13 11 rfl rfl)
theorem dX0_init_315 : decode cX0_init 315 = .ok (.iconst 0, 1) := dk_3 (dk_at dksX0_init_13 12 rfl rfl)
theorem dX0_init_316 : decode cX0_init 316 = .ok (.new 25, 3) := dk_187 0 25 (dk_at dksX0_init_13 13 rfl rfl)
theorem dX0_init_319 : decode cX0_init 319 = .ok (.dup, 1) := dk_89 (dk_at dksX0_init_13 16 rfl rfl)
theorem dX0_init_320 : decode cX0_init 320 = .ok (.aload_n 0, 1) := dk_42 (dk_at dksX0_init_13 17 rfl rfl)
theorem dX0_init_321 : decode cX0_init 321 = .ok (.invokespecial 27, 3) := dk_183 0 27 (dk_at dksX0_init_13 18 rfl rfl)
theorem dX0_init_324 : decode cX0_init 324 = .ok (.aastore, 1) := dk_83 (dk_at dksX0_init_13 21 rfl rfl)
theorem dX0_init_325 : decode cX0_init 325 = .ok (.dup, 1) := dk_89 (dk_at dksX0_init_13 22 rfl rfl)
theorem dX0_init_326 : decode cX0_init 326 = .ok (.iconst 1, 1) := dk_4 (dk_at dksX0_init_13 23 rfl rfl)
theorem dX0_init_327 : decode cX0_init 327 = .ok (.new 25, 3) := dk_187 0 25 (dk_at dksX0_init_14 0 rfl rfl)
theorem dX0_init_330 : decode cX0_init 330 = .ok (.dup, 1) := dk_89 (dk_at dksX0_init_14 3 rfl rfl)
theorem dX0_init_331 : decode cX0_init 331 = .ok (.aload_n 0, 1) := dk_42 (dk_at dksX0_init_14 4 rfl rfl)
theorem dX0_init_332 : decode cX0_init 332 = .ok (.invokespecial 27, 3) := dk_183 0 27 (dk_at dksX0_init_14 5 rfl rfl)
theorem dX0_init_335 : decode cX0_init 335 = .ok (.aastore, 1) := dk_83 (dk_at dksX0_init_14 8 rfl rfl)
theorem dX0_init_336 : decode cX0_init 336 = .ok (.putfield 90, 3) := dk_181 0 90 (dk_at dksX0_init_14 9 rfl rfl)
theorem dX0_init_339 : decode cX0_init 339 = .ok (.aload_n 0, 1) := dk_42 (dk_at dksX0_init_14 12 rfl rfl)
theorem dX0_init_340 : decode cX0_init 340 = .ok (.getfield 30, 3) := dk_180 0 30 (dk_at dksX0_init_14 13 rfl rfl)
theorem dX0_init_343 : decode cX0_init 343 = .ok (.invokevirtual 93, 3) := dk_182 0 93 (dk_at dksX0_init_14 16 rfl rfl)
theorem dX0_init_346 : decode cX0_init 346 = .ok (.return_, 1) := dk_177 (dk_at dksX0_init_14 19 rfl rfl)
abbrev cX0_standOf : ByteArray := prog_1_method_5_code
def yX0_standOf : MethodName := ⟨RX0, "standOf", "(II)I"⟩
def dkwX0_standOf_0 : List UInt8 := [16, 6, 26, 104, 27, 96, 172]
abbrev dktX0_standOf_0 : List UInt8 := dkwX0_standOf_0 ++ []
theorem dksX0_standOf_0 : cX0_standOf.data.toList.drop 0 = dktX0_standOf_0 := by decide +kernel
theorem dX0_standOf_0 : decode cX0_standOf 0 = .ok (.bipush 6, 2) := dk_16 6 (dk_at dksX0_standOf_0 0 rfl rfl)
theorem dX0_standOf_2 : decode cX0_standOf 2 = .ok (.iload_n 0, 1) := dk_26 (dk_at dksX0_standOf_0 2 rfl rfl)
theorem dX0_standOf_3 : decode cX0_standOf 3 = .ok (.imul, 1) := dk_104 (dk_at dksX0_standOf_0 3 rfl rfl)
theorem dX0_standOf_4 : decode cX0_standOf 4 = .ok (.iload_n 1, 1) := dk_27 (dk_at dksX0_standOf_0 4 rfl rfl)
theorem dX0_standOf_5 : decode cX0_standOf 5 = .ok (.iadd, 1) := dk_96 (dk_at dksX0_standOf_0 5 rfl rfl)
theorem dX0_standOf_6 : decode cX0_standOf 6 = .ok (.ireturn, 1) := dk_172 (dk_at dksX0_standOf_0 6 rfl rfl)
abbrev cX0_feed : ByteArray := prog_1_method_10_code
def yX0_feed : MethodName := ⟨RX0, "feed", "(IIIII)I"⟩
def dkwX0_feed_2 : List UInt8 := [172]
abbrev dktX0_feed_2 : List UInt8 := dkwX0_feed_2 ++ []
def dkwX0_feed_1 : List UInt8 := [182, 0, 99, 42, 29, 182, 0, 99, 42, 21, 4, 182, 0, 99, 42, 21, 5, 182, 0, 99, 42, 180, 0, 96]
abbrev dktX0_feed_1 : List UInt8 := dkwX0_feed_1 ++ dktX0_feed_2
def dkwX0_feed_0 : List UInt8 := [42, 180, 0, 96, 16, 20, 96, 17, 3, 132, 164, 0, 6, 16, 251, 172, 42, 27, 182, 0, 99, 42, 28]
abbrev dktX0_feed_0 : List UInt8 := dkwX0_feed_0 ++ dktX0_feed_1
theorem dksX0_feed_0 : cX0_feed.data.toList.drop 0 = dktX0_feed_0 := by decide +kernel
theorem dksX0_feed_1 : cX0_feed.data.toList.drop 23 = dktX0_feed_1 := dk_seg dksX0_feed_0 23 rfl rfl
theorem dksX0_feed_2 : cX0_feed.data.toList.drop 47 = dktX0_feed_2 := dk_seg dksX0_feed_1 24 rfl rfl
theorem dX0_feed_0 : decode cX0_feed 0 = .ok (.aload_n 0, 1) := dk_42 (dk_at dksX0_feed_0 0 rfl rfl)
theorem dX0_feed_1 : decode cX0_feed 1 = .ok (.getfield 96, 3) := dk_180 0 96 (dk_at dksX0_feed_0 1 rfl rfl)
theorem dX0_feed_4 : decode cX0_feed 4 = .ok (.bipush 20, 2) := dk_16 20 (dk_at dksX0_feed_0 4 rfl rfl)
theorem dX0_feed_6 : decode cX0_feed 6 = .ok (.iadd, 1) := dk_96 (dk_at dksX0_feed_0 6 rfl rfl)
theorem dX0_feed_7 : decode cX0_feed 7 = .ok (.sipush 900, 3) := dk_17 3 132 (dk_at dksX0_feed_0 7 rfl rfl)
theorem dX0_feed_10 : decode cX0_feed 10 = .ok (.if_icmp .le 6, 3) := dk_164 0 6 (dk_at dksX0_feed_0 10 rfl rfl)
theorem dX0_feed_13 : decode cX0_feed 13 = .ok (.bipush (-5), 2) := dk_16 251 (dk_at dksX0_feed_0 13 rfl rfl)
theorem dX0_feed_15 : decode cX0_feed 15 = .ok (.ireturn, 1) := dk_172 (dk_at dksX0_feed_0 15 rfl rfl)
theorem dX0_feed_16 : decode cX0_feed 16 = .ok (.aload_n 0, 1) := dk_42 (dk_at dksX0_feed_0 16 rfl rfl)
theorem dX0_feed_17 : decode cX0_feed 17 = .ok (.iload_n 1, 1) := dk_27 (dk_at dksX0_feed_0 17 rfl rfl)
theorem dX0_feed_18 : decode cX0_feed 18 = .ok (.invokevirtual 99, 3) := dk_182 0 99 (dk_at dksX0_feed_0 18 rfl rfl)
theorem dX0_feed_21 : decode cX0_feed 21 = .ok (.aload_n 0, 1) := dk_42 (dk_at dksX0_feed_0 21 rfl rfl)
theorem dX0_feed_22 : decode cX0_feed 22 = .ok (.iload_n 2, 1) := dk_28 (dk_at dksX0_feed_0 22 rfl rfl)
theorem dX0_feed_23 : decode cX0_feed 23 = .ok (.invokevirtual 99, 3) := dk_182 0 99 (dk_at dksX0_feed_1 0 rfl rfl)
theorem dX0_feed_26 : decode cX0_feed 26 = .ok (.aload_n 0, 1) := dk_42 (dk_at dksX0_feed_1 3 rfl rfl)
theorem dX0_feed_27 : decode cX0_feed 27 = .ok (.iload_n 3, 1) := dk_29 (dk_at dksX0_feed_1 4 rfl rfl)
theorem dX0_feed_28 : decode cX0_feed 28 = .ok (.invokevirtual 99, 3) := dk_182 0 99 (dk_at dksX0_feed_1 5 rfl rfl)
theorem dX0_feed_31 : decode cX0_feed 31 = .ok (.aload_n 0, 1) := dk_42 (dk_at dksX0_feed_1 8 rfl rfl)
theorem dX0_feed_32 : decode cX0_feed 32 = .ok (.iload 4, 2) := dk_21 4 (dk_at dksX0_feed_1 9 rfl rfl)
theorem dX0_feed_34 : decode cX0_feed 34 = .ok (.invokevirtual 99, 3) := dk_182 0 99 (dk_at dksX0_feed_1 11 rfl rfl)
theorem dX0_feed_37 : decode cX0_feed 37 = .ok (.aload_n 0, 1) := dk_42 (dk_at dksX0_feed_1 14 rfl rfl)
theorem dX0_feed_38 : decode cX0_feed 38 = .ok (.iload 5, 2) := dk_21 5 (dk_at dksX0_feed_1 15 rfl rfl)
theorem dX0_feed_40 : decode cX0_feed 40 = .ok (.invokevirtual 99, 3) := dk_182 0 99 (dk_at dksX0_feed_1 17 rfl rfl)
theorem dX0_feed_43 : decode cX0_feed 43 = .ok (.aload_n 0, 1) := dk_42 (dk_at dksX0_feed_1 20 rfl rfl)
theorem dX0_feed_44 : decode cX0_feed 44 = .ok (.getfield 96, 3) := dk_180 0 96 (dk_at dksX0_feed_1 21 rfl rfl)
theorem dX0_feed_47 : decode cX0_feed 47 = .ok (.ireturn, 1) := dk_172 (dk_at dksX0_feed_2 0 rfl rfl)
abbrev cX0_bytes : ByteArray := prog_1_method_11_code
def yX0_bytes : MethodName := ⟨RX0, "bytes", "(I)V"⟩
def dkwX0_bytes_1 : List UInt8 := [180, 0, 96, 4, 96, 181, 0, 96, 132, 2, 248, 167, 255, 226, 177]
abbrev dktX0_bytes_1 : List UInt8 := dkwX0_bytes_1 ++ []
def dkwX0_bytes_0 : List UInt8 := [16, 24, 61, 28, 155, 0, 32, 42, 180, 0, 37, 42, 180, 0, 96, 27, 28, 122, 145, 84, 42, 89]
abbrev dktX0_bytes_0 : List UInt8 := dkwX0_bytes_0 ++ dktX0_bytes_1
theorem dksX0_bytes_0 : cX0_bytes.data.toList.drop 0 = dktX0_bytes_0 := by decide +kernel
theorem dksX0_bytes_1 : cX0_bytes.data.toList.drop 22 = dktX0_bytes_1 := dk_seg dksX0_bytes_0 22 rfl rfl
theorem dX0_bytes_0 : decode cX0_bytes 0 = .ok (.bipush 24, 2) := dk_16 24 (dk_at dksX0_bytes_0 0 rfl rfl)
theorem dX0_bytes_2 : decode cX0_bytes 2 = .ok (.istore_n 2, 1) := dk_61 (dk_at dksX0_bytes_0 2 rfl rfl)
theorem dX0_bytes_3 : decode cX0_bytes 3 = .ok (.iload_n 2, 1) := dk_28 (dk_at dksX0_bytes_0 3 rfl rfl)
theorem dX0_bytes_4 : decode cX0_bytes 4 = .ok (.ifCond .lt 32, 3) := dk_155 0 32 (dk_at dksX0_bytes_0 4 rfl rfl)
theorem dX0_bytes_7 : decode cX0_bytes 7 = .ok (.aload_n 0, 1) := dk_42 (dk_at dksX0_bytes_0 7 rfl rfl)
theorem dX0_bytes_8 : decode cX0_bytes 8 = .ok (.getfield 37, 3) := dk_180 0 37 (dk_at dksX0_bytes_0 8 rfl rfl)
theorem dX0_bytes_11 : decode cX0_bytes 11 = .ok (.aload_n 0, 1) := dk_42 (dk_at dksX0_bytes_0 11 rfl rfl)
theorem dX0_bytes_12 : decode cX0_bytes 12 = .ok (.getfield 96, 3) := dk_180 0 96 (dk_at dksX0_bytes_0 12 rfl rfl)
theorem dX0_bytes_15 : decode cX0_bytes 15 = .ok (.iload_n 1, 1) := dk_27 (dk_at dksX0_bytes_0 15 rfl rfl)
theorem dX0_bytes_16 : decode cX0_bytes 16 = .ok (.iload_n 2, 1) := dk_28 (dk_at dksX0_bytes_0 16 rfl rfl)
theorem dX0_bytes_17 : decode cX0_bytes 17 = .ok (.ishr, 1) := dk_122 (dk_at dksX0_bytes_0 17 rfl rfl)
theorem dX0_bytes_18 : decode cX0_bytes 18 = .ok (.i2b, 1) := dk_145 (dk_at dksX0_bytes_0 18 rfl rfl)
theorem dX0_bytes_19 : decode cX0_bytes 19 = .ok (.bastore, 1) := dk_84 (dk_at dksX0_bytes_0 19 rfl rfl)
theorem dX0_bytes_20 : decode cX0_bytes 20 = .ok (.aload_n 0, 1) := dk_42 (dk_at dksX0_bytes_0 20 rfl rfl)
theorem dX0_bytes_21 : decode cX0_bytes 21 = .ok (.dup, 1) := dk_89 (dk_at dksX0_bytes_0 21 rfl rfl)
theorem dX0_bytes_22 : decode cX0_bytes 22 = .ok (.getfield 96, 3) := dk_180 0 96 (dk_at dksX0_bytes_1 0 rfl rfl)
theorem dX0_bytes_25 : decode cX0_bytes 25 = .ok (.iconst 1, 1) := dk_4 (dk_at dksX0_bytes_1 3 rfl rfl)
theorem dX0_bytes_26 : decode cX0_bytes 26 = .ok (.iadd, 1) := dk_96 (dk_at dksX0_bytes_1 4 rfl rfl)
theorem dX0_bytes_27 : decode cX0_bytes 27 = .ok (.putfield 96, 3) := dk_181 0 96 (dk_at dksX0_bytes_1 5 rfl rfl)
theorem dX0_bytes_30 : decode cX0_bytes 30 = .ok (.iinc 2 (-8), 3) := dk_132 2 248 (dk_at dksX0_bytes_1 8 rfl rfl)
theorem dX0_bytes_33 : decode cX0_bytes 33 = .ok (.goto (-30), 3) := dk_167 255 226 (dk_at dksX0_bytes_1 11 rfl rfl)
theorem dX0_bytes_36 : decode cX0_bytes 36 = .ok (.return_, 1) := dk_177 (dk_at dksX0_bytes_1 14 rfl rfl)
abbrev cX0_cave : ByteArray := prog_1_method_12_code
def yX0_cave : MethodName := ⟨RX0, "cave", "(I)I"⟩
def dkwX0_cave_4 : List UInt8 := [180, 0, 130, 172]
abbrev dktX0_cave_4 : List UInt8 := dkwX0_cave_4 ++ []
def dkwX0_cave_3 : List UInt8 := [180, 0, 124, 181, 0, 21, 42, 180, 0, 30, 182, 0, 93, 42, 3, 181, 0, 127, 42, 180, 0, 21]
abbrev dktX0_cave_3 : List UInt8 := dkwX0_cave_3 ++ dktX0_cave_4
def dkwX0_cave_2 : List UInt8 := [180, 0, 121, 181, 0, 41, 42, 180, 0, 118, 153, 0, 11, 16, 226, 42, 180, 0, 118, 100, 172, 42, 44]
abbrev dktX0_cave_2 : List UInt8 := dkwX0_cave_2 ++ dktX0_cave_3
def dkwX0_cave_1 : List UInt8 := [183, 0, 109, 77, 44, 182, 0, 112, 42, 3, 181, 0, 96, 42, 44, 180, 0, 115, 181, 0, 118, 42, 44]
abbrev dktX0_cave_1 : List UInt8 := dkwX0_cave_1 ++ dktX0_cave_2
def dkwX0_cave_0 : List UInt8 := [27, 133, 9, 42, 180, 0, 96, 133, 184, 0, 103, 154, 0, 6, 16, 253, 172, 187, 0, 107, 89, 42, 27]
abbrev dktX0_cave_0 : List UInt8 := dkwX0_cave_0 ++ dktX0_cave_1
theorem dksX0_cave_0 : cX0_cave.data.toList.drop 0 = dktX0_cave_0 := by decide +kernel
theorem dksX0_cave_1 : cX0_cave.data.toList.drop 23 = dktX0_cave_1 := dk_seg dksX0_cave_0 23 rfl rfl
theorem dksX0_cave_2 : cX0_cave.data.toList.drop 46 = dktX0_cave_2 := dk_seg dksX0_cave_1 23 rfl rfl
theorem dksX0_cave_3 : cX0_cave.data.toList.drop 69 = dktX0_cave_3 := dk_seg dksX0_cave_2 23 rfl rfl
theorem dksX0_cave_4 : cX0_cave.data.toList.drop 91 = dktX0_cave_4 := dk_seg dksX0_cave_3 22 rfl rfl
theorem dX0_cave_0 : decode cX0_cave 0 = .ok (.iload_n 1, 1) := dk_27 (dk_at dksX0_cave_0 0 rfl rfl)
theorem dX0_cave_1 : decode cX0_cave 1 = .ok (.i2l, 1) := dk_133 (dk_at dksX0_cave_0 1 rfl rfl)
theorem dX0_cave_2 : decode cX0_cave 2 = .ok (.lconst 0, 1) := dk_9 (dk_at dksX0_cave_0 2 rfl rfl)
theorem dX0_cave_3 : decode cX0_cave 3 = .ok (.aload_n 0, 1) := dk_42 (dk_at dksX0_cave_0 3 rfl rfl)
theorem dX0_cave_4 : decode cX0_cave 4 = .ok (.getfield 96, 3) := dk_180 0 96 (dk_at dksX0_cave_0 4 rfl rfl)
theorem dX0_cave_7 : decode cX0_cave 7 = .ok (.i2l, 1) := dk_133 (dk_at dksX0_cave_0 7 rfl rfl)
theorem dX0_cave_8 : decode cX0_cave 8 = .ok (.invokestatic 103, 3) := dk_184 0 103 (dk_at dksX0_cave_0 8 rfl rfl)
theorem dX0_cave_11 : decode cX0_cave 11 = .ok (.ifCond .ne 6, 3) := dk_154 0 6 (dk_at dksX0_cave_0 11 rfl rfl)
theorem dX0_cave_14 : decode cX0_cave 14 = .ok (.bipush (-3), 2) := dk_16 253 (dk_at dksX0_cave_0 14 rfl rfl)
theorem dX0_cave_16 : decode cX0_cave 16 = .ok (.ireturn, 1) := dk_172 (dk_at dksX0_cave_0 16 rfl rfl)
theorem dX0_cave_17 : decode cX0_cave 17 = .ok (.new 107, 3) := dk_187 0 107 (dk_at dksX0_cave_0 17 rfl rfl)
theorem dX0_cave_20 : decode cX0_cave 20 = .ok (.dup, 1) := dk_89 (dk_at dksX0_cave_0 20 rfl rfl)
theorem dX0_cave_21 : decode cX0_cave 21 = .ok (.aload_n 0, 1) := dk_42 (dk_at dksX0_cave_0 21 rfl rfl)
theorem dX0_cave_22 : decode cX0_cave 22 = .ok (.iload_n 1, 1) := dk_27 (dk_at dksX0_cave_0 22 rfl rfl)
theorem dX0_cave_23 : decode cX0_cave 23 = .ok (.invokespecial 109, 3) := dk_183 0 109 (dk_at dksX0_cave_1 0 rfl rfl)
theorem dX0_cave_26 : decode cX0_cave 26 = .ok (.astore_n 2, 1) := dk_77 (dk_at dksX0_cave_1 3 rfl rfl)
theorem dX0_cave_27 : decode cX0_cave 27 = .ok (.aload_n 2, 1) := dk_44 (dk_at dksX0_cave_1 4 rfl rfl)
theorem dX0_cave_28 : decode cX0_cave 28 = .ok (.invokevirtual 112, 3) := dk_182 0 112 (dk_at dksX0_cave_1 5 rfl rfl)
theorem dX0_cave_31 : decode cX0_cave 31 = .ok (.aload_n 0, 1) := dk_42 (dk_at dksX0_cave_1 8 rfl rfl)
theorem dX0_cave_32 : decode cX0_cave 32 = .ok (.iconst 0, 1) := dk_3 (dk_at dksX0_cave_1 9 rfl rfl)
theorem dX0_cave_33 : decode cX0_cave 33 = .ok (.putfield 96, 3) := dk_181 0 96 (dk_at dksX0_cave_1 10 rfl rfl)
theorem dX0_cave_36 : decode cX0_cave 36 = .ok (.aload_n 0, 1) := dk_42 (dk_at dksX0_cave_1 13 rfl rfl)
theorem dX0_cave_37 : decode cX0_cave 37 = .ok (.aload_n 2, 1) := dk_44 (dk_at dksX0_cave_1 14 rfl rfl)
theorem dX0_cave_38 : decode cX0_cave 38 = .ok (.getfield 115, 3) := dk_180 0 115 (dk_at dksX0_cave_1 15 rfl rfl)
theorem dX0_cave_41 : decode cX0_cave 41 = .ok (.putfield 118, 3) := dk_181 0 118 (dk_at dksX0_cave_1 18 rfl rfl)
theorem dX0_cave_44 : decode cX0_cave 44 = .ok (.aload_n 0, 1) := dk_42 (dk_at dksX0_cave_1 21 rfl rfl)
theorem dX0_cave_45 : decode cX0_cave 45 = .ok (.aload_n 2, 1) := dk_44 (dk_at dksX0_cave_1 22 rfl rfl)
theorem dX0_cave_46 : decode cX0_cave 46 = .ok (.getfield 121, 3) := dk_180 0 121 (dk_at dksX0_cave_2 0 rfl rfl)
theorem dX0_cave_49 : decode cX0_cave 49 = .ok (.putfield 41, 3) := dk_181 0 41 (dk_at dksX0_cave_2 3 rfl rfl)
theorem dX0_cave_52 : decode cX0_cave 52 = .ok (.aload_n 0, 1) := dk_42 (dk_at dksX0_cave_2 6 rfl rfl)
theorem dX0_cave_53 : decode cX0_cave 53 = .ok (.getfield 118, 3) := dk_180 0 118 (dk_at dksX0_cave_2 7 rfl rfl)
theorem dX0_cave_56 : decode cX0_cave 56 = .ok (.ifCond .eq 11, 3) := dk_153 0 11 (dk_at dksX0_cave_2 10 rfl rfl)
theorem dX0_cave_59 : decode cX0_cave 59 = .ok (.bipush (-30), 2) := dk_16 226 (dk_at dksX0_cave_2 13 rfl rfl)
theorem dX0_cave_61 : decode cX0_cave 61 = .ok (.aload_n 0, 1) := dk_42 (dk_at dksX0_cave_2 15 rfl rfl)
theorem dX0_cave_62 : decode cX0_cave 62 = .ok (.getfield 118, 3) := dk_180 0 118 (dk_at dksX0_cave_2 16 rfl rfl)
theorem dX0_cave_65 : decode cX0_cave 65 = .ok (.isub, 1) := dk_100 (dk_at dksX0_cave_2 19 rfl rfl)
theorem dX0_cave_66 : decode cX0_cave 66 = .ok (.ireturn, 1) := dk_172 (dk_at dksX0_cave_2 20 rfl rfl)
theorem dX0_cave_67 : decode cX0_cave 67 = .ok (.aload_n 0, 1) := dk_42 (dk_at dksX0_cave_2 21 rfl rfl)
theorem dX0_cave_68 : decode cX0_cave 68 = .ok (.aload_n 2, 1) := dk_44 (dk_at dksX0_cave_2 22 rfl rfl)
theorem dX0_cave_69 : decode cX0_cave 69 = .ok (.getfield 124, 3) := dk_180 0 124 (dk_at dksX0_cave_3 0 rfl rfl)
theorem dX0_cave_72 : decode cX0_cave 72 = .ok (.putfield 21, 3) := dk_181 0 21 (dk_at dksX0_cave_3 3 rfl rfl)
theorem dX0_cave_75 : decode cX0_cave 75 = .ok (.aload_n 0, 1) := dk_42 (dk_at dksX0_cave_3 6 rfl rfl)
theorem dX0_cave_76 : decode cX0_cave 76 = .ok (.getfield 30, 3) := dk_180 0 30 (dk_at dksX0_cave_3 7 rfl rfl)
theorem dX0_cave_79 : decode cX0_cave 79 = .ok (.invokevirtual 93, 3) := dk_182 0 93 (dk_at dksX0_cave_3 10 rfl rfl)
theorem dX0_cave_82 : decode cX0_cave 82 = .ok (.aload_n 0, 1) := dk_42 (dk_at dksX0_cave_3 13 rfl rfl)
theorem dX0_cave_83 : decode cX0_cave 83 = .ok (.iconst 0, 1) := dk_3 (dk_at dksX0_cave_3 14 rfl rfl)
theorem dX0_cave_84 : decode cX0_cave 84 = .ok (.putfield 127, 3) := dk_181 0 127 (dk_at dksX0_cave_3 15 rfl rfl)
theorem dX0_cave_87 : decode cX0_cave 87 = .ok (.aload_n 0, 1) := dk_42 (dk_at dksX0_cave_3 18 rfl rfl)
theorem dX0_cave_88 : decode cX0_cave 88 = .ok (.getfield 21, 3) := dk_180 0 21 (dk_at dksX0_cave_3 19 rfl rfl)
theorem dX0_cave_91 : decode cX0_cave 91 = .ok (.getfield 130, 3) := dk_180 0 130 (dk_at dksX0_cave_4 0 rfl rfl)
theorem dX0_cave_94 : decode cX0_cave 94 = .ok (.ireturn, 1) := dk_172 (dk_at dksX0_cave_4 3 rfl rfl)
abbrev cX0_in : ByteArray := prog_1_method_1_code
def yX0_in : MethodName := ⟨RX0, "in", "(JJJ)Z"⟩
def dkwX0_in_0 : List UInt8 := [30, 32, 148, 155, 0, 14, 30, 22, 4, 148, 157, 0, 7, 4, 167, 0, 4, 3, 172]
abbrev dktX0_in_0 : List UInt8 := dkwX0_in_0 ++ []
theorem dksX0_in_0 : cX0_in.data.toList.drop 0 = dktX0_in_0 := by decide +kernel
theorem dX0_in_0 : decode cX0_in 0 = .ok (.lload_n 0, 1) := dk_30 (dk_at dksX0_in_0 0 rfl rfl)
theorem dX0_in_1 : decode cX0_in 1 = .ok (.lload_n 2, 1) := dk_32 (dk_at dksX0_in_0 1 rfl rfl)
theorem dX0_in_2 : decode cX0_in 2 = .ok (.lcmp, 1) := dk_148 (dk_at dksX0_in_0 2 rfl rfl)
theorem dX0_in_3 : decode cX0_in 3 = .ok (.ifCond .lt 14, 3) := dk_155 0 14 (dk_at dksX0_in_0 3 rfl rfl)
theorem dX0_in_6 : decode cX0_in 6 = .ok (.lload_n 0, 1) := dk_30 (dk_at dksX0_in_0 6 rfl rfl)
theorem dX0_in_7 : decode cX0_in 7 = .ok (.lload 4, 2) := dk_22 4 (dk_at dksX0_in_0 7 rfl rfl)
theorem dX0_in_9 : decode cX0_in 9 = .ok (.lcmp, 1) := dk_148 (dk_at dksX0_in_0 9 rfl rfl)
theorem dX0_in_10 : decode cX0_in 10 = .ok (.ifCond .gt 7, 3) := dk_157 0 7 (dk_at dksX0_in_0 10 rfl rfl)
theorem dX0_in_13 : decode cX0_in 13 = .ok (.iconst 1, 1) := dk_4 (dk_at dksX0_in_0 13 rfl rfl)
theorem dX0_in_14 : decode cX0_in 14 = .ok (.goto 4, 3) := dk_167 0 4 (dk_at dksX0_in_0 14 rfl rfl)
theorem dX0_in_17 : decode cX0_in 17 = .ok (.iconst 0, 1) := dk_3 (dk_at dksX0_in_0 17 rfl rfl)
theorem dX0_in_18 : decode cX0_in 18 = .ok (.ireturn, 1) := dk_172 (dk_at dksX0_in_0 18 rfl rfl)
abbrev cX0_fault : ByteArray := prog_1_method_13_code
def yX0_fault : MethodName := ⟨RX0, "fault", "(I)I"⟩
def dkwX0_fault_1 : List UInt8 := [172]
abbrev dktX0_fault_1 : List UInt8 := dkwX0_fault_1 ++ []
def dkwX0_fault_0 : List UInt8 := [27, 154, 0, 10, 42, 180, 0, 118, 167, 0, 16, 27, 4, 160, 0, 10, 42, 180, 0, 41, 167, 0, 4, 2]
abbrev dktX0_fault_0 : List UInt8 := dkwX0_fault_0 ++ dktX0_fault_1
theorem dksX0_fault_0 : cX0_fault.data.toList.drop 0 = dktX0_fault_0 := by decide +kernel
theorem dksX0_fault_1 : cX0_fault.data.toList.drop 24 = dktX0_fault_1 := dk_seg dksX0_fault_0 24 rfl rfl
theorem dX0_fault_0 : decode cX0_fault 0 = .ok (.iload_n 1, 1) := dk_27 (dk_at dksX0_fault_0 0 rfl rfl)
theorem dX0_fault_1 : decode cX0_fault 1 = .ok (.ifCond .ne 10, 3) := dk_154 0 10 (dk_at dksX0_fault_0 1 rfl rfl)
theorem dX0_fault_4 : decode cX0_fault 4 = .ok (.aload_n 0, 1) := dk_42 (dk_at dksX0_fault_0 4 rfl rfl)
theorem dX0_fault_5 : decode cX0_fault 5 = .ok (.getfield 118, 3) := dk_180 0 118 (dk_at dksX0_fault_0 5 rfl rfl)
theorem dX0_fault_8 : decode cX0_fault 8 = .ok (.goto 16, 3) := dk_167 0 16 (dk_at dksX0_fault_0 8 rfl rfl)
theorem dX0_fault_11 : decode cX0_fault 11 = .ok (.iload_n 1, 1) := dk_27 (dk_at dksX0_fault_0 11 rfl rfl)
theorem dX0_fault_12 : decode cX0_fault 12 = .ok (.iconst 1, 1) := dk_4 (dk_at dksX0_fault_0 12 rfl rfl)
theorem dX0_fault_13 : decode cX0_fault 13 = .ok (.if_icmp .ne 10, 3) := dk_160 0 10 (dk_at dksX0_fault_0 13 rfl rfl)
theorem dX0_fault_16 : decode cX0_fault 16 = .ok (.aload_n 0, 1) := dk_42 (dk_at dksX0_fault_0 16 rfl rfl)
theorem dX0_fault_17 : decode cX0_fault 17 = .ok (.getfield 41, 3) := dk_180 0 41 (dk_at dksX0_fault_0 17 rfl rfl)
theorem dX0_fault_20 : decode cX0_fault 20 = .ok (.goto 4, 3) := dk_167 0 4 (dk_at dksX0_fault_0 20 rfl rfl)
theorem dX0_fault_23 : decode cX0_fault 23 = .ok (.iconst (-1), 1) := dk_2 (dk_at dksX0_fault_0 23 rfl rfl)
theorem dX0_fault_24 : decode cX0_fault 24 = .ok (.ireturn, 1) := dk_172 (dk_at dksX0_fault_1 0 rfl rfl)
abbrev cX0_passage : ByteArray := prog_1_method_17_code
def yX0_passage : MethodName := ⟨RX0, "passage", "(II)I"⟩
def dkwX0_passage_4 : List UInt8 := [180, 0, 30, 180, 0, 163, 27, 184, 0, 155, 184, 0, 159, 172, 16, 254, 172]
abbrev dktX0_passage_4 : List UInt8 := dkwX0_passage_4 ++ []
def dkwX0_passage_3 : List UInt8 := [180, 0, 149, 27, 46, 172, 42, 180, 0, 21, 180, 0, 152, 27, 184, 0, 155, 184, 0, 159, 172, 42]
abbrev dktX0_passage_3 : List UInt8 := dkwX0_passage_3 ++ dktX0_passage_4
def dkwX0_passage_2 : List UInt8 := [42, 180, 0, 21, 180, 0, 143, 27, 46, 172, 42, 180, 0, 21, 180, 0, 146, 27, 46, 172, 42, 180, 0, 21]
abbrev dktX0_passage_2 : List UInt8 := dkwX0_passage_2 ++ dktX0_passage_3
def dkwX0_passage_1 : List UInt8 := [170, 0, 0, 0, 0, 0, 95, 0, 0, 0, 0, 0, 0, 0, 4, 0, 0, 0, 35, 0, 0, 0, 45, 0, 0, 0, 55, 0, 0, 0, 65, 0, 0, 0, 80]
abbrev dktX0_passage_1 : List UInt8 := dkwX0_passage_1 ++ dktX0_passage_2
def dkwX0_passage_0 : List UInt8 := [42, 27, 133, 182, 0, 139, 154, 0, 6, 16, 254, 172, 28]
abbrev dktX0_passage_0 : List UInt8 := dkwX0_passage_0 ++ dktX0_passage_1
theorem dksX0_passage_0 : cX0_passage.data.toList.drop 0 = dktX0_passage_0 := by decide +kernel
theorem dksX0_passage_1 : cX0_passage.data.toList.drop 13 = dktX0_passage_1 := dk_seg dksX0_passage_0 13 rfl rfl
theorem dksX0_passage_2 : cX0_passage.data.toList.drop 48 = dktX0_passage_2 := dk_seg dksX0_passage_1 35 rfl rfl
theorem dksX0_passage_3 : cX0_passage.data.toList.drop 72 = dktX0_passage_3 := dk_seg dksX0_passage_2 24 rfl rfl
theorem dksX0_passage_4 : cX0_passage.data.toList.drop 94 = dktX0_passage_4 := dk_seg dksX0_passage_3 22 rfl rfl
theorem dX0_passage_0 : decode cX0_passage 0 = .ok (.aload_n 0, 1) := dk_42 (dk_at dksX0_passage_0 0 rfl rfl)
theorem dX0_passage_1 : decode cX0_passage 1 = .ok (.iload_n 1, 1) := dk_27 (dk_at dksX0_passage_0 1 rfl rfl)
theorem dX0_passage_2 : decode cX0_passage 2 = .ok (.i2l, 1) := dk_133 (dk_at dksX0_passage_0 2 rfl rfl)
theorem dX0_passage_3 : decode cX0_passage 3 = .ok (.invokevirtual 139, 3) := dk_182 0 139 (dk_at dksX0_passage_0 3 rfl rfl)
theorem dX0_passage_6 : decode cX0_passage 6 = .ok (.ifCond .ne 6, 3) := dk_154 0 6 (dk_at dksX0_passage_0 6 rfl rfl)
theorem dX0_passage_9 : decode cX0_passage 9 = .ok (.bipush (-2), 2) := dk_16 254 (dk_at dksX0_passage_0 9 rfl rfl)
theorem dX0_passage_11 : decode cX0_passage 11 = .ok (.ireturn, 1) := dk_172 (dk_at dksX0_passage_0 11 rfl rfl)
theorem dX0_passage_12 : decode cX0_passage 12 = .ok (.iload_n 2, 1) := dk_28 (dk_at dksX0_passage_0 12 rfl rfl)
theorem dX0_passage_13 : decode cX0_passage 13 = .ok (.tableswitch 95 0 4 #[35, 45, 55, 65, 80], 35) := by decide +kernel
theorem dX0_passage_48 : decode cX0_passage 48 = .ok (.aload_n 0, 1) := dk_42 (dk_at dksX0_passage_2 0 rfl rfl)
theorem dX0_passage_49 : decode cX0_passage 49 = .ok (.getfield 21, 3) := dk_180 0 21 (dk_at dksX0_passage_2 1 rfl rfl)
theorem dX0_passage_52 : decode cX0_passage 52 = .ok (.getfield 143, 3) := dk_180 0 143 (dk_at dksX0_passage_2 4 rfl rfl)
theorem dX0_passage_55 : decode cX0_passage 55 = .ok (.iload_n 1, 1) := dk_27 (dk_at dksX0_passage_2 7 rfl rfl)
theorem dX0_passage_56 : decode cX0_passage 56 = .ok (.iaload, 1) := dk_46 (dk_at dksX0_passage_2 8 rfl rfl)
theorem dX0_passage_57 : decode cX0_passage 57 = .ok (.ireturn, 1) := dk_172 (dk_at dksX0_passage_2 9 rfl rfl)
theorem dX0_passage_58 : decode cX0_passage 58 = .ok (.aload_n 0, 1) := dk_42 (dk_at dksX0_passage_2 10 rfl rfl)
theorem dX0_passage_59 : decode cX0_passage 59 = .ok (.getfield 21, 3) := dk_180 0 21 (dk_at dksX0_passage_2 11 rfl rfl)
theorem dX0_passage_62 : decode cX0_passage 62 = .ok (.getfield 146, 3) := dk_180 0 146 (dk_at dksX0_passage_2 14 rfl rfl)
theorem dX0_passage_65 : decode cX0_passage 65 = .ok (.iload_n 1, 1) := dk_27 (dk_at dksX0_passage_2 17 rfl rfl)
theorem dX0_passage_66 : decode cX0_passage 66 = .ok (.iaload, 1) := dk_46 (dk_at dksX0_passage_2 18 rfl rfl)
theorem dX0_passage_67 : decode cX0_passage 67 = .ok (.ireturn, 1) := dk_172 (dk_at dksX0_passage_2 19 rfl rfl)
theorem dX0_passage_68 : decode cX0_passage 68 = .ok (.aload_n 0, 1) := dk_42 (dk_at dksX0_passage_2 20 rfl rfl)
theorem dX0_passage_69 : decode cX0_passage 69 = .ok (.getfield 21, 3) := dk_180 0 21 (dk_at dksX0_passage_2 21 rfl rfl)
theorem dX0_passage_72 : decode cX0_passage 72 = .ok (.getfield 149, 3) := dk_180 0 149 (dk_at dksX0_passage_3 0 rfl rfl)
theorem dX0_passage_75 : decode cX0_passage 75 = .ok (.iload_n 1, 1) := dk_27 (dk_at dksX0_passage_3 3 rfl rfl)
theorem dX0_passage_76 : decode cX0_passage 76 = .ok (.iaload, 1) := dk_46 (dk_at dksX0_passage_3 4 rfl rfl)
theorem dX0_passage_77 : decode cX0_passage 77 = .ok (.ireturn, 1) := dk_172 (dk_at dksX0_passage_3 5 rfl rfl)
theorem dX0_passage_78 : decode cX0_passage 78 = .ok (.aload_n 0, 1) := dk_42 (dk_at dksX0_passage_3 6 rfl rfl)
theorem dX0_passage_79 : decode cX0_passage 79 = .ok (.getfield 21, 3) := dk_180 0 21 (dk_at dksX0_passage_3 7 rfl rfl)
theorem dX0_passage_82 : decode cX0_passage 82 = .ok (.getfield 152, 3) := dk_180 0 152 (dk_at dksX0_passage_3 10 rfl rfl)
theorem dX0_passage_85 : decode cX0_passage 85 = .ok (.iload_n 1, 1) := dk_27 (dk_at dksX0_passage_3 13 rfl rfl)
theorem dX0_passage_86 : decode cX0_passage 86 = .ok (.invokestatic 155, 3) := dk_184 0 155 (dk_at dksX0_passage_3 14 rfl rfl)
theorem dX0_passage_89 : decode cX0_passage 89 = .ok (.invokestatic 159, 3) := dk_184 0 159 (dk_at dksX0_passage_3 17 rfl rfl)
theorem dX0_passage_92 : decode cX0_passage 92 = .ok (.ireturn, 1) := dk_172 (dk_at dksX0_passage_3 20 rfl rfl)
theorem dX0_passage_93 : decode cX0_passage 93 = .ok (.aload_n 0, 1) := dk_42 (dk_at dksX0_passage_3 21 rfl rfl)
theorem dX0_passage_94 : decode cX0_passage 94 = .ok (.getfield 30, 3) := dk_180 0 30 (dk_at dksX0_passage_4 0 rfl rfl)
theorem dX0_passage_97 : decode cX0_passage 97 = .ok (.getfield 163, 3) := dk_180 0 163 (dk_at dksX0_passage_4 3 rfl rfl)
theorem dX0_passage_100 : decode cX0_passage 100 = .ok (.iload_n 1, 1) := dk_27 (dk_at dksX0_passage_4 6 rfl rfl)
theorem dX0_passage_101 : decode cX0_passage 101 = .ok (.invokestatic 155, 3) := dk_184 0 155 (dk_at dksX0_passage_4 7 rfl rfl)
theorem dX0_passage_104 : decode cX0_passage 104 = .ok (.invokestatic 159, 3) := dk_184 0 159 (dk_at dksX0_passage_4 10 rfl rfl)
theorem dX0_passage_107 : decode cX0_passage 107 = .ok (.ireturn, 1) := dk_172 (dk_at dksX0_passage_4 13 rfl rfl)
theorem dX0_passage_108 : decode cX0_passage 108 = .ok (.bipush (-2), 2) := dk_16 254 (dk_at dksX0_passage_4 14 rfl rfl)
theorem dX0_passage_110 : decode cX0_passage 110 = .ok (.ireturn, 1) := dk_172 (dk_at dksX0_passage_4 16 rfl rfl)
abbrev cX0_isPassage : ByteArray := prog_1_method_14_code
def yX0_isPassage : MethodName := ⟨RX0, "isPassage", "(J)Z"⟩
def dkwX0_isPassage_0 : List UInt8 := [31, 9, 42, 180, 0, 21, 180, 0, 133, 4, 100, 133, 184, 0, 103, 172]
abbrev dktX0_isPassage_0 : List UInt8 := dkwX0_isPassage_0 ++ []
theorem dksX0_isPassage_0 : cX0_isPassage.data.toList.drop 0 = dktX0_isPassage_0 := by decide +kernel
theorem dX0_isPassage_0 : decode cX0_isPassage 0 = .ok (.lload_n 1, 1) := dk_31 (dk_at dksX0_isPassage_0 0 rfl rfl)
theorem dX0_isPassage_1 : decode cX0_isPassage 1 = .ok (.lconst 0, 1) := dk_9 (dk_at dksX0_isPassage_0 1 rfl rfl)
theorem dX0_isPassage_2 : decode cX0_isPassage 2 = .ok (.aload_n 0, 1) := dk_42 (dk_at dksX0_isPassage_0 2 rfl rfl)
theorem dX0_isPassage_3 : decode cX0_isPassage 3 = .ok (.getfield 21, 3) := dk_180 0 21 (dk_at dksX0_isPassage_0 3 rfl rfl)
theorem dX0_isPassage_6 : decode cX0_isPassage 6 = .ok (.getfield 133, 3) := dk_180 0 133 (dk_at dksX0_isPassage_0 6 rfl rfl)
theorem dX0_isPassage_9 : decode cX0_isPassage 9 = .ok (.iconst 1, 1) := dk_4 (dk_at dksX0_isPassage_0 9 rfl rfl)
theorem dX0_isPassage_10 : decode cX0_isPassage 10 = .ok (.isub, 1) := dk_100 (dk_at dksX0_isPassage_0 10 rfl rfl)
theorem dX0_isPassage_11 : decode cX0_isPassage 11 = .ok (.i2l, 1) := dk_133 (dk_at dksX0_isPassage_0 11 rfl rfl)
theorem dX0_isPassage_12 : decode cX0_isPassage 12 = .ok (.invokestatic 103, 3) := dk_184 0 103 (dk_at dksX0_isPassage_0 12 rfl rfl)
theorem dX0_isPassage_15 : decode cX0_isPassage 15 = .ok (.ireturn, 1) := dk_172 (dk_at dksX0_isPassage_0 15 rfl rfl)
abbrev cX0_has : ByteArray := prog_1_method_2_code
def yX0_has : MethodName := ⟨RX0, "has", "(II)Z"⟩
def dkwX0_has_0 : List UInt8 := [26, 27, 122, 4, 126, 4, 160, 0, 7, 4, 167, 0, 4, 3, 172]
abbrev dktX0_has_0 : List UInt8 := dkwX0_has_0 ++ []
theorem dksX0_has_0 : cX0_has.data.toList.drop 0 = dktX0_has_0 := by decide +kernel
theorem dX0_has_0 : decode cX0_has 0 = .ok (.iload_n 0, 1) := dk_26 (dk_at dksX0_has_0 0 rfl rfl)
theorem dX0_has_1 : decode cX0_has 1 = .ok (.iload_n 1, 1) := dk_27 (dk_at dksX0_has_0 1 rfl rfl)
theorem dX0_has_2 : decode cX0_has 2 = .ok (.ishr, 1) := dk_122 (dk_at dksX0_has_0 2 rfl rfl)
theorem dX0_has_3 : decode cX0_has 3 = .ok (.iconst 1, 1) := dk_4 (dk_at dksX0_has_0 3 rfl rfl)
theorem dX0_has_4 : decode cX0_has 4 = .ok (.iand, 1) := dk_126 (dk_at dksX0_has_0 4 rfl rfl)
theorem dX0_has_5 : decode cX0_has 5 = .ok (.iconst 1, 1) := dk_4 (dk_at dksX0_has_0 5 rfl rfl)
theorem dX0_has_6 : decode cX0_has 6 = .ok (.if_icmp .ne 7, 3) := dk_160 0 7 (dk_at dksX0_has_0 6 rfl rfl)
theorem dX0_has_9 : decode cX0_has 9 = .ok (.iconst 1, 1) := dk_4 (dk_at dksX0_has_0 9 rfl rfl)
theorem dX0_has_10 : decode cX0_has 10 = .ok (.goto 4, 3) := dk_167 0 4 (dk_at dksX0_has_0 10 rfl rfl)
theorem dX0_has_13 : decode cX0_has 13 = .ok (.iconst 0, 1) := dk_3 (dk_at dksX0_has_0 13 rfl rfl)
theorem dX0_has_14 : decode cX0_has 14 = .ok (.ireturn, 1) := dk_172 (dk_at dksX0_has_0 14 rfl rfl)
abbrev cX0_one : ByteArray := prog_1_method_3_code
def yX0_one : MethodName := ⟨RX0, "one", "(Z)I"⟩
def dkwX0_one_0 : List UInt8 := [26, 153, 0, 7, 4, 167, 0, 4, 3, 172]
abbrev dktX0_one_0 : List UInt8 := dkwX0_one_0 ++ []
theorem dksX0_one_0 : cX0_one.data.toList.drop 0 = dktX0_one_0 := by decide +kernel
theorem dX0_one_0 : decode cX0_one 0 = .ok (.iload_n 0, 1) := dk_26 (dk_at dksX0_one_0 0 rfl rfl)
theorem dX0_one_1 : decode cX0_one 1 = .ok (.ifCond .eq 7, 3) := dk_153 0 7 (dk_at dksX0_one_0 1 rfl rfl)
theorem dX0_one_4 : decode cX0_one 4 = .ok (.iconst 1, 1) := dk_4 (dk_at dksX0_one_0 4 rfl rfl)
theorem dX0_one_5 : decode cX0_one 5 = .ok (.goto 4, 3) := dk_167 0 4 (dk_at dksX0_one_0 5 rfl rfl)
theorem dX0_one_8 : decode cX0_one 8 = .ok (.iconst 0, 1) := dk_3 (dk_at dksX0_one_0 8 rfl rfl)
theorem dX0_one_9 : decode cX0_one 9 = .ok (.ireturn, 1) := dk_172 (dk_at dksX0_one_0 9 rfl rfl)
abbrev cX0_why : ByteArray := prog_1_method_18_code
def yX0_why : MethodName := ⟨RX0, "why", "(I)I"⟩
def dkwX0_why_0 : List UInt8 := [42, 180, 0, 30, 27, 133, 182, 0, 166, 172]
abbrev dktX0_why_0 : List UInt8 := dkwX0_why_0 ++ []
theorem dksX0_why_0 : cX0_why.data.toList.drop 0 = dktX0_why_0 := by decide +kernel
theorem dX0_why_0 : decode cX0_why 0 = .ok (.aload_n 0, 1) := dk_42 (dk_at dksX0_why_0 0 rfl rfl)
theorem dX0_why_1 : decode cX0_why 1 = .ok (.getfield 30, 3) := dk_180 0 30 (dk_at dksX0_why_0 1 rfl rfl)
theorem dX0_why_4 : decode cX0_why 4 = .ok (.iload_n 1, 1) := dk_27 (dk_at dksX0_why_0 4 rfl rfl)
theorem dX0_why_5 : decode cX0_why 5 = .ok (.i2l, 1) := dk_133 (dk_at dksX0_why_0 5 rfl rfl)
theorem dX0_why_6 : decode cX0_why 6 = .ok (.invokevirtual 166, 3) := dk_182 0 166 (dk_at dksX0_why_0 6 rfl rfl)
theorem dX0_why_9 : decode cX0_why 9 = .ok (.ireturn, 1) := dk_172 (dk_at dksX0_why_0 9 rfl rfl)
abbrev cX0_roomOf : ByteArray := prog_1_method_6_code
def yX0_roomOf : MethodName := ⟨RX0, "roomOf", "(I)I"⟩
def dkwX0_roomOf_0 : List UInt8 := [26, 16, 6, 108, 172]
abbrev dktX0_roomOf_0 : List UInt8 := dkwX0_roomOf_0 ++ []
theorem dksX0_roomOf_0 : cX0_roomOf.data.toList.drop 0 = dktX0_roomOf_0 := by decide +kernel
theorem dX0_roomOf_0 : decode cX0_roomOf 0 = .ok (.iload_n 0, 1) := dk_26 (dk_at dksX0_roomOf_0 0 rfl rfl)
theorem dX0_roomOf_1 : decode cX0_roomOf 1 = .ok (.bipush 6, 2) := dk_16 6 (dk_at dksX0_roomOf_0 1 rfl rfl)
theorem dX0_roomOf_3 : decode cX0_roomOf 3 = .ok (.idiv, 1) := dk_108 (dk_at dksX0_roomOf_0 3 rfl rfl)
theorem dX0_roomOf_4 : decode cX0_roomOf 4 = .ok (.ireturn, 1) := dk_172 (dk_at dksX0_roomOf_0 4 rfl rfl)
abbrev cX0_isLost : ByteArray := prog_1_method_8_code
def yX0_isLost : MethodName := ⟨RX0, "isLost", "(I)Z"⟩
def dkwX0_isLost_0 : List UInt8 := [26, 184, 0, 9, 8, 160, 0, 7, 4, 167, 0, 4, 3, 172]
abbrev dktX0_isLost_0 : List UInt8 := dkwX0_isLost_0 ++ []
theorem dksX0_isLost_0 : cX0_isLost.data.toList.drop 0 = dktX0_isLost_0 := by decide +kernel
theorem dX0_isLost_0 : decode cX0_isLost 0 = .ok (.iload_n 0, 1) := dk_26 (dk_at dksX0_isLost_0 0 rfl rfl)
theorem dX0_isLost_1 : decode cX0_isLost 1 = .ok (.invokestatic 9, 3) := dk_184 0 9 (dk_at dksX0_isLost_0 1 rfl rfl)
theorem dX0_isLost_4 : decode cX0_isLost 4 = .ok (.iconst 5, 1) := dk_8 (dk_at dksX0_isLost_0 4 rfl rfl)
theorem dX0_isLost_5 : decode cX0_isLost 5 = .ok (.if_icmp .ne 7, 3) := dk_160 0 7 (dk_at dksX0_isLost_0 5 rfl rfl)
theorem dX0_isLost_8 : decode cX0_isLost 8 = .ok (.iconst 1, 1) := dk_4 (dk_at dksX0_isLost_0 8 rfl rfl)
theorem dX0_isLost_9 : decode cX0_isLost 9 = .ok (.goto 4, 3) := dk_167 0 4 (dk_at dksX0_isLost_0 9 rfl rfl)
theorem dX0_isLost_12 : decode cX0_isLost 12 = .ok (.iconst 0, 1) := dk_3 (dk_at dksX0_isLost_0 12 rfl rfl)
theorem dX0_isLost_13 : decode cX0_isLost 13 = .ok (.ireturn, 1) := dk_172 (dk_at dksX0_isLost_0 13 rfl rfl)
abbrev cX0_hurtOf : ByteArray := prog_1_method_7_code
def yX0_hurtOf : MethodName := ⟨RX0, "hurtOf", "(I)I"⟩
def dkwX0_hurtOf_0 : List UInt8 := [26, 16, 6, 112, 172]
abbrev dktX0_hurtOf_0 : List UInt8 := dkwX0_hurtOf_0 ++ []
theorem dksX0_hurtOf_0 : cX0_hurtOf.data.toList.drop 0 = dktX0_hurtOf_0 := by decide +kernel
theorem dX0_hurtOf_0 : decode cX0_hurtOf 0 = .ok (.iload_n 0, 1) := dk_26 (dk_at dksX0_hurtOf_0 0 rfl rfl)
theorem dX0_hurtOf_1 : decode cX0_hurtOf 1 = .ok (.bipush 6, 2) := dk_16 6 (dk_at dksX0_hurtOf_0 1 rfl rfl)
theorem dX0_hurtOf_3 : decode cX0_hurtOf 3 = .ok (.irem, 1) := dk_112 (dk_at dksX0_hurtOf_0 3 rfl rfl)
theorem dX0_hurtOf_4 : decode cX0_hurtOf 4 = .ok (.ireturn, 1) := dk_172 (dk_at dksX0_hurtOf_0 4 rfl rfl)
abbrev cX0_by : ByteArray := prog_1_method_19_code
def yX0_by : MethodName := ⟨RX0, "by", "(II)I"⟩
def dkwX0_by_2 : List UInt8 := [154, 0, 10, 29, 184, 0, 177, 167, 0, 7, 29, 184, 0, 9, 172]
abbrev dktX0_by_2 : List UInt8 := dkwX0_by_2 ++ []
def dkwX0_by_1 : List UInt8 := [153, 0, 6, 16, 251, 172, 42, 180, 0, 30, 42, 180, 0, 30, 180, 0, 170, 27, 182, 0, 173, 62, 28]
abbrev dktX0_by_1 : List UInt8 := dkwX0_by_1 ++ dktX0_by_2
def dkwX0_by_0 : List UInt8 := [28, 133, 9, 10, 184, 0, 103, 154, 0, 6, 16, 254, 172, 42, 180, 0, 30, 27, 133, 182, 0, 166]
abbrev dktX0_by_0 : List UInt8 := dkwX0_by_0 ++ dktX0_by_1
theorem dksX0_by_0 : cX0_by.data.toList.drop 0 = dktX0_by_0 := by decide +kernel
theorem dksX0_by_1 : cX0_by.data.toList.drop 22 = dktX0_by_1 := dk_seg dksX0_by_0 22 rfl rfl
theorem dksX0_by_2 : cX0_by.data.toList.drop 45 = dktX0_by_2 := dk_seg dksX0_by_1 23 rfl rfl
theorem dX0_by_0 : decode cX0_by 0 = .ok (.iload_n 2, 1) := dk_28 (dk_at dksX0_by_0 0 rfl rfl)
theorem dX0_by_1 : decode cX0_by 1 = .ok (.i2l, 1) := dk_133 (dk_at dksX0_by_0 1 rfl rfl)
theorem dX0_by_2 : decode cX0_by 2 = .ok (.lconst 0, 1) := dk_9 (dk_at dksX0_by_0 2 rfl rfl)
theorem dX0_by_3 : decode cX0_by 3 = .ok (.lconst 1, 1) := dk_10 (dk_at dksX0_by_0 3 rfl rfl)
theorem dX0_by_4 : decode cX0_by 4 = .ok (.invokestatic 103, 3) := dk_184 0 103 (dk_at dksX0_by_0 4 rfl rfl)
theorem dX0_by_7 : decode cX0_by 7 = .ok (.ifCond .ne 6, 3) := dk_154 0 6 (dk_at dksX0_by_0 7 rfl rfl)
theorem dX0_by_10 : decode cX0_by 10 = .ok (.bipush (-2), 2) := dk_16 254 (dk_at dksX0_by_0 10 rfl rfl)
theorem dX0_by_12 : decode cX0_by 12 = .ok (.ireturn, 1) := dk_172 (dk_at dksX0_by_0 12 rfl rfl)
theorem dX0_by_13 : decode cX0_by 13 = .ok (.aload_n 0, 1) := dk_42 (dk_at dksX0_by_0 13 rfl rfl)
theorem dX0_by_14 : decode cX0_by 14 = .ok (.getfield 30, 3) := dk_180 0 30 (dk_at dksX0_by_0 14 rfl rfl)
theorem dX0_by_17 : decode cX0_by 17 = .ok (.iload_n 1, 1) := dk_27 (dk_at dksX0_by_0 17 rfl rfl)
theorem dX0_by_18 : decode cX0_by 18 = .ok (.i2l, 1) := dk_133 (dk_at dksX0_by_0 18 rfl rfl)
theorem dX0_by_19 : decode cX0_by 19 = .ok (.invokevirtual 166, 3) := dk_182 0 166 (dk_at dksX0_by_0 19 rfl rfl)
theorem dX0_by_22 : decode cX0_by 22 = .ok (.ifCond .eq 6, 3) := dk_153 0 6 (dk_at dksX0_by_1 0 rfl rfl)
theorem dX0_by_25 : decode cX0_by 25 = .ok (.bipush (-5), 2) := dk_16 251 (dk_at dksX0_by_1 3 rfl rfl)
theorem dX0_by_27 : decode cX0_by 27 = .ok (.ireturn, 1) := dk_172 (dk_at dksX0_by_1 5 rfl rfl)
theorem dX0_by_28 : decode cX0_by 28 = .ok (.aload_n 0, 1) := dk_42 (dk_at dksX0_by_1 6 rfl rfl)
theorem dX0_by_29 : decode cX0_by 29 = .ok (.getfield 30, 3) := dk_180 0 30 (dk_at dksX0_by_1 7 rfl rfl)
theorem dX0_by_32 : decode cX0_by 32 = .ok (.aload_n 0, 1) := dk_42 (dk_at dksX0_by_1 10 rfl rfl)
theorem dX0_by_33 : decode cX0_by 33 = .ok (.getfield 30, 3) := dk_180 0 30 (dk_at dksX0_by_1 11 rfl rfl)
theorem dX0_by_36 : decode cX0_by 36 = .ok (.getfield 170, 3) := dk_180 0 170 (dk_at dksX0_by_1 14 rfl rfl)
theorem dX0_by_39 : decode cX0_by 39 = .ok (.iload_n 1, 1) := dk_27 (dk_at dksX0_by_1 17 rfl rfl)
theorem dX0_by_40 : decode cX0_by 40 = .ok (.invokevirtual 173, 3) := dk_182 0 173 (dk_at dksX0_by_1 18 rfl rfl)
theorem dX0_by_43 : decode cX0_by 43 = .ok (.istore_n 3, 1) := dk_62 (dk_at dksX0_by_1 21 rfl rfl)
theorem dX0_by_44 : decode cX0_by 44 = .ok (.iload_n 2, 1) := dk_28 (dk_at dksX0_by_1 22 rfl rfl)
theorem dX0_by_45 : decode cX0_by 45 = .ok (.ifCond .ne 10, 3) := dk_154 0 10 (dk_at dksX0_by_2 0 rfl rfl)
theorem dX0_by_48 : decode cX0_by 48 = .ok (.iload_n 3, 1) := dk_29 (dk_at dksX0_by_2 3 rfl rfl)
theorem dX0_by_49 : decode cX0_by 49 = .ok (.invokestatic 177, 3) := dk_184 0 177 (dk_at dksX0_by_2 4 rfl rfl)
theorem dX0_by_52 : decode cX0_by 52 = .ok (.goto 7, 3) := dk_167 0 7 (dk_at dksX0_by_2 7 rfl rfl)
theorem dX0_by_55 : decode cX0_by 55 = .ok (.iload_n 3, 1) := dk_29 (dk_at dksX0_by_2 10 rfl rfl)
theorem dX0_by_56 : decode cX0_by 56 = .ok (.invokestatic 9, 3) := dk_184 0 9 (dk_at dksX0_by_2 11 rfl rfl)
theorem dX0_by_59 : decode cX0_by 59 = .ok (.ireturn, 1) := dk_172 (dk_at dksX0_by_2 14 rfl rfl)
abbrev cX0_go : ByteArray := prog_1_method_21_code
def yX0_go : MethodName := ⟨RX0, "go", "(I)I"⟩
def dkwX0_go_1 : List UInt8 := [180, 0, 30, 27, 182, 0, 195, 42, 180, 0, 30, 180, 0, 170, 184, 0, 9, 172]
abbrev dktX0_go_1 : List UInt8 := dkwX0_go_1 ++ []
def dkwX0_go_0 : List UInt8 := [42, 180, 0, 30, 27, 133, 182, 0, 166, 61, 28, 153, 0, 8, 16, 246, 28, 100, 172, 42, 182, 0, 192, 42]
abbrev dktX0_go_0 : List UInt8 := dkwX0_go_0 ++ dktX0_go_1
theorem dksX0_go_0 : cX0_go.data.toList.drop 0 = dktX0_go_0 := by decide +kernel
theorem dksX0_go_1 : cX0_go.data.toList.drop 24 = dktX0_go_1 := dk_seg dksX0_go_0 24 rfl rfl
theorem dX0_go_0 : decode cX0_go 0 = .ok (.aload_n 0, 1) := dk_42 (dk_at dksX0_go_0 0 rfl rfl)
theorem dX0_go_1 : decode cX0_go 1 = .ok (.getfield 30, 3) := dk_180 0 30 (dk_at dksX0_go_0 1 rfl rfl)
theorem dX0_go_4 : decode cX0_go 4 = .ok (.iload_n 1, 1) := dk_27 (dk_at dksX0_go_0 4 rfl rfl)
theorem dX0_go_5 : decode cX0_go 5 = .ok (.i2l, 1) := dk_133 (dk_at dksX0_go_0 5 rfl rfl)
theorem dX0_go_6 : decode cX0_go 6 = .ok (.invokevirtual 166, 3) := dk_182 0 166 (dk_at dksX0_go_0 6 rfl rfl)
theorem dX0_go_9 : decode cX0_go 9 = .ok (.istore_n 2, 1) := dk_61 (dk_at dksX0_go_0 9 rfl rfl)
theorem dX0_go_10 : decode cX0_go 10 = .ok (.iload_n 2, 1) := dk_28 (dk_at dksX0_go_0 10 rfl rfl)
theorem dX0_go_11 : decode cX0_go 11 = .ok (.ifCond .eq 8, 3) := dk_153 0 8 (dk_at dksX0_go_0 11 rfl rfl)
theorem dX0_go_14 : decode cX0_go 14 = .ok (.bipush (-10), 2) := dk_16 246 (dk_at dksX0_go_0 14 rfl rfl)
theorem dX0_go_16 : decode cX0_go 16 = .ok (.iload_n 2, 1) := dk_28 (dk_at dksX0_go_0 16 rfl rfl)
theorem dX0_go_17 : decode cX0_go 17 = .ok (.isub, 1) := dk_100 (dk_at dksX0_go_0 17 rfl rfl)
theorem dX0_go_18 : decode cX0_go 18 = .ok (.ireturn, 1) := dk_172 (dk_at dksX0_go_0 18 rfl rfl)
theorem dX0_go_19 : decode cX0_go 19 = .ok (.aload_n 0, 1) := dk_42 (dk_at dksX0_go_0 19 rfl rfl)
theorem dX0_go_20 : decode cX0_go 20 = .ok (.invokevirtual 192, 3) := dk_182 0 192 (dk_at dksX0_go_0 20 rfl rfl)
theorem dX0_go_23 : decode cX0_go 23 = .ok (.aload_n 0, 1) := dk_42 (dk_at dksX0_go_0 23 rfl rfl)
theorem dX0_go_24 : decode cX0_go 24 = .ok (.getfield 30, 3) := dk_180 0 30 (dk_at dksX0_go_1 0 rfl rfl)
theorem dX0_go_27 : decode cX0_go 27 = .ok (.iload_n 1, 1) := dk_27 (dk_at dksX0_go_1 3 rfl rfl)
theorem dX0_go_28 : decode cX0_go 28 = .ok (.invokevirtual 195, 3) := dk_182 0 195 (dk_at dksX0_go_1 4 rfl rfl)
theorem dX0_go_31 : decode cX0_go 31 = .ok (.aload_n 0, 1) := dk_42 (dk_at dksX0_go_1 7 rfl rfl)
theorem dX0_go_32 : decode cX0_go 32 = .ok (.getfield 30, 3) := dk_180 0 30 (dk_at dksX0_go_1 8 rfl rfl)
theorem dX0_go_35 : decode cX0_go 35 = .ok (.getfield 170, 3) := dk_180 0 170 (dk_at dksX0_go_1 11 rfl rfl)
theorem dX0_go_38 : decode cX0_go 38 = .ok (.invokestatic 9, 3) := dk_184 0 9 (dk_at dksX0_go_1 14 rfl rfl)
theorem dX0_go_41 : decode cX0_go 41 = .ok (.ireturn, 1) := dk_172 (dk_at dksX0_go_1 17 rfl rfl)
abbrev cX0_keeps : ByteArray := prog_1_method_20_code
def yX0_keeps : MethodName := ⟨RX0, "keeps", "()V"⟩
def dkwX0_keeps_1 : List UInt8 := [16, 10, 112, 181, 0, 180, 42, 16, 10, 42, 180, 0, 127, 4, 96, 184, 0, 187, 181, 0, 127, 177]
abbrev dktX0_keeps_1 : List UInt8 := dkwX0_keeps_1 ++ []
def dkwX0_keeps_0 : List UInt8 := [42, 180, 0, 45, 42, 180, 0, 180, 50, 42, 180, 0, 30, 182, 0, 183, 87, 42, 42, 180, 0, 180, 4, 96]
abbrev dktX0_keeps_0 : List UInt8 := dkwX0_keeps_0 ++ dktX0_keeps_1
theorem dksX0_keeps_0 : cX0_keeps.data.toList.drop 0 = dktX0_keeps_0 := by decide +kernel
theorem dksX0_keeps_1 : cX0_keeps.data.toList.drop 24 = dktX0_keeps_1 := dk_seg dksX0_keeps_0 24 rfl rfl
theorem dX0_keeps_0 : decode cX0_keeps 0 = .ok (.aload_n 0, 1) := dk_42 (dk_at dksX0_keeps_0 0 rfl rfl)
theorem dX0_keeps_1 : decode cX0_keeps 1 = .ok (.getfield 45, 3) := dk_180 0 45 (dk_at dksX0_keeps_0 1 rfl rfl)
theorem dX0_keeps_4 : decode cX0_keeps 4 = .ok (.aload_n 0, 1) := dk_42 (dk_at dksX0_keeps_0 4 rfl rfl)
theorem dX0_keeps_5 : decode cX0_keeps 5 = .ok (.getfield 180, 3) := dk_180 0 180 (dk_at dksX0_keeps_0 5 rfl rfl)
theorem dX0_keeps_8 : decode cX0_keeps 8 = .ok (.aaload, 1) := dk_50 (dk_at dksX0_keeps_0 8 rfl rfl)
theorem dX0_keeps_9 : decode cX0_keeps 9 = .ok (.aload_n 0, 1) := dk_42 (dk_at dksX0_keeps_0 9 rfl rfl)
theorem dX0_keeps_10 : decode cX0_keeps 10 = .ok (.getfield 30, 3) := dk_180 0 30 (dk_at dksX0_keeps_0 10 rfl rfl)
theorem dX0_keeps_13 : decode cX0_keeps 13 = .ok (.invokevirtual 183, 3) := dk_182 0 183 (dk_at dksX0_keeps_0 13 rfl rfl)
theorem dX0_keeps_16 : decode cX0_keeps 16 = .ok (.pop, 1) := dk_87 (dk_at dksX0_keeps_0 16 rfl rfl)
theorem dX0_keeps_17 : decode cX0_keeps 17 = .ok (.aload_n 0, 1) := dk_42 (dk_at dksX0_keeps_0 17 rfl rfl)
theorem dX0_keeps_18 : decode cX0_keeps 18 = .ok (.aload_n 0, 1) := dk_42 (dk_at dksX0_keeps_0 18 rfl rfl)
theorem dX0_keeps_19 : decode cX0_keeps 19 = .ok (.getfield 180, 3) := dk_180 0 180 (dk_at dksX0_keeps_0 19 rfl rfl)
theorem dX0_keeps_22 : decode cX0_keeps 22 = .ok (.iconst 1, 1) := dk_4 (dk_at dksX0_keeps_0 22 rfl rfl)
theorem dX0_keeps_23 : decode cX0_keeps 23 = .ok (.iadd, 1) := dk_96 (dk_at dksX0_keeps_0 23 rfl rfl)
theorem dX0_keeps_24 : decode cX0_keeps 24 = .ok (.bipush 10, 2) := dk_16 10 (dk_at dksX0_keeps_1 0 rfl rfl)
theorem dX0_keeps_26 : decode cX0_keeps 26 = .ok (.irem, 1) := dk_112 (dk_at dksX0_keeps_1 2 rfl rfl)
theorem dX0_keeps_27 : decode cX0_keeps 27 = .ok (.putfield 180, 3) := dk_181 0 180 (dk_at dksX0_keeps_1 3 rfl rfl)
theorem dX0_keeps_30 : decode cX0_keeps 30 = .ok (.aload_n 0, 1) := dk_42 (dk_at dksX0_keeps_1 6 rfl rfl)
theorem dX0_keeps_31 : decode cX0_keeps 31 = .ok (.bipush 10, 2) := dk_16 10 (dk_at dksX0_keeps_1 7 rfl rfl)
theorem dX0_keeps_33 : decode cX0_keeps 33 = .ok (.aload_n 0, 1) := dk_42 (dk_at dksX0_keeps_1 9 rfl rfl)
theorem dX0_keeps_34 : decode cX0_keeps 34 = .ok (.getfield 127, 3) := dk_180 0 127 (dk_at dksX0_keeps_1 10 rfl rfl)
theorem dX0_keeps_37 : decode cX0_keeps 37 = .ok (.iconst 1, 1) := dk_4 (dk_at dksX0_keeps_1 13 rfl rfl)
theorem dX0_keeps_38 : decode cX0_keeps 38 = .ok (.iadd, 1) := dk_96 (dk_at dksX0_keeps_1 14 rfl rfl)
theorem dX0_keeps_39 : decode cX0_keeps 39 = .ok (.invokestatic 187, 3) := dk_184 0 187 (dk_at dksX0_keeps_1 15 rfl rfl)
theorem dX0_keeps_42 : decode cX0_keeps 42 = .ok (.putfield 127, 3) := dk_181 0 127 (dk_at dksX0_keeps_1 18 rfl rfl)
theorem dX0_keeps_45 : decode cX0_keeps 45 = .ok (.return_, 1) := dk_177 (dk_at dksX0_keeps_1 21 rfl rfl)
abbrev cX0_rope : ByteArray := prog_1_method_22_code
def yX0_rope : MethodName := ⟨RX0, "rope", "(I)I"⟩
def dkwX0_rope_1 : List UInt8 := [182, 0, 198, 42, 180, 0, 30, 180, 0, 163, 27, 184, 0, 155, 184, 0, 159, 172]
abbrev dktX0_rope_1 : List UInt8 := dkwX0_rope_1 ++ []
def dkwX0_rope_0 : List UInt8 := [42, 27, 133, 182, 0, 139, 154, 0, 6, 16, 245, 172, 42, 182, 0, 192, 42, 180, 0, 30, 16, 10, 27, 96]
abbrev dktX0_rope_0 : List UInt8 := dkwX0_rope_0 ++ dktX0_rope_1
theorem dksX0_rope_0 : cX0_rope.data.toList.drop 0 = dktX0_rope_0 := by decide +kernel
theorem dksX0_rope_1 : cX0_rope.data.toList.drop 24 = dktX0_rope_1 := dk_seg dksX0_rope_0 24 rfl rfl
theorem dX0_rope_0 : decode cX0_rope 0 = .ok (.aload_n 0, 1) := dk_42 (dk_at dksX0_rope_0 0 rfl rfl)
theorem dX0_rope_1 : decode cX0_rope 1 = .ok (.iload_n 1, 1) := dk_27 (dk_at dksX0_rope_0 1 rfl rfl)
theorem dX0_rope_2 : decode cX0_rope 2 = .ok (.i2l, 1) := dk_133 (dk_at dksX0_rope_0 2 rfl rfl)
theorem dX0_rope_3 : decode cX0_rope 3 = .ok (.invokevirtual 139, 3) := dk_182 0 139 (dk_at dksX0_rope_0 3 rfl rfl)
theorem dX0_rope_6 : decode cX0_rope 6 = .ok (.ifCond .ne 6, 3) := dk_154 0 6 (dk_at dksX0_rope_0 6 rfl rfl)
theorem dX0_rope_9 : decode cX0_rope 9 = .ok (.bipush (-11), 2) := dk_16 245 (dk_at dksX0_rope_0 9 rfl rfl)
theorem dX0_rope_11 : decode cX0_rope 11 = .ok (.ireturn, 1) := dk_172 (dk_at dksX0_rope_0 11 rfl rfl)
theorem dX0_rope_12 : decode cX0_rope 12 = .ok (.aload_n 0, 1) := dk_42 (dk_at dksX0_rope_0 12 rfl rfl)
theorem dX0_rope_13 : decode cX0_rope 13 = .ok (.invokevirtual 192, 3) := dk_182 0 192 (dk_at dksX0_rope_0 13 rfl rfl)
theorem dX0_rope_16 : decode cX0_rope 16 = .ok (.aload_n 0, 1) := dk_42 (dk_at dksX0_rope_0 16 rfl rfl)
theorem dX0_rope_17 : decode cX0_rope 17 = .ok (.getfield 30, 3) := dk_180 0 30 (dk_at dksX0_rope_0 17 rfl rfl)
theorem dX0_rope_20 : decode cX0_rope 20 = .ok (.bipush 10, 2) := dk_16 10 (dk_at dksX0_rope_0 20 rfl rfl)
theorem dX0_rope_22 : decode cX0_rope 22 = .ok (.iload_n 1, 1) := dk_27 (dk_at dksX0_rope_0 22 rfl rfl)
theorem dX0_rope_23 : decode cX0_rope 23 = .ok (.iadd, 1) := dk_96 (dk_at dksX0_rope_0 23 rfl rfl)
theorem dX0_rope_24 : decode cX0_rope 24 = .ok (.invokevirtual 198, 3) := dk_182 0 198 (dk_at dksX0_rope_1 0 rfl rfl)
theorem dX0_rope_27 : decode cX0_rope 27 = .ok (.aload_n 0, 1) := dk_42 (dk_at dksX0_rope_1 3 rfl rfl)
theorem dX0_rope_28 : decode cX0_rope 28 = .ok (.getfield 30, 3) := dk_180 0 30 (dk_at dksX0_rope_1 4 rfl rfl)
theorem dX0_rope_31 : decode cX0_rope 31 = .ok (.getfield 163, 3) := dk_180 0 163 (dk_at dksX0_rope_1 7 rfl rfl)
theorem dX0_rope_34 : decode cX0_rope 34 = .ok (.iload_n 1, 1) := dk_27 (dk_at dksX0_rope_1 10 rfl rfl)
theorem dX0_rope_35 : decode cX0_rope 35 = .ok (.invokestatic 155, 3) := dk_184 0 155 (dk_at dksX0_rope_1 11 rfl rfl)
theorem dX0_rope_38 : decode cX0_rope 38 = .ok (.invokestatic 159, 3) := dk_184 0 159 (dk_at dksX0_rope_1 14 rfl rfl)
theorem dX0_rope_41 : decode cX0_rope 41 = .ok (.ireturn, 1) := dk_172 (dk_at dksX0_rope_1 17 rfl rfl)
abbrev cX0_put : ByteArray := prog_1_method_23_code
def yX0_put : MethodName := ⟨RX0, "put", "(II)I"⟩
def dkwX0_put_2 : List UInt8 := [16, 10, 21, 4, 184, 0, 177, 104, 21, 4, 184, 0, 9, 96, 172]
abbrev dktX0_put_2 : List UInt8 := dkwX0_put_2 ++ []
def dkwX0_put_1 : List UInt8 := [182, 0, 192, 42, 180, 0, 30, 180, 0, 170, 54, 4, 42, 180, 0, 30, 27, 28, 184, 0, 205, 181, 0, 170]
abbrev dktX0_put_1 : List UInt8 := dkwX0_put_1 ++ dktX0_put_2
def dkwX0_put_0 : List UInt8 := [42, 180, 0, 30, 27, 133, 28, 133, 182, 0, 201, 62, 29, 153, 0, 8, 16, 246, 29, 100, 172, 42]
abbrev dktX0_put_0 : List UInt8 := dkwX0_put_0 ++ dktX0_put_1
theorem dksX0_put_0 : cX0_put.data.toList.drop 0 = dktX0_put_0 := by decide +kernel
theorem dksX0_put_1 : cX0_put.data.toList.drop 22 = dktX0_put_1 := dk_seg dksX0_put_0 22 rfl rfl
theorem dksX0_put_2 : cX0_put.data.toList.drop 46 = dktX0_put_2 := dk_seg dksX0_put_1 24 rfl rfl
theorem dX0_put_0 : decode cX0_put 0 = .ok (.aload_n 0, 1) := dk_42 (dk_at dksX0_put_0 0 rfl rfl)
theorem dX0_put_1 : decode cX0_put 1 = .ok (.getfield 30, 3) := dk_180 0 30 (dk_at dksX0_put_0 1 rfl rfl)
theorem dX0_put_4 : decode cX0_put 4 = .ok (.iload_n 1, 1) := dk_27 (dk_at dksX0_put_0 4 rfl rfl)
theorem dX0_put_5 : decode cX0_put 5 = .ok (.i2l, 1) := dk_133 (dk_at dksX0_put_0 5 rfl rfl)
theorem dX0_put_6 : decode cX0_put 6 = .ok (.iload_n 2, 1) := dk_28 (dk_at dksX0_put_0 6 rfl rfl)
theorem dX0_put_7 : decode cX0_put 7 = .ok (.i2l, 1) := dk_133 (dk_at dksX0_put_0 7 rfl rfl)
theorem dX0_put_8 : decode cX0_put 8 = .ok (.invokevirtual 201, 3) := dk_182 0 201 (dk_at dksX0_put_0 8 rfl rfl)
theorem dX0_put_11 : decode cX0_put 11 = .ok (.istore_n 3, 1) := dk_62 (dk_at dksX0_put_0 11 rfl rfl)
theorem dX0_put_12 : decode cX0_put 12 = .ok (.iload_n 3, 1) := dk_29 (dk_at dksX0_put_0 12 rfl rfl)
theorem dX0_put_13 : decode cX0_put 13 = .ok (.ifCond .eq 8, 3) := dk_153 0 8 (dk_at dksX0_put_0 13 rfl rfl)
theorem dX0_put_16 : decode cX0_put 16 = .ok (.bipush (-10), 2) := dk_16 246 (dk_at dksX0_put_0 16 rfl rfl)
theorem dX0_put_18 : decode cX0_put 18 = .ok (.iload_n 3, 1) := dk_29 (dk_at dksX0_put_0 18 rfl rfl)
theorem dX0_put_19 : decode cX0_put 19 = .ok (.isub, 1) := dk_100 (dk_at dksX0_put_0 19 rfl rfl)
theorem dX0_put_20 : decode cX0_put 20 = .ok (.ireturn, 1) := dk_172 (dk_at dksX0_put_0 20 rfl rfl)
theorem dX0_put_21 : decode cX0_put 21 = .ok (.aload_n 0, 1) := dk_42 (dk_at dksX0_put_0 21 rfl rfl)
theorem dX0_put_22 : decode cX0_put 22 = .ok (.invokevirtual 192, 3) := dk_182 0 192 (dk_at dksX0_put_1 0 rfl rfl)
theorem dX0_put_25 : decode cX0_put 25 = .ok (.aload_n 0, 1) := dk_42 (dk_at dksX0_put_1 3 rfl rfl)
theorem dX0_put_26 : decode cX0_put 26 = .ok (.getfield 30, 3) := dk_180 0 30 (dk_at dksX0_put_1 4 rfl rfl)
theorem dX0_put_29 : decode cX0_put 29 = .ok (.getfield 170, 3) := dk_180 0 170 (dk_at dksX0_put_1 7 rfl rfl)
theorem dX0_put_32 : decode cX0_put 32 = .ok (.istore 4, 2) := dk_54 4 (dk_at dksX0_put_1 10 rfl rfl)
theorem dX0_put_34 : decode cX0_put 34 = .ok (.aload_n 0, 1) := dk_42 (dk_at dksX0_put_1 12 rfl rfl)
theorem dX0_put_35 : decode cX0_put 35 = .ok (.getfield 30, 3) := dk_180 0 30 (dk_at dksX0_put_1 13 rfl rfl)
theorem dX0_put_38 : decode cX0_put 38 = .ok (.iload_n 1, 1) := dk_27 (dk_at dksX0_put_1 16 rfl rfl)
theorem dX0_put_39 : decode cX0_put 39 = .ok (.iload_n 2, 1) := dk_28 (dk_at dksX0_put_1 17 rfl rfl)
theorem dX0_put_40 : decode cX0_put 40 = .ok (.invokestatic 205, 3) := dk_184 0 205 (dk_at dksX0_put_1 18 rfl rfl)
theorem dX0_put_43 : decode cX0_put 43 = .ok (.putfield 170, 3) := dk_181 0 170 (dk_at dksX0_put_1 21 rfl rfl)
theorem dX0_put_46 : decode cX0_put 46 = .ok (.bipush 10, 2) := dk_16 10 (dk_at dksX0_put_2 0 rfl rfl)
theorem dX0_put_48 : decode cX0_put 48 = .ok (.iload 4, 2) := dk_21 4 (dk_at dksX0_put_2 2 rfl rfl)
theorem dX0_put_50 : decode cX0_put 50 = .ok (.invokestatic 177, 3) := dk_184 0 177 (dk_at dksX0_put_2 4 rfl rfl)
theorem dX0_put_53 : decode cX0_put 53 = .ok (.imul, 1) := dk_104 (dk_at dksX0_put_2 7 rfl rfl)
theorem dX0_put_54 : decode cX0_put 54 = .ok (.iload 4, 2) := dk_21 4 (dk_at dksX0_put_2 8 rfl rfl)
theorem dX0_put_56 : decode cX0_put 56 = .ok (.invokestatic 9, 3) := dk_184 0 9 (dk_at dksX0_put_2 10 rfl rfl)
theorem dX0_put_59 : decode cX0_put 59 = .ok (.iadd, 1) := dk_96 (dk_at dksX0_put_2 13 rfl rfl)
theorem dX0_put_60 : decode cX0_put 60 = .ok (.ireturn, 1) := dk_172 (dk_at dksX0_put_2 14 rfl rfl)
abbrev cX0_slack : ByteArray := prog_1_method_24_code
def yX0_slack : MethodName := ⟨RX0, "slack", "(I)I"⟩
def dkwX0_slack_1 : List UInt8 := [180, 0, 210, 61, 42, 180, 0, 30, 27, 181, 0, 210, 28, 172]
abbrev dktX0_slack_1 : List UInt8 := dkwX0_slack_1 ++ []
def dkwX0_slack_0 : List UInt8 := [27, 133, 9, 20, 0, 208, 184, 0, 103, 154, 0, 6, 16, 245, 172, 42, 182, 0, 192, 42, 180, 0, 30]
abbrev dktX0_slack_0 : List UInt8 := dkwX0_slack_0 ++ dktX0_slack_1
theorem dksX0_slack_0 : cX0_slack.data.toList.drop 0 = dktX0_slack_0 := by decide +kernel
theorem dksX0_slack_1 : cX0_slack.data.toList.drop 23 = dktX0_slack_1 := dk_seg dksX0_slack_0 23 rfl rfl
theorem dX0_slack_0 : decode cX0_slack 0 = .ok (.iload_n 1, 1) := dk_27 (dk_at dksX0_slack_0 0 rfl rfl)
theorem dX0_slack_1 : decode cX0_slack 1 = .ok (.i2l, 1) := dk_133 (dk_at dksX0_slack_0 1 rfl rfl)
theorem dX0_slack_2 : decode cX0_slack 2 = .ok (.lconst 0, 1) := dk_9 (dk_at dksX0_slack_0 2 rfl rfl)
theorem dX0_slack_3 : decode cX0_slack 3 = .ok (.ldc2_w 208, 3) := dk_20 0 208 (dk_at dksX0_slack_0 3 rfl rfl)
theorem dX0_slack_6 : decode cX0_slack 6 = .ok (.invokestatic 103, 3) := dk_184 0 103 (dk_at dksX0_slack_0 6 rfl rfl)
theorem dX0_slack_9 : decode cX0_slack 9 = .ok (.ifCond .ne 6, 3) := dk_154 0 6 (dk_at dksX0_slack_0 9 rfl rfl)
theorem dX0_slack_12 : decode cX0_slack 12 = .ok (.bipush (-11), 2) := dk_16 245 (dk_at dksX0_slack_0 12 rfl rfl)
theorem dX0_slack_14 : decode cX0_slack 14 = .ok (.ireturn, 1) := dk_172 (dk_at dksX0_slack_0 14 rfl rfl)
theorem dX0_slack_15 : decode cX0_slack 15 = .ok (.aload_n 0, 1) := dk_42 (dk_at dksX0_slack_0 15 rfl rfl)
theorem dX0_slack_16 : decode cX0_slack 16 = .ok (.invokevirtual 192, 3) := dk_182 0 192 (dk_at dksX0_slack_0 16 rfl rfl)
theorem dX0_slack_19 : decode cX0_slack 19 = .ok (.aload_n 0, 1) := dk_42 (dk_at dksX0_slack_0 19 rfl rfl)
theorem dX0_slack_20 : decode cX0_slack 20 = .ok (.getfield 30, 3) := dk_180 0 30 (dk_at dksX0_slack_0 20 rfl rfl)
theorem dX0_slack_23 : decode cX0_slack 23 = .ok (.getfield 210, 3) := dk_180 0 210 (dk_at dksX0_slack_1 0 rfl rfl)
theorem dX0_slack_26 : decode cX0_slack 26 = .ok (.istore_n 2, 1) := dk_61 (dk_at dksX0_slack_1 3 rfl rfl)
theorem dX0_slack_27 : decode cX0_slack 27 = .ok (.aload_n 0, 1) := dk_42 (dk_at dksX0_slack_1 4 rfl rfl)
theorem dX0_slack_28 : decode cX0_slack 28 = .ok (.getfield 30, 3) := dk_180 0 30 (dk_at dksX0_slack_1 5 rfl rfl)
theorem dX0_slack_31 : decode cX0_slack 31 = .ok (.iload_n 1, 1) := dk_27 (dk_at dksX0_slack_1 8 rfl rfl)
theorem dX0_slack_32 : decode cX0_slack 32 = .ok (.putfield 210, 3) := dk_181 0 210 (dk_at dksX0_slack_1 9 rfl rfl)
theorem dX0_slack_35 : decode cX0_slack 35 = .ok (.iload_n 2, 1) := dk_28 (dk_at dksX0_slack_1 12 rfl rfl)
theorem dX0_slack_36 : decode cX0_slack 36 = .ok (.ireturn, 1) := dk_172 (dk_at dksX0_slack_1 13 rfl rfl)
abbrev cX0_undo : ByteArray := prog_1_method_25_code
def yX0_undo : MethodName := ⟨RX0, "undo", "(I)I"⟩
def dkwX0_undo_2 : List UInt8 := [180, 0, 45, 42, 180, 0, 180, 50, 182, 0, 183, 87, 42, 180, 0, 127, 172]
abbrev dktX0_undo_2 : List UInt8 := dkwX0_undo_2 ++ []
def dkwX0_undo_1 : List UInt8 := [96, 27, 100, 16, 10, 112, 181, 0, 180, 42, 89, 180, 0, 127, 27, 100, 181, 0, 127, 42, 180, 0, 30, 42]
abbrev dktX0_undo_1 : List UInt8 := dkwX0_undo_1 ++ dktX0_undo_2
def dkwX0_undo_0 : List UInt8 := [27, 133, 10, 42, 180, 0, 127, 133, 184, 0, 103, 154, 0, 6, 16, 253, 172, 42, 42, 180, 0, 180, 16, 10]
abbrev dktX0_undo_0 : List UInt8 := dkwX0_undo_0 ++ dktX0_undo_1
theorem dksX0_undo_0 : cX0_undo.data.toList.drop 0 = dktX0_undo_0 := by decide +kernel
theorem dksX0_undo_1 : cX0_undo.data.toList.drop 24 = dktX0_undo_1 := dk_seg dksX0_undo_0 24 rfl rfl
theorem dksX0_undo_2 : cX0_undo.data.toList.drop 48 = dktX0_undo_2 := dk_seg dksX0_undo_1 24 rfl rfl
theorem dX0_undo_0 : decode cX0_undo 0 = .ok (.iload_n 1, 1) := dk_27 (dk_at dksX0_undo_0 0 rfl rfl)
theorem dX0_undo_1 : decode cX0_undo 1 = .ok (.i2l, 1) := dk_133 (dk_at dksX0_undo_0 1 rfl rfl)
theorem dX0_undo_2 : decode cX0_undo 2 = .ok (.lconst 1, 1) := dk_10 (dk_at dksX0_undo_0 2 rfl rfl)
theorem dX0_undo_3 : decode cX0_undo 3 = .ok (.aload_n 0, 1) := dk_42 (dk_at dksX0_undo_0 3 rfl rfl)
theorem dX0_undo_4 : decode cX0_undo 4 = .ok (.getfield 127, 3) := dk_180 0 127 (dk_at dksX0_undo_0 4 rfl rfl)
theorem dX0_undo_7 : decode cX0_undo 7 = .ok (.i2l, 1) := dk_133 (dk_at dksX0_undo_0 7 rfl rfl)
theorem dX0_undo_8 : decode cX0_undo 8 = .ok (.invokestatic 103, 3) := dk_184 0 103 (dk_at dksX0_undo_0 8 rfl rfl)
theorem dX0_undo_11 : decode cX0_undo 11 = .ok (.ifCond .ne 6, 3) := dk_154 0 6 (dk_at dksX0_undo_0 11 rfl rfl)
theorem dX0_undo_14 : decode cX0_undo 14 = .ok (.bipush (-3), 2) := dk_16 253 (dk_at dksX0_undo_0 14 rfl rfl)
theorem dX0_undo_16 : decode cX0_undo 16 = .ok (.ireturn, 1) := dk_172 (dk_at dksX0_undo_0 16 rfl rfl)
theorem dX0_undo_17 : decode cX0_undo 17 = .ok (.aload_n 0, 1) := dk_42 (dk_at dksX0_undo_0 17 rfl rfl)
theorem dX0_undo_18 : decode cX0_undo 18 = .ok (.aload_n 0, 1) := dk_42 (dk_at dksX0_undo_0 18 rfl rfl)
theorem dX0_undo_19 : decode cX0_undo 19 = .ok (.getfield 180, 3) := dk_180 0 180 (dk_at dksX0_undo_0 19 rfl rfl)
theorem dX0_undo_22 : decode cX0_undo 22 = .ok (.bipush 10, 2) := dk_16 10 (dk_at dksX0_undo_0 22 rfl rfl)
theorem dX0_undo_24 : decode cX0_undo 24 = .ok (.iadd, 1) := dk_96 (dk_at dksX0_undo_1 0 rfl rfl)
theorem dX0_undo_25 : decode cX0_undo 25 = .ok (.iload_n 1, 1) := dk_27 (dk_at dksX0_undo_1 1 rfl rfl)
theorem dX0_undo_26 : decode cX0_undo 26 = .ok (.isub, 1) := dk_100 (dk_at dksX0_undo_1 2 rfl rfl)
theorem dX0_undo_27 : decode cX0_undo 27 = .ok (.bipush 10, 2) := dk_16 10 (dk_at dksX0_undo_1 3 rfl rfl)
theorem dX0_undo_29 : decode cX0_undo 29 = .ok (.irem, 1) := dk_112 (dk_at dksX0_undo_1 5 rfl rfl)
theorem dX0_undo_30 : decode cX0_undo 30 = .ok (.putfield 180, 3) := dk_181 0 180 (dk_at dksX0_undo_1 6 rfl rfl)
theorem dX0_undo_33 : decode cX0_undo 33 = .ok (.aload_n 0, 1) := dk_42 (dk_at dksX0_undo_1 9 rfl rfl)
theorem dX0_undo_34 : decode cX0_undo 34 = .ok (.dup, 1) := dk_89 (dk_at dksX0_undo_1 10 rfl rfl)
theorem dX0_undo_35 : decode cX0_undo 35 = .ok (.getfield 127, 3) := dk_180 0 127 (dk_at dksX0_undo_1 11 rfl rfl)
theorem dX0_undo_38 : decode cX0_undo 38 = .ok (.iload_n 1, 1) := dk_27 (dk_at dksX0_undo_1 14 rfl rfl)
theorem dX0_undo_39 : decode cX0_undo 39 = .ok (.isub, 1) := dk_100 (dk_at dksX0_undo_1 15 rfl rfl)
theorem dX0_undo_40 : decode cX0_undo 40 = .ok (.putfield 127, 3) := dk_181 0 127 (dk_at dksX0_undo_1 16 rfl rfl)
theorem dX0_undo_43 : decode cX0_undo 43 = .ok (.aload_n 0, 1) := dk_42 (dk_at dksX0_undo_1 19 rfl rfl)
theorem dX0_undo_44 : decode cX0_undo 44 = .ok (.getfield 30, 3) := dk_180 0 30 (dk_at dksX0_undo_1 20 rfl rfl)
theorem dX0_undo_47 : decode cX0_undo 47 = .ok (.aload_n 0, 1) := dk_42 (dk_at dksX0_undo_1 23 rfl rfl)
theorem dX0_undo_48 : decode cX0_undo 48 = .ok (.getfield 45, 3) := dk_180 0 45 (dk_at dksX0_undo_2 0 rfl rfl)
theorem dX0_undo_51 : decode cX0_undo 51 = .ok (.aload_n 0, 1) := dk_42 (dk_at dksX0_undo_2 3 rfl rfl)
theorem dX0_undo_52 : decode cX0_undo 52 = .ok (.getfield 180, 3) := dk_180 0 180 (dk_at dksX0_undo_2 4 rfl rfl)
theorem dX0_undo_55 : decode cX0_undo 55 = .ok (.aaload, 1) := dk_50 (dk_at dksX0_undo_2 7 rfl rfl)
theorem dX0_undo_56 : decode cX0_undo 56 = .ok (.invokevirtual 183, 3) := dk_182 0 183 (dk_at dksX0_undo_2 8 rfl rfl)
theorem dX0_undo_59 : decode cX0_undo 59 = .ok (.pop, 1) := dk_87 (dk_at dksX0_undo_2 11 rfl rfl)
theorem dX0_undo_60 : decode cX0_undo 60 = .ok (.aload_n 0, 1) := dk_42 (dk_at dksX0_undo_2 12 rfl rfl)
theorem dX0_undo_61 : decode cX0_undo 61 = .ok (.getfield 127, 3) := dk_180 0 127 (dk_at dksX0_undo_2 13 rfl rfl)
theorem dX0_undo_64 : decode cX0_undo 64 = .ok (.ireturn, 1) := dk_172 (dk_at dksX0_undo_2 16 rfl rfl)
abbrev cX0_judge : ByteArray := prog_1_method_27_code
def yX0_judge : MethodName := ⟨RX0, "judge", "(II)I"⟩
def dkwX0_judge_5 : List UInt8 := [180, 0, 34, 180, 0, 170, 184, 0, 177, 172, 42, 180, 0, 34, 180, 0, 170, 184, 0, 9, 172]
abbrev dktX0_judge_5 : List UInt8 := dkwX0_judge_5 ++ []
def dkwX0_judge_4 : List UInt8 := [160, 0, 7, 3, 167, 0, 17, 42, 180, 0, 34, 25, 4, 21, 5, 182, 0, 216, 182, 0, 220, 172, 42]
abbrev dktX0_judge_4 : List UInt8 := dkwX0_judge_4 ++ dktX0_judge_5
def dkwX0_judge_3 : List UInt8 := [21, 5, 25, 4, 182, 0, 213, 160, 0, 7, 2, 167, 0, 5, 21, 5, 172, 21, 5, 25, 4, 182, 0, 213]
abbrev dktX0_judge_3 : List UInt8 := dkwX0_judge_3 ++ dktX0_judge_4
def dkwX0_judge_2 : List UInt8 := [170, 0, 0, 0, 0, 83, 0, 0, 0, 0, 0, 0, 0, 2, 0, 0, 0, 26, 0, 0, 0, 43, 0, 0, 0, 72]
abbrev dktX0_judge_2 : List UInt8 := dkwX0_judge_2 ++ dktX0_judge_3
def dkwX0_judge_1 : List UInt8 := [153, 0, 5, 29, 172, 42, 180, 0, 82, 27, 50, 58, 4, 42, 25, 4, 182, 0, 228, 54, 5, 28]
abbrev dktX0_judge_1 : List UInt8 := dkwX0_judge_1 ++ dktX0_judge_2
def dkwX0_judge_0 : List UInt8 := [28, 133, 9, 20, 0, 223, 184, 0, 103, 153, 0, 11, 42, 27, 182, 0, 225, 167, 0, 5, 16, 254, 62, 29]
abbrev dktX0_judge_0 : List UInt8 := dkwX0_judge_0 ++ dktX0_judge_1
theorem dksX0_judge_0 : cX0_judge.data.toList.drop 0 = dktX0_judge_0 := by decide +kernel
theorem dksX0_judge_1 : cX0_judge.data.toList.drop 24 = dktX0_judge_1 := dk_seg dksX0_judge_0 24 rfl rfl
theorem dksX0_judge_2 : cX0_judge.data.toList.drop 46 = dktX0_judge_2 := dk_seg dksX0_judge_1 22 rfl rfl
theorem dksX0_judge_3 : cX0_judge.data.toList.drop 72 = dktX0_judge_3 := dk_seg dksX0_judge_2 26 rfl rfl
theorem dksX0_judge_4 : cX0_judge.data.toList.drop 96 = dktX0_judge_4 := dk_seg dksX0_judge_3 24 rfl rfl
theorem dksX0_judge_5 : cX0_judge.data.toList.drop 119 = dktX0_judge_5 := dk_seg dksX0_judge_4 23 rfl rfl
theorem dX0_judge_0 : decode cX0_judge 0 = .ok (.iload_n 2, 1) := dk_28 (dk_at dksX0_judge_0 0 rfl rfl)
theorem dX0_judge_1 : decode cX0_judge 1 = .ok (.i2l, 1) := dk_133 (dk_at dksX0_judge_0 1 rfl rfl)
theorem dX0_judge_2 : decode cX0_judge 2 = .ok (.lconst 0, 1) := dk_9 (dk_at dksX0_judge_0 2 rfl rfl)
theorem dX0_judge_3 : decode cX0_judge 3 = .ok (.ldc2_w 223, 3) := dk_20 0 223 (dk_at dksX0_judge_0 3 rfl rfl)
theorem dX0_judge_6 : decode cX0_judge 6 = .ok (.invokestatic 103, 3) := dk_184 0 103 (dk_at dksX0_judge_0 6 rfl rfl)
theorem dX0_judge_9 : decode cX0_judge 9 = .ok (.ifCond .eq 11, 3) := dk_153 0 11 (dk_at dksX0_judge_0 9 rfl rfl)
theorem dX0_judge_12 : decode cX0_judge 12 = .ok (.aload_n 0, 1) := dk_42 (dk_at dksX0_judge_0 12 rfl rfl)
theorem dX0_judge_13 : decode cX0_judge 13 = .ok (.iload_n 1, 1) := dk_27 (dk_at dksX0_judge_0 13 rfl rfl)
theorem dX0_judge_14 : decode cX0_judge 14 = .ok (.invokevirtual 225, 3) := dk_182 0 225 (dk_at dksX0_judge_0 14 rfl rfl)
theorem dX0_judge_17 : decode cX0_judge 17 = .ok (.goto 5, 3) := dk_167 0 5 (dk_at dksX0_judge_0 17 rfl rfl)
theorem dX0_judge_20 : decode cX0_judge 20 = .ok (.bipush (-2), 2) := dk_16 254 (dk_at dksX0_judge_0 20 rfl rfl)
theorem dX0_judge_22 : decode cX0_judge 22 = .ok (.istore_n 3, 1) := dk_62 (dk_at dksX0_judge_0 22 rfl rfl)
theorem dX0_judge_23 : decode cX0_judge 23 = .ok (.iload_n 3, 1) := dk_29 (dk_at dksX0_judge_0 23 rfl rfl)
theorem dX0_judge_24 : decode cX0_judge 24 = .ok (.ifCond .eq 5, 3) := dk_153 0 5 (dk_at dksX0_judge_1 0 rfl rfl)
theorem dX0_judge_27 : decode cX0_judge 27 = .ok (.iload_n 3, 1) := dk_29 (dk_at dksX0_judge_1 3 rfl rfl)
theorem dX0_judge_28 : decode cX0_judge 28 = .ok (.ireturn, 1) := dk_172 (dk_at dksX0_judge_1 4 rfl rfl)
theorem dX0_judge_29 : decode cX0_judge 29 = .ok (.aload_n 0, 1) := dk_42 (dk_at dksX0_judge_1 5 rfl rfl)
theorem dX0_judge_30 : decode cX0_judge 30 = .ok (.getfield 82, 3) := dk_180 0 82 (dk_at dksX0_judge_1 6 rfl rfl)
theorem dX0_judge_33 : decode cX0_judge 33 = .ok (.iload_n 1, 1) := dk_27 (dk_at dksX0_judge_1 9 rfl rfl)
theorem dX0_judge_34 : decode cX0_judge 34 = .ok (.aaload, 1) := dk_50 (dk_at dksX0_judge_1 10 rfl rfl)
theorem dX0_judge_35 : decode cX0_judge 35 = .ok (.astore 4, 2) := dk_58 4 (dk_at dksX0_judge_1 11 rfl rfl)
theorem dX0_judge_37 : decode cX0_judge 37 = .ok (.aload_n 0, 1) := dk_42 (dk_at dksX0_judge_1 13 rfl rfl)
theorem dX0_judge_38 : decode cX0_judge 38 = .ok (.aload 4, 2) := dk_25 4 (dk_at dksX0_judge_1 14 rfl rfl)
theorem dX0_judge_40 : decode cX0_judge 40 = .ok (.invokevirtual 228, 3) := dk_182 0 228 (dk_at dksX0_judge_1 16 rfl rfl)
theorem dX0_judge_43 : decode cX0_judge 43 = .ok (.istore 5, 2) := dk_54 5 (dk_at dksX0_judge_1 19 rfl rfl)
theorem dX0_judge_45 : decode cX0_judge 45 = .ok (.iload_n 2, 1) := dk_28 (dk_at dksX0_judge_1 21 rfl rfl)
theorem dX0_judge_46 : decode cX0_judge 46 = .ok (.tableswitch 83 0 2 #[26, 43, 72], 26) := by decide +kernel
theorem dX0_judge_72 : decode cX0_judge 72 = .ok (.iload 5, 2) := dk_21 5 (dk_at dksX0_judge_3 0 rfl rfl)
theorem dX0_judge_74 : decode cX0_judge 74 = .ok (.aload 4, 2) := dk_25 4 (dk_at dksX0_judge_3 2 rfl rfl)
theorem dX0_judge_76 : decode cX0_judge 76 = .ok (.invokevirtual 213, 3) := dk_182 0 213 (dk_at dksX0_judge_3 4 rfl rfl)
theorem dX0_judge_79 : decode cX0_judge 79 = .ok (.if_icmp .ne 7, 3) := dk_160 0 7 (dk_at dksX0_judge_3 7 rfl rfl)
theorem dX0_judge_82 : decode cX0_judge 82 = .ok (.iconst (-1), 1) := dk_2 (dk_at dksX0_judge_3 10 rfl rfl)
theorem dX0_judge_83 : decode cX0_judge 83 = .ok (.goto 5, 3) := dk_167 0 5 (dk_at dksX0_judge_3 11 rfl rfl)
theorem dX0_judge_86 : decode cX0_judge 86 = .ok (.iload 5, 2) := dk_21 5 (dk_at dksX0_judge_3 14 rfl rfl)
theorem dX0_judge_88 : decode cX0_judge 88 = .ok (.ireturn, 1) := dk_172 (dk_at dksX0_judge_3 16 rfl rfl)
theorem dX0_judge_89 : decode cX0_judge 89 = .ok (.iload 5, 2) := dk_21 5 (dk_at dksX0_judge_3 17 rfl rfl)
theorem dX0_judge_91 : decode cX0_judge 91 = .ok (.aload 4, 2) := dk_25 4 (dk_at dksX0_judge_3 19 rfl rfl)
theorem dX0_judge_93 : decode cX0_judge 93 = .ok (.invokevirtual 213, 3) := dk_182 0 213 (dk_at dksX0_judge_3 21 rfl rfl)
theorem dX0_judge_96 : decode cX0_judge 96 = .ok (.if_icmp .ne 7, 3) := dk_160 0 7 (dk_at dksX0_judge_4 0 rfl rfl)
theorem dX0_judge_99 : decode cX0_judge 99 = .ok (.iconst 0, 1) := dk_3 (dk_at dksX0_judge_4 3 rfl rfl)
theorem dX0_judge_100 : decode cX0_judge 100 = .ok (.goto 17, 3) := dk_167 0 17 (dk_at dksX0_judge_4 4 rfl rfl)
theorem dX0_judge_103 : decode cX0_judge 103 = .ok (.aload_n 0, 1) := dk_42 (dk_at dksX0_judge_4 7 rfl rfl)
theorem dX0_judge_104 : decode cX0_judge 104 = .ok (.getfield 34, 3) := dk_180 0 34 (dk_at dksX0_judge_4 8 rfl rfl)
theorem dX0_judge_107 : decode cX0_judge 107 = .ok (.aload 4, 2) := dk_25 4 (dk_at dksX0_judge_4 11 rfl rfl)
theorem dX0_judge_109 : decode cX0_judge 109 = .ok (.iload 5, 2) := dk_21 5 (dk_at dksX0_judge_4 13 rfl rfl)
theorem dX0_judge_111 : decode cX0_judge 111 = .ok (.invokevirtual 216, 3) := dk_182 0 216 (dk_at dksX0_judge_4 15 rfl rfl)
theorem dX0_judge_114 : decode cX0_judge 114 = .ok (.invokevirtual 220, 3) := dk_182 0 220 (dk_at dksX0_judge_4 18 rfl rfl)
theorem dX0_judge_117 : decode cX0_judge 117 = .ok (.ireturn, 1) := dk_172 (dk_at dksX0_judge_4 21 rfl rfl)
theorem dX0_judge_118 : decode cX0_judge 118 = .ok (.aload_n 0, 1) := dk_42 (dk_at dksX0_judge_4 22 rfl rfl)
theorem dX0_judge_119 : decode cX0_judge 119 = .ok (.getfield 34, 3) := dk_180 0 34 (dk_at dksX0_judge_5 0 rfl rfl)
theorem dX0_judge_122 : decode cX0_judge 122 = .ok (.getfield 170, 3) := dk_180 0 170 (dk_at dksX0_judge_5 3 rfl rfl)
theorem dX0_judge_125 : decode cX0_judge 125 = .ok (.invokestatic 177, 3) := dk_184 0 177 (dk_at dksX0_judge_5 6 rfl rfl)
theorem dX0_judge_128 : decode cX0_judge 128 = .ok (.ireturn, 1) := dk_172 (dk_at dksX0_judge_5 9 rfl rfl)
theorem dX0_judge_129 : decode cX0_judge 129 = .ok (.aload_n 0, 1) := dk_42 (dk_at dksX0_judge_5 10 rfl rfl)
theorem dX0_judge_130 : decode cX0_judge 130 = .ok (.getfield 34, 3) := dk_180 0 34 (dk_at dksX0_judge_5 11 rfl rfl)
theorem dX0_judge_133 : decode cX0_judge 133 = .ok (.getfield 170, 3) := dk_180 0 170 (dk_at dksX0_judge_5 14 rfl rfl)
theorem dX0_judge_136 : decode cX0_judge 136 = .ok (.invokestatic 9, 3) := dk_184 0 9 (dk_at dksX0_judge_5 17 rfl rfl)
theorem dX0_judge_139 : decode cX0_judge 139 = .ok (.ireturn, 1) := dk_172 (dk_at dksX0_judge_5 20 rfl rfl)
abbrev cX0_trayFault : ByteArray := prog_1_method_81_code
def yX0_trayFault : MethodName := ⟨RX0, "trayFault", "(I)I"⟩
def dkwX0_trayFault_1 : List UInt8 := [16, 250, 167, 0, 4, 3, 172]
abbrev dktX0_trayFault_1 : List UInt8 := dkwX0_trayFault_1 ++ []
def dkwX0_trayFault_0 : List UInt8 := [27, 184, 1, 112, 154, 0, 8, 16, 254, 167, 0, 21, 42, 180, 0, 82, 27, 50, 180, 1, 115, 199, 0, 8]
abbrev dktX0_trayFault_0 : List UInt8 := dkwX0_trayFault_0 ++ dktX0_trayFault_1
theorem dksX0_trayFault_0 : cX0_trayFault.data.toList.drop 0 = dktX0_trayFault_0 := by decide +kernel
theorem dksX0_trayFault_1 : cX0_trayFault.data.toList.drop 24 = dktX0_trayFault_1 := dk_seg dksX0_trayFault_0 24 rfl rfl
theorem dX0_trayFault_0 : decode cX0_trayFault 0 = .ok (.iload_n 1, 1) := dk_27 (dk_at dksX0_trayFault_0 0 rfl rfl)
theorem dX0_trayFault_1 : decode cX0_trayFault 1 = .ok (.invokestatic 368, 3) := dk_184 1 112 (dk_at dksX0_trayFault_0 1 rfl rfl)
theorem dX0_trayFault_4 : decode cX0_trayFault 4 = .ok (.ifCond .ne 8, 3) := dk_154 0 8 (dk_at dksX0_trayFault_0 4 rfl rfl)
theorem dX0_trayFault_7 : decode cX0_trayFault 7 = .ok (.bipush (-2), 2) := dk_16 254 (dk_at dksX0_trayFault_0 7 rfl rfl)
theorem dX0_trayFault_9 : decode cX0_trayFault 9 = .ok (.goto 21, 3) := dk_167 0 21 (dk_at dksX0_trayFault_0 9 rfl rfl)
theorem dX0_trayFault_12 : decode cX0_trayFault 12 = .ok (.aload_n 0, 1) := dk_42 (dk_at dksX0_trayFault_0 12 rfl rfl)
theorem dX0_trayFault_13 : decode cX0_trayFault 13 = .ok (.getfield 82, 3) := dk_180 0 82 (dk_at dksX0_trayFault_0 13 rfl rfl)
theorem dX0_trayFault_16 : decode cX0_trayFault 16 = .ok (.iload_n 1, 1) := dk_27 (dk_at dksX0_trayFault_0 16 rfl rfl)
theorem dX0_trayFault_17 : decode cX0_trayFault 17 = .ok (.aaload, 1) := dk_50 (dk_at dksX0_trayFault_0 17 rfl rfl)
theorem dX0_trayFault_18 : decode cX0_trayFault 18 = .ok (.getfield 371, 3) := dk_180 1 115 (dk_at dksX0_trayFault_0 18 rfl rfl)
theorem dX0_trayFault_21 : decode cX0_trayFault 21 = .ok (.ifnonnull 8, 3) := dk_199 0 8 (dk_at dksX0_trayFault_0 21 rfl rfl)
theorem dX0_trayFault_24 : decode cX0_trayFault 24 = .ok (.bipush (-6), 2) := dk_16 250 (dk_at dksX0_trayFault_1 0 rfl rfl)
theorem dX0_trayFault_26 : decode cX0_trayFault 26 = .ok (.goto 4, 3) := dk_167 0 4 (dk_at dksX0_trayFault_1 2 rfl rfl)
theorem dX0_trayFault_29 : decode cX0_trayFault 29 = .ok (.iconst 0, 1) := dk_3 (dk_at dksX0_trayFault_1 5 rfl rfl)
theorem dX0_trayFault_30 : decode cX0_trayFault 30 = .ok (.ireturn, 1) := dk_172 (dk_at dksX0_trayFault_1 6 rfl rfl)
abbrev cX0_isTray : ByteArray := prog_1_method_80_code
def yX0_isTray : MethodName := ⟨RX0, "isTray", "(I)Z"⟩
def dkwX0_isTray_0 : List UInt8 := [26, 133, 9, 20, 0, 223, 184, 0, 103, 172]
abbrev dktX0_isTray_0 : List UInt8 := dkwX0_isTray_0 ++ []
theorem dksX0_isTray_0 : cX0_isTray.data.toList.drop 0 = dktX0_isTray_0 := by decide +kernel
theorem dX0_isTray_0 : decode cX0_isTray 0 = .ok (.iload_n 0, 1) := dk_26 (dk_at dksX0_isTray_0 0 rfl rfl)
theorem dX0_isTray_1 : decode cX0_isTray 1 = .ok (.i2l, 1) := dk_133 (dk_at dksX0_isTray_0 1 rfl rfl)
theorem dX0_isTray_2 : decode cX0_isTray 2 = .ok (.lconst 0, 1) := dk_9 (dk_at dksX0_isTray_0 2 rfl rfl)
theorem dX0_isTray_3 : decode cX0_isTray 3 = .ok (.ldc2_w 223, 3) := dk_20 0 223 (dk_at dksX0_isTray_0 3 rfl rfl)
theorem dX0_isTray_6 : decode cX0_isTray 6 = .ok (.invokestatic 103, 3) := dk_184 0 103 (dk_at dksX0_isTray_0 6 rfl rfl)
theorem dX0_isTray_9 : decode cX0_isTray 9 = .ok (.ireturn, 1) := dk_172 (dk_at dksX0_isTray_0 9 rfl rfl)
abbrev cX0_goesAlong : ByteArray := prog_1_method_26_code
def yX0_goesAlong : MethodName := ⟨RX0, "goesAlong", "(LBackRescue$Numbers;)I"⟩
def dkwX0_goesAlong_2 : List UInt8 := [182, 0, 198, 132, 2, 1, 167, 255, 217, 28, 172]
abbrev dktX0_goesAlong_2 : List UInt8 := dkwX0_goesAlong_2 ++ []
def dkwX0_goesAlong_1 : List UInt8 := [180, 0, 34, 43, 28, 182, 0, 216, 182, 0, 220, 154, 0, 22, 42, 180, 0, 34, 43, 28, 182, 0, 216, 136]
abbrev dktX0_goesAlong_1 : List UInt8 := dkwX0_goesAlong_1 ++ dktX0_goesAlong_2
def dkwX0_goesAlong_0 : List UInt8 := [42, 180, 0, 34, 42, 180, 0, 30, 182, 0, 183, 87, 3, 61, 28, 43, 182, 0, 213, 162, 0, 37, 42]
abbrev dktX0_goesAlong_0 : List UInt8 := dkwX0_goesAlong_0 ++ dktX0_goesAlong_1
theorem dksX0_goesAlong_0 : cX0_goesAlong.data.toList.drop 0 = dktX0_goesAlong_0 := by decide +kernel
theorem dksX0_goesAlong_1 : cX0_goesAlong.data.toList.drop 23 = dktX0_goesAlong_1 := dk_seg dksX0_goesAlong_0 23 rfl rfl
theorem dksX0_goesAlong_2 : cX0_goesAlong.data.toList.drop 47 = dktX0_goesAlong_2 := dk_seg dksX0_goesAlong_1 24 rfl rfl
theorem dX0_goesAlong_0 : decode cX0_goesAlong 0 = .ok (.aload_n 0, 1) := dk_42 (dk_at dksX0_goesAlong_0 0 rfl rfl)
theorem dX0_goesAlong_1 : decode cX0_goesAlong 1 = .ok (.getfield 34, 3) := dk_180 0 34 (dk_at dksX0_goesAlong_0 1 rfl rfl)
theorem dX0_goesAlong_4 : decode cX0_goesAlong 4 = .ok (.aload_n 0, 1) := dk_42 (dk_at dksX0_goesAlong_0 4 rfl rfl)
theorem dX0_goesAlong_5 : decode cX0_goesAlong 5 = .ok (.getfield 30, 3) := dk_180 0 30 (dk_at dksX0_goesAlong_0 5 rfl rfl)
theorem dX0_goesAlong_8 : decode cX0_goesAlong 8 = .ok (.invokevirtual 183, 3) := dk_182 0 183 (dk_at dksX0_goesAlong_0 8 rfl rfl)
theorem dX0_goesAlong_11 : decode cX0_goesAlong 11 = .ok (.pop, 1) := dk_87 (dk_at dksX0_goesAlong_0 11 rfl rfl)
theorem dX0_goesAlong_12 : decode cX0_goesAlong 12 = .ok (.iconst 0, 1) := dk_3 (dk_at dksX0_goesAlong_0 12 rfl rfl)
theorem dX0_goesAlong_13 : decode cX0_goesAlong 13 = .ok (.istore_n 2, 1) := dk_61 (dk_at dksX0_goesAlong_0 13 rfl rfl)
theorem dX0_goesAlong_14 : decode cX0_goesAlong 14 = .ok (.iload_n 2, 1) := dk_28 (dk_at dksX0_goesAlong_0 14 rfl rfl)
theorem dX0_goesAlong_15 : decode cX0_goesAlong 15 = .ok (.aload_n 1, 1) := dk_43 (dk_at dksX0_goesAlong_0 15 rfl rfl)
theorem dX0_goesAlong_16 : decode cX0_goesAlong 16 = .ok (.invokevirtual 213, 3) := dk_182 0 213 (dk_at dksX0_goesAlong_0 16 rfl rfl)
theorem dX0_goesAlong_19 : decode cX0_goesAlong 19 = .ok (.if_icmp .ge 37, 3) := dk_162 0 37 (dk_at dksX0_goesAlong_0 19 rfl rfl)
theorem dX0_goesAlong_22 : decode cX0_goesAlong 22 = .ok (.aload_n 0, 1) := dk_42 (dk_at dksX0_goesAlong_0 22 rfl rfl)
theorem dX0_goesAlong_23 : decode cX0_goesAlong 23 = .ok (.getfield 34, 3) := dk_180 0 34 (dk_at dksX0_goesAlong_1 0 rfl rfl)
theorem dX0_goesAlong_26 : decode cX0_goesAlong 26 = .ok (.aload_n 1, 1) := dk_43 (dk_at dksX0_goesAlong_1 3 rfl rfl)
theorem dX0_goesAlong_27 : decode cX0_goesAlong 27 = .ok (.iload_n 2, 1) := dk_28 (dk_at dksX0_goesAlong_1 4 rfl rfl)
theorem dX0_goesAlong_28 : decode cX0_goesAlong 28 = .ok (.invokevirtual 216, 3) := dk_182 0 216 (dk_at dksX0_goesAlong_1 5 rfl rfl)
theorem dX0_goesAlong_31 : decode cX0_goesAlong 31 = .ok (.invokevirtual 220, 3) := dk_182 0 220 (dk_at dksX0_goesAlong_1 8 rfl rfl)
theorem dX0_goesAlong_34 : decode cX0_goesAlong 34 = .ok (.ifCond .ne 22, 3) := dk_154 0 22 (dk_at dksX0_goesAlong_1 11 rfl rfl)
theorem dX0_goesAlong_37 : decode cX0_goesAlong 37 = .ok (.aload_n 0, 1) := dk_42 (dk_at dksX0_goesAlong_1 14 rfl rfl)
theorem dX0_goesAlong_38 : decode cX0_goesAlong 38 = .ok (.getfield 34, 3) := dk_180 0 34 (dk_at dksX0_goesAlong_1 15 rfl rfl)
theorem dX0_goesAlong_41 : decode cX0_goesAlong 41 = .ok (.aload_n 1, 1) := dk_43 (dk_at dksX0_goesAlong_1 18 rfl rfl)
theorem dX0_goesAlong_42 : decode cX0_goesAlong 42 = .ok (.iload_n 2, 1) := dk_28 (dk_at dksX0_goesAlong_1 19 rfl rfl)
theorem dX0_goesAlong_43 : decode cX0_goesAlong 43 = .ok (.invokevirtual 216, 3) := dk_182 0 216 (dk_at dksX0_goesAlong_1 20 rfl rfl)
theorem dX0_goesAlong_46 : decode cX0_goesAlong 46 = .ok (.l2i, 1) := dk_136 (dk_at dksX0_goesAlong_1 23 rfl rfl)
theorem dX0_goesAlong_47 : decode cX0_goesAlong 47 = .ok (.invokevirtual 198, 3) := dk_182 0 198 (dk_at dksX0_goesAlong_2 0 rfl rfl)
theorem dX0_goesAlong_50 : decode cX0_goesAlong 50 = .ok (.iinc 2 1, 3) := dk_132 2 1 (dk_at dksX0_goesAlong_2 3 rfl rfl)
theorem dX0_goesAlong_53 : decode cX0_goesAlong 53 = .ok (.goto (-39), 3) := dk_167 255 217 (dk_at dksX0_goesAlong_2 6 rfl rfl)
theorem dX0_goesAlong_56 : decode cX0_goesAlong 56 = .ok (.iload_n 2, 1) := dk_28 (dk_at dksX0_goesAlong_2 9 rfl rfl)
theorem dX0_goesAlong_57 : decode cX0_goesAlong 57 = .ok (.ireturn, 1) := dk_172 (dk_at dksX0_goesAlong_2 10 rfl rfl)
abbrev cX0_perform : ByteArray := prog_1_method_28_code
def yX0_perform : MethodName := ⟨RX0, "perform", "(I)I"⟩
def dkwX0_perform_1 : List UInt8 := [154, 0, 5, 3, 172, 42, 182, 0, 192, 42, 180, 0, 30, 42, 180, 0, 34, 182, 0, 183, 87, 29, 172]
abbrev dktX0_perform_1 : List UInt8 := dkwX0_perform_1 ++ []
def dkwX0_perform_0 : List UInt8 := [42, 27, 182, 0, 225, 61, 28, 153, 0, 5, 28, 172, 42, 42, 180, 0, 82, 27, 50, 182, 0, 228, 62, 29]
abbrev dktX0_perform_0 : List UInt8 := dkwX0_perform_0 ++ dktX0_perform_1
theorem dksX0_perform_0 : cX0_perform.data.toList.drop 0 = dktX0_perform_0 := by decide +kernel
theorem dksX0_perform_1 : cX0_perform.data.toList.drop 24 = dktX0_perform_1 := dk_seg dksX0_perform_0 24 rfl rfl
theorem dX0_perform_0 : decode cX0_perform 0 = .ok (.aload_n 0, 1) := dk_42 (dk_at dksX0_perform_0 0 rfl rfl)
theorem dX0_perform_1 : decode cX0_perform 1 = .ok (.iload_n 1, 1) := dk_27 (dk_at dksX0_perform_0 1 rfl rfl)
theorem dX0_perform_2 : decode cX0_perform 2 = .ok (.invokevirtual 225, 3) := dk_182 0 225 (dk_at dksX0_perform_0 2 rfl rfl)
theorem dX0_perform_5 : decode cX0_perform 5 = .ok (.istore_n 2, 1) := dk_61 (dk_at dksX0_perform_0 5 rfl rfl)
theorem dX0_perform_6 : decode cX0_perform 6 = .ok (.iload_n 2, 1) := dk_28 (dk_at dksX0_perform_0 6 rfl rfl)
theorem dX0_perform_7 : decode cX0_perform 7 = .ok (.ifCond .eq 5, 3) := dk_153 0 5 (dk_at dksX0_perform_0 7 rfl rfl)
theorem dX0_perform_10 : decode cX0_perform 10 = .ok (.iload_n 2, 1) := dk_28 (dk_at dksX0_perform_0 10 rfl rfl)
theorem dX0_perform_11 : decode cX0_perform 11 = .ok (.ireturn, 1) := dk_172 (dk_at dksX0_perform_0 11 rfl rfl)
theorem dX0_perform_12 : decode cX0_perform 12 = .ok (.aload_n 0, 1) := dk_42 (dk_at dksX0_perform_0 12 rfl rfl)
theorem dX0_perform_13 : decode cX0_perform 13 = .ok (.aload_n 0, 1) := dk_42 (dk_at dksX0_perform_0 13 rfl rfl)
theorem dX0_perform_14 : decode cX0_perform 14 = .ok (.getfield 82, 3) := dk_180 0 82 (dk_at dksX0_perform_0 14 rfl rfl)
theorem dX0_perform_17 : decode cX0_perform 17 = .ok (.iload_n 1, 1) := dk_27 (dk_at dksX0_perform_0 17 rfl rfl)
theorem dX0_perform_18 : decode cX0_perform 18 = .ok (.aaload, 1) := dk_50 (dk_at dksX0_perform_0 18 rfl rfl)
theorem dX0_perform_19 : decode cX0_perform 19 = .ok (.invokevirtual 228, 3) := dk_182 0 228 (dk_at dksX0_perform_0 19 rfl rfl)
theorem dX0_perform_22 : decode cX0_perform 22 = .ok (.istore_n 3, 1) := dk_62 (dk_at dksX0_perform_0 22 rfl rfl)
theorem dX0_perform_23 : decode cX0_perform 23 = .ok (.iload_n 3, 1) := dk_29 (dk_at dksX0_perform_0 23 rfl rfl)
theorem dX0_perform_24 : decode cX0_perform 24 = .ok (.ifCond .ne 5, 3) := dk_154 0 5 (dk_at dksX0_perform_1 0 rfl rfl)
theorem dX0_perform_27 : decode cX0_perform 27 = .ok (.iconst 0, 1) := dk_3 (dk_at dksX0_perform_1 3 rfl rfl)
theorem dX0_perform_28 : decode cX0_perform 28 = .ok (.ireturn, 1) := dk_172 (dk_at dksX0_perform_1 4 rfl rfl)
theorem dX0_perform_29 : decode cX0_perform 29 = .ok (.aload_n 0, 1) := dk_42 (dk_at dksX0_perform_1 5 rfl rfl)
theorem dX0_perform_30 : decode cX0_perform 30 = .ok (.invokevirtual 192, 3) := dk_182 0 192 (dk_at dksX0_perform_1 6 rfl rfl)
theorem dX0_perform_33 : decode cX0_perform 33 = .ok (.aload_n 0, 1) := dk_42 (dk_at dksX0_perform_1 9 rfl rfl)
theorem dX0_perform_34 : decode cX0_perform 34 = .ok (.getfield 30, 3) := dk_180 0 30 (dk_at dksX0_perform_1 10 rfl rfl)
theorem dX0_perform_37 : decode cX0_perform 37 = .ok (.aload_n 0, 1) := dk_42 (dk_at dksX0_perform_1 13 rfl rfl)
theorem dX0_perform_38 : decode cX0_perform 38 = .ok (.getfield 34, 3) := dk_180 0 34 (dk_at dksX0_perform_1 14 rfl rfl)
theorem dX0_perform_41 : decode cX0_perform 41 = .ok (.invokevirtual 183, 3) := dk_182 0 183 (dk_at dksX0_perform_1 17 rfl rfl)
theorem dX0_perform_44 : decode cX0_perform 44 = .ok (.pop, 1) := dk_87 (dk_at dksX0_perform_1 20 rfl rfl)
theorem dX0_perform_45 : decode cX0_perform 45 = .ok (.iload_n 3, 1) := dk_29 (dk_at dksX0_perform_1 21 rfl rfl)
theorem dX0_perform_46 : decode cX0_perform 46 = .ok (.ireturn, 1) := dk_172 (dk_at dksX0_perform_1 22 rfl rfl)
abbrev cX0_day : ByteArray := prog_1_method_31_code
def yX0_day : MethodName := ⟨RX0, "day", "(II)I"⟩
def dkwX0_day_4 : List UInt8 := [180, 0, 30, 42, 180, 0, 34, 182, 0, 183, 87, 29, 172]
abbrev dktX0_day_4 : List UInt8 := dkwX0_day_4 ++ []
def dkwX0_day_3 : List UInt8 := [182, 0, 198, 132, 3, 1, 132, 4, 1, 167, 255, 213, 29, 154, 0, 5, 3, 172, 42, 182, 0, 192, 42]
abbrev dktX0_day_3 : List UInt8 := dkwX0_day_3 ++ dktX0_day_4
def dkwX0_day_2 : List UInt8 := [54, 5, 42, 180, 0, 34, 21, 5, 133, 182, 0, 220, 153, 0, 6, 167, 0, 15, 42, 180, 0, 34, 21, 5]
abbrev dktX0_day_2 : List UInt8 := dkwX0_day_2 ++ dktX0_day_3
def dkwX0_day_1 : List UInt8 := [182, 0, 183, 87, 42, 27, 181, 0, 233, 3, 62, 3, 54, 4, 21, 4, 28, 162, 0, 43, 42, 182, 0, 241]
abbrev dktX0_day_1 : List UInt8 := dkwX0_day_1 ++ dktX0_day_2
def dkwX0_day_0 : List UInt8 := [28, 133, 10, 20, 0, 239, 184, 0, 103, 154, 0, 6, 16, 253, 172, 42, 180, 0, 34, 42, 180, 0, 30]
abbrev dktX0_day_0 : List UInt8 := dkwX0_day_0 ++ dktX0_day_1
theorem dksX0_day_0 : cX0_day.data.toList.drop 0 = dktX0_day_0 := by decide +kernel
theorem dksX0_day_1 : cX0_day.data.toList.drop 23 = dktX0_day_1 := dk_seg dksX0_day_0 23 rfl rfl
theorem dksX0_day_2 : cX0_day.data.toList.drop 47 = dktX0_day_2 := dk_seg dksX0_day_1 24 rfl rfl
theorem dksX0_day_3 : cX0_day.data.toList.drop 71 = dktX0_day_3 := dk_seg dksX0_day_2 24 rfl rfl
theorem dksX0_day_4 : cX0_day.data.toList.drop 94 = dktX0_day_4 := dk_seg dksX0_day_3 23 rfl rfl
theorem dX0_day_0 : decode cX0_day 0 = .ok (.iload_n 2, 1) := dk_28 (dk_at dksX0_day_0 0 rfl rfl)
theorem dX0_day_1 : decode cX0_day 1 = .ok (.i2l, 1) := dk_133 (dk_at dksX0_day_0 1 rfl rfl)
theorem dX0_day_2 : decode cX0_day 2 = .ok (.lconst 1, 1) := dk_10 (dk_at dksX0_day_0 2 rfl rfl)
theorem dX0_day_3 : decode cX0_day 3 = .ok (.ldc2_w 239, 3) := dk_20 0 239 (dk_at dksX0_day_0 3 rfl rfl)
theorem dX0_day_6 : decode cX0_day 6 = .ok (.invokestatic 103, 3) := dk_184 0 103 (dk_at dksX0_day_0 6 rfl rfl)
theorem dX0_day_9 : decode cX0_day 9 = .ok (.ifCond .ne 6, 3) := dk_154 0 6 (dk_at dksX0_day_0 9 rfl rfl)
theorem dX0_day_12 : decode cX0_day 12 = .ok (.bipush (-3), 2) := dk_16 253 (dk_at dksX0_day_0 12 rfl rfl)
theorem dX0_day_14 : decode cX0_day 14 = .ok (.ireturn, 1) := dk_172 (dk_at dksX0_day_0 14 rfl rfl)
theorem dX0_day_15 : decode cX0_day 15 = .ok (.aload_n 0, 1) := dk_42 (dk_at dksX0_day_0 15 rfl rfl)
theorem dX0_day_16 : decode cX0_day 16 = .ok (.getfield 34, 3) := dk_180 0 34 (dk_at dksX0_day_0 16 rfl rfl)
theorem dX0_day_19 : decode cX0_day 19 = .ok (.aload_n 0, 1) := dk_42 (dk_at dksX0_day_0 19 rfl rfl)
theorem dX0_day_20 : decode cX0_day 20 = .ok (.getfield 30, 3) := dk_180 0 30 (dk_at dksX0_day_0 20 rfl rfl)
theorem dX0_day_23 : decode cX0_day 23 = .ok (.invokevirtual 183, 3) := dk_182 0 183 (dk_at dksX0_day_1 0 rfl rfl)
theorem dX0_day_26 : decode cX0_day 26 = .ok (.pop, 1) := dk_87 (dk_at dksX0_day_1 3 rfl rfl)
theorem dX0_day_27 : decode cX0_day 27 = .ok (.aload_n 0, 1) := dk_42 (dk_at dksX0_day_1 4 rfl rfl)
theorem dX0_day_28 : decode cX0_day 28 = .ok (.iload_n 1, 1) := dk_27 (dk_at dksX0_day_1 5 rfl rfl)
theorem dX0_day_29 : decode cX0_day 29 = .ok (.putfield 233, 3) := dk_181 0 233 (dk_at dksX0_day_1 6 rfl rfl)
theorem dX0_day_32 : decode cX0_day 32 = .ok (.iconst 0, 1) := dk_3 (dk_at dksX0_day_1 9 rfl rfl)
theorem dX0_day_33 : decode cX0_day 33 = .ok (.istore_n 3, 1) := dk_62 (dk_at dksX0_day_1 10 rfl rfl)
theorem dX0_day_34 : decode cX0_day 34 = .ok (.iconst 0, 1) := dk_3 (dk_at dksX0_day_1 11 rfl rfl)
theorem dX0_day_35 : decode cX0_day 35 = .ok (.istore 4, 2) := dk_54 4 (dk_at dksX0_day_1 12 rfl rfl)
theorem dX0_day_37 : decode cX0_day 37 = .ok (.iload 4, 2) := dk_21 4 (dk_at dksX0_day_1 14 rfl rfl)
theorem dX0_day_39 : decode cX0_day 39 = .ok (.iload_n 2, 1) := dk_28 (dk_at dksX0_day_1 16 rfl rfl)
theorem dX0_day_40 : decode cX0_day 40 = .ok (.if_icmp .ge 43, 3) := dk_162 0 43 (dk_at dksX0_day_1 17 rfl rfl)
theorem dX0_day_43 : decode cX0_day 43 = .ok (.aload_n 0, 1) := dk_42 (dk_at dksX0_day_1 20 rfl rfl)
theorem dX0_day_44 : decode cX0_day 44 = .ok (.invokevirtual 241, 3) := dk_182 0 241 (dk_at dksX0_day_1 21 rfl rfl)
theorem dX0_day_47 : decode cX0_day 47 = .ok (.istore 5, 2) := dk_54 5 (dk_at dksX0_day_2 0 rfl rfl)
theorem dX0_day_49 : decode cX0_day 49 = .ok (.aload_n 0, 1) := dk_42 (dk_at dksX0_day_2 2 rfl rfl)
theorem dX0_day_50 : decode cX0_day 50 = .ok (.getfield 34, 3) := dk_180 0 34 (dk_at dksX0_day_2 3 rfl rfl)
theorem dX0_day_53 : decode cX0_day 53 = .ok (.iload 5, 2) := dk_21 5 (dk_at dksX0_day_2 6 rfl rfl)
theorem dX0_day_55 : decode cX0_day 55 = .ok (.i2l, 1) := dk_133 (dk_at dksX0_day_2 8 rfl rfl)
theorem dX0_day_56 : decode cX0_day 56 = .ok (.invokevirtual 220, 3) := dk_182 0 220 (dk_at dksX0_day_2 9 rfl rfl)
theorem dX0_day_59 : decode cX0_day 59 = .ok (.ifCond .eq 6, 3) := dk_153 0 6 (dk_at dksX0_day_2 12 rfl rfl)
theorem dX0_day_62 : decode cX0_day 62 = .ok (.goto 15, 3) := dk_167 0 15 (dk_at dksX0_day_2 15 rfl rfl)
theorem dX0_day_65 : decode cX0_day 65 = .ok (.aload_n 0, 1) := dk_42 (dk_at dksX0_day_2 18 rfl rfl)
theorem dX0_day_66 : decode cX0_day 66 = .ok (.getfield 34, 3) := dk_180 0 34 (dk_at dksX0_day_2 19 rfl rfl)
theorem dX0_day_69 : decode cX0_day 69 = .ok (.iload 5, 2) := dk_21 5 (dk_at dksX0_day_2 22 rfl rfl)
theorem dX0_day_71 : decode cX0_day 71 = .ok (.invokevirtual 198, 3) := dk_182 0 198 (dk_at dksX0_day_3 0 rfl rfl)
theorem dX0_day_74 : decode cX0_day 74 = .ok (.iinc 3 1, 3) := dk_132 3 1 (dk_at dksX0_day_3 3 rfl rfl)
theorem dX0_day_77 : decode cX0_day 77 = .ok (.iinc 4 1, 3) := dk_132 4 1 (dk_at dksX0_day_3 6 rfl rfl)
theorem dX0_day_80 : decode cX0_day 80 = .ok (.goto (-43), 3) := dk_167 255 213 (dk_at dksX0_day_3 9 rfl rfl)
theorem dX0_day_83 : decode cX0_day 83 = .ok (.iload_n 3, 1) := dk_29 (dk_at dksX0_day_3 12 rfl rfl)
theorem dX0_day_84 : decode cX0_day 84 = .ok (.ifCond .ne 5, 3) := dk_154 0 5 (dk_at dksX0_day_3 13 rfl rfl)
theorem dX0_day_87 : decode cX0_day 87 = .ok (.iconst 0, 1) := dk_3 (dk_at dksX0_day_3 16 rfl rfl)
theorem dX0_day_88 : decode cX0_day 88 = .ok (.ireturn, 1) := dk_172 (dk_at dksX0_day_3 17 rfl rfl)
theorem dX0_day_89 : decode cX0_day 89 = .ok (.aload_n 0, 1) := dk_42 (dk_at dksX0_day_3 18 rfl rfl)
theorem dX0_day_90 : decode cX0_day 90 = .ok (.invokevirtual 192, 3) := dk_182 0 192 (dk_at dksX0_day_3 19 rfl rfl)
theorem dX0_day_93 : decode cX0_day 93 = .ok (.aload_n 0, 1) := dk_42 (dk_at dksX0_day_3 22 rfl rfl)
theorem dX0_day_94 : decode cX0_day 94 = .ok (.getfield 30, 3) := dk_180 0 30 (dk_at dksX0_day_4 0 rfl rfl)
theorem dX0_day_97 : decode cX0_day 97 = .ok (.aload_n 0, 1) := dk_42 (dk_at dksX0_day_4 3 rfl rfl)
theorem dX0_day_98 : decode cX0_day 98 = .ok (.getfield 34, 3) := dk_180 0 34 (dk_at dksX0_day_4 4 rfl rfl)
theorem dX0_day_101 : decode cX0_day 101 = .ok (.invokevirtual 183, 3) := dk_182 0 183 (dk_at dksX0_day_4 7 rfl rfl)
theorem dX0_day_104 : decode cX0_day 104 = .ok (.pop, 1) := dk_87 (dk_at dksX0_day_4 10 rfl rfl)
theorem dX0_day_105 : decode cX0_day 105 = .ok (.iload_n 3, 1) := dk_29 (dk_at dksX0_day_4 11 rfl rfl)
theorem dX0_day_106 : decode cX0_day 106 = .ok (.ireturn, 1) := dk_172 (dk_at dksX0_day_4 12 rfl rfl)
abbrev cX0_drawn : ByteArray := prog_1_method_30_code
def yX0_drawn : MethodName := ⟨RX0, "drawn", "()I"⟩
def dkwX0_drawn_2 : List UInt8 := [182, 0, 236, 96, 172]
abbrev dktX0_drawn_2 : List UInt8 := dkwX0_drawn_2 ++ []
def dkwX0_drawn_1 : List UInt8 := [16, 10, 167, 0, 4, 3, 96, 172, 42, 16, 6, 182, 0, 236, 61, 16, 100, 16, 10, 28, 104, 96, 42, 8]
abbrev dktX0_drawn_1 : List UInt8 := dkwX0_drawn_1 ++ dktX0_drawn_2
def dkwX0_drawn_0 : List UInt8 := [42, 16, 6, 182, 0, 236, 60, 27, 8, 162, 0, 22, 42, 16, 8, 182, 0, 236, 27, 7, 160, 0, 8]
abbrev dktX0_drawn_0 : List UInt8 := dkwX0_drawn_0 ++ dktX0_drawn_1
theorem dksX0_drawn_0 : cX0_drawn.data.toList.drop 0 = dktX0_drawn_0 := by decide +kernel
theorem dksX0_drawn_1 : cX0_drawn.data.toList.drop 23 = dktX0_drawn_1 := dk_seg dksX0_drawn_0 23 rfl rfl
theorem dksX0_drawn_2 : cX0_drawn.data.toList.drop 47 = dktX0_drawn_2 := dk_seg dksX0_drawn_1 24 rfl rfl
theorem dX0_drawn_0 : decode cX0_drawn 0 = .ok (.aload_n 0, 1) := dk_42 (dk_at dksX0_drawn_0 0 rfl rfl)
theorem dX0_drawn_1 : decode cX0_drawn 1 = .ok (.bipush 6, 2) := dk_16 6 (dk_at dksX0_drawn_0 1 rfl rfl)
theorem dX0_drawn_3 : decode cX0_drawn 3 = .ok (.invokevirtual 236, 3) := dk_182 0 236 (dk_at dksX0_drawn_0 3 rfl rfl)
theorem dX0_drawn_6 : decode cX0_drawn 6 = .ok (.istore_n 1, 1) := dk_60 (dk_at dksX0_drawn_0 6 rfl rfl)
theorem dX0_drawn_7 : decode cX0_drawn 7 = .ok (.iload_n 1, 1) := dk_27 (dk_at dksX0_drawn_0 7 rfl rfl)
theorem dX0_drawn_8 : decode cX0_drawn 8 = .ok (.iconst 5, 1) := dk_8 (dk_at dksX0_drawn_0 8 rfl rfl)
theorem dX0_drawn_9 : decode cX0_drawn 9 = .ok (.if_icmp .ge 22, 3) := dk_162 0 22 (dk_at dksX0_drawn_0 9 rfl rfl)
theorem dX0_drawn_12 : decode cX0_drawn 12 = .ok (.aload_n 0, 1) := dk_42 (dk_at dksX0_drawn_0 12 rfl rfl)
theorem dX0_drawn_13 : decode cX0_drawn 13 = .ok (.bipush 8, 2) := dk_16 8 (dk_at dksX0_drawn_0 13 rfl rfl)
theorem dX0_drawn_15 : decode cX0_drawn 15 = .ok (.invokevirtual 236, 3) := dk_182 0 236 (dk_at dksX0_drawn_0 15 rfl rfl)
theorem dX0_drawn_18 : decode cX0_drawn 18 = .ok (.iload_n 1, 1) := dk_27 (dk_at dksX0_drawn_0 18 rfl rfl)
theorem dX0_drawn_19 : decode cX0_drawn 19 = .ok (.iconst 4, 1) := dk_7 (dk_at dksX0_drawn_0 19 rfl rfl)
theorem dX0_drawn_20 : decode cX0_drawn 20 = .ok (.if_icmp .ne 8, 3) := dk_160 0 8 (dk_at dksX0_drawn_0 20 rfl rfl)
theorem dX0_drawn_23 : decode cX0_drawn 23 = .ok (.bipush 10, 2) := dk_16 10 (dk_at dksX0_drawn_1 0 rfl rfl)
theorem dX0_drawn_25 : decode cX0_drawn 25 = .ok (.goto 4, 3) := dk_167 0 4 (dk_at dksX0_drawn_1 2 rfl rfl)
theorem dX0_drawn_28 : decode cX0_drawn 28 = .ok (.iconst 0, 1) := dk_3 (dk_at dksX0_drawn_1 5 rfl rfl)
theorem dX0_drawn_29 : decode cX0_drawn 29 = .ok (.iadd, 1) := dk_96 (dk_at dksX0_drawn_1 6 rfl rfl)
theorem dX0_drawn_30 : decode cX0_drawn 30 = .ok (.ireturn, 1) := dk_172 (dk_at dksX0_drawn_1 7 rfl rfl)
theorem dX0_drawn_31 : decode cX0_drawn 31 = .ok (.aload_n 0, 1) := dk_42 (dk_at dksX0_drawn_1 8 rfl rfl)
theorem dX0_drawn_32 : decode cX0_drawn 32 = .ok (.bipush 6, 2) := dk_16 6 (dk_at dksX0_drawn_1 9 rfl rfl)
theorem dX0_drawn_34 : decode cX0_drawn 34 = .ok (.invokevirtual 236, 3) := dk_182 0 236 (dk_at dksX0_drawn_1 11 rfl rfl)
theorem dX0_drawn_37 : decode cX0_drawn 37 = .ok (.istore_n 2, 1) := dk_61 (dk_at dksX0_drawn_1 14 rfl rfl)
theorem dX0_drawn_38 : decode cX0_drawn 38 = .ok (.bipush 100, 2) := dk_16 100 (dk_at dksX0_drawn_1 15 rfl rfl)
theorem dX0_drawn_40 : decode cX0_drawn 40 = .ok (.bipush 10, 2) := dk_16 10 (dk_at dksX0_drawn_1 17 rfl rfl)
theorem dX0_drawn_42 : decode cX0_drawn 42 = .ok (.iload_n 2, 1) := dk_28 (dk_at dksX0_drawn_1 19 rfl rfl)
theorem dX0_drawn_43 : decode cX0_drawn 43 = .ok (.imul, 1) := dk_104 (dk_at dksX0_drawn_1 20 rfl rfl)
theorem dX0_drawn_44 : decode cX0_drawn 44 = .ok (.iadd, 1) := dk_96 (dk_at dksX0_drawn_1 21 rfl rfl)
theorem dX0_drawn_45 : decode cX0_drawn 45 = .ok (.aload_n 0, 1) := dk_42 (dk_at dksX0_drawn_1 22 rfl rfl)
theorem dX0_drawn_46 : decode cX0_drawn 46 = .ok (.iconst 5, 1) := dk_8 (dk_at dksX0_drawn_1 23 rfl rfl)
theorem dX0_drawn_47 : decode cX0_drawn 47 = .ok (.invokevirtual 236, 3) := dk_182 0 236 (dk_at dksX0_drawn_2 0 rfl rfl)
theorem dX0_drawn_50 : decode cX0_drawn 50 = .ok (.iadd, 1) := dk_96 (dk_at dksX0_drawn_2 3 rfl rfl)
theorem dX0_drawn_51 : decode cX0_drawn 51 = .ok (.ireturn, 1) := dk_172 (dk_at dksX0_drawn_2 4 rfl rfl)
abbrev cX0_draw : ByteArray := prog_1_method_29_code
def yX0_draw : MethodName := ⟨RX0, "draw", "(I)I"⟩
def dkwX0_draw_1 : List UInt8 := [172]
abbrev dktX0_draw_1 : List UInt8 := dkwX0_draw_1 ++ []
def dkwX0_draw_0 : List UInt8 := [42, 18, 232, 42, 180, 0, 233, 104, 17, 48, 57, 96, 181, 0, 233, 42, 180, 0, 233, 16, 16, 124, 27, 112]
abbrev dktX0_draw_0 : List UInt8 := dkwX0_draw_0 ++ dktX0_draw_1
theorem dksX0_draw_0 : cX0_draw.data.toList.drop 0 = dktX0_draw_0 := by decide +kernel
theorem dksX0_draw_1 : cX0_draw.data.toList.drop 24 = dktX0_draw_1 := dk_seg dksX0_draw_0 24 rfl rfl
theorem dX0_draw_0 : decode cX0_draw 0 = .ok (.aload_n 0, 1) := dk_42 (dk_at dksX0_draw_0 0 rfl rfl)
theorem dX0_draw_1 : decode cX0_draw 1 = .ok (.ldc 232, 2) := dk_18 232 (dk_at dksX0_draw_0 1 rfl rfl)
theorem dX0_draw_3 : decode cX0_draw 3 = .ok (.aload_n 0, 1) := dk_42 (dk_at dksX0_draw_0 3 rfl rfl)
theorem dX0_draw_4 : decode cX0_draw 4 = .ok (.getfield 233, 3) := dk_180 0 233 (dk_at dksX0_draw_0 4 rfl rfl)
theorem dX0_draw_7 : decode cX0_draw 7 = .ok (.imul, 1) := dk_104 (dk_at dksX0_draw_0 7 rfl rfl)
theorem dX0_draw_8 : decode cX0_draw 8 = .ok (.sipush 12345, 3) := dk_17 48 57 (dk_at dksX0_draw_0 8 rfl rfl)
theorem dX0_draw_11 : decode cX0_draw 11 = .ok (.iadd, 1) := dk_96 (dk_at dksX0_draw_0 11 rfl rfl)
theorem dX0_draw_12 : decode cX0_draw 12 = .ok (.putfield 233, 3) := dk_181 0 233 (dk_at dksX0_draw_0 12 rfl rfl)
theorem dX0_draw_15 : decode cX0_draw 15 = .ok (.aload_n 0, 1) := dk_42 (dk_at dksX0_draw_0 15 rfl rfl)
theorem dX0_draw_16 : decode cX0_draw 16 = .ok (.getfield 233, 3) := dk_180 0 233 (dk_at dksX0_draw_0 16 rfl rfl)
theorem dX0_draw_19 : decode cX0_draw 19 = .ok (.bipush 16, 2) := dk_16 16 (dk_at dksX0_draw_0 19 rfl rfl)
theorem dX0_draw_21 : decode cX0_draw 21 = .ok (.iushr, 1) := dk_124 (dk_at dksX0_draw_0 21 rfl rfl)
theorem dX0_draw_22 : decode cX0_draw 22 = .ok (.iload_n 1, 1) := dk_27 (dk_at dksX0_draw_0 22 rfl rfl)
theorem dX0_draw_23 : decode cX0_draw 23 = .ok (.irem, 1) := dk_112 (dk_at dksX0_draw_0 23 rfl rfl)
theorem dX0_draw_24 : decode cX0_draw 24 = .ok (.ireturn, 1) := dk_172 (dk_at dksX0_draw_1 0 rfl rfl)
abbrev cX0_soonest : ByteArray := prog_1_method_39_code
def yX0_soonest : MethodName := ⟨RX0, "soonest", "(II)I"⟩
def dkwX0_soonest_0 : List UInt8 := [42, 27, 28, 182, 1, 14, 62, 29, 153, 0, 7, 29, 167, 0, 9, 42, 27, 28, 182, 1, 17, 172]
abbrev dktX0_soonest_0 : List UInt8 := dkwX0_soonest_0 ++ []
theorem dksX0_soonest_0 : cX0_soonest.data.toList.drop 0 = dktX0_soonest_0 := by decide +kernel
theorem dX0_soonest_0 : decode cX0_soonest 0 = .ok (.aload_n 0, 1) := dk_42 (dk_at dksX0_soonest_0 0 rfl rfl)
theorem dX0_soonest_1 : decode cX0_soonest 1 = .ok (.iload_n 1, 1) := dk_27 (dk_at dksX0_soonest_0 1 rfl rfl)
theorem dX0_soonest_2 : decode cX0_soonest 2 = .ok (.iload_n 2, 1) := dk_28 (dk_at dksX0_soonest_0 2 rfl rfl)
theorem dX0_soonest_3 : decode cX0_soonest 3 = .ok (.invokevirtual 270, 3) := dk_182 1 14 (dk_at dksX0_soonest_0 3 rfl rfl)
theorem dX0_soonest_6 : decode cX0_soonest 6 = .ok (.istore_n 3, 1) := dk_62 (dk_at dksX0_soonest_0 6 rfl rfl)
theorem dX0_soonest_7 : decode cX0_soonest 7 = .ok (.iload_n 3, 1) := dk_29 (dk_at dksX0_soonest_0 7 rfl rfl)
theorem dX0_soonest_8 : decode cX0_soonest 8 = .ok (.ifCond .eq 7, 3) := dk_153 0 7 (dk_at dksX0_soonest_0 8 rfl rfl)
theorem dX0_soonest_11 : decode cX0_soonest 11 = .ok (.iload_n 3, 1) := dk_29 (dk_at dksX0_soonest_0 11 rfl rfl)
theorem dX0_soonest_12 : decode cX0_soonest 12 = .ok (.goto 9, 3) := dk_167 0 9 (dk_at dksX0_soonest_0 12 rfl rfl)
theorem dX0_soonest_15 : decode cX0_soonest 15 = .ok (.aload_n 0, 1) := dk_42 (dk_at dksX0_soonest_0 15 rfl rfl)
theorem dX0_soonest_16 : decode cX0_soonest 16 = .ok (.iload_n 1, 1) := dk_27 (dk_at dksX0_soonest_0 16 rfl rfl)
theorem dX0_soonest_17 : decode cX0_soonest 17 = .ok (.iload_n 2, 1) := dk_28 (dk_at dksX0_soonest_0 17 rfl rfl)
theorem dX0_soonest_18 : decode cX0_soonest 18 = .ok (.invokevirtual 273, 3) := dk_182 1 17 (dk_at dksX0_soonest_0 18 rfl rfl)
theorem dX0_soonest_21 : decode cX0_soonest 21 = .ok (.ireturn, 1) := dk_172 (dk_at dksX0_soonest_0 21 rfl rfl)
abbrev cX0_comingFault : ByteArray := prog_1_method_37_code
def yX0_comingFault : MethodName := ⟨RX0, "comingFault", "(II)I"⟩
def dkwX0_comingFault_1 : List UInt8 := [153, 0, 7, 3, 167, 0, 5, 16, 253, 172]
abbrev dktX0_comingFault_1 : List UInt8 := dkwX0_comingFault_1 ++ []
def dkwX0_comingFault_0 : List UInt8 := [42, 27, 182, 1, 3, 154, 0, 8, 16, 254, 167, 0, 21, 28, 133, 9, 20, 1, 6, 184, 0, 103]
abbrev dktX0_comingFault_0 : List UInt8 := dkwX0_comingFault_0 ++ dktX0_comingFault_1
theorem dksX0_comingFault_0 : cX0_comingFault.data.toList.drop 0 = dktX0_comingFault_0 := by decide +kernel
theorem dksX0_comingFault_1 : cX0_comingFault.data.toList.drop 22 = dktX0_comingFault_1 := dk_seg dksX0_comingFault_0 22 rfl rfl
theorem dX0_comingFault_0 : decode cX0_comingFault 0 = .ok (.aload_n 0, 1) := dk_42 (dk_at dksX0_comingFault_0 0 rfl rfl)
theorem dX0_comingFault_1 : decode cX0_comingFault 1 = .ok (.iload_n 1, 1) := dk_27 (dk_at dksX0_comingFault_0 1 rfl rfl)
theorem dX0_comingFault_2 : decode cX0_comingFault 2 = .ok (.invokevirtual 259, 3) := dk_182 1 3 (dk_at dksX0_comingFault_0 2 rfl rfl)
theorem dX0_comingFault_5 : decode cX0_comingFault 5 = .ok (.ifCond .ne 8, 3) := dk_154 0 8 (dk_at dksX0_comingFault_0 5 rfl rfl)
theorem dX0_comingFault_8 : decode cX0_comingFault 8 = .ok (.bipush (-2), 2) := dk_16 254 (dk_at dksX0_comingFault_0 8 rfl rfl)
theorem dX0_comingFault_10 : decode cX0_comingFault 10 = .ok (.goto 21, 3) := dk_167 0 21 (dk_at dksX0_comingFault_0 10 rfl rfl)
theorem dX0_comingFault_13 : decode cX0_comingFault 13 = .ok (.iload_n 2, 1) := dk_28 (dk_at dksX0_comingFault_0 13 rfl rfl)
theorem dX0_comingFault_14 : decode cX0_comingFault 14 = .ok (.i2l, 1) := dk_133 (dk_at dksX0_comingFault_0 14 rfl rfl)
theorem dX0_comingFault_15 : decode cX0_comingFault 15 = .ok (.lconst 0, 1) := dk_9 (dk_at dksX0_comingFault_0 15 rfl rfl)
theorem dX0_comingFault_16 : decode cX0_comingFault 16 = .ok (.ldc2_w 262, 3) := dk_20 1 6 (dk_at dksX0_comingFault_0 16 rfl rfl)
theorem dX0_comingFault_19 : decode cX0_comingFault 19 = .ok (.invokestatic 103, 3) := dk_184 0 103 (dk_at dksX0_comingFault_0 19 rfl rfl)
theorem dX0_comingFault_22 : decode cX0_comingFault 22 = .ok (.ifCond .eq 7, 3) := dk_153 0 7 (dk_at dksX0_comingFault_1 0 rfl rfl)
theorem dX0_comingFault_25 : decode cX0_comingFault 25 = .ok (.iconst 0, 1) := dk_3 (dk_at dksX0_comingFault_1 3 rfl rfl)
theorem dX0_comingFault_26 : decode cX0_comingFault 26 = .ok (.goto 5, 3) := dk_167 0 5 (dk_at dksX0_comingFault_1 4 rfl rfl)
theorem dX0_comingFault_29 : decode cX0_comingFault 29 = .ok (.bipush (-3), 2) := dk_16 253 (dk_at dksX0_comingFault_1 7 rfl rfl)
theorem dX0_comingFault_31 : decode cX0_comingFault 31 = .ok (.ireturn, 1) := dk_172 (dk_at dksX0_comingFault_1 9 rfl rfl)
abbrev cX0_isRoom : ByteArray := prog_1_method_15_code
def yX0_isRoom : MethodName := ⟨RX0, "isRoom", "(I)Z"⟩
def dkwX0_isRoom_0 : List UInt8 := [27, 133, 9, 42, 180, 0, 21, 180, 0, 136, 4, 100, 133, 184, 0, 103, 172]
abbrev dktX0_isRoom_0 : List UInt8 := dkwX0_isRoom_0 ++ []
theorem dksX0_isRoom_0 : cX0_isRoom.data.toList.drop 0 = dktX0_isRoom_0 := by decide +kernel
theorem dX0_isRoom_0 : decode cX0_isRoom 0 = .ok (.iload_n 1, 1) := dk_27 (dk_at dksX0_isRoom_0 0 rfl rfl)
theorem dX0_isRoom_1 : decode cX0_isRoom 1 = .ok (.i2l, 1) := dk_133 (dk_at dksX0_isRoom_0 1 rfl rfl)
theorem dX0_isRoom_2 : decode cX0_isRoom 2 = .ok (.lconst 0, 1) := dk_9 (dk_at dksX0_isRoom_0 2 rfl rfl)
theorem dX0_isRoom_3 : decode cX0_isRoom 3 = .ok (.aload_n 0, 1) := dk_42 (dk_at dksX0_isRoom_0 3 rfl rfl)
theorem dX0_isRoom_4 : decode cX0_isRoom 4 = .ok (.getfield 21, 3) := dk_180 0 21 (dk_at dksX0_isRoom_0 4 rfl rfl)
theorem dX0_isRoom_7 : decode cX0_isRoom 7 = .ok (.getfield 136, 3) := dk_180 0 136 (dk_at dksX0_isRoom_0 7 rfl rfl)
theorem dX0_isRoom_10 : decode cX0_isRoom 10 = .ok (.iconst 1, 1) := dk_4 (dk_at dksX0_isRoom_0 10 rfl rfl)
theorem dX0_isRoom_11 : decode cX0_isRoom 11 = .ok (.isub, 1) := dk_100 (dk_at dksX0_isRoom_0 11 rfl rfl)
theorem dX0_isRoom_12 : decode cX0_isRoom 12 = .ok (.i2l, 1) := dk_133 (dk_at dksX0_isRoom_0 12 rfl rfl)
theorem dX0_isRoom_13 : decode cX0_isRoom 13 = .ok (.invokestatic 103, 3) := dk_184 0 103 (dk_at dksX0_isRoom_0 13 rfl rfl)
theorem dX0_isRoom_16 : decode cX0_isRoom 16 = .ok (.ireturn, 1) := dk_172 (dk_at dksX0_isRoom_0 16 rfl rfl)
abbrev cX0_soonestTo : ByteArray := prog_1_method_38_code
def yX0_soonestTo : MethodName := ⟨RX0, "soonestTo", "(II)I"⟩
def dkwX0_soonestTo_0 : List UInt8 := [42, 182, 1, 8, 42, 27, 28, 182, 1, 11, 172]
abbrev dktX0_soonestTo_0 : List UInt8 := dkwX0_soonestTo_0 ++ []
theorem dksX0_soonestTo_0 : cX0_soonestTo.data.toList.drop 0 = dktX0_soonestTo_0 := by decide +kernel
theorem dX0_soonestTo_0 : decode cX0_soonestTo 0 = .ok (.aload_n 0, 1) := dk_42 (dk_at dksX0_soonestTo_0 0 rfl rfl)
theorem dX0_soonestTo_1 : decode cX0_soonestTo 1 = .ok (.invokevirtual 264, 3) := dk_182 1 8 (dk_at dksX0_soonestTo_0 1 rfl rfl)
theorem dX0_soonestTo_4 : decode cX0_soonestTo 4 = .ok (.aload_n 0, 1) := dk_42 (dk_at dksX0_soonestTo_0 4 rfl rfl)
theorem dX0_soonestTo_5 : decode cX0_soonestTo 5 = .ok (.iload_n 1, 1) := dk_27 (dk_at dksX0_soonestTo_0 5 rfl rfl)
theorem dX0_soonestTo_6 : decode cX0_soonestTo 6 = .ok (.iload_n 2, 1) := dk_28 (dk_at dksX0_soonestTo_0 6 rfl rfl)
theorem dX0_soonestTo_7 : decode cX0_soonestTo 7 = .ok (.invokevirtual 267, 3) := dk_182 1 11 (dk_at dksX0_soonestTo_0 7 rfl rfl)
theorem dX0_soonestTo_10 : decode cX0_soonestTo 10 = .ok (.ireturn, 1) := dk_172 (dk_at dksX0_soonestTo_0 10 rfl rfl)
abbrev cX0_laysNow : ByteArray := prog_1_method_33_code
def yX0_laysNow : MethodName := ⟨RX0, "laysNow", "()V"⟩
def dkwX0_laysNow_0 : List UInt8 := [42, 42, 180, 0, 30, 3, 182, 0, 247, 177]
abbrev dktX0_laysNow_0 : List UInt8 := dkwX0_laysNow_0 ++ []
theorem dksX0_laysNow_0 : cX0_laysNow.data.toList.drop 0 = dktX0_laysNow_0 := by decide +kernel
theorem dX0_laysNow_0 : decode cX0_laysNow 0 = .ok (.aload_n 0, 1) := dk_42 (dk_at dksX0_laysNow_0 0 rfl rfl)
theorem dX0_laysNow_1 : decode cX0_laysNow 1 = .ok (.aload_n 0, 1) := dk_42 (dk_at dksX0_laysNow_0 1 rfl rfl)
theorem dX0_laysNow_2 : decode cX0_laysNow 2 = .ok (.getfield 30, 3) := dk_180 0 30 (dk_at dksX0_laysNow_0 2 rfl rfl)
theorem dX0_laysNow_5 : decode cX0_laysNow 5 = .ok (.iconst 0, 1) := dk_3 (dk_at dksX0_laysNow_0 5 rfl rfl)
theorem dX0_laysNow_6 : decode cX0_laysNow 6 = .ok (.invokevirtual 247, 3) := dk_182 0 247 (dk_at dksX0_laysNow_0 6 rfl rfl)
theorem dX0_laysNow_9 : decode cX0_laysNow 9 = .ok (.return_, 1) := dk_177 (dk_at dksX0_laysNow_0 9 rfl rfl)
abbrev cX0_laysAll : ByteArray := prog_1_method_32_code
def yX0_laysAll : MethodName := ⟨RX0, "laysAll", "(LBackRescue$State;I)V"⟩
def dkwX0_laysAll_4 : List UInt8 := [167, 255, 173, 132, 3, 1, 167, 255, 158, 177]
abbrev dktX0_laysAll_4 : List UInt8 := dkwX0_laysAll_4 ++ []
def dkwX0_laysAll_3 : List UInt8 := [21, 4, 96, 21, 5, 153, 0, 13, 43, 29, 21, 4, 182, 0, 173, 167, 0, 4, 2, 79, 132, 4, 1]
abbrev dktX0_laysAll_3 : List UInt8 := dkwX0_laysAll_3 ++ dktX0_laysAll_4
def dkwX0_laysAll_2 : List UInt8 := [21, 4, 182, 0, 244, 154, 0, 7, 4, 167, 0, 4, 3, 54, 5, 42, 180, 0, 49, 16, 8, 29, 104]
abbrev dktX0_laysAll_2 : List UInt8 := dkwX0_laysAll_2 ++ dktX0_laysAll_3
def dkwX0_laysAll_1 : List UInt8 := [184, 0, 177, 42, 180, 0, 21, 180, 0, 136, 162, 0, 26, 28, 21, 4, 184, 0, 155, 154, 0, 17, 43, 29]
abbrev dktX0_laysAll_1 : List UInt8 := dkwX0_laysAll_1 ++ dktX0_laysAll_2
def dkwX0_laysAll_0 : List UInt8 := [3, 62, 29, 16, 36, 162, 0, 98, 3, 54, 4, 21, 4, 42, 180, 0, 21, 180, 0, 133, 162, 0, 77, 29]
abbrev dktX0_laysAll_0 : List UInt8 := dkwX0_laysAll_0 ++ dktX0_laysAll_1
theorem dksX0_laysAll_0 : cX0_laysAll.data.toList.drop 0 = dktX0_laysAll_0 := by decide +kernel
theorem dksX0_laysAll_1 : cX0_laysAll.data.toList.drop 24 = dktX0_laysAll_1 := dk_seg dksX0_laysAll_0 24 rfl rfl
theorem dksX0_laysAll_2 : cX0_laysAll.data.toList.drop 48 = dktX0_laysAll_2 := dk_seg dksX0_laysAll_1 24 rfl rfl
theorem dksX0_laysAll_3 : cX0_laysAll.data.toList.drop 71 = dktX0_laysAll_3 := dk_seg dksX0_laysAll_2 23 rfl rfl
theorem dksX0_laysAll_4 : cX0_laysAll.data.toList.drop 94 = dktX0_laysAll_4 := dk_seg dksX0_laysAll_3 23 rfl rfl
theorem dX0_laysAll_0 : decode cX0_laysAll 0 = .ok (.iconst 0, 1) := dk_3 (dk_at dksX0_laysAll_0 0 rfl rfl)
theorem dX0_laysAll_1 : decode cX0_laysAll 1 = .ok (.istore_n 3, 1) := dk_62 (dk_at dksX0_laysAll_0 1 rfl rfl)
theorem dX0_laysAll_2 : decode cX0_laysAll 2 = .ok (.iload_n 3, 1) := dk_29 (dk_at dksX0_laysAll_0 2 rfl rfl)
theorem dX0_laysAll_3 : decode cX0_laysAll 3 = .ok (.bipush 36, 2) := dk_16 36 (dk_at dksX0_laysAll_0 3 rfl rfl)
theorem dX0_laysAll_5 : decode cX0_laysAll 5 = .ok (.if_icmp .ge 98, 3) := dk_162 0 98 (dk_at dksX0_laysAll_0 5 rfl rfl)
theorem dX0_laysAll_8 : decode cX0_laysAll 8 = .ok (.iconst 0, 1) := dk_3 (dk_at dksX0_laysAll_0 8 rfl rfl)
theorem dX0_laysAll_9 : decode cX0_laysAll 9 = .ok (.istore 4, 2) := dk_54 4 (dk_at dksX0_laysAll_0 9 rfl rfl)
theorem dX0_laysAll_11 : decode cX0_laysAll 11 = .ok (.iload 4, 2) := dk_21 4 (dk_at dksX0_laysAll_0 11 rfl rfl)
theorem dX0_laysAll_13 : decode cX0_laysAll 13 = .ok (.aload_n 0, 1) := dk_42 (dk_at dksX0_laysAll_0 13 rfl rfl)
theorem dX0_laysAll_14 : decode cX0_laysAll 14 = .ok (.getfield 21, 3) := dk_180 0 21 (dk_at dksX0_laysAll_0 14 rfl rfl)
theorem dX0_laysAll_17 : decode cX0_laysAll 17 = .ok (.getfield 133, 3) := dk_180 0 133 (dk_at dksX0_laysAll_0 17 rfl rfl)
theorem dX0_laysAll_20 : decode cX0_laysAll 20 = .ok (.if_icmp .ge 77, 3) := dk_162 0 77 (dk_at dksX0_laysAll_0 20 rfl rfl)
theorem dX0_laysAll_23 : decode cX0_laysAll 23 = .ok (.iload_n 3, 1) := dk_29 (dk_at dksX0_laysAll_0 23 rfl rfl)
theorem dX0_laysAll_24 : decode cX0_laysAll 24 = .ok (.invokestatic 177, 3) := dk_184 0 177 (dk_at dksX0_laysAll_1 0 rfl rfl)
theorem dX0_laysAll_27 : decode cX0_laysAll 27 = .ok (.aload_n 0, 1) := dk_42 (dk_at dksX0_laysAll_1 3 rfl rfl)
theorem dX0_laysAll_28 : decode cX0_laysAll 28 = .ok (.getfield 21, 3) := dk_180 0 21 (dk_at dksX0_laysAll_1 4 rfl rfl)
theorem dX0_laysAll_31 : decode cX0_laysAll 31 = .ok (.getfield 136, 3) := dk_180 0 136 (dk_at dksX0_laysAll_1 7 rfl rfl)
theorem dX0_laysAll_34 : decode cX0_laysAll 34 = .ok (.if_icmp .ge 26, 3) := dk_162 0 26 (dk_at dksX0_laysAll_1 10 rfl rfl)
theorem dX0_laysAll_37 : decode cX0_laysAll 37 = .ok (.iload_n 2, 1) := dk_28 (dk_at dksX0_laysAll_1 13 rfl rfl)
theorem dX0_laysAll_38 : decode cX0_laysAll 38 = .ok (.iload 4, 2) := dk_21 4 (dk_at dksX0_laysAll_1 14 rfl rfl)
theorem dX0_laysAll_40 : decode cX0_laysAll 40 = .ok (.invokestatic 155, 3) := dk_184 0 155 (dk_at dksX0_laysAll_1 16 rfl rfl)
theorem dX0_laysAll_43 : decode cX0_laysAll 43 = .ok (.ifCond .ne 17, 3) := dk_154 0 17 (dk_at dksX0_laysAll_1 19 rfl rfl)
theorem dX0_laysAll_46 : decode cX0_laysAll 46 = .ok (.aload_n 1, 1) := dk_43 (dk_at dksX0_laysAll_1 22 rfl rfl)
theorem dX0_laysAll_47 : decode cX0_laysAll 47 = .ok (.iload_n 3, 1) := dk_29 (dk_at dksX0_laysAll_1 23 rfl rfl)
theorem dX0_laysAll_48 : decode cX0_laysAll 48 = .ok (.iload 4, 2) := dk_21 4 (dk_at dksX0_laysAll_2 0 rfl rfl)
theorem dX0_laysAll_50 : decode cX0_laysAll 50 = .ok (.invokevirtual 244, 3) := dk_182 0 244 (dk_at dksX0_laysAll_2 2 rfl rfl)
theorem dX0_laysAll_53 : decode cX0_laysAll 53 = .ok (.ifCond .ne 7, 3) := dk_154 0 7 (dk_at dksX0_laysAll_2 5 rfl rfl)
theorem dX0_laysAll_56 : decode cX0_laysAll 56 = .ok (.iconst 1, 1) := dk_4 (dk_at dksX0_laysAll_2 8 rfl rfl)
theorem dX0_laysAll_57 : decode cX0_laysAll 57 = .ok (.goto 4, 3) := dk_167 0 4 (dk_at dksX0_laysAll_2 9 rfl rfl)
theorem dX0_laysAll_60 : decode cX0_laysAll 60 = .ok (.iconst 0, 1) := dk_3 (dk_at dksX0_laysAll_2 12 rfl rfl)
theorem dX0_laysAll_61 : decode cX0_laysAll 61 = .ok (.istore 5, 2) := dk_54 5 (dk_at dksX0_laysAll_2 13 rfl rfl)
theorem dX0_laysAll_63 : decode cX0_laysAll 63 = .ok (.aload_n 0, 1) := dk_42 (dk_at dksX0_laysAll_2 15 rfl rfl)
theorem dX0_laysAll_64 : decode cX0_laysAll 64 = .ok (.getfield 49, 3) := dk_180 0 49 (dk_at dksX0_laysAll_2 16 rfl rfl)
theorem dX0_laysAll_67 : decode cX0_laysAll 67 = .ok (.bipush 8, 2) := dk_16 8 (dk_at dksX0_laysAll_2 19 rfl rfl)
theorem dX0_laysAll_69 : decode cX0_laysAll 69 = .ok (.iload_n 3, 1) := dk_29 (dk_at dksX0_laysAll_2 21 rfl rfl)
theorem dX0_laysAll_70 : decode cX0_laysAll 70 = .ok (.imul, 1) := dk_104 (dk_at dksX0_laysAll_2 22 rfl rfl)
theorem dX0_laysAll_71 : decode cX0_laysAll 71 = .ok (.iload 4, 2) := dk_21 4 (dk_at dksX0_laysAll_3 0 rfl rfl)
theorem dX0_laysAll_73 : decode cX0_laysAll 73 = .ok (.iadd, 1) := dk_96 (dk_at dksX0_laysAll_3 2 rfl rfl)
theorem dX0_laysAll_74 : decode cX0_laysAll 74 = .ok (.iload 5, 2) := dk_21 5 (dk_at dksX0_laysAll_3 3 rfl rfl)
theorem dX0_laysAll_76 : decode cX0_laysAll 76 = .ok (.ifCond .eq 13, 3) := dk_153 0 13 (dk_at dksX0_laysAll_3 5 rfl rfl)
theorem dX0_laysAll_79 : decode cX0_laysAll 79 = .ok (.aload_n 1, 1) := dk_43 (dk_at dksX0_laysAll_3 8 rfl rfl)
theorem dX0_laysAll_80 : decode cX0_laysAll 80 = .ok (.iload_n 3, 1) := dk_29 (dk_at dksX0_laysAll_3 9 rfl rfl)
theorem dX0_laysAll_81 : decode cX0_laysAll 81 = .ok (.iload 4, 2) := dk_21 4 (dk_at dksX0_laysAll_3 10 rfl rfl)
theorem dX0_laysAll_83 : decode cX0_laysAll 83 = .ok (.invokevirtual 173, 3) := dk_182 0 173 (dk_at dksX0_laysAll_3 12 rfl rfl)
theorem dX0_laysAll_86 : decode cX0_laysAll 86 = .ok (.goto 4, 3) := dk_167 0 4 (dk_at dksX0_laysAll_3 15 rfl rfl)
theorem dX0_laysAll_89 : decode cX0_laysAll 89 = .ok (.iconst (-1), 1) := dk_2 (dk_at dksX0_laysAll_3 18 rfl rfl)
theorem dX0_laysAll_90 : decode cX0_laysAll 90 = .ok (.iastore, 1) := dk_79 (dk_at dksX0_laysAll_3 19 rfl rfl)
theorem dX0_laysAll_91 : decode cX0_laysAll 91 = .ok (.iinc 4 1, 3) := dk_132 4 1 (dk_at dksX0_laysAll_3 20 rfl rfl)
theorem dX0_laysAll_94 : decode cX0_laysAll 94 = .ok (.goto (-83), 3) := dk_167 255 173 (dk_at dksX0_laysAll_4 0 rfl rfl)
theorem dX0_laysAll_97 : decode cX0_laysAll 97 = .ok (.iinc 3 1, 3) := dk_132 3 1 (dk_at dksX0_laysAll_4 3 rfl rfl)
theorem dX0_laysAll_100 : decode cX0_laysAll 100 = .ok (.goto (-98), 3) := dk_167 255 158 (dk_at dksX0_laysAll_4 6 rfl rfl)
theorem dX0_laysAll_103 : decode cX0_laysAll 103 = .ok (.return_, 1) := dk_177 (dk_at dksX0_laysAll_4 9 rfl rfl)
abbrev cX0_laysComing : ByteArray := prog_1_method_34_code
def yX0_laysComing : MethodName := ⟨RX0, "laysComing", "(II)I"⟩
def dkwX0_laysComing_4 : List UInt8 := [161, 0, 7, 2, 167, 0, 15, 42, 180, 0, 53, 42, 180, 0, 30, 180, 0, 170, 46, 172]
abbrev dktX0_laysComing_4 : List UInt8 := dkwX0_laysComing_4 ++ []
def dkwX0_laysComing_3 : List UInt8 := [132, 4, 1, 167, 255, 237, 167, 255, 225, 42, 180, 0, 53, 42, 180, 0, 30, 180, 0, 170, 46, 18, 251]
abbrev dktX0_laysComing_3 : List UInt8 := dkwX0_laysComing_3 ++ dktX0_laysComing_4
def dkwX0_laysComing_2 : List UInt8 := [153, 0, 33, 3, 62, 3, 54, 4, 21, 4, 16, 36, 162, 0, 18, 29, 42, 21, 4, 182, 0, 252, 128, 62]
abbrev dktX0_laysComing_2 : List UInt8 := dkwX0_laysComing_2 ++ dktX0_laysComing_3
def dkwX0_laysComing_1 : List UInt8 := [184, 0, 9, 28, 163, 0, 7, 3, 167, 0, 5, 18, 251, 79, 132, 3, 1, 167, 255, 219, 4, 62, 29]
abbrev dktX0_laysComing_1 : List UInt8 := dkwX0_laysComing_1 ++ dktX0_laysComing_2
def dkwX0_laysComing_0 : List UInt8 := [3, 62, 29, 16, 36, 162, 0, 37, 42, 180, 0, 53, 29, 29, 184, 0, 177, 27, 160, 0, 15, 29]
abbrev dktX0_laysComing_0 : List UInt8 := dkwX0_laysComing_0 ++ dktX0_laysComing_1
theorem dksX0_laysComing_0 : cX0_laysComing.data.toList.drop 0 = dktX0_laysComing_0 := by decide +kernel
theorem dksX0_laysComing_1 : cX0_laysComing.data.toList.drop 22 = dktX0_laysComing_1 := dk_seg dksX0_laysComing_0 22 rfl rfl
theorem dksX0_laysComing_2 : cX0_laysComing.data.toList.drop 45 = dktX0_laysComing_2 := dk_seg dksX0_laysComing_1 23 rfl rfl
theorem dksX0_laysComing_3 : cX0_laysComing.data.toList.drop 69 = dktX0_laysComing_3 := dk_seg dksX0_laysComing_2 24 rfl rfl
theorem dksX0_laysComing_4 : cX0_laysComing.data.toList.drop 92 = dktX0_laysComing_4 := dk_seg dksX0_laysComing_3 23 rfl rfl
theorem dX0_laysComing_0 : decode cX0_laysComing 0 = .ok (.iconst 0, 1) := dk_3 (dk_at dksX0_laysComing_0 0 rfl rfl)
theorem dX0_laysComing_1 : decode cX0_laysComing 1 = .ok (.istore_n 3, 1) := dk_62 (dk_at dksX0_laysComing_0 1 rfl rfl)
theorem dX0_laysComing_2 : decode cX0_laysComing 2 = .ok (.iload_n 3, 1) := dk_29 (dk_at dksX0_laysComing_0 2 rfl rfl)
theorem dX0_laysComing_3 : decode cX0_laysComing 3 = .ok (.bipush 36, 2) := dk_16 36 (dk_at dksX0_laysComing_0 3 rfl rfl)
theorem dX0_laysComing_5 : decode cX0_laysComing 5 = .ok (.if_icmp .ge 37, 3) := dk_162 0 37 (dk_at dksX0_laysComing_0 5 rfl rfl)
theorem dX0_laysComing_8 : decode cX0_laysComing 8 = .ok (.aload_n 0, 1) := dk_42 (dk_at dksX0_laysComing_0 8 rfl rfl)
theorem dX0_laysComing_9 : decode cX0_laysComing 9 = .ok (.getfield 53, 3) := dk_180 0 53 (dk_at dksX0_laysComing_0 9 rfl rfl)
theorem dX0_laysComing_12 : decode cX0_laysComing 12 = .ok (.iload_n 3, 1) := dk_29 (dk_at dksX0_laysComing_0 12 rfl rfl)
theorem dX0_laysComing_13 : decode cX0_laysComing 13 = .ok (.iload_n 3, 1) := dk_29 (dk_at dksX0_laysComing_0 13 rfl rfl)
theorem dX0_laysComing_14 : decode cX0_laysComing 14 = .ok (.invokestatic 177, 3) := dk_184 0 177 (dk_at dksX0_laysComing_0 14 rfl rfl)
theorem dX0_laysComing_17 : decode cX0_laysComing 17 = .ok (.iload_n 1, 1) := dk_27 (dk_at dksX0_laysComing_0 17 rfl rfl)
theorem dX0_laysComing_18 : decode cX0_laysComing 18 = .ok (.if_icmp .ne 15, 3) := dk_160 0 15 (dk_at dksX0_laysComing_0 18 rfl rfl)
theorem dX0_laysComing_21 : decode cX0_laysComing 21 = .ok (.iload_n 3, 1) := dk_29 (dk_at dksX0_laysComing_0 21 rfl rfl)
theorem dX0_laysComing_22 : decode cX0_laysComing 22 = .ok (.invokestatic 9, 3) := dk_184 0 9 (dk_at dksX0_laysComing_1 0 rfl rfl)
theorem dX0_laysComing_25 : decode cX0_laysComing 25 = .ok (.iload_n 2, 1) := dk_28 (dk_at dksX0_laysComing_1 3 rfl rfl)
theorem dX0_laysComing_26 : decode cX0_laysComing 26 = .ok (.if_icmp .gt 7, 3) := dk_163 0 7 (dk_at dksX0_laysComing_1 4 rfl rfl)
theorem dX0_laysComing_29 : decode cX0_laysComing 29 = .ok (.iconst 0, 1) := dk_3 (dk_at dksX0_laysComing_1 7 rfl rfl)
theorem dX0_laysComing_30 : decode cX0_laysComing 30 = .ok (.goto 5, 3) := dk_167 0 5 (dk_at dksX0_laysComing_1 8 rfl rfl)
theorem dX0_laysComing_33 : decode cX0_laysComing 33 = .ok (.ldc 251, 2) := dk_18 251 (dk_at dksX0_laysComing_1 11 rfl rfl)
theorem dX0_laysComing_35 : decode cX0_laysComing 35 = .ok (.iastore, 1) := dk_79 (dk_at dksX0_laysComing_1 13 rfl rfl)
theorem dX0_laysComing_36 : decode cX0_laysComing 36 = .ok (.iinc 3 1, 3) := dk_132 3 1 (dk_at dksX0_laysComing_1 14 rfl rfl)
theorem dX0_laysComing_39 : decode cX0_laysComing 39 = .ok (.goto (-37), 3) := dk_167 255 219 (dk_at dksX0_laysComing_1 17 rfl rfl)
theorem dX0_laysComing_42 : decode cX0_laysComing 42 = .ok (.iconst 1, 1) := dk_4 (dk_at dksX0_laysComing_1 20 rfl rfl)
theorem dX0_laysComing_43 : decode cX0_laysComing 43 = .ok (.istore_n 3, 1) := dk_62 (dk_at dksX0_laysComing_1 21 rfl rfl)
theorem dX0_laysComing_44 : decode cX0_laysComing 44 = .ok (.iload_n 3, 1) := dk_29 (dk_at dksX0_laysComing_1 22 rfl rfl)
theorem dX0_laysComing_45 : decode cX0_laysComing 45 = .ok (.ifCond .eq 33, 3) := dk_153 0 33 (dk_at dksX0_laysComing_2 0 rfl rfl)
theorem dX0_laysComing_48 : decode cX0_laysComing 48 = .ok (.iconst 0, 1) := dk_3 (dk_at dksX0_laysComing_2 3 rfl rfl)
theorem dX0_laysComing_49 : decode cX0_laysComing 49 = .ok (.istore_n 3, 1) := dk_62 (dk_at dksX0_laysComing_2 4 rfl rfl)
theorem dX0_laysComing_50 : decode cX0_laysComing 50 = .ok (.iconst 0, 1) := dk_3 (dk_at dksX0_laysComing_2 5 rfl rfl)
theorem dX0_laysComing_51 : decode cX0_laysComing 51 = .ok (.istore 4, 2) := dk_54 4 (dk_at dksX0_laysComing_2 6 rfl rfl)
theorem dX0_laysComing_53 : decode cX0_laysComing 53 = .ok (.iload 4, 2) := dk_21 4 (dk_at dksX0_laysComing_2 8 rfl rfl)
theorem dX0_laysComing_55 : decode cX0_laysComing 55 = .ok (.bipush 36, 2) := dk_16 36 (dk_at dksX0_laysComing_2 10 rfl rfl)
theorem dX0_laysComing_57 : decode cX0_laysComing 57 = .ok (.if_icmp .ge 18, 3) := dk_162 0 18 (dk_at dksX0_laysComing_2 12 rfl rfl)
theorem dX0_laysComing_60 : decode cX0_laysComing 60 = .ok (.iload_n 3, 1) := dk_29 (dk_at dksX0_laysComing_2 15 rfl rfl)
theorem dX0_laysComing_61 : decode cX0_laysComing 61 = .ok (.aload_n 0, 1) := dk_42 (dk_at dksX0_laysComing_2 16 rfl rfl)
theorem dX0_laysComing_62 : decode cX0_laysComing 62 = .ok (.iload 4, 2) := dk_21 4 (dk_at dksX0_laysComing_2 17 rfl rfl)
theorem dX0_laysComing_64 : decode cX0_laysComing 64 = .ok (.invokevirtual 252, 3) := dk_182 0 252 (dk_at dksX0_laysComing_2 19 rfl rfl)
theorem dX0_laysComing_67 : decode cX0_laysComing 67 = .ok (.ior, 1) := dk_128 (dk_at dksX0_laysComing_2 22 rfl rfl)
theorem dX0_laysComing_68 : decode cX0_laysComing 68 = .ok (.istore_n 3, 1) := dk_62 (dk_at dksX0_laysComing_2 23 rfl rfl)
theorem dX0_laysComing_69 : decode cX0_laysComing 69 = .ok (.iinc 4 1, 3) := dk_132 4 1 (dk_at dksX0_laysComing_3 0 rfl rfl)
theorem dX0_laysComing_72 : decode cX0_laysComing 72 = .ok (.goto (-19), 3) := dk_167 255 237 (dk_at dksX0_laysComing_3 3 rfl rfl)
theorem dX0_laysComing_75 : decode cX0_laysComing 75 = .ok (.goto (-31), 3) := dk_167 255 225 (dk_at dksX0_laysComing_3 6 rfl rfl)
theorem dX0_laysComing_78 : decode cX0_laysComing 78 = .ok (.aload_n 0, 1) := dk_42 (dk_at dksX0_laysComing_3 9 rfl rfl)
theorem dX0_laysComing_79 : decode cX0_laysComing 79 = .ok (.getfield 53, 3) := dk_180 0 53 (dk_at dksX0_laysComing_3 10 rfl rfl)
theorem dX0_laysComing_82 : decode cX0_laysComing 82 = .ok (.aload_n 0, 1) := dk_42 (dk_at dksX0_laysComing_3 13 rfl rfl)
theorem dX0_laysComing_83 : decode cX0_laysComing 83 = .ok (.getfield 30, 3) := dk_180 0 30 (dk_at dksX0_laysComing_3 14 rfl rfl)
theorem dX0_laysComing_86 : decode cX0_laysComing 86 = .ok (.getfield 170, 3) := dk_180 0 170 (dk_at dksX0_laysComing_3 17 rfl rfl)
theorem dX0_laysComing_89 : decode cX0_laysComing 89 = .ok (.iaload, 1) := dk_46 (dk_at dksX0_laysComing_3 20 rfl rfl)
theorem dX0_laysComing_90 : decode cX0_laysComing 90 = .ok (.ldc 251, 2) := dk_18 251 (dk_at dksX0_laysComing_3 21 rfl rfl)
theorem dX0_laysComing_92 : decode cX0_laysComing 92 = .ok (.if_icmp .lt 7, 3) := dk_161 0 7 (dk_at dksX0_laysComing_4 0 rfl rfl)
theorem dX0_laysComing_95 : decode cX0_laysComing 95 = .ok (.iconst (-1), 1) := dk_2 (dk_at dksX0_laysComing_4 3 rfl rfl)
theorem dX0_laysComing_96 : decode cX0_laysComing 96 = .ok (.goto 15, 3) := dk_167 0 15 (dk_at dksX0_laysComing_4 4 rfl rfl)
theorem dX0_laysComing_99 : decode cX0_laysComing 99 = .ok (.aload_n 0, 1) := dk_42 (dk_at dksX0_laysComing_4 7 rfl rfl)
theorem dX0_laysComing_100 : decode cX0_laysComing 100 = .ok (.getfield 53, 3) := dk_180 0 53 (dk_at dksX0_laysComing_4 8 rfl rfl)
theorem dX0_laysComing_103 : decode cX0_laysComing 103 = .ok (.aload_n 0, 1) := dk_42 (dk_at dksX0_laysComing_4 11 rfl rfl)
theorem dX0_laysComing_104 : decode cX0_laysComing 104 = .ok (.getfield 30, 3) := dk_180 0 30 (dk_at dksX0_laysComing_4 12 rfl rfl)
theorem dX0_laysComing_107 : decode cX0_laysComing 107 = .ok (.getfield 170, 3) := dk_180 0 170 (dk_at dksX0_laysComing_4 15 rfl rfl)
theorem dX0_laysComing_110 : decode cX0_laysComing 110 = .ok (.iaload, 1) := dk_46 (dk_at dksX0_laysComing_4 18 rfl rfl)
theorem dX0_laysComing_111 : decode cX0_laysComing 111 = .ok (.ireturn, 1) := dk_172 (dk_at dksX0_laysComing_4 19 rfl rfl)
abbrev cX0_lowers : ByteArray := prog_1_method_35_code
def yX0_lowers : MethodName := ⟨RX0, "lowers", "(I)Z"⟩
def dkwX0_lowers_3 : List UInt8 := [42, 180, 0, 53, 27, 28, 79, 4, 172]
abbrev dktX0_lowers_3 : List UInt8 := dkwX0_lowers_3 ++ []
def dkwX0_lowers_2 : List UInt8 := [46, 96, 184, 0, 187, 61, 132, 3, 1, 167, 255, 204, 28, 42, 180, 0, 53, 27, 46, 161, 0, 5, 3, 172]
abbrev dktX0_lowers_2 : List UInt8 := dkwX0_lowers_2 ++ dktX0_lowers_3
def dkwX0_lowers_1 : List UInt8 := [29, 96, 46, 2, 159, 0, 26, 28, 4, 42, 180, 0, 53, 42, 180, 0, 49, 16, 8, 27, 104, 29, 96, 46]
abbrev dktX0_lowers_1 : List UInt8 := dkwX0_lowers_1 ++ dktX0_lowers_2
def dkwX0_lowers_0 : List UInt8 := [18, 251, 61, 3, 62, 29, 42, 180, 0, 21, 180, 0, 133, 162, 0, 47, 42, 180, 0, 49, 16, 8, 27, 104]
abbrev dktX0_lowers_0 : List UInt8 := dkwX0_lowers_0 ++ dktX0_lowers_1
theorem dksX0_lowers_0 : cX0_lowers.data.toList.drop 0 = dktX0_lowers_0 := by decide +kernel
theorem dksX0_lowers_1 : cX0_lowers.data.toList.drop 24 = dktX0_lowers_1 := dk_seg dksX0_lowers_0 24 rfl rfl
theorem dksX0_lowers_2 : cX0_lowers.data.toList.drop 48 = dktX0_lowers_2 := dk_seg dksX0_lowers_1 24 rfl rfl
theorem dksX0_lowers_3 : cX0_lowers.data.toList.drop 72 = dktX0_lowers_3 := dk_seg dksX0_lowers_2 24 rfl rfl
theorem dX0_lowers_0 : decode cX0_lowers 0 = .ok (.ldc 251, 2) := dk_18 251 (dk_at dksX0_lowers_0 0 rfl rfl)
theorem dX0_lowers_2 : decode cX0_lowers 2 = .ok (.istore_n 2, 1) := dk_61 (dk_at dksX0_lowers_0 2 rfl rfl)
theorem dX0_lowers_3 : decode cX0_lowers 3 = .ok (.iconst 0, 1) := dk_3 (dk_at dksX0_lowers_0 3 rfl rfl)
theorem dX0_lowers_4 : decode cX0_lowers 4 = .ok (.istore_n 3, 1) := dk_62 (dk_at dksX0_lowers_0 4 rfl rfl)
theorem dX0_lowers_5 : decode cX0_lowers 5 = .ok (.iload_n 3, 1) := dk_29 (dk_at dksX0_lowers_0 5 rfl rfl)
theorem dX0_lowers_6 : decode cX0_lowers 6 = .ok (.aload_n 0, 1) := dk_42 (dk_at dksX0_lowers_0 6 rfl rfl)
theorem dX0_lowers_7 : decode cX0_lowers 7 = .ok (.getfield 21, 3) := dk_180 0 21 (dk_at dksX0_lowers_0 7 rfl rfl)
theorem dX0_lowers_10 : decode cX0_lowers 10 = .ok (.getfield 133, 3) := dk_180 0 133 (dk_at dksX0_lowers_0 10 rfl rfl)
theorem dX0_lowers_13 : decode cX0_lowers 13 = .ok (.if_icmp .ge 47, 3) := dk_162 0 47 (dk_at dksX0_lowers_0 13 rfl rfl)
theorem dX0_lowers_16 : decode cX0_lowers 16 = .ok (.aload_n 0, 1) := dk_42 (dk_at dksX0_lowers_0 16 rfl rfl)
theorem dX0_lowers_17 : decode cX0_lowers 17 = .ok (.getfield 49, 3) := dk_180 0 49 (dk_at dksX0_lowers_0 17 rfl rfl)
theorem dX0_lowers_20 : decode cX0_lowers 20 = .ok (.bipush 8, 2) := dk_16 8 (dk_at dksX0_lowers_0 20 rfl rfl)
theorem dX0_lowers_22 : decode cX0_lowers 22 = .ok (.iload_n 1, 1) := dk_27 (dk_at dksX0_lowers_0 22 rfl rfl)
theorem dX0_lowers_23 : decode cX0_lowers 23 = .ok (.imul, 1) := dk_104 (dk_at dksX0_lowers_0 23 rfl rfl)
theorem dX0_lowers_24 : decode cX0_lowers 24 = .ok (.iload_n 3, 1) := dk_29 (dk_at dksX0_lowers_1 0 rfl rfl)
theorem dX0_lowers_25 : decode cX0_lowers 25 = .ok (.iadd, 1) := dk_96 (dk_at dksX0_lowers_1 1 rfl rfl)
theorem dX0_lowers_26 : decode cX0_lowers 26 = .ok (.iaload, 1) := dk_46 (dk_at dksX0_lowers_1 2 rfl rfl)
theorem dX0_lowers_27 : decode cX0_lowers 27 = .ok (.iconst (-1), 1) := dk_2 (dk_at dksX0_lowers_1 3 rfl rfl)
theorem dX0_lowers_28 : decode cX0_lowers 28 = .ok (.if_icmp .eq 26, 3) := dk_159 0 26 (dk_at dksX0_lowers_1 4 rfl rfl)
theorem dX0_lowers_31 : decode cX0_lowers 31 = .ok (.iload_n 2, 1) := dk_28 (dk_at dksX0_lowers_1 7 rfl rfl)
theorem dX0_lowers_32 : decode cX0_lowers 32 = .ok (.iconst 1, 1) := dk_4 (dk_at dksX0_lowers_1 8 rfl rfl)
theorem dX0_lowers_33 : decode cX0_lowers 33 = .ok (.aload_n 0, 1) := dk_42 (dk_at dksX0_lowers_1 9 rfl rfl)
theorem dX0_lowers_34 : decode cX0_lowers 34 = .ok (.getfield 53, 3) := dk_180 0 53 (dk_at dksX0_lowers_1 10 rfl rfl)
theorem dX0_lowers_37 : decode cX0_lowers 37 = .ok (.aload_n 0, 1) := dk_42 (dk_at dksX0_lowers_1 13 rfl rfl)
theorem dX0_lowers_38 : decode cX0_lowers 38 = .ok (.getfield 49, 3) := dk_180 0 49 (dk_at dksX0_lowers_1 14 rfl rfl)
theorem dX0_lowers_41 : decode cX0_lowers 41 = .ok (.bipush 8, 2) := dk_16 8 (dk_at dksX0_lowers_1 17 rfl rfl)
theorem dX0_lowers_43 : decode cX0_lowers 43 = .ok (.iload_n 1, 1) := dk_27 (dk_at dksX0_lowers_1 19 rfl rfl)
theorem dX0_lowers_44 : decode cX0_lowers 44 = .ok (.imul, 1) := dk_104 (dk_at dksX0_lowers_1 20 rfl rfl)
theorem dX0_lowers_45 : decode cX0_lowers 45 = .ok (.iload_n 3, 1) := dk_29 (dk_at dksX0_lowers_1 21 rfl rfl)
theorem dX0_lowers_46 : decode cX0_lowers 46 = .ok (.iadd, 1) := dk_96 (dk_at dksX0_lowers_1 22 rfl rfl)
theorem dX0_lowers_47 : decode cX0_lowers 47 = .ok (.iaload, 1) := dk_46 (dk_at dksX0_lowers_1 23 rfl rfl)
theorem dX0_lowers_48 : decode cX0_lowers 48 = .ok (.iaload, 1) := dk_46 (dk_at dksX0_lowers_2 0 rfl rfl)
theorem dX0_lowers_49 : decode cX0_lowers 49 = .ok (.iadd, 1) := dk_96 (dk_at dksX0_lowers_2 1 rfl rfl)
theorem dX0_lowers_50 : decode cX0_lowers 50 = .ok (.invokestatic 187, 3) := dk_184 0 187 (dk_at dksX0_lowers_2 2 rfl rfl)
theorem dX0_lowers_53 : decode cX0_lowers 53 = .ok (.istore_n 2, 1) := dk_61 (dk_at dksX0_lowers_2 5 rfl rfl)
theorem dX0_lowers_54 : decode cX0_lowers 54 = .ok (.iinc 3 1, 3) := dk_132 3 1 (dk_at dksX0_lowers_2 6 rfl rfl)
theorem dX0_lowers_57 : decode cX0_lowers 57 = .ok (.goto (-52), 3) := dk_167 255 204 (dk_at dksX0_lowers_2 9 rfl rfl)
theorem dX0_lowers_60 : decode cX0_lowers 60 = .ok (.iload_n 2, 1) := dk_28 (dk_at dksX0_lowers_2 12 rfl rfl)
theorem dX0_lowers_61 : decode cX0_lowers 61 = .ok (.aload_n 0, 1) := dk_42 (dk_at dksX0_lowers_2 13 rfl rfl)
theorem dX0_lowers_62 : decode cX0_lowers 62 = .ok (.getfield 53, 3) := dk_180 0 53 (dk_at dksX0_lowers_2 14 rfl rfl)
theorem dX0_lowers_65 : decode cX0_lowers 65 = .ok (.iload_n 1, 1) := dk_27 (dk_at dksX0_lowers_2 17 rfl rfl)
theorem dX0_lowers_66 : decode cX0_lowers 66 = .ok (.iaload, 1) := dk_46 (dk_at dksX0_lowers_2 18 rfl rfl)
theorem dX0_lowers_67 : decode cX0_lowers 67 = .ok (.if_icmp .lt 5, 3) := dk_161 0 5 (dk_at dksX0_lowers_2 19 rfl rfl)
theorem dX0_lowers_70 : decode cX0_lowers 70 = .ok (.iconst 0, 1) := dk_3 (dk_at dksX0_lowers_2 22 rfl rfl)
theorem dX0_lowers_71 : decode cX0_lowers 71 = .ok (.ireturn, 1) := dk_172 (dk_at dksX0_lowers_2 23 rfl rfl)
theorem dX0_lowers_72 : decode cX0_lowers 72 = .ok (.aload_n 0, 1) := dk_42 (dk_at dksX0_lowers_3 0 rfl rfl)
theorem dX0_lowers_73 : decode cX0_lowers 73 = .ok (.getfield 53, 3) := dk_180 0 53 (dk_at dksX0_lowers_3 1 rfl rfl)
theorem dX0_lowers_76 : decode cX0_lowers 76 = .ok (.iload_n 1, 1) := dk_27 (dk_at dksX0_lowers_3 4 rfl rfl)
theorem dX0_lowers_77 : decode cX0_lowers 77 = .ok (.iload_n 2, 1) := dk_28 (dk_at dksX0_lowers_3 5 rfl rfl)
theorem dX0_lowers_78 : decode cX0_lowers 78 = .ok (.iastore, 1) := dk_79 (dk_at dksX0_lowers_3 6 rfl rfl)
theorem dX0_lowers_79 : decode cX0_lowers 79 = .ok (.iconst 1, 1) := dk_4 (dk_at dksX0_lowers_3 7 rfl rfl)
theorem dX0_lowers_80 : decode cX0_lowers 80 = .ok (.ireturn, 1) := dk_172 (dk_at dksX0_lowers_3 8 rfl rfl)
abbrev cX0_way : ByteArray := prog_1_method_40_code
def yX0_way : MethodName := ⟨RX0, "way", "(III)I"⟩
def dkwX0_way_2 : List UInt8 := [180, 1, 0, 162, 0, 12, 42, 180, 0, 56, 29, 46, 167, 0, 4, 2, 172]
abbrev dktX0_way_2 : List UInt8 := dkwX0_way_2 ++ []
def dkwX0_way_1 : List UInt8 := [153, 0, 6, 21, 4, 172, 42, 27, 28, 182, 1, 17, 2, 160, 0, 5, 2, 172, 42, 182, 1, 20, 29, 42]
abbrev dktX0_way_1 : List UInt8 := dkwX0_way_1 ++ dktX0_way_2
def dkwX0_way_0 : List UInt8 := [42, 27, 28, 182, 1, 14, 54, 4, 21, 4, 154, 0, 11, 29, 156, 0, 7, 16, 253, 54, 4, 21, 4]
abbrev dktX0_way_0 : List UInt8 := dkwX0_way_0 ++ dktX0_way_1
theorem dksX0_way_0 : cX0_way.data.toList.drop 0 = dktX0_way_0 := by decide +kernel
theorem dksX0_way_1 : cX0_way.data.toList.drop 23 = dktX0_way_1 := dk_seg dksX0_way_0 23 rfl rfl
theorem dksX0_way_2 : cX0_way.data.toList.drop 47 = dktX0_way_2 := dk_seg dksX0_way_1 24 rfl rfl
theorem dX0_way_0 : decode cX0_way 0 = .ok (.aload_n 0, 1) := dk_42 (dk_at dksX0_way_0 0 rfl rfl)
theorem dX0_way_1 : decode cX0_way 1 = .ok (.iload_n 1, 1) := dk_27 (dk_at dksX0_way_0 1 rfl rfl)
theorem dX0_way_2 : decode cX0_way 2 = .ok (.iload_n 2, 1) := dk_28 (dk_at dksX0_way_0 2 rfl rfl)
theorem dX0_way_3 : decode cX0_way 3 = .ok (.invokevirtual 270, 3) := dk_182 1 14 (dk_at dksX0_way_0 3 rfl rfl)
theorem dX0_way_6 : decode cX0_way 6 = .ok (.istore 4, 2) := dk_54 4 (dk_at dksX0_way_0 6 rfl rfl)
theorem dX0_way_8 : decode cX0_way 8 = .ok (.iload 4, 2) := dk_21 4 (dk_at dksX0_way_0 8 rfl rfl)
theorem dX0_way_10 : decode cX0_way 10 = .ok (.ifCond .ne 11, 3) := dk_154 0 11 (dk_at dksX0_way_0 10 rfl rfl)
theorem dX0_way_13 : decode cX0_way 13 = .ok (.iload_n 3, 1) := dk_29 (dk_at dksX0_way_0 13 rfl rfl)
theorem dX0_way_14 : decode cX0_way 14 = .ok (.ifCond .ge 7, 3) := dk_156 0 7 (dk_at dksX0_way_0 14 rfl rfl)
theorem dX0_way_17 : decode cX0_way 17 = .ok (.bipush (-3), 2) := dk_16 253 (dk_at dksX0_way_0 17 rfl rfl)
theorem dX0_way_19 : decode cX0_way 19 = .ok (.istore 4, 2) := dk_54 4 (dk_at dksX0_way_0 19 rfl rfl)
theorem dX0_way_21 : decode cX0_way 21 = .ok (.iload 4, 2) := dk_21 4 (dk_at dksX0_way_0 21 rfl rfl)
theorem dX0_way_23 : decode cX0_way 23 = .ok (.ifCond .eq 6, 3) := dk_153 0 6 (dk_at dksX0_way_1 0 rfl rfl)
theorem dX0_way_26 : decode cX0_way 26 = .ok (.iload 4, 2) := dk_21 4 (dk_at dksX0_way_1 3 rfl rfl)
theorem dX0_way_28 : decode cX0_way 28 = .ok (.ireturn, 1) := dk_172 (dk_at dksX0_way_1 5 rfl rfl)
theorem dX0_way_29 : decode cX0_way 29 = .ok (.aload_n 0, 1) := dk_42 (dk_at dksX0_way_1 6 rfl rfl)
theorem dX0_way_30 : decode cX0_way 30 = .ok (.iload_n 1, 1) := dk_27 (dk_at dksX0_way_1 7 rfl rfl)
theorem dX0_way_31 : decode cX0_way 31 = .ok (.iload_n 2, 1) := dk_28 (dk_at dksX0_way_1 8 rfl rfl)
theorem dX0_way_32 : decode cX0_way 32 = .ok (.invokevirtual 273, 3) := dk_182 1 17 (dk_at dksX0_way_1 9 rfl rfl)
theorem dX0_way_35 : decode cX0_way 35 = .ok (.iconst (-1), 1) := dk_2 (dk_at dksX0_way_1 12 rfl rfl)
theorem dX0_way_36 : decode cX0_way 36 = .ok (.if_icmp .ne 5, 3) := dk_160 0 5 (dk_at dksX0_way_1 13 rfl rfl)
theorem dX0_way_39 : decode cX0_way 39 = .ok (.iconst (-1), 1) := dk_2 (dk_at dksX0_way_1 16 rfl rfl)
theorem dX0_way_40 : decode cX0_way 40 = .ok (.ireturn, 1) := dk_172 (dk_at dksX0_way_1 17 rfl rfl)
theorem dX0_way_41 : decode cX0_way 41 = .ok (.aload_n 0, 1) := dk_42 (dk_at dksX0_way_1 18 rfl rfl)
theorem dX0_way_42 : decode cX0_way 42 = .ok (.invokevirtual 276, 3) := dk_182 1 20 (dk_at dksX0_way_1 19 rfl rfl)
theorem dX0_way_45 : decode cX0_way 45 = .ok (.iload_n 3, 1) := dk_29 (dk_at dksX0_way_1 22 rfl rfl)
theorem dX0_way_46 : decode cX0_way 46 = .ok (.aload_n 0, 1) := dk_42 (dk_at dksX0_way_1 23 rfl rfl)
theorem dX0_way_47 : decode cX0_way 47 = .ok (.getfield 256, 3) := dk_180 1 0 (dk_at dksX0_way_2 0 rfl rfl)
theorem dX0_way_50 : decode cX0_way 50 = .ok (.if_icmp .ge 12, 3) := dk_162 0 12 (dk_at dksX0_way_2 3 rfl rfl)
theorem dX0_way_53 : decode cX0_way 53 = .ok (.aload_n 0, 1) := dk_42 (dk_at dksX0_way_2 6 rfl rfl)
theorem dX0_way_54 : decode cX0_way 54 = .ok (.getfield 56, 3) := dk_180 0 56 (dk_at dksX0_way_2 7 rfl rfl)
theorem dX0_way_57 : decode cX0_way 57 = .ok (.iload_n 3, 1) := dk_29 (dk_at dksX0_way_2 10 rfl rfl)
theorem dX0_way_58 : decode cX0_way 58 = .ok (.iaload, 1) := dk_46 (dk_at dksX0_way_2 11 rfl rfl)
theorem dX0_way_59 : decode cX0_way 59 = .ok (.goto 4, 3) := dk_167 0 4 (dk_at dksX0_way_2 12 rfl rfl)
theorem dX0_way_62 : decode cX0_way 62 = .ok (.iconst (-1), 1) := dk_2 (dk_at dksX0_way_2 15 rfl rfl)
theorem dX0_way_63 : decode cX0_way 63 = .ok (.ireturn, 1) := dk_172 (dk_at dksX0_way_2 16 rfl rfl)
abbrev cX0_laysPath : ByteArray := prog_1_method_36_code
def yX0_laysPath : MethodName := ⟨RX0, "laysPath", "()V"⟩
def dkwX0_laysPath_4 : List UInt8 := [180, 0, 49, 16, 8, 27, 104, 28, 96, 46, 60, 167, 255, 165, 177]
abbrev dktX0_laysPath_4 : List UInt8 := dkwX0_laysPath_4 ++ []
def dkwX0_laysPath_3 : List UInt8 := [167, 255, 211, 42, 180, 0, 56, 42, 180, 1, 0, 28, 79, 42, 89, 180, 1, 0, 4, 96, 181, 1, 0, 42]
abbrev dktX0_laysPath_3 : List UInt8 := dkwX0_laysPath_3 ++ dktX0_laysPath_4
def dkwX0_laysPath_2 : List UInt8 := [16, 8, 27, 104, 28, 96, 46, 46, 42, 180, 0, 53, 27, 46, 4, 100, 159, 0, 9, 132, 2, 1]
abbrev dktX0_laysPath_2 : List UInt8 := dkwX0_laysPath_2 ++ dktX0_laysPath_3
def dkwX0_laysPath_1 : List UInt8 := [42, 180, 0, 49, 16, 8, 27, 104, 28, 96, 46, 2, 159, 0, 30, 42, 180, 0, 53, 42, 180, 0, 49]
abbrev dktX0_laysPath_1 : List UInt8 := dkwX0_laysPath_1 ++ dktX0_laysPath_2
def dkwX0_laysPath_0 : List UInt8 := [42, 3, 181, 1, 0, 42, 180, 0, 30, 180, 0, 170, 60, 42, 180, 0, 53, 27, 46, 158, 0, 88, 3, 61]
abbrev dktX0_laysPath_0 : List UInt8 := dkwX0_laysPath_0 ++ dktX0_laysPath_1
theorem dksX0_laysPath_0 : cX0_laysPath.data.toList.drop 0 = dktX0_laysPath_0 := by decide +kernel
theorem dksX0_laysPath_1 : cX0_laysPath.data.toList.drop 24 = dktX0_laysPath_1 := dk_seg dksX0_laysPath_0 24 rfl rfl
theorem dksX0_laysPath_2 : cX0_laysPath.data.toList.drop 47 = dktX0_laysPath_2 := dk_seg dksX0_laysPath_1 23 rfl rfl
theorem dksX0_laysPath_3 : cX0_laysPath.data.toList.drop 69 = dktX0_laysPath_3 := dk_seg dksX0_laysPath_2 22 rfl rfl
theorem dksX0_laysPath_4 : cX0_laysPath.data.toList.drop 93 = dktX0_laysPath_4 := dk_seg dksX0_laysPath_3 24 rfl rfl
theorem dX0_laysPath_0 : decode cX0_laysPath 0 = .ok (.aload_n 0, 1) := dk_42 (dk_at dksX0_laysPath_0 0 rfl rfl)
theorem dX0_laysPath_1 : decode cX0_laysPath 1 = .ok (.iconst 0, 1) := dk_3 (dk_at dksX0_laysPath_0 1 rfl rfl)
theorem dX0_laysPath_2 : decode cX0_laysPath 2 = .ok (.putfield 256, 3) := dk_181 1 0 (dk_at dksX0_laysPath_0 2 rfl rfl)
theorem dX0_laysPath_5 : decode cX0_laysPath 5 = .ok (.aload_n 0, 1) := dk_42 (dk_at dksX0_laysPath_0 5 rfl rfl)
theorem dX0_laysPath_6 : decode cX0_laysPath 6 = .ok (.getfield 30, 3) := dk_180 0 30 (dk_at dksX0_laysPath_0 6 rfl rfl)
theorem dX0_laysPath_9 : decode cX0_laysPath 9 = .ok (.getfield 170, 3) := dk_180 0 170 (dk_at dksX0_laysPath_0 9 rfl rfl)
theorem dX0_laysPath_12 : decode cX0_laysPath 12 = .ok (.istore_n 1, 1) := dk_60 (dk_at dksX0_laysPath_0 12 rfl rfl)
theorem dX0_laysPath_13 : decode cX0_laysPath 13 = .ok (.aload_n 0, 1) := dk_42 (dk_at dksX0_laysPath_0 13 rfl rfl)
theorem dX0_laysPath_14 : decode cX0_laysPath 14 = .ok (.getfield 53, 3) := dk_180 0 53 (dk_at dksX0_laysPath_0 14 rfl rfl)
theorem dX0_laysPath_17 : decode cX0_laysPath 17 = .ok (.iload_n 1, 1) := dk_27 (dk_at dksX0_laysPath_0 17 rfl rfl)
theorem dX0_laysPath_18 : decode cX0_laysPath 18 = .ok (.iaload, 1) := dk_46 (dk_at dksX0_laysPath_0 18 rfl rfl)
theorem dX0_laysPath_19 : decode cX0_laysPath 19 = .ok (.ifCond .le 88, 3) := dk_158 0 88 (dk_at dksX0_laysPath_0 19 rfl rfl)
theorem dX0_laysPath_22 : decode cX0_laysPath 22 = .ok (.iconst 0, 1) := dk_3 (dk_at dksX0_laysPath_0 22 rfl rfl)
theorem dX0_laysPath_23 : decode cX0_laysPath 23 = .ok (.istore_n 2, 1) := dk_61 (dk_at dksX0_laysPath_0 23 rfl rfl)
theorem dX0_laysPath_24 : decode cX0_laysPath 24 = .ok (.aload_n 0, 1) := dk_42 (dk_at dksX0_laysPath_1 0 rfl rfl)
theorem dX0_laysPath_25 : decode cX0_laysPath 25 = .ok (.getfield 49, 3) := dk_180 0 49 (dk_at dksX0_laysPath_1 1 rfl rfl)
theorem dX0_laysPath_28 : decode cX0_laysPath 28 = .ok (.bipush 8, 2) := dk_16 8 (dk_at dksX0_laysPath_1 4 rfl rfl)
theorem dX0_laysPath_30 : decode cX0_laysPath 30 = .ok (.iload_n 1, 1) := dk_27 (dk_at dksX0_laysPath_1 6 rfl rfl)
theorem dX0_laysPath_31 : decode cX0_laysPath 31 = .ok (.imul, 1) := dk_104 (dk_at dksX0_laysPath_1 7 rfl rfl)
theorem dX0_laysPath_32 : decode cX0_laysPath 32 = .ok (.iload_n 2, 1) := dk_28 (dk_at dksX0_laysPath_1 8 rfl rfl)
theorem dX0_laysPath_33 : decode cX0_laysPath 33 = .ok (.iadd, 1) := dk_96 (dk_at dksX0_laysPath_1 9 rfl rfl)
theorem dX0_laysPath_34 : decode cX0_laysPath 34 = .ok (.iaload, 1) := dk_46 (dk_at dksX0_laysPath_1 10 rfl rfl)
theorem dX0_laysPath_35 : decode cX0_laysPath 35 = .ok (.iconst (-1), 1) := dk_2 (dk_at dksX0_laysPath_1 11 rfl rfl)
theorem dX0_laysPath_36 : decode cX0_laysPath 36 = .ok (.if_icmp .eq 30, 3) := dk_159 0 30 (dk_at dksX0_laysPath_1 12 rfl rfl)
theorem dX0_laysPath_39 : decode cX0_laysPath 39 = .ok (.aload_n 0, 1) := dk_42 (dk_at dksX0_laysPath_1 15 rfl rfl)
theorem dX0_laysPath_40 : decode cX0_laysPath 40 = .ok (.getfield 53, 3) := dk_180 0 53 (dk_at dksX0_laysPath_1 16 rfl rfl)
theorem dX0_laysPath_43 : decode cX0_laysPath 43 = .ok (.aload_n 0, 1) := dk_42 (dk_at dksX0_laysPath_1 19 rfl rfl)
theorem dX0_laysPath_44 : decode cX0_laysPath 44 = .ok (.getfield 49, 3) := dk_180 0 49 (dk_at dksX0_laysPath_1 20 rfl rfl)
theorem dX0_laysPath_47 : decode cX0_laysPath 47 = .ok (.bipush 8, 2) := dk_16 8 (dk_at dksX0_laysPath_2 0 rfl rfl)
theorem dX0_laysPath_49 : decode cX0_laysPath 49 = .ok (.iload_n 1, 1) := dk_27 (dk_at dksX0_laysPath_2 2 rfl rfl)
theorem dX0_laysPath_50 : decode cX0_laysPath 50 = .ok (.imul, 1) := dk_104 (dk_at dksX0_laysPath_2 3 rfl rfl)
theorem dX0_laysPath_51 : decode cX0_laysPath 51 = .ok (.iload_n 2, 1) := dk_28 (dk_at dksX0_laysPath_2 4 rfl rfl)
theorem dX0_laysPath_52 : decode cX0_laysPath 52 = .ok (.iadd, 1) := dk_96 (dk_at dksX0_laysPath_2 5 rfl rfl)
theorem dX0_laysPath_53 : decode cX0_laysPath 53 = .ok (.iaload, 1) := dk_46 (dk_at dksX0_laysPath_2 6 rfl rfl)
theorem dX0_laysPath_54 : decode cX0_laysPath 54 = .ok (.iaload, 1) := dk_46 (dk_at dksX0_laysPath_2 7 rfl rfl)
theorem dX0_laysPath_55 : decode cX0_laysPath 55 = .ok (.aload_n 0, 1) := dk_42 (dk_at dksX0_laysPath_2 8 rfl rfl)
theorem dX0_laysPath_56 : decode cX0_laysPath 56 = .ok (.getfield 53, 3) := dk_180 0 53 (dk_at dksX0_laysPath_2 9 rfl rfl)
theorem dX0_laysPath_59 : decode cX0_laysPath 59 = .ok (.iload_n 1, 1) := dk_27 (dk_at dksX0_laysPath_2 12 rfl rfl)
theorem dX0_laysPath_60 : decode cX0_laysPath 60 = .ok (.iaload, 1) := dk_46 (dk_at dksX0_laysPath_2 13 rfl rfl)
theorem dX0_laysPath_61 : decode cX0_laysPath 61 = .ok (.iconst 1, 1) := dk_4 (dk_at dksX0_laysPath_2 14 rfl rfl)
theorem dX0_laysPath_62 : decode cX0_laysPath 62 = .ok (.isub, 1) := dk_100 (dk_at dksX0_laysPath_2 15 rfl rfl)
theorem dX0_laysPath_63 : decode cX0_laysPath 63 = .ok (.if_icmp .eq 9, 3) := dk_159 0 9 (dk_at dksX0_laysPath_2 16 rfl rfl)
theorem dX0_laysPath_66 : decode cX0_laysPath 66 = .ok (.iinc 2 1, 3) := dk_132 2 1 (dk_at dksX0_laysPath_2 19 rfl rfl)
theorem dX0_laysPath_69 : decode cX0_laysPath 69 = .ok (.goto (-45), 3) := dk_167 255 211 (dk_at dksX0_laysPath_3 0 rfl rfl)
theorem dX0_laysPath_72 : decode cX0_laysPath 72 = .ok (.aload_n 0, 1) := dk_42 (dk_at dksX0_laysPath_3 3 rfl rfl)
theorem dX0_laysPath_73 : decode cX0_laysPath 73 = .ok (.getfield 56, 3) := dk_180 0 56 (dk_at dksX0_laysPath_3 4 rfl rfl)
theorem dX0_laysPath_76 : decode cX0_laysPath 76 = .ok (.aload_n 0, 1) := dk_42 (dk_at dksX0_laysPath_3 7 rfl rfl)
theorem dX0_laysPath_77 : decode cX0_laysPath 77 = .ok (.getfield 256, 3) := dk_180 1 0 (dk_at dksX0_laysPath_3 8 rfl rfl)
theorem dX0_laysPath_80 : decode cX0_laysPath 80 = .ok (.iload_n 2, 1) := dk_28 (dk_at dksX0_laysPath_3 11 rfl rfl)
theorem dX0_laysPath_81 : decode cX0_laysPath 81 = .ok (.iastore, 1) := dk_79 (dk_at dksX0_laysPath_3 12 rfl rfl)
theorem dX0_laysPath_82 : decode cX0_laysPath 82 = .ok (.aload_n 0, 1) := dk_42 (dk_at dksX0_laysPath_3 13 rfl rfl)
theorem dX0_laysPath_83 : decode cX0_laysPath 83 = .ok (.dup, 1) := dk_89 (dk_at dksX0_laysPath_3 14 rfl rfl)
theorem dX0_laysPath_84 : decode cX0_laysPath 84 = .ok (.getfield 256, 3) := dk_180 1 0 (dk_at dksX0_laysPath_3 15 rfl rfl)
theorem dX0_laysPath_87 : decode cX0_laysPath 87 = .ok (.iconst 1, 1) := dk_4 (dk_at dksX0_laysPath_3 18 rfl rfl)
theorem dX0_laysPath_88 : decode cX0_laysPath 88 = .ok (.iadd, 1) := dk_96 (dk_at dksX0_laysPath_3 19 rfl rfl)
theorem dX0_laysPath_89 : decode cX0_laysPath 89 = .ok (.putfield 256, 3) := dk_181 1 0 (dk_at dksX0_laysPath_3 20 rfl rfl)
theorem dX0_laysPath_92 : decode cX0_laysPath 92 = .ok (.aload_n 0, 1) := dk_42 (dk_at dksX0_laysPath_3 23 rfl rfl)
theorem dX0_laysPath_93 : decode cX0_laysPath 93 = .ok (.getfield 49, 3) := dk_180 0 49 (dk_at dksX0_laysPath_4 0 rfl rfl)
theorem dX0_laysPath_96 : decode cX0_laysPath 96 = .ok (.bipush 8, 2) := dk_16 8 (dk_at dksX0_laysPath_4 3 rfl rfl)
theorem dX0_laysPath_98 : decode cX0_laysPath 98 = .ok (.iload_n 1, 1) := dk_27 (dk_at dksX0_laysPath_4 5 rfl rfl)
theorem dX0_laysPath_99 : decode cX0_laysPath 99 = .ok (.imul, 1) := dk_104 (dk_at dksX0_laysPath_4 6 rfl rfl)
theorem dX0_laysPath_100 : decode cX0_laysPath 100 = .ok (.iload_n 2, 1) := dk_28 (dk_at dksX0_laysPath_4 7 rfl rfl)
theorem dX0_laysPath_101 : decode cX0_laysPath 101 = .ok (.iadd, 1) := dk_96 (dk_at dksX0_laysPath_4 8 rfl rfl)
theorem dX0_laysPath_102 : decode cX0_laysPath 102 = .ok (.iaload, 1) := dk_46 (dk_at dksX0_laysPath_4 9 rfl rfl)
theorem dX0_laysPath_103 : decode cX0_laysPath 103 = .ok (.istore_n 1, 1) := dk_60 (dk_at dksX0_laysPath_4 10 rfl rfl)
theorem dX0_laysPath_104 : decode cX0_laysPath 104 = .ok (.goto (-91), 3) := dk_167 255 165 (dk_at dksX0_laysPath_4 11 rfl rfl)
theorem dX0_laysPath_107 : decode cX0_laysPath 107 = .ok (.return_, 1) := dk_177 (dk_at dksX0_laysPath_4 14 rfl rfl)
abbrev cX0_least : ByteArray := prog_1_method_41_code
def yX0_least : MethodName := ⟨RX0, "least", "(I)I"⟩
def dkwX0_least_1 : List UInt8 := [2, 159, 0, 5, 28, 172, 132, 2, 1, 167, 255, 236, 2, 172]
abbrev dktX0_least_1 : List UInt8 := dkwX0_least_1 ++ []
def dkwX0_least_0 : List UInt8 := [42, 27, 182, 1, 3, 154, 0, 6, 16, 254, 172, 3, 61, 28, 8, 162, 0, 21, 42, 27, 28, 182, 1, 17]
abbrev dktX0_least_0 : List UInt8 := dkwX0_least_0 ++ dktX0_least_1
theorem dksX0_least_0 : cX0_least.data.toList.drop 0 = dktX0_least_0 := by decide +kernel
theorem dksX0_least_1 : cX0_least.data.toList.drop 24 = dktX0_least_1 := dk_seg dksX0_least_0 24 rfl rfl
theorem dX0_least_0 : decode cX0_least 0 = .ok (.aload_n 0, 1) := dk_42 (dk_at dksX0_least_0 0 rfl rfl)
theorem dX0_least_1 : decode cX0_least 1 = .ok (.iload_n 1, 1) := dk_27 (dk_at dksX0_least_0 1 rfl rfl)
theorem dX0_least_2 : decode cX0_least 2 = .ok (.invokevirtual 259, 3) := dk_182 1 3 (dk_at dksX0_least_0 2 rfl rfl)
theorem dX0_least_5 : decode cX0_least 5 = .ok (.ifCond .ne 6, 3) := dk_154 0 6 (dk_at dksX0_least_0 5 rfl rfl)
theorem dX0_least_8 : decode cX0_least 8 = .ok (.bipush (-2), 2) := dk_16 254 (dk_at dksX0_least_0 8 rfl rfl)
theorem dX0_least_10 : decode cX0_least 10 = .ok (.ireturn, 1) := dk_172 (dk_at dksX0_least_0 10 rfl rfl)
theorem dX0_least_11 : decode cX0_least 11 = .ok (.iconst 0, 1) := dk_3 (dk_at dksX0_least_0 11 rfl rfl)
theorem dX0_least_12 : decode cX0_least 12 = .ok (.istore_n 2, 1) := dk_61 (dk_at dksX0_least_0 12 rfl rfl)
theorem dX0_least_13 : decode cX0_least 13 = .ok (.iload_n 2, 1) := dk_28 (dk_at dksX0_least_0 13 rfl rfl)
theorem dX0_least_14 : decode cX0_least 14 = .ok (.iconst 5, 1) := dk_8 (dk_at dksX0_least_0 14 rfl rfl)
theorem dX0_least_15 : decode cX0_least 15 = .ok (.if_icmp .ge 21, 3) := dk_162 0 21 (dk_at dksX0_least_0 15 rfl rfl)
theorem dX0_least_18 : decode cX0_least 18 = .ok (.aload_n 0, 1) := dk_42 (dk_at dksX0_least_0 18 rfl rfl)
theorem dX0_least_19 : decode cX0_least 19 = .ok (.iload_n 1, 1) := dk_27 (dk_at dksX0_least_0 19 rfl rfl)
theorem dX0_least_20 : decode cX0_least 20 = .ok (.iload_n 2, 1) := dk_28 (dk_at dksX0_least_0 20 rfl rfl)
theorem dX0_least_21 : decode cX0_least 21 = .ok (.invokevirtual 273, 3) := dk_182 1 17 (dk_at dksX0_least_0 21 rfl rfl)
theorem dX0_least_24 : decode cX0_least 24 = .ok (.iconst (-1), 1) := dk_2 (dk_at dksX0_least_1 0 rfl rfl)
theorem dX0_least_25 : decode cX0_least 25 = .ok (.if_icmp .eq 5, 3) := dk_159 0 5 (dk_at dksX0_least_1 1 rfl rfl)
theorem dX0_least_28 : decode cX0_least 28 = .ok (.iload_n 2, 1) := dk_28 (dk_at dksX0_least_1 4 rfl rfl)
theorem dX0_least_29 : decode cX0_least 29 = .ok (.ireturn, 1) := dk_172 (dk_at dksX0_least_1 5 rfl rfl)
theorem dX0_least_30 : decode cX0_least 30 = .ok (.iinc 2 1, 3) := dk_132 2 1 (dk_at dksX0_least_1 6 rfl rfl)
theorem dX0_least_33 : decode cX0_least 33 = .ok (.goto (-20), 3) := dk_167 255 236 (dk_at dksX0_least_1 9 rfl rfl)
theorem dX0_least_36 : decode cX0_least 36 = .ok (.iconst (-1), 1) := dk_2 (dk_at dksX0_least_1 12 rfl rfl)
theorem dX0_least_37 : decode cX0_least 37 = .ok (.ireturn, 1) := dk_172 (dk_at dksX0_least_1 13 rfl rfl)
abbrev cX0_stands : ByteArray := prog_1_method_43_code
def yX0_stands : MethodName := ⟨RX0, "stands", "()I"⟩
def dkwX0_stands_2 : List UInt8 := [3, 184, 0, 159, 96, 60, 132, 2, 1, 167, 255, 220, 27, 172]
abbrev dktX0_stands_2 : List UInt8 := dkwX0_stands_2 ++ []
def dkwX0_stands_1 : List UInt8 := [162, 0, 36, 27, 42, 180, 0, 59, 28, 51, 153, 0, 14, 28, 184, 1, 26, 154, 0, 7, 4, 167, 0, 4]
abbrev dktX0_stands_1 : List UInt8 := dkwX0_stands_1 ++ dktX0_stands_2
def dkwX0_stands_0 : List UInt8 := [42, 182, 1, 8, 42, 42, 180, 0, 30, 180, 0, 170, 182, 1, 23, 3, 60, 3, 61, 28, 16, 36]
abbrev dktX0_stands_0 : List UInt8 := dkwX0_stands_0 ++ dktX0_stands_1
theorem dksX0_stands_0 : cX0_stands.data.toList.drop 0 = dktX0_stands_0 := by decide +kernel
theorem dksX0_stands_1 : cX0_stands.data.toList.drop 22 = dktX0_stands_1 := dk_seg dksX0_stands_0 22 rfl rfl
theorem dksX0_stands_2 : cX0_stands.data.toList.drop 46 = dktX0_stands_2 := dk_seg dksX0_stands_1 24 rfl rfl
theorem dX0_stands_0 : decode cX0_stands 0 = .ok (.aload_n 0, 1) := dk_42 (dk_at dksX0_stands_0 0 rfl rfl)
theorem dX0_stands_1 : decode cX0_stands 1 = .ok (.invokevirtual 264, 3) := dk_182 1 8 (dk_at dksX0_stands_0 1 rfl rfl)
theorem dX0_stands_4 : decode cX0_stands 4 = .ok (.aload_n 0, 1) := dk_42 (dk_at dksX0_stands_0 4 rfl rfl)
theorem dX0_stands_5 : decode cX0_stands 5 = .ok (.aload_n 0, 1) := dk_42 (dk_at dksX0_stands_0 5 rfl rfl)
theorem dX0_stands_6 : decode cX0_stands 6 = .ok (.getfield 30, 3) := dk_180 0 30 (dk_at dksX0_stands_0 6 rfl rfl)
theorem dX0_stands_9 : decode cX0_stands 9 = .ok (.getfield 170, 3) := dk_180 0 170 (dk_at dksX0_stands_0 9 rfl rfl)
theorem dX0_stands_12 : decode cX0_stands 12 = .ok (.invokevirtual 279, 3) := dk_182 1 23 (dk_at dksX0_stands_0 12 rfl rfl)
theorem dX0_stands_15 : decode cX0_stands 15 = .ok (.iconst 0, 1) := dk_3 (dk_at dksX0_stands_0 15 rfl rfl)
theorem dX0_stands_16 : decode cX0_stands 16 = .ok (.istore_n 1, 1) := dk_60 (dk_at dksX0_stands_0 16 rfl rfl)
theorem dX0_stands_17 : decode cX0_stands 17 = .ok (.iconst 0, 1) := dk_3 (dk_at dksX0_stands_0 17 rfl rfl)
theorem dX0_stands_18 : decode cX0_stands 18 = .ok (.istore_n 2, 1) := dk_61 (dk_at dksX0_stands_0 18 rfl rfl)
theorem dX0_stands_19 : decode cX0_stands 19 = .ok (.iload_n 2, 1) := dk_28 (dk_at dksX0_stands_0 19 rfl rfl)
theorem dX0_stands_20 : decode cX0_stands 20 = .ok (.bipush 36, 2) := dk_16 36 (dk_at dksX0_stands_0 20 rfl rfl)
theorem dX0_stands_22 : decode cX0_stands 22 = .ok (.if_icmp .ge 36, 3) := dk_162 0 36 (dk_at dksX0_stands_1 0 rfl rfl)
theorem dX0_stands_25 : decode cX0_stands 25 = .ok (.iload_n 1, 1) := dk_27 (dk_at dksX0_stands_1 3 rfl rfl)
theorem dX0_stands_26 : decode cX0_stands 26 = .ok (.aload_n 0, 1) := dk_42 (dk_at dksX0_stands_1 4 rfl rfl)
theorem dX0_stands_27 : decode cX0_stands 27 = .ok (.getfield 59, 3) := dk_180 0 59 (dk_at dksX0_stands_1 5 rfl rfl)
theorem dX0_stands_30 : decode cX0_stands 30 = .ok (.iload_n 2, 1) := dk_28 (dk_at dksX0_stands_1 8 rfl rfl)
theorem dX0_stands_31 : decode cX0_stands 31 = .ok (.baload, 1) := dk_51 (dk_at dksX0_stands_1 9 rfl rfl)
theorem dX0_stands_32 : decode cX0_stands 32 = .ok (.ifCond .eq 14, 3) := dk_153 0 14 (dk_at dksX0_stands_1 10 rfl rfl)
theorem dX0_stands_35 : decode cX0_stands 35 = .ok (.iload_n 2, 1) := dk_28 (dk_at dksX0_stands_1 13 rfl rfl)
theorem dX0_stands_36 : decode cX0_stands 36 = .ok (.invokestatic 282, 3) := dk_184 1 26 (dk_at dksX0_stands_1 14 rfl rfl)
theorem dX0_stands_39 : decode cX0_stands 39 = .ok (.ifCond .ne 7, 3) := dk_154 0 7 (dk_at dksX0_stands_1 17 rfl rfl)
theorem dX0_stands_42 : decode cX0_stands 42 = .ok (.iconst 1, 1) := dk_4 (dk_at dksX0_stands_1 20 rfl rfl)
theorem dX0_stands_43 : decode cX0_stands 43 = .ok (.goto 4, 3) := dk_167 0 4 (dk_at dksX0_stands_1 21 rfl rfl)
theorem dX0_stands_46 : decode cX0_stands 46 = .ok (.iconst 0, 1) := dk_3 (dk_at dksX0_stands_2 0 rfl rfl)
theorem dX0_stands_47 : decode cX0_stands 47 = .ok (.invokestatic 159, 3) := dk_184 0 159 (dk_at dksX0_stands_2 1 rfl rfl)
theorem dX0_stands_50 : decode cX0_stands 50 = .ok (.iadd, 1) := dk_96 (dk_at dksX0_stands_2 4 rfl rfl)
theorem dX0_stands_51 : decode cX0_stands 51 = .ok (.istore_n 1, 1) := dk_60 (dk_at dksX0_stands_2 5 rfl rfl)
theorem dX0_stands_52 : decode cX0_stands 52 = .ok (.iinc 2 1, 3) := dk_132 2 1 (dk_at dksX0_stands_2 6 rfl rfl)
theorem dX0_stands_55 : decode cX0_stands 55 = .ok (.goto (-36), 3) := dk_167 255 220 (dk_at dksX0_stands_2 9 rfl rfl)
theorem dX0_stands_58 : decode cX0_stands 58 = .ok (.iload_n 1, 1) := dk_27 (dk_at dksX0_stands_2 12 rfl rfl)
theorem dX0_stands_59 : decode cX0_stands 59 = .ok (.ireturn, 1) := dk_172 (dk_at dksX0_stands_2 13 rfl rfl)
abbrev cX0_meetsAll : ByteArray := prog_1_method_42_code
def yX0_meetsAll : MethodName := ⟨RX0, "meetsAll", "(I)V"⟩
def dkwX0_meetsAll_5 : List UInt8 := [167, 255, 189, 132, 3, 1, 167, 255, 174, 167, 255, 163, 177]
abbrev dktX0_meetsAll_5 : List UInt8 := dkwX0_meetsAll_5 ++ []
def dkwX0_meetsAll_4 : List UInt8 := [21, 5, 51, 153, 0, 6, 167, 0, 13, 42, 180, 0, 59, 21, 5, 4, 84, 4, 61, 132, 4, 1]
abbrev dktX0_meetsAll_4 : List UInt8 := dkwX0_meetsAll_4 ++ dktX0_meetsAll_5
def dkwX0_meetsAll_3 : List UInt8 := [180, 0, 49, 16, 8, 29, 104, 21, 4, 96, 46, 54, 5, 21, 5, 2, 159, 0, 26, 42, 180, 0, 59]
abbrev dktX0_meetsAll_3 : List UInt8 := dkwX0_meetsAll_3 ++ dktX0_meetsAll_4
def dkwX0_meetsAll_2 : List UInt8 := [54, 4, 21, 4, 42, 180, 0, 21, 180, 0, 133, 162, 0, 61, 42, 180, 0, 59, 29, 51, 153, 0, 52, 42]
abbrev dktX0_meetsAll_2 : List UInt8 := dkwX0_meetsAll_2 ++ dktX0_meetsAll_3
def dkwX0_meetsAll_1 : List UInt8 := [132, 2, 1, 167, 255, 231, 4, 61, 28, 153, 0, 95, 3, 61, 3, 62, 29, 16, 36, 162, 0, 82, 3]
abbrev dktX0_meetsAll_1 : List UInt8 := dkwX0_meetsAll_1 ++ dktX0_meetsAll_2
def dkwX0_meetsAll_0 : List UInt8 := [3, 61, 28, 16, 36, 162, 0, 25, 42, 180, 0, 59, 28, 28, 27, 160, 0, 7, 4, 167, 0, 4, 3, 84]
abbrev dktX0_meetsAll_0 : List UInt8 := dkwX0_meetsAll_0 ++ dktX0_meetsAll_1
theorem dksX0_meetsAll_0 : cX0_meetsAll.data.toList.drop 0 = dktX0_meetsAll_0 := by decide +kernel
theorem dksX0_meetsAll_1 : cX0_meetsAll.data.toList.drop 24 = dktX0_meetsAll_1 := dk_seg dksX0_meetsAll_0 24 rfl rfl
theorem dksX0_meetsAll_2 : cX0_meetsAll.data.toList.drop 47 = dktX0_meetsAll_2 := dk_seg dksX0_meetsAll_1 23 rfl rfl
theorem dksX0_meetsAll_3 : cX0_meetsAll.data.toList.drop 71 = dktX0_meetsAll_3 := dk_seg dksX0_meetsAll_2 24 rfl rfl
theorem dksX0_meetsAll_4 : cX0_meetsAll.data.toList.drop 94 = dktX0_meetsAll_4 := dk_seg dksX0_meetsAll_3 23 rfl rfl
theorem dksX0_meetsAll_5 : cX0_meetsAll.data.toList.drop 116 = dktX0_meetsAll_5 := dk_seg dksX0_meetsAll_4 22 rfl rfl
theorem dX0_meetsAll_0 : decode cX0_meetsAll 0 = .ok (.iconst 0, 1) := dk_3 (dk_at dksX0_meetsAll_0 0 rfl rfl)
theorem dX0_meetsAll_1 : decode cX0_meetsAll 1 = .ok (.istore_n 2, 1) := dk_61 (dk_at dksX0_meetsAll_0 1 rfl rfl)
theorem dX0_meetsAll_2 : decode cX0_meetsAll 2 = .ok (.iload_n 2, 1) := dk_28 (dk_at dksX0_meetsAll_0 2 rfl rfl)
theorem dX0_meetsAll_3 : decode cX0_meetsAll 3 = .ok (.bipush 36, 2) := dk_16 36 (dk_at dksX0_meetsAll_0 3 rfl rfl)
theorem dX0_meetsAll_5 : decode cX0_meetsAll 5 = .ok (.if_icmp .ge 25, 3) := dk_162 0 25 (dk_at dksX0_meetsAll_0 5 rfl rfl)
theorem dX0_meetsAll_8 : decode cX0_meetsAll 8 = .ok (.aload_n 0, 1) := dk_42 (dk_at dksX0_meetsAll_0 8 rfl rfl)
theorem dX0_meetsAll_9 : decode cX0_meetsAll 9 = .ok (.getfield 59, 3) := dk_180 0 59 (dk_at dksX0_meetsAll_0 9 rfl rfl)
theorem dX0_meetsAll_12 : decode cX0_meetsAll 12 = .ok (.iload_n 2, 1) := dk_28 (dk_at dksX0_meetsAll_0 12 rfl rfl)
theorem dX0_meetsAll_13 : decode cX0_meetsAll 13 = .ok (.iload_n 2, 1) := dk_28 (dk_at dksX0_meetsAll_0 13 rfl rfl)
theorem dX0_meetsAll_14 : decode cX0_meetsAll 14 = .ok (.iload_n 1, 1) := dk_27 (dk_at dksX0_meetsAll_0 14 rfl rfl)
theorem dX0_meetsAll_15 : decode cX0_meetsAll 15 = .ok (.if_icmp .ne 7, 3) := dk_160 0 7 (dk_at dksX0_meetsAll_0 15 rfl rfl)
theorem dX0_meetsAll_18 : decode cX0_meetsAll 18 = .ok (.iconst 1, 1) := dk_4 (dk_at dksX0_meetsAll_0 18 rfl rfl)
theorem dX0_meetsAll_19 : decode cX0_meetsAll 19 = .ok (.goto 4, 3) := dk_167 0 4 (dk_at dksX0_meetsAll_0 19 rfl rfl)
theorem dX0_meetsAll_22 : decode cX0_meetsAll 22 = .ok (.iconst 0, 1) := dk_3 (dk_at dksX0_meetsAll_0 22 rfl rfl)
theorem dX0_meetsAll_23 : decode cX0_meetsAll 23 = .ok (.bastore, 1) := dk_84 (dk_at dksX0_meetsAll_0 23 rfl rfl)
theorem dX0_meetsAll_24 : decode cX0_meetsAll 24 = .ok (.iinc 2 1, 3) := dk_132 2 1 (dk_at dksX0_meetsAll_1 0 rfl rfl)
theorem dX0_meetsAll_27 : decode cX0_meetsAll 27 = .ok (.goto (-25), 3) := dk_167 255 231 (dk_at dksX0_meetsAll_1 3 rfl rfl)
theorem dX0_meetsAll_30 : decode cX0_meetsAll 30 = .ok (.iconst 1, 1) := dk_4 (dk_at dksX0_meetsAll_1 6 rfl rfl)
theorem dX0_meetsAll_31 : decode cX0_meetsAll 31 = .ok (.istore_n 2, 1) := dk_61 (dk_at dksX0_meetsAll_1 7 rfl rfl)
theorem dX0_meetsAll_32 : decode cX0_meetsAll 32 = .ok (.iload_n 2, 1) := dk_28 (dk_at dksX0_meetsAll_1 8 rfl rfl)
theorem dX0_meetsAll_33 : decode cX0_meetsAll 33 = .ok (.ifCond .eq 95, 3) := dk_153 0 95 (dk_at dksX0_meetsAll_1 9 rfl rfl)
theorem dX0_meetsAll_36 : decode cX0_meetsAll 36 = .ok (.iconst 0, 1) := dk_3 (dk_at dksX0_meetsAll_1 12 rfl rfl)
theorem dX0_meetsAll_37 : decode cX0_meetsAll 37 = .ok (.istore_n 2, 1) := dk_61 (dk_at dksX0_meetsAll_1 13 rfl rfl)
theorem dX0_meetsAll_38 : decode cX0_meetsAll 38 = .ok (.iconst 0, 1) := dk_3 (dk_at dksX0_meetsAll_1 14 rfl rfl)
theorem dX0_meetsAll_39 : decode cX0_meetsAll 39 = .ok (.istore_n 3, 1) := dk_62 (dk_at dksX0_meetsAll_1 15 rfl rfl)
theorem dX0_meetsAll_40 : decode cX0_meetsAll 40 = .ok (.iload_n 3, 1) := dk_29 (dk_at dksX0_meetsAll_1 16 rfl rfl)
theorem dX0_meetsAll_41 : decode cX0_meetsAll 41 = .ok (.bipush 36, 2) := dk_16 36 (dk_at dksX0_meetsAll_1 17 rfl rfl)
theorem dX0_meetsAll_43 : decode cX0_meetsAll 43 = .ok (.if_icmp .ge 82, 3) := dk_162 0 82 (dk_at dksX0_meetsAll_1 19 rfl rfl)
theorem dX0_meetsAll_46 : decode cX0_meetsAll 46 = .ok (.iconst 0, 1) := dk_3 (dk_at dksX0_meetsAll_1 22 rfl rfl)
theorem dX0_meetsAll_47 : decode cX0_meetsAll 47 = .ok (.istore 4, 2) := dk_54 4 (dk_at dksX0_meetsAll_2 0 rfl rfl)
theorem dX0_meetsAll_49 : decode cX0_meetsAll 49 = .ok (.iload 4, 2) := dk_21 4 (dk_at dksX0_meetsAll_2 2 rfl rfl)
theorem dX0_meetsAll_51 : decode cX0_meetsAll 51 = .ok (.aload_n 0, 1) := dk_42 (dk_at dksX0_meetsAll_2 4 rfl rfl)
theorem dX0_meetsAll_52 : decode cX0_meetsAll 52 = .ok (.getfield 21, 3) := dk_180 0 21 (dk_at dksX0_meetsAll_2 5 rfl rfl)
theorem dX0_meetsAll_55 : decode cX0_meetsAll 55 = .ok (.getfield 133, 3) := dk_180 0 133 (dk_at dksX0_meetsAll_2 8 rfl rfl)
theorem dX0_meetsAll_58 : decode cX0_meetsAll 58 = .ok (.if_icmp .ge 61, 3) := dk_162 0 61 (dk_at dksX0_meetsAll_2 11 rfl rfl)
theorem dX0_meetsAll_61 : decode cX0_meetsAll 61 = .ok (.aload_n 0, 1) := dk_42 (dk_at dksX0_meetsAll_2 14 rfl rfl)
theorem dX0_meetsAll_62 : decode cX0_meetsAll 62 = .ok (.getfield 59, 3) := dk_180 0 59 (dk_at dksX0_meetsAll_2 15 rfl rfl)
theorem dX0_meetsAll_65 : decode cX0_meetsAll 65 = .ok (.iload_n 3, 1) := dk_29 (dk_at dksX0_meetsAll_2 18 rfl rfl)
theorem dX0_meetsAll_66 : decode cX0_meetsAll 66 = .ok (.baload, 1) := dk_51 (dk_at dksX0_meetsAll_2 19 rfl rfl)
theorem dX0_meetsAll_67 : decode cX0_meetsAll 67 = .ok (.ifCond .eq 52, 3) := dk_153 0 52 (dk_at dksX0_meetsAll_2 20 rfl rfl)
theorem dX0_meetsAll_70 : decode cX0_meetsAll 70 = .ok (.aload_n 0, 1) := dk_42 (dk_at dksX0_meetsAll_2 23 rfl rfl)
theorem dX0_meetsAll_71 : decode cX0_meetsAll 71 = .ok (.getfield 49, 3) := dk_180 0 49 (dk_at dksX0_meetsAll_3 0 rfl rfl)
theorem dX0_meetsAll_74 : decode cX0_meetsAll 74 = .ok (.bipush 8, 2) := dk_16 8 (dk_at dksX0_meetsAll_3 3 rfl rfl)
theorem dX0_meetsAll_76 : decode cX0_meetsAll 76 = .ok (.iload_n 3, 1) := dk_29 (dk_at dksX0_meetsAll_3 5 rfl rfl)
theorem dX0_meetsAll_77 : decode cX0_meetsAll 77 = .ok (.imul, 1) := dk_104 (dk_at dksX0_meetsAll_3 6 rfl rfl)
theorem dX0_meetsAll_78 : decode cX0_meetsAll 78 = .ok (.iload 4, 2) := dk_21 4 (dk_at dksX0_meetsAll_3 7 rfl rfl)
theorem dX0_meetsAll_80 : decode cX0_meetsAll 80 = .ok (.iadd, 1) := dk_96 (dk_at dksX0_meetsAll_3 9 rfl rfl)
theorem dX0_meetsAll_81 : decode cX0_meetsAll 81 = .ok (.iaload, 1) := dk_46 (dk_at dksX0_meetsAll_3 10 rfl rfl)
theorem dX0_meetsAll_82 : decode cX0_meetsAll 82 = .ok (.istore 5, 2) := dk_54 5 (dk_at dksX0_meetsAll_3 11 rfl rfl)
theorem dX0_meetsAll_84 : decode cX0_meetsAll 84 = .ok (.iload 5, 2) := dk_21 5 (dk_at dksX0_meetsAll_3 13 rfl rfl)
theorem dX0_meetsAll_86 : decode cX0_meetsAll 86 = .ok (.iconst (-1), 1) := dk_2 (dk_at dksX0_meetsAll_3 15 rfl rfl)
theorem dX0_meetsAll_87 : decode cX0_meetsAll 87 = .ok (.if_icmp .eq 26, 3) := dk_159 0 26 (dk_at dksX0_meetsAll_3 16 rfl rfl)
theorem dX0_meetsAll_90 : decode cX0_meetsAll 90 = .ok (.aload_n 0, 1) := dk_42 (dk_at dksX0_meetsAll_3 19 rfl rfl)
theorem dX0_meetsAll_91 : decode cX0_meetsAll 91 = .ok (.getfield 59, 3) := dk_180 0 59 (dk_at dksX0_meetsAll_3 20 rfl rfl)
theorem dX0_meetsAll_94 : decode cX0_meetsAll 94 = .ok (.iload 5, 2) := dk_21 5 (dk_at dksX0_meetsAll_4 0 rfl rfl)
theorem dX0_meetsAll_96 : decode cX0_meetsAll 96 = .ok (.baload, 1) := dk_51 (dk_at dksX0_meetsAll_4 2 rfl rfl)
theorem dX0_meetsAll_97 : decode cX0_meetsAll 97 = .ok (.ifCond .eq 6, 3) := dk_153 0 6 (dk_at dksX0_meetsAll_4 3 rfl rfl)
theorem dX0_meetsAll_100 : decode cX0_meetsAll 100 = .ok (.goto 13, 3) := dk_167 0 13 (dk_at dksX0_meetsAll_4 6 rfl rfl)
theorem dX0_meetsAll_103 : decode cX0_meetsAll 103 = .ok (.aload_n 0, 1) := dk_42 (dk_at dksX0_meetsAll_4 9 rfl rfl)
theorem dX0_meetsAll_104 : decode cX0_meetsAll 104 = .ok (.getfield 59, 3) := dk_180 0 59 (dk_at dksX0_meetsAll_4 10 rfl rfl)
theorem dX0_meetsAll_107 : decode cX0_meetsAll 107 = .ok (.iload 5, 2) := dk_21 5 (dk_at dksX0_meetsAll_4 13 rfl rfl)
theorem dX0_meetsAll_109 : decode cX0_meetsAll 109 = .ok (.iconst 1, 1) := dk_4 (dk_at dksX0_meetsAll_4 15 rfl rfl)
theorem dX0_meetsAll_110 : decode cX0_meetsAll 110 = .ok (.bastore, 1) := dk_84 (dk_at dksX0_meetsAll_4 16 rfl rfl)
theorem dX0_meetsAll_111 : decode cX0_meetsAll 111 = .ok (.iconst 1, 1) := dk_4 (dk_at dksX0_meetsAll_4 17 rfl rfl)
theorem dX0_meetsAll_112 : decode cX0_meetsAll 112 = .ok (.istore_n 2, 1) := dk_61 (dk_at dksX0_meetsAll_4 18 rfl rfl)
theorem dX0_meetsAll_113 : decode cX0_meetsAll 113 = .ok (.iinc 4 1, 3) := dk_132 4 1 (dk_at dksX0_meetsAll_4 19 rfl rfl)
theorem dX0_meetsAll_116 : decode cX0_meetsAll 116 = .ok (.goto (-67), 3) := dk_167 255 189 (dk_at dksX0_meetsAll_5 0 rfl rfl)
theorem dX0_meetsAll_119 : decode cX0_meetsAll 119 = .ok (.iinc 3 1, 3) := dk_132 3 1 (dk_at dksX0_meetsAll_5 3 rfl rfl)
theorem dX0_meetsAll_122 : decode cX0_meetsAll 122 = .ok (.goto (-82), 3) := dk_167 255 174 (dk_at dksX0_meetsAll_5 6 rfl rfl)
theorem dX0_meetsAll_125 : decode cX0_meetsAll 125 = .ok (.goto (-93), 3) := dk_167 255 163 (dk_at dksX0_meetsAll_5 9 rfl rfl)
theorem dX0_meetsAll_128 : decode cX0_meetsAll 128 = .ok (.return_, 1) := dk_177 (dk_at dksX0_meetsAll_5 12 rfl rfl)
abbrev cX0_before : ByteArray := prog_1_method_47_code
def yX0_before : MethodName := ⟨RX0, "before", "(II)I"⟩
def dkwX0_before_1 : List UInt8 := [182, 1, 36, 172]
abbrev dktX0_before_1 : List UInt8 := dkwX0_before_1 ++ []
def dkwX0_before_0 : List UInt8 := [42, 27, 28, 8, 182, 1, 32, 62, 29, 153, 0, 5, 29, 172, 42, 182, 1, 8, 42, 27, 28, 184, 0, 205]
abbrev dktX0_before_0 : List UInt8 := dkwX0_before_0 ++ dktX0_before_1
theorem dksX0_before_0 : cX0_before.data.toList.drop 0 = dktX0_before_0 := by decide +kernel
theorem dksX0_before_1 : cX0_before.data.toList.drop 24 = dktX0_before_1 := dk_seg dksX0_before_0 24 rfl rfl
theorem dX0_before_0 : decode cX0_before 0 = .ok (.aload_n 0, 1) := dk_42 (dk_at dksX0_before_0 0 rfl rfl)
theorem dX0_before_1 : decode cX0_before 1 = .ok (.iload_n 1, 1) := dk_27 (dk_at dksX0_before_0 1 rfl rfl)
theorem dX0_before_2 : decode cX0_before 2 = .ok (.iload_n 2, 1) := dk_28 (dk_at dksX0_before_0 2 rfl rfl)
theorem dX0_before_3 : decode cX0_before 3 = .ok (.iconst 5, 1) := dk_8 (dk_at dksX0_before_0 3 rfl rfl)
theorem dX0_before_4 : decode cX0_before 4 = .ok (.invokevirtual 288, 3) := dk_182 1 32 (dk_at dksX0_before_0 4 rfl rfl)
theorem dX0_before_7 : decode cX0_before 7 = .ok (.istore_n 3, 1) := dk_62 (dk_at dksX0_before_0 7 rfl rfl)
theorem dX0_before_8 : decode cX0_before 8 = .ok (.iload_n 3, 1) := dk_29 (dk_at dksX0_before_0 8 rfl rfl)
theorem dX0_before_9 : decode cX0_before 9 = .ok (.ifCond .eq 5, 3) := dk_153 0 5 (dk_at dksX0_before_0 9 rfl rfl)
theorem dX0_before_12 : decode cX0_before 12 = .ok (.iload_n 3, 1) := dk_29 (dk_at dksX0_before_0 12 rfl rfl)
theorem dX0_before_13 : decode cX0_before 13 = .ok (.ireturn, 1) := dk_172 (dk_at dksX0_before_0 13 rfl rfl)
theorem dX0_before_14 : decode cX0_before 14 = .ok (.aload_n 0, 1) := dk_42 (dk_at dksX0_before_0 14 rfl rfl)
theorem dX0_before_15 : decode cX0_before 15 = .ok (.invokevirtual 264, 3) := dk_182 1 8 (dk_at dksX0_before_0 15 rfl rfl)
theorem dX0_before_18 : decode cX0_before 18 = .ok (.aload_n 0, 1) := dk_42 (dk_at dksX0_before_0 18 rfl rfl)
theorem dX0_before_19 : decode cX0_before 19 = .ok (.iload_n 1, 1) := dk_27 (dk_at dksX0_before_0 19 rfl rfl)
theorem dX0_before_20 : decode cX0_before 20 = .ok (.iload_n 2, 1) := dk_28 (dk_at dksX0_before_0 20 rfl rfl)
theorem dX0_before_21 : decode cX0_before 21 = .ok (.invokestatic 205, 3) := dk_184 0 205 (dk_at dksX0_before_0 21 rfl rfl)
theorem dX0_before_24 : decode cX0_before 24 = .ok (.invokevirtual 292, 3) := dk_182 1 36 (dk_at dksX0_before_1 0 rfl rfl)
theorem dX0_before_27 : decode cX0_before 27 = .ok (.ireturn, 1) := dk_172 (dk_at dksX0_before_1 3 rfl rfl)
abbrev cX0_standFault : ByteArray := prog_1_method_44_code
def yX0_standFault : MethodName := ⟨RX0, "standFault", "(III)I"⟩
def dkwX0_standFault_1 : List UInt8 := [3, 167, 0, 5, 16, 253, 172]
abbrev dktX0_standFault_1 : List UInt8 := dkwX0_standFault_1 ++ []
def dkwX0_standFault_0 : List UInt8 := [42, 27, 182, 1, 3, 154, 0, 8, 16, 254, 167, 0, 20, 28, 133, 9, 29, 133, 184, 0, 103, 153, 0, 7]
abbrev dktX0_standFault_0 : List UInt8 := dkwX0_standFault_0 ++ dktX0_standFault_1
theorem dksX0_standFault_0 : cX0_standFault.data.toList.drop 0 = dktX0_standFault_0 := by decide +kernel
theorem dksX0_standFault_1 : cX0_standFault.data.toList.drop 24 = dktX0_standFault_1 := dk_seg dksX0_standFault_0 24 rfl rfl
theorem dX0_standFault_0 : decode cX0_standFault 0 = .ok (.aload_n 0, 1) := dk_42 (dk_at dksX0_standFault_0 0 rfl rfl)
theorem dX0_standFault_1 : decode cX0_standFault 1 = .ok (.iload_n 1, 1) := dk_27 (dk_at dksX0_standFault_0 1 rfl rfl)
theorem dX0_standFault_2 : decode cX0_standFault 2 = .ok (.invokevirtual 259, 3) := dk_182 1 3 (dk_at dksX0_standFault_0 2 rfl rfl)
theorem dX0_standFault_5 : decode cX0_standFault 5 = .ok (.ifCond .ne 8, 3) := dk_154 0 8 (dk_at dksX0_standFault_0 5 rfl rfl)
theorem dX0_standFault_8 : decode cX0_standFault 8 = .ok (.bipush (-2), 2) := dk_16 254 (dk_at dksX0_standFault_0 8 rfl rfl)
theorem dX0_standFault_10 : decode cX0_standFault 10 = .ok (.goto 20, 3) := dk_167 0 20 (dk_at dksX0_standFault_0 10 rfl rfl)
theorem dX0_standFault_13 : decode cX0_standFault 13 = .ok (.iload_n 2, 1) := dk_28 (dk_at dksX0_standFault_0 13 rfl rfl)
theorem dX0_standFault_14 : decode cX0_standFault 14 = .ok (.i2l, 1) := dk_133 (dk_at dksX0_standFault_0 14 rfl rfl)
theorem dX0_standFault_15 : decode cX0_standFault 15 = .ok (.lconst 0, 1) := dk_9 (dk_at dksX0_standFault_0 15 rfl rfl)
theorem dX0_standFault_16 : decode cX0_standFault 16 = .ok (.iload_n 3, 1) := dk_29 (dk_at dksX0_standFault_0 16 rfl rfl)
theorem dX0_standFault_17 : decode cX0_standFault 17 = .ok (.i2l, 1) := dk_133 (dk_at dksX0_standFault_0 17 rfl rfl)
theorem dX0_standFault_18 : decode cX0_standFault 18 = .ok (.invokestatic 103, 3) := dk_184 0 103 (dk_at dksX0_standFault_0 18 rfl rfl)
theorem dX0_standFault_21 : decode cX0_standFault 21 = .ok (.ifCond .eq 7, 3) := dk_153 0 7 (dk_at dksX0_standFault_0 21 rfl rfl)
theorem dX0_standFault_24 : decode cX0_standFault 24 = .ok (.iconst 0, 1) := dk_3 (dk_at dksX0_standFault_1 0 rfl rfl)
theorem dX0_standFault_25 : decode cX0_standFault 25 = .ok (.goto 5, 3) := dk_167 0 5 (dk_at dksX0_standFault_1 1 rfl rfl)
theorem dX0_standFault_28 : decode cX0_standFault 28 = .ok (.bipush (-3), 2) := dk_16 253 (dk_at dksX0_standFault_1 4 rfl rfl)
theorem dX0_standFault_30 : decode cX0_standFault 30 = .ok (.ireturn, 1) := dk_172 (dk_at dksX0_standFault_1 6 rfl rfl)
abbrev cX0_manyBefore : ByteArray := prog_1_method_46_code
def yX0_manyBefore : MethodName := ⟨RX0, "manyBefore", "(I)I"⟩
def dkwX0_manyBefore_1 : List UInt8 := [132, 3, 1, 167, 255, 235, 28, 172]
abbrev dktX0_manyBefore_1 : List UInt8 := dkwX0_manyBefore_1 ++ []
def dkwX0_manyBefore_0 : List UInt8 := [3, 61, 3, 62, 29, 16, 36, 162, 0, 21, 28, 42, 29, 27, 182, 1, 29, 184, 0, 159, 96, 61]
abbrev dktX0_manyBefore_0 : List UInt8 := dkwX0_manyBefore_0 ++ dktX0_manyBefore_1
theorem dksX0_manyBefore_0 : cX0_manyBefore.data.toList.drop 0 = dktX0_manyBefore_0 := by decide +kernel
theorem dksX0_manyBefore_1 : cX0_manyBefore.data.toList.drop 22 = dktX0_manyBefore_1 := dk_seg dksX0_manyBefore_0 22 rfl rfl
theorem dX0_manyBefore_0 : decode cX0_manyBefore 0 = .ok (.iconst 0, 1) := dk_3 (dk_at dksX0_manyBefore_0 0 rfl rfl)
theorem dX0_manyBefore_1 : decode cX0_manyBefore 1 = .ok (.istore_n 2, 1) := dk_61 (dk_at dksX0_manyBefore_0 1 rfl rfl)
theorem dX0_manyBefore_2 : decode cX0_manyBefore 2 = .ok (.iconst 0, 1) := dk_3 (dk_at dksX0_manyBefore_0 2 rfl rfl)
theorem dX0_manyBefore_3 : decode cX0_manyBefore 3 = .ok (.istore_n 3, 1) := dk_62 (dk_at dksX0_manyBefore_0 3 rfl rfl)
theorem dX0_manyBefore_4 : decode cX0_manyBefore 4 = .ok (.iload_n 3, 1) := dk_29 (dk_at dksX0_manyBefore_0 4 rfl rfl)
theorem dX0_manyBefore_5 : decode cX0_manyBefore 5 = .ok (.bipush 36, 2) := dk_16 36 (dk_at dksX0_manyBefore_0 5 rfl rfl)
theorem dX0_manyBefore_7 : decode cX0_manyBefore 7 = .ok (.if_icmp .ge 21, 3) := dk_162 0 21 (dk_at dksX0_manyBefore_0 7 rfl rfl)
theorem dX0_manyBefore_10 : decode cX0_manyBefore 10 = .ok (.iload_n 2, 1) := dk_28 (dk_at dksX0_manyBefore_0 10 rfl rfl)
theorem dX0_manyBefore_11 : decode cX0_manyBefore 11 = .ok (.aload_n 0, 1) := dk_42 (dk_at dksX0_manyBefore_0 11 rfl rfl)
theorem dX0_manyBefore_12 : decode cX0_manyBefore 12 = .ok (.iload_n 3, 1) := dk_29 (dk_at dksX0_manyBefore_0 12 rfl rfl)
theorem dX0_manyBefore_13 : decode cX0_manyBefore 13 = .ok (.iload_n 1, 1) := dk_27 (dk_at dksX0_manyBefore_0 13 rfl rfl)
theorem dX0_manyBefore_14 : decode cX0_manyBefore 14 = .ok (.invokevirtual 285, 3) := dk_182 1 29 (dk_at dksX0_manyBefore_0 14 rfl rfl)
theorem dX0_manyBefore_17 : decode cX0_manyBefore 17 = .ok (.invokestatic 159, 3) := dk_184 0 159 (dk_at dksX0_manyBefore_0 17 rfl rfl)
theorem dX0_manyBefore_20 : decode cX0_manyBefore 20 = .ok (.iadd, 1) := dk_96 (dk_at dksX0_manyBefore_0 20 rfl rfl)
theorem dX0_manyBefore_21 : decode cX0_manyBefore 21 = .ok (.istore_n 2, 1) := dk_61 (dk_at dksX0_manyBefore_0 21 rfl rfl)
theorem dX0_manyBefore_22 : decode cX0_manyBefore 22 = .ok (.iinc 3 1, 3) := dk_132 3 1 (dk_at dksX0_manyBefore_1 0 rfl rfl)
theorem dX0_manyBefore_25 : decode cX0_manyBefore 25 = .ok (.goto (-21), 3) := dk_167 255 235 (dk_at dksX0_manyBefore_1 3 rfl rfl)
theorem dX0_manyBefore_28 : decode cX0_manyBefore 28 = .ok (.iload_n 2, 1) := dk_28 (dk_at dksX0_manyBefore_1 6 rfl rfl)
theorem dX0_manyBefore_29 : decode cX0_manyBefore 29 = .ok (.ireturn, 1) := dk_172 (dk_at dksX0_manyBefore_1 7 rfl rfl)
abbrev cX0_leadsTo : ByteArray := prog_1_method_45_code
def yX0_leadsTo : MethodName := ⟨RX0, "leadsTo", "(II)Z"⟩
def dkwX0_leadsTo_1 : List UInt8 := [28, 160, 0, 5, 4, 172, 132, 3, 1, 167, 255, 225, 3, 172]
abbrev dktX0_leadsTo_1 : List UInt8 := dkwX0_leadsTo_1 ++ []
def dkwX0_leadsTo_0 : List UInt8 := [3, 62, 29, 42, 180, 0, 21, 180, 0, 133, 162, 0, 26, 42, 180, 0, 49, 16, 8, 27, 104, 29, 96, 46]
abbrev dktX0_leadsTo_0 : List UInt8 := dkwX0_leadsTo_0 ++ dktX0_leadsTo_1
theorem dksX0_leadsTo_0 : cX0_leadsTo.data.toList.drop 0 = dktX0_leadsTo_0 := by decide +kernel
theorem dksX0_leadsTo_1 : cX0_leadsTo.data.toList.drop 24 = dktX0_leadsTo_1 := dk_seg dksX0_leadsTo_0 24 rfl rfl
theorem dX0_leadsTo_0 : decode cX0_leadsTo 0 = .ok (.iconst 0, 1) := dk_3 (dk_at dksX0_leadsTo_0 0 rfl rfl)
theorem dX0_leadsTo_1 : decode cX0_leadsTo 1 = .ok (.istore_n 3, 1) := dk_62 (dk_at dksX0_leadsTo_0 1 rfl rfl)
theorem dX0_leadsTo_2 : decode cX0_leadsTo 2 = .ok (.iload_n 3, 1) := dk_29 (dk_at dksX0_leadsTo_0 2 rfl rfl)
theorem dX0_leadsTo_3 : decode cX0_leadsTo 3 = .ok (.aload_n 0, 1) := dk_42 (dk_at dksX0_leadsTo_0 3 rfl rfl)
theorem dX0_leadsTo_4 : decode cX0_leadsTo 4 = .ok (.getfield 21, 3) := dk_180 0 21 (dk_at dksX0_leadsTo_0 4 rfl rfl)
theorem dX0_leadsTo_7 : decode cX0_leadsTo 7 = .ok (.getfield 133, 3) := dk_180 0 133 (dk_at dksX0_leadsTo_0 7 rfl rfl)
theorem dX0_leadsTo_10 : decode cX0_leadsTo 10 = .ok (.if_icmp .ge 26, 3) := dk_162 0 26 (dk_at dksX0_leadsTo_0 10 rfl rfl)
theorem dX0_leadsTo_13 : decode cX0_leadsTo 13 = .ok (.aload_n 0, 1) := dk_42 (dk_at dksX0_leadsTo_0 13 rfl rfl)
theorem dX0_leadsTo_14 : decode cX0_leadsTo 14 = .ok (.getfield 49, 3) := dk_180 0 49 (dk_at dksX0_leadsTo_0 14 rfl rfl)
theorem dX0_leadsTo_17 : decode cX0_leadsTo 17 = .ok (.bipush 8, 2) := dk_16 8 (dk_at dksX0_leadsTo_0 17 rfl rfl)
theorem dX0_leadsTo_19 : decode cX0_leadsTo 19 = .ok (.iload_n 1, 1) := dk_27 (dk_at dksX0_leadsTo_0 19 rfl rfl)
theorem dX0_leadsTo_20 : decode cX0_leadsTo 20 = .ok (.imul, 1) := dk_104 (dk_at dksX0_leadsTo_0 20 rfl rfl)
theorem dX0_leadsTo_21 : decode cX0_leadsTo 21 = .ok (.iload_n 3, 1) := dk_29 (dk_at dksX0_leadsTo_0 21 rfl rfl)
theorem dX0_leadsTo_22 : decode cX0_leadsTo 22 = .ok (.iadd, 1) := dk_96 (dk_at dksX0_leadsTo_0 22 rfl rfl)
theorem dX0_leadsTo_23 : decode cX0_leadsTo 23 = .ok (.iaload, 1) := dk_46 (dk_at dksX0_leadsTo_0 23 rfl rfl)
theorem dX0_leadsTo_24 : decode cX0_leadsTo 24 = .ok (.iload_n 2, 1) := dk_28 (dk_at dksX0_leadsTo_1 0 rfl rfl)
theorem dX0_leadsTo_25 : decode cX0_leadsTo 25 = .ok (.if_icmp .ne 5, 3) := dk_160 0 5 (dk_at dksX0_leadsTo_1 1 rfl rfl)
theorem dX0_leadsTo_28 : decode cX0_leadsTo 28 = .ok (.iconst 1, 1) := dk_4 (dk_at dksX0_leadsTo_1 4 rfl rfl)
theorem dX0_leadsTo_29 : decode cX0_leadsTo 29 = .ok (.ireturn, 1) := dk_172 (dk_at dksX0_leadsTo_1 5 rfl rfl)
theorem dX0_leadsTo_30 : decode cX0_leadsTo 30 = .ok (.iinc 3 1, 3) := dk_132 3 1 (dk_at dksX0_leadsTo_1 6 rfl rfl)
theorem dX0_leadsTo_33 : decode cX0_leadsTo 33 = .ok (.goto (-31), 3) := dk_167 255 225 (dk_at dksX0_leadsTo_1 9 rfl rfl)
theorem dX0_leadsTo_36 : decode cX0_leadsTo 36 = .ok (.iconst 0, 1) := dk_3 (dk_at dksX0_leadsTo_1 12 rfl rfl)
theorem dX0_leadsTo_37 : decode cX0_leadsTo 37 = .ok (.ireturn, 1) := dk_172 (dk_at dksX0_leadsTo_1 13 rfl rfl)
abbrev cX0_ahead : ByteArray := prog_1_method_48_code
def yX0_ahead : MethodName := ⟨RX0, "ahead", "(II)I"⟩
def dkwX0_ahead_6 : List UInt8 := [184, 0, 159, 96, 54, 5, 132, 6, 1, 167, 255, 213, 21, 5, 172]
abbrev dktX0_ahead_6 : List UInt8 := dkwX0_ahead_6 ++ []
def dkwX0_ahead_5 : List UInt8 := [180, 0, 53, 21, 6, 46, 18, 251, 162, 0, 15, 21, 6, 184, 1, 26, 154, 0, 7, 4, 167, 0, 4, 3]
abbrev dktX0_ahead_5 : List UInt8 := dkwX0_ahead_5 ++ dktX0_ahead_6
def dkwX0_ahead_4 : List UInt8 := [167, 255, 235, 167, 255, 221, 3, 54, 5, 3, 54, 6, 21, 6, 16, 36, 162, 0, 42, 21, 5, 42]
abbrev dktX0_ahead_4 : List UInt8 := dkwX0_ahead_4 ++ dktX0_ahead_5
def dkwX0_ahead_3 : List UInt8 := [54, 5, 21, 5, 16, 36, 162, 0, 20, 21, 4, 42, 21, 5, 182, 0, 252, 128, 54, 4, 132, 5, 1]
abbrev dktX0_ahead_3 : List UInt8 := dkwX0_ahead_3 ++ dktX0_ahead_4
def dkwX0_ahead_2 : List UInt8 := [167, 0, 5, 18, 251, 79, 132, 4, 1, 167, 255, 223, 4, 54, 4, 21, 4, 153, 0, 36, 3, 54, 4, 3]
abbrev dktX0_ahead_2 : List UInt8 := dkwX0_ahead_2 ++ dktX0_ahead_3
def dkwX0_ahead_1 : List UInt8 := [16, 36, 162, 0, 32, 42, 180, 0, 53, 21, 4, 21, 4, 27, 28, 184, 0, 205, 160, 0, 7, 3]
abbrev dktX0_ahead_1 : List UInt8 := dkwX0_ahead_1 ++ dktX0_ahead_2
def dkwX0_ahead_0 : List UInt8 := [42, 27, 28, 8, 182, 1, 32, 62, 29, 153, 0, 5, 29, 172, 42, 182, 1, 8, 3, 54, 4, 21, 4]
abbrev dktX0_ahead_0 : List UInt8 := dkwX0_ahead_0 ++ dktX0_ahead_1
theorem dksX0_ahead_0 : cX0_ahead.data.toList.drop 0 = dktX0_ahead_0 := by decide +kernel
theorem dksX0_ahead_1 : cX0_ahead.data.toList.drop 23 = dktX0_ahead_1 := dk_seg dksX0_ahead_0 23 rfl rfl
theorem dksX0_ahead_2 : cX0_ahead.data.toList.drop 45 = dktX0_ahead_2 := dk_seg dksX0_ahead_1 22 rfl rfl
theorem dksX0_ahead_3 : cX0_ahead.data.toList.drop 69 = dktX0_ahead_3 := dk_seg dksX0_ahead_2 24 rfl rfl
theorem dksX0_ahead_4 : cX0_ahead.data.toList.drop 92 = dktX0_ahead_4 := dk_seg dksX0_ahead_3 23 rfl rfl
theorem dksX0_ahead_5 : cX0_ahead.data.toList.drop 114 = dktX0_ahead_5 := dk_seg dksX0_ahead_4 22 rfl rfl
theorem dksX0_ahead_6 : cX0_ahead.data.toList.drop 138 = dktX0_ahead_6 := dk_seg dksX0_ahead_5 24 rfl rfl
theorem dX0_ahead_0 : decode cX0_ahead 0 = .ok (.aload_n 0, 1) := dk_42 (dk_at dksX0_ahead_0 0 rfl rfl)
theorem dX0_ahead_1 : decode cX0_ahead 1 = .ok (.iload_n 1, 1) := dk_27 (dk_at dksX0_ahead_0 1 rfl rfl)
theorem dX0_ahead_2 : decode cX0_ahead 2 = .ok (.iload_n 2, 1) := dk_28 (dk_at dksX0_ahead_0 2 rfl rfl)
theorem dX0_ahead_3 : decode cX0_ahead 3 = .ok (.iconst 5, 1) := dk_8 (dk_at dksX0_ahead_0 3 rfl rfl)
theorem dX0_ahead_4 : decode cX0_ahead 4 = .ok (.invokevirtual 288, 3) := dk_182 1 32 (dk_at dksX0_ahead_0 4 rfl rfl)
theorem dX0_ahead_7 : decode cX0_ahead 7 = .ok (.istore_n 3, 1) := dk_62 (dk_at dksX0_ahead_0 7 rfl rfl)
theorem dX0_ahead_8 : decode cX0_ahead 8 = .ok (.iload_n 3, 1) := dk_29 (dk_at dksX0_ahead_0 8 rfl rfl)
theorem dX0_ahead_9 : decode cX0_ahead 9 = .ok (.ifCond .eq 5, 3) := dk_153 0 5 (dk_at dksX0_ahead_0 9 rfl rfl)
theorem dX0_ahead_12 : decode cX0_ahead 12 = .ok (.iload_n 3, 1) := dk_29 (dk_at dksX0_ahead_0 12 rfl rfl)
theorem dX0_ahead_13 : decode cX0_ahead 13 = .ok (.ireturn, 1) := dk_172 (dk_at dksX0_ahead_0 13 rfl rfl)
theorem dX0_ahead_14 : decode cX0_ahead 14 = .ok (.aload_n 0, 1) := dk_42 (dk_at dksX0_ahead_0 14 rfl rfl)
theorem dX0_ahead_15 : decode cX0_ahead 15 = .ok (.invokevirtual 264, 3) := dk_182 1 8 (dk_at dksX0_ahead_0 15 rfl rfl)
theorem dX0_ahead_18 : decode cX0_ahead 18 = .ok (.iconst 0, 1) := dk_3 (dk_at dksX0_ahead_0 18 rfl rfl)
theorem dX0_ahead_19 : decode cX0_ahead 19 = .ok (.istore 4, 2) := dk_54 4 (dk_at dksX0_ahead_0 19 rfl rfl)
theorem dX0_ahead_21 : decode cX0_ahead 21 = .ok (.iload 4, 2) := dk_21 4 (dk_at dksX0_ahead_0 21 rfl rfl)
theorem dX0_ahead_23 : decode cX0_ahead 23 = .ok (.bipush 36, 2) := dk_16 36 (dk_at dksX0_ahead_1 0 rfl rfl)
theorem dX0_ahead_25 : decode cX0_ahead 25 = .ok (.if_icmp .ge 32, 3) := dk_162 0 32 (dk_at dksX0_ahead_1 2 rfl rfl)
theorem dX0_ahead_28 : decode cX0_ahead 28 = .ok (.aload_n 0, 1) := dk_42 (dk_at dksX0_ahead_1 5 rfl rfl)
theorem dX0_ahead_29 : decode cX0_ahead 29 = .ok (.getfield 53, 3) := dk_180 0 53 (dk_at dksX0_ahead_1 6 rfl rfl)
theorem dX0_ahead_32 : decode cX0_ahead 32 = .ok (.iload 4, 2) := dk_21 4 (dk_at dksX0_ahead_1 9 rfl rfl)
theorem dX0_ahead_34 : decode cX0_ahead 34 = .ok (.iload 4, 2) := dk_21 4 (dk_at dksX0_ahead_1 11 rfl rfl)
theorem dX0_ahead_36 : decode cX0_ahead 36 = .ok (.iload_n 1, 1) := dk_27 (dk_at dksX0_ahead_1 13 rfl rfl)
theorem dX0_ahead_37 : decode cX0_ahead 37 = .ok (.iload_n 2, 1) := dk_28 (dk_at dksX0_ahead_1 14 rfl rfl)
theorem dX0_ahead_38 : decode cX0_ahead 38 = .ok (.invokestatic 205, 3) := dk_184 0 205 (dk_at dksX0_ahead_1 15 rfl rfl)
theorem dX0_ahead_41 : decode cX0_ahead 41 = .ok (.if_icmp .ne 7, 3) := dk_160 0 7 (dk_at dksX0_ahead_1 18 rfl rfl)
theorem dX0_ahead_44 : decode cX0_ahead 44 = .ok (.iconst 0, 1) := dk_3 (dk_at dksX0_ahead_1 21 rfl rfl)
theorem dX0_ahead_45 : decode cX0_ahead 45 = .ok (.goto 5, 3) := dk_167 0 5 (dk_at dksX0_ahead_2 0 rfl rfl)
theorem dX0_ahead_48 : decode cX0_ahead 48 = .ok (.ldc 251, 2) := dk_18 251 (dk_at dksX0_ahead_2 3 rfl rfl)
theorem dX0_ahead_50 : decode cX0_ahead 50 = .ok (.iastore, 1) := dk_79 (dk_at dksX0_ahead_2 5 rfl rfl)
theorem dX0_ahead_51 : decode cX0_ahead 51 = .ok (.iinc 4 1, 3) := dk_132 4 1 (dk_at dksX0_ahead_2 6 rfl rfl)
theorem dX0_ahead_54 : decode cX0_ahead 54 = .ok (.goto (-33), 3) := dk_167 255 223 (dk_at dksX0_ahead_2 9 rfl rfl)
theorem dX0_ahead_57 : decode cX0_ahead 57 = .ok (.iconst 1, 1) := dk_4 (dk_at dksX0_ahead_2 12 rfl rfl)
theorem dX0_ahead_58 : decode cX0_ahead 58 = .ok (.istore 4, 2) := dk_54 4 (dk_at dksX0_ahead_2 13 rfl rfl)
theorem dX0_ahead_60 : decode cX0_ahead 60 = .ok (.iload 4, 2) := dk_21 4 (dk_at dksX0_ahead_2 15 rfl rfl)
theorem dX0_ahead_62 : decode cX0_ahead 62 = .ok (.ifCond .eq 36, 3) := dk_153 0 36 (dk_at dksX0_ahead_2 17 rfl rfl)
theorem dX0_ahead_65 : decode cX0_ahead 65 = .ok (.iconst 0, 1) := dk_3 (dk_at dksX0_ahead_2 20 rfl rfl)
theorem dX0_ahead_66 : decode cX0_ahead 66 = .ok (.istore 4, 2) := dk_54 4 (dk_at dksX0_ahead_2 21 rfl rfl)
theorem dX0_ahead_68 : decode cX0_ahead 68 = .ok (.iconst 0, 1) := dk_3 (dk_at dksX0_ahead_2 23 rfl rfl)
theorem dX0_ahead_69 : decode cX0_ahead 69 = .ok (.istore 5, 2) := dk_54 5 (dk_at dksX0_ahead_3 0 rfl rfl)
theorem dX0_ahead_71 : decode cX0_ahead 71 = .ok (.iload 5, 2) := dk_21 5 (dk_at dksX0_ahead_3 2 rfl rfl)
theorem dX0_ahead_73 : decode cX0_ahead 73 = .ok (.bipush 36, 2) := dk_16 36 (dk_at dksX0_ahead_3 4 rfl rfl)
theorem dX0_ahead_75 : decode cX0_ahead 75 = .ok (.if_icmp .ge 20, 3) := dk_162 0 20 (dk_at dksX0_ahead_3 6 rfl rfl)
theorem dX0_ahead_78 : decode cX0_ahead 78 = .ok (.iload 4, 2) := dk_21 4 (dk_at dksX0_ahead_3 9 rfl rfl)
theorem dX0_ahead_80 : decode cX0_ahead 80 = .ok (.aload_n 0, 1) := dk_42 (dk_at dksX0_ahead_3 11 rfl rfl)
theorem dX0_ahead_81 : decode cX0_ahead 81 = .ok (.iload 5, 2) := dk_21 5 (dk_at dksX0_ahead_3 12 rfl rfl)
theorem dX0_ahead_83 : decode cX0_ahead 83 = .ok (.invokevirtual 252, 3) := dk_182 0 252 (dk_at dksX0_ahead_3 14 rfl rfl)
theorem dX0_ahead_86 : decode cX0_ahead 86 = .ok (.ior, 1) := dk_128 (dk_at dksX0_ahead_3 17 rfl rfl)
theorem dX0_ahead_87 : decode cX0_ahead 87 = .ok (.istore 4, 2) := dk_54 4 (dk_at dksX0_ahead_3 18 rfl rfl)
theorem dX0_ahead_89 : decode cX0_ahead 89 = .ok (.iinc 5 1, 3) := dk_132 5 1 (dk_at dksX0_ahead_3 20 rfl rfl)
theorem dX0_ahead_92 : decode cX0_ahead 92 = .ok (.goto (-21), 3) := dk_167 255 235 (dk_at dksX0_ahead_4 0 rfl rfl)
theorem dX0_ahead_95 : decode cX0_ahead 95 = .ok (.goto (-35), 3) := dk_167 255 221 (dk_at dksX0_ahead_4 3 rfl rfl)
theorem dX0_ahead_98 : decode cX0_ahead 98 = .ok (.iconst 0, 1) := dk_3 (dk_at dksX0_ahead_4 6 rfl rfl)
theorem dX0_ahead_99 : decode cX0_ahead 99 = .ok (.istore 5, 2) := dk_54 5 (dk_at dksX0_ahead_4 7 rfl rfl)
theorem dX0_ahead_101 : decode cX0_ahead 101 = .ok (.iconst 0, 1) := dk_3 (dk_at dksX0_ahead_4 9 rfl rfl)
theorem dX0_ahead_102 : decode cX0_ahead 102 = .ok (.istore 6, 2) := dk_54 6 (dk_at dksX0_ahead_4 10 rfl rfl)
theorem dX0_ahead_104 : decode cX0_ahead 104 = .ok (.iload 6, 2) := dk_21 6 (dk_at dksX0_ahead_4 12 rfl rfl)
theorem dX0_ahead_106 : decode cX0_ahead 106 = .ok (.bipush 36, 2) := dk_16 36 (dk_at dksX0_ahead_4 14 rfl rfl)
theorem dX0_ahead_108 : decode cX0_ahead 108 = .ok (.if_icmp .ge 42, 3) := dk_162 0 42 (dk_at dksX0_ahead_4 16 rfl rfl)
theorem dX0_ahead_111 : decode cX0_ahead 111 = .ok (.iload 5, 2) := dk_21 5 (dk_at dksX0_ahead_4 19 rfl rfl)
theorem dX0_ahead_113 : decode cX0_ahead 113 = .ok (.aload_n 0, 1) := dk_42 (dk_at dksX0_ahead_4 21 rfl rfl)
theorem dX0_ahead_114 : decode cX0_ahead 114 = .ok (.getfield 53, 3) := dk_180 0 53 (dk_at dksX0_ahead_5 0 rfl rfl)
theorem dX0_ahead_117 : decode cX0_ahead 117 = .ok (.iload 6, 2) := dk_21 6 (dk_at dksX0_ahead_5 3 rfl rfl)
theorem dX0_ahead_119 : decode cX0_ahead 119 = .ok (.iaload, 1) := dk_46 (dk_at dksX0_ahead_5 5 rfl rfl)
theorem dX0_ahead_120 : decode cX0_ahead 120 = .ok (.ldc 251, 2) := dk_18 251 (dk_at dksX0_ahead_5 6 rfl rfl)
theorem dX0_ahead_122 : decode cX0_ahead 122 = .ok (.if_icmp .ge 15, 3) := dk_162 0 15 (dk_at dksX0_ahead_5 8 rfl rfl)
theorem dX0_ahead_125 : decode cX0_ahead 125 = .ok (.iload 6, 2) := dk_21 6 (dk_at dksX0_ahead_5 11 rfl rfl)
theorem dX0_ahead_127 : decode cX0_ahead 127 = .ok (.invokestatic 282, 3) := dk_184 1 26 (dk_at dksX0_ahead_5 13 rfl rfl)
theorem dX0_ahead_130 : decode cX0_ahead 130 = .ok (.ifCond .ne 7, 3) := dk_154 0 7 (dk_at dksX0_ahead_5 16 rfl rfl)
theorem dX0_ahead_133 : decode cX0_ahead 133 = .ok (.iconst 1, 1) := dk_4 (dk_at dksX0_ahead_5 19 rfl rfl)
theorem dX0_ahead_134 : decode cX0_ahead 134 = .ok (.goto 4, 3) := dk_167 0 4 (dk_at dksX0_ahead_5 20 rfl rfl)
theorem dX0_ahead_137 : decode cX0_ahead 137 = .ok (.iconst 0, 1) := dk_3 (dk_at dksX0_ahead_5 23 rfl rfl)
theorem dX0_ahead_138 : decode cX0_ahead 138 = .ok (.invokestatic 159, 3) := dk_184 0 159 (dk_at dksX0_ahead_6 0 rfl rfl)
theorem dX0_ahead_141 : decode cX0_ahead 141 = .ok (.iadd, 1) := dk_96 (dk_at dksX0_ahead_6 3 rfl rfl)
theorem dX0_ahead_142 : decode cX0_ahead 142 = .ok (.istore 5, 2) := dk_54 5 (dk_at dksX0_ahead_6 4 rfl rfl)
theorem dX0_ahead_144 : decode cX0_ahead 144 = .ok (.iinc 6 1, 3) := dk_132 6 1 (dk_at dksX0_ahead_6 6 rfl rfl)
theorem dX0_ahead_147 : decode cX0_ahead 147 = .ok (.goto (-43), 3) := dk_167 255 213 (dk_at dksX0_ahead_6 9 rfl rfl)
theorem dX0_ahead_150 : decode cX0_ahead 150 = .ok (.iload 5, 2) := dk_21 5 (dk_at dksX0_ahead_6 12 rfl rfl)
theorem dX0_ahead_152 : decode cX0_ahead 152 = .ok (.ireturn, 1) := dk_172 (dk_at dksX0_ahead_6 14 rfl rfl)
abbrev cX0_orphans : ByteArray := prog_1_method_50_code
def yX0_orphans : MethodName := ⟨RX0, "orphans", "()I"⟩
def dkwX0_orphans_1 : List UInt8 := [60, 132, 2, 1, 167, 255, 236, 27, 172]
abbrev dktX0_orphans_1 : List UInt8 := dkwX0_orphans_1 ++ []
def dkwX0_orphans_0 : List UInt8 := [42, 182, 1, 8, 3, 60, 3, 61, 28, 16, 36, 162, 0, 20, 27, 42, 28, 182, 1, 39, 184, 0, 159, 96]
abbrev dktX0_orphans_0 : List UInt8 := dkwX0_orphans_0 ++ dktX0_orphans_1
theorem dksX0_orphans_0 : cX0_orphans.data.toList.drop 0 = dktX0_orphans_0 := by decide +kernel
theorem dksX0_orphans_1 : cX0_orphans.data.toList.drop 24 = dktX0_orphans_1 := dk_seg dksX0_orphans_0 24 rfl rfl
theorem dX0_orphans_0 : decode cX0_orphans 0 = .ok (.aload_n 0, 1) := dk_42 (dk_at dksX0_orphans_0 0 rfl rfl)
theorem dX0_orphans_1 : decode cX0_orphans 1 = .ok (.invokevirtual 264, 3) := dk_182 1 8 (dk_at dksX0_orphans_0 1 rfl rfl)
theorem dX0_orphans_4 : decode cX0_orphans 4 = .ok (.iconst 0, 1) := dk_3 (dk_at dksX0_orphans_0 4 rfl rfl)
theorem dX0_orphans_5 : decode cX0_orphans 5 = .ok (.istore_n 1, 1) := dk_60 (dk_at dksX0_orphans_0 5 rfl rfl)
theorem dX0_orphans_6 : decode cX0_orphans 6 = .ok (.iconst 0, 1) := dk_3 (dk_at dksX0_orphans_0 6 rfl rfl)
theorem dX0_orphans_7 : decode cX0_orphans 7 = .ok (.istore_n 2, 1) := dk_61 (dk_at dksX0_orphans_0 7 rfl rfl)
theorem dX0_orphans_8 : decode cX0_orphans 8 = .ok (.iload_n 2, 1) := dk_28 (dk_at dksX0_orphans_0 8 rfl rfl)
theorem dX0_orphans_9 : decode cX0_orphans 9 = .ok (.bipush 36, 2) := dk_16 36 (dk_at dksX0_orphans_0 9 rfl rfl)
theorem dX0_orphans_11 : decode cX0_orphans 11 = .ok (.if_icmp .ge 20, 3) := dk_162 0 20 (dk_at dksX0_orphans_0 11 rfl rfl)
theorem dX0_orphans_14 : decode cX0_orphans 14 = .ok (.iload_n 1, 1) := dk_27 (dk_at dksX0_orphans_0 14 rfl rfl)
theorem dX0_orphans_15 : decode cX0_orphans 15 = .ok (.aload_n 0, 1) := dk_42 (dk_at dksX0_orphans_0 15 rfl rfl)
theorem dX0_orphans_16 : decode cX0_orphans 16 = .ok (.iload_n 2, 1) := dk_28 (dk_at dksX0_orphans_0 16 rfl rfl)
theorem dX0_orphans_17 : decode cX0_orphans 17 = .ok (.invokevirtual 295, 3) := dk_182 1 39 (dk_at dksX0_orphans_0 17 rfl rfl)
theorem dX0_orphans_20 : decode cX0_orphans 20 = .ok (.invokestatic 159, 3) := dk_184 0 159 (dk_at dksX0_orphans_0 20 rfl rfl)
theorem dX0_orphans_23 : decode cX0_orphans 23 = .ok (.iadd, 1) := dk_96 (dk_at dksX0_orphans_0 23 rfl rfl)
theorem dX0_orphans_24 : decode cX0_orphans 24 = .ok (.istore_n 1, 1) := dk_60 (dk_at dksX0_orphans_1 0 rfl rfl)
theorem dX0_orphans_25 : decode cX0_orphans 25 = .ok (.iinc 2 1, 3) := dk_132 2 1 (dk_at dksX0_orphans_1 1 rfl rfl)
theorem dX0_orphans_28 : decode cX0_orphans 28 = .ok (.goto (-20), 3) := dk_167 255 236 (dk_at dksX0_orphans_1 4 rfl rfl)
theorem dX0_orphans_31 : decode cX0_orphans 31 = .ok (.iload_n 1, 1) := dk_27 (dk_at dksX0_orphans_1 7 rfl rfl)
theorem dX0_orphans_32 : decode cX0_orphans 32 = .ok (.ireturn, 1) := dk_172 (dk_at dksX0_orphans_1 8 rfl rfl)
abbrev cX0_isOrphan : ByteArray := prog_1_method_49_code
def yX0_isOrphan : MethodName := ⟨RX0, "isOrphan", "(I)Z"⟩
def dkwX0_isOrphan_1 : List UInt8 := [182, 1, 36, 154, 0, 7, 4, 167, 0, 4, 3, 172]
abbrev dktX0_isOrphan_1 : List UInt8 := dkwX0_isOrphan_1 ++ []
def dkwX0_isOrphan_0 : List UInt8 := [27, 184, 0, 177, 42, 180, 0, 21, 180, 0, 136, 162, 0, 22, 27, 184, 1, 26, 154, 0, 15, 42, 27]
abbrev dktX0_isOrphan_0 : List UInt8 := dkwX0_isOrphan_0 ++ dktX0_isOrphan_1
theorem dksX0_isOrphan_0 : cX0_isOrphan.data.toList.drop 0 = dktX0_isOrphan_0 := by decide +kernel
theorem dksX0_isOrphan_1 : cX0_isOrphan.data.toList.drop 23 = dktX0_isOrphan_1 := dk_seg dksX0_isOrphan_0 23 rfl rfl
theorem dX0_isOrphan_0 : decode cX0_isOrphan 0 = .ok (.iload_n 1, 1) := dk_27 (dk_at dksX0_isOrphan_0 0 rfl rfl)
theorem dX0_isOrphan_1 : decode cX0_isOrphan 1 = .ok (.invokestatic 177, 3) := dk_184 0 177 (dk_at dksX0_isOrphan_0 1 rfl rfl)
theorem dX0_isOrphan_4 : decode cX0_isOrphan 4 = .ok (.aload_n 0, 1) := dk_42 (dk_at dksX0_isOrphan_0 4 rfl rfl)
theorem dX0_isOrphan_5 : decode cX0_isOrphan 5 = .ok (.getfield 21, 3) := dk_180 0 21 (dk_at dksX0_isOrphan_0 5 rfl rfl)
theorem dX0_isOrphan_8 : decode cX0_isOrphan 8 = .ok (.getfield 136, 3) := dk_180 0 136 (dk_at dksX0_isOrphan_0 8 rfl rfl)
theorem dX0_isOrphan_11 : decode cX0_isOrphan 11 = .ok (.if_icmp .ge 22, 3) := dk_162 0 22 (dk_at dksX0_isOrphan_0 11 rfl rfl)
theorem dX0_isOrphan_14 : decode cX0_isOrphan 14 = .ok (.iload_n 1, 1) := dk_27 (dk_at dksX0_isOrphan_0 14 rfl rfl)
theorem dX0_isOrphan_15 : decode cX0_isOrphan 15 = .ok (.invokestatic 282, 3) := dk_184 1 26 (dk_at dksX0_isOrphan_0 15 rfl rfl)
theorem dX0_isOrphan_18 : decode cX0_isOrphan 18 = .ok (.ifCond .ne 15, 3) := dk_154 0 15 (dk_at dksX0_isOrphan_0 18 rfl rfl)
theorem dX0_isOrphan_21 : decode cX0_isOrphan 21 = .ok (.aload_n 0, 1) := dk_42 (dk_at dksX0_isOrphan_0 21 rfl rfl)
theorem dX0_isOrphan_22 : decode cX0_isOrphan 22 = .ok (.iload_n 1, 1) := dk_27 (dk_at dksX0_isOrphan_0 22 rfl rfl)
theorem dX0_isOrphan_23 : decode cX0_isOrphan 23 = .ok (.invokevirtual 292, 3) := dk_182 1 36 (dk_at dksX0_isOrphan_1 0 rfl rfl)
theorem dX0_isOrphan_26 : decode cX0_isOrphan 26 = .ok (.ifCond .ne 7, 3) := dk_154 0 7 (dk_at dksX0_isOrphan_1 3 rfl rfl)
theorem dX0_isOrphan_29 : decode cX0_isOrphan 29 = .ok (.iconst 1, 1) := dk_4 (dk_at dksX0_isOrphan_1 6 rfl rfl)
theorem dX0_isOrphan_30 : decode cX0_isOrphan 30 = .ok (.goto 4, 3) := dk_167 0 4 (dk_at dksX0_isOrphan_1 7 rfl rfl)
theorem dX0_isOrphan_33 : decode cX0_isOrphan 33 = .ok (.iconst 0, 1) := dk_3 (dk_at dksX0_isOrphan_1 10 rfl rfl)
theorem dX0_isOrphan_34 : decode cX0_isOrphan 34 = .ok (.ireturn, 1) := dk_172 (dk_at dksX0_isOrphan_1 11 rfl rfl)
abbrev cX0_orphan : ByteArray := prog_1_method_51_code
def yX0_orphan : MethodName := ⟨RX0, "orphan", "(I)I"⟩
def dkwX0_orphan_2 : List UInt8 := [96, 172, 132, 2, 255, 132, 3, 1, 167, 255, 216, 2, 172]
abbrev dktX0_orphan_2 : List UInt8 := dkwX0_orphan_2 ++ []
def dkwX0_orphan_1 : List UInt8 := [182, 1, 39, 154, 0, 6, 167, 0, 23, 28, 154, 0, 16, 16, 10, 29, 184, 0, 177, 104, 29, 184, 0, 9]
abbrev dktX0_orphan_1 : List UInt8 := dkwX0_orphan_1 ++ dktX0_orphan_2
def dkwX0_orphan_0 : List UInt8 := [27, 156, 0, 6, 16, 253, 172, 42, 182, 1, 8, 27, 61, 3, 62, 29, 16, 36, 162, 0, 40, 42, 29]
abbrev dktX0_orphan_0 : List UInt8 := dkwX0_orphan_0 ++ dktX0_orphan_1
theorem dksX0_orphan_0 : cX0_orphan.data.toList.drop 0 = dktX0_orphan_0 := by decide +kernel
theorem dksX0_orphan_1 : cX0_orphan.data.toList.drop 23 = dktX0_orphan_1 := dk_seg dksX0_orphan_0 23 rfl rfl
theorem dksX0_orphan_2 : cX0_orphan.data.toList.drop 47 = dktX0_orphan_2 := dk_seg dksX0_orphan_1 24 rfl rfl
theorem dX0_orphan_0 : decode cX0_orphan 0 = .ok (.iload_n 1, 1) := dk_27 (dk_at dksX0_orphan_0 0 rfl rfl)
theorem dX0_orphan_1 : decode cX0_orphan 1 = .ok (.ifCond .ge 6, 3) := dk_156 0 6 (dk_at dksX0_orphan_0 1 rfl rfl)
theorem dX0_orphan_4 : decode cX0_orphan 4 = .ok (.bipush (-3), 2) := dk_16 253 (dk_at dksX0_orphan_0 4 rfl rfl)
theorem dX0_orphan_6 : decode cX0_orphan 6 = .ok (.ireturn, 1) := dk_172 (dk_at dksX0_orphan_0 6 rfl rfl)
theorem dX0_orphan_7 : decode cX0_orphan 7 = .ok (.aload_n 0, 1) := dk_42 (dk_at dksX0_orphan_0 7 rfl rfl)
theorem dX0_orphan_8 : decode cX0_orphan 8 = .ok (.invokevirtual 264, 3) := dk_182 1 8 (dk_at dksX0_orphan_0 8 rfl rfl)
theorem dX0_orphan_11 : decode cX0_orphan 11 = .ok (.iload_n 1, 1) := dk_27 (dk_at dksX0_orphan_0 11 rfl rfl)
theorem dX0_orphan_12 : decode cX0_orphan 12 = .ok (.istore_n 2, 1) := dk_61 (dk_at dksX0_orphan_0 12 rfl rfl)
theorem dX0_orphan_13 : decode cX0_orphan 13 = .ok (.iconst 0, 1) := dk_3 (dk_at dksX0_orphan_0 13 rfl rfl)
theorem dX0_orphan_14 : decode cX0_orphan 14 = .ok (.istore_n 3, 1) := dk_62 (dk_at dksX0_orphan_0 14 rfl rfl)
theorem dX0_orphan_15 : decode cX0_orphan 15 = .ok (.iload_n 3, 1) := dk_29 (dk_at dksX0_orphan_0 15 rfl rfl)
theorem dX0_orphan_16 : decode cX0_orphan 16 = .ok (.bipush 36, 2) := dk_16 36 (dk_at dksX0_orphan_0 16 rfl rfl)
theorem dX0_orphan_18 : decode cX0_orphan 18 = .ok (.if_icmp .ge 40, 3) := dk_162 0 40 (dk_at dksX0_orphan_0 18 rfl rfl)
theorem dX0_orphan_21 : decode cX0_orphan 21 = .ok (.aload_n 0, 1) := dk_42 (dk_at dksX0_orphan_0 21 rfl rfl)
theorem dX0_orphan_22 : decode cX0_orphan 22 = .ok (.iload_n 3, 1) := dk_29 (dk_at dksX0_orphan_0 22 rfl rfl)
theorem dX0_orphan_23 : decode cX0_orphan 23 = .ok (.invokevirtual 295, 3) := dk_182 1 39 (dk_at dksX0_orphan_1 0 rfl rfl)
theorem dX0_orphan_26 : decode cX0_orphan 26 = .ok (.ifCond .ne 6, 3) := dk_154 0 6 (dk_at dksX0_orphan_1 3 rfl rfl)
theorem dX0_orphan_29 : decode cX0_orphan 29 = .ok (.goto 23, 3) := dk_167 0 23 (dk_at dksX0_orphan_1 6 rfl rfl)
theorem dX0_orphan_32 : decode cX0_orphan 32 = .ok (.iload_n 2, 1) := dk_28 (dk_at dksX0_orphan_1 9 rfl rfl)
theorem dX0_orphan_33 : decode cX0_orphan 33 = .ok (.ifCond .ne 16, 3) := dk_154 0 16 (dk_at dksX0_orphan_1 10 rfl rfl)
theorem dX0_orphan_36 : decode cX0_orphan 36 = .ok (.bipush 10, 2) := dk_16 10 (dk_at dksX0_orphan_1 13 rfl rfl)
theorem dX0_orphan_38 : decode cX0_orphan 38 = .ok (.iload_n 3, 1) := dk_29 (dk_at dksX0_orphan_1 15 rfl rfl)
theorem dX0_orphan_39 : decode cX0_orphan 39 = .ok (.invokestatic 177, 3) := dk_184 0 177 (dk_at dksX0_orphan_1 16 rfl rfl)
theorem dX0_orphan_42 : decode cX0_orphan 42 = .ok (.imul, 1) := dk_104 (dk_at dksX0_orphan_1 19 rfl rfl)
theorem dX0_orphan_43 : decode cX0_orphan 43 = .ok (.iload_n 3, 1) := dk_29 (dk_at dksX0_orphan_1 20 rfl rfl)
theorem dX0_orphan_44 : decode cX0_orphan 44 = .ok (.invokestatic 9, 3) := dk_184 0 9 (dk_at dksX0_orphan_1 21 rfl rfl)
theorem dX0_orphan_47 : decode cX0_orphan 47 = .ok (.iadd, 1) := dk_96 (dk_at dksX0_orphan_2 0 rfl rfl)
theorem dX0_orphan_48 : decode cX0_orphan 48 = .ok (.ireturn, 1) := dk_172 (dk_at dksX0_orphan_2 1 rfl rfl)
theorem dX0_orphan_49 : decode cX0_orphan 49 = .ok (.iinc 2 (-1), 3) := dk_132 2 255 (dk_at dksX0_orphan_2 2 rfl rfl)
theorem dX0_orphan_52 : decode cX0_orphan 52 = .ok (.iinc 3 1, 3) := dk_132 3 1 (dk_at dksX0_orphan_2 5 rfl rfl)
theorem dX0_orphan_55 : decode cX0_orphan 55 = .ok (.goto (-40), 3) := dk_167 255 216 (dk_at dksX0_orphan_2 8 rfl rfl)
theorem dX0_orphan_58 : decode cX0_orphan 58 = .ok (.iconst (-1), 1) := dk_2 (dk_at dksX0_orphan_2 11 rfl rfl)
theorem dX0_orphan_59 : decode cX0_orphan 59 = .ok (.ireturn, 1) := dk_172 (dk_at dksX0_orphan_2 12 rfl rfl)
abbrev cX0_ring : ByteArray := prog_1_method_52_code
def yX0_ring : MethodName := ⟨RX0, "ring", "(II)I"⟩
def dkwX0_ring_8 : List UInt8 := [167, 255, 197, 21, 6, 18, 251, 161, 0, 7, 2, 167, 0, 5, 21, 6, 172]
abbrev dktX0_ring_8 : List UInt8 := dkwX0_ring_8 ++ []
def dkwX0_ring_7 : List UInt8 := [180, 0, 49, 16, 8, 21, 4, 104, 21, 7, 96, 46, 46, 96, 184, 0, 187, 54, 6, 132, 7, 1]
abbrev dktX0_ring_7 : List UInt8 := dkwX0_ring_7 ++ dktX0_ring_8
def dkwX0_ring_6 : List UInt8 := [180, 0, 49, 16, 8, 21, 4, 104, 21, 7, 96, 46, 2, 159, 0, 30, 21, 6, 4, 42, 180, 0, 53, 42]
abbrev dktX0_ring_6 : List UInt8 := dkwX0_ring_6 ++ dktX0_ring_7
def dkwX0_ring_5 : List UInt8 := [167, 255, 206, 18, 251, 54, 6, 3, 54, 7, 21, 7, 42, 180, 0, 21, 180, 0, 133, 162, 0, 53, 42]
abbrev dktX0_ring_5 : List UInt8 := dkwX0_ring_5 ++ dktX0_ring_6
def dkwX0_ring_4 : List UInt8 := [21, 6, 182, 0, 252, 153, 0, 7, 4, 167, 0, 4, 3, 128, 54, 5, 132, 6, 1, 167, 255, 220]
abbrev dktX0_ring_4 : List UInt8 := dkwX0_ring_4 ++ dktX0_ring_5
def dkwX0_ring_3 : List UInt8 := [3, 54, 5, 3, 54, 6, 21, 6, 16, 36, 162, 0, 35, 21, 5, 21, 6, 21, 4, 159, 0, 16, 42]
abbrev dktX0_ring_3 : List UInt8 := dkwX0_ring_3 ++ dktX0_ring_4
def dkwX0_ring_2 : List UInt8 := [160, 0, 7, 3, 167, 0, 5, 18, 251, 79, 132, 5, 1, 167, 255, 226, 4, 54, 5, 21, 5, 153, 0, 51]
abbrev dktX0_ring_2 : List UInt8 := dkwX0_ring_2 ++ dktX0_ring_3
def dkwX0_ring_1 : List UInt8 := [54, 4, 3, 54, 5, 21, 5, 16, 36, 162, 0, 29, 42, 180, 0, 53, 21, 5, 21, 5, 21, 4]
abbrev dktX0_ring_1 : List UInt8 := dkwX0_ring_1 ++ dktX0_ring_2
def dkwX0_ring_0 : List UInt8 := [42, 27, 28, 7, 182, 1, 32, 62, 29, 153, 0, 5, 29, 172, 42, 182, 1, 8, 27, 28, 184, 0, 205]
abbrev dktX0_ring_0 : List UInt8 := dkwX0_ring_0 ++ dktX0_ring_1
theorem dksX0_ring_0 : cX0_ring.data.toList.drop 0 = dktX0_ring_0 := by decide +kernel
theorem dksX0_ring_1 : cX0_ring.data.toList.drop 23 = dktX0_ring_1 := dk_seg dksX0_ring_0 23 rfl rfl
theorem dksX0_ring_2 : cX0_ring.data.toList.drop 45 = dktX0_ring_2 := dk_seg dksX0_ring_1 22 rfl rfl
theorem dksX0_ring_3 : cX0_ring.data.toList.drop 69 = dktX0_ring_3 := dk_seg dksX0_ring_2 24 rfl rfl
theorem dksX0_ring_4 : cX0_ring.data.toList.drop 92 = dktX0_ring_4 := dk_seg dksX0_ring_3 23 rfl rfl
theorem dksX0_ring_5 : cX0_ring.data.toList.drop 114 = dktX0_ring_5 := dk_seg dksX0_ring_4 22 rfl rfl
theorem dksX0_ring_6 : cX0_ring.data.toList.drop 137 = dktX0_ring_6 := dk_seg dksX0_ring_5 23 rfl rfl
theorem dksX0_ring_7 : cX0_ring.data.toList.drop 161 = dktX0_ring_7 := dk_seg dksX0_ring_6 24 rfl rfl
theorem dksX0_ring_8 : cX0_ring.data.toList.drop 183 = dktX0_ring_8 := dk_seg dksX0_ring_7 22 rfl rfl
theorem dX0_ring_0 : decode cX0_ring 0 = .ok (.aload_n 0, 1) := dk_42 (dk_at dksX0_ring_0 0 rfl rfl)
theorem dX0_ring_1 : decode cX0_ring 1 = .ok (.iload_n 1, 1) := dk_27 (dk_at dksX0_ring_0 1 rfl rfl)
theorem dX0_ring_2 : decode cX0_ring 2 = .ok (.iload_n 2, 1) := dk_28 (dk_at dksX0_ring_0 2 rfl rfl)
theorem dX0_ring_3 : decode cX0_ring 3 = .ok (.iconst 4, 1) := dk_7 (dk_at dksX0_ring_0 3 rfl rfl)
theorem dX0_ring_4 : decode cX0_ring 4 = .ok (.invokevirtual 288, 3) := dk_182 1 32 (dk_at dksX0_ring_0 4 rfl rfl)
theorem dX0_ring_7 : decode cX0_ring 7 = .ok (.istore_n 3, 1) := dk_62 (dk_at dksX0_ring_0 7 rfl rfl)
theorem dX0_ring_8 : decode cX0_ring 8 = .ok (.iload_n 3, 1) := dk_29 (dk_at dksX0_ring_0 8 rfl rfl)
theorem dX0_ring_9 : decode cX0_ring 9 = .ok (.ifCond .eq 5, 3) := dk_153 0 5 (dk_at dksX0_ring_0 9 rfl rfl)
theorem dX0_ring_12 : decode cX0_ring 12 = .ok (.iload_n 3, 1) := dk_29 (dk_at dksX0_ring_0 12 rfl rfl)
theorem dX0_ring_13 : decode cX0_ring 13 = .ok (.ireturn, 1) := dk_172 (dk_at dksX0_ring_0 13 rfl rfl)
theorem dX0_ring_14 : decode cX0_ring 14 = .ok (.aload_n 0, 1) := dk_42 (dk_at dksX0_ring_0 14 rfl rfl)
theorem dX0_ring_15 : decode cX0_ring 15 = .ok (.invokevirtual 264, 3) := dk_182 1 8 (dk_at dksX0_ring_0 15 rfl rfl)
theorem dX0_ring_18 : decode cX0_ring 18 = .ok (.iload_n 1, 1) := dk_27 (dk_at dksX0_ring_0 18 rfl rfl)
theorem dX0_ring_19 : decode cX0_ring 19 = .ok (.iload_n 2, 1) := dk_28 (dk_at dksX0_ring_0 19 rfl rfl)
theorem dX0_ring_20 : decode cX0_ring 20 = .ok (.invokestatic 205, 3) := dk_184 0 205 (dk_at dksX0_ring_0 20 rfl rfl)
theorem dX0_ring_23 : decode cX0_ring 23 = .ok (.istore 4, 2) := dk_54 4 (dk_at dksX0_ring_1 0 rfl rfl)
theorem dX0_ring_25 : decode cX0_ring 25 = .ok (.iconst 0, 1) := dk_3 (dk_at dksX0_ring_1 2 rfl rfl)
theorem dX0_ring_26 : decode cX0_ring 26 = .ok (.istore 5, 2) := dk_54 5 (dk_at dksX0_ring_1 3 rfl rfl)
theorem dX0_ring_28 : decode cX0_ring 28 = .ok (.iload 5, 2) := dk_21 5 (dk_at dksX0_ring_1 5 rfl rfl)
theorem dX0_ring_30 : decode cX0_ring 30 = .ok (.bipush 36, 2) := dk_16 36 (dk_at dksX0_ring_1 7 rfl rfl)
theorem dX0_ring_32 : decode cX0_ring 32 = .ok (.if_icmp .ge 29, 3) := dk_162 0 29 (dk_at dksX0_ring_1 9 rfl rfl)
theorem dX0_ring_35 : decode cX0_ring 35 = .ok (.aload_n 0, 1) := dk_42 (dk_at dksX0_ring_1 12 rfl rfl)
theorem dX0_ring_36 : decode cX0_ring 36 = .ok (.getfield 53, 3) := dk_180 0 53 (dk_at dksX0_ring_1 13 rfl rfl)
theorem dX0_ring_39 : decode cX0_ring 39 = .ok (.iload 5, 2) := dk_21 5 (dk_at dksX0_ring_1 16 rfl rfl)
theorem dX0_ring_41 : decode cX0_ring 41 = .ok (.iload 5, 2) := dk_21 5 (dk_at dksX0_ring_1 18 rfl rfl)
theorem dX0_ring_43 : decode cX0_ring 43 = .ok (.iload 4, 2) := dk_21 4 (dk_at dksX0_ring_1 20 rfl rfl)
theorem dX0_ring_45 : decode cX0_ring 45 = .ok (.if_icmp .ne 7, 3) := dk_160 0 7 (dk_at dksX0_ring_2 0 rfl rfl)
theorem dX0_ring_48 : decode cX0_ring 48 = .ok (.iconst 0, 1) := dk_3 (dk_at dksX0_ring_2 3 rfl rfl)
theorem dX0_ring_49 : decode cX0_ring 49 = .ok (.goto 5, 3) := dk_167 0 5 (dk_at dksX0_ring_2 4 rfl rfl)
theorem dX0_ring_52 : decode cX0_ring 52 = .ok (.ldc 251, 2) := dk_18 251 (dk_at dksX0_ring_2 7 rfl rfl)
theorem dX0_ring_54 : decode cX0_ring 54 = .ok (.iastore, 1) := dk_79 (dk_at dksX0_ring_2 9 rfl rfl)
theorem dX0_ring_55 : decode cX0_ring 55 = .ok (.iinc 5 1, 3) := dk_132 5 1 (dk_at dksX0_ring_2 10 rfl rfl)
theorem dX0_ring_58 : decode cX0_ring 58 = .ok (.goto (-30), 3) := dk_167 255 226 (dk_at dksX0_ring_2 13 rfl rfl)
theorem dX0_ring_61 : decode cX0_ring 61 = .ok (.iconst 1, 1) := dk_4 (dk_at dksX0_ring_2 16 rfl rfl)
theorem dX0_ring_62 : decode cX0_ring 62 = .ok (.istore 5, 2) := dk_54 5 (dk_at dksX0_ring_2 17 rfl rfl)
theorem dX0_ring_64 : decode cX0_ring 64 = .ok (.iload 5, 2) := dk_21 5 (dk_at dksX0_ring_2 19 rfl rfl)
theorem dX0_ring_66 : decode cX0_ring 66 = .ok (.ifCond .eq 51, 3) := dk_153 0 51 (dk_at dksX0_ring_2 21 rfl rfl)
theorem dX0_ring_69 : decode cX0_ring 69 = .ok (.iconst 0, 1) := dk_3 (dk_at dksX0_ring_3 0 rfl rfl)
theorem dX0_ring_70 : decode cX0_ring 70 = .ok (.istore 5, 2) := dk_54 5 (dk_at dksX0_ring_3 1 rfl rfl)
theorem dX0_ring_72 : decode cX0_ring 72 = .ok (.iconst 0, 1) := dk_3 (dk_at dksX0_ring_3 3 rfl rfl)
theorem dX0_ring_73 : decode cX0_ring 73 = .ok (.istore 6, 2) := dk_54 6 (dk_at dksX0_ring_3 4 rfl rfl)
theorem dX0_ring_75 : decode cX0_ring 75 = .ok (.iload 6, 2) := dk_21 6 (dk_at dksX0_ring_3 6 rfl rfl)
theorem dX0_ring_77 : decode cX0_ring 77 = .ok (.bipush 36, 2) := dk_16 36 (dk_at dksX0_ring_3 8 rfl rfl)
theorem dX0_ring_79 : decode cX0_ring 79 = .ok (.if_icmp .ge 35, 3) := dk_162 0 35 (dk_at dksX0_ring_3 10 rfl rfl)
theorem dX0_ring_82 : decode cX0_ring 82 = .ok (.iload 5, 2) := dk_21 5 (dk_at dksX0_ring_3 13 rfl rfl)
theorem dX0_ring_84 : decode cX0_ring 84 = .ok (.iload 6, 2) := dk_21 6 (dk_at dksX0_ring_3 15 rfl rfl)
theorem dX0_ring_86 : decode cX0_ring 86 = .ok (.iload 4, 2) := dk_21 4 (dk_at dksX0_ring_3 17 rfl rfl)
theorem dX0_ring_88 : decode cX0_ring 88 = .ok (.if_icmp .eq 16, 3) := dk_159 0 16 (dk_at dksX0_ring_3 19 rfl rfl)
theorem dX0_ring_91 : decode cX0_ring 91 = .ok (.aload_n 0, 1) := dk_42 (dk_at dksX0_ring_3 22 rfl rfl)
theorem dX0_ring_92 : decode cX0_ring 92 = .ok (.iload 6, 2) := dk_21 6 (dk_at dksX0_ring_4 0 rfl rfl)
theorem dX0_ring_94 : decode cX0_ring 94 = .ok (.invokevirtual 252, 3) := dk_182 0 252 (dk_at dksX0_ring_4 2 rfl rfl)
theorem dX0_ring_97 : decode cX0_ring 97 = .ok (.ifCond .eq 7, 3) := dk_153 0 7 (dk_at dksX0_ring_4 5 rfl rfl)
theorem dX0_ring_100 : decode cX0_ring 100 = .ok (.iconst 1, 1) := dk_4 (dk_at dksX0_ring_4 8 rfl rfl)
theorem dX0_ring_101 : decode cX0_ring 101 = .ok (.goto 4, 3) := dk_167 0 4 (dk_at dksX0_ring_4 9 rfl rfl)
theorem dX0_ring_104 : decode cX0_ring 104 = .ok (.iconst 0, 1) := dk_3 (dk_at dksX0_ring_4 12 rfl rfl)
theorem dX0_ring_105 : decode cX0_ring 105 = .ok (.ior, 1) := dk_128 (dk_at dksX0_ring_4 13 rfl rfl)
theorem dX0_ring_106 : decode cX0_ring 106 = .ok (.istore 5, 2) := dk_54 5 (dk_at dksX0_ring_4 14 rfl rfl)
theorem dX0_ring_108 : decode cX0_ring 108 = .ok (.iinc 6 1, 3) := dk_132 6 1 (dk_at dksX0_ring_4 16 rfl rfl)
theorem dX0_ring_111 : decode cX0_ring 111 = .ok (.goto (-36), 3) := dk_167 255 220 (dk_at dksX0_ring_4 19 rfl rfl)
theorem dX0_ring_114 : decode cX0_ring 114 = .ok (.goto (-50), 3) := dk_167 255 206 (dk_at dksX0_ring_5 0 rfl rfl)
theorem dX0_ring_117 : decode cX0_ring 117 = .ok (.ldc 251, 2) := dk_18 251 (dk_at dksX0_ring_5 3 rfl rfl)
theorem dX0_ring_119 : decode cX0_ring 119 = .ok (.istore 6, 2) := dk_54 6 (dk_at dksX0_ring_5 5 rfl rfl)
theorem dX0_ring_121 : decode cX0_ring 121 = .ok (.iconst 0, 1) := dk_3 (dk_at dksX0_ring_5 7 rfl rfl)
theorem dX0_ring_122 : decode cX0_ring 122 = .ok (.istore 7, 2) := dk_54 7 (dk_at dksX0_ring_5 8 rfl rfl)
theorem dX0_ring_124 : decode cX0_ring 124 = .ok (.iload 7, 2) := dk_21 7 (dk_at dksX0_ring_5 10 rfl rfl)
theorem dX0_ring_126 : decode cX0_ring 126 = .ok (.aload_n 0, 1) := dk_42 (dk_at dksX0_ring_5 12 rfl rfl)
theorem dX0_ring_127 : decode cX0_ring 127 = .ok (.getfield 21, 3) := dk_180 0 21 (dk_at dksX0_ring_5 13 rfl rfl)
theorem dX0_ring_130 : decode cX0_ring 130 = .ok (.getfield 133, 3) := dk_180 0 133 (dk_at dksX0_ring_5 16 rfl rfl)
theorem dX0_ring_133 : decode cX0_ring 133 = .ok (.if_icmp .ge 53, 3) := dk_162 0 53 (dk_at dksX0_ring_5 19 rfl rfl)
theorem dX0_ring_136 : decode cX0_ring 136 = .ok (.aload_n 0, 1) := dk_42 (dk_at dksX0_ring_5 22 rfl rfl)
theorem dX0_ring_137 : decode cX0_ring 137 = .ok (.getfield 49, 3) := dk_180 0 49 (dk_at dksX0_ring_6 0 rfl rfl)
theorem dX0_ring_140 : decode cX0_ring 140 = .ok (.bipush 8, 2) := dk_16 8 (dk_at dksX0_ring_6 3 rfl rfl)
theorem dX0_ring_142 : decode cX0_ring 142 = .ok (.iload 4, 2) := dk_21 4 (dk_at dksX0_ring_6 5 rfl rfl)
theorem dX0_ring_144 : decode cX0_ring 144 = .ok (.imul, 1) := dk_104 (dk_at dksX0_ring_6 7 rfl rfl)
theorem dX0_ring_145 : decode cX0_ring 145 = .ok (.iload 7, 2) := dk_21 7 (dk_at dksX0_ring_6 8 rfl rfl)
theorem dX0_ring_147 : decode cX0_ring 147 = .ok (.iadd, 1) := dk_96 (dk_at dksX0_ring_6 10 rfl rfl)
theorem dX0_ring_148 : decode cX0_ring 148 = .ok (.iaload, 1) := dk_46 (dk_at dksX0_ring_6 11 rfl rfl)
theorem dX0_ring_149 : decode cX0_ring 149 = .ok (.iconst (-1), 1) := dk_2 (dk_at dksX0_ring_6 12 rfl rfl)
theorem dX0_ring_150 : decode cX0_ring 150 = .ok (.if_icmp .eq 30, 3) := dk_159 0 30 (dk_at dksX0_ring_6 13 rfl rfl)
theorem dX0_ring_153 : decode cX0_ring 153 = .ok (.iload 6, 2) := dk_21 6 (dk_at dksX0_ring_6 16 rfl rfl)
theorem dX0_ring_155 : decode cX0_ring 155 = .ok (.iconst 1, 1) := dk_4 (dk_at dksX0_ring_6 18 rfl rfl)
theorem dX0_ring_156 : decode cX0_ring 156 = .ok (.aload_n 0, 1) := dk_42 (dk_at dksX0_ring_6 19 rfl rfl)
theorem dX0_ring_157 : decode cX0_ring 157 = .ok (.getfield 53, 3) := dk_180 0 53 (dk_at dksX0_ring_6 20 rfl rfl)
theorem dX0_ring_160 : decode cX0_ring 160 = .ok (.aload_n 0, 1) := dk_42 (dk_at dksX0_ring_6 23 rfl rfl)
theorem dX0_ring_161 : decode cX0_ring 161 = .ok (.getfield 49, 3) := dk_180 0 49 (dk_at dksX0_ring_7 0 rfl rfl)
theorem dX0_ring_164 : decode cX0_ring 164 = .ok (.bipush 8, 2) := dk_16 8 (dk_at dksX0_ring_7 3 rfl rfl)
theorem dX0_ring_166 : decode cX0_ring 166 = .ok (.iload 4, 2) := dk_21 4 (dk_at dksX0_ring_7 5 rfl rfl)
theorem dX0_ring_168 : decode cX0_ring 168 = .ok (.imul, 1) := dk_104 (dk_at dksX0_ring_7 7 rfl rfl)
theorem dX0_ring_169 : decode cX0_ring 169 = .ok (.iload 7, 2) := dk_21 7 (dk_at dksX0_ring_7 8 rfl rfl)
theorem dX0_ring_171 : decode cX0_ring 171 = .ok (.iadd, 1) := dk_96 (dk_at dksX0_ring_7 10 rfl rfl)
theorem dX0_ring_172 : decode cX0_ring 172 = .ok (.iaload, 1) := dk_46 (dk_at dksX0_ring_7 11 rfl rfl)
theorem dX0_ring_173 : decode cX0_ring 173 = .ok (.iaload, 1) := dk_46 (dk_at dksX0_ring_7 12 rfl rfl)
theorem dX0_ring_174 : decode cX0_ring 174 = .ok (.iadd, 1) := dk_96 (dk_at dksX0_ring_7 13 rfl rfl)
theorem dX0_ring_175 : decode cX0_ring 175 = .ok (.invokestatic 187, 3) := dk_184 0 187 (dk_at dksX0_ring_7 14 rfl rfl)
theorem dX0_ring_178 : decode cX0_ring 178 = .ok (.istore 6, 2) := dk_54 6 (dk_at dksX0_ring_7 17 rfl rfl)
theorem dX0_ring_180 : decode cX0_ring 180 = .ok (.iinc 7 1, 3) := dk_132 7 1 (dk_at dksX0_ring_7 19 rfl rfl)
theorem dX0_ring_183 : decode cX0_ring 183 = .ok (.goto (-59), 3) := dk_167 255 197 (dk_at dksX0_ring_8 0 rfl rfl)
theorem dX0_ring_186 : decode cX0_ring 186 = .ok (.iload 6, 2) := dk_21 6 (dk_at dksX0_ring_8 3 rfl rfl)
theorem dX0_ring_188 : decode cX0_ring 188 = .ok (.ldc 251, 2) := dk_18 251 (dk_at dksX0_ring_8 5 rfl rfl)
theorem dX0_ring_190 : decode cX0_ring 190 = .ok (.if_icmp .lt 7, 3) := dk_161 0 7 (dk_at dksX0_ring_8 7 rfl rfl)
theorem dX0_ring_193 : decode cX0_ring 193 = .ok (.iconst (-1), 1) := dk_2 (dk_at dksX0_ring_8 10 rfl rfl)
theorem dX0_ring_194 : decode cX0_ring 194 = .ok (.goto 5, 3) := dk_167 0 5 (dk_at dksX0_ring_8 11 rfl rfl)
theorem dX0_ring_197 : decode cX0_ring 197 = .ok (.iload 6, 2) := dk_21 6 (dk_at dksX0_ring_8 14 rfl rfl)
theorem dX0_ring_199 : decode cX0_ring 199 = .ok (.ireturn, 1) := dk_172 (dk_at dksX0_ring_8 16 rfl rfl)
abbrev cX0_found : ByteArray := prog_1_method_55_code
def yX0_found : MethodName := ⟨RX0, "found", "(III)J"⟩
def dkwX0_found_1 : List UInt8 := [184, 0, 205, 3, 182, 1, 47, 173]
abbrev dktX0_found_1 : List UInt8 := dkwX0_found_1 ++ []
def dkwX0_found_0 : List UInt8 := [42, 27, 28, 29, 182, 1, 44, 54, 4, 21, 4, 153, 0, 9, 21, 4, 133, 167, 0, 14, 42, 27, 28, 29]
abbrev dktX0_found_0 : List UInt8 := dkwX0_found_0 ++ dktX0_found_1
theorem dksX0_found_0 : cX0_found.data.toList.drop 0 = dktX0_found_0 := by decide +kernel
theorem dksX0_found_1 : cX0_found.data.toList.drop 24 = dktX0_found_1 := dk_seg dksX0_found_0 24 rfl rfl
theorem dX0_found_0 : decode cX0_found 0 = .ok (.aload_n 0, 1) := dk_42 (dk_at dksX0_found_0 0 rfl rfl)
theorem dX0_found_1 : decode cX0_found 1 = .ok (.iload_n 1, 1) := dk_27 (dk_at dksX0_found_0 1 rfl rfl)
theorem dX0_found_2 : decode cX0_found 2 = .ok (.iload_n 2, 1) := dk_28 (dk_at dksX0_found_0 2 rfl rfl)
theorem dX0_found_3 : decode cX0_found 3 = .ok (.iload_n 3, 1) := dk_29 (dk_at dksX0_found_0 3 rfl rfl)
theorem dX0_found_4 : decode cX0_found 4 = .ok (.invokevirtual 300, 3) := dk_182 1 44 (dk_at dksX0_found_0 4 rfl rfl)
theorem dX0_found_7 : decode cX0_found 7 = .ok (.istore 4, 2) := dk_54 4 (dk_at dksX0_found_0 7 rfl rfl)
theorem dX0_found_9 : decode cX0_found 9 = .ok (.iload 4, 2) := dk_21 4 (dk_at dksX0_found_0 9 rfl rfl)
theorem dX0_found_11 : decode cX0_found 11 = .ok (.ifCond .eq 9, 3) := dk_153 0 9 (dk_at dksX0_found_0 11 rfl rfl)
theorem dX0_found_14 : decode cX0_found 14 = .ok (.iload 4, 2) := dk_21 4 (dk_at dksX0_found_0 14 rfl rfl)
theorem dX0_found_16 : decode cX0_found 16 = .ok (.i2l, 1) := dk_133 (dk_at dksX0_found_0 16 rfl rfl)
theorem dX0_found_17 : decode cX0_found 17 = .ok (.goto 14, 3) := dk_167 0 14 (dk_at dksX0_found_0 17 rfl rfl)
theorem dX0_found_20 : decode cX0_found 20 = .ok (.aload_n 0, 1) := dk_42 (dk_at dksX0_found_0 20 rfl rfl)
theorem dX0_found_21 : decode cX0_found 21 = .ok (.iload_n 1, 1) := dk_27 (dk_at dksX0_found_0 21 rfl rfl)
theorem dX0_found_22 : decode cX0_found 22 = .ok (.iload_n 2, 1) := dk_28 (dk_at dksX0_found_0 22 rfl rfl)
theorem dX0_found_23 : decode cX0_found 23 = .ok (.iload_n 3, 1) := dk_29 (dk_at dksX0_found_0 23 rfl rfl)
theorem dX0_found_24 : decode cX0_found 24 = .ok (.invokestatic 205, 3) := dk_184 0 205 (dk_at dksX0_found_1 0 rfl rfl)
theorem dX0_found_27 : decode cX0_found 27 = .ok (.iconst 0, 1) := dk_3 (dk_at dksX0_found_1 3 rfl rfl)
theorem dX0_found_28 : decode cX0_found 28 = .ok (.invokevirtual 303, 3) := dk_182 1 47 (dk_at dksX0_found_1 4 rfl rfl)
theorem dX0_found_31 : decode cX0_found 31 = .ok (.lreturn, 1) := dk_173 (dk_at dksX0_found_1 7 rfl rfl)
abbrev cX0_foundFault : ByteArray := prog_1_method_54_code
def yX0_foundFault : MethodName := ⟨RX0, "foundFault", "(III)I"⟩
def dkwX0_foundFault_1 : List UInt8 := [20, 1, 42, 184, 0, 103, 153, 0, 7, 3, 167, 0, 5, 16, 253, 172]
abbrev dktX0_foundFault_1 : List UInt8 := dkwX0_foundFault_1 ++ []
def dkwX0_foundFault_0 : List UInt8 := [42, 28, 29, 8, 182, 1, 32, 54, 4, 21, 4, 153, 0, 8, 21, 4, 167, 0, 21, 27, 133, 9]
abbrev dktX0_foundFault_0 : List UInt8 := dkwX0_foundFault_0 ++ dktX0_foundFault_1
theorem dksX0_foundFault_0 : cX0_foundFault.data.toList.drop 0 = dktX0_foundFault_0 := by decide +kernel
theorem dksX0_foundFault_1 : cX0_foundFault.data.toList.drop 22 = dktX0_foundFault_1 := dk_seg dksX0_foundFault_0 22 rfl rfl
theorem dX0_foundFault_0 : decode cX0_foundFault 0 = .ok (.aload_n 0, 1) := dk_42 (dk_at dksX0_foundFault_0 0 rfl rfl)
theorem dX0_foundFault_1 : decode cX0_foundFault 1 = .ok (.iload_n 2, 1) := dk_28 (dk_at dksX0_foundFault_0 1 rfl rfl)
theorem dX0_foundFault_2 : decode cX0_foundFault 2 = .ok (.iload_n 3, 1) := dk_29 (dk_at dksX0_foundFault_0 2 rfl rfl)
theorem dX0_foundFault_3 : decode cX0_foundFault 3 = .ok (.iconst 5, 1) := dk_8 (dk_at dksX0_foundFault_0 3 rfl rfl)
theorem dX0_foundFault_4 : decode cX0_foundFault 4 = .ok (.invokevirtual 288, 3) := dk_182 1 32 (dk_at dksX0_foundFault_0 4 rfl rfl)
theorem dX0_foundFault_7 : decode cX0_foundFault 7 = .ok (.istore 4, 2) := dk_54 4 (dk_at dksX0_foundFault_0 7 rfl rfl)
theorem dX0_foundFault_9 : decode cX0_foundFault 9 = .ok (.iload 4, 2) := dk_21 4 (dk_at dksX0_foundFault_0 9 rfl rfl)
theorem dX0_foundFault_11 : decode cX0_foundFault 11 = .ok (.ifCond .eq 8, 3) := dk_153 0 8 (dk_at dksX0_foundFault_0 11 rfl rfl)
theorem dX0_foundFault_14 : decode cX0_foundFault 14 = .ok (.iload 4, 2) := dk_21 4 (dk_at dksX0_foundFault_0 14 rfl rfl)
theorem dX0_foundFault_16 : decode cX0_foundFault 16 = .ok (.goto 21, 3) := dk_167 0 21 (dk_at dksX0_foundFault_0 16 rfl rfl)
theorem dX0_foundFault_19 : decode cX0_foundFault 19 = .ok (.iload_n 1, 1) := dk_27 (dk_at dksX0_foundFault_0 19 rfl rfl)
theorem dX0_foundFault_20 : decode cX0_foundFault 20 = .ok (.i2l, 1) := dk_133 (dk_at dksX0_foundFault_0 20 rfl rfl)
theorem dX0_foundFault_21 : decode cX0_foundFault 21 = .ok (.lconst 0, 1) := dk_9 (dk_at dksX0_foundFault_0 21 rfl rfl)
theorem dX0_foundFault_22 : decode cX0_foundFault 22 = .ok (.ldc2_w 298, 3) := dk_20 1 42 (dk_at dksX0_foundFault_1 0 rfl rfl)
theorem dX0_foundFault_25 : decode cX0_foundFault 25 = .ok (.invokestatic 103, 3) := dk_184 0 103 (dk_at dksX0_foundFault_1 3 rfl rfl)
theorem dX0_foundFault_28 : decode cX0_foundFault 28 = .ok (.ifCond .eq 7, 3) := dk_153 0 7 (dk_at dksX0_foundFault_1 6 rfl rfl)
theorem dX0_foundFault_31 : decode cX0_foundFault 31 = .ok (.iconst 0, 1) := dk_3 (dk_at dksX0_foundFault_1 9 rfl rfl)
theorem dX0_foundFault_32 : decode cX0_foundFault 32 = .ok (.goto 5, 3) := dk_167 0 5 (dk_at dksX0_foundFault_1 10 rfl rfl)
theorem dX0_foundFault_35 : decode cX0_foundFault 35 = .ok (.bipush (-3), 2) := dk_16 253 (dk_at dksX0_foundFault_1 13 rfl rfl)
theorem dX0_foundFault_37 : decode cX0_foundFault 37 = .ok (.ireturn, 1) := dk_172 (dk_at dksX0_foundFault_1 15 rfl rfl)
abbrev cX0_laysOnward : ByteArray := prog_1_method_53_code
def yX0_laysOnward : MethodName := ⟨RX0, "laysOnward", "(III)J"⟩
def dkwX0_laysOnward_7 : List UInt8 := [167, 255, 145, 42, 180, 0, 63, 42, 180, 0, 30, 180, 0, 170, 47, 173]
abbrev dktX0_laysOnward_7 : List UInt8 := dkwX0_laysOnward_7 ++ []
def dkwX0_laysOnward_6 : List UInt8 := [42, 180, 0, 63, 16, 36, 21, 4, 104, 21, 5, 96, 22, 6, 80, 132, 5, 1, 167, 255, 159, 132, 4, 255]
abbrev dktX0_laysOnward_6 : List UInt8 := dkwX0_laysOnward_6 ++ dktX0_laysOnward_7
def dkwX0_laysOnward_5 : List UInt8 := [42, 180, 0, 49, 16, 8, 21, 5, 104, 21, 8, 96, 46, 96, 47, 97, 55, 6, 132, 8, 1, 167, 255, 193]
abbrev dktX0_laysOnward_5 : List UInt8 := dkwX0_laysOnward_5 ++ dktX0_laysOnward_6
def dkwX0_laysOnward_4 : List UInt8 := [21, 5, 104, 21, 8, 96, 46, 2, 159, 0, 34, 22, 6, 42, 180, 0, 63, 16, 36, 21, 4, 4, 96, 104]
abbrev dktX0_laysOnward_4 : List UInt8 := dkwX0_laysOnward_4 ++ dktX0_laysOnward_5
def dkwX0_laysOnward_3 : List UInt8 := [55, 6, 3, 54, 8, 21, 8, 42, 180, 0, 21, 180, 0, 133, 162, 0, 57, 42, 180, 0, 49, 16, 8]
abbrev dktX0_laysOnward_3 : List UInt8 := dkwX0_laysOnward_3 ++ dktX0_laysOnward_4
def dkwX0_laysOnward_2 : List UInt8 := [167, 255, 223, 27, 4, 100, 54, 4, 21, 4, 155, 0, 112, 3, 54, 5, 21, 5, 16, 36, 162, 0, 96, 9]
abbrev dktX0_laysOnward_2 : List UInt8 := dkwX0_laysOnward_2 ++ dktX0_laysOnward_3
def dkwX0_laysOnward_1 : List UInt8 := [16, 36, 27, 104, 21, 4, 96, 21, 4, 28, 160, 0, 7, 10, 167, 0, 4, 9, 80, 132, 4, 1]
abbrev dktX0_laysOnward_1 : List UInt8 := dkwX0_laysOnward_1 ++ dktX0_laysOnward_2
def dkwX0_laysOnward_0 : List UInt8 := [42, 42, 180, 0, 30, 29, 182, 0, 247, 3, 54, 4, 21, 4, 16, 36, 162, 0, 32, 42, 180, 0, 63]
abbrev dktX0_laysOnward_0 : List UInt8 := dkwX0_laysOnward_0 ++ dktX0_laysOnward_1
theorem dksX0_laysOnward_0 : cX0_laysOnward.data.toList.drop 0 = dktX0_laysOnward_0 := by decide +kernel
theorem dksX0_laysOnward_1 : cX0_laysOnward.data.toList.drop 23 = dktX0_laysOnward_1 := dk_seg dksX0_laysOnward_0 23 rfl rfl
theorem dksX0_laysOnward_2 : cX0_laysOnward.data.toList.drop 45 = dktX0_laysOnward_2 := dk_seg dksX0_laysOnward_1 22 rfl rfl
theorem dksX0_laysOnward_3 : cX0_laysOnward.data.toList.drop 69 = dktX0_laysOnward_3 := dk_seg dksX0_laysOnward_2 24 rfl rfl
theorem dksX0_laysOnward_4 : cX0_laysOnward.data.toList.drop 92 = dktX0_laysOnward_4 := dk_seg dksX0_laysOnward_3 23 rfl rfl
theorem dksX0_laysOnward_5 : cX0_laysOnward.data.toList.drop 116 = dktX0_laysOnward_5 := dk_seg dksX0_laysOnward_4 24 rfl rfl
theorem dksX0_laysOnward_6 : cX0_laysOnward.data.toList.drop 140 = dktX0_laysOnward_6 := dk_seg dksX0_laysOnward_5 24 rfl rfl
theorem dksX0_laysOnward_7 : cX0_laysOnward.data.toList.drop 164 = dktX0_laysOnward_7 := dk_seg dksX0_laysOnward_6 24 rfl rfl
theorem dX0_laysOnward_0 : decode cX0_laysOnward 0 = .ok (.aload_n 0, 1) := dk_42 (dk_at dksX0_laysOnward_0 0 rfl rfl)
theorem dX0_laysOnward_1 : decode cX0_laysOnward 1 = .ok (.aload_n 0, 1) := dk_42 (dk_at dksX0_laysOnward_0 1 rfl rfl)
theorem dX0_laysOnward_2 : decode cX0_laysOnward 2 = .ok (.getfield 30, 3) := dk_180 0 30 (dk_at dksX0_laysOnward_0 2 rfl rfl)
theorem dX0_laysOnward_5 : decode cX0_laysOnward 5 = .ok (.iload_n 3, 1) := dk_29 (dk_at dksX0_laysOnward_0 5 rfl rfl)
theorem dX0_laysOnward_6 : decode cX0_laysOnward 6 = .ok (.invokevirtual 247, 3) := dk_182 0 247 (dk_at dksX0_laysOnward_0 6 rfl rfl)
theorem dX0_laysOnward_9 : decode cX0_laysOnward 9 = .ok (.iconst 0, 1) := dk_3 (dk_at dksX0_laysOnward_0 9 rfl rfl)
theorem dX0_laysOnward_10 : decode cX0_laysOnward 10 = .ok (.istore 4, 2) := dk_54 4 (dk_at dksX0_laysOnward_0 10 rfl rfl)
theorem dX0_laysOnward_12 : decode cX0_laysOnward 12 = .ok (.iload 4, 2) := dk_21 4 (dk_at dksX0_laysOnward_0 12 rfl rfl)
theorem dX0_laysOnward_14 : decode cX0_laysOnward 14 = .ok (.bipush 36, 2) := dk_16 36 (dk_at dksX0_laysOnward_0 14 rfl rfl)
theorem dX0_laysOnward_16 : decode cX0_laysOnward 16 = .ok (.if_icmp .ge 32, 3) := dk_162 0 32 (dk_at dksX0_laysOnward_0 16 rfl rfl)
theorem dX0_laysOnward_19 : decode cX0_laysOnward 19 = .ok (.aload_n 0, 1) := dk_42 (dk_at dksX0_laysOnward_0 19 rfl rfl)
theorem dX0_laysOnward_20 : decode cX0_laysOnward 20 = .ok (.getfield 63, 3) := dk_180 0 63 (dk_at dksX0_laysOnward_0 20 rfl rfl)
theorem dX0_laysOnward_23 : decode cX0_laysOnward 23 = .ok (.bipush 36, 2) := dk_16 36 (dk_at dksX0_laysOnward_1 0 rfl rfl)
theorem dX0_laysOnward_25 : decode cX0_laysOnward 25 = .ok (.iload_n 1, 1) := dk_27 (dk_at dksX0_laysOnward_1 2 rfl rfl)
theorem dX0_laysOnward_26 : decode cX0_laysOnward 26 = .ok (.imul, 1) := dk_104 (dk_at dksX0_laysOnward_1 3 rfl rfl)
theorem dX0_laysOnward_27 : decode cX0_laysOnward 27 = .ok (.iload 4, 2) := dk_21 4 (dk_at dksX0_laysOnward_1 4 rfl rfl)
theorem dX0_laysOnward_29 : decode cX0_laysOnward 29 = .ok (.iadd, 1) := dk_96 (dk_at dksX0_laysOnward_1 6 rfl rfl)
theorem dX0_laysOnward_30 : decode cX0_laysOnward 30 = .ok (.iload 4, 2) := dk_21 4 (dk_at dksX0_laysOnward_1 7 rfl rfl)
theorem dX0_laysOnward_32 : decode cX0_laysOnward 32 = .ok (.iload_n 2, 1) := dk_28 (dk_at dksX0_laysOnward_1 9 rfl rfl)
theorem dX0_laysOnward_33 : decode cX0_laysOnward 33 = .ok (.if_icmp .ne 7, 3) := dk_160 0 7 (dk_at dksX0_laysOnward_1 10 rfl rfl)
theorem dX0_laysOnward_36 : decode cX0_laysOnward 36 = .ok (.lconst 1, 1) := dk_10 (dk_at dksX0_laysOnward_1 13 rfl rfl)
theorem dX0_laysOnward_37 : decode cX0_laysOnward 37 = .ok (.goto 4, 3) := dk_167 0 4 (dk_at dksX0_laysOnward_1 14 rfl rfl)
theorem dX0_laysOnward_40 : decode cX0_laysOnward 40 = .ok (.lconst 0, 1) := dk_9 (dk_at dksX0_laysOnward_1 17 rfl rfl)
theorem dX0_laysOnward_41 : decode cX0_laysOnward 41 = .ok (.lastore, 1) := dk_80 (dk_at dksX0_laysOnward_1 18 rfl rfl)
theorem dX0_laysOnward_42 : decode cX0_laysOnward 42 = .ok (.iinc 4 1, 3) := dk_132 4 1 (dk_at dksX0_laysOnward_1 19 rfl rfl)
theorem dX0_laysOnward_45 : decode cX0_laysOnward 45 = .ok (.goto (-33), 3) := dk_167 255 223 (dk_at dksX0_laysOnward_2 0 rfl rfl)
theorem dX0_laysOnward_48 : decode cX0_laysOnward 48 = .ok (.iload_n 1, 1) := dk_27 (dk_at dksX0_laysOnward_2 3 rfl rfl)
theorem dX0_laysOnward_49 : decode cX0_laysOnward 49 = .ok (.iconst 1, 1) := dk_4 (dk_at dksX0_laysOnward_2 4 rfl rfl)
theorem dX0_laysOnward_50 : decode cX0_laysOnward 50 = .ok (.isub, 1) := dk_100 (dk_at dksX0_laysOnward_2 5 rfl rfl)
theorem dX0_laysOnward_51 : decode cX0_laysOnward 51 = .ok (.istore 4, 2) := dk_54 4 (dk_at dksX0_laysOnward_2 6 rfl rfl)
theorem dX0_laysOnward_53 : decode cX0_laysOnward 53 = .ok (.iload 4, 2) := dk_21 4 (dk_at dksX0_laysOnward_2 8 rfl rfl)
theorem dX0_laysOnward_55 : decode cX0_laysOnward 55 = .ok (.ifCond .lt 112, 3) := dk_155 0 112 (dk_at dksX0_laysOnward_2 10 rfl rfl)
theorem dX0_laysOnward_58 : decode cX0_laysOnward 58 = .ok (.iconst 0, 1) := dk_3 (dk_at dksX0_laysOnward_2 13 rfl rfl)
theorem dX0_laysOnward_59 : decode cX0_laysOnward 59 = .ok (.istore 5, 2) := dk_54 5 (dk_at dksX0_laysOnward_2 14 rfl rfl)
theorem dX0_laysOnward_61 : decode cX0_laysOnward 61 = .ok (.iload 5, 2) := dk_21 5 (dk_at dksX0_laysOnward_2 16 rfl rfl)
theorem dX0_laysOnward_63 : decode cX0_laysOnward 63 = .ok (.bipush 36, 2) := dk_16 36 (dk_at dksX0_laysOnward_2 18 rfl rfl)
theorem dX0_laysOnward_65 : decode cX0_laysOnward 65 = .ok (.if_icmp .ge 96, 3) := dk_162 0 96 (dk_at dksX0_laysOnward_2 20 rfl rfl)
theorem dX0_laysOnward_68 : decode cX0_laysOnward 68 = .ok (.lconst 0, 1) := dk_9 (dk_at dksX0_laysOnward_2 23 rfl rfl)
theorem dX0_laysOnward_69 : decode cX0_laysOnward 69 = .ok (.lstore 6, 2) := dk_55 6 (dk_at dksX0_laysOnward_3 0 rfl rfl)
theorem dX0_laysOnward_71 : decode cX0_laysOnward 71 = .ok (.iconst 0, 1) := dk_3 (dk_at dksX0_laysOnward_3 2 rfl rfl)
theorem dX0_laysOnward_72 : decode cX0_laysOnward 72 = .ok (.istore 8, 2) := dk_54 8 (dk_at dksX0_laysOnward_3 3 rfl rfl)
theorem dX0_laysOnward_74 : decode cX0_laysOnward 74 = .ok (.iload 8, 2) := dk_21 8 (dk_at dksX0_laysOnward_3 5 rfl rfl)
theorem dX0_laysOnward_76 : decode cX0_laysOnward 76 = .ok (.aload_n 0, 1) := dk_42 (dk_at dksX0_laysOnward_3 7 rfl rfl)
theorem dX0_laysOnward_77 : decode cX0_laysOnward 77 = .ok (.getfield 21, 3) := dk_180 0 21 (dk_at dksX0_laysOnward_3 8 rfl rfl)
theorem dX0_laysOnward_80 : decode cX0_laysOnward 80 = .ok (.getfield 133, 3) := dk_180 0 133 (dk_at dksX0_laysOnward_3 11 rfl rfl)
theorem dX0_laysOnward_83 : decode cX0_laysOnward 83 = .ok (.if_icmp .ge 57, 3) := dk_162 0 57 (dk_at dksX0_laysOnward_3 14 rfl rfl)
theorem dX0_laysOnward_86 : decode cX0_laysOnward 86 = .ok (.aload_n 0, 1) := dk_42 (dk_at dksX0_laysOnward_3 17 rfl rfl)
theorem dX0_laysOnward_87 : decode cX0_laysOnward 87 = .ok (.getfield 49, 3) := dk_180 0 49 (dk_at dksX0_laysOnward_3 18 rfl rfl)
theorem dX0_laysOnward_90 : decode cX0_laysOnward 90 = .ok (.bipush 8, 2) := dk_16 8 (dk_at dksX0_laysOnward_3 21 rfl rfl)
theorem dX0_laysOnward_92 : decode cX0_laysOnward 92 = .ok (.iload 5, 2) := dk_21 5 (dk_at dksX0_laysOnward_4 0 rfl rfl)
theorem dX0_laysOnward_94 : decode cX0_laysOnward 94 = .ok (.imul, 1) := dk_104 (dk_at dksX0_laysOnward_4 2 rfl rfl)
theorem dX0_laysOnward_95 : decode cX0_laysOnward 95 = .ok (.iload 8, 2) := dk_21 8 (dk_at dksX0_laysOnward_4 3 rfl rfl)
theorem dX0_laysOnward_97 : decode cX0_laysOnward 97 = .ok (.iadd, 1) := dk_96 (dk_at dksX0_laysOnward_4 5 rfl rfl)
theorem dX0_laysOnward_98 : decode cX0_laysOnward 98 = .ok (.iaload, 1) := dk_46 (dk_at dksX0_laysOnward_4 6 rfl rfl)
theorem dX0_laysOnward_99 : decode cX0_laysOnward 99 = .ok (.iconst (-1), 1) := dk_2 (dk_at dksX0_laysOnward_4 7 rfl rfl)
theorem dX0_laysOnward_100 : decode cX0_laysOnward 100 = .ok (.if_icmp .eq 34, 3) := dk_159 0 34 (dk_at dksX0_laysOnward_4 8 rfl rfl)
theorem dX0_laysOnward_103 : decode cX0_laysOnward 103 = .ok (.lload 6, 2) := dk_22 6 (dk_at dksX0_laysOnward_4 11 rfl rfl)
theorem dX0_laysOnward_105 : decode cX0_laysOnward 105 = .ok (.aload_n 0, 1) := dk_42 (dk_at dksX0_laysOnward_4 13 rfl rfl)
theorem dX0_laysOnward_106 : decode cX0_laysOnward 106 = .ok (.getfield 63, 3) := dk_180 0 63 (dk_at dksX0_laysOnward_4 14 rfl rfl)
theorem dX0_laysOnward_109 : decode cX0_laysOnward 109 = .ok (.bipush 36, 2) := dk_16 36 (dk_at dksX0_laysOnward_4 17 rfl rfl)
theorem dX0_laysOnward_111 : decode cX0_laysOnward 111 = .ok (.iload 4, 2) := dk_21 4 (dk_at dksX0_laysOnward_4 19 rfl rfl)
theorem dX0_laysOnward_113 : decode cX0_laysOnward 113 = .ok (.iconst 1, 1) := dk_4 (dk_at dksX0_laysOnward_4 21 rfl rfl)
theorem dX0_laysOnward_114 : decode cX0_laysOnward 114 = .ok (.iadd, 1) := dk_96 (dk_at dksX0_laysOnward_4 22 rfl rfl)
theorem dX0_laysOnward_115 : decode cX0_laysOnward 115 = .ok (.imul, 1) := dk_104 (dk_at dksX0_laysOnward_4 23 rfl rfl)
theorem dX0_laysOnward_116 : decode cX0_laysOnward 116 = .ok (.aload_n 0, 1) := dk_42 (dk_at dksX0_laysOnward_5 0 rfl rfl)
theorem dX0_laysOnward_117 : decode cX0_laysOnward 117 = .ok (.getfield 49, 3) := dk_180 0 49 (dk_at dksX0_laysOnward_5 1 rfl rfl)
theorem dX0_laysOnward_120 : decode cX0_laysOnward 120 = .ok (.bipush 8, 2) := dk_16 8 (dk_at dksX0_laysOnward_5 4 rfl rfl)
theorem dX0_laysOnward_122 : decode cX0_laysOnward 122 = .ok (.iload 5, 2) := dk_21 5 (dk_at dksX0_laysOnward_5 6 rfl rfl)
theorem dX0_laysOnward_124 : decode cX0_laysOnward 124 = .ok (.imul, 1) := dk_104 (dk_at dksX0_laysOnward_5 8 rfl rfl)
theorem dX0_laysOnward_125 : decode cX0_laysOnward 125 = .ok (.iload 8, 2) := dk_21 8 (dk_at dksX0_laysOnward_5 9 rfl rfl)
theorem dX0_laysOnward_127 : decode cX0_laysOnward 127 = .ok (.iadd, 1) := dk_96 (dk_at dksX0_laysOnward_5 11 rfl rfl)
theorem dX0_laysOnward_128 : decode cX0_laysOnward 128 = .ok (.iaload, 1) := dk_46 (dk_at dksX0_laysOnward_5 12 rfl rfl)
theorem dX0_laysOnward_129 : decode cX0_laysOnward 129 = .ok (.iadd, 1) := dk_96 (dk_at dksX0_laysOnward_5 13 rfl rfl)
theorem dX0_laysOnward_130 : decode cX0_laysOnward 130 = .ok (.laload, 1) := dk_47 (dk_at dksX0_laysOnward_5 14 rfl rfl)
theorem dX0_laysOnward_131 : decode cX0_laysOnward 131 = .ok (.ladd, 1) := dk_97 (dk_at dksX0_laysOnward_5 15 rfl rfl)
theorem dX0_laysOnward_132 : decode cX0_laysOnward 132 = .ok (.lstore 6, 2) := dk_55 6 (dk_at dksX0_laysOnward_5 16 rfl rfl)
theorem dX0_laysOnward_134 : decode cX0_laysOnward 134 = .ok (.iinc 8 1, 3) := dk_132 8 1 (dk_at dksX0_laysOnward_5 18 rfl rfl)
theorem dX0_laysOnward_137 : decode cX0_laysOnward 137 = .ok (.goto (-63), 3) := dk_167 255 193 (dk_at dksX0_laysOnward_5 21 rfl rfl)
theorem dX0_laysOnward_140 : decode cX0_laysOnward 140 = .ok (.aload_n 0, 1) := dk_42 (dk_at dksX0_laysOnward_6 0 rfl rfl)
theorem dX0_laysOnward_141 : decode cX0_laysOnward 141 = .ok (.getfield 63, 3) := dk_180 0 63 (dk_at dksX0_laysOnward_6 1 rfl rfl)
theorem dX0_laysOnward_144 : decode cX0_laysOnward 144 = .ok (.bipush 36, 2) := dk_16 36 (dk_at dksX0_laysOnward_6 4 rfl rfl)
theorem dX0_laysOnward_146 : decode cX0_laysOnward 146 = .ok (.iload 4, 2) := dk_21 4 (dk_at dksX0_laysOnward_6 6 rfl rfl)
theorem dX0_laysOnward_148 : decode cX0_laysOnward 148 = .ok (.imul, 1) := dk_104 (dk_at dksX0_laysOnward_6 8 rfl rfl)
theorem dX0_laysOnward_149 : decode cX0_laysOnward 149 = .ok (.iload 5, 2) := dk_21 5 (dk_at dksX0_laysOnward_6 9 rfl rfl)
theorem dX0_laysOnward_151 : decode cX0_laysOnward 151 = .ok (.iadd, 1) := dk_96 (dk_at dksX0_laysOnward_6 11 rfl rfl)
theorem dX0_laysOnward_152 : decode cX0_laysOnward 152 = .ok (.lload 6, 2) := dk_22 6 (dk_at dksX0_laysOnward_6 12 rfl rfl)
theorem dX0_laysOnward_154 : decode cX0_laysOnward 154 = .ok (.lastore, 1) := dk_80 (dk_at dksX0_laysOnward_6 14 rfl rfl)
theorem dX0_laysOnward_155 : decode cX0_laysOnward 155 = .ok (.iinc 5 1, 3) := dk_132 5 1 (dk_at dksX0_laysOnward_6 15 rfl rfl)
theorem dX0_laysOnward_158 : decode cX0_laysOnward 158 = .ok (.goto (-97), 3) := dk_167 255 159 (dk_at dksX0_laysOnward_6 18 rfl rfl)
theorem dX0_laysOnward_161 : decode cX0_laysOnward 161 = .ok (.iinc 4 (-1), 3) := dk_132 4 255 (dk_at dksX0_laysOnward_6 21 rfl rfl)
theorem dX0_laysOnward_164 : decode cX0_laysOnward 164 = .ok (.goto (-111), 3) := dk_167 255 145 (dk_at dksX0_laysOnward_7 0 rfl rfl)
theorem dX0_laysOnward_167 : decode cX0_laysOnward 167 = .ok (.aload_n 0, 1) := dk_42 (dk_at dksX0_laysOnward_7 3 rfl rfl)
theorem dX0_laysOnward_168 : decode cX0_laysOnward 168 = .ok (.getfield 63, 3) := dk_180 0 63 (dk_at dksX0_laysOnward_7 4 rfl rfl)
theorem dX0_laysOnward_171 : decode cX0_laysOnward 171 = .ok (.aload_n 0, 1) := dk_42 (dk_at dksX0_laysOnward_7 7 rfl rfl)
theorem dX0_laysOnward_172 : decode cX0_laysOnward 172 = .ok (.getfield 30, 3) := dk_180 0 30 (dk_at dksX0_laysOnward_7 8 rfl rfl)
theorem dX0_laysOnward_175 : decode cX0_laysOnward 175 = .ok (.getfield 170, 3) := dk_180 0 170 (dk_at dksX0_laysOnward_7 11 rfl rfl)
theorem dX0_laysOnward_178 : decode cX0_laysOnward 178 = .ok (.laload, 1) := dk_47 (dk_at dksX0_laysOnward_7 14 rfl rfl)
theorem dX0_laysOnward_179 : decode cX0_laysOnward 179 = .ok (.lreturn, 1) := dk_173 (dk_at dksX0_laysOnward_7 15 rfl rfl)
abbrev cX0_foundBy : ByteArray := prog_1_method_56_code
def yX0_foundBy : MethodName := ⟨RX0, "foundBy", "(IIII)I"⟩
def dkwX0_foundBy_6 : List UInt8 := [104, 21, 8, 96, 46, 54, 6, 132, 7, 1, 167, 255, 171]
abbrev dktX0_foundBy_6 : List UInt8 := dkwX0_foundBy_6 ++ []
def dkwX0_foundBy_5 : List UInt8 := [132, 8, 1, 167, 255, 205, 21, 7, 21, 4, 160, 0, 6, 21, 8, 172, 42, 180, 0, 49, 16, 8, 21, 6]
abbrev dktX0_foundBy_5 : List UInt8 := dkwX0_foundBy_5 ++ dktX0_foundBy_6
def dkwX0_foundBy_4 : List UInt8 := [4, 96, 104, 42, 180, 0, 49, 16, 8, 21, 6, 104, 21, 8, 96, 46, 96, 47, 9, 148, 154, 0, 9]
abbrev dktX0_foundBy_4 : List UInt8 := dkwX0_foundBy_4 ++ dktX0_foundBy_5
def dkwX0_foundBy_3 : List UInt8 := [180, 0, 49, 16, 8, 21, 6, 104, 21, 8, 96, 46, 2, 159, 0, 34, 42, 180, 0, 63, 16, 36, 21, 7]
abbrev dktX0_foundBy_3 : List UInt8 := dkwX0_foundBy_3 ++ dktX0_foundBy_4
def dkwX0_foundBy_2 : List UInt8 := [21, 4, 27, 161, 0, 5, 2, 172, 42, 180, 0, 30, 180, 0, 170, 54, 6, 3, 54, 7, 3, 54, 8, 42]
abbrev dktX0_foundBy_2 : List UInt8 := dkwX0_foundBy_2 ++ dktX0_foundBy_3
def dkwX0_foundBy_1 : List UInt8 := [21, 5, 153, 0, 6, 21, 5, 172, 42, 27, 28, 29, 184, 0, 205, 3, 182, 1, 47, 9, 148, 153, 0, 9]
abbrev dktX0_foundBy_1 : List UInt8 := dkwX0_foundBy_1 ++ dktX0_foundBy_2
def dkwX0_foundBy_0 : List UInt8 := [42, 27, 28, 29, 182, 1, 44, 54, 5, 21, 5, 154, 0, 12, 21, 4, 156, 0, 7, 16, 253, 54, 5]
abbrev dktX0_foundBy_0 : List UInt8 := dkwX0_foundBy_0 ++ dktX0_foundBy_1
theorem dksX0_foundBy_0 : cX0_foundBy.data.toList.drop 0 = dktX0_foundBy_0 := by decide +kernel
theorem dksX0_foundBy_1 : cX0_foundBy.data.toList.drop 23 = dktX0_foundBy_1 := dk_seg dksX0_foundBy_0 23 rfl rfl
theorem dksX0_foundBy_2 : cX0_foundBy.data.toList.drop 47 = dktX0_foundBy_2 := dk_seg dksX0_foundBy_1 24 rfl rfl
theorem dksX0_foundBy_3 : cX0_foundBy.data.toList.drop 71 = dktX0_foundBy_3 := dk_seg dksX0_foundBy_2 24 rfl rfl
theorem dksX0_foundBy_4 : cX0_foundBy.data.toList.drop 95 = dktX0_foundBy_4 := dk_seg dksX0_foundBy_3 24 rfl rfl
theorem dksX0_foundBy_5 : cX0_foundBy.data.toList.drop 118 = dktX0_foundBy_5 := dk_seg dksX0_foundBy_4 23 rfl rfl
theorem dksX0_foundBy_6 : cX0_foundBy.data.toList.drop 142 = dktX0_foundBy_6 := dk_seg dksX0_foundBy_5 24 rfl rfl
theorem dX0_foundBy_0 : decode cX0_foundBy 0 = .ok (.aload_n 0, 1) := dk_42 (dk_at dksX0_foundBy_0 0 rfl rfl)
theorem dX0_foundBy_1 : decode cX0_foundBy 1 = .ok (.iload_n 1, 1) := dk_27 (dk_at dksX0_foundBy_0 1 rfl rfl)
theorem dX0_foundBy_2 : decode cX0_foundBy 2 = .ok (.iload_n 2, 1) := dk_28 (dk_at dksX0_foundBy_0 2 rfl rfl)
theorem dX0_foundBy_3 : decode cX0_foundBy 3 = .ok (.iload_n 3, 1) := dk_29 (dk_at dksX0_foundBy_0 3 rfl rfl)
theorem dX0_foundBy_4 : decode cX0_foundBy 4 = .ok (.invokevirtual 300, 3) := dk_182 1 44 (dk_at dksX0_foundBy_0 4 rfl rfl)
theorem dX0_foundBy_7 : decode cX0_foundBy 7 = .ok (.istore 5, 2) := dk_54 5 (dk_at dksX0_foundBy_0 7 rfl rfl)
theorem dX0_foundBy_9 : decode cX0_foundBy 9 = .ok (.iload 5, 2) := dk_21 5 (dk_at dksX0_foundBy_0 9 rfl rfl)
theorem dX0_foundBy_11 : decode cX0_foundBy 11 = .ok (.ifCond .ne 12, 3) := dk_154 0 12 (dk_at dksX0_foundBy_0 11 rfl rfl)
theorem dX0_foundBy_14 : decode cX0_foundBy 14 = .ok (.iload 4, 2) := dk_21 4 (dk_at dksX0_foundBy_0 14 rfl rfl)
theorem dX0_foundBy_16 : decode cX0_foundBy 16 = .ok (.ifCond .ge 7, 3) := dk_156 0 7 (dk_at dksX0_foundBy_0 16 rfl rfl)
theorem dX0_foundBy_19 : decode cX0_foundBy 19 = .ok (.bipush (-3), 2) := dk_16 253 (dk_at dksX0_foundBy_0 19 rfl rfl)
theorem dX0_foundBy_21 : decode cX0_foundBy 21 = .ok (.istore 5, 2) := dk_54 5 (dk_at dksX0_foundBy_0 21 rfl rfl)
theorem dX0_foundBy_23 : decode cX0_foundBy 23 = .ok (.iload 5, 2) := dk_21 5 (dk_at dksX0_foundBy_1 0 rfl rfl)
theorem dX0_foundBy_25 : decode cX0_foundBy 25 = .ok (.ifCond .eq 6, 3) := dk_153 0 6 (dk_at dksX0_foundBy_1 2 rfl rfl)
theorem dX0_foundBy_28 : decode cX0_foundBy 28 = .ok (.iload 5, 2) := dk_21 5 (dk_at dksX0_foundBy_1 5 rfl rfl)
theorem dX0_foundBy_30 : decode cX0_foundBy 30 = .ok (.ireturn, 1) := dk_172 (dk_at dksX0_foundBy_1 7 rfl rfl)
theorem dX0_foundBy_31 : decode cX0_foundBy 31 = .ok (.aload_n 0, 1) := dk_42 (dk_at dksX0_foundBy_1 8 rfl rfl)
theorem dX0_foundBy_32 : decode cX0_foundBy 32 = .ok (.iload_n 1, 1) := dk_27 (dk_at dksX0_foundBy_1 9 rfl rfl)
theorem dX0_foundBy_33 : decode cX0_foundBy 33 = .ok (.iload_n 2, 1) := dk_28 (dk_at dksX0_foundBy_1 10 rfl rfl)
theorem dX0_foundBy_34 : decode cX0_foundBy 34 = .ok (.iload_n 3, 1) := dk_29 (dk_at dksX0_foundBy_1 11 rfl rfl)
theorem dX0_foundBy_35 : decode cX0_foundBy 35 = .ok (.invokestatic 205, 3) := dk_184 0 205 (dk_at dksX0_foundBy_1 12 rfl rfl)
theorem dX0_foundBy_38 : decode cX0_foundBy 38 = .ok (.iconst 0, 1) := dk_3 (dk_at dksX0_foundBy_1 15 rfl rfl)
theorem dX0_foundBy_39 : decode cX0_foundBy 39 = .ok (.invokevirtual 303, 3) := dk_182 1 47 (dk_at dksX0_foundBy_1 16 rfl rfl)
theorem dX0_foundBy_42 : decode cX0_foundBy 42 = .ok (.lconst 0, 1) := dk_9 (dk_at dksX0_foundBy_1 19 rfl rfl)
theorem dX0_foundBy_43 : decode cX0_foundBy 43 = .ok (.lcmp, 1) := dk_148 (dk_at dksX0_foundBy_1 20 rfl rfl)
theorem dX0_foundBy_44 : decode cX0_foundBy 44 = .ok (.ifCond .eq 9, 3) := dk_153 0 9 (dk_at dksX0_foundBy_1 21 rfl rfl)
theorem dX0_foundBy_47 : decode cX0_foundBy 47 = .ok (.iload 4, 2) := dk_21 4 (dk_at dksX0_foundBy_2 0 rfl rfl)
theorem dX0_foundBy_49 : decode cX0_foundBy 49 = .ok (.iload_n 1, 1) := dk_27 (dk_at dksX0_foundBy_2 2 rfl rfl)
theorem dX0_foundBy_50 : decode cX0_foundBy 50 = .ok (.if_icmp .lt 5, 3) := dk_161 0 5 (dk_at dksX0_foundBy_2 3 rfl rfl)
theorem dX0_foundBy_53 : decode cX0_foundBy 53 = .ok (.iconst (-1), 1) := dk_2 (dk_at dksX0_foundBy_2 6 rfl rfl)
theorem dX0_foundBy_54 : decode cX0_foundBy 54 = .ok (.ireturn, 1) := dk_172 (dk_at dksX0_foundBy_2 7 rfl rfl)
theorem dX0_foundBy_55 : decode cX0_foundBy 55 = .ok (.aload_n 0, 1) := dk_42 (dk_at dksX0_foundBy_2 8 rfl rfl)
theorem dX0_foundBy_56 : decode cX0_foundBy 56 = .ok (.getfield 30, 3) := dk_180 0 30 (dk_at dksX0_foundBy_2 9 rfl rfl)
theorem dX0_foundBy_59 : decode cX0_foundBy 59 = .ok (.getfield 170, 3) := dk_180 0 170 (dk_at dksX0_foundBy_2 12 rfl rfl)
theorem dX0_foundBy_62 : decode cX0_foundBy 62 = .ok (.istore 6, 2) := dk_54 6 (dk_at dksX0_foundBy_2 15 rfl rfl)
theorem dX0_foundBy_64 : decode cX0_foundBy 64 = .ok (.iconst 0, 1) := dk_3 (dk_at dksX0_foundBy_2 17 rfl rfl)
theorem dX0_foundBy_65 : decode cX0_foundBy 65 = .ok (.istore 7, 2) := dk_54 7 (dk_at dksX0_foundBy_2 18 rfl rfl)
theorem dX0_foundBy_67 : decode cX0_foundBy 67 = .ok (.iconst 0, 1) := dk_3 (dk_at dksX0_foundBy_2 20 rfl rfl)
theorem dX0_foundBy_68 : decode cX0_foundBy 68 = .ok (.istore 8, 2) := dk_54 8 (dk_at dksX0_foundBy_2 21 rfl rfl)
theorem dX0_foundBy_70 : decode cX0_foundBy 70 = .ok (.aload_n 0, 1) := dk_42 (dk_at dksX0_foundBy_2 23 rfl rfl)
theorem dX0_foundBy_71 : decode cX0_foundBy 71 = .ok (.getfield 49, 3) := dk_180 0 49 (dk_at dksX0_foundBy_3 0 rfl rfl)
theorem dX0_foundBy_74 : decode cX0_foundBy 74 = .ok (.bipush 8, 2) := dk_16 8 (dk_at dksX0_foundBy_3 3 rfl rfl)
theorem dX0_foundBy_76 : decode cX0_foundBy 76 = .ok (.iload 6, 2) := dk_21 6 (dk_at dksX0_foundBy_3 5 rfl rfl)
theorem dX0_foundBy_78 : decode cX0_foundBy 78 = .ok (.imul, 1) := dk_104 (dk_at dksX0_foundBy_3 7 rfl rfl)
theorem dX0_foundBy_79 : decode cX0_foundBy 79 = .ok (.iload 8, 2) := dk_21 8 (dk_at dksX0_foundBy_3 8 rfl rfl)
theorem dX0_foundBy_81 : decode cX0_foundBy 81 = .ok (.iadd, 1) := dk_96 (dk_at dksX0_foundBy_3 10 rfl rfl)
theorem dX0_foundBy_82 : decode cX0_foundBy 82 = .ok (.iaload, 1) := dk_46 (dk_at dksX0_foundBy_3 11 rfl rfl)
theorem dX0_foundBy_83 : decode cX0_foundBy 83 = .ok (.iconst (-1), 1) := dk_2 (dk_at dksX0_foundBy_3 12 rfl rfl)
theorem dX0_foundBy_84 : decode cX0_foundBy 84 = .ok (.if_icmp .eq 34, 3) := dk_159 0 34 (dk_at dksX0_foundBy_3 13 rfl rfl)
theorem dX0_foundBy_87 : decode cX0_foundBy 87 = .ok (.aload_n 0, 1) := dk_42 (dk_at dksX0_foundBy_3 16 rfl rfl)
theorem dX0_foundBy_88 : decode cX0_foundBy 88 = .ok (.getfield 63, 3) := dk_180 0 63 (dk_at dksX0_foundBy_3 17 rfl rfl)
theorem dX0_foundBy_91 : decode cX0_foundBy 91 = .ok (.bipush 36, 2) := dk_16 36 (dk_at dksX0_foundBy_3 20 rfl rfl)
theorem dX0_foundBy_93 : decode cX0_foundBy 93 = .ok (.iload 7, 2) := dk_21 7 (dk_at dksX0_foundBy_3 22 rfl rfl)
theorem dX0_foundBy_95 : decode cX0_foundBy 95 = .ok (.iconst 1, 1) := dk_4 (dk_at dksX0_foundBy_4 0 rfl rfl)
theorem dX0_foundBy_96 : decode cX0_foundBy 96 = .ok (.iadd, 1) := dk_96 (dk_at dksX0_foundBy_4 1 rfl rfl)
theorem dX0_foundBy_97 : decode cX0_foundBy 97 = .ok (.imul, 1) := dk_104 (dk_at dksX0_foundBy_4 2 rfl rfl)
theorem dX0_foundBy_98 : decode cX0_foundBy 98 = .ok (.aload_n 0, 1) := dk_42 (dk_at dksX0_foundBy_4 3 rfl rfl)
theorem dX0_foundBy_99 : decode cX0_foundBy 99 = .ok (.getfield 49, 3) := dk_180 0 49 (dk_at dksX0_foundBy_4 4 rfl rfl)
theorem dX0_foundBy_102 : decode cX0_foundBy 102 = .ok (.bipush 8, 2) := dk_16 8 (dk_at dksX0_foundBy_4 7 rfl rfl)
theorem dX0_foundBy_104 : decode cX0_foundBy 104 = .ok (.iload 6, 2) := dk_21 6 (dk_at dksX0_foundBy_4 9 rfl rfl)
theorem dX0_foundBy_106 : decode cX0_foundBy 106 = .ok (.imul, 1) := dk_104 (dk_at dksX0_foundBy_4 11 rfl rfl)
theorem dX0_foundBy_107 : decode cX0_foundBy 107 = .ok (.iload 8, 2) := dk_21 8 (dk_at dksX0_foundBy_4 12 rfl rfl)
theorem dX0_foundBy_109 : decode cX0_foundBy 109 = .ok (.iadd, 1) := dk_96 (dk_at dksX0_foundBy_4 14 rfl rfl)
theorem dX0_foundBy_110 : decode cX0_foundBy 110 = .ok (.iaload, 1) := dk_46 (dk_at dksX0_foundBy_4 15 rfl rfl)
theorem dX0_foundBy_111 : decode cX0_foundBy 111 = .ok (.iadd, 1) := dk_96 (dk_at dksX0_foundBy_4 16 rfl rfl)
theorem dX0_foundBy_112 : decode cX0_foundBy 112 = .ok (.laload, 1) := dk_47 (dk_at dksX0_foundBy_4 17 rfl rfl)
theorem dX0_foundBy_113 : decode cX0_foundBy 113 = .ok (.lconst 0, 1) := dk_9 (dk_at dksX0_foundBy_4 18 rfl rfl)
theorem dX0_foundBy_114 : decode cX0_foundBy 114 = .ok (.lcmp, 1) := dk_148 (dk_at dksX0_foundBy_4 19 rfl rfl)
theorem dX0_foundBy_115 : decode cX0_foundBy 115 = .ok (.ifCond .ne 9, 3) := dk_154 0 9 (dk_at dksX0_foundBy_4 20 rfl rfl)
theorem dX0_foundBy_118 : decode cX0_foundBy 118 = .ok (.iinc 8 1, 3) := dk_132 8 1 (dk_at dksX0_foundBy_5 0 rfl rfl)
theorem dX0_foundBy_121 : decode cX0_foundBy 121 = .ok (.goto (-51), 3) := dk_167 255 205 (dk_at dksX0_foundBy_5 3 rfl rfl)
theorem dX0_foundBy_124 : decode cX0_foundBy 124 = .ok (.iload 7, 2) := dk_21 7 (dk_at dksX0_foundBy_5 6 rfl rfl)
theorem dX0_foundBy_126 : decode cX0_foundBy 126 = .ok (.iload 4, 2) := dk_21 4 (dk_at dksX0_foundBy_5 8 rfl rfl)
theorem dX0_foundBy_128 : decode cX0_foundBy 128 = .ok (.if_icmp .ne 6, 3) := dk_160 0 6 (dk_at dksX0_foundBy_5 10 rfl rfl)
theorem dX0_foundBy_131 : decode cX0_foundBy 131 = .ok (.iload 8, 2) := dk_21 8 (dk_at dksX0_foundBy_5 13 rfl rfl)
theorem dX0_foundBy_133 : decode cX0_foundBy 133 = .ok (.ireturn, 1) := dk_172 (dk_at dksX0_foundBy_5 15 rfl rfl)
theorem dX0_foundBy_134 : decode cX0_foundBy 134 = .ok (.aload_n 0, 1) := dk_42 (dk_at dksX0_foundBy_5 16 rfl rfl)
theorem dX0_foundBy_135 : decode cX0_foundBy 135 = .ok (.getfield 49, 3) := dk_180 0 49 (dk_at dksX0_foundBy_5 17 rfl rfl)
theorem dX0_foundBy_138 : decode cX0_foundBy 138 = .ok (.bipush 8, 2) := dk_16 8 (dk_at dksX0_foundBy_5 20 rfl rfl)
theorem dX0_foundBy_140 : decode cX0_foundBy 140 = .ok (.iload 6, 2) := dk_21 6 (dk_at dksX0_foundBy_5 22 rfl rfl)
theorem dX0_foundBy_142 : decode cX0_foundBy 142 = .ok (.imul, 1) := dk_104 (dk_at dksX0_foundBy_6 0 rfl rfl)
theorem dX0_foundBy_143 : decode cX0_foundBy 143 = .ok (.iload 8, 2) := dk_21 8 (dk_at dksX0_foundBy_6 1 rfl rfl)
theorem dX0_foundBy_145 : decode cX0_foundBy 145 = .ok (.iadd, 1) := dk_96 (dk_at dksX0_foundBy_6 3 rfl rfl)
theorem dX0_foundBy_146 : decode cX0_foundBy 146 = .ok (.iaload, 1) := dk_46 (dk_at dksX0_foundBy_6 4 rfl rfl)
theorem dX0_foundBy_147 : decode cX0_foundBy 147 = .ok (.istore 6, 2) := dk_54 6 (dk_at dksX0_foundBy_6 5 rfl rfl)
theorem dX0_foundBy_149 : decode cX0_foundBy 149 = .ok (.iinc 7 1, 3) := dk_132 7 1 (dk_at dksX0_foundBy_6 7 rfl rfl)
theorem dX0_foundBy_152 : decode cX0_foundBy 152 = .ok (.goto (-85), 3) := dk_167 255 171 (dk_at dksX0_foundBy_6 10 rfl rfl)
abbrev cX0_surely : ByteArray := prog_1_method_57_code
def yX0_surely : MethodName := ⟨RX0, "surely", "(III)I"⟩
def dkwX0_surely_3 : List UInt8 := [154, 0, 10, 4, 21, 7, 120, 167, 0, 4, 3, 128, 54, 6, 132, 7, 1, 167, 255, 212, 21, 6, 172]
abbrev dktX0_surely_3 : List UInt8 := dkwX0_surely_3 ++ []
def dkwX0_surely_2 : List UInt8 := [180, 0, 21, 180, 0, 133, 162, 0, 38, 21, 6, 42, 27, 21, 5, 4, 21, 7, 120, 182, 1, 47, 9, 148]
abbrev dktX0_surely_2 : List UInt8 := dkwX0_surely_2 ++ dktX0_surely_3
def dkwX0_surely_1 : List UInt8 := [42, 27, 21, 5, 3, 182, 1, 47, 9, 148, 154, 0, 5, 3, 172, 3, 54, 6, 3, 54, 7, 21, 7, 42]
abbrev dktX0_surely_1 : List UInt8 := dkwX0_surely_1 ++ dktX0_surely_2
def dkwX0_surely_0 : List UInt8 := [42, 27, 28, 29, 182, 1, 44, 54, 4, 21, 4, 153, 0, 6, 21, 4, 172, 28, 29, 184, 0, 205, 54, 5]
abbrev dktX0_surely_0 : List UInt8 := dkwX0_surely_0 ++ dktX0_surely_1
theorem dksX0_surely_0 : cX0_surely.data.toList.drop 0 = dktX0_surely_0 := by decide +kernel
theorem dksX0_surely_1 : cX0_surely.data.toList.drop 24 = dktX0_surely_1 := dk_seg dksX0_surely_0 24 rfl rfl
theorem dksX0_surely_2 : cX0_surely.data.toList.drop 48 = dktX0_surely_2 := dk_seg dksX0_surely_1 24 rfl rfl
theorem dksX0_surely_3 : cX0_surely.data.toList.drop 72 = dktX0_surely_3 := dk_seg dksX0_surely_2 24 rfl rfl
theorem dX0_surely_0 : decode cX0_surely 0 = .ok (.aload_n 0, 1) := dk_42 (dk_at dksX0_surely_0 0 rfl rfl)
theorem dX0_surely_1 : decode cX0_surely 1 = .ok (.iload_n 1, 1) := dk_27 (dk_at dksX0_surely_0 1 rfl rfl)
theorem dX0_surely_2 : decode cX0_surely 2 = .ok (.iload_n 2, 1) := dk_28 (dk_at dksX0_surely_0 2 rfl rfl)
theorem dX0_surely_3 : decode cX0_surely 3 = .ok (.iload_n 3, 1) := dk_29 (dk_at dksX0_surely_0 3 rfl rfl)
theorem dX0_surely_4 : decode cX0_surely 4 = .ok (.invokevirtual 300, 3) := dk_182 1 44 (dk_at dksX0_surely_0 4 rfl rfl)
theorem dX0_surely_7 : decode cX0_surely 7 = .ok (.istore 4, 2) := dk_54 4 (dk_at dksX0_surely_0 7 rfl rfl)
theorem dX0_surely_9 : decode cX0_surely 9 = .ok (.iload 4, 2) := dk_21 4 (dk_at dksX0_surely_0 9 rfl rfl)
theorem dX0_surely_11 : decode cX0_surely 11 = .ok (.ifCond .eq 6, 3) := dk_153 0 6 (dk_at dksX0_surely_0 11 rfl rfl)
theorem dX0_surely_14 : decode cX0_surely 14 = .ok (.iload 4, 2) := dk_21 4 (dk_at dksX0_surely_0 14 rfl rfl)
theorem dX0_surely_16 : decode cX0_surely 16 = .ok (.ireturn, 1) := dk_172 (dk_at dksX0_surely_0 16 rfl rfl)
theorem dX0_surely_17 : decode cX0_surely 17 = .ok (.iload_n 2, 1) := dk_28 (dk_at dksX0_surely_0 17 rfl rfl)
theorem dX0_surely_18 : decode cX0_surely 18 = .ok (.iload_n 3, 1) := dk_29 (dk_at dksX0_surely_0 18 rfl rfl)
theorem dX0_surely_19 : decode cX0_surely 19 = .ok (.invokestatic 205, 3) := dk_184 0 205 (dk_at dksX0_surely_0 19 rfl rfl)
theorem dX0_surely_22 : decode cX0_surely 22 = .ok (.istore 5, 2) := dk_54 5 (dk_at dksX0_surely_0 22 rfl rfl)
theorem dX0_surely_24 : decode cX0_surely 24 = .ok (.aload_n 0, 1) := dk_42 (dk_at dksX0_surely_1 0 rfl rfl)
theorem dX0_surely_25 : decode cX0_surely 25 = .ok (.iload_n 1, 1) := dk_27 (dk_at dksX0_surely_1 1 rfl rfl)
theorem dX0_surely_26 : decode cX0_surely 26 = .ok (.iload 5, 2) := dk_21 5 (dk_at dksX0_surely_1 2 rfl rfl)
theorem dX0_surely_28 : decode cX0_surely 28 = .ok (.iconst 0, 1) := dk_3 (dk_at dksX0_surely_1 4 rfl rfl)
theorem dX0_surely_29 : decode cX0_surely 29 = .ok (.invokevirtual 303, 3) := dk_182 1 47 (dk_at dksX0_surely_1 5 rfl rfl)
theorem dX0_surely_32 : decode cX0_surely 32 = .ok (.lconst 0, 1) := dk_9 (dk_at dksX0_surely_1 8 rfl rfl)
theorem dX0_surely_33 : decode cX0_surely 33 = .ok (.lcmp, 1) := dk_148 (dk_at dksX0_surely_1 9 rfl rfl)
theorem dX0_surely_34 : decode cX0_surely 34 = .ok (.ifCond .ne 5, 3) := dk_154 0 5 (dk_at dksX0_surely_1 10 rfl rfl)
theorem dX0_surely_37 : decode cX0_surely 37 = .ok (.iconst 0, 1) := dk_3 (dk_at dksX0_surely_1 13 rfl rfl)
theorem dX0_surely_38 : decode cX0_surely 38 = .ok (.ireturn, 1) := dk_172 (dk_at dksX0_surely_1 14 rfl rfl)
theorem dX0_surely_39 : decode cX0_surely 39 = .ok (.iconst 0, 1) := dk_3 (dk_at dksX0_surely_1 15 rfl rfl)
theorem dX0_surely_40 : decode cX0_surely 40 = .ok (.istore 6, 2) := dk_54 6 (dk_at dksX0_surely_1 16 rfl rfl)
theorem dX0_surely_42 : decode cX0_surely 42 = .ok (.iconst 0, 1) := dk_3 (dk_at dksX0_surely_1 18 rfl rfl)
theorem dX0_surely_43 : decode cX0_surely 43 = .ok (.istore 7, 2) := dk_54 7 (dk_at dksX0_surely_1 19 rfl rfl)
theorem dX0_surely_45 : decode cX0_surely 45 = .ok (.iload 7, 2) := dk_21 7 (dk_at dksX0_surely_1 21 rfl rfl)
theorem dX0_surely_47 : decode cX0_surely 47 = .ok (.aload_n 0, 1) := dk_42 (dk_at dksX0_surely_1 23 rfl rfl)
theorem dX0_surely_48 : decode cX0_surely 48 = .ok (.getfield 21, 3) := dk_180 0 21 (dk_at dksX0_surely_2 0 rfl rfl)
theorem dX0_surely_51 : decode cX0_surely 51 = .ok (.getfield 133, 3) := dk_180 0 133 (dk_at dksX0_surely_2 3 rfl rfl)
theorem dX0_surely_54 : decode cX0_surely 54 = .ok (.if_icmp .ge 38, 3) := dk_162 0 38 (dk_at dksX0_surely_2 6 rfl rfl)
theorem dX0_surely_57 : decode cX0_surely 57 = .ok (.iload 6, 2) := dk_21 6 (dk_at dksX0_surely_2 9 rfl rfl)
theorem dX0_surely_59 : decode cX0_surely 59 = .ok (.aload_n 0, 1) := dk_42 (dk_at dksX0_surely_2 11 rfl rfl)
theorem dX0_surely_60 : decode cX0_surely 60 = .ok (.iload_n 1, 1) := dk_27 (dk_at dksX0_surely_2 12 rfl rfl)
theorem dX0_surely_61 : decode cX0_surely 61 = .ok (.iload 5, 2) := dk_21 5 (dk_at dksX0_surely_2 13 rfl rfl)
theorem dX0_surely_63 : decode cX0_surely 63 = .ok (.iconst 1, 1) := dk_4 (dk_at dksX0_surely_2 15 rfl rfl)
theorem dX0_surely_64 : decode cX0_surely 64 = .ok (.iload 7, 2) := dk_21 7 (dk_at dksX0_surely_2 16 rfl rfl)
theorem dX0_surely_66 : decode cX0_surely 66 = .ok (.ishl, 1) := dk_120 (dk_at dksX0_surely_2 18 rfl rfl)
theorem dX0_surely_67 : decode cX0_surely 67 = .ok (.invokevirtual 303, 3) := dk_182 1 47 (dk_at dksX0_surely_2 19 rfl rfl)
theorem dX0_surely_70 : decode cX0_surely 70 = .ok (.lconst 0, 1) := dk_9 (dk_at dksX0_surely_2 22 rfl rfl)
theorem dX0_surely_71 : decode cX0_surely 71 = .ok (.lcmp, 1) := dk_148 (dk_at dksX0_surely_2 23 rfl rfl)
theorem dX0_surely_72 : decode cX0_surely 72 = .ok (.ifCond .ne 10, 3) := dk_154 0 10 (dk_at dksX0_surely_3 0 rfl rfl)
theorem dX0_surely_75 : decode cX0_surely 75 = .ok (.iconst 1, 1) := dk_4 (dk_at dksX0_surely_3 3 rfl rfl)
theorem dX0_surely_76 : decode cX0_surely 76 = .ok (.iload 7, 2) := dk_21 7 (dk_at dksX0_surely_3 4 rfl rfl)
theorem dX0_surely_78 : decode cX0_surely 78 = .ok (.ishl, 1) := dk_120 (dk_at dksX0_surely_3 6 rfl rfl)
theorem dX0_surely_79 : decode cX0_surely 79 = .ok (.goto 4, 3) := dk_167 0 4 (dk_at dksX0_surely_3 7 rfl rfl)
theorem dX0_surely_82 : decode cX0_surely 82 = .ok (.iconst 0, 1) := dk_3 (dk_at dksX0_surely_3 10 rfl rfl)
theorem dX0_surely_83 : decode cX0_surely 83 = .ok (.ior, 1) := dk_128 (dk_at dksX0_surely_3 11 rfl rfl)
theorem dX0_surely_84 : decode cX0_surely 84 = .ok (.istore 6, 2) := dk_54 6 (dk_at dksX0_surely_3 12 rfl rfl)
theorem dX0_surely_86 : decode cX0_surely 86 = .ok (.iinc 7 1, 3) := dk_132 7 1 (dk_at dksX0_surely_3 14 rfl rfl)
theorem dX0_surely_89 : decode cX0_surely 89 = .ok (.goto (-44), 3) := dk_167 255 212 (dk_at dksX0_surely_3 17 rfl rfl)
theorem dX0_surely_92 : decode cX0_surely 92 = .ok (.iload 6, 2) := dk_21 6 (dk_at dksX0_surely_3 20 rfl rfl)
theorem dX0_surely_94 : decode cX0_surely 94 = .ok (.ireturn, 1) := dk_172 (dk_at dksX0_surely_3 22 rfl rfl)
abbrev cX0_both : ByteArray := prog_1_method_58_code
def yX0_both : MethodName := ⟨RX0, "both", "(IIII)I"⟩
def dkwX0_both_13 : List UInt8 := [132, 7, 1, 167, 255, 197, 21, 6, 172]
abbrev dktX0_both_13 : List UInt8 := dkwX0_both_13 ++ []
def dkwX0_both_12 : List UInt8 := [21, 4, 104, 21, 7, 96, 47, 9, 148, 158, 0, 7, 4, 167, 0, 4, 3, 184, 0, 159, 96, 54, 6]
abbrev dktX0_both_12 : List UInt8 := dkwX0_both_12 ++ dktX0_both_13
def dkwX0_both_11 : List UInt8 := [42, 180, 0, 67, 16, 36, 21, 4, 104, 21, 7, 96, 47, 9, 148, 158, 0, 25, 42, 180, 0, 63, 16, 36]
abbrev dktX0_both_11 : List UInt8 := dkwX0_both_11 ++ dktX0_both_12
def dkwX0_both_10 : List UInt8 := [167, 255, 163, 132, 6, 1, 167, 255, 115, 3, 54, 6, 3, 54, 7, 21, 7, 16, 36, 162, 0, 58, 21, 6]
abbrev dktX0_both_10 : List UInt8 := dkwX0_both_10 ++ dktX0_both_11
def dkwX0_both_9 : List UInt8 := [180, 0, 49, 16, 8, 21, 7, 104, 21, 8, 96, 46, 96, 10, 80, 132, 8, 1, 167, 255, 179, 132, 7, 1]
abbrev dktX0_both_9 : List UInt8 := dkwX0_both_9 ++ dktX0_both_10
def dkwX0_both_8 : List UInt8 := [104, 21, 7, 96, 47, 9, 148, 158, 0, 30, 42, 180, 0, 67, 16, 36, 21, 6, 4, 96, 104, 42]
abbrev dktX0_both_8 : List UInt8 := dkwX0_both_8 ++ dktX0_both_9
def dkwX0_both_7 : List UInt8 := [180, 0, 49, 16, 8, 21, 7, 104, 21, 8, 96, 46, 2, 159, 0, 48, 42, 180, 0, 67, 16, 36, 21, 6]
abbrev dktX0_both_7 : List UInt8 := dkwX0_both_7 ++ dktX0_both_8
def dkwX0_both_6 : List UInt8 := [21, 7, 16, 36, 162, 0, 92, 3, 54, 8, 21, 8, 42, 180, 0, 21, 180, 0, 133, 162, 0, 71, 42]
abbrev dktX0_both_6 : List UInt8 := dkwX0_both_6 ++ dktX0_both_7
def dkwX0_both_5 : List UInt8 := [180, 0, 67, 16, 36, 21, 6, 4, 96, 104, 21, 7, 96, 9, 80, 132, 7, 1, 167, 255, 230, 3, 54, 7]
abbrev dktX0_both_5 : List UInt8 := dkwX0_both_5 ++ dktX0_both_6
def dkwX0_both_4 : List UInt8 := [167, 255, 218, 3, 54, 6, 21, 6, 21, 4, 162, 0, 140, 3, 54, 7, 21, 7, 16, 36, 162, 0, 25, 42]
abbrev dktX0_both_4 : List UInt8 := dkwX0_both_4 ++ dktX0_both_5
def dkwX0_both_3 : List UInt8 := [180, 0, 30, 180, 0, 170, 160, 0, 7, 4, 167, 0, 4, 3, 184, 0, 159, 133, 80, 132, 6, 1]
abbrev dktX0_both_3 : List UInt8 := dkwX0_both_3 ++ dktX0_both_4
def dkwX0_both_2 : List UInt8 := [182, 1, 47, 88, 3, 54, 6, 21, 6, 16, 36, 162, 0, 37, 42, 180, 0, 67, 21, 6, 21, 6, 42]
abbrev dktX0_both_2 : List UInt8 := dkwX0_both_2 ++ dktX0_both_3
def dkwX0_both_1 : List UInt8 := [154, 0, 7, 16, 253, 54, 5, 21, 5, 153, 0, 6, 21, 5, 172, 42, 27, 28, 29, 184, 0, 205, 3]
abbrev dktX0_both_1 : List UInt8 := dkwX0_both_1 ++ dktX0_both_2
def dkwX0_both_0 : List UInt8 := [42, 27, 28, 29, 182, 1, 44, 54, 5, 21, 5, 154, 0, 19, 21, 4, 133, 9, 27, 133, 184, 0, 103]
abbrev dktX0_both_0 : List UInt8 := dkwX0_both_0 ++ dktX0_both_1
theorem dksX0_both_0 : cX0_both.data.toList.drop 0 = dktX0_both_0 := by decide +kernel
theorem dksX0_both_1 : cX0_both.data.toList.drop 23 = dktX0_both_1 := dk_seg dksX0_both_0 23 rfl rfl
theorem dksX0_both_2 : cX0_both.data.toList.drop 46 = dktX0_both_2 := dk_seg dksX0_both_1 23 rfl rfl
theorem dksX0_both_3 : cX0_both.data.toList.drop 69 = dktX0_both_3 := dk_seg dksX0_both_2 23 rfl rfl
theorem dksX0_both_4 : cX0_both.data.toList.drop 91 = dktX0_both_4 := dk_seg dksX0_both_3 22 rfl rfl
theorem dksX0_both_5 : cX0_both.data.toList.drop 115 = dktX0_both_5 := dk_seg dksX0_both_4 24 rfl rfl
theorem dksX0_both_6 : cX0_both.data.toList.drop 139 = dktX0_both_6 := dk_seg dksX0_both_5 24 rfl rfl
theorem dksX0_both_7 : cX0_both.data.toList.drop 162 = dktX0_both_7 := dk_seg dksX0_both_6 23 rfl rfl
theorem dksX0_both_8 : cX0_both.data.toList.drop 186 = dktX0_both_8 := dk_seg dksX0_both_7 24 rfl rfl
theorem dksX0_both_9 : cX0_both.data.toList.drop 208 = dktX0_both_9 := dk_seg dksX0_both_8 22 rfl rfl
theorem dksX0_both_10 : cX0_both.data.toList.drop 232 = dktX0_both_10 := dk_seg dksX0_both_9 24 rfl rfl
theorem dksX0_both_11 : cX0_both.data.toList.drop 256 = dktX0_both_11 := dk_seg dksX0_both_10 24 rfl rfl
theorem dksX0_both_12 : cX0_both.data.toList.drop 280 = dktX0_both_12 := dk_seg dksX0_both_11 24 rfl rfl
theorem dksX0_both_13 : cX0_both.data.toList.drop 303 = dktX0_both_13 := dk_seg dksX0_both_12 23 rfl rfl
theorem dX0_both_0 : decode cX0_both 0 = .ok (.aload_n 0, 1) := dk_42 (dk_at dksX0_both_0 0 rfl rfl)
theorem dX0_both_1 : decode cX0_both 1 = .ok (.iload_n 1, 1) := dk_27 (dk_at dksX0_both_0 1 rfl rfl)
theorem dX0_both_2 : decode cX0_both 2 = .ok (.iload_n 2, 1) := dk_28 (dk_at dksX0_both_0 2 rfl rfl)
theorem dX0_both_3 : decode cX0_both 3 = .ok (.iload_n 3, 1) := dk_29 (dk_at dksX0_both_0 3 rfl rfl)
theorem dX0_both_4 : decode cX0_both 4 = .ok (.invokevirtual 300, 3) := dk_182 1 44 (dk_at dksX0_both_0 4 rfl rfl)
theorem dX0_both_7 : decode cX0_both 7 = .ok (.istore 5, 2) := dk_54 5 (dk_at dksX0_both_0 7 rfl rfl)
theorem dX0_both_9 : decode cX0_both 9 = .ok (.iload 5, 2) := dk_21 5 (dk_at dksX0_both_0 9 rfl rfl)
theorem dX0_both_11 : decode cX0_both 11 = .ok (.ifCond .ne 19, 3) := dk_154 0 19 (dk_at dksX0_both_0 11 rfl rfl)
theorem dX0_both_14 : decode cX0_both 14 = .ok (.iload 4, 2) := dk_21 4 (dk_at dksX0_both_0 14 rfl rfl)
theorem dX0_both_16 : decode cX0_both 16 = .ok (.i2l, 1) := dk_133 (dk_at dksX0_both_0 16 rfl rfl)
theorem dX0_both_17 : decode cX0_both 17 = .ok (.lconst 0, 1) := dk_9 (dk_at dksX0_both_0 17 rfl rfl)
theorem dX0_both_18 : decode cX0_both 18 = .ok (.iload_n 1, 1) := dk_27 (dk_at dksX0_both_0 18 rfl rfl)
theorem dX0_both_19 : decode cX0_both 19 = .ok (.i2l, 1) := dk_133 (dk_at dksX0_both_0 19 rfl rfl)
theorem dX0_both_20 : decode cX0_both 20 = .ok (.invokestatic 103, 3) := dk_184 0 103 (dk_at dksX0_both_0 20 rfl rfl)
theorem dX0_both_23 : decode cX0_both 23 = .ok (.ifCond .ne 7, 3) := dk_154 0 7 (dk_at dksX0_both_1 0 rfl rfl)
theorem dX0_both_26 : decode cX0_both 26 = .ok (.bipush (-3), 2) := dk_16 253 (dk_at dksX0_both_1 3 rfl rfl)
theorem dX0_both_28 : decode cX0_both 28 = .ok (.istore 5, 2) := dk_54 5 (dk_at dksX0_both_1 5 rfl rfl)
theorem dX0_both_30 : decode cX0_both 30 = .ok (.iload 5, 2) := dk_21 5 (dk_at dksX0_both_1 7 rfl rfl)
theorem dX0_both_32 : decode cX0_both 32 = .ok (.ifCond .eq 6, 3) := dk_153 0 6 (dk_at dksX0_both_1 9 rfl rfl)
theorem dX0_both_35 : decode cX0_both 35 = .ok (.iload 5, 2) := dk_21 5 (dk_at dksX0_both_1 12 rfl rfl)
theorem dX0_both_37 : decode cX0_both 37 = .ok (.ireturn, 1) := dk_172 (dk_at dksX0_both_1 14 rfl rfl)
theorem dX0_both_38 : decode cX0_both 38 = .ok (.aload_n 0, 1) := dk_42 (dk_at dksX0_both_1 15 rfl rfl)
theorem dX0_both_39 : decode cX0_both 39 = .ok (.iload_n 1, 1) := dk_27 (dk_at dksX0_both_1 16 rfl rfl)
theorem dX0_both_40 : decode cX0_both 40 = .ok (.iload_n 2, 1) := dk_28 (dk_at dksX0_both_1 17 rfl rfl)
theorem dX0_both_41 : decode cX0_both 41 = .ok (.iload_n 3, 1) := dk_29 (dk_at dksX0_both_1 18 rfl rfl)
theorem dX0_both_42 : decode cX0_both 42 = .ok (.invokestatic 205, 3) := dk_184 0 205 (dk_at dksX0_both_1 19 rfl rfl)
theorem dX0_both_45 : decode cX0_both 45 = .ok (.iconst 0, 1) := dk_3 (dk_at dksX0_both_1 22 rfl rfl)
theorem dX0_both_46 : decode cX0_both 46 = .ok (.invokevirtual 303, 3) := dk_182 1 47 (dk_at dksX0_both_2 0 rfl rfl)
theorem dX0_both_49 : decode cX0_both 49 = .ok (.pop2, 1) := dk_88 (dk_at dksX0_both_2 3 rfl rfl)
theorem dX0_both_50 : decode cX0_both 50 = .ok (.iconst 0, 1) := dk_3 (dk_at dksX0_both_2 4 rfl rfl)
theorem dX0_both_51 : decode cX0_both 51 = .ok (.istore 6, 2) := dk_54 6 (dk_at dksX0_both_2 5 rfl rfl)
theorem dX0_both_53 : decode cX0_both 53 = .ok (.iload 6, 2) := dk_21 6 (dk_at dksX0_both_2 7 rfl rfl)
theorem dX0_both_55 : decode cX0_both 55 = .ok (.bipush 36, 2) := dk_16 36 (dk_at dksX0_both_2 9 rfl rfl)
theorem dX0_both_57 : decode cX0_both 57 = .ok (.if_icmp .ge 37, 3) := dk_162 0 37 (dk_at dksX0_both_2 11 rfl rfl)
theorem dX0_both_60 : decode cX0_both 60 = .ok (.aload_n 0, 1) := dk_42 (dk_at dksX0_both_2 14 rfl rfl)
theorem dX0_both_61 : decode cX0_both 61 = .ok (.getfield 67, 3) := dk_180 0 67 (dk_at dksX0_both_2 15 rfl rfl)
theorem dX0_both_64 : decode cX0_both 64 = .ok (.iload 6, 2) := dk_21 6 (dk_at dksX0_both_2 18 rfl rfl)
theorem dX0_both_66 : decode cX0_both 66 = .ok (.iload 6, 2) := dk_21 6 (dk_at dksX0_both_2 20 rfl rfl)
theorem dX0_both_68 : decode cX0_both 68 = .ok (.aload_n 0, 1) := dk_42 (dk_at dksX0_both_2 22 rfl rfl)
theorem dX0_both_69 : decode cX0_both 69 = .ok (.getfield 30, 3) := dk_180 0 30 (dk_at dksX0_both_3 0 rfl rfl)
theorem dX0_both_72 : decode cX0_both 72 = .ok (.getfield 170, 3) := dk_180 0 170 (dk_at dksX0_both_3 3 rfl rfl)
theorem dX0_both_75 : decode cX0_both 75 = .ok (.if_icmp .ne 7, 3) := dk_160 0 7 (dk_at dksX0_both_3 6 rfl rfl)
theorem dX0_both_78 : decode cX0_both 78 = .ok (.iconst 1, 1) := dk_4 (dk_at dksX0_both_3 9 rfl rfl)
theorem dX0_both_79 : decode cX0_both 79 = .ok (.goto 4, 3) := dk_167 0 4 (dk_at dksX0_both_3 10 rfl rfl)
theorem dX0_both_82 : decode cX0_both 82 = .ok (.iconst 0, 1) := dk_3 (dk_at dksX0_both_3 13 rfl rfl)
theorem dX0_both_83 : decode cX0_both 83 = .ok (.invokestatic 159, 3) := dk_184 0 159 (dk_at dksX0_both_3 14 rfl rfl)
theorem dX0_both_86 : decode cX0_both 86 = .ok (.i2l, 1) := dk_133 (dk_at dksX0_both_3 17 rfl rfl)
theorem dX0_both_87 : decode cX0_both 87 = .ok (.lastore, 1) := dk_80 (dk_at dksX0_both_3 18 rfl rfl)
theorem dX0_both_88 : decode cX0_both 88 = .ok (.iinc 6 1, 3) := dk_132 6 1 (dk_at dksX0_both_3 19 rfl rfl)
theorem dX0_both_91 : decode cX0_both 91 = .ok (.goto (-38), 3) := dk_167 255 218 (dk_at dksX0_both_4 0 rfl rfl)
theorem dX0_both_94 : decode cX0_both 94 = .ok (.iconst 0, 1) := dk_3 (dk_at dksX0_both_4 3 rfl rfl)
theorem dX0_both_95 : decode cX0_both 95 = .ok (.istore 6, 2) := dk_54 6 (dk_at dksX0_both_4 4 rfl rfl)
theorem dX0_both_97 : decode cX0_both 97 = .ok (.iload 6, 2) := dk_21 6 (dk_at dksX0_both_4 6 rfl rfl)
theorem dX0_both_99 : decode cX0_both 99 = .ok (.iload 4, 2) := dk_21 4 (dk_at dksX0_both_4 8 rfl rfl)
theorem dX0_both_101 : decode cX0_both 101 = .ok (.if_icmp .ge 140, 3) := dk_162 0 140 (dk_at dksX0_both_4 10 rfl rfl)
theorem dX0_both_104 : decode cX0_both 104 = .ok (.iconst 0, 1) := dk_3 (dk_at dksX0_both_4 13 rfl rfl)
theorem dX0_both_105 : decode cX0_both 105 = .ok (.istore 7, 2) := dk_54 7 (dk_at dksX0_both_4 14 rfl rfl)
theorem dX0_both_107 : decode cX0_both 107 = .ok (.iload 7, 2) := dk_21 7 (dk_at dksX0_both_4 16 rfl rfl)
theorem dX0_both_109 : decode cX0_both 109 = .ok (.bipush 36, 2) := dk_16 36 (dk_at dksX0_both_4 18 rfl rfl)
theorem dX0_both_111 : decode cX0_both 111 = .ok (.if_icmp .ge 25, 3) := dk_162 0 25 (dk_at dksX0_both_4 20 rfl rfl)
theorem dX0_both_114 : decode cX0_both 114 = .ok (.aload_n 0, 1) := dk_42 (dk_at dksX0_both_4 23 rfl rfl)
theorem dX0_both_115 : decode cX0_both 115 = .ok (.getfield 67, 3) := dk_180 0 67 (dk_at dksX0_both_5 0 rfl rfl)
theorem dX0_both_118 : decode cX0_both 118 = .ok (.bipush 36, 2) := dk_16 36 (dk_at dksX0_both_5 3 rfl rfl)
theorem dX0_both_120 : decode cX0_both 120 = .ok (.iload 6, 2) := dk_21 6 (dk_at dksX0_both_5 5 rfl rfl)
theorem dX0_both_122 : decode cX0_both 122 = .ok (.iconst 1, 1) := dk_4 (dk_at dksX0_both_5 7 rfl rfl)
theorem dX0_both_123 : decode cX0_both 123 = .ok (.iadd, 1) := dk_96 (dk_at dksX0_both_5 8 rfl rfl)
theorem dX0_both_124 : decode cX0_both 124 = .ok (.imul, 1) := dk_104 (dk_at dksX0_both_5 9 rfl rfl)
theorem dX0_both_125 : decode cX0_both 125 = .ok (.iload 7, 2) := dk_21 7 (dk_at dksX0_both_5 10 rfl rfl)
theorem dX0_both_127 : decode cX0_both 127 = .ok (.iadd, 1) := dk_96 (dk_at dksX0_both_5 12 rfl rfl)
theorem dX0_both_128 : decode cX0_both 128 = .ok (.lconst 0, 1) := dk_9 (dk_at dksX0_both_5 13 rfl rfl)
theorem dX0_both_129 : decode cX0_both 129 = .ok (.lastore, 1) := dk_80 (dk_at dksX0_both_5 14 rfl rfl)
theorem dX0_both_130 : decode cX0_both 130 = .ok (.iinc 7 1, 3) := dk_132 7 1 (dk_at dksX0_both_5 15 rfl rfl)
theorem dX0_both_133 : decode cX0_both 133 = .ok (.goto (-26), 3) := dk_167 255 230 (dk_at dksX0_both_5 18 rfl rfl)
theorem dX0_both_136 : decode cX0_both 136 = .ok (.iconst 0, 1) := dk_3 (dk_at dksX0_both_5 21 rfl rfl)
theorem dX0_both_137 : decode cX0_both 137 = .ok (.istore 7, 2) := dk_54 7 (dk_at dksX0_both_5 22 rfl rfl)
theorem dX0_both_139 : decode cX0_both 139 = .ok (.iload 7, 2) := dk_21 7 (dk_at dksX0_both_6 0 rfl rfl)
theorem dX0_both_141 : decode cX0_both 141 = .ok (.bipush 36, 2) := dk_16 36 (dk_at dksX0_both_6 2 rfl rfl)
theorem dX0_both_143 : decode cX0_both 143 = .ok (.if_icmp .ge 92, 3) := dk_162 0 92 (dk_at dksX0_both_6 4 rfl rfl)
theorem dX0_both_146 : decode cX0_both 146 = .ok (.iconst 0, 1) := dk_3 (dk_at dksX0_both_6 7 rfl rfl)
theorem dX0_both_147 : decode cX0_both 147 = .ok (.istore 8, 2) := dk_54 8 (dk_at dksX0_both_6 8 rfl rfl)
theorem dX0_both_149 : decode cX0_both 149 = .ok (.iload 8, 2) := dk_21 8 (dk_at dksX0_both_6 10 rfl rfl)
theorem dX0_both_151 : decode cX0_both 151 = .ok (.aload_n 0, 1) := dk_42 (dk_at dksX0_both_6 12 rfl rfl)
theorem dX0_both_152 : decode cX0_both 152 = .ok (.getfield 21, 3) := dk_180 0 21 (dk_at dksX0_both_6 13 rfl rfl)
theorem dX0_both_155 : decode cX0_both 155 = .ok (.getfield 133, 3) := dk_180 0 133 (dk_at dksX0_both_6 16 rfl rfl)
theorem dX0_both_158 : decode cX0_both 158 = .ok (.if_icmp .ge 71, 3) := dk_162 0 71 (dk_at dksX0_both_6 19 rfl rfl)
theorem dX0_both_161 : decode cX0_both 161 = .ok (.aload_n 0, 1) := dk_42 (dk_at dksX0_both_6 22 rfl rfl)
theorem dX0_both_162 : decode cX0_both 162 = .ok (.getfield 49, 3) := dk_180 0 49 (dk_at dksX0_both_7 0 rfl rfl)
theorem dX0_both_165 : decode cX0_both 165 = .ok (.bipush 8, 2) := dk_16 8 (dk_at dksX0_both_7 3 rfl rfl)
theorem dX0_both_167 : decode cX0_both 167 = .ok (.iload 7, 2) := dk_21 7 (dk_at dksX0_both_7 5 rfl rfl)
theorem dX0_both_169 : decode cX0_both 169 = .ok (.imul, 1) := dk_104 (dk_at dksX0_both_7 7 rfl rfl)
theorem dX0_both_170 : decode cX0_both 170 = .ok (.iload 8, 2) := dk_21 8 (dk_at dksX0_both_7 8 rfl rfl)
theorem dX0_both_172 : decode cX0_both 172 = .ok (.iadd, 1) := dk_96 (dk_at dksX0_both_7 10 rfl rfl)
theorem dX0_both_173 : decode cX0_both 173 = .ok (.iaload, 1) := dk_46 (dk_at dksX0_both_7 11 rfl rfl)
theorem dX0_both_174 : decode cX0_both 174 = .ok (.iconst (-1), 1) := dk_2 (dk_at dksX0_both_7 12 rfl rfl)
theorem dX0_both_175 : decode cX0_both 175 = .ok (.if_icmp .eq 48, 3) := dk_159 0 48 (dk_at dksX0_both_7 13 rfl rfl)
theorem dX0_both_178 : decode cX0_both 178 = .ok (.aload_n 0, 1) := dk_42 (dk_at dksX0_both_7 16 rfl rfl)
theorem dX0_both_179 : decode cX0_both 179 = .ok (.getfield 67, 3) := dk_180 0 67 (dk_at dksX0_both_7 17 rfl rfl)
theorem dX0_both_182 : decode cX0_both 182 = .ok (.bipush 36, 2) := dk_16 36 (dk_at dksX0_both_7 20 rfl rfl)
theorem dX0_both_184 : decode cX0_both 184 = .ok (.iload 6, 2) := dk_21 6 (dk_at dksX0_both_7 22 rfl rfl)
theorem dX0_both_186 : decode cX0_both 186 = .ok (.imul, 1) := dk_104 (dk_at dksX0_both_8 0 rfl rfl)
theorem dX0_both_187 : decode cX0_both 187 = .ok (.iload 7, 2) := dk_21 7 (dk_at dksX0_both_8 1 rfl rfl)
theorem dX0_both_189 : decode cX0_both 189 = .ok (.iadd, 1) := dk_96 (dk_at dksX0_both_8 3 rfl rfl)
theorem dX0_both_190 : decode cX0_both 190 = .ok (.laload, 1) := dk_47 (dk_at dksX0_both_8 4 rfl rfl)
theorem dX0_both_191 : decode cX0_both 191 = .ok (.lconst 0, 1) := dk_9 (dk_at dksX0_both_8 5 rfl rfl)
theorem dX0_both_192 : decode cX0_both 192 = .ok (.lcmp, 1) := dk_148 (dk_at dksX0_both_8 6 rfl rfl)
theorem dX0_both_193 : decode cX0_both 193 = .ok (.ifCond .le 30, 3) := dk_158 0 30 (dk_at dksX0_both_8 7 rfl rfl)
theorem dX0_both_196 : decode cX0_both 196 = .ok (.aload_n 0, 1) := dk_42 (dk_at dksX0_both_8 10 rfl rfl)
theorem dX0_both_197 : decode cX0_both 197 = .ok (.getfield 67, 3) := dk_180 0 67 (dk_at dksX0_both_8 11 rfl rfl)
theorem dX0_both_200 : decode cX0_both 200 = .ok (.bipush 36, 2) := dk_16 36 (dk_at dksX0_both_8 14 rfl rfl)
theorem dX0_both_202 : decode cX0_both 202 = .ok (.iload 6, 2) := dk_21 6 (dk_at dksX0_both_8 16 rfl rfl)
theorem dX0_both_204 : decode cX0_both 204 = .ok (.iconst 1, 1) := dk_4 (dk_at dksX0_both_8 18 rfl rfl)
theorem dX0_both_205 : decode cX0_both 205 = .ok (.iadd, 1) := dk_96 (dk_at dksX0_both_8 19 rfl rfl)
theorem dX0_both_206 : decode cX0_both 206 = .ok (.imul, 1) := dk_104 (dk_at dksX0_both_8 20 rfl rfl)
theorem dX0_both_207 : decode cX0_both 207 = .ok (.aload_n 0, 1) := dk_42 (dk_at dksX0_both_8 21 rfl rfl)
theorem dX0_both_208 : decode cX0_both 208 = .ok (.getfield 49, 3) := dk_180 0 49 (dk_at dksX0_both_9 0 rfl rfl)
theorem dX0_both_211 : decode cX0_both 211 = .ok (.bipush 8, 2) := dk_16 8 (dk_at dksX0_both_9 3 rfl rfl)
theorem dX0_both_213 : decode cX0_both 213 = .ok (.iload 7, 2) := dk_21 7 (dk_at dksX0_both_9 5 rfl rfl)
theorem dX0_both_215 : decode cX0_both 215 = .ok (.imul, 1) := dk_104 (dk_at dksX0_both_9 7 rfl rfl)
theorem dX0_both_216 : decode cX0_both 216 = .ok (.iload 8, 2) := dk_21 8 (dk_at dksX0_both_9 8 rfl rfl)
theorem dX0_both_218 : decode cX0_both 218 = .ok (.iadd, 1) := dk_96 (dk_at dksX0_both_9 10 rfl rfl)
theorem dX0_both_219 : decode cX0_both 219 = .ok (.iaload, 1) := dk_46 (dk_at dksX0_both_9 11 rfl rfl)
theorem dX0_both_220 : decode cX0_both 220 = .ok (.iadd, 1) := dk_96 (dk_at dksX0_both_9 12 rfl rfl)
theorem dX0_both_221 : decode cX0_both 221 = .ok (.lconst 1, 1) := dk_10 (dk_at dksX0_both_9 13 rfl rfl)
theorem dX0_both_222 : decode cX0_both 222 = .ok (.lastore, 1) := dk_80 (dk_at dksX0_both_9 14 rfl rfl)
theorem dX0_both_223 : decode cX0_both 223 = .ok (.iinc 8 1, 3) := dk_132 8 1 (dk_at dksX0_both_9 15 rfl rfl)
theorem dX0_both_226 : decode cX0_both 226 = .ok (.goto (-77), 3) := dk_167 255 179 (dk_at dksX0_both_9 18 rfl rfl)
theorem dX0_both_229 : decode cX0_both 229 = .ok (.iinc 7 1, 3) := dk_132 7 1 (dk_at dksX0_both_9 21 rfl rfl)
theorem dX0_both_232 : decode cX0_both 232 = .ok (.goto (-93), 3) := dk_167 255 163 (dk_at dksX0_both_10 0 rfl rfl)
theorem dX0_both_235 : decode cX0_both 235 = .ok (.iinc 6 1, 3) := dk_132 6 1 (dk_at dksX0_both_10 3 rfl rfl)
theorem dX0_both_238 : decode cX0_both 238 = .ok (.goto (-141), 3) := dk_167 255 115 (dk_at dksX0_both_10 6 rfl rfl)
theorem dX0_both_241 : decode cX0_both 241 = .ok (.iconst 0, 1) := dk_3 (dk_at dksX0_both_10 9 rfl rfl)
theorem dX0_both_242 : decode cX0_both 242 = .ok (.istore 6, 2) := dk_54 6 (dk_at dksX0_both_10 10 rfl rfl)
theorem dX0_both_244 : decode cX0_both 244 = .ok (.iconst 0, 1) := dk_3 (dk_at dksX0_both_10 12 rfl rfl)
theorem dX0_both_245 : decode cX0_both 245 = .ok (.istore 7, 2) := dk_54 7 (dk_at dksX0_both_10 13 rfl rfl)
theorem dX0_both_247 : decode cX0_both 247 = .ok (.iload 7, 2) := dk_21 7 (dk_at dksX0_both_10 15 rfl rfl)
theorem dX0_both_249 : decode cX0_both 249 = .ok (.bipush 36, 2) := dk_16 36 (dk_at dksX0_both_10 17 rfl rfl)
theorem dX0_both_251 : decode cX0_both 251 = .ok (.if_icmp .ge 58, 3) := dk_162 0 58 (dk_at dksX0_both_10 19 rfl rfl)
theorem dX0_both_254 : decode cX0_both 254 = .ok (.iload 6, 2) := dk_21 6 (dk_at dksX0_both_10 22 rfl rfl)
theorem dX0_both_256 : decode cX0_both 256 = .ok (.aload_n 0, 1) := dk_42 (dk_at dksX0_both_11 0 rfl rfl)
theorem dX0_both_257 : decode cX0_both 257 = .ok (.getfield 67, 3) := dk_180 0 67 (dk_at dksX0_both_11 1 rfl rfl)
theorem dX0_both_260 : decode cX0_both 260 = .ok (.bipush 36, 2) := dk_16 36 (dk_at dksX0_both_11 4 rfl rfl)
theorem dX0_both_262 : decode cX0_both 262 = .ok (.iload 4, 2) := dk_21 4 (dk_at dksX0_both_11 6 rfl rfl)
theorem dX0_both_264 : decode cX0_both 264 = .ok (.imul, 1) := dk_104 (dk_at dksX0_both_11 8 rfl rfl)
theorem dX0_both_265 : decode cX0_both 265 = .ok (.iload 7, 2) := dk_21 7 (dk_at dksX0_both_11 9 rfl rfl)
theorem dX0_both_267 : decode cX0_both 267 = .ok (.iadd, 1) := dk_96 (dk_at dksX0_both_11 11 rfl rfl)
theorem dX0_both_268 : decode cX0_both 268 = .ok (.laload, 1) := dk_47 (dk_at dksX0_both_11 12 rfl rfl)
theorem dX0_both_269 : decode cX0_both 269 = .ok (.lconst 0, 1) := dk_9 (dk_at dksX0_both_11 13 rfl rfl)
theorem dX0_both_270 : decode cX0_both 270 = .ok (.lcmp, 1) := dk_148 (dk_at dksX0_both_11 14 rfl rfl)
theorem dX0_both_271 : decode cX0_both 271 = .ok (.ifCond .le 25, 3) := dk_158 0 25 (dk_at dksX0_both_11 15 rfl rfl)
theorem dX0_both_274 : decode cX0_both 274 = .ok (.aload_n 0, 1) := dk_42 (dk_at dksX0_both_11 18 rfl rfl)
theorem dX0_both_275 : decode cX0_both 275 = .ok (.getfield 63, 3) := dk_180 0 63 (dk_at dksX0_both_11 19 rfl rfl)
theorem dX0_both_278 : decode cX0_both 278 = .ok (.bipush 36, 2) := dk_16 36 (dk_at dksX0_both_11 22 rfl rfl)
theorem dX0_both_280 : decode cX0_both 280 = .ok (.iload 4, 2) := dk_21 4 (dk_at dksX0_both_12 0 rfl rfl)
theorem dX0_both_282 : decode cX0_both 282 = .ok (.imul, 1) := dk_104 (dk_at dksX0_both_12 2 rfl rfl)
theorem dX0_both_283 : decode cX0_both 283 = .ok (.iload 7, 2) := dk_21 7 (dk_at dksX0_both_12 3 rfl rfl)
theorem dX0_both_285 : decode cX0_both 285 = .ok (.iadd, 1) := dk_96 (dk_at dksX0_both_12 5 rfl rfl)
theorem dX0_both_286 : decode cX0_both 286 = .ok (.laload, 1) := dk_47 (dk_at dksX0_both_12 6 rfl rfl)
theorem dX0_both_287 : decode cX0_both 287 = .ok (.lconst 0, 1) := dk_9 (dk_at dksX0_both_12 7 rfl rfl)
theorem dX0_both_288 : decode cX0_both 288 = .ok (.lcmp, 1) := dk_148 (dk_at dksX0_both_12 8 rfl rfl)
theorem dX0_both_289 : decode cX0_both 289 = .ok (.ifCond .le 7, 3) := dk_158 0 7 (dk_at dksX0_both_12 9 rfl rfl)
theorem dX0_both_292 : decode cX0_both 292 = .ok (.iconst 1, 1) := dk_4 (dk_at dksX0_both_12 12 rfl rfl)
theorem dX0_both_293 : decode cX0_both 293 = .ok (.goto 4, 3) := dk_167 0 4 (dk_at dksX0_both_12 13 rfl rfl)
theorem dX0_both_296 : decode cX0_both 296 = .ok (.iconst 0, 1) := dk_3 (dk_at dksX0_both_12 16 rfl rfl)
theorem dX0_both_297 : decode cX0_both 297 = .ok (.invokestatic 159, 3) := dk_184 0 159 (dk_at dksX0_both_12 17 rfl rfl)
theorem dX0_both_300 : decode cX0_both 300 = .ok (.iadd, 1) := dk_96 (dk_at dksX0_both_12 20 rfl rfl)
theorem dX0_both_301 : decode cX0_both 301 = .ok (.istore 6, 2) := dk_54 6 (dk_at dksX0_both_12 21 rfl rfl)
theorem dX0_both_303 : decode cX0_both 303 = .ok (.iinc 7 1, 3) := dk_132 7 1 (dk_at dksX0_both_13 0 rfl rfl)
theorem dX0_both_306 : decode cX0_both 306 = .ok (.goto (-59), 3) := dk_167 255 197 (dk_at dksX0_both_13 3 rfl rfl)
theorem dX0_both_309 : decode cX0_both 309 = .ok (.iload 6, 2) := dk_21 6 (dk_at dksX0_both_13 6 rfl rfl)
theorem dX0_both_311 : decode cX0_both 311 = .ok (.ireturn, 1) := dk_172 (dk_at dksX0_both_13 8 rfl rfl)
abbrev cX0_ropes : ByteArray := prog_1_method_59_code
def yX0_ropes : MethodName := ⟨RX0, "ropes", "(III)I"⟩
def dkwX0_ropes_6 : List UInt8 := [21, 4, 2, 159, 0, 8, 29, 4, 160, 0, 8, 21, 4, 167, 0, 8, 21, 4, 184, 1, 54, 172]
abbrev dktX0_ropes_6 : List UInt8 := dkwX0_ropes_6 ++ []
def dkwX0_ropes_5 : List UInt8 := [182, 0, 247, 42, 27, 28, 182, 1, 11, 2, 159, 0, 7, 21, 5, 54, 4, 132, 5, 1, 167, 255, 162]
abbrev dktX0_ropes_5 : List UInt8 := dkwX0_ropes_5 ++ dktX0_ropes_6
def dkwX0_ropes_4 : List UInt8 := [182, 0, 183, 42, 180, 0, 30, 180, 0, 163, 21, 5, 128, 181, 0, 163, 42, 42, 180, 0, 34, 3]
abbrev dktX0_ropes_4 : List UInt8 := dkwX0_ropes_4 ++ dktX0_ropes_5
def dkwX0_ropes_3 : List UInt8 := [184, 1, 54, 21, 4, 184, 1, 54, 161, 0, 6, 167, 0, 50, 42, 180, 0, 34, 42, 180, 0, 30]
abbrev dktX0_ropes_3 : List UInt8 := dkwX0_ropes_3 ++ dktX0_ropes_4
def dkwX0_ropes_2 : List UInt8 := [163, 0, 91, 21, 5, 42, 180, 0, 30, 180, 0, 163, 126, 154, 0, 72, 21, 4, 2, 159, 0, 19, 21, 5]
abbrev dktX0_ropes_2 : List UInt8 := dkwX0_ropes_2 ++ dktX0_ropes_3
def dkwX0_ropes_1 : List UInt8 := [20, 1, 6, 184, 0, 103, 154, 0, 6, 16, 253, 172, 2, 54, 4, 3, 54, 5, 21, 5, 42, 182, 1, 51]
abbrev dktX0_ropes_1 : List UInt8 := dkwX0_ropes_1 ++ dktX0_ropes_2
def dkwX0_ropes_0 : List UInt8 := [42, 27, 182, 1, 3, 153, 0, 13, 29, 133, 9, 10, 184, 0, 103, 154, 0, 6, 16, 254, 172, 28, 133, 9]
abbrev dktX0_ropes_0 : List UInt8 := dkwX0_ropes_0 ++ dktX0_ropes_1
theorem dksX0_ropes_0 : cX0_ropes.data.toList.drop 0 = dktX0_ropes_0 := by decide +kernel
theorem dksX0_ropes_1 : cX0_ropes.data.toList.drop 24 = dktX0_ropes_1 := dk_seg dksX0_ropes_0 24 rfl rfl
theorem dksX0_ropes_2 : cX0_ropes.data.toList.drop 48 = dktX0_ropes_2 := dk_seg dksX0_ropes_1 24 rfl rfl
theorem dksX0_ropes_3 : cX0_ropes.data.toList.drop 72 = dktX0_ropes_3 := dk_seg dksX0_ropes_2 24 rfl rfl
theorem dksX0_ropes_4 : cX0_ropes.data.toList.drop 94 = dktX0_ropes_4 := dk_seg dksX0_ropes_3 22 rfl rfl
theorem dksX0_ropes_5 : cX0_ropes.data.toList.drop 116 = dktX0_ropes_5 := dk_seg dksX0_ropes_4 22 rfl rfl
theorem dksX0_ropes_6 : cX0_ropes.data.toList.drop 139 = dktX0_ropes_6 := dk_seg dksX0_ropes_5 23 rfl rfl
theorem dX0_ropes_0 : decode cX0_ropes 0 = .ok (.aload_n 0, 1) := dk_42 (dk_at dksX0_ropes_0 0 rfl rfl)
theorem dX0_ropes_1 : decode cX0_ropes 1 = .ok (.iload_n 1, 1) := dk_27 (dk_at dksX0_ropes_0 1 rfl rfl)
theorem dX0_ropes_2 : decode cX0_ropes 2 = .ok (.invokevirtual 259, 3) := dk_182 1 3 (dk_at dksX0_ropes_0 2 rfl rfl)
theorem dX0_ropes_5 : decode cX0_ropes 5 = .ok (.ifCond .eq 13, 3) := dk_153 0 13 (dk_at dksX0_ropes_0 5 rfl rfl)
theorem dX0_ropes_8 : decode cX0_ropes 8 = .ok (.iload_n 3, 1) := dk_29 (dk_at dksX0_ropes_0 8 rfl rfl)
theorem dX0_ropes_9 : decode cX0_ropes 9 = .ok (.i2l, 1) := dk_133 (dk_at dksX0_ropes_0 9 rfl rfl)
theorem dX0_ropes_10 : decode cX0_ropes 10 = .ok (.lconst 0, 1) := dk_9 (dk_at dksX0_ropes_0 10 rfl rfl)
theorem dX0_ropes_11 : decode cX0_ropes 11 = .ok (.lconst 1, 1) := dk_10 (dk_at dksX0_ropes_0 11 rfl rfl)
theorem dX0_ropes_12 : decode cX0_ropes 12 = .ok (.invokestatic 103, 3) := dk_184 0 103 (dk_at dksX0_ropes_0 12 rfl rfl)
theorem dX0_ropes_15 : decode cX0_ropes 15 = .ok (.ifCond .ne 6, 3) := dk_154 0 6 (dk_at dksX0_ropes_0 15 rfl rfl)
theorem dX0_ropes_18 : decode cX0_ropes 18 = .ok (.bipush (-2), 2) := dk_16 254 (dk_at dksX0_ropes_0 18 rfl rfl)
theorem dX0_ropes_20 : decode cX0_ropes 20 = .ok (.ireturn, 1) := dk_172 (dk_at dksX0_ropes_0 20 rfl rfl)
theorem dX0_ropes_21 : decode cX0_ropes 21 = .ok (.iload_n 2, 1) := dk_28 (dk_at dksX0_ropes_0 21 rfl rfl)
theorem dX0_ropes_22 : decode cX0_ropes 22 = .ok (.i2l, 1) := dk_133 (dk_at dksX0_ropes_0 22 rfl rfl)
theorem dX0_ropes_23 : decode cX0_ropes 23 = .ok (.lconst 0, 1) := dk_9 (dk_at dksX0_ropes_0 23 rfl rfl)
theorem dX0_ropes_24 : decode cX0_ropes 24 = .ok (.ldc2_w 262, 3) := dk_20 1 6 (dk_at dksX0_ropes_1 0 rfl rfl)
theorem dX0_ropes_27 : decode cX0_ropes 27 = .ok (.invokestatic 103, 3) := dk_184 0 103 (dk_at dksX0_ropes_1 3 rfl rfl)
theorem dX0_ropes_30 : decode cX0_ropes 30 = .ok (.ifCond .ne 6, 3) := dk_154 0 6 (dk_at dksX0_ropes_1 6 rfl rfl)
theorem dX0_ropes_33 : decode cX0_ropes 33 = .ok (.bipush (-3), 2) := dk_16 253 (dk_at dksX0_ropes_1 9 rfl rfl)
theorem dX0_ropes_35 : decode cX0_ropes 35 = .ok (.ireturn, 1) := dk_172 (dk_at dksX0_ropes_1 11 rfl rfl)
theorem dX0_ropes_36 : decode cX0_ropes 36 = .ok (.iconst (-1), 1) := dk_2 (dk_at dksX0_ropes_1 12 rfl rfl)
theorem dX0_ropes_37 : decode cX0_ropes 37 = .ok (.istore 4, 2) := dk_54 4 (dk_at dksX0_ropes_1 13 rfl rfl)
theorem dX0_ropes_39 : decode cX0_ropes 39 = .ok (.iconst 0, 1) := dk_3 (dk_at dksX0_ropes_1 15 rfl rfl)
theorem dX0_ropes_40 : decode cX0_ropes 40 = .ok (.istore 5, 2) := dk_54 5 (dk_at dksX0_ropes_1 16 rfl rfl)
theorem dX0_ropes_42 : decode cX0_ropes 42 = .ok (.iload 5, 2) := dk_21 5 (dk_at dksX0_ropes_1 18 rfl rfl)
theorem dX0_ropes_44 : decode cX0_ropes 44 = .ok (.aload_n 0, 1) := dk_42 (dk_at dksX0_ropes_1 20 rfl rfl)
theorem dX0_ropes_45 : decode cX0_ropes 45 = .ok (.invokevirtual 307, 3) := dk_182 1 51 (dk_at dksX0_ropes_1 21 rfl rfl)
theorem dX0_ropes_48 : decode cX0_ropes 48 = .ok (.if_icmp .gt 91, 3) := dk_163 0 91 (dk_at dksX0_ropes_2 0 rfl rfl)
theorem dX0_ropes_51 : decode cX0_ropes 51 = .ok (.iload 5, 2) := dk_21 5 (dk_at dksX0_ropes_2 3 rfl rfl)
theorem dX0_ropes_53 : decode cX0_ropes 53 = .ok (.aload_n 0, 1) := dk_42 (dk_at dksX0_ropes_2 5 rfl rfl)
theorem dX0_ropes_54 : decode cX0_ropes 54 = .ok (.getfield 30, 3) := dk_180 0 30 (dk_at dksX0_ropes_2 6 rfl rfl)
theorem dX0_ropes_57 : decode cX0_ropes 57 = .ok (.getfield 163, 3) := dk_180 0 163 (dk_at dksX0_ropes_2 9 rfl rfl)
theorem dX0_ropes_60 : decode cX0_ropes 60 = .ok (.iand, 1) := dk_126 (dk_at dksX0_ropes_2 12 rfl rfl)
theorem dX0_ropes_61 : decode cX0_ropes 61 = .ok (.ifCond .ne 72, 3) := dk_154 0 72 (dk_at dksX0_ropes_2 13 rfl rfl)
theorem dX0_ropes_64 : decode cX0_ropes 64 = .ok (.iload 4, 2) := dk_21 4 (dk_at dksX0_ropes_2 16 rfl rfl)
theorem dX0_ropes_66 : decode cX0_ropes 66 = .ok (.iconst (-1), 1) := dk_2 (dk_at dksX0_ropes_2 18 rfl rfl)
theorem dX0_ropes_67 : decode cX0_ropes 67 = .ok (.if_icmp .eq 19, 3) := dk_159 0 19 (dk_at dksX0_ropes_2 19 rfl rfl)
theorem dX0_ropes_70 : decode cX0_ropes 70 = .ok (.iload 5, 2) := dk_21 5 (dk_at dksX0_ropes_2 22 rfl rfl)
theorem dX0_ropes_72 : decode cX0_ropes 72 = .ok (.invokestatic 310, 3) := dk_184 1 54 (dk_at dksX0_ropes_3 0 rfl rfl)
theorem dX0_ropes_75 : decode cX0_ropes 75 = .ok (.iload 4, 2) := dk_21 4 (dk_at dksX0_ropes_3 3 rfl rfl)
theorem dX0_ropes_77 : decode cX0_ropes 77 = .ok (.invokestatic 310, 3) := dk_184 1 54 (dk_at dksX0_ropes_3 5 rfl rfl)
theorem dX0_ropes_80 : decode cX0_ropes 80 = .ok (.if_icmp .lt 6, 3) := dk_161 0 6 (dk_at dksX0_ropes_3 8 rfl rfl)
theorem dX0_ropes_83 : decode cX0_ropes 83 = .ok (.goto 50, 3) := dk_167 0 50 (dk_at dksX0_ropes_3 11 rfl rfl)
theorem dX0_ropes_86 : decode cX0_ropes 86 = .ok (.aload_n 0, 1) := dk_42 (dk_at dksX0_ropes_3 14 rfl rfl)
theorem dX0_ropes_87 : decode cX0_ropes 87 = .ok (.getfield 34, 3) := dk_180 0 34 (dk_at dksX0_ropes_3 15 rfl rfl)
theorem dX0_ropes_90 : decode cX0_ropes 90 = .ok (.aload_n 0, 1) := dk_42 (dk_at dksX0_ropes_3 18 rfl rfl)
theorem dX0_ropes_91 : decode cX0_ropes 91 = .ok (.getfield 30, 3) := dk_180 0 30 (dk_at dksX0_ropes_3 19 rfl rfl)
theorem dX0_ropes_94 : decode cX0_ropes 94 = .ok (.invokevirtual 183, 3) := dk_182 0 183 (dk_at dksX0_ropes_4 0 rfl rfl)
theorem dX0_ropes_97 : decode cX0_ropes 97 = .ok (.aload_n 0, 1) := dk_42 (dk_at dksX0_ropes_4 3 rfl rfl)
theorem dX0_ropes_98 : decode cX0_ropes 98 = .ok (.getfield 30, 3) := dk_180 0 30 (dk_at dksX0_ropes_4 4 rfl rfl)
theorem dX0_ropes_101 : decode cX0_ropes 101 = .ok (.getfield 163, 3) := dk_180 0 163 (dk_at dksX0_ropes_4 7 rfl rfl)
theorem dX0_ropes_104 : decode cX0_ropes 104 = .ok (.iload 5, 2) := dk_21 5 (dk_at dksX0_ropes_4 10 rfl rfl)
theorem dX0_ropes_106 : decode cX0_ropes 106 = .ok (.ior, 1) := dk_128 (dk_at dksX0_ropes_4 12 rfl rfl)
theorem dX0_ropes_107 : decode cX0_ropes 107 = .ok (.putfield 163, 3) := dk_181 0 163 (dk_at dksX0_ropes_4 13 rfl rfl)
theorem dX0_ropes_110 : decode cX0_ropes 110 = .ok (.aload_n 0, 1) := dk_42 (dk_at dksX0_ropes_4 16 rfl rfl)
theorem dX0_ropes_111 : decode cX0_ropes 111 = .ok (.aload_n 0, 1) := dk_42 (dk_at dksX0_ropes_4 17 rfl rfl)
theorem dX0_ropes_112 : decode cX0_ropes 112 = .ok (.getfield 34, 3) := dk_180 0 34 (dk_at dksX0_ropes_4 18 rfl rfl)
theorem dX0_ropes_115 : decode cX0_ropes 115 = .ok (.iconst 0, 1) := dk_3 (dk_at dksX0_ropes_4 21 rfl rfl)
theorem dX0_ropes_116 : decode cX0_ropes 116 = .ok (.invokevirtual 247, 3) := dk_182 0 247 (dk_at dksX0_ropes_5 0 rfl rfl)
theorem dX0_ropes_119 : decode cX0_ropes 119 = .ok (.aload_n 0, 1) := dk_42 (dk_at dksX0_ropes_5 3 rfl rfl)
theorem dX0_ropes_120 : decode cX0_ropes 120 = .ok (.iload_n 1, 1) := dk_27 (dk_at dksX0_ropes_5 4 rfl rfl)
theorem dX0_ropes_121 : decode cX0_ropes 121 = .ok (.iload_n 2, 1) := dk_28 (dk_at dksX0_ropes_5 5 rfl rfl)
theorem dX0_ropes_122 : decode cX0_ropes 122 = .ok (.invokevirtual 267, 3) := dk_182 1 11 (dk_at dksX0_ropes_5 6 rfl rfl)
theorem dX0_ropes_125 : decode cX0_ropes 125 = .ok (.iconst (-1), 1) := dk_2 (dk_at dksX0_ropes_5 9 rfl rfl)
theorem dX0_ropes_126 : decode cX0_ropes 126 = .ok (.if_icmp .eq 7, 3) := dk_159 0 7 (dk_at dksX0_ropes_5 10 rfl rfl)
theorem dX0_ropes_129 : decode cX0_ropes 129 = .ok (.iload 5, 2) := dk_21 5 (dk_at dksX0_ropes_5 13 rfl rfl)
theorem dX0_ropes_131 : decode cX0_ropes 131 = .ok (.istore 4, 2) := dk_54 4 (dk_at dksX0_ropes_5 15 rfl rfl)
theorem dX0_ropes_133 : decode cX0_ropes 133 = .ok (.iinc 5 1, 3) := dk_132 5 1 (dk_at dksX0_ropes_5 17 rfl rfl)
theorem dX0_ropes_136 : decode cX0_ropes 136 = .ok (.goto (-94), 3) := dk_167 255 162 (dk_at dksX0_ropes_5 20 rfl rfl)
theorem dX0_ropes_139 : decode cX0_ropes 139 = .ok (.iload 4, 2) := dk_21 4 (dk_at dksX0_ropes_6 0 rfl rfl)
theorem dX0_ropes_141 : decode cX0_ropes 141 = .ok (.iconst (-1), 1) := dk_2 (dk_at dksX0_ropes_6 2 rfl rfl)
theorem dX0_ropes_142 : decode cX0_ropes 142 = .ok (.if_icmp .eq 8, 3) := dk_159 0 8 (dk_at dksX0_ropes_6 3 rfl rfl)
theorem dX0_ropes_145 : decode cX0_ropes 145 = .ok (.iload_n 3, 1) := dk_29 (dk_at dksX0_ropes_6 6 rfl rfl)
theorem dX0_ropes_146 : decode cX0_ropes 146 = .ok (.iconst 1, 1) := dk_4 (dk_at dksX0_ropes_6 7 rfl rfl)
theorem dX0_ropes_147 : decode cX0_ropes 147 = .ok (.if_icmp .ne 8, 3) := dk_160 0 8 (dk_at dksX0_ropes_6 8 rfl rfl)
theorem dX0_ropes_150 : decode cX0_ropes 150 = .ok (.iload 4, 2) := dk_21 4 (dk_at dksX0_ropes_6 11 rfl rfl)
theorem dX0_ropes_152 : decode cX0_ropes 152 = .ok (.goto 8, 3) := dk_167 0 8 (dk_at dksX0_ropes_6 13 rfl rfl)
theorem dX0_ropes_155 : decode cX0_ropes 155 = .ok (.iload 4, 2) := dk_21 4 (dk_at dksX0_ropes_6 16 rfl rfl)
theorem dX0_ropes_157 : decode cX0_ropes 157 = .ok (.invokestatic 310, 3) := dk_184 1 54 (dk_at dksX0_ropes_6 18 rfl rfl)
theorem dX0_ropes_160 : decode cX0_ropes 160 = .ok (.ireturn, 1) := dk_172 (dk_at dksX0_ropes_6 21 rfl rfl)
abbrev cX0_allPassages : ByteArray := prog_1_method_16_code
def yX0_allPassages : MethodName := ⟨RX0, "allPassages", "()I"⟩
def dkwX0_allPassages_0 : List UInt8 := [4, 42, 180, 0, 21, 180, 0, 133, 120, 4, 100, 172]
abbrev dktX0_allPassages_0 : List UInt8 := dkwX0_allPassages_0 ++ []
theorem dksX0_allPassages_0 : cX0_allPassages.data.toList.drop 0 = dktX0_allPassages_0 := by decide +kernel
theorem dX0_allPassages_0 : decode cX0_allPassages 0 = .ok (.iconst 1, 1) := dk_4 (dk_at dksX0_allPassages_0 0 rfl rfl)
theorem dX0_allPassages_1 : decode cX0_allPassages 1 = .ok (.aload_n 0, 1) := dk_42 (dk_at dksX0_allPassages_0 1 rfl rfl)
theorem dX0_allPassages_2 : decode cX0_allPassages 2 = .ok (.getfield 21, 3) := dk_180 0 21 (dk_at dksX0_allPassages_0 2 rfl rfl)
theorem dX0_allPassages_5 : decode cX0_allPassages 5 = .ok (.getfield 133, 3) := dk_180 0 133 (dk_at dksX0_allPassages_0 5 rfl rfl)
theorem dX0_allPassages_8 : decode cX0_allPassages 8 = .ok (.ishl, 1) := dk_120 (dk_at dksX0_allPassages_0 8 rfl rfl)
theorem dX0_allPassages_9 : decode cX0_allPassages 9 = .ok (.iconst 1, 1) := dk_4 (dk_at dksX0_allPassages_0 9 rfl rfl)
theorem dX0_allPassages_10 : decode cX0_allPassages 10 = .ok (.isub, 1) := dk_100 (dk_at dksX0_allPassages_0 10 rfl rfl)
theorem dX0_allPassages_11 : decode cX0_allPassages 11 = .ok (.ireturn, 1) := dk_172 (dk_at dksX0_allPassages_0 11 rfl rfl)
abbrev cX0_size : ByteArray := prog_1_method_4_code
def yX0_size : MethodName := ⟨RX0, "size", "(I)I"⟩
theorem dX0_size_0 : decode cX0_size 0 = .ok (.iload_n 0, 1) := by decide +kernel
theorem dX0_size_1 : decode cX0_size 1 = .ok (.invokestatic 3, 3) := by decide +kernel
theorem dX0_size_4 : decode cX0_size 4 = .ok (.ireturn, 1) := by decide +kernel
abbrev cX0_watch : ByteArray := prog_1_method_61_code
def yX0_watch : MethodName := ⟨RX0, "watch", "(II)I"⟩
def dkwX0_watch_5 : List UInt8 := [160, 0, 7, 29, 167, 0, 7, 29, 184, 1, 54, 172]
abbrev dktX0_watch_5 : List UInt8 := dkwX0_watch_5 ++ []
def dkwX0_watch_4 : List UInt8 := [182, 1, 57, 154, 0, 6, 21, 4, 62, 132, 4, 1, 167, 255, 191, 29, 2, 159, 0, 8, 28, 4]
abbrev dktX0_watch_4 : List UInt8 := dkwX0_watch_4 ++ dktX0_watch_5
def dkwX0_watch_3 : List UInt8 := [154, 0, 33, 29, 2, 159, 0, 15, 21, 4, 184, 1, 54, 29, 184, 1, 54, 162, 0, 16, 42, 27, 21, 4]
abbrev dktX0_watch_3 : List UInt8 := dkwX0_watch_3 ++ dktX0_watch_4
def dkwX0_watch_2 : List UInt8 := [180, 0, 136, 120, 162, 0, 57, 21, 4, 42, 180, 0, 30, 180, 0, 170, 184, 0, 177, 184, 0, 155]
abbrev dktX0_watch_2 : List UInt8 := dkwX0_watch_2 ++ dktX0_watch_3
def dkwX0_watch_1 : List UInt8 := [154, 0, 6, 16, 253, 172, 42, 182, 1, 8, 2, 62, 3, 54, 4, 21, 4, 4, 42, 180, 0, 21]
abbrev dktX0_watch_1 : List UInt8 := dkwX0_watch_1 ++ dktX0_watch_2
def dkwX0_watch_0 : List UInt8 := [28, 133, 9, 10, 184, 0, 103, 154, 0, 6, 16, 254, 172, 27, 133, 10, 20, 1, 42, 184, 0, 103]
abbrev dktX0_watch_0 : List UInt8 := dkwX0_watch_0 ++ dktX0_watch_1
theorem dksX0_watch_0 : cX0_watch.data.toList.drop 0 = dktX0_watch_0 := by decide +kernel
theorem dksX0_watch_1 : cX0_watch.data.toList.drop 22 = dktX0_watch_1 := dk_seg dksX0_watch_0 22 rfl rfl
theorem dksX0_watch_2 : cX0_watch.data.toList.drop 44 = dktX0_watch_2 := dk_seg dksX0_watch_1 22 rfl rfl
theorem dksX0_watch_3 : cX0_watch.data.toList.drop 66 = dktX0_watch_3 := dk_seg dksX0_watch_2 22 rfl rfl
theorem dksX0_watch_4 : cX0_watch.data.toList.drop 90 = dktX0_watch_4 := dk_seg dksX0_watch_3 24 rfl rfl
theorem dksX0_watch_5 : cX0_watch.data.toList.drop 112 = dktX0_watch_5 := dk_seg dksX0_watch_4 22 rfl rfl
theorem dX0_watch_0 : decode cX0_watch 0 = .ok (.iload_n 2, 1) := dk_28 (dk_at dksX0_watch_0 0 rfl rfl)
theorem dX0_watch_1 : decode cX0_watch 1 = .ok (.i2l, 1) := dk_133 (dk_at dksX0_watch_0 1 rfl rfl)
theorem dX0_watch_2 : decode cX0_watch 2 = .ok (.lconst 0, 1) := dk_9 (dk_at dksX0_watch_0 2 rfl rfl)
theorem dX0_watch_3 : decode cX0_watch 3 = .ok (.lconst 1, 1) := dk_10 (dk_at dksX0_watch_0 3 rfl rfl)
theorem dX0_watch_4 : decode cX0_watch 4 = .ok (.invokestatic 103, 3) := dk_184 0 103 (dk_at dksX0_watch_0 4 rfl rfl)
theorem dX0_watch_7 : decode cX0_watch 7 = .ok (.ifCond .ne 6, 3) := dk_154 0 6 (dk_at dksX0_watch_0 7 rfl rfl)
theorem dX0_watch_10 : decode cX0_watch 10 = .ok (.bipush (-2), 2) := dk_16 254 (dk_at dksX0_watch_0 10 rfl rfl)
theorem dX0_watch_12 : decode cX0_watch 12 = .ok (.ireturn, 1) := dk_172 (dk_at dksX0_watch_0 12 rfl rfl)
theorem dX0_watch_13 : decode cX0_watch 13 = .ok (.iload_n 1, 1) := dk_27 (dk_at dksX0_watch_0 13 rfl rfl)
theorem dX0_watch_14 : decode cX0_watch 14 = .ok (.i2l, 1) := dk_133 (dk_at dksX0_watch_0 14 rfl rfl)
theorem dX0_watch_15 : decode cX0_watch 15 = .ok (.lconst 1, 1) := dk_10 (dk_at dksX0_watch_0 15 rfl rfl)
theorem dX0_watch_16 : decode cX0_watch 16 = .ok (.ldc2_w 298, 3) := dk_20 1 42 (dk_at dksX0_watch_0 16 rfl rfl)
theorem dX0_watch_19 : decode cX0_watch 19 = .ok (.invokestatic 103, 3) := dk_184 0 103 (dk_at dksX0_watch_0 19 rfl rfl)
theorem dX0_watch_22 : decode cX0_watch 22 = .ok (.ifCond .ne 6, 3) := dk_154 0 6 (dk_at dksX0_watch_1 0 rfl rfl)
theorem dX0_watch_25 : decode cX0_watch 25 = .ok (.bipush (-3), 2) := dk_16 253 (dk_at dksX0_watch_1 3 rfl rfl)
theorem dX0_watch_27 : decode cX0_watch 27 = .ok (.ireturn, 1) := dk_172 (dk_at dksX0_watch_1 5 rfl rfl)
theorem dX0_watch_28 : decode cX0_watch 28 = .ok (.aload_n 0, 1) := dk_42 (dk_at dksX0_watch_1 6 rfl rfl)
theorem dX0_watch_29 : decode cX0_watch 29 = .ok (.invokevirtual 264, 3) := dk_182 1 8 (dk_at dksX0_watch_1 7 rfl rfl)
theorem dX0_watch_32 : decode cX0_watch 32 = .ok (.iconst (-1), 1) := dk_2 (dk_at dksX0_watch_1 10 rfl rfl)
theorem dX0_watch_33 : decode cX0_watch 33 = .ok (.istore_n 3, 1) := dk_62 (dk_at dksX0_watch_1 11 rfl rfl)
theorem dX0_watch_34 : decode cX0_watch 34 = .ok (.iconst 0, 1) := dk_3 (dk_at dksX0_watch_1 12 rfl rfl)
theorem dX0_watch_35 : decode cX0_watch 35 = .ok (.istore 4, 2) := dk_54 4 (dk_at dksX0_watch_1 13 rfl rfl)
theorem dX0_watch_37 : decode cX0_watch 37 = .ok (.iload 4, 2) := dk_21 4 (dk_at dksX0_watch_1 15 rfl rfl)
theorem dX0_watch_39 : decode cX0_watch 39 = .ok (.iconst 1, 1) := dk_4 (dk_at dksX0_watch_1 17 rfl rfl)
theorem dX0_watch_40 : decode cX0_watch 40 = .ok (.aload_n 0, 1) := dk_42 (dk_at dksX0_watch_1 18 rfl rfl)
theorem dX0_watch_41 : decode cX0_watch 41 = .ok (.getfield 21, 3) := dk_180 0 21 (dk_at dksX0_watch_1 19 rfl rfl)
theorem dX0_watch_44 : decode cX0_watch 44 = .ok (.getfield 136, 3) := dk_180 0 136 (dk_at dksX0_watch_2 0 rfl rfl)
theorem dX0_watch_47 : decode cX0_watch 47 = .ok (.ishl, 1) := dk_120 (dk_at dksX0_watch_2 3 rfl rfl)
theorem dX0_watch_48 : decode cX0_watch 48 = .ok (.if_icmp .ge 57, 3) := dk_162 0 57 (dk_at dksX0_watch_2 4 rfl rfl)
theorem dX0_watch_51 : decode cX0_watch 51 = .ok (.iload 4, 2) := dk_21 4 (dk_at dksX0_watch_2 7 rfl rfl)
theorem dX0_watch_53 : decode cX0_watch 53 = .ok (.aload_n 0, 1) := dk_42 (dk_at dksX0_watch_2 9 rfl rfl)
theorem dX0_watch_54 : decode cX0_watch 54 = .ok (.getfield 30, 3) := dk_180 0 30 (dk_at dksX0_watch_2 10 rfl rfl)
theorem dX0_watch_57 : decode cX0_watch 57 = .ok (.getfield 170, 3) := dk_180 0 170 (dk_at dksX0_watch_2 13 rfl rfl)
theorem dX0_watch_60 : decode cX0_watch 60 = .ok (.invokestatic 177, 3) := dk_184 0 177 (dk_at dksX0_watch_2 16 rfl rfl)
theorem dX0_watch_63 : decode cX0_watch 63 = .ok (.invokestatic 155, 3) := dk_184 0 155 (dk_at dksX0_watch_2 19 rfl rfl)
theorem dX0_watch_66 : decode cX0_watch 66 = .ok (.ifCond .ne 33, 3) := dk_154 0 33 (dk_at dksX0_watch_3 0 rfl rfl)
theorem dX0_watch_69 : decode cX0_watch 69 = .ok (.iload_n 3, 1) := dk_29 (dk_at dksX0_watch_3 3 rfl rfl)
theorem dX0_watch_70 : decode cX0_watch 70 = .ok (.iconst (-1), 1) := dk_2 (dk_at dksX0_watch_3 4 rfl rfl)
theorem dX0_watch_71 : decode cX0_watch 71 = .ok (.if_icmp .eq 15, 3) := dk_159 0 15 (dk_at dksX0_watch_3 5 rfl rfl)
theorem dX0_watch_74 : decode cX0_watch 74 = .ok (.iload 4, 2) := dk_21 4 (dk_at dksX0_watch_3 8 rfl rfl)
theorem dX0_watch_76 : decode cX0_watch 76 = .ok (.invokestatic 310, 3) := dk_184 1 54 (dk_at dksX0_watch_3 10 rfl rfl)
theorem dX0_watch_79 : decode cX0_watch 79 = .ok (.iload_n 3, 1) := dk_29 (dk_at dksX0_watch_3 13 rfl rfl)
theorem dX0_watch_80 : decode cX0_watch 80 = .ok (.invokestatic 310, 3) := dk_184 1 54 (dk_at dksX0_watch_3 14 rfl rfl)
theorem dX0_watch_83 : decode cX0_watch 83 = .ok (.if_icmp .ge 16, 3) := dk_162 0 16 (dk_at dksX0_watch_3 17 rfl rfl)
theorem dX0_watch_86 : decode cX0_watch 86 = .ok (.aload_n 0, 1) := dk_42 (dk_at dksX0_watch_3 20 rfl rfl)
theorem dX0_watch_87 : decode cX0_watch 87 = .ok (.iload_n 1, 1) := dk_27 (dk_at dksX0_watch_3 21 rfl rfl)
theorem dX0_watch_88 : decode cX0_watch 88 = .ok (.iload 4, 2) := dk_21 4 (dk_at dksX0_watch_3 22 rfl rfl)
theorem dX0_watch_90 : decode cX0_watch 90 = .ok (.invokevirtual 313, 3) := dk_182 1 57 (dk_at dksX0_watch_4 0 rfl rfl)
theorem dX0_watch_93 : decode cX0_watch 93 = .ok (.ifCond .ne 6, 3) := dk_154 0 6 (dk_at dksX0_watch_4 3 rfl rfl)
theorem dX0_watch_96 : decode cX0_watch 96 = .ok (.iload 4, 2) := dk_21 4 (dk_at dksX0_watch_4 6 rfl rfl)
theorem dX0_watch_98 : decode cX0_watch 98 = .ok (.istore_n 3, 1) := dk_62 (dk_at dksX0_watch_4 8 rfl rfl)
theorem dX0_watch_99 : decode cX0_watch 99 = .ok (.iinc 4 1, 3) := dk_132 4 1 (dk_at dksX0_watch_4 9 rfl rfl)
theorem dX0_watch_102 : decode cX0_watch 102 = .ok (.goto (-65), 3) := dk_167 255 191 (dk_at dksX0_watch_4 12 rfl rfl)
theorem dX0_watch_105 : decode cX0_watch 105 = .ok (.iload_n 3, 1) := dk_29 (dk_at dksX0_watch_4 15 rfl rfl)
theorem dX0_watch_106 : decode cX0_watch 106 = .ok (.iconst (-1), 1) := dk_2 (dk_at dksX0_watch_4 16 rfl rfl)
theorem dX0_watch_107 : decode cX0_watch 107 = .ok (.if_icmp .eq 8, 3) := dk_159 0 8 (dk_at dksX0_watch_4 17 rfl rfl)
theorem dX0_watch_110 : decode cX0_watch 110 = .ok (.iload_n 2, 1) := dk_28 (dk_at dksX0_watch_4 20 rfl rfl)
theorem dX0_watch_111 : decode cX0_watch 111 = .ok (.iconst 1, 1) := dk_4 (dk_at dksX0_watch_4 21 rfl rfl)
theorem dX0_watch_112 : decode cX0_watch 112 = .ok (.if_icmp .ne 7, 3) := dk_160 0 7 (dk_at dksX0_watch_5 0 rfl rfl)
theorem dX0_watch_115 : decode cX0_watch 115 = .ok (.iload_n 3, 1) := dk_29 (dk_at dksX0_watch_5 3 rfl rfl)
theorem dX0_watch_116 : decode cX0_watch 116 = .ok (.goto 7, 3) := dk_167 0 7 (dk_at dksX0_watch_5 4 rfl rfl)
theorem dX0_watch_119 : decode cX0_watch 119 = .ok (.iload_n 3, 1) := dk_29 (dk_at dksX0_watch_5 7 rfl rfl)
theorem dX0_watch_120 : decode cX0_watch 120 = .ok (.invokestatic 310, 3) := dk_184 1 54 (dk_at dksX0_watch_5 8 rfl rfl)
theorem dX0_watch_123 : decode cX0_watch 123 = .ok (.ireturn, 1) := dk_172 (dk_at dksX0_watch_5 11 rfl rfl)
abbrev cX0_canAvoid : ByteArray := prog_1_method_60_code
def yX0_canAvoid : MethodName := ⟨RX0, "canAvoid", "(II)Z"⟩
def dkwX0_canAvoid_9 : List UInt8 := [29, 51, 153, 0, 5, 4, 172, 132, 3, 1, 167, 255, 236, 3, 172]
abbrev dktX0_canAvoid_9 : List UInt8 := dkwX0_canAvoid_9 ++ []
def dkwX0_canAvoid_8 : List UInt8 := [132, 4, 1, 167, 255, 223, 132, 3, 1, 167, 255, 97, 3, 62, 29, 16, 36, 162, 0, 20, 42, 180, 0, 59]
abbrev dktX0_canAvoid_8 : List UInt8 := dkwX0_canAvoid_8 ++ dktX0_canAvoid_9
def dkwX0_canAvoid_7 : List UInt8 := [180, 0, 59, 21, 4, 42, 180, 0, 53, 21, 4, 46, 4, 160, 0, 7, 4, 167, 0, 4, 3, 84]
abbrev dktX0_canAvoid_7 : List UInt8 := dkwX0_canAvoid_7 ++ dktX0_canAvoid_8
def dkwX0_canAvoid_6 : List UInt8 := [132, 5, 1, 167, 255, 190, 132, 4, 1, 167, 255, 174, 3, 54, 4, 21, 4, 16, 36, 162, 0, 32, 42]
abbrev dktX0_canAvoid_6 : List UInt8 := dkwX0_canAvoid_6 ++ dktX0_canAvoid_7
def dkwX0_canAvoid_5 : List UInt8 := [159, 0, 23, 28, 21, 6, 184, 0, 177, 184, 0, 155, 154, 0, 11, 42, 180, 0, 53, 21, 6, 4, 79]
abbrev dktX0_canAvoid_5 : List UInt8 := dkwX0_canAvoid_5 ++ dktX0_canAvoid_6
def dkwX0_canAvoid_4 : List UInt8 := [21, 4, 51, 153, 0, 50, 42, 180, 0, 49, 16, 8, 21, 4, 104, 21, 5, 96, 46, 54, 6, 21, 6, 2]
abbrev dktX0_canAvoid_4 : List UInt8 := dkwX0_canAvoid_4 ++ dktX0_canAvoid_5
def dkwX0_canAvoid_3 : List UInt8 := [16, 36, 162, 0, 81, 3, 54, 5, 21, 5, 42, 180, 0, 21, 180, 0, 133, 162, 0, 60, 42, 180, 0, 59]
abbrev dktX0_canAvoid_3 : List UInt8 := dkwX0_canAvoid_3 ++ dktX0_canAvoid_4
def dkwX0_canAvoid_2 : List UInt8 := [16, 36, 162, 0, 17, 42, 180, 0, 53, 21, 4, 3, 79, 132, 4, 1, 167, 255, 238, 3, 54, 4, 21, 4]
abbrev dktX0_canAvoid_2 : List UInt8 := dkwX0_canAvoid_2 ++ dktX0_canAvoid_3
def dkwX0_canAvoid_1 : List UInt8 := [4, 167, 0, 4, 3, 84, 132, 3, 1, 167, 255, 225, 3, 62, 29, 27, 162, 0, 160, 3, 54, 4, 21, 4]
abbrev dktX0_canAvoid_1 : List UInt8 := dkwX0_canAvoid_1 ++ dktX0_canAvoid_2
def dkwX0_canAvoid_0 : List UInt8 := [3, 62, 29, 16, 36, 162, 0, 31, 42, 180, 0, 59, 29, 29, 42, 180, 0, 30, 180, 0, 170, 160, 0, 7]
abbrev dktX0_canAvoid_0 : List UInt8 := dkwX0_canAvoid_0 ++ dktX0_canAvoid_1
theorem dksX0_canAvoid_0 : cX0_canAvoid.data.toList.drop 0 = dktX0_canAvoid_0 := by decide +kernel
theorem dksX0_canAvoid_1 : cX0_canAvoid.data.toList.drop 24 = dktX0_canAvoid_1 := dk_seg dksX0_canAvoid_0 24 rfl rfl
theorem dksX0_canAvoid_2 : cX0_canAvoid.data.toList.drop 48 = dktX0_canAvoid_2 := dk_seg dksX0_canAvoid_1 24 rfl rfl
theorem dksX0_canAvoid_3 : cX0_canAvoid.data.toList.drop 72 = dktX0_canAvoid_3 := dk_seg dksX0_canAvoid_2 24 rfl rfl
theorem dksX0_canAvoid_4 : cX0_canAvoid.data.toList.drop 96 = dktX0_canAvoid_4 := dk_seg dksX0_canAvoid_3 24 rfl rfl
theorem dksX0_canAvoid_5 : cX0_canAvoid.data.toList.drop 120 = dktX0_canAvoid_5 := dk_seg dksX0_canAvoid_4 24 rfl rfl
theorem dksX0_canAvoid_6 : cX0_canAvoid.data.toList.drop 143 = dktX0_canAvoid_6 := dk_seg dksX0_canAvoid_5 23 rfl rfl
theorem dksX0_canAvoid_7 : cX0_canAvoid.data.toList.drop 166 = dktX0_canAvoid_7 := dk_seg dksX0_canAvoid_6 23 rfl rfl
theorem dksX0_canAvoid_8 : cX0_canAvoid.data.toList.drop 188 = dktX0_canAvoid_8 := dk_seg dksX0_canAvoid_7 22 rfl rfl
theorem dksX0_canAvoid_9 : cX0_canAvoid.data.toList.drop 212 = dktX0_canAvoid_9 := dk_seg dksX0_canAvoid_8 24 rfl rfl
theorem dX0_canAvoid_0 : decode cX0_canAvoid 0 = .ok (.iconst 0, 1) := dk_3 (dk_at dksX0_canAvoid_0 0 rfl rfl)
theorem dX0_canAvoid_1 : decode cX0_canAvoid 1 = .ok (.istore_n 3, 1) := dk_62 (dk_at dksX0_canAvoid_0 1 rfl rfl)
theorem dX0_canAvoid_2 : decode cX0_canAvoid 2 = .ok (.iload_n 3, 1) := dk_29 (dk_at dksX0_canAvoid_0 2 rfl rfl)
theorem dX0_canAvoid_3 : decode cX0_canAvoid 3 = .ok (.bipush 36, 2) := dk_16 36 (dk_at dksX0_canAvoid_0 3 rfl rfl)
theorem dX0_canAvoid_5 : decode cX0_canAvoid 5 = .ok (.if_icmp .ge 31, 3) := dk_162 0 31 (dk_at dksX0_canAvoid_0 5 rfl rfl)
theorem dX0_canAvoid_8 : decode cX0_canAvoid 8 = .ok (.aload_n 0, 1) := dk_42 (dk_at dksX0_canAvoid_0 8 rfl rfl)
theorem dX0_canAvoid_9 : decode cX0_canAvoid 9 = .ok (.getfield 59, 3) := dk_180 0 59 (dk_at dksX0_canAvoid_0 9 rfl rfl)
theorem dX0_canAvoid_12 : decode cX0_canAvoid 12 = .ok (.iload_n 3, 1) := dk_29 (dk_at dksX0_canAvoid_0 12 rfl rfl)
theorem dX0_canAvoid_13 : decode cX0_canAvoid 13 = .ok (.iload_n 3, 1) := dk_29 (dk_at dksX0_canAvoid_0 13 rfl rfl)
theorem dX0_canAvoid_14 : decode cX0_canAvoid 14 = .ok (.aload_n 0, 1) := dk_42 (dk_at dksX0_canAvoid_0 14 rfl rfl)
theorem dX0_canAvoid_15 : decode cX0_canAvoid 15 = .ok (.getfield 30, 3) := dk_180 0 30 (dk_at dksX0_canAvoid_0 15 rfl rfl)
theorem dX0_canAvoid_18 : decode cX0_canAvoid 18 = .ok (.getfield 170, 3) := dk_180 0 170 (dk_at dksX0_canAvoid_0 18 rfl rfl)
theorem dX0_canAvoid_21 : decode cX0_canAvoid 21 = .ok (.if_icmp .ne 7, 3) := dk_160 0 7 (dk_at dksX0_canAvoid_0 21 rfl rfl)
theorem dX0_canAvoid_24 : decode cX0_canAvoid 24 = .ok (.iconst 1, 1) := dk_4 (dk_at dksX0_canAvoid_1 0 rfl rfl)
theorem dX0_canAvoid_25 : decode cX0_canAvoid 25 = .ok (.goto 4, 3) := dk_167 0 4 (dk_at dksX0_canAvoid_1 1 rfl rfl)
theorem dX0_canAvoid_28 : decode cX0_canAvoid 28 = .ok (.iconst 0, 1) := dk_3 (dk_at dksX0_canAvoid_1 4 rfl rfl)
theorem dX0_canAvoid_29 : decode cX0_canAvoid 29 = .ok (.bastore, 1) := dk_84 (dk_at dksX0_canAvoid_1 5 rfl rfl)
theorem dX0_canAvoid_30 : decode cX0_canAvoid 30 = .ok (.iinc 3 1, 3) := dk_132 3 1 (dk_at dksX0_canAvoid_1 6 rfl rfl)
theorem dX0_canAvoid_33 : decode cX0_canAvoid 33 = .ok (.goto (-31), 3) := dk_167 255 225 (dk_at dksX0_canAvoid_1 9 rfl rfl)
theorem dX0_canAvoid_36 : decode cX0_canAvoid 36 = .ok (.iconst 0, 1) := dk_3 (dk_at dksX0_canAvoid_1 12 rfl rfl)
theorem dX0_canAvoid_37 : decode cX0_canAvoid 37 = .ok (.istore_n 3, 1) := dk_62 (dk_at dksX0_canAvoid_1 13 rfl rfl)
theorem dX0_canAvoid_38 : decode cX0_canAvoid 38 = .ok (.iload_n 3, 1) := dk_29 (dk_at dksX0_canAvoid_1 14 rfl rfl)
theorem dX0_canAvoid_39 : decode cX0_canAvoid 39 = .ok (.iload_n 1, 1) := dk_27 (dk_at dksX0_canAvoid_1 15 rfl rfl)
theorem dX0_canAvoid_40 : decode cX0_canAvoid 40 = .ok (.if_icmp .ge 160, 3) := dk_162 0 160 (dk_at dksX0_canAvoid_1 16 rfl rfl)
theorem dX0_canAvoid_43 : decode cX0_canAvoid 43 = .ok (.iconst 0, 1) := dk_3 (dk_at dksX0_canAvoid_1 19 rfl rfl)
theorem dX0_canAvoid_44 : decode cX0_canAvoid 44 = .ok (.istore 4, 2) := dk_54 4 (dk_at dksX0_canAvoid_1 20 rfl rfl)
theorem dX0_canAvoid_46 : decode cX0_canAvoid 46 = .ok (.iload 4, 2) := dk_21 4 (dk_at dksX0_canAvoid_1 22 rfl rfl)
theorem dX0_canAvoid_48 : decode cX0_canAvoid 48 = .ok (.bipush 36, 2) := dk_16 36 (dk_at dksX0_canAvoid_2 0 rfl rfl)
theorem dX0_canAvoid_50 : decode cX0_canAvoid 50 = .ok (.if_icmp .ge 17, 3) := dk_162 0 17 (dk_at dksX0_canAvoid_2 2 rfl rfl)
theorem dX0_canAvoid_53 : decode cX0_canAvoid 53 = .ok (.aload_n 0, 1) := dk_42 (dk_at dksX0_canAvoid_2 5 rfl rfl)
theorem dX0_canAvoid_54 : decode cX0_canAvoid 54 = .ok (.getfield 53, 3) := dk_180 0 53 (dk_at dksX0_canAvoid_2 6 rfl rfl)
theorem dX0_canAvoid_57 : decode cX0_canAvoid 57 = .ok (.iload 4, 2) := dk_21 4 (dk_at dksX0_canAvoid_2 9 rfl rfl)
theorem dX0_canAvoid_59 : decode cX0_canAvoid 59 = .ok (.iconst 0, 1) := dk_3 (dk_at dksX0_canAvoid_2 11 rfl rfl)
theorem dX0_canAvoid_60 : decode cX0_canAvoid 60 = .ok (.iastore, 1) := dk_79 (dk_at dksX0_canAvoid_2 12 rfl rfl)
theorem dX0_canAvoid_61 : decode cX0_canAvoid 61 = .ok (.iinc 4 1, 3) := dk_132 4 1 (dk_at dksX0_canAvoid_2 13 rfl rfl)
theorem dX0_canAvoid_64 : decode cX0_canAvoid 64 = .ok (.goto (-18), 3) := dk_167 255 238 (dk_at dksX0_canAvoid_2 16 rfl rfl)
theorem dX0_canAvoid_67 : decode cX0_canAvoid 67 = .ok (.iconst 0, 1) := dk_3 (dk_at dksX0_canAvoid_2 19 rfl rfl)
theorem dX0_canAvoid_68 : decode cX0_canAvoid 68 = .ok (.istore 4, 2) := dk_54 4 (dk_at dksX0_canAvoid_2 20 rfl rfl)
theorem dX0_canAvoid_70 : decode cX0_canAvoid 70 = .ok (.iload 4, 2) := dk_21 4 (dk_at dksX0_canAvoid_2 22 rfl rfl)
theorem dX0_canAvoid_72 : decode cX0_canAvoid 72 = .ok (.bipush 36, 2) := dk_16 36 (dk_at dksX0_canAvoid_3 0 rfl rfl)
theorem dX0_canAvoid_74 : decode cX0_canAvoid 74 = .ok (.if_icmp .ge 81, 3) := dk_162 0 81 (dk_at dksX0_canAvoid_3 2 rfl rfl)
theorem dX0_canAvoid_77 : decode cX0_canAvoid 77 = .ok (.iconst 0, 1) := dk_3 (dk_at dksX0_canAvoid_3 5 rfl rfl)
theorem dX0_canAvoid_78 : decode cX0_canAvoid 78 = .ok (.istore 5, 2) := dk_54 5 (dk_at dksX0_canAvoid_3 6 rfl rfl)
theorem dX0_canAvoid_80 : decode cX0_canAvoid 80 = .ok (.iload 5, 2) := dk_21 5 (dk_at dksX0_canAvoid_3 8 rfl rfl)
theorem dX0_canAvoid_82 : decode cX0_canAvoid 82 = .ok (.aload_n 0, 1) := dk_42 (dk_at dksX0_canAvoid_3 10 rfl rfl)
theorem dX0_canAvoid_83 : decode cX0_canAvoid 83 = .ok (.getfield 21, 3) := dk_180 0 21 (dk_at dksX0_canAvoid_3 11 rfl rfl)
theorem dX0_canAvoid_86 : decode cX0_canAvoid 86 = .ok (.getfield 133, 3) := dk_180 0 133 (dk_at dksX0_canAvoid_3 14 rfl rfl)
theorem dX0_canAvoid_89 : decode cX0_canAvoid 89 = .ok (.if_icmp .ge 60, 3) := dk_162 0 60 (dk_at dksX0_canAvoid_3 17 rfl rfl)
theorem dX0_canAvoid_92 : decode cX0_canAvoid 92 = .ok (.aload_n 0, 1) := dk_42 (dk_at dksX0_canAvoid_3 20 rfl rfl)
theorem dX0_canAvoid_93 : decode cX0_canAvoid 93 = .ok (.getfield 59, 3) := dk_180 0 59 (dk_at dksX0_canAvoid_3 21 rfl rfl)
theorem dX0_canAvoid_96 : decode cX0_canAvoid 96 = .ok (.iload 4, 2) := dk_21 4 (dk_at dksX0_canAvoid_4 0 rfl rfl)
theorem dX0_canAvoid_98 : decode cX0_canAvoid 98 = .ok (.baload, 1) := dk_51 (dk_at dksX0_canAvoid_4 2 rfl rfl)
theorem dX0_canAvoid_99 : decode cX0_canAvoid 99 = .ok (.ifCond .eq 50, 3) := dk_153 0 50 (dk_at dksX0_canAvoid_4 3 rfl rfl)
theorem dX0_canAvoid_102 : decode cX0_canAvoid 102 = .ok (.aload_n 0, 1) := dk_42 (dk_at dksX0_canAvoid_4 6 rfl rfl)
theorem dX0_canAvoid_103 : decode cX0_canAvoid 103 = .ok (.getfield 49, 3) := dk_180 0 49 (dk_at dksX0_canAvoid_4 7 rfl rfl)
theorem dX0_canAvoid_106 : decode cX0_canAvoid 106 = .ok (.bipush 8, 2) := dk_16 8 (dk_at dksX0_canAvoid_4 10 rfl rfl)
theorem dX0_canAvoid_108 : decode cX0_canAvoid 108 = .ok (.iload 4, 2) := dk_21 4 (dk_at dksX0_canAvoid_4 12 rfl rfl)
theorem dX0_canAvoid_110 : decode cX0_canAvoid 110 = .ok (.imul, 1) := dk_104 (dk_at dksX0_canAvoid_4 14 rfl rfl)
theorem dX0_canAvoid_111 : decode cX0_canAvoid 111 = .ok (.iload 5, 2) := dk_21 5 (dk_at dksX0_canAvoid_4 15 rfl rfl)
theorem dX0_canAvoid_113 : decode cX0_canAvoid 113 = .ok (.iadd, 1) := dk_96 (dk_at dksX0_canAvoid_4 17 rfl rfl)
theorem dX0_canAvoid_114 : decode cX0_canAvoid 114 = .ok (.iaload, 1) := dk_46 (dk_at dksX0_canAvoid_4 18 rfl rfl)
theorem dX0_canAvoid_115 : decode cX0_canAvoid 115 = .ok (.istore 6, 2) := dk_54 6 (dk_at dksX0_canAvoid_4 19 rfl rfl)
theorem dX0_canAvoid_117 : decode cX0_canAvoid 117 = .ok (.iload 6, 2) := dk_21 6 (dk_at dksX0_canAvoid_4 21 rfl rfl)
theorem dX0_canAvoid_119 : decode cX0_canAvoid 119 = .ok (.iconst (-1), 1) := dk_2 (dk_at dksX0_canAvoid_4 23 rfl rfl)
theorem dX0_canAvoid_120 : decode cX0_canAvoid 120 = .ok (.if_icmp .eq 23, 3) := dk_159 0 23 (dk_at dksX0_canAvoid_5 0 rfl rfl)
theorem dX0_canAvoid_123 : decode cX0_canAvoid 123 = .ok (.iload_n 2, 1) := dk_28 (dk_at dksX0_canAvoid_5 3 rfl rfl)
theorem dX0_canAvoid_124 : decode cX0_canAvoid 124 = .ok (.iload 6, 2) := dk_21 6 (dk_at dksX0_canAvoid_5 4 rfl rfl)
theorem dX0_canAvoid_126 : decode cX0_canAvoid 126 = .ok (.invokestatic 177, 3) := dk_184 0 177 (dk_at dksX0_canAvoid_5 6 rfl rfl)
theorem dX0_canAvoid_129 : decode cX0_canAvoid 129 = .ok (.invokestatic 155, 3) := dk_184 0 155 (dk_at dksX0_canAvoid_5 9 rfl rfl)
theorem dX0_canAvoid_132 : decode cX0_canAvoid 132 = .ok (.ifCond .ne 11, 3) := dk_154 0 11 (dk_at dksX0_canAvoid_5 12 rfl rfl)
theorem dX0_canAvoid_135 : decode cX0_canAvoid 135 = .ok (.aload_n 0, 1) := dk_42 (dk_at dksX0_canAvoid_5 15 rfl rfl)
theorem dX0_canAvoid_136 : decode cX0_canAvoid 136 = .ok (.getfield 53, 3) := dk_180 0 53 (dk_at dksX0_canAvoid_5 16 rfl rfl)
theorem dX0_canAvoid_139 : decode cX0_canAvoid 139 = .ok (.iload 6, 2) := dk_21 6 (dk_at dksX0_canAvoid_5 19 rfl rfl)
theorem dX0_canAvoid_141 : decode cX0_canAvoid 141 = .ok (.iconst 1, 1) := dk_4 (dk_at dksX0_canAvoid_5 21 rfl rfl)
theorem dX0_canAvoid_142 : decode cX0_canAvoid 142 = .ok (.iastore, 1) := dk_79 (dk_at dksX0_canAvoid_5 22 rfl rfl)
theorem dX0_canAvoid_143 : decode cX0_canAvoid 143 = .ok (.iinc 5 1, 3) := dk_132 5 1 (dk_at dksX0_canAvoid_6 0 rfl rfl)
theorem dX0_canAvoid_146 : decode cX0_canAvoid 146 = .ok (.goto (-66), 3) := dk_167 255 190 (dk_at dksX0_canAvoid_6 3 rfl rfl)
theorem dX0_canAvoid_149 : decode cX0_canAvoid 149 = .ok (.iinc 4 1, 3) := dk_132 4 1 (dk_at dksX0_canAvoid_6 6 rfl rfl)
theorem dX0_canAvoid_152 : decode cX0_canAvoid 152 = .ok (.goto (-82), 3) := dk_167 255 174 (dk_at dksX0_canAvoid_6 9 rfl rfl)
theorem dX0_canAvoid_155 : decode cX0_canAvoid 155 = .ok (.iconst 0, 1) := dk_3 (dk_at dksX0_canAvoid_6 12 rfl rfl)
theorem dX0_canAvoid_156 : decode cX0_canAvoid 156 = .ok (.istore 4, 2) := dk_54 4 (dk_at dksX0_canAvoid_6 13 rfl rfl)
theorem dX0_canAvoid_158 : decode cX0_canAvoid 158 = .ok (.iload 4, 2) := dk_21 4 (dk_at dksX0_canAvoid_6 15 rfl rfl)
theorem dX0_canAvoid_160 : decode cX0_canAvoid 160 = .ok (.bipush 36, 2) := dk_16 36 (dk_at dksX0_canAvoid_6 17 rfl rfl)
theorem dX0_canAvoid_162 : decode cX0_canAvoid 162 = .ok (.if_icmp .ge 32, 3) := dk_162 0 32 (dk_at dksX0_canAvoid_6 19 rfl rfl)
theorem dX0_canAvoid_165 : decode cX0_canAvoid 165 = .ok (.aload_n 0, 1) := dk_42 (dk_at dksX0_canAvoid_6 22 rfl rfl)
theorem dX0_canAvoid_166 : decode cX0_canAvoid 166 = .ok (.getfield 59, 3) := dk_180 0 59 (dk_at dksX0_canAvoid_7 0 rfl rfl)
theorem dX0_canAvoid_169 : decode cX0_canAvoid 169 = .ok (.iload 4, 2) := dk_21 4 (dk_at dksX0_canAvoid_7 3 rfl rfl)
theorem dX0_canAvoid_171 : decode cX0_canAvoid 171 = .ok (.aload_n 0, 1) := dk_42 (dk_at dksX0_canAvoid_7 5 rfl rfl)
theorem dX0_canAvoid_172 : decode cX0_canAvoid 172 = .ok (.getfield 53, 3) := dk_180 0 53 (dk_at dksX0_canAvoid_7 6 rfl rfl)
theorem dX0_canAvoid_175 : decode cX0_canAvoid 175 = .ok (.iload 4, 2) := dk_21 4 (dk_at dksX0_canAvoid_7 9 rfl rfl)
theorem dX0_canAvoid_177 : decode cX0_canAvoid 177 = .ok (.iaload, 1) := dk_46 (dk_at dksX0_canAvoid_7 11 rfl rfl)
theorem dX0_canAvoid_178 : decode cX0_canAvoid 178 = .ok (.iconst 1, 1) := dk_4 (dk_at dksX0_canAvoid_7 12 rfl rfl)
theorem dX0_canAvoid_179 : decode cX0_canAvoid 179 = .ok (.if_icmp .ne 7, 3) := dk_160 0 7 (dk_at dksX0_canAvoid_7 13 rfl rfl)
theorem dX0_canAvoid_182 : decode cX0_canAvoid 182 = .ok (.iconst 1, 1) := dk_4 (dk_at dksX0_canAvoid_7 16 rfl rfl)
theorem dX0_canAvoid_183 : decode cX0_canAvoid 183 = .ok (.goto 4, 3) := dk_167 0 4 (dk_at dksX0_canAvoid_7 17 rfl rfl)
theorem dX0_canAvoid_186 : decode cX0_canAvoid 186 = .ok (.iconst 0, 1) := dk_3 (dk_at dksX0_canAvoid_7 20 rfl rfl)
theorem dX0_canAvoid_187 : decode cX0_canAvoid 187 = .ok (.bastore, 1) := dk_84 (dk_at dksX0_canAvoid_7 21 rfl rfl)
theorem dX0_canAvoid_188 : decode cX0_canAvoid 188 = .ok (.iinc 4 1, 3) := dk_132 4 1 (dk_at dksX0_canAvoid_8 0 rfl rfl)
theorem dX0_canAvoid_191 : decode cX0_canAvoid 191 = .ok (.goto (-33), 3) := dk_167 255 223 (dk_at dksX0_canAvoid_8 3 rfl rfl)
theorem dX0_canAvoid_194 : decode cX0_canAvoid 194 = .ok (.iinc 3 1, 3) := dk_132 3 1 (dk_at dksX0_canAvoid_8 6 rfl rfl)
theorem dX0_canAvoid_197 : decode cX0_canAvoid 197 = .ok (.goto (-159), 3) := dk_167 255 97 (dk_at dksX0_canAvoid_8 9 rfl rfl)
theorem dX0_canAvoid_200 : decode cX0_canAvoid 200 = .ok (.iconst 0, 1) := dk_3 (dk_at dksX0_canAvoid_8 12 rfl rfl)
theorem dX0_canAvoid_201 : decode cX0_canAvoid 201 = .ok (.istore_n 3, 1) := dk_62 (dk_at dksX0_canAvoid_8 13 rfl rfl)
theorem dX0_canAvoid_202 : decode cX0_canAvoid 202 = .ok (.iload_n 3, 1) := dk_29 (dk_at dksX0_canAvoid_8 14 rfl rfl)
theorem dX0_canAvoid_203 : decode cX0_canAvoid 203 = .ok (.bipush 36, 2) := dk_16 36 (dk_at dksX0_canAvoid_8 15 rfl rfl)
theorem dX0_canAvoid_205 : decode cX0_canAvoid 205 = .ok (.if_icmp .ge 20, 3) := dk_162 0 20 (dk_at dksX0_canAvoid_8 17 rfl rfl)
theorem dX0_canAvoid_208 : decode cX0_canAvoid 208 = .ok (.aload_n 0, 1) := dk_42 (dk_at dksX0_canAvoid_8 20 rfl rfl)
theorem dX0_canAvoid_209 : decode cX0_canAvoid 209 = .ok (.getfield 59, 3) := dk_180 0 59 (dk_at dksX0_canAvoid_8 21 rfl rfl)
theorem dX0_canAvoid_212 : decode cX0_canAvoid 212 = .ok (.iload_n 3, 1) := dk_29 (dk_at dksX0_canAvoid_9 0 rfl rfl)
theorem dX0_canAvoid_213 : decode cX0_canAvoid 213 = .ok (.baload, 1) := dk_51 (dk_at dksX0_canAvoid_9 1 rfl rfl)
theorem dX0_canAvoid_214 : decode cX0_canAvoid 214 = .ok (.ifCond .eq 5, 3) := dk_153 0 5 (dk_at dksX0_canAvoid_9 2 rfl rfl)
theorem dX0_canAvoid_217 : decode cX0_canAvoid 217 = .ok (.iconst 1, 1) := dk_4 (dk_at dksX0_canAvoid_9 5 rfl rfl)
theorem dX0_canAvoid_218 : decode cX0_canAvoid 218 = .ok (.ireturn, 1) := dk_172 (dk_at dksX0_canAvoid_9 6 rfl rfl)
theorem dX0_canAvoid_219 : decode cX0_canAvoid 219 = .ok (.iinc 3 1, 3) := dk_132 3 1 (dk_at dksX0_canAvoid_9 7 rfl rfl)
theorem dX0_canAvoid_222 : decode cX0_canAvoid 222 = .ok (.goto (-20), 3) := dk_167 255 236 (dk_at dksX0_canAvoid_9 10 rfl rfl)
theorem dX0_canAvoid_225 : decode cX0_canAvoid 225 = .ok (.iconst 0, 1) := dk_3 (dk_at dksX0_canAvoid_9 13 rfl rfl)
theorem dX0_canAvoid_226 : decode cX0_canAvoid 226 = .ok (.ireturn, 1) := dk_172 (dk_at dksX0_canAvoid_9 14 rfl rfl)
abbrev cX0_slacks : ByteArray := prog_1_method_64_code
def yX0_slacks : MethodName := ⟨RX0, "slacks", "(II)I"⟩
def dkwX0_slacks_1 : List UInt8 := [182, 1, 65, 172]
abbrev dktX0_slacks_1 : List UInt8 := dkwX0_slacks_1 ++ []
def dkwX0_slacks_0 : List UInt8 := [42, 27, 28, 182, 1, 62, 62, 29, 153, 0, 7, 29, 167, 0, 14, 42, 42, 180, 0, 82, 27, 50, 28]
abbrev dktX0_slacks_0 : List UInt8 := dkwX0_slacks_0 ++ dktX0_slacks_1
theorem dksX0_slacks_0 : cX0_slacks.data.toList.drop 0 = dktX0_slacks_0 := by decide +kernel
theorem dksX0_slacks_1 : cX0_slacks.data.toList.drop 23 = dktX0_slacks_1 := dk_seg dksX0_slacks_0 23 rfl rfl
theorem dX0_slacks_0 : decode cX0_slacks 0 = .ok (.aload_n 0, 1) := dk_42 (dk_at dksX0_slacks_0 0 rfl rfl)
theorem dX0_slacks_1 : decode cX0_slacks 1 = .ok (.iload_n 1, 1) := dk_27 (dk_at dksX0_slacks_0 1 rfl rfl)
theorem dX0_slacks_2 : decode cX0_slacks 2 = .ok (.iload_n 2, 1) := dk_28 (dk_at dksX0_slacks_0 2 rfl rfl)
theorem dX0_slacks_3 : decode cX0_slacks 3 = .ok (.invokevirtual 318, 3) := dk_182 1 62 (dk_at dksX0_slacks_0 3 rfl rfl)
theorem dX0_slacks_6 : decode cX0_slacks 6 = .ok (.istore_n 3, 1) := dk_62 (dk_at dksX0_slacks_0 6 rfl rfl)
theorem dX0_slacks_7 : decode cX0_slacks 7 = .ok (.iload_n 3, 1) := dk_29 (dk_at dksX0_slacks_0 7 rfl rfl)
theorem dX0_slacks_8 : decode cX0_slacks 8 = .ok (.ifCond .eq 7, 3) := dk_153 0 7 (dk_at dksX0_slacks_0 8 rfl rfl)
theorem dX0_slacks_11 : decode cX0_slacks 11 = .ok (.iload_n 3, 1) := dk_29 (dk_at dksX0_slacks_0 11 rfl rfl)
theorem dX0_slacks_12 : decode cX0_slacks 12 = .ok (.goto 14, 3) := dk_167 0 14 (dk_at dksX0_slacks_0 12 rfl rfl)
theorem dX0_slacks_15 : decode cX0_slacks 15 = .ok (.aload_n 0, 1) := dk_42 (dk_at dksX0_slacks_0 15 rfl rfl)
theorem dX0_slacks_16 : decode cX0_slacks 16 = .ok (.aload_n 0, 1) := dk_42 (dk_at dksX0_slacks_0 16 rfl rfl)
theorem dX0_slacks_17 : decode cX0_slacks 17 = .ok (.getfield 82, 3) := dk_180 0 82 (dk_at dksX0_slacks_0 17 rfl rfl)
theorem dX0_slacks_20 : decode cX0_slacks 20 = .ok (.iload_n 1, 1) := dk_27 (dk_at dksX0_slacks_0 20 rfl rfl)
theorem dX0_slacks_21 : decode cX0_slacks 21 = .ok (.aaload, 1) := dk_50 (dk_at dksX0_slacks_0 21 rfl rfl)
theorem dX0_slacks_22 : decode cX0_slacks 22 = .ok (.iload_n 2, 1) := dk_28 (dk_at dksX0_slacks_0 22 rfl rfl)
theorem dX0_slacks_23 : decode cX0_slacks 23 = .ok (.invokevirtual 321, 3) := dk_182 1 65 (dk_at dksX0_slacks_1 0 rfl rfl)
theorem dX0_slacks_26 : decode cX0_slacks 26 = .ok (.ireturn, 1) := dk_172 (dk_at dksX0_slacks_1 3 rfl rfl)
abbrev cX0_tookFault : ByteArray := prog_1_method_62_code
def yX0_tookFault : MethodName := ⟨RX0, "tookFault", "(II)I"⟩
def dkwX0_tookFault_4 : List UInt8 := [172]
abbrev dktX0_tookFault_4 : List UInt8 := dkwX0_tookFault_4 ++ []
def dkwX0_tookFault_3 : List UInt8 := [132, 5, 1, 167, 255, 226, 28, 133, 9, 20, 1, 60, 184, 0, 103, 153, 0, 7, 3, 167, 0, 5, 16, 253]
abbrev dktX0_tookFault_3 : List UInt8 := dkwX0_tookFault_3 ++ dktX0_tookFault_4
def dkwX0_tookFault_2 : List UInt8 := [182, 0, 213, 162, 0, 26, 42, 25, 4, 21, 5, 182, 0, 216, 182, 0, 139, 154, 0, 6, 16, 253, 172]
abbrev dktX0_tookFault_2 : List UInt8 := dkwX0_tookFault_2 ++ dktX0_tookFault_3
def dkwX0_tookFault_1 : List UInt8 := [182, 0, 213, 133, 10, 20, 1, 42, 184, 0, 103, 154, 0, 6, 16, 252, 172, 3, 54, 5, 21, 5, 25, 4]
abbrev dktX0_tookFault_1 : List UInt8 := dkwX0_tookFault_1 ++ dktX0_tookFault_2
def dkwX0_tookFault_0 : List UInt8 := [42, 27, 182, 0, 225, 62, 29, 153, 0, 5, 29, 172, 42, 180, 0, 82, 27, 50, 58, 4, 25, 4]
abbrev dktX0_tookFault_0 : List UInt8 := dkwX0_tookFault_0 ++ dktX0_tookFault_1
theorem dksX0_tookFault_0 : cX0_tookFault.data.toList.drop 0 = dktX0_tookFault_0 := by decide +kernel
theorem dksX0_tookFault_1 : cX0_tookFault.data.toList.drop 22 = dktX0_tookFault_1 := dk_seg dksX0_tookFault_0 22 rfl rfl
theorem dksX0_tookFault_2 : cX0_tookFault.data.toList.drop 46 = dktX0_tookFault_2 := dk_seg dksX0_tookFault_1 24 rfl rfl
theorem dksX0_tookFault_3 : cX0_tookFault.data.toList.drop 69 = dktX0_tookFault_3 := dk_seg dksX0_tookFault_2 23 rfl rfl
theorem dksX0_tookFault_4 : cX0_tookFault.data.toList.drop 93 = dktX0_tookFault_4 := dk_seg dksX0_tookFault_3 24 rfl rfl
theorem dX0_tookFault_0 : decode cX0_tookFault 0 = .ok (.aload_n 0, 1) := dk_42 (dk_at dksX0_tookFault_0 0 rfl rfl)
theorem dX0_tookFault_1 : decode cX0_tookFault 1 = .ok (.iload_n 1, 1) := dk_27 (dk_at dksX0_tookFault_0 1 rfl rfl)
theorem dX0_tookFault_2 : decode cX0_tookFault 2 = .ok (.invokevirtual 225, 3) := dk_182 0 225 (dk_at dksX0_tookFault_0 2 rfl rfl)
theorem dX0_tookFault_5 : decode cX0_tookFault 5 = .ok (.istore_n 3, 1) := dk_62 (dk_at dksX0_tookFault_0 5 rfl rfl)
theorem dX0_tookFault_6 : decode cX0_tookFault 6 = .ok (.iload_n 3, 1) := dk_29 (dk_at dksX0_tookFault_0 6 rfl rfl)
theorem dX0_tookFault_7 : decode cX0_tookFault 7 = .ok (.ifCond .eq 5, 3) := dk_153 0 5 (dk_at dksX0_tookFault_0 7 rfl rfl)
theorem dX0_tookFault_10 : decode cX0_tookFault 10 = .ok (.iload_n 3, 1) := dk_29 (dk_at dksX0_tookFault_0 10 rfl rfl)
theorem dX0_tookFault_11 : decode cX0_tookFault 11 = .ok (.ireturn, 1) := dk_172 (dk_at dksX0_tookFault_0 11 rfl rfl)
theorem dX0_tookFault_12 : decode cX0_tookFault 12 = .ok (.aload_n 0, 1) := dk_42 (dk_at dksX0_tookFault_0 12 rfl rfl)
theorem dX0_tookFault_13 : decode cX0_tookFault 13 = .ok (.getfield 82, 3) := dk_180 0 82 (dk_at dksX0_tookFault_0 13 rfl rfl)
theorem dX0_tookFault_16 : decode cX0_tookFault 16 = .ok (.iload_n 1, 1) := dk_27 (dk_at dksX0_tookFault_0 16 rfl rfl)
theorem dX0_tookFault_17 : decode cX0_tookFault 17 = .ok (.aaload, 1) := dk_50 (dk_at dksX0_tookFault_0 17 rfl rfl)
theorem dX0_tookFault_18 : decode cX0_tookFault 18 = .ok (.astore 4, 2) := dk_58 4 (dk_at dksX0_tookFault_0 18 rfl rfl)
theorem dX0_tookFault_20 : decode cX0_tookFault 20 = .ok (.aload 4, 2) := dk_25 4 (dk_at dksX0_tookFault_0 20 rfl rfl)
theorem dX0_tookFault_22 : decode cX0_tookFault 22 = .ok (.invokevirtual 213, 3) := dk_182 0 213 (dk_at dksX0_tookFault_1 0 rfl rfl)
theorem dX0_tookFault_25 : decode cX0_tookFault 25 = .ok (.i2l, 1) := dk_133 (dk_at dksX0_tookFault_1 3 rfl rfl)
theorem dX0_tookFault_26 : decode cX0_tookFault 26 = .ok (.lconst 1, 1) := dk_10 (dk_at dksX0_tookFault_1 4 rfl rfl)
theorem dX0_tookFault_27 : decode cX0_tookFault 27 = .ok (.ldc2_w 298, 3) := dk_20 1 42 (dk_at dksX0_tookFault_1 5 rfl rfl)
theorem dX0_tookFault_30 : decode cX0_tookFault 30 = .ok (.invokestatic 103, 3) := dk_184 0 103 (dk_at dksX0_tookFault_1 8 rfl rfl)
theorem dX0_tookFault_33 : decode cX0_tookFault 33 = .ok (.ifCond .ne 6, 3) := dk_154 0 6 (dk_at dksX0_tookFault_1 11 rfl rfl)
theorem dX0_tookFault_36 : decode cX0_tookFault 36 = .ok (.bipush (-4), 2) := dk_16 252 (dk_at dksX0_tookFault_1 14 rfl rfl)
theorem dX0_tookFault_38 : decode cX0_tookFault 38 = .ok (.ireturn, 1) := dk_172 (dk_at dksX0_tookFault_1 16 rfl rfl)
theorem dX0_tookFault_39 : decode cX0_tookFault 39 = .ok (.iconst 0, 1) := dk_3 (dk_at dksX0_tookFault_1 17 rfl rfl)
theorem dX0_tookFault_40 : decode cX0_tookFault 40 = .ok (.istore 5, 2) := dk_54 5 (dk_at dksX0_tookFault_1 18 rfl rfl)
theorem dX0_tookFault_42 : decode cX0_tookFault 42 = .ok (.iload 5, 2) := dk_21 5 (dk_at dksX0_tookFault_1 20 rfl rfl)
theorem dX0_tookFault_44 : decode cX0_tookFault 44 = .ok (.aload 4, 2) := dk_25 4 (dk_at dksX0_tookFault_1 22 rfl rfl)
theorem dX0_tookFault_46 : decode cX0_tookFault 46 = .ok (.invokevirtual 213, 3) := dk_182 0 213 (dk_at dksX0_tookFault_2 0 rfl rfl)
theorem dX0_tookFault_49 : decode cX0_tookFault 49 = .ok (.if_icmp .ge 26, 3) := dk_162 0 26 (dk_at dksX0_tookFault_2 3 rfl rfl)
theorem dX0_tookFault_52 : decode cX0_tookFault 52 = .ok (.aload_n 0, 1) := dk_42 (dk_at dksX0_tookFault_2 6 rfl rfl)
theorem dX0_tookFault_53 : decode cX0_tookFault 53 = .ok (.aload 4, 2) := dk_25 4 (dk_at dksX0_tookFault_2 7 rfl rfl)
theorem dX0_tookFault_55 : decode cX0_tookFault 55 = .ok (.iload 5, 2) := dk_21 5 (dk_at dksX0_tookFault_2 9 rfl rfl)
theorem dX0_tookFault_57 : decode cX0_tookFault 57 = .ok (.invokevirtual 216, 3) := dk_182 0 216 (dk_at dksX0_tookFault_2 11 rfl rfl)
theorem dX0_tookFault_60 : decode cX0_tookFault 60 = .ok (.invokevirtual 139, 3) := dk_182 0 139 (dk_at dksX0_tookFault_2 14 rfl rfl)
theorem dX0_tookFault_63 : decode cX0_tookFault 63 = .ok (.ifCond .ne 6, 3) := dk_154 0 6 (dk_at dksX0_tookFault_2 17 rfl rfl)
theorem dX0_tookFault_66 : decode cX0_tookFault 66 = .ok (.bipush (-3), 2) := dk_16 253 (dk_at dksX0_tookFault_2 20 rfl rfl)
theorem dX0_tookFault_68 : decode cX0_tookFault 68 = .ok (.ireturn, 1) := dk_172 (dk_at dksX0_tookFault_2 22 rfl rfl)
theorem dX0_tookFault_69 : decode cX0_tookFault 69 = .ok (.iinc 5 1, 3) := dk_132 5 1 (dk_at dksX0_tookFault_3 0 rfl rfl)
theorem dX0_tookFault_72 : decode cX0_tookFault 72 = .ok (.goto (-30), 3) := dk_167 255 226 (dk_at dksX0_tookFault_3 3 rfl rfl)
theorem dX0_tookFault_75 : decode cX0_tookFault 75 = .ok (.iload_n 2, 1) := dk_28 (dk_at dksX0_tookFault_3 6 rfl rfl)
theorem dX0_tookFault_76 : decode cX0_tookFault 76 = .ok (.i2l, 1) := dk_133 (dk_at dksX0_tookFault_3 7 rfl rfl)
theorem dX0_tookFault_77 : decode cX0_tookFault 77 = .ok (.lconst 0, 1) := dk_9 (dk_at dksX0_tookFault_3 8 rfl rfl)
theorem dX0_tookFault_78 : decode cX0_tookFault 78 = .ok (.ldc2_w 316, 3) := dk_20 1 60 (dk_at dksX0_tookFault_3 9 rfl rfl)
theorem dX0_tookFault_81 : decode cX0_tookFault 81 = .ok (.invokestatic 103, 3) := dk_184 0 103 (dk_at dksX0_tookFault_3 12 rfl rfl)
theorem dX0_tookFault_84 : decode cX0_tookFault 84 = .ok (.ifCond .eq 7, 3) := dk_153 0 7 (dk_at dksX0_tookFault_3 15 rfl rfl)
theorem dX0_tookFault_87 : decode cX0_tookFault 87 = .ok (.iconst 0, 1) := dk_3 (dk_at dksX0_tookFault_3 18 rfl rfl)
theorem dX0_tookFault_88 : decode cX0_tookFault 88 = .ok (.goto 5, 3) := dk_167 0 5 (dk_at dksX0_tookFault_3 19 rfl rfl)
theorem dX0_tookFault_91 : decode cX0_tookFault 91 = .ok (.bipush (-3), 2) := dk_16 253 (dk_at dksX0_tookFault_3 22 rfl rfl)
theorem dX0_tookFault_93 : decode cX0_tookFault 93 = .ok (.ireturn, 1) := dk_172 (dk_at dksX0_tookFault_4 0 rfl rfl)
abbrev cX0_slacksOf : ByteArray := prog_1_method_63_code
def yX0_slacksOf : MethodName := ⟨RX0, "slacksOf", "(LBackRescue$Numbers;I)I"⟩
def dkwX0_slacksOf_5 : List UInt8 := [21, 4, 120, 167, 0, 4, 3, 128, 62, 132, 4, 1, 167, 255, 132, 29, 172]
abbrev dktX0_slacksOf_5 : List UInt8 := dkwX0_slacksOf_5 ++ []
def dkwX0_slacksOf_4 : List UInt8 := [167, 255, 197, 29, 21, 5, 153, 0, 24, 42, 180, 0, 34, 180, 0, 170, 184, 0, 9, 28, 160, 0, 10, 4]
abbrev dktX0_slacksOf_4 : List UInt8 := dkwX0_slacksOf_4 ++ dktX0_slacksOf_5
def dkwX0_slacksOf_3 : List UInt8 := [54, 5, 21, 5, 153, 0, 17, 42, 180, 0, 34, 43, 21, 6, 182, 0, 216, 136, 182, 0, 195, 132, 6, 1]
abbrev dktX0_slacksOf_3 : List UInt8 := dkwX0_slacksOf_3 ++ dktX0_slacksOf_4
def dkwX0_slacksOf_2 : List UInt8 := [153, 0, 51, 42, 180, 0, 34, 43, 21, 6, 182, 0, 216, 182, 0, 166, 154, 0, 7, 4, 167, 0, 4, 3]
abbrev dktX0_slacksOf_2 : List UInt8 := dkwX0_slacksOf_2 ++ dktX0_slacksOf_3
def dkwX0_slacksOf_1 : List UInt8 := [21, 4, 181, 0, 210, 4, 54, 5, 3, 54, 6, 21, 6, 43, 182, 0, 213, 162, 0, 56, 21, 5]
abbrev dktX0_slacksOf_1 : List UInt8 := dkwX0_slacksOf_1 ++ dktX0_slacksOf_2
def dkwX0_slacksOf_0 : List UInt8 := [3, 62, 3, 54, 4, 21, 4, 16, 10, 162, 0, 123, 42, 180, 0, 34, 42, 180, 0, 30, 182, 0, 183]
abbrev dktX0_slacksOf_0 : List UInt8 := dkwX0_slacksOf_0 ++ dktX0_slacksOf_1
theorem dksX0_slacksOf_0 : cX0_slacksOf.data.toList.drop 0 = dktX0_slacksOf_0 := by decide +kernel
theorem dksX0_slacksOf_1 : cX0_slacksOf.data.toList.drop 23 = dktX0_slacksOf_1 := dk_seg dksX0_slacksOf_0 23 rfl rfl
theorem dksX0_slacksOf_2 : cX0_slacksOf.data.toList.drop 45 = dktX0_slacksOf_2 := dk_seg dksX0_slacksOf_1 22 rfl rfl
theorem dksX0_slacksOf_3 : cX0_slacksOf.data.toList.drop 69 = dktX0_slacksOf_3 := dk_seg dksX0_slacksOf_2 24 rfl rfl
theorem dksX0_slacksOf_4 : cX0_slacksOf.data.toList.drop 93 = dktX0_slacksOf_4 := dk_seg dksX0_slacksOf_3 24 rfl rfl
theorem dksX0_slacksOf_5 : cX0_slacksOf.data.toList.drop 117 = dktX0_slacksOf_5 := dk_seg dksX0_slacksOf_4 24 rfl rfl
theorem dX0_slacksOf_0 : decode cX0_slacksOf 0 = .ok (.iconst 0, 1) := dk_3 (dk_at dksX0_slacksOf_0 0 rfl rfl)
theorem dX0_slacksOf_1 : decode cX0_slacksOf 1 = .ok (.istore_n 3, 1) := dk_62 (dk_at dksX0_slacksOf_0 1 rfl rfl)
theorem dX0_slacksOf_2 : decode cX0_slacksOf 2 = .ok (.iconst 0, 1) := dk_3 (dk_at dksX0_slacksOf_0 2 rfl rfl)
theorem dX0_slacksOf_3 : decode cX0_slacksOf 3 = .ok (.istore 4, 2) := dk_54 4 (dk_at dksX0_slacksOf_0 3 rfl rfl)
theorem dX0_slacksOf_5 : decode cX0_slacksOf 5 = .ok (.iload 4, 2) := dk_21 4 (dk_at dksX0_slacksOf_0 5 rfl rfl)
theorem dX0_slacksOf_7 : decode cX0_slacksOf 7 = .ok (.bipush 10, 2) := dk_16 10 (dk_at dksX0_slacksOf_0 7 rfl rfl)
theorem dX0_slacksOf_9 : decode cX0_slacksOf 9 = .ok (.if_icmp .ge 123, 3) := dk_162 0 123 (dk_at dksX0_slacksOf_0 9 rfl rfl)
theorem dX0_slacksOf_12 : decode cX0_slacksOf 12 = .ok (.aload_n 0, 1) := dk_42 (dk_at dksX0_slacksOf_0 12 rfl rfl)
theorem dX0_slacksOf_13 : decode cX0_slacksOf 13 = .ok (.getfield 34, 3) := dk_180 0 34 (dk_at dksX0_slacksOf_0 13 rfl rfl)
theorem dX0_slacksOf_16 : decode cX0_slacksOf 16 = .ok (.aload_n 0, 1) := dk_42 (dk_at dksX0_slacksOf_0 16 rfl rfl)
theorem dX0_slacksOf_17 : decode cX0_slacksOf 17 = .ok (.getfield 30, 3) := dk_180 0 30 (dk_at dksX0_slacksOf_0 17 rfl rfl)
theorem dX0_slacksOf_20 : decode cX0_slacksOf 20 = .ok (.invokevirtual 183, 3) := dk_182 0 183 (dk_at dksX0_slacksOf_0 20 rfl rfl)
theorem dX0_slacksOf_23 : decode cX0_slacksOf 23 = .ok (.iload 4, 2) := dk_21 4 (dk_at dksX0_slacksOf_1 0 rfl rfl)
theorem dX0_slacksOf_25 : decode cX0_slacksOf 25 = .ok (.putfield 210, 3) := dk_181 0 210 (dk_at dksX0_slacksOf_1 2 rfl rfl)
theorem dX0_slacksOf_28 : decode cX0_slacksOf 28 = .ok (.iconst 1, 1) := dk_4 (dk_at dksX0_slacksOf_1 5 rfl rfl)
theorem dX0_slacksOf_29 : decode cX0_slacksOf 29 = .ok (.istore 5, 2) := dk_54 5 (dk_at dksX0_slacksOf_1 6 rfl rfl)
theorem dX0_slacksOf_31 : decode cX0_slacksOf 31 = .ok (.iconst 0, 1) := dk_3 (dk_at dksX0_slacksOf_1 8 rfl rfl)
theorem dX0_slacksOf_32 : decode cX0_slacksOf 32 = .ok (.istore 6, 2) := dk_54 6 (dk_at dksX0_slacksOf_1 9 rfl rfl)
theorem dX0_slacksOf_34 : decode cX0_slacksOf 34 = .ok (.iload 6, 2) := dk_21 6 (dk_at dksX0_slacksOf_1 11 rfl rfl)
theorem dX0_slacksOf_36 : decode cX0_slacksOf 36 = .ok (.aload_n 1, 1) := dk_43 (dk_at dksX0_slacksOf_1 13 rfl rfl)
theorem dX0_slacksOf_37 : decode cX0_slacksOf 37 = .ok (.invokevirtual 213, 3) := dk_182 0 213 (dk_at dksX0_slacksOf_1 14 rfl rfl)
theorem dX0_slacksOf_40 : decode cX0_slacksOf 40 = .ok (.if_icmp .ge 56, 3) := dk_162 0 56 (dk_at dksX0_slacksOf_1 17 rfl rfl)
theorem dX0_slacksOf_43 : decode cX0_slacksOf 43 = .ok (.iload 5, 2) := dk_21 5 (dk_at dksX0_slacksOf_1 20 rfl rfl)
theorem dX0_slacksOf_45 : decode cX0_slacksOf 45 = .ok (.ifCond .eq 51, 3) := dk_153 0 51 (dk_at dksX0_slacksOf_2 0 rfl rfl)
theorem dX0_slacksOf_48 : decode cX0_slacksOf 48 = .ok (.aload_n 0, 1) := dk_42 (dk_at dksX0_slacksOf_2 3 rfl rfl)
theorem dX0_slacksOf_49 : decode cX0_slacksOf 49 = .ok (.getfield 34, 3) := dk_180 0 34 (dk_at dksX0_slacksOf_2 4 rfl rfl)
theorem dX0_slacksOf_52 : decode cX0_slacksOf 52 = .ok (.aload_n 1, 1) := dk_43 (dk_at dksX0_slacksOf_2 7 rfl rfl)
theorem dX0_slacksOf_53 : decode cX0_slacksOf 53 = .ok (.iload 6, 2) := dk_21 6 (dk_at dksX0_slacksOf_2 8 rfl rfl)
theorem dX0_slacksOf_55 : decode cX0_slacksOf 55 = .ok (.invokevirtual 216, 3) := dk_182 0 216 (dk_at dksX0_slacksOf_2 10 rfl rfl)
theorem dX0_slacksOf_58 : decode cX0_slacksOf 58 = .ok (.invokevirtual 166, 3) := dk_182 0 166 (dk_at dksX0_slacksOf_2 13 rfl rfl)
theorem dX0_slacksOf_61 : decode cX0_slacksOf 61 = .ok (.ifCond .ne 7, 3) := dk_154 0 7 (dk_at dksX0_slacksOf_2 16 rfl rfl)
theorem dX0_slacksOf_64 : decode cX0_slacksOf 64 = .ok (.iconst 1, 1) := dk_4 (dk_at dksX0_slacksOf_2 19 rfl rfl)
theorem dX0_slacksOf_65 : decode cX0_slacksOf 65 = .ok (.goto 4, 3) := dk_167 0 4 (dk_at dksX0_slacksOf_2 20 rfl rfl)
theorem dX0_slacksOf_68 : decode cX0_slacksOf 68 = .ok (.iconst 0, 1) := dk_3 (dk_at dksX0_slacksOf_2 23 rfl rfl)
theorem dX0_slacksOf_69 : decode cX0_slacksOf 69 = .ok (.istore 5, 2) := dk_54 5 (dk_at dksX0_slacksOf_3 0 rfl rfl)
theorem dX0_slacksOf_71 : decode cX0_slacksOf 71 = .ok (.iload 5, 2) := dk_21 5 (dk_at dksX0_slacksOf_3 2 rfl rfl)
theorem dX0_slacksOf_73 : decode cX0_slacksOf 73 = .ok (.ifCond .eq 17, 3) := dk_153 0 17 (dk_at dksX0_slacksOf_3 4 rfl rfl)
theorem dX0_slacksOf_76 : decode cX0_slacksOf 76 = .ok (.aload_n 0, 1) := dk_42 (dk_at dksX0_slacksOf_3 7 rfl rfl)
theorem dX0_slacksOf_77 : decode cX0_slacksOf 77 = .ok (.getfield 34, 3) := dk_180 0 34 (dk_at dksX0_slacksOf_3 8 rfl rfl)
theorem dX0_slacksOf_80 : decode cX0_slacksOf 80 = .ok (.aload_n 1, 1) := dk_43 (dk_at dksX0_slacksOf_3 11 rfl rfl)
theorem dX0_slacksOf_81 : decode cX0_slacksOf 81 = .ok (.iload 6, 2) := dk_21 6 (dk_at dksX0_slacksOf_3 12 rfl rfl)
theorem dX0_slacksOf_83 : decode cX0_slacksOf 83 = .ok (.invokevirtual 216, 3) := dk_182 0 216 (dk_at dksX0_slacksOf_3 14 rfl rfl)
theorem dX0_slacksOf_86 : decode cX0_slacksOf 86 = .ok (.l2i, 1) := dk_136 (dk_at dksX0_slacksOf_3 17 rfl rfl)
theorem dX0_slacksOf_87 : decode cX0_slacksOf 87 = .ok (.invokevirtual 195, 3) := dk_182 0 195 (dk_at dksX0_slacksOf_3 18 rfl rfl)
theorem dX0_slacksOf_90 : decode cX0_slacksOf 90 = .ok (.iinc 6 1, 3) := dk_132 6 1 (dk_at dksX0_slacksOf_3 21 rfl rfl)
theorem dX0_slacksOf_93 : decode cX0_slacksOf 93 = .ok (.goto (-59), 3) := dk_167 255 197 (dk_at dksX0_slacksOf_4 0 rfl rfl)
theorem dX0_slacksOf_96 : decode cX0_slacksOf 96 = .ok (.iload_n 3, 1) := dk_29 (dk_at dksX0_slacksOf_4 3 rfl rfl)
theorem dX0_slacksOf_97 : decode cX0_slacksOf 97 = .ok (.iload 5, 2) := dk_21 5 (dk_at dksX0_slacksOf_4 4 rfl rfl)
theorem dX0_slacksOf_99 : decode cX0_slacksOf 99 = .ok (.ifCond .eq 24, 3) := dk_153 0 24 (dk_at dksX0_slacksOf_4 6 rfl rfl)
theorem dX0_slacksOf_102 : decode cX0_slacksOf 102 = .ok (.aload_n 0, 1) := dk_42 (dk_at dksX0_slacksOf_4 9 rfl rfl)
theorem dX0_slacksOf_103 : decode cX0_slacksOf 103 = .ok (.getfield 34, 3) := dk_180 0 34 (dk_at dksX0_slacksOf_4 10 rfl rfl)
theorem dX0_slacksOf_106 : decode cX0_slacksOf 106 = .ok (.getfield 170, 3) := dk_180 0 170 (dk_at dksX0_slacksOf_4 13 rfl rfl)
theorem dX0_slacksOf_109 : decode cX0_slacksOf 109 = .ok (.invokestatic 9, 3) := dk_184 0 9 (dk_at dksX0_slacksOf_4 16 rfl rfl)
theorem dX0_slacksOf_112 : decode cX0_slacksOf 112 = .ok (.iload_n 2, 1) := dk_28 (dk_at dksX0_slacksOf_4 19 rfl rfl)
theorem dX0_slacksOf_113 : decode cX0_slacksOf 113 = .ok (.if_icmp .ne 10, 3) := dk_160 0 10 (dk_at dksX0_slacksOf_4 20 rfl rfl)
theorem dX0_slacksOf_116 : decode cX0_slacksOf 116 = .ok (.iconst 1, 1) := dk_4 (dk_at dksX0_slacksOf_4 23 rfl rfl)
theorem dX0_slacksOf_117 : decode cX0_slacksOf 117 = .ok (.iload 4, 2) := dk_21 4 (dk_at dksX0_slacksOf_5 0 rfl rfl)
theorem dX0_slacksOf_119 : decode cX0_slacksOf 119 = .ok (.ishl, 1) := dk_120 (dk_at dksX0_slacksOf_5 2 rfl rfl)
theorem dX0_slacksOf_120 : decode cX0_slacksOf 120 = .ok (.goto 4, 3) := dk_167 0 4 (dk_at dksX0_slacksOf_5 3 rfl rfl)
theorem dX0_slacksOf_123 : decode cX0_slacksOf 123 = .ok (.iconst 0, 1) := dk_3 (dk_at dksX0_slacksOf_5 6 rfl rfl)
theorem dX0_slacksOf_124 : decode cX0_slacksOf 124 = .ok (.ior, 1) := dk_128 (dk_at dksX0_slacksOf_5 7 rfl rfl)
theorem dX0_slacksOf_125 : decode cX0_slacksOf 125 = .ok (.istore_n 3, 1) := dk_62 (dk_at dksX0_slacksOf_5 8 rfl rfl)
theorem dX0_slacksOf_126 : decode cX0_slacksOf 126 = .ok (.iinc 4 1, 3) := dk_132 4 1 (dk_at dksX0_slacksOf_5 9 rfl rfl)
theorem dX0_slacksOf_129 : decode cX0_slacksOf 129 = .ok (.goto (-124), 3) := dk_167 255 132 (dk_at dksX0_slacksOf_5 12 rfl rfl)
theorem dX0_slacksOf_132 : decode cX0_slacksOf 132 = .ok (.iload_n 3, 1) := dk_29 (dk_at dksX0_slacksOf_5 15 rfl rfl)
theorem dX0_slacksOf_133 : decode cX0_slacksOf 133 = .ok (.ireturn, 1) := dk_172 (dk_at dksX0_slacksOf_5 16 rfl rfl)
abbrev cX0_attempt : ByteArray := prog_1_method_66_code
def yX0_attempt : MethodName := ⟨RX0, "attempt", "(II)I"⟩
def dkwX0_attempt_3 : List UInt8 := [167, 0, 11, 21, 7, 54, 5, 21, 8, 54, 6, 132, 7, 1, 167, 255, 208, 21, 5, 172]
abbrev dktX0_attempt_3 : List UInt8 := dkwX0_attempt_3 ++ []
def dkwX0_attempt_2 : List UInt8 := [21, 4, 153, 0, 37, 42, 21, 4, 21, 7, 182, 1, 72, 54, 8, 21, 8, 21, 6, 161, 0, 6]
abbrev dktX0_attempt_2 : List UInt8 := dkwX0_attempt_2 ++ dktX0_attempt_3
def dkwX0_attempt_1 : List UInt8 := [54, 4, 2, 54, 5, 18, 251, 54, 6, 3, 54, 7, 21, 7, 42, 180, 0, 21, 180, 0, 133, 162, 0, 42]
abbrev dktX0_attempt_1 : List UInt8 := dkwX0_attempt_1 ++ dktX0_attempt_2
def dkwX0_attempt_0 : List UInt8 := [42, 27, 28, 182, 1, 62, 62, 29, 153, 0, 5, 29, 172, 42, 42, 180, 0, 82, 27, 50, 28, 182, 1, 65]
abbrev dktX0_attempt_0 : List UInt8 := dkwX0_attempt_0 ++ dktX0_attempt_1
theorem dksX0_attempt_0 : cX0_attempt.data.toList.drop 0 = dktX0_attempt_0 := by decide +kernel
theorem dksX0_attempt_1 : cX0_attempt.data.toList.drop 24 = dktX0_attempt_1 := dk_seg dksX0_attempt_0 24 rfl rfl
theorem dksX0_attempt_2 : cX0_attempt.data.toList.drop 48 = dktX0_attempt_2 := dk_seg dksX0_attempt_1 24 rfl rfl
theorem dksX0_attempt_3 : cX0_attempt.data.toList.drop 70 = dktX0_attempt_3 := dk_seg dksX0_attempt_2 22 rfl rfl
theorem dX0_attempt_0 : decode cX0_attempt 0 = .ok (.aload_n 0, 1) := dk_42 (dk_at dksX0_attempt_0 0 rfl rfl)
theorem dX0_attempt_1 : decode cX0_attempt 1 = .ok (.iload_n 1, 1) := dk_27 (dk_at dksX0_attempt_0 1 rfl rfl)
theorem dX0_attempt_2 : decode cX0_attempt 2 = .ok (.iload_n 2, 1) := dk_28 (dk_at dksX0_attempt_0 2 rfl rfl)
theorem dX0_attempt_3 : decode cX0_attempt 3 = .ok (.invokevirtual 318, 3) := dk_182 1 62 (dk_at dksX0_attempt_0 3 rfl rfl)
theorem dX0_attempt_6 : decode cX0_attempt 6 = .ok (.istore_n 3, 1) := dk_62 (dk_at dksX0_attempt_0 6 rfl rfl)
theorem dX0_attempt_7 : decode cX0_attempt 7 = .ok (.iload_n 3, 1) := dk_29 (dk_at dksX0_attempt_0 7 rfl rfl)
theorem dX0_attempt_8 : decode cX0_attempt 8 = .ok (.ifCond .eq 5, 3) := dk_153 0 5 (dk_at dksX0_attempt_0 8 rfl rfl)
theorem dX0_attempt_11 : decode cX0_attempt 11 = .ok (.iload_n 3, 1) := dk_29 (dk_at dksX0_attempt_0 11 rfl rfl)
theorem dX0_attempt_12 : decode cX0_attempt 12 = .ok (.ireturn, 1) := dk_172 (dk_at dksX0_attempt_0 12 rfl rfl)
theorem dX0_attempt_13 : decode cX0_attempt 13 = .ok (.aload_n 0, 1) := dk_42 (dk_at dksX0_attempt_0 13 rfl rfl)
theorem dX0_attempt_14 : decode cX0_attempt 14 = .ok (.aload_n 0, 1) := dk_42 (dk_at dksX0_attempt_0 14 rfl rfl)
theorem dX0_attempt_15 : decode cX0_attempt 15 = .ok (.getfield 82, 3) := dk_180 0 82 (dk_at dksX0_attempt_0 15 rfl rfl)
theorem dX0_attempt_18 : decode cX0_attempt 18 = .ok (.iload_n 1, 1) := dk_27 (dk_at dksX0_attempt_0 18 rfl rfl)
theorem dX0_attempt_19 : decode cX0_attempt 19 = .ok (.aaload, 1) := dk_50 (dk_at dksX0_attempt_0 19 rfl rfl)
theorem dX0_attempt_20 : decode cX0_attempt 20 = .ok (.iload_n 2, 1) := dk_28 (dk_at dksX0_attempt_0 20 rfl rfl)
theorem dX0_attempt_21 : decode cX0_attempt 21 = .ok (.invokevirtual 321, 3) := dk_182 1 65 (dk_at dksX0_attempt_0 21 rfl rfl)
theorem dX0_attempt_24 : decode cX0_attempt 24 = .ok (.istore 4, 2) := dk_54 4 (dk_at dksX0_attempt_1 0 rfl rfl)
theorem dX0_attempt_26 : decode cX0_attempt 26 = .ok (.iconst (-1), 1) := dk_2 (dk_at dksX0_attempt_1 2 rfl rfl)
theorem dX0_attempt_27 : decode cX0_attempt 27 = .ok (.istore 5, 2) := dk_54 5 (dk_at dksX0_attempt_1 3 rfl rfl)
theorem dX0_attempt_29 : decode cX0_attempt 29 = .ok (.ldc 251, 2) := dk_18 251 (dk_at dksX0_attempt_1 5 rfl rfl)
theorem dX0_attempt_31 : decode cX0_attempt 31 = .ok (.istore 6, 2) := dk_54 6 (dk_at dksX0_attempt_1 7 rfl rfl)
theorem dX0_attempt_33 : decode cX0_attempt 33 = .ok (.iconst 0, 1) := dk_3 (dk_at dksX0_attempt_1 9 rfl rfl)
theorem dX0_attempt_34 : decode cX0_attempt 34 = .ok (.istore 7, 2) := dk_54 7 (dk_at dksX0_attempt_1 10 rfl rfl)
theorem dX0_attempt_36 : decode cX0_attempt 36 = .ok (.iload 7, 2) := dk_21 7 (dk_at dksX0_attempt_1 12 rfl rfl)
theorem dX0_attempt_38 : decode cX0_attempt 38 = .ok (.aload_n 0, 1) := dk_42 (dk_at dksX0_attempt_1 14 rfl rfl)
theorem dX0_attempt_39 : decode cX0_attempt 39 = .ok (.getfield 21, 3) := dk_180 0 21 (dk_at dksX0_attempt_1 15 rfl rfl)
theorem dX0_attempt_42 : decode cX0_attempt 42 = .ok (.getfield 133, 3) := dk_180 0 133 (dk_at dksX0_attempt_1 18 rfl rfl)
theorem dX0_attempt_45 : decode cX0_attempt 45 = .ok (.if_icmp .ge 42, 3) := dk_162 0 42 (dk_at dksX0_attempt_1 21 rfl rfl)
theorem dX0_attempt_48 : decode cX0_attempt 48 = .ok (.iload 4, 2) := dk_21 4 (dk_at dksX0_attempt_2 0 rfl rfl)
theorem dX0_attempt_50 : decode cX0_attempt 50 = .ok (.ifCond .eq 37, 3) := dk_153 0 37 (dk_at dksX0_attempt_2 2 rfl rfl)
theorem dX0_attempt_53 : decode cX0_attempt 53 = .ok (.aload_n 0, 1) := dk_42 (dk_at dksX0_attempt_2 5 rfl rfl)
theorem dX0_attempt_54 : decode cX0_attempt 54 = .ok (.iload 4, 2) := dk_21 4 (dk_at dksX0_attempt_2 6 rfl rfl)
theorem dX0_attempt_56 : decode cX0_attempt 56 = .ok (.iload 7, 2) := dk_21 7 (dk_at dksX0_attempt_2 8 rfl rfl)
theorem dX0_attempt_58 : decode cX0_attempt 58 = .ok (.invokevirtual 328, 3) := dk_182 1 72 (dk_at dksX0_attempt_2 10 rfl rfl)
theorem dX0_attempt_61 : decode cX0_attempt 61 = .ok (.istore 8, 2) := dk_54 8 (dk_at dksX0_attempt_2 13 rfl rfl)
theorem dX0_attempt_63 : decode cX0_attempt 63 = .ok (.iload 8, 2) := dk_21 8 (dk_at dksX0_attempt_2 15 rfl rfl)
theorem dX0_attempt_65 : decode cX0_attempt 65 = .ok (.iload 6, 2) := dk_21 6 (dk_at dksX0_attempt_2 17 rfl rfl)
theorem dX0_attempt_67 : decode cX0_attempt 67 = .ok (.if_icmp .lt 6, 3) := dk_161 0 6 (dk_at dksX0_attempt_2 19 rfl rfl)
theorem dX0_attempt_70 : decode cX0_attempt 70 = .ok (.goto 11, 3) := dk_167 0 11 (dk_at dksX0_attempt_3 0 rfl rfl)
theorem dX0_attempt_73 : decode cX0_attempt 73 = .ok (.iload 7, 2) := dk_21 7 (dk_at dksX0_attempt_3 3 rfl rfl)
theorem dX0_attempt_75 : decode cX0_attempt 75 = .ok (.istore 5, 2) := dk_54 5 (dk_at dksX0_attempt_3 5 rfl rfl)
theorem dX0_attempt_77 : decode cX0_attempt 77 = .ok (.iload 8, 2) := dk_21 8 (dk_at dksX0_attempt_3 7 rfl rfl)
theorem dX0_attempt_79 : decode cX0_attempt 79 = .ok (.istore 6, 2) := dk_54 6 (dk_at dksX0_attempt_3 9 rfl rfl)
theorem dX0_attempt_81 : decode cX0_attempt 81 = .ok (.iinc 7 1, 3) := dk_132 7 1 (dk_at dksX0_attempt_3 11 rfl rfl)
theorem dX0_attempt_84 : decode cX0_attempt 84 = .ok (.goto (-48), 3) := dk_167 255 208 (dk_at dksX0_attempt_3 14 rfl rfl)
theorem dX0_attempt_87 : decode cX0_attempt 87 = .ok (.iload 5, 2) := dk_21 5 (dk_at dksX0_attempt_3 17 rfl rfl)
theorem dX0_attempt_89 : decode cX0_attempt 89 = .ok (.ireturn, 1) := dk_172 (dk_at dksX0_attempt_3 19 rfl rfl)
abbrev cX0_mostAlike : ByteArray := prog_1_method_65_code
def yX0_mostAlike : MethodName := ⟨RX0, "mostAlike", "(II)I"⟩
def dkwX0_mostAlike_5 : List UInt8 := [96, 79, 29, 42, 180, 0, 70, 21, 5, 46, 184, 1, 69, 62, 132, 4, 1, 167, 255, 160, 29, 172]
abbrev dktX0_mostAlike_5 : List UInt8 := dkwX0_mostAlike_5 ++ []
def dkwX0_mostAlike_4 : List UInt8 := [167, 0, 10, 42, 180, 0, 30, 180, 0, 170, 184, 0, 9, 54, 5, 42, 180, 0, 70, 21, 5, 92, 46, 4]
abbrev dktX0_mostAlike_4 : List UInt8 := dkwX0_mostAlike_4 ++ dktX0_mostAlike_5
def dkwX0_mostAlike_3 : List UInt8 := [28, 133, 182, 0, 166, 154, 0, 21, 42, 180, 0, 34, 42, 180, 0, 30, 180, 0, 170, 28, 182, 0, 173]
abbrev dktX0_mostAlike_3 : List UInt8 := dkwX0_mostAlike_3 ++ dktX0_mostAlike_4
def dkwX0_mostAlike_2 : List UInt8 := [21, 4, 184, 0, 155, 154, 0, 6, 167, 0, 77, 42, 180, 0, 34, 21, 4, 181, 0, 210, 42, 180, 0, 34]
abbrev dktX0_mostAlike_2 : List UInt8 := dkwX0_mostAlike_2 ++ dktX0_mostAlike_3
def dkwX0_mostAlike_1 : List UInt8 := [180, 0, 34, 42, 180, 0, 30, 182, 0, 183, 87, 3, 62, 3, 54, 4, 21, 4, 16, 10, 162, 0, 95, 27]
abbrev dktX0_mostAlike_1 : List UInt8 := dkwX0_mostAlike_1 ++ dktX0_mostAlike_2
def dkwX0_mostAlike_0 : List UInt8 := [3, 62, 29, 16, 6, 162, 0, 16, 42, 180, 0, 70, 29, 3, 79, 132, 3, 1, 167, 255, 240, 42]
abbrev dktX0_mostAlike_0 : List UInt8 := dkwX0_mostAlike_0 ++ dktX0_mostAlike_1
theorem dksX0_mostAlike_0 : cX0_mostAlike.data.toList.drop 0 = dktX0_mostAlike_0 := by decide +kernel
theorem dksX0_mostAlike_1 : cX0_mostAlike.data.toList.drop 22 = dktX0_mostAlike_1 := dk_seg dksX0_mostAlike_0 22 rfl rfl
theorem dksX0_mostAlike_2 : cX0_mostAlike.data.toList.drop 46 = dktX0_mostAlike_2 := dk_seg dksX0_mostAlike_1 24 rfl rfl
theorem dksX0_mostAlike_3 : cX0_mostAlike.data.toList.drop 70 = dktX0_mostAlike_3 := dk_seg dksX0_mostAlike_2 24 rfl rfl
theorem dksX0_mostAlike_4 : cX0_mostAlike.data.toList.drop 93 = dktX0_mostAlike_4 := dk_seg dksX0_mostAlike_3 23 rfl rfl
theorem dksX0_mostAlike_5 : cX0_mostAlike.data.toList.drop 117 = dktX0_mostAlike_5 := dk_seg dksX0_mostAlike_4 24 rfl rfl
theorem dX0_mostAlike_0 : decode cX0_mostAlike 0 = .ok (.iconst 0, 1) := dk_3 (dk_at dksX0_mostAlike_0 0 rfl rfl)
theorem dX0_mostAlike_1 : decode cX0_mostAlike 1 = .ok (.istore_n 3, 1) := dk_62 (dk_at dksX0_mostAlike_0 1 rfl rfl)
theorem dX0_mostAlike_2 : decode cX0_mostAlike 2 = .ok (.iload_n 3, 1) := dk_29 (dk_at dksX0_mostAlike_0 2 rfl rfl)
theorem dX0_mostAlike_3 : decode cX0_mostAlike 3 = .ok (.bipush 6, 2) := dk_16 6 (dk_at dksX0_mostAlike_0 3 rfl rfl)
theorem dX0_mostAlike_5 : decode cX0_mostAlike 5 = .ok (.if_icmp .ge 16, 3) := dk_162 0 16 (dk_at dksX0_mostAlike_0 5 rfl rfl)
theorem dX0_mostAlike_8 : decode cX0_mostAlike 8 = .ok (.aload_n 0, 1) := dk_42 (dk_at dksX0_mostAlike_0 8 rfl rfl)
theorem dX0_mostAlike_9 : decode cX0_mostAlike 9 = .ok (.getfield 70, 3) := dk_180 0 70 (dk_at dksX0_mostAlike_0 9 rfl rfl)
theorem dX0_mostAlike_12 : decode cX0_mostAlike 12 = .ok (.iload_n 3, 1) := dk_29 (dk_at dksX0_mostAlike_0 12 rfl rfl)
theorem dX0_mostAlike_13 : decode cX0_mostAlike 13 = .ok (.iconst 0, 1) := dk_3 (dk_at dksX0_mostAlike_0 13 rfl rfl)
theorem dX0_mostAlike_14 : decode cX0_mostAlike 14 = .ok (.iastore, 1) := dk_79 (dk_at dksX0_mostAlike_0 14 rfl rfl)
theorem dX0_mostAlike_15 : decode cX0_mostAlike 15 = .ok (.iinc 3 1, 3) := dk_132 3 1 (dk_at dksX0_mostAlike_0 15 rfl rfl)
theorem dX0_mostAlike_18 : decode cX0_mostAlike 18 = .ok (.goto (-16), 3) := dk_167 255 240 (dk_at dksX0_mostAlike_0 18 rfl rfl)
theorem dX0_mostAlike_21 : decode cX0_mostAlike 21 = .ok (.aload_n 0, 1) := dk_42 (dk_at dksX0_mostAlike_0 21 rfl rfl)
theorem dX0_mostAlike_22 : decode cX0_mostAlike 22 = .ok (.getfield 34, 3) := dk_180 0 34 (dk_at dksX0_mostAlike_1 0 rfl rfl)
theorem dX0_mostAlike_25 : decode cX0_mostAlike 25 = .ok (.aload_n 0, 1) := dk_42 (dk_at dksX0_mostAlike_1 3 rfl rfl)
theorem dX0_mostAlike_26 : decode cX0_mostAlike 26 = .ok (.getfield 30, 3) := dk_180 0 30 (dk_at dksX0_mostAlike_1 4 rfl rfl)
theorem dX0_mostAlike_29 : decode cX0_mostAlike 29 = .ok (.invokevirtual 183, 3) := dk_182 0 183 (dk_at dksX0_mostAlike_1 7 rfl rfl)
theorem dX0_mostAlike_32 : decode cX0_mostAlike 32 = .ok (.pop, 1) := dk_87 (dk_at dksX0_mostAlike_1 10 rfl rfl)
theorem dX0_mostAlike_33 : decode cX0_mostAlike 33 = .ok (.iconst 0, 1) := dk_3 (dk_at dksX0_mostAlike_1 11 rfl rfl)
theorem dX0_mostAlike_34 : decode cX0_mostAlike 34 = .ok (.istore_n 3, 1) := dk_62 (dk_at dksX0_mostAlike_1 12 rfl rfl)
theorem dX0_mostAlike_35 : decode cX0_mostAlike 35 = .ok (.iconst 0, 1) := dk_3 (dk_at dksX0_mostAlike_1 13 rfl rfl)
theorem dX0_mostAlike_36 : decode cX0_mostAlike 36 = .ok (.istore 4, 2) := dk_54 4 (dk_at dksX0_mostAlike_1 14 rfl rfl)
theorem dX0_mostAlike_38 : decode cX0_mostAlike 38 = .ok (.iload 4, 2) := dk_21 4 (dk_at dksX0_mostAlike_1 16 rfl rfl)
theorem dX0_mostAlike_40 : decode cX0_mostAlike 40 = .ok (.bipush 10, 2) := dk_16 10 (dk_at dksX0_mostAlike_1 18 rfl rfl)
theorem dX0_mostAlike_42 : decode cX0_mostAlike 42 = .ok (.if_icmp .ge 95, 3) := dk_162 0 95 (dk_at dksX0_mostAlike_1 20 rfl rfl)
theorem dX0_mostAlike_45 : decode cX0_mostAlike 45 = .ok (.iload_n 1, 1) := dk_27 (dk_at dksX0_mostAlike_1 23 rfl rfl)
theorem dX0_mostAlike_46 : decode cX0_mostAlike 46 = .ok (.iload 4, 2) := dk_21 4 (dk_at dksX0_mostAlike_2 0 rfl rfl)
theorem dX0_mostAlike_48 : decode cX0_mostAlike 48 = .ok (.invokestatic 155, 3) := dk_184 0 155 (dk_at dksX0_mostAlike_2 2 rfl rfl)
theorem dX0_mostAlike_51 : decode cX0_mostAlike 51 = .ok (.ifCond .ne 6, 3) := dk_154 0 6 (dk_at dksX0_mostAlike_2 5 rfl rfl)
theorem dX0_mostAlike_54 : decode cX0_mostAlike 54 = .ok (.goto 77, 3) := dk_167 0 77 (dk_at dksX0_mostAlike_2 8 rfl rfl)
theorem dX0_mostAlike_57 : decode cX0_mostAlike 57 = .ok (.aload_n 0, 1) := dk_42 (dk_at dksX0_mostAlike_2 11 rfl rfl)
theorem dX0_mostAlike_58 : decode cX0_mostAlike 58 = .ok (.getfield 34, 3) := dk_180 0 34 (dk_at dksX0_mostAlike_2 12 rfl rfl)
theorem dX0_mostAlike_61 : decode cX0_mostAlike 61 = .ok (.iload 4, 2) := dk_21 4 (dk_at dksX0_mostAlike_2 15 rfl rfl)
theorem dX0_mostAlike_63 : decode cX0_mostAlike 63 = .ok (.putfield 210, 3) := dk_181 0 210 (dk_at dksX0_mostAlike_2 17 rfl rfl)
theorem dX0_mostAlike_66 : decode cX0_mostAlike 66 = .ok (.aload_n 0, 1) := dk_42 (dk_at dksX0_mostAlike_2 20 rfl rfl)
theorem dX0_mostAlike_67 : decode cX0_mostAlike 67 = .ok (.getfield 34, 3) := dk_180 0 34 (dk_at dksX0_mostAlike_2 21 rfl rfl)
theorem dX0_mostAlike_70 : decode cX0_mostAlike 70 = .ok (.iload_n 2, 1) := dk_28 (dk_at dksX0_mostAlike_3 0 rfl rfl)
theorem dX0_mostAlike_71 : decode cX0_mostAlike 71 = .ok (.i2l, 1) := dk_133 (dk_at dksX0_mostAlike_3 1 rfl rfl)
theorem dX0_mostAlike_72 : decode cX0_mostAlike 72 = .ok (.invokevirtual 166, 3) := dk_182 0 166 (dk_at dksX0_mostAlike_3 2 rfl rfl)
theorem dX0_mostAlike_75 : decode cX0_mostAlike 75 = .ok (.ifCond .ne 21, 3) := dk_154 0 21 (dk_at dksX0_mostAlike_3 5 rfl rfl)
theorem dX0_mostAlike_78 : decode cX0_mostAlike 78 = .ok (.aload_n 0, 1) := dk_42 (dk_at dksX0_mostAlike_3 8 rfl rfl)
theorem dX0_mostAlike_79 : decode cX0_mostAlike 79 = .ok (.getfield 34, 3) := dk_180 0 34 (dk_at dksX0_mostAlike_3 9 rfl rfl)
theorem dX0_mostAlike_82 : decode cX0_mostAlike 82 = .ok (.aload_n 0, 1) := dk_42 (dk_at dksX0_mostAlike_3 12 rfl rfl)
theorem dX0_mostAlike_83 : decode cX0_mostAlike 83 = .ok (.getfield 30, 3) := dk_180 0 30 (dk_at dksX0_mostAlike_3 13 rfl rfl)
theorem dX0_mostAlike_86 : decode cX0_mostAlike 86 = .ok (.getfield 170, 3) := dk_180 0 170 (dk_at dksX0_mostAlike_3 16 rfl rfl)
theorem dX0_mostAlike_89 : decode cX0_mostAlike 89 = .ok (.iload_n 2, 1) := dk_28 (dk_at dksX0_mostAlike_3 19 rfl rfl)
theorem dX0_mostAlike_90 : decode cX0_mostAlike 90 = .ok (.invokevirtual 173, 3) := dk_182 0 173 (dk_at dksX0_mostAlike_3 20 rfl rfl)
theorem dX0_mostAlike_93 : decode cX0_mostAlike 93 = .ok (.goto 10, 3) := dk_167 0 10 (dk_at dksX0_mostAlike_4 0 rfl rfl)
theorem dX0_mostAlike_96 : decode cX0_mostAlike 96 = .ok (.aload_n 0, 1) := dk_42 (dk_at dksX0_mostAlike_4 3 rfl rfl)
theorem dX0_mostAlike_97 : decode cX0_mostAlike 97 = .ok (.getfield 30, 3) := dk_180 0 30 (dk_at dksX0_mostAlike_4 4 rfl rfl)
theorem dX0_mostAlike_100 : decode cX0_mostAlike 100 = .ok (.getfield 170, 3) := dk_180 0 170 (dk_at dksX0_mostAlike_4 7 rfl rfl)
theorem dX0_mostAlike_103 : decode cX0_mostAlike 103 = .ok (.invokestatic 9, 3) := dk_184 0 9 (dk_at dksX0_mostAlike_4 10 rfl rfl)
theorem dX0_mostAlike_106 : decode cX0_mostAlike 106 = .ok (.istore 5, 2) := dk_54 5 (dk_at dksX0_mostAlike_4 13 rfl rfl)
theorem dX0_mostAlike_108 : decode cX0_mostAlike 108 = .ok (.aload_n 0, 1) := dk_42 (dk_at dksX0_mostAlike_4 15 rfl rfl)
theorem dX0_mostAlike_109 : decode cX0_mostAlike 109 = .ok (.getfield 70, 3) := dk_180 0 70 (dk_at dksX0_mostAlike_4 16 rfl rfl)
theorem dX0_mostAlike_112 : decode cX0_mostAlike 112 = .ok (.iload 5, 2) := dk_21 5 (dk_at dksX0_mostAlike_4 19 rfl rfl)
theorem dX0_mostAlike_114 : decode cX0_mostAlike 114 = .ok (.dup2, 1) := dk_92 (dk_at dksX0_mostAlike_4 21 rfl rfl)
theorem dX0_mostAlike_115 : decode cX0_mostAlike 115 = .ok (.iaload, 1) := dk_46 (dk_at dksX0_mostAlike_4 22 rfl rfl)
theorem dX0_mostAlike_116 : decode cX0_mostAlike 116 = .ok (.iconst 1, 1) := dk_4 (dk_at dksX0_mostAlike_4 23 rfl rfl)
theorem dX0_mostAlike_117 : decode cX0_mostAlike 117 = .ok (.iadd, 1) := dk_96 (dk_at dksX0_mostAlike_5 0 rfl rfl)
theorem dX0_mostAlike_118 : decode cX0_mostAlike 118 = .ok (.iastore, 1) := dk_79 (dk_at dksX0_mostAlike_5 1 rfl rfl)
theorem dX0_mostAlike_119 : decode cX0_mostAlike 119 = .ok (.iload_n 3, 1) := dk_29 (dk_at dksX0_mostAlike_5 2 rfl rfl)
theorem dX0_mostAlike_120 : decode cX0_mostAlike 120 = .ok (.aload_n 0, 1) := dk_42 (dk_at dksX0_mostAlike_5 3 rfl rfl)
theorem dX0_mostAlike_121 : decode cX0_mostAlike 121 = .ok (.getfield 70, 3) := dk_180 0 70 (dk_at dksX0_mostAlike_5 4 rfl rfl)
theorem dX0_mostAlike_124 : decode cX0_mostAlike 124 = .ok (.iload 5, 2) := dk_21 5 (dk_at dksX0_mostAlike_5 7 rfl rfl)
theorem dX0_mostAlike_126 : decode cX0_mostAlike 126 = .ok (.iaload, 1) := dk_46 (dk_at dksX0_mostAlike_5 9 rfl rfl)
theorem dX0_mostAlike_127 : decode cX0_mostAlike 127 = .ok (.invokestatic 325, 3) := dk_184 1 69 (dk_at dksX0_mostAlike_5 10 rfl rfl)
theorem dX0_mostAlike_130 : decode cX0_mostAlike 130 = .ok (.istore_n 3, 1) := dk_62 (dk_at dksX0_mostAlike_5 13 rfl rfl)
theorem dX0_mostAlike_131 : decode cX0_mostAlike 131 = .ok (.iinc 4 1, 3) := dk_132 4 1 (dk_at dksX0_mostAlike_5 14 rfl rfl)
theorem dX0_mostAlike_134 : decode cX0_mostAlike 134 = .ok (.goto (-96), 3) := dk_167 255 160 (dk_at dksX0_mostAlike_5 17 rfl rfl)
theorem dX0_mostAlike_137 : decode cX0_mostAlike 137 = .ok (.iload_n 3, 1) := dk_29 (dk_at dksX0_mostAlike_5 20 rfl rfl)
theorem dX0_mostAlike_138 : decode cX0_mostAlike 138 = .ok (.ireturn, 1) := dk_172 (dk_at dksX0_mostAlike_5 21 rfl rfl)
abbrev cX0_withstands : ByteArray := prog_1_method_71_code
def yX0_withstands : MethodName := ⟨RX0, "withstands", "(I)I"⟩
def dkwX0_withstands_2 : List UInt8 := [96, 51, 154, 0, 5, 28, 172, 29, 61, 132, 3, 1, 167, 255, 217, 28, 172]
abbrev dktX0_withstands_2 : List UInt8 := dkwX0_withstands_2 ++ []
def dkwX0_withstands_1 : List UInt8 := [163, 0, 39, 42, 27, 29, 182, 1, 85, 42, 180, 0, 73, 16, 36, 29, 104, 42, 180, 0, 30, 180, 0, 170]
abbrev dktX0_withstands_1 : List UInt8 := dkwX0_withstands_1 ++ dktX0_withstands_2
def dkwX0_withstands_0 : List UInt8 := [42, 27, 182, 1, 3, 154, 0, 6, 16, 254, 172, 42, 182, 1, 8, 2, 61, 3, 62, 29, 16, 9]
abbrev dktX0_withstands_0 : List UInt8 := dkwX0_withstands_0 ++ dktX0_withstands_1
theorem dksX0_withstands_0 : cX0_withstands.data.toList.drop 0 = dktX0_withstands_0 := by decide +kernel
theorem dksX0_withstands_1 : cX0_withstands.data.toList.drop 22 = dktX0_withstands_1 := dk_seg dksX0_withstands_0 22 rfl rfl
theorem dksX0_withstands_2 : cX0_withstands.data.toList.drop 46 = dktX0_withstands_2 := dk_seg dksX0_withstands_1 24 rfl rfl
theorem dX0_withstands_0 : decode cX0_withstands 0 = .ok (.aload_n 0, 1) := dk_42 (dk_at dksX0_withstands_0 0 rfl rfl)
theorem dX0_withstands_1 : decode cX0_withstands 1 = .ok (.iload_n 1, 1) := dk_27 (dk_at dksX0_withstands_0 1 rfl rfl)
theorem dX0_withstands_2 : decode cX0_withstands 2 = .ok (.invokevirtual 259, 3) := dk_182 1 3 (dk_at dksX0_withstands_0 2 rfl rfl)
theorem dX0_withstands_5 : decode cX0_withstands 5 = .ok (.ifCond .ne 6, 3) := dk_154 0 6 (dk_at dksX0_withstands_0 5 rfl rfl)
theorem dX0_withstands_8 : decode cX0_withstands 8 = .ok (.bipush (-2), 2) := dk_16 254 (dk_at dksX0_withstands_0 8 rfl rfl)
theorem dX0_withstands_10 : decode cX0_withstands 10 = .ok (.ireturn, 1) := dk_172 (dk_at dksX0_withstands_0 10 rfl rfl)
theorem dX0_withstands_11 : decode cX0_withstands 11 = .ok (.aload_n 0, 1) := dk_42 (dk_at dksX0_withstands_0 11 rfl rfl)
theorem dX0_withstands_12 : decode cX0_withstands 12 = .ok (.invokevirtual 264, 3) := dk_182 1 8 (dk_at dksX0_withstands_0 12 rfl rfl)
theorem dX0_withstands_15 : decode cX0_withstands 15 = .ok (.iconst (-1), 1) := dk_2 (dk_at dksX0_withstands_0 15 rfl rfl)
theorem dX0_withstands_16 : decode cX0_withstands 16 = .ok (.istore_n 2, 1) := dk_61 (dk_at dksX0_withstands_0 16 rfl rfl)
theorem dX0_withstands_17 : decode cX0_withstands 17 = .ok (.iconst 0, 1) := dk_3 (dk_at dksX0_withstands_0 17 rfl rfl)
theorem dX0_withstands_18 : decode cX0_withstands 18 = .ok (.istore_n 3, 1) := dk_62 (dk_at dksX0_withstands_0 18 rfl rfl)
theorem dX0_withstands_19 : decode cX0_withstands 19 = .ok (.iload_n 3, 1) := dk_29 (dk_at dksX0_withstands_0 19 rfl rfl)
theorem dX0_withstands_20 : decode cX0_withstands 20 = .ok (.bipush 9, 2) := dk_16 9 (dk_at dksX0_withstands_0 20 rfl rfl)
theorem dX0_withstands_22 : decode cX0_withstands 22 = .ok (.if_icmp .gt 39, 3) := dk_163 0 39 (dk_at dksX0_withstands_1 0 rfl rfl)
theorem dX0_withstands_25 : decode cX0_withstands 25 = .ok (.aload_n 0, 1) := dk_42 (dk_at dksX0_withstands_1 3 rfl rfl)
theorem dX0_withstands_26 : decode cX0_withstands 26 = .ok (.iload_n 1, 1) := dk_27 (dk_at dksX0_withstands_1 4 rfl rfl)
theorem dX0_withstands_27 : decode cX0_withstands 27 = .ok (.iload_n 3, 1) := dk_29 (dk_at dksX0_withstands_1 5 rfl rfl)
theorem dX0_withstands_28 : decode cX0_withstands 28 = .ok (.invokevirtual 341, 3) := dk_182 1 85 (dk_at dksX0_withstands_1 6 rfl rfl)
theorem dX0_withstands_31 : decode cX0_withstands 31 = .ok (.aload_n 0, 1) := dk_42 (dk_at dksX0_withstands_1 9 rfl rfl)
theorem dX0_withstands_32 : decode cX0_withstands 32 = .ok (.getfield 73, 3) := dk_180 0 73 (dk_at dksX0_withstands_1 10 rfl rfl)
theorem dX0_withstands_35 : decode cX0_withstands 35 = .ok (.bipush 36, 2) := dk_16 36 (dk_at dksX0_withstands_1 13 rfl rfl)
theorem dX0_withstands_37 : decode cX0_withstands 37 = .ok (.iload_n 3, 1) := dk_29 (dk_at dksX0_withstands_1 15 rfl rfl)
theorem dX0_withstands_38 : decode cX0_withstands 38 = .ok (.imul, 1) := dk_104 (dk_at dksX0_withstands_1 16 rfl rfl)
theorem dX0_withstands_39 : decode cX0_withstands 39 = .ok (.aload_n 0, 1) := dk_42 (dk_at dksX0_withstands_1 17 rfl rfl)
theorem dX0_withstands_40 : decode cX0_withstands 40 = .ok (.getfield 30, 3) := dk_180 0 30 (dk_at dksX0_withstands_1 18 rfl rfl)
theorem dX0_withstands_43 : decode cX0_withstands 43 = .ok (.getfield 170, 3) := dk_180 0 170 (dk_at dksX0_withstands_1 21 rfl rfl)
theorem dX0_withstands_46 : decode cX0_withstands 46 = .ok (.iadd, 1) := dk_96 (dk_at dksX0_withstands_2 0 rfl rfl)
theorem dX0_withstands_47 : decode cX0_withstands 47 = .ok (.baload, 1) := dk_51 (dk_at dksX0_withstands_2 1 rfl rfl)
theorem dX0_withstands_48 : decode cX0_withstands 48 = .ok (.ifCond .ne 5, 3) := dk_154 0 5 (dk_at dksX0_withstands_2 2 rfl rfl)
theorem dX0_withstands_51 : decode cX0_withstands 51 = .ok (.iload_n 2, 1) := dk_28 (dk_at dksX0_withstands_2 5 rfl rfl)
theorem dX0_withstands_52 : decode cX0_withstands 52 = .ok (.ireturn, 1) := dk_172 (dk_at dksX0_withstands_2 6 rfl rfl)
theorem dX0_withstands_53 : decode cX0_withstands 53 = .ok (.iload_n 3, 1) := dk_29 (dk_at dksX0_withstands_2 7 rfl rfl)
theorem dX0_withstands_54 : decode cX0_withstands 54 = .ok (.istore_n 2, 1) := dk_61 (dk_at dksX0_withstands_2 8 rfl rfl)
theorem dX0_withstands_55 : decode cX0_withstands 55 = .ok (.iinc 3 1, 3) := dk_132 3 1 (dk_at dksX0_withstands_2 9 rfl rfl)
theorem dX0_withstands_58 : decode cX0_withstands 58 = .ok (.goto (-39), 3) := dk_167 255 217 (dk_at dksX0_withstands_2 12 rfl rfl)
theorem dX0_withstands_61 : decode cX0_withstands 61 = .ok (.iload_n 2, 1) := dk_28 (dk_at dksX0_withstands_2 15 rfl rfl)
theorem dX0_withstands_62 : decode cX0_withstands 62 = .ok (.ireturn, 1) := dk_172 (dk_at dksX0_withstands_2 16 rfl rfl)
abbrev cX0_laysFalls : ByteArray := prog_1_method_70_code
def yX0_laysFalls : MethodName := ⟨RX0, "laysFalls", "(II)V"⟩
def dkwX0_laysFalls_3 : List UInt8 := [128, 62, 132, 4, 1, 167, 255, 236, 167, 255, 224, 177]
abbrev dktX0_laysFalls_3 : List UInt8 := dkwX0_laysFalls_3 ++ []
def dkwX0_laysFalls_2 : List UInt8 := [29, 153, 0, 34, 3, 62, 3, 54, 4, 21, 4, 16, 36, 162, 0, 19, 29, 42, 21, 4, 28, 182, 1, 82]
abbrev dktX0_laysFalls_2 : List UInt8 := dkwX0_laysFalls_2 ++ dktX0_laysFalls_3
def dkwX0_laysFalls_1 : List UInt8 := [160, 0, 14, 29, 184, 1, 26, 154, 0, 7, 4, 167, 0, 4, 3, 84, 132, 3, 1, 167, 255, 216, 4, 62]
abbrev dktX0_laysFalls_1 : List UInt8 := dkwX0_laysFalls_1 ++ dktX0_laysFalls_2
def dkwX0_laysFalls_0 : List UInt8 := [3, 62, 29, 16, 36, 162, 0, 40, 42, 180, 0, 73, 16, 36, 28, 104, 29, 96, 29, 184, 0, 177, 27]
abbrev dktX0_laysFalls_0 : List UInt8 := dkwX0_laysFalls_0 ++ dktX0_laysFalls_1
theorem dksX0_laysFalls_0 : cX0_laysFalls.data.toList.drop 0 = dktX0_laysFalls_0 := by decide +kernel
theorem dksX0_laysFalls_1 : cX0_laysFalls.data.toList.drop 23 = dktX0_laysFalls_1 := dk_seg dksX0_laysFalls_0 23 rfl rfl
theorem dksX0_laysFalls_2 : cX0_laysFalls.data.toList.drop 47 = dktX0_laysFalls_2 := dk_seg dksX0_laysFalls_1 24 rfl rfl
theorem dksX0_laysFalls_3 : cX0_laysFalls.data.toList.drop 71 = dktX0_laysFalls_3 := dk_seg dksX0_laysFalls_2 24 rfl rfl
theorem dX0_laysFalls_0 : decode cX0_laysFalls 0 = .ok (.iconst 0, 1) := dk_3 (dk_at dksX0_laysFalls_0 0 rfl rfl)
theorem dX0_laysFalls_1 : decode cX0_laysFalls 1 = .ok (.istore_n 3, 1) := dk_62 (dk_at dksX0_laysFalls_0 1 rfl rfl)
theorem dX0_laysFalls_2 : decode cX0_laysFalls 2 = .ok (.iload_n 3, 1) := dk_29 (dk_at dksX0_laysFalls_0 2 rfl rfl)
theorem dX0_laysFalls_3 : decode cX0_laysFalls 3 = .ok (.bipush 36, 2) := dk_16 36 (dk_at dksX0_laysFalls_0 3 rfl rfl)
theorem dX0_laysFalls_5 : decode cX0_laysFalls 5 = .ok (.if_icmp .ge 40, 3) := dk_162 0 40 (dk_at dksX0_laysFalls_0 5 rfl rfl)
theorem dX0_laysFalls_8 : decode cX0_laysFalls 8 = .ok (.aload_n 0, 1) := dk_42 (dk_at dksX0_laysFalls_0 8 rfl rfl)
theorem dX0_laysFalls_9 : decode cX0_laysFalls 9 = .ok (.getfield 73, 3) := dk_180 0 73 (dk_at dksX0_laysFalls_0 9 rfl rfl)
theorem dX0_laysFalls_12 : decode cX0_laysFalls 12 = .ok (.bipush 36, 2) := dk_16 36 (dk_at dksX0_laysFalls_0 12 rfl rfl)
theorem dX0_laysFalls_14 : decode cX0_laysFalls 14 = .ok (.iload_n 2, 1) := dk_28 (dk_at dksX0_laysFalls_0 14 rfl rfl)
theorem dX0_laysFalls_15 : decode cX0_laysFalls 15 = .ok (.imul, 1) := dk_104 (dk_at dksX0_laysFalls_0 15 rfl rfl)
theorem dX0_laysFalls_16 : decode cX0_laysFalls 16 = .ok (.iload_n 3, 1) := dk_29 (dk_at dksX0_laysFalls_0 16 rfl rfl)
theorem dX0_laysFalls_17 : decode cX0_laysFalls 17 = .ok (.iadd, 1) := dk_96 (dk_at dksX0_laysFalls_0 17 rfl rfl)
theorem dX0_laysFalls_18 : decode cX0_laysFalls 18 = .ok (.iload_n 3, 1) := dk_29 (dk_at dksX0_laysFalls_0 18 rfl rfl)
theorem dX0_laysFalls_19 : decode cX0_laysFalls 19 = .ok (.invokestatic 177, 3) := dk_184 0 177 (dk_at dksX0_laysFalls_0 19 rfl rfl)
theorem dX0_laysFalls_22 : decode cX0_laysFalls 22 = .ok (.iload_n 1, 1) := dk_27 (dk_at dksX0_laysFalls_0 22 rfl rfl)
theorem dX0_laysFalls_23 : decode cX0_laysFalls 23 = .ok (.if_icmp .ne 14, 3) := dk_160 0 14 (dk_at dksX0_laysFalls_1 0 rfl rfl)
theorem dX0_laysFalls_26 : decode cX0_laysFalls 26 = .ok (.iload_n 3, 1) := dk_29 (dk_at dksX0_laysFalls_1 3 rfl rfl)
theorem dX0_laysFalls_27 : decode cX0_laysFalls 27 = .ok (.invokestatic 282, 3) := dk_184 1 26 (dk_at dksX0_laysFalls_1 4 rfl rfl)
theorem dX0_laysFalls_30 : decode cX0_laysFalls 30 = .ok (.ifCond .ne 7, 3) := dk_154 0 7 (dk_at dksX0_laysFalls_1 7 rfl rfl)
theorem dX0_laysFalls_33 : decode cX0_laysFalls 33 = .ok (.iconst 1, 1) := dk_4 (dk_at dksX0_laysFalls_1 10 rfl rfl)
theorem dX0_laysFalls_34 : decode cX0_laysFalls 34 = .ok (.goto 4, 3) := dk_167 0 4 (dk_at dksX0_laysFalls_1 11 rfl rfl)
theorem dX0_laysFalls_37 : decode cX0_laysFalls 37 = .ok (.iconst 0, 1) := dk_3 (dk_at dksX0_laysFalls_1 14 rfl rfl)
theorem dX0_laysFalls_38 : decode cX0_laysFalls 38 = .ok (.bastore, 1) := dk_84 (dk_at dksX0_laysFalls_1 15 rfl rfl)
theorem dX0_laysFalls_39 : decode cX0_laysFalls 39 = .ok (.iinc 3 1, 3) := dk_132 3 1 (dk_at dksX0_laysFalls_1 16 rfl rfl)
theorem dX0_laysFalls_42 : decode cX0_laysFalls 42 = .ok (.goto (-40), 3) := dk_167 255 216 (dk_at dksX0_laysFalls_1 19 rfl rfl)
theorem dX0_laysFalls_45 : decode cX0_laysFalls 45 = .ok (.iconst 1, 1) := dk_4 (dk_at dksX0_laysFalls_1 22 rfl rfl)
theorem dX0_laysFalls_46 : decode cX0_laysFalls 46 = .ok (.istore_n 3, 1) := dk_62 (dk_at dksX0_laysFalls_1 23 rfl rfl)
theorem dX0_laysFalls_47 : decode cX0_laysFalls 47 = .ok (.iload_n 3, 1) := dk_29 (dk_at dksX0_laysFalls_2 0 rfl rfl)
theorem dX0_laysFalls_48 : decode cX0_laysFalls 48 = .ok (.ifCond .eq 34, 3) := dk_153 0 34 (dk_at dksX0_laysFalls_2 1 rfl rfl)
theorem dX0_laysFalls_51 : decode cX0_laysFalls 51 = .ok (.iconst 0, 1) := dk_3 (dk_at dksX0_laysFalls_2 4 rfl rfl)
theorem dX0_laysFalls_52 : decode cX0_laysFalls 52 = .ok (.istore_n 3, 1) := dk_62 (dk_at dksX0_laysFalls_2 5 rfl rfl)
theorem dX0_laysFalls_53 : decode cX0_laysFalls 53 = .ok (.iconst 0, 1) := dk_3 (dk_at dksX0_laysFalls_2 6 rfl rfl)
theorem dX0_laysFalls_54 : decode cX0_laysFalls 54 = .ok (.istore 4, 2) := dk_54 4 (dk_at dksX0_laysFalls_2 7 rfl rfl)
theorem dX0_laysFalls_56 : decode cX0_laysFalls 56 = .ok (.iload 4, 2) := dk_21 4 (dk_at dksX0_laysFalls_2 9 rfl rfl)
theorem dX0_laysFalls_58 : decode cX0_laysFalls 58 = .ok (.bipush 36, 2) := dk_16 36 (dk_at dksX0_laysFalls_2 11 rfl rfl)
theorem dX0_laysFalls_60 : decode cX0_laysFalls 60 = .ok (.if_icmp .ge 19, 3) := dk_162 0 19 (dk_at dksX0_laysFalls_2 13 rfl rfl)
theorem dX0_laysFalls_63 : decode cX0_laysFalls 63 = .ok (.iload_n 3, 1) := dk_29 (dk_at dksX0_laysFalls_2 16 rfl rfl)
theorem dX0_laysFalls_64 : decode cX0_laysFalls 64 = .ok (.aload_n 0, 1) := dk_42 (dk_at dksX0_laysFalls_2 17 rfl rfl)
theorem dX0_laysFalls_65 : decode cX0_laysFalls 65 = .ok (.iload 4, 2) := dk_21 4 (dk_at dksX0_laysFalls_2 18 rfl rfl)
theorem dX0_laysFalls_67 : decode cX0_laysFalls 67 = .ok (.iload_n 2, 1) := dk_28 (dk_at dksX0_laysFalls_2 20 rfl rfl)
theorem dX0_laysFalls_68 : decode cX0_laysFalls 68 = .ok (.invokevirtual 338, 3) := dk_182 1 82 (dk_at dksX0_laysFalls_2 21 rfl rfl)
theorem dX0_laysFalls_71 : decode cX0_laysFalls 71 = .ok (.ior, 1) := dk_128 (dk_at dksX0_laysFalls_3 0 rfl rfl)
theorem dX0_laysFalls_72 : decode cX0_laysFalls 72 = .ok (.istore_n 3, 1) := dk_62 (dk_at dksX0_laysFalls_3 1 rfl rfl)
theorem dX0_laysFalls_73 : decode cX0_laysFalls 73 = .ok (.iinc 4 1, 3) := dk_132 4 1 (dk_at dksX0_laysFalls_3 2 rfl rfl)
theorem dX0_laysFalls_76 : decode cX0_laysFalls 76 = .ok (.goto (-20), 3) := dk_167 255 236 (dk_at dksX0_laysFalls_3 5 rfl rfl)
theorem dX0_laysFalls_79 : decode cX0_laysFalls 79 = .ok (.goto (-32), 3) := dk_167 255 224 (dk_at dksX0_laysFalls_3 8 rfl rfl)
theorem dX0_laysFalls_82 : decode cX0_laysFalls 82 = .ok (.return_, 1) := dk_177 (dk_at dksX0_laysFalls_3 11 rfl rfl)
abbrev cX0_gains : ByteArray := prog_1_method_69_code
def yX0_gains : MethodName := ⟨RX0, "gains", "(II)Z"⟩
def dkwX0_gains_2 : List UInt8 := [16, 36, 28, 104, 27, 96, 4, 84, 4, 172, 132, 3, 1, 167, 255, 215, 3, 172]
abbrev dktX0_gains_2 : List UInt8 := dkwX0_gains_2 ++ []
def dkwX0_gains_1 : List UInt8 := [180, 0, 133, 162, 0, 36, 42, 27, 29, 28, 182, 1, 78, 154, 0, 6, 167, 0, 17, 42, 180, 0, 73]
abbrev dktX0_gains_1 : List UInt8 := dkwX0_gains_1 ++ dktX0_gains_2
def dkwX0_gains_0 : List UInt8 := [42, 180, 0, 73, 16, 36, 28, 104, 27, 96, 51, 153, 0, 5, 3, 172, 3, 62, 29, 42, 180, 0, 21]
abbrev dktX0_gains_0 : List UInt8 := dkwX0_gains_0 ++ dktX0_gains_1
theorem dksX0_gains_0 : cX0_gains.data.toList.drop 0 = dktX0_gains_0 := by decide +kernel
theorem dksX0_gains_1 : cX0_gains.data.toList.drop 23 = dktX0_gains_1 := dk_seg dksX0_gains_0 23 rfl rfl
theorem dksX0_gains_2 : cX0_gains.data.toList.drop 46 = dktX0_gains_2 := dk_seg dksX0_gains_1 23 rfl rfl
theorem dX0_gains_0 : decode cX0_gains 0 = .ok (.aload_n 0, 1) := dk_42 (dk_at dksX0_gains_0 0 rfl rfl)
theorem dX0_gains_1 : decode cX0_gains 1 = .ok (.getfield 73, 3) := dk_180 0 73 (dk_at dksX0_gains_0 1 rfl rfl)
theorem dX0_gains_4 : decode cX0_gains 4 = .ok (.bipush 36, 2) := dk_16 36 (dk_at dksX0_gains_0 4 rfl rfl)
theorem dX0_gains_6 : decode cX0_gains 6 = .ok (.iload_n 2, 1) := dk_28 (dk_at dksX0_gains_0 6 rfl rfl)
theorem dX0_gains_7 : decode cX0_gains 7 = .ok (.imul, 1) := dk_104 (dk_at dksX0_gains_0 7 rfl rfl)
theorem dX0_gains_8 : decode cX0_gains 8 = .ok (.iload_n 1, 1) := dk_27 (dk_at dksX0_gains_0 8 rfl rfl)
theorem dX0_gains_9 : decode cX0_gains 9 = .ok (.iadd, 1) := dk_96 (dk_at dksX0_gains_0 9 rfl rfl)
theorem dX0_gains_10 : decode cX0_gains 10 = .ok (.baload, 1) := dk_51 (dk_at dksX0_gains_0 10 rfl rfl)
theorem dX0_gains_11 : decode cX0_gains 11 = .ok (.ifCond .eq 5, 3) := dk_153 0 5 (dk_at dksX0_gains_0 11 rfl rfl)
theorem dX0_gains_14 : decode cX0_gains 14 = .ok (.iconst 0, 1) := dk_3 (dk_at dksX0_gains_0 14 rfl rfl)
theorem dX0_gains_15 : decode cX0_gains 15 = .ok (.ireturn, 1) := dk_172 (dk_at dksX0_gains_0 15 rfl rfl)
theorem dX0_gains_16 : decode cX0_gains 16 = .ok (.iconst 0, 1) := dk_3 (dk_at dksX0_gains_0 16 rfl rfl)
theorem dX0_gains_17 : decode cX0_gains 17 = .ok (.istore_n 3, 1) := dk_62 (dk_at dksX0_gains_0 17 rfl rfl)
theorem dX0_gains_18 : decode cX0_gains 18 = .ok (.iload_n 3, 1) := dk_29 (dk_at dksX0_gains_0 18 rfl rfl)
theorem dX0_gains_19 : decode cX0_gains 19 = .ok (.aload_n 0, 1) := dk_42 (dk_at dksX0_gains_0 19 rfl rfl)
theorem dX0_gains_20 : decode cX0_gains 20 = .ok (.getfield 21, 3) := dk_180 0 21 (dk_at dksX0_gains_0 20 rfl rfl)
theorem dX0_gains_23 : decode cX0_gains 23 = .ok (.getfield 133, 3) := dk_180 0 133 (dk_at dksX0_gains_1 0 rfl rfl)
theorem dX0_gains_26 : decode cX0_gains 26 = .ok (.if_icmp .ge 36, 3) := dk_162 0 36 (dk_at dksX0_gains_1 3 rfl rfl)
theorem dX0_gains_29 : decode cX0_gains 29 = .ok (.aload_n 0, 1) := dk_42 (dk_at dksX0_gains_1 6 rfl rfl)
theorem dX0_gains_30 : decode cX0_gains 30 = .ok (.iload_n 1, 1) := dk_27 (dk_at dksX0_gains_1 7 rfl rfl)
theorem dX0_gains_31 : decode cX0_gains 31 = .ok (.iload_n 3, 1) := dk_29 (dk_at dksX0_gains_1 8 rfl rfl)
theorem dX0_gains_32 : decode cX0_gains 32 = .ok (.iload_n 2, 1) := dk_28 (dk_at dksX0_gains_1 9 rfl rfl)
theorem dX0_gains_33 : decode cX0_gains 33 = .ok (.invokevirtual 334, 3) := dk_182 1 78 (dk_at dksX0_gains_1 10 rfl rfl)
theorem dX0_gains_36 : decode cX0_gains 36 = .ok (.ifCond .ne 6, 3) := dk_154 0 6 (dk_at dksX0_gains_1 13 rfl rfl)
theorem dX0_gains_39 : decode cX0_gains 39 = .ok (.goto 17, 3) := dk_167 0 17 (dk_at dksX0_gains_1 16 rfl rfl)
theorem dX0_gains_42 : decode cX0_gains 42 = .ok (.aload_n 0, 1) := dk_42 (dk_at dksX0_gains_1 19 rfl rfl)
theorem dX0_gains_43 : decode cX0_gains 43 = .ok (.getfield 73, 3) := dk_180 0 73 (dk_at dksX0_gains_1 20 rfl rfl)
theorem dX0_gains_46 : decode cX0_gains 46 = .ok (.bipush 36, 2) := dk_16 36 (dk_at dksX0_gains_2 0 rfl rfl)
theorem dX0_gains_48 : decode cX0_gains 48 = .ok (.iload_n 2, 1) := dk_28 (dk_at dksX0_gains_2 2 rfl rfl)
theorem dX0_gains_49 : decode cX0_gains 49 = .ok (.imul, 1) := dk_104 (dk_at dksX0_gains_2 3 rfl rfl)
theorem dX0_gains_50 : decode cX0_gains 50 = .ok (.iload_n 1, 1) := dk_27 (dk_at dksX0_gains_2 4 rfl rfl)
theorem dX0_gains_51 : decode cX0_gains 51 = .ok (.iadd, 1) := dk_96 (dk_at dksX0_gains_2 5 rfl rfl)
theorem dX0_gains_52 : decode cX0_gains 52 = .ok (.iconst 1, 1) := dk_4 (dk_at dksX0_gains_2 6 rfl rfl)
theorem dX0_gains_53 : decode cX0_gains 53 = .ok (.bastore, 1) := dk_84 (dk_at dksX0_gains_2 7 rfl rfl)
theorem dX0_gains_54 : decode cX0_gains 54 = .ok (.iconst 1, 1) := dk_4 (dk_at dksX0_gains_2 8 rfl rfl)
theorem dX0_gains_55 : decode cX0_gains 55 = .ok (.ireturn, 1) := dk_172 (dk_at dksX0_gains_2 9 rfl rfl)
theorem dX0_gains_56 : decode cX0_gains 56 = .ok (.iinc 3 1, 3) := dk_132 3 1 (dk_at dksX0_gains_2 10 rfl rfl)
theorem dX0_gains_59 : decode cX0_gains 59 = .ok (.goto (-41), 3) := dk_167 255 215 (dk_at dksX0_gains_2 13 rfl rfl)
theorem dX0_gains_62 : decode cX0_gains 62 = .ok (.iconst 0, 1) := dk_3 (dk_at dksX0_gains_2 16 rfl rfl)
theorem dX0_gains_63 : decode cX0_gains 63 = .ok (.ireturn, 1) := dk_172 (dk_at dksX0_gains_2 17 rfl rfl)
abbrev cX0_winsBy : ByteArray := prog_1_method_68_code
def yX0_winsBy : MethodName := ⟨RX0, "winsBy", "(III)Z"⟩
def dkwX0_winsBy_2 : List UInt8 := [104, 21, 4, 184, 1, 75, 96, 51, 153, 0, 7, 4, 167, 0, 4, 3, 172]
abbrev dktX0_winsBy_2 : List UInt8 := dkwX0_winsBy_2 ++ []
def dkwX0_winsBy_1 : List UInt8 := [16, 36, 29, 104, 21, 4, 96, 51, 153, 0, 31, 29, 153, 0, 23, 42, 180, 0, 73, 16, 36, 29, 4, 100]
abbrev dktX0_winsBy_1 : List UInt8 := dkwX0_winsBy_1 ++ dktX0_winsBy_2
def dkwX0_winsBy_0 : List UInt8 := [42, 180, 0, 49, 16, 8, 27, 104, 28, 96, 46, 54, 4, 21, 4, 2, 159, 0, 46, 42, 180, 0, 73]
abbrev dktX0_winsBy_0 : List UInt8 := dkwX0_winsBy_0 ++ dktX0_winsBy_1
theorem dksX0_winsBy_0 : cX0_winsBy.data.toList.drop 0 = dktX0_winsBy_0 := by decide +kernel
theorem dksX0_winsBy_1 : cX0_winsBy.data.toList.drop 23 = dktX0_winsBy_1 := dk_seg dksX0_winsBy_0 23 rfl rfl
theorem dksX0_winsBy_2 : cX0_winsBy.data.toList.drop 47 = dktX0_winsBy_2 := dk_seg dksX0_winsBy_1 24 rfl rfl
theorem dX0_winsBy_0 : decode cX0_winsBy 0 = .ok (.aload_n 0, 1) := dk_42 (dk_at dksX0_winsBy_0 0 rfl rfl)
theorem dX0_winsBy_1 : decode cX0_winsBy 1 = .ok (.getfield 49, 3) := dk_180 0 49 (dk_at dksX0_winsBy_0 1 rfl rfl)
theorem dX0_winsBy_4 : decode cX0_winsBy 4 = .ok (.bipush 8, 2) := dk_16 8 (dk_at dksX0_winsBy_0 4 rfl rfl)
theorem dX0_winsBy_6 : decode cX0_winsBy 6 = .ok (.iload_n 1, 1) := dk_27 (dk_at dksX0_winsBy_0 6 rfl rfl)
theorem dX0_winsBy_7 : decode cX0_winsBy 7 = .ok (.imul, 1) := dk_104 (dk_at dksX0_winsBy_0 7 rfl rfl)
theorem dX0_winsBy_8 : decode cX0_winsBy 8 = .ok (.iload_n 2, 1) := dk_28 (dk_at dksX0_winsBy_0 8 rfl rfl)
theorem dX0_winsBy_9 : decode cX0_winsBy 9 = .ok (.iadd, 1) := dk_96 (dk_at dksX0_winsBy_0 9 rfl rfl)
theorem dX0_winsBy_10 : decode cX0_winsBy 10 = .ok (.iaload, 1) := dk_46 (dk_at dksX0_winsBy_0 10 rfl rfl)
theorem dX0_winsBy_11 : decode cX0_winsBy 11 = .ok (.istore 4, 2) := dk_54 4 (dk_at dksX0_winsBy_0 11 rfl rfl)
theorem dX0_winsBy_13 : decode cX0_winsBy 13 = .ok (.iload 4, 2) := dk_21 4 (dk_at dksX0_winsBy_0 13 rfl rfl)
theorem dX0_winsBy_15 : decode cX0_winsBy 15 = .ok (.iconst (-1), 1) := dk_2 (dk_at dksX0_winsBy_0 15 rfl rfl)
theorem dX0_winsBy_16 : decode cX0_winsBy 16 = .ok (.if_icmp .eq 46, 3) := dk_159 0 46 (dk_at dksX0_winsBy_0 16 rfl rfl)
theorem dX0_winsBy_19 : decode cX0_winsBy 19 = .ok (.aload_n 0, 1) := dk_42 (dk_at dksX0_winsBy_0 19 rfl rfl)
theorem dX0_winsBy_20 : decode cX0_winsBy 20 = .ok (.getfield 73, 3) := dk_180 0 73 (dk_at dksX0_winsBy_0 20 rfl rfl)
theorem dX0_winsBy_23 : decode cX0_winsBy 23 = .ok (.bipush 36, 2) := dk_16 36 (dk_at dksX0_winsBy_1 0 rfl rfl)
theorem dX0_winsBy_25 : decode cX0_winsBy 25 = .ok (.iload_n 3, 1) := dk_29 (dk_at dksX0_winsBy_1 2 rfl rfl)
theorem dX0_winsBy_26 : decode cX0_winsBy 26 = .ok (.imul, 1) := dk_104 (dk_at dksX0_winsBy_1 3 rfl rfl)
theorem dX0_winsBy_27 : decode cX0_winsBy 27 = .ok (.iload 4, 2) := dk_21 4 (dk_at dksX0_winsBy_1 4 rfl rfl)
theorem dX0_winsBy_29 : decode cX0_winsBy 29 = .ok (.iadd, 1) := dk_96 (dk_at dksX0_winsBy_1 6 rfl rfl)
theorem dX0_winsBy_30 : decode cX0_winsBy 30 = .ok (.baload, 1) := dk_51 (dk_at dksX0_winsBy_1 7 rfl rfl)
theorem dX0_winsBy_31 : decode cX0_winsBy 31 = .ok (.ifCond .eq 31, 3) := dk_153 0 31 (dk_at dksX0_winsBy_1 8 rfl rfl)
theorem dX0_winsBy_34 : decode cX0_winsBy 34 = .ok (.iload_n 3, 1) := dk_29 (dk_at dksX0_winsBy_1 11 rfl rfl)
theorem dX0_winsBy_35 : decode cX0_winsBy 35 = .ok (.ifCond .eq 23, 3) := dk_153 0 23 (dk_at dksX0_winsBy_1 12 rfl rfl)
theorem dX0_winsBy_38 : decode cX0_winsBy 38 = .ok (.aload_n 0, 1) := dk_42 (dk_at dksX0_winsBy_1 15 rfl rfl)
theorem dX0_winsBy_39 : decode cX0_winsBy 39 = .ok (.getfield 73, 3) := dk_180 0 73 (dk_at dksX0_winsBy_1 16 rfl rfl)
theorem dX0_winsBy_42 : decode cX0_winsBy 42 = .ok (.bipush 36, 2) := dk_16 36 (dk_at dksX0_winsBy_1 19 rfl rfl)
theorem dX0_winsBy_44 : decode cX0_winsBy 44 = .ok (.iload_n 3, 1) := dk_29 (dk_at dksX0_winsBy_1 21 rfl rfl)
theorem dX0_winsBy_45 : decode cX0_winsBy 45 = .ok (.iconst 1, 1) := dk_4 (dk_at dksX0_winsBy_1 22 rfl rfl)
theorem dX0_winsBy_46 : decode cX0_winsBy 46 = .ok (.isub, 1) := dk_100 (dk_at dksX0_winsBy_1 23 rfl rfl)
theorem dX0_winsBy_47 : decode cX0_winsBy 47 = .ok (.imul, 1) := dk_104 (dk_at dksX0_winsBy_2 0 rfl rfl)
theorem dX0_winsBy_48 : decode cX0_winsBy 48 = .ok (.iload 4, 2) := dk_21 4 (dk_at dksX0_winsBy_2 1 rfl rfl)
theorem dX0_winsBy_50 : decode cX0_winsBy 50 = .ok (.invokestatic 331, 3) := dk_184 1 75 (dk_at dksX0_winsBy_2 3 rfl rfl)
theorem dX0_winsBy_53 : decode cX0_winsBy 53 = .ok (.iadd, 1) := dk_96 (dk_at dksX0_winsBy_2 6 rfl rfl)
theorem dX0_winsBy_54 : decode cX0_winsBy 54 = .ok (.baload, 1) := dk_51 (dk_at dksX0_winsBy_2 7 rfl rfl)
theorem dX0_winsBy_55 : decode cX0_winsBy 55 = .ok (.ifCond .eq 7, 3) := dk_153 0 7 (dk_at dksX0_winsBy_2 8 rfl rfl)
theorem dX0_winsBy_58 : decode cX0_winsBy 58 = .ok (.iconst 1, 1) := dk_4 (dk_at dksX0_winsBy_2 11 rfl rfl)
theorem dX0_winsBy_59 : decode cX0_winsBy 59 = .ok (.goto 4, 3) := dk_167 0 4 (dk_at dksX0_winsBy_2 12 rfl rfl)
theorem dX0_winsBy_62 : decode cX0_winsBy 62 = .ok (.iconst 0, 1) := dk_3 (dk_at dksX0_winsBy_2 15 rfl rfl)
theorem dX0_winsBy_63 : decode cX0_winsBy 63 = .ok (.ireturn, 1) := dk_172 (dk_at dksX0_winsBy_2 16 rfl rfl)
abbrev cX0_fallen : ByteArray := prog_1_method_67_code
def yX0_fallen : MethodName := ⟨RX0, "fallen", "(I)I"⟩
def dkwX0_fallen_0 : List UInt8 := [26, 184, 1, 26, 153, 0, 7, 26, 167, 0, 6, 26, 4, 96, 172]
abbrev dktX0_fallen_0 : List UInt8 := dkwX0_fallen_0 ++ []
theorem dksX0_fallen_0 : cX0_fallen.data.toList.drop 0 = dktX0_fallen_0 := by decide +kernel
theorem dX0_fallen_0 : decode cX0_fallen 0 = .ok (.iload_n 0, 1) := dk_26 (dk_at dksX0_fallen_0 0 rfl rfl)
theorem dX0_fallen_1 : decode cX0_fallen 1 = .ok (.invokestatic 282, 3) := dk_184 1 26 (dk_at dksX0_fallen_0 1 rfl rfl)
theorem dX0_fallen_4 : decode cX0_fallen 4 = .ok (.ifCond .eq 7, 3) := dk_153 0 7 (dk_at dksX0_fallen_0 4 rfl rfl)
theorem dX0_fallen_7 : decode cX0_fallen 7 = .ok (.iload_n 0, 1) := dk_26 (dk_at dksX0_fallen_0 7 rfl rfl)
theorem dX0_fallen_8 : decode cX0_fallen 8 = .ok (.goto 6, 3) := dk_167 0 6 (dk_at dksX0_fallen_0 8 rfl rfl)
theorem dX0_fallen_11 : decode cX0_fallen 11 = .ok (.iload_n 0, 1) := dk_26 (dk_at dksX0_fallen_0 11 rfl rfl)
theorem dX0_fallen_12 : decode cX0_fallen 12 = .ok (.iconst 1, 1) := dk_4 (dk_at dksX0_fallen_0 12 rfl rfl)
theorem dX0_fallen_13 : decode cX0_fallen 13 = .ok (.iadd, 1) := dk_96 (dk_at dksX0_fallen_0 13 rfl rfl)
theorem dX0_fallen_14 : decode cX0_fallen 14 = .ok (.ireturn, 1) := dk_172 (dk_at dksX0_fallen_0 14 rfl rfl)
abbrev cX0_chance : ByteArray := prog_1_method_78_code
def yX0_chance : MethodName := ⟨RX0, "chance", "(III)I"⟩
def dkwX0_chance_3 : List UInt8 := [172]
abbrev dktX0_chance_3 : List UInt8 := dkwX0_chance_3 ++ []
def dkwX0_chance_2 : List UInt8 := [184, 1, 101, 54, 5, 29, 154, 0, 11, 21, 4, 21, 5, 108, 167, 0, 10, 28, 184, 1, 92, 21, 5, 108]
abbrev dktX0_chance_2 : List UInt8 := dkwX0_chance_2 ++ dktX0_chance_3
def dkwX0_chance_1 : List UInt8 := [184, 1, 106, 154, 0, 6, 16, 253, 172, 42, 27, 28, 182, 1, 109, 54, 4, 28, 184, 1, 92, 21, 4]
abbrev dktX0_chance_1 : List UInt8 := dkwX0_chance_1 ++ dktX0_chance_2
def dkwX0_chance_0 : List UInt8 := [42, 27, 182, 1, 3, 153, 0, 13, 29, 133, 9, 10, 184, 0, 103, 154, 0, 6, 16, 254, 172, 28]
abbrev dktX0_chance_0 : List UInt8 := dkwX0_chance_0 ++ dktX0_chance_1
theorem dksX0_chance_0 : cX0_chance.data.toList.drop 0 = dktX0_chance_0 := by decide +kernel
theorem dksX0_chance_1 : cX0_chance.data.toList.drop 22 = dktX0_chance_1 := dk_seg dksX0_chance_0 22 rfl rfl
theorem dksX0_chance_2 : cX0_chance.data.toList.drop 45 = dktX0_chance_2 := dk_seg dksX0_chance_1 23 rfl rfl
theorem dksX0_chance_3 : cX0_chance.data.toList.drop 69 = dktX0_chance_3 := dk_seg dksX0_chance_2 24 rfl rfl
theorem dX0_chance_0 : decode cX0_chance 0 = .ok (.aload_n 0, 1) := dk_42 (dk_at dksX0_chance_0 0 rfl rfl)
theorem dX0_chance_1 : decode cX0_chance 1 = .ok (.iload_n 1, 1) := dk_27 (dk_at dksX0_chance_0 1 rfl rfl)
theorem dX0_chance_2 : decode cX0_chance 2 = .ok (.invokevirtual 259, 3) := dk_182 1 3 (dk_at dksX0_chance_0 2 rfl rfl)
theorem dX0_chance_5 : decode cX0_chance 5 = .ok (.ifCond .eq 13, 3) := dk_153 0 13 (dk_at dksX0_chance_0 5 rfl rfl)
theorem dX0_chance_8 : decode cX0_chance 8 = .ok (.iload_n 3, 1) := dk_29 (dk_at dksX0_chance_0 8 rfl rfl)
theorem dX0_chance_9 : decode cX0_chance 9 = .ok (.i2l, 1) := dk_133 (dk_at dksX0_chance_0 9 rfl rfl)
theorem dX0_chance_10 : decode cX0_chance 10 = .ok (.lconst 0, 1) := dk_9 (dk_at dksX0_chance_0 10 rfl rfl)
theorem dX0_chance_11 : decode cX0_chance 11 = .ok (.lconst 1, 1) := dk_10 (dk_at dksX0_chance_0 11 rfl rfl)
theorem dX0_chance_12 : decode cX0_chance 12 = .ok (.invokestatic 103, 3) := dk_184 0 103 (dk_at dksX0_chance_0 12 rfl rfl)
theorem dX0_chance_15 : decode cX0_chance 15 = .ok (.ifCond .ne 6, 3) := dk_154 0 6 (dk_at dksX0_chance_0 15 rfl rfl)
theorem dX0_chance_18 : decode cX0_chance 18 = .ok (.bipush (-2), 2) := dk_16 254 (dk_at dksX0_chance_0 18 rfl rfl)
theorem dX0_chance_20 : decode cX0_chance 20 = .ok (.ireturn, 1) := dk_172 (dk_at dksX0_chance_0 20 rfl rfl)
theorem dX0_chance_21 : decode cX0_chance 21 = .ok (.iload_n 2, 1) := dk_28 (dk_at dksX0_chance_0 21 rfl rfl)
theorem dX0_chance_22 : decode cX0_chance 22 = .ok (.invokestatic 362, 3) := dk_184 1 106 (dk_at dksX0_chance_1 0 rfl rfl)
theorem dX0_chance_25 : decode cX0_chance 25 = .ok (.ifCond .ne 6, 3) := dk_154 0 6 (dk_at dksX0_chance_1 3 rfl rfl)
theorem dX0_chance_28 : decode cX0_chance 28 = .ok (.bipush (-3), 2) := dk_16 253 (dk_at dksX0_chance_1 6 rfl rfl)
theorem dX0_chance_30 : decode cX0_chance 30 = .ok (.ireturn, 1) := dk_172 (dk_at dksX0_chance_1 8 rfl rfl)
theorem dX0_chance_31 : decode cX0_chance 31 = .ok (.aload_n 0, 1) := dk_42 (dk_at dksX0_chance_1 9 rfl rfl)
theorem dX0_chance_32 : decode cX0_chance 32 = .ok (.iload_n 1, 1) := dk_27 (dk_at dksX0_chance_1 10 rfl rfl)
theorem dX0_chance_33 : decode cX0_chance 33 = .ok (.iload_n 2, 1) := dk_28 (dk_at dksX0_chance_1 11 rfl rfl)
theorem dX0_chance_34 : decode cX0_chance 34 = .ok (.invokevirtual 365, 3) := dk_182 1 109 (dk_at dksX0_chance_1 12 rfl rfl)
theorem dX0_chance_37 : decode cX0_chance 37 = .ok (.istore 4, 2) := dk_54 4 (dk_at dksX0_chance_1 15 rfl rfl)
theorem dX0_chance_39 : decode cX0_chance 39 = .ok (.iload_n 2, 1) := dk_28 (dk_at dksX0_chance_1 17 rfl rfl)
theorem dX0_chance_40 : decode cX0_chance 40 = .ok (.invokestatic 348, 3) := dk_184 1 92 (dk_at dksX0_chance_1 18 rfl rfl)
theorem dX0_chance_43 : decode cX0_chance 43 = .ok (.iload 4, 2) := dk_21 4 (dk_at dksX0_chance_1 21 rfl rfl)
theorem dX0_chance_45 : decode cX0_chance 45 = .ok (.invokestatic 357, 3) := dk_184 1 101 (dk_at dksX0_chance_2 0 rfl rfl)
theorem dX0_chance_48 : decode cX0_chance 48 = .ok (.istore 5, 2) := dk_54 5 (dk_at dksX0_chance_2 3 rfl rfl)
theorem dX0_chance_50 : decode cX0_chance 50 = .ok (.iload_n 3, 1) := dk_29 (dk_at dksX0_chance_2 5 rfl rfl)
theorem dX0_chance_51 : decode cX0_chance 51 = .ok (.ifCond .ne 11, 3) := dk_154 0 11 (dk_at dksX0_chance_2 6 rfl rfl)
theorem dX0_chance_54 : decode cX0_chance 54 = .ok (.iload 4, 2) := dk_21 4 (dk_at dksX0_chance_2 9 rfl rfl)
theorem dX0_chance_56 : decode cX0_chance 56 = .ok (.iload 5, 2) := dk_21 5 (dk_at dksX0_chance_2 11 rfl rfl)
theorem dX0_chance_58 : decode cX0_chance 58 = .ok (.idiv, 1) := dk_108 (dk_at dksX0_chance_2 13 rfl rfl)
theorem dX0_chance_59 : decode cX0_chance 59 = .ok (.goto 10, 3) := dk_167 0 10 (dk_at dksX0_chance_2 14 rfl rfl)
theorem dX0_chance_62 : decode cX0_chance 62 = .ok (.iload_n 2, 1) := dk_28 (dk_at dksX0_chance_2 17 rfl rfl)
theorem dX0_chance_63 : decode cX0_chance 63 = .ok (.invokestatic 348, 3) := dk_184 1 92 (dk_at dksX0_chance_2 18 rfl rfl)
theorem dX0_chance_66 : decode cX0_chance 66 = .ok (.iload 5, 2) := dk_21 5 (dk_at dksX0_chance_2 21 rfl rfl)
theorem dX0_chance_68 : decode cX0_chance 68 = .ok (.idiv, 1) := dk_108 (dk_at dksX0_chance_2 23 rfl rfl)
theorem dX0_chance_69 : decode cX0_chance 69 = .ok (.ireturn, 1) := dk_172 (dk_at dksX0_chance_3 0 rfl rfl)
abbrev cX0_isSoon : ByteArray := prog_1_method_77_code
def yX0_isSoon : MethodName := ⟨RX0, "isSoon", "(I)Z"⟩
def dkwX0_isSoon_0 : List UInt8 := [26, 133, 9, 20, 1, 104, 184, 0, 103, 172]
abbrev dktX0_isSoon_0 : List UInt8 := dkwX0_isSoon_0 ++ []
theorem dksX0_isSoon_0 : cX0_isSoon.data.toList.drop 0 = dktX0_isSoon_0 := by decide +kernel
theorem dX0_isSoon_0 : decode cX0_isSoon 0 = .ok (.iload_n 0, 1) := dk_26 (dk_at dksX0_isSoon_0 0 rfl rfl)
theorem dX0_isSoon_1 : decode cX0_isSoon 1 = .ok (.i2l, 1) := dk_133 (dk_at dksX0_isSoon_0 1 rfl rfl)
theorem dX0_isSoon_2 : decode cX0_isSoon 2 = .ok (.lconst 0, 1) := dk_9 (dk_at dksX0_isSoon_0 2 rfl rfl)
theorem dX0_isSoon_3 : decode cX0_isSoon 3 = .ok (.ldc2_w 360, 3) := dk_20 1 104 (dk_at dksX0_isSoon_0 3 rfl rfl)
theorem dX0_isSoon_6 : decode cX0_isSoon 6 = .ok (.invokestatic 103, 3) := dk_184 0 103 (dk_at dksX0_isSoon_0 6 rfl rfl)
theorem dX0_isSoon_9 : decode cX0_isSoon 9 = .ok (.ireturn, 1) := dk_172 (dk_at dksX0_isSoon_0 9 rfl rfl)
abbrev cX0_laysChances : ByteArray := prog_1_method_75_code
def yX0_laysChances : MethodName := ⟨RX0, "laysChances", "(II)I"⟩
def dkwX0_laysChances_3 : List UInt8 := [96, 46, 172]
abbrev dktX0_laysChances_3 : List UInt8 := dkwX0_laysChances_3 ++ []
def dkwX0_laysChances_2 : List UInt8 := [167, 255, 226, 132, 3, 1, 167, 255, 212, 42, 180, 0, 76, 16, 36, 28, 104, 42, 180, 0, 30, 180, 0, 170]
abbrev dktX0_laysChances_2 : List UInt8 := dkwX0_laysChances_2 ++ dktX0_laysChances_3
def dkwX0_laysChances_1 : List UInt8 := [180, 0, 76, 16, 36, 29, 104, 21, 4, 96, 42, 27, 21, 4, 29, 182, 1, 98, 79, 132, 4, 1]
abbrev dktX0_laysChances_1 : List UInt8 := dkwX0_laysChances_1 ++ dktX0_laysChances_2
def dkwX0_laysChances_0 : List UInt8 := [42, 182, 1, 8, 3, 62, 29, 28, 163, 0, 45, 3, 54, 4, 21, 4, 16, 36, 162, 0, 29, 42]
abbrev dktX0_laysChances_0 : List UInt8 := dkwX0_laysChances_0 ++ dktX0_laysChances_1
theorem dksX0_laysChances_0 : cX0_laysChances.data.toList.drop 0 = dktX0_laysChances_0 := by decide +kernel
theorem dksX0_laysChances_1 : cX0_laysChances.data.toList.drop 22 = dktX0_laysChances_1 := dk_seg dksX0_laysChances_0 22 rfl rfl
theorem dksX0_laysChances_2 : cX0_laysChances.data.toList.drop 44 = dktX0_laysChances_2 := dk_seg dksX0_laysChances_1 22 rfl rfl
theorem dksX0_laysChances_3 : cX0_laysChances.data.toList.drop 68 = dktX0_laysChances_3 := dk_seg dksX0_laysChances_2 24 rfl rfl
theorem dX0_laysChances_0 : decode cX0_laysChances 0 = .ok (.aload_n 0, 1) := dk_42 (dk_at dksX0_laysChances_0 0 rfl rfl)
theorem dX0_laysChances_1 : decode cX0_laysChances 1 = .ok (.invokevirtual 264, 3) := dk_182 1 8 (dk_at dksX0_laysChances_0 1 rfl rfl)
theorem dX0_laysChances_4 : decode cX0_laysChances 4 = .ok (.iconst 0, 1) := dk_3 (dk_at dksX0_laysChances_0 4 rfl rfl)
theorem dX0_laysChances_5 : decode cX0_laysChances 5 = .ok (.istore_n 3, 1) := dk_62 (dk_at dksX0_laysChances_0 5 rfl rfl)
theorem dX0_laysChances_6 : decode cX0_laysChances 6 = .ok (.iload_n 3, 1) := dk_29 (dk_at dksX0_laysChances_0 6 rfl rfl)
theorem dX0_laysChances_7 : decode cX0_laysChances 7 = .ok (.iload_n 2, 1) := dk_28 (dk_at dksX0_laysChances_0 7 rfl rfl)
theorem dX0_laysChances_8 : decode cX0_laysChances 8 = .ok (.if_icmp .gt 45, 3) := dk_163 0 45 (dk_at dksX0_laysChances_0 8 rfl rfl)
theorem dX0_laysChances_11 : decode cX0_laysChances 11 = .ok (.iconst 0, 1) := dk_3 (dk_at dksX0_laysChances_0 11 rfl rfl)
theorem dX0_laysChances_12 : decode cX0_laysChances 12 = .ok (.istore 4, 2) := dk_54 4 (dk_at dksX0_laysChances_0 12 rfl rfl)
theorem dX0_laysChances_14 : decode cX0_laysChances 14 = .ok (.iload 4, 2) := dk_21 4 (dk_at dksX0_laysChances_0 14 rfl rfl)
theorem dX0_laysChances_16 : decode cX0_laysChances 16 = .ok (.bipush 36, 2) := dk_16 36 (dk_at dksX0_laysChances_0 16 rfl rfl)
theorem dX0_laysChances_18 : decode cX0_laysChances 18 = .ok (.if_icmp .ge 29, 3) := dk_162 0 29 (dk_at dksX0_laysChances_0 18 rfl rfl)
theorem dX0_laysChances_21 : decode cX0_laysChances 21 = .ok (.aload_n 0, 1) := dk_42 (dk_at dksX0_laysChances_0 21 rfl rfl)
theorem dX0_laysChances_22 : decode cX0_laysChances 22 = .ok (.getfield 76, 3) := dk_180 0 76 (dk_at dksX0_laysChances_1 0 rfl rfl)
theorem dX0_laysChances_25 : decode cX0_laysChances 25 = .ok (.bipush 36, 2) := dk_16 36 (dk_at dksX0_laysChances_1 3 rfl rfl)
theorem dX0_laysChances_27 : decode cX0_laysChances 27 = .ok (.iload_n 3, 1) := dk_29 (dk_at dksX0_laysChances_1 5 rfl rfl)
theorem dX0_laysChances_28 : decode cX0_laysChances 28 = .ok (.imul, 1) := dk_104 (dk_at dksX0_laysChances_1 6 rfl rfl)
theorem dX0_laysChances_29 : decode cX0_laysChances 29 = .ok (.iload 4, 2) := dk_21 4 (dk_at dksX0_laysChances_1 7 rfl rfl)
theorem dX0_laysChances_31 : decode cX0_laysChances 31 = .ok (.iadd, 1) := dk_96 (dk_at dksX0_laysChances_1 9 rfl rfl)
theorem dX0_laysChances_32 : decode cX0_laysChances 32 = .ok (.aload_n 0, 1) := dk_42 (dk_at dksX0_laysChances_1 10 rfl rfl)
theorem dX0_laysChances_33 : decode cX0_laysChances 33 = .ok (.iload_n 1, 1) := dk_27 (dk_at dksX0_laysChances_1 11 rfl rfl)
theorem dX0_laysChances_34 : decode cX0_laysChances 34 = .ok (.iload 4, 2) := dk_21 4 (dk_at dksX0_laysChances_1 12 rfl rfl)
theorem dX0_laysChances_36 : decode cX0_laysChances 36 = .ok (.iload_n 3, 1) := dk_29 (dk_at dksX0_laysChances_1 14 rfl rfl)
theorem dX0_laysChances_37 : decode cX0_laysChances 37 = .ok (.invokevirtual 354, 3) := dk_182 1 98 (dk_at dksX0_laysChances_1 15 rfl rfl)
theorem dX0_laysChances_40 : decode cX0_laysChances 40 = .ok (.iastore, 1) := dk_79 (dk_at dksX0_laysChances_1 18 rfl rfl)
theorem dX0_laysChances_41 : decode cX0_laysChances 41 = .ok (.iinc 4 1, 3) := dk_132 4 1 (dk_at dksX0_laysChances_1 19 rfl rfl)
theorem dX0_laysChances_44 : decode cX0_laysChances 44 = .ok (.goto (-30), 3) := dk_167 255 226 (dk_at dksX0_laysChances_2 0 rfl rfl)
theorem dX0_laysChances_47 : decode cX0_laysChances 47 = .ok (.iinc 3 1, 3) := dk_132 3 1 (dk_at dksX0_laysChances_2 3 rfl rfl)
theorem dX0_laysChances_50 : decode cX0_laysChances 50 = .ok (.goto (-44), 3) := dk_167 255 212 (dk_at dksX0_laysChances_2 6 rfl rfl)
theorem dX0_laysChances_53 : decode cX0_laysChances 53 = .ok (.aload_n 0, 1) := dk_42 (dk_at dksX0_laysChances_2 9 rfl rfl)
theorem dX0_laysChances_54 : decode cX0_laysChances 54 = .ok (.getfield 76, 3) := dk_180 0 76 (dk_at dksX0_laysChances_2 10 rfl rfl)
theorem dX0_laysChances_57 : decode cX0_laysChances 57 = .ok (.bipush 36, 2) := dk_16 36 (dk_at dksX0_laysChances_2 13 rfl rfl)
theorem dX0_laysChances_59 : decode cX0_laysChances 59 = .ok (.iload_n 2, 1) := dk_28 (dk_at dksX0_laysChances_2 15 rfl rfl)
theorem dX0_laysChances_60 : decode cX0_laysChances 60 = .ok (.imul, 1) := dk_104 (dk_at dksX0_laysChances_2 16 rfl rfl)
theorem dX0_laysChances_61 : decode cX0_laysChances 61 = .ok (.aload_n 0, 1) := dk_42 (dk_at dksX0_laysChances_2 17 rfl rfl)
theorem dX0_laysChances_62 : decode cX0_laysChances 62 = .ok (.getfield 30, 3) := dk_180 0 30 (dk_at dksX0_laysChances_2 18 rfl rfl)
theorem dX0_laysChances_65 : decode cX0_laysChances 65 = .ok (.getfield 170, 3) := dk_180 0 170 (dk_at dksX0_laysChances_2 21 rfl rfl)
theorem dX0_laysChances_68 : decode cX0_laysChances 68 = .ok (.iadd, 1) := dk_96 (dk_at dksX0_laysChances_3 0 rfl rfl)
theorem dX0_laysChances_69 : decode cX0_laysChances 69 = .ok (.iaload, 1) := dk_46 (dk_at dksX0_laysChances_3 1 rfl rfl)
theorem dX0_laysChances_70 : decode cX0_laysChances 70 = .ok (.ireturn, 1) := dk_172 (dk_at dksX0_laysChances_3 2 rfl rfl)
abbrev cX0_chanceFrom : ByteArray := prog_1_method_74_code
def yX0_chanceFrom : MethodName := ⟨RX0, "chanceFrom", "(III)I"⟩
def dkwX0_chanceFrom_2 : List UInt8 := [28, 29, 21, 5, 182, 1, 95, 184, 1, 69, 54, 4, 132, 5, 1, 167, 255, 222, 21, 4, 172]
abbrev dktX0_chanceFrom_2 : List UInt8 := dkwX0_chanceFrom_2 ++ []
def dkwX0_chanceFrom_1 : List UInt8 := [54, 4, 3, 54, 5, 21, 5, 42, 180, 0, 21, 180, 0, 133, 162, 0, 28, 29, 158, 0, 24, 21, 4, 42]
abbrev dktX0_chanceFrom_1 : List UInt8 := dkwX0_chanceFrom_1 ++ dktX0_chanceFrom_2
def dkwX0_chanceFrom_0 : List UInt8 := [28, 184, 1, 26, 153, 0, 5, 3, 172, 28, 184, 0, 177, 27, 160, 0, 8, 29, 184, 1, 92, 172, 3]
abbrev dktX0_chanceFrom_0 : List UInt8 := dkwX0_chanceFrom_0 ++ dktX0_chanceFrom_1
theorem dksX0_chanceFrom_0 : cX0_chanceFrom.data.toList.drop 0 = dktX0_chanceFrom_0 := by decide +kernel
theorem dksX0_chanceFrom_1 : cX0_chanceFrom.data.toList.drop 23 = dktX0_chanceFrom_1 := dk_seg dksX0_chanceFrom_0 23 rfl rfl
theorem dksX0_chanceFrom_2 : cX0_chanceFrom.data.toList.drop 47 = dktX0_chanceFrom_2 := dk_seg dksX0_chanceFrom_1 24 rfl rfl
theorem dX0_chanceFrom_0 : decode cX0_chanceFrom 0 = .ok (.iload_n 2, 1) := dk_28 (dk_at dksX0_chanceFrom_0 0 rfl rfl)
theorem dX0_chanceFrom_1 : decode cX0_chanceFrom 1 = .ok (.invokestatic 282, 3) := dk_184 1 26 (dk_at dksX0_chanceFrom_0 1 rfl rfl)
theorem dX0_chanceFrom_4 : decode cX0_chanceFrom 4 = .ok (.ifCond .eq 5, 3) := dk_153 0 5 (dk_at dksX0_chanceFrom_0 4 rfl rfl)
theorem dX0_chanceFrom_7 : decode cX0_chanceFrom 7 = .ok (.iconst 0, 1) := dk_3 (dk_at dksX0_chanceFrom_0 7 rfl rfl)
theorem dX0_chanceFrom_8 : decode cX0_chanceFrom 8 = .ok (.ireturn, 1) := dk_172 (dk_at dksX0_chanceFrom_0 8 rfl rfl)
theorem dX0_chanceFrom_9 : decode cX0_chanceFrom 9 = .ok (.iload_n 2, 1) := dk_28 (dk_at dksX0_chanceFrom_0 9 rfl rfl)
theorem dX0_chanceFrom_10 : decode cX0_chanceFrom 10 = .ok (.invokestatic 177, 3) := dk_184 0 177 (dk_at dksX0_chanceFrom_0 10 rfl rfl)
theorem dX0_chanceFrom_13 : decode cX0_chanceFrom 13 = .ok (.iload_n 1, 1) := dk_27 (dk_at dksX0_chanceFrom_0 13 rfl rfl)
theorem dX0_chanceFrom_14 : decode cX0_chanceFrom 14 = .ok (.if_icmp .ne 8, 3) := dk_160 0 8 (dk_at dksX0_chanceFrom_0 14 rfl rfl)
theorem dX0_chanceFrom_17 : decode cX0_chanceFrom 17 = .ok (.iload_n 3, 1) := dk_29 (dk_at dksX0_chanceFrom_0 17 rfl rfl)
theorem dX0_chanceFrom_18 : decode cX0_chanceFrom 18 = .ok (.invokestatic 348, 3) := dk_184 1 92 (dk_at dksX0_chanceFrom_0 18 rfl rfl)
theorem dX0_chanceFrom_21 : decode cX0_chanceFrom 21 = .ok (.ireturn, 1) := dk_172 (dk_at dksX0_chanceFrom_0 21 rfl rfl)
theorem dX0_chanceFrom_22 : decode cX0_chanceFrom 22 = .ok (.iconst 0, 1) := dk_3 (dk_at dksX0_chanceFrom_0 22 rfl rfl)
theorem dX0_chanceFrom_23 : decode cX0_chanceFrom 23 = .ok (.istore 4, 2) := dk_54 4 (dk_at dksX0_chanceFrom_1 0 rfl rfl)
theorem dX0_chanceFrom_25 : decode cX0_chanceFrom 25 = .ok (.iconst 0, 1) := dk_3 (dk_at dksX0_chanceFrom_1 2 rfl rfl)
theorem dX0_chanceFrom_26 : decode cX0_chanceFrom 26 = .ok (.istore 5, 2) := dk_54 5 (dk_at dksX0_chanceFrom_1 3 rfl rfl)
theorem dX0_chanceFrom_28 : decode cX0_chanceFrom 28 = .ok (.iload 5, 2) := dk_21 5 (dk_at dksX0_chanceFrom_1 5 rfl rfl)
theorem dX0_chanceFrom_30 : decode cX0_chanceFrom 30 = .ok (.aload_n 0, 1) := dk_42 (dk_at dksX0_chanceFrom_1 7 rfl rfl)
theorem dX0_chanceFrom_31 : decode cX0_chanceFrom 31 = .ok (.getfield 21, 3) := dk_180 0 21 (dk_at dksX0_chanceFrom_1 8 rfl rfl)
theorem dX0_chanceFrom_34 : decode cX0_chanceFrom 34 = .ok (.getfield 133, 3) := dk_180 0 133 (dk_at dksX0_chanceFrom_1 11 rfl rfl)
theorem dX0_chanceFrom_37 : decode cX0_chanceFrom 37 = .ok (.if_icmp .ge 28, 3) := dk_162 0 28 (dk_at dksX0_chanceFrom_1 14 rfl rfl)
theorem dX0_chanceFrom_40 : decode cX0_chanceFrom 40 = .ok (.iload_n 3, 1) := dk_29 (dk_at dksX0_chanceFrom_1 17 rfl rfl)
theorem dX0_chanceFrom_41 : decode cX0_chanceFrom 41 = .ok (.ifCond .le 24, 3) := dk_158 0 24 (dk_at dksX0_chanceFrom_1 18 rfl rfl)
theorem dX0_chanceFrom_44 : decode cX0_chanceFrom 44 = .ok (.iload 4, 2) := dk_21 4 (dk_at dksX0_chanceFrom_1 21 rfl rfl)
theorem dX0_chanceFrom_46 : decode cX0_chanceFrom 46 = .ok (.aload_n 0, 1) := dk_42 (dk_at dksX0_chanceFrom_1 23 rfl rfl)
theorem dX0_chanceFrom_47 : decode cX0_chanceFrom 47 = .ok (.iload_n 2, 1) := dk_28 (dk_at dksX0_chanceFrom_2 0 rfl rfl)
theorem dX0_chanceFrom_48 : decode cX0_chanceFrom 48 = .ok (.iload_n 3, 1) := dk_29 (dk_at dksX0_chanceFrom_2 1 rfl rfl)
theorem dX0_chanceFrom_49 : decode cX0_chanceFrom 49 = .ok (.iload 5, 2) := dk_21 5 (dk_at dksX0_chanceFrom_2 2 rfl rfl)
theorem dX0_chanceFrom_51 : decode cX0_chanceFrom 51 = .ok (.invokevirtual 351, 3) := dk_182 1 95 (dk_at dksX0_chanceFrom_2 4 rfl rfl)
theorem dX0_chanceFrom_54 : decode cX0_chanceFrom 54 = .ok (.invokestatic 325, 3) := dk_184 1 69 (dk_at dksX0_chanceFrom_2 7 rfl rfl)
theorem dX0_chanceFrom_57 : decode cX0_chanceFrom 57 = .ok (.istore 4, 2) := dk_54 4 (dk_at dksX0_chanceFrom_2 10 rfl rfl)
theorem dX0_chanceFrom_59 : decode cX0_chanceFrom 59 = .ok (.iinc 5 1, 3) := dk_132 5 1 (dk_at dksX0_chanceFrom_2 12 rfl rfl)
theorem dX0_chanceFrom_62 : decode cX0_chanceFrom 62 = .ok (.goto (-34), 3) := dk_167 255 222 (dk_at dksX0_chanceFrom_2 15 rfl rfl)
theorem dX0_chanceFrom_65 : decode cX0_chanceFrom 65 = .ok (.iload 4, 2) := dk_21 4 (dk_at dksX0_chanceFrom_2 18 rfl rfl)
theorem dX0_chanceFrom_67 : decode cX0_chanceFrom 67 = .ok (.ireturn, 1) := dk_172 (dk_at dksX0_chanceFrom_2 20 rfl rfl)
abbrev cX0_tens : ByteArray := prog_1_method_72_code
def yX0_tens : MethodName := ⟨RX0, "tens", "(I)I"⟩
def dkwX0_tens_0 : List UInt8 := [4, 60, 3, 61, 28, 26, 162, 0, 14, 27, 16, 10, 104, 60, 132, 2, 1, 167, 255, 243, 27, 172]
abbrev dktX0_tens_0 : List UInt8 := dkwX0_tens_0 ++ []
theorem dksX0_tens_0 : cX0_tens.data.toList.drop 0 = dktX0_tens_0 := by decide +kernel
theorem dX0_tens_0 : decode cX0_tens 0 = .ok (.iconst 1, 1) := dk_4 (dk_at dksX0_tens_0 0 rfl rfl)
theorem dX0_tens_1 : decode cX0_tens 1 = .ok (.istore_n 1, 1) := dk_60 (dk_at dksX0_tens_0 1 rfl rfl)
theorem dX0_tens_2 : decode cX0_tens 2 = .ok (.iconst 0, 1) := dk_3 (dk_at dksX0_tens_0 2 rfl rfl)
theorem dX0_tens_3 : decode cX0_tens 3 = .ok (.istore_n 2, 1) := dk_61 (dk_at dksX0_tens_0 3 rfl rfl)
theorem dX0_tens_4 : decode cX0_tens 4 = .ok (.iload_n 2, 1) := dk_28 (dk_at dksX0_tens_0 4 rfl rfl)
theorem dX0_tens_5 : decode cX0_tens 5 = .ok (.iload_n 0, 1) := dk_26 (dk_at dksX0_tens_0 5 rfl rfl)
theorem dX0_tens_6 : decode cX0_tens 6 = .ok (.if_icmp .ge 14, 3) := dk_162 0 14 (dk_at dksX0_tens_0 6 rfl rfl)
theorem dX0_tens_9 : decode cX0_tens 9 = .ok (.iload_n 1, 1) := dk_27 (dk_at dksX0_tens_0 9 rfl rfl)
theorem dX0_tens_10 : decode cX0_tens 10 = .ok (.bipush 10, 2) := dk_16 10 (dk_at dksX0_tens_0 10 rfl rfl)
theorem dX0_tens_12 : decode cX0_tens 12 = .ok (.imul, 1) := dk_104 (dk_at dksX0_tens_0 12 rfl rfl)
theorem dX0_tens_13 : decode cX0_tens 13 = .ok (.istore_n 1, 1) := dk_60 (dk_at dksX0_tens_0 13 rfl rfl)
theorem dX0_tens_14 : decode cX0_tens 14 = .ok (.iinc 2 1, 3) := dk_132 2 1 (dk_at dksX0_tens_0 14 rfl rfl)
theorem dX0_tens_17 : decode cX0_tens 17 = .ok (.goto (-13), 3) := dk_167 255 243 (dk_at dksX0_tens_0 17 rfl rfl)
theorem dX0_tens_20 : decode cX0_tens 20 = .ok (.iload_n 1, 1) := dk_27 (dk_at dksX0_tens_0 20 rfl rfl)
theorem dX0_tens_21 : decode cX0_tens 21 = .ok (.ireturn, 1) := dk_172 (dk_at dksX0_tens_0 21 rfl rfl)
abbrev cX0_chanceBy : ByteArray := prog_1_method_73_code
def yX0_chanceBy : MethodName := ⟨RX0, "chanceBy", "(III)I"⟩
def dkwX0_chanceBy_3 : List UInt8 := [46, 104, 96, 172]
abbrev dktX0_chanceBy_3 : List UInt8 := dkwX0_chanceBy_3 ++ []
def dkwX0_chanceBy_2 : List UInt8 := [104, 42, 180, 0, 21, 180, 1, 89, 42, 180, 0, 76, 16, 36, 28, 4, 100, 104, 21, 4, 184, 1, 75, 96]
abbrev dktX0_chanceBy_2 : List UInt8 := dkwX0_chanceBy_2 ++ dktX0_chanceBy_3
def dkwX0_chanceBy_1 : List UInt8 := [16, 10, 42, 180, 0, 21, 180, 1, 89, 100, 42, 180, 0, 76, 16, 36, 28, 4, 100, 104, 21, 4, 96, 46]
abbrev dktX0_chanceBy_1 : List UInt8 := dkwX0_chanceBy_1 ++ dktX0_chanceBy_2
def dkwX0_chanceBy_0 : List UInt8 := [42, 180, 0, 49, 16, 8, 27, 104, 29, 96, 46, 54, 4, 21, 4, 2, 160, 0, 7, 3, 167, 0, 54]
abbrev dktX0_chanceBy_0 : List UInt8 := dkwX0_chanceBy_0 ++ dktX0_chanceBy_1
theorem dksX0_chanceBy_0 : cX0_chanceBy.data.toList.drop 0 = dktX0_chanceBy_0 := by decide +kernel
theorem dksX0_chanceBy_1 : cX0_chanceBy.data.toList.drop 23 = dktX0_chanceBy_1 := dk_seg dksX0_chanceBy_0 23 rfl rfl
theorem dksX0_chanceBy_2 : cX0_chanceBy.data.toList.drop 47 = dktX0_chanceBy_2 := dk_seg dksX0_chanceBy_1 24 rfl rfl
theorem dksX0_chanceBy_3 : cX0_chanceBy.data.toList.drop 71 = dktX0_chanceBy_3 := dk_seg dksX0_chanceBy_2 24 rfl rfl
theorem dX0_chanceBy_0 : decode cX0_chanceBy 0 = .ok (.aload_n 0, 1) := dk_42 (dk_at dksX0_chanceBy_0 0 rfl rfl)
theorem dX0_chanceBy_1 : decode cX0_chanceBy 1 = .ok (.getfield 49, 3) := dk_180 0 49 (dk_at dksX0_chanceBy_0 1 rfl rfl)
theorem dX0_chanceBy_4 : decode cX0_chanceBy 4 = .ok (.bipush 8, 2) := dk_16 8 (dk_at dksX0_chanceBy_0 4 rfl rfl)
theorem dX0_chanceBy_6 : decode cX0_chanceBy 6 = .ok (.iload_n 1, 1) := dk_27 (dk_at dksX0_chanceBy_0 6 rfl rfl)
theorem dX0_chanceBy_7 : decode cX0_chanceBy 7 = .ok (.imul, 1) := dk_104 (dk_at dksX0_chanceBy_0 7 rfl rfl)
theorem dX0_chanceBy_8 : decode cX0_chanceBy 8 = .ok (.iload_n 3, 1) := dk_29 (dk_at dksX0_chanceBy_0 8 rfl rfl)
theorem dX0_chanceBy_9 : decode cX0_chanceBy 9 = .ok (.iadd, 1) := dk_96 (dk_at dksX0_chanceBy_0 9 rfl rfl)
theorem dX0_chanceBy_10 : decode cX0_chanceBy 10 = .ok (.iaload, 1) := dk_46 (dk_at dksX0_chanceBy_0 10 rfl rfl)
theorem dX0_chanceBy_11 : decode cX0_chanceBy 11 = .ok (.istore 4, 2) := dk_54 4 (dk_at dksX0_chanceBy_0 11 rfl rfl)
theorem dX0_chanceBy_13 : decode cX0_chanceBy 13 = .ok (.iload 4, 2) := dk_21 4 (dk_at dksX0_chanceBy_0 13 rfl rfl)
theorem dX0_chanceBy_15 : decode cX0_chanceBy 15 = .ok (.iconst (-1), 1) := dk_2 (dk_at dksX0_chanceBy_0 15 rfl rfl)
theorem dX0_chanceBy_16 : decode cX0_chanceBy 16 = .ok (.if_icmp .ne 7, 3) := dk_160 0 7 (dk_at dksX0_chanceBy_0 16 rfl rfl)
theorem dX0_chanceBy_19 : decode cX0_chanceBy 19 = .ok (.iconst 0, 1) := dk_3 (dk_at dksX0_chanceBy_0 19 rfl rfl)
theorem dX0_chanceBy_20 : decode cX0_chanceBy 20 = .ok (.goto 54, 3) := dk_167 0 54 (dk_at dksX0_chanceBy_0 20 rfl rfl)
theorem dX0_chanceBy_23 : decode cX0_chanceBy 23 = .ok (.bipush 10, 2) := dk_16 10 (dk_at dksX0_chanceBy_1 0 rfl rfl)
theorem dX0_chanceBy_25 : decode cX0_chanceBy 25 = .ok (.aload_n 0, 1) := dk_42 (dk_at dksX0_chanceBy_1 2 rfl rfl)
theorem dX0_chanceBy_26 : decode cX0_chanceBy 26 = .ok (.getfield 21, 3) := dk_180 0 21 (dk_at dksX0_chanceBy_1 3 rfl rfl)
theorem dX0_chanceBy_29 : decode cX0_chanceBy 29 = .ok (.getfield 345, 3) := dk_180 1 89 (dk_at dksX0_chanceBy_1 6 rfl rfl)
theorem dX0_chanceBy_32 : decode cX0_chanceBy 32 = .ok (.isub, 1) := dk_100 (dk_at dksX0_chanceBy_1 9 rfl rfl)
theorem dX0_chanceBy_33 : decode cX0_chanceBy 33 = .ok (.aload_n 0, 1) := dk_42 (dk_at dksX0_chanceBy_1 10 rfl rfl)
theorem dX0_chanceBy_34 : decode cX0_chanceBy 34 = .ok (.getfield 76, 3) := dk_180 0 76 (dk_at dksX0_chanceBy_1 11 rfl rfl)
theorem dX0_chanceBy_37 : decode cX0_chanceBy 37 = .ok (.bipush 36, 2) := dk_16 36 (dk_at dksX0_chanceBy_1 14 rfl rfl)
theorem dX0_chanceBy_39 : decode cX0_chanceBy 39 = .ok (.iload_n 2, 1) := dk_28 (dk_at dksX0_chanceBy_1 16 rfl rfl)
theorem dX0_chanceBy_40 : decode cX0_chanceBy 40 = .ok (.iconst 1, 1) := dk_4 (dk_at dksX0_chanceBy_1 17 rfl rfl)
theorem dX0_chanceBy_41 : decode cX0_chanceBy 41 = .ok (.isub, 1) := dk_100 (dk_at dksX0_chanceBy_1 18 rfl rfl)
theorem dX0_chanceBy_42 : decode cX0_chanceBy 42 = .ok (.imul, 1) := dk_104 (dk_at dksX0_chanceBy_1 19 rfl rfl)
theorem dX0_chanceBy_43 : decode cX0_chanceBy 43 = .ok (.iload 4, 2) := dk_21 4 (dk_at dksX0_chanceBy_1 20 rfl rfl)
theorem dX0_chanceBy_45 : decode cX0_chanceBy 45 = .ok (.iadd, 1) := dk_96 (dk_at dksX0_chanceBy_1 22 rfl rfl)
theorem dX0_chanceBy_46 : decode cX0_chanceBy 46 = .ok (.iaload, 1) := dk_46 (dk_at dksX0_chanceBy_1 23 rfl rfl)
theorem dX0_chanceBy_47 : decode cX0_chanceBy 47 = .ok (.imul, 1) := dk_104 (dk_at dksX0_chanceBy_2 0 rfl rfl)
theorem dX0_chanceBy_48 : decode cX0_chanceBy 48 = .ok (.aload_n 0, 1) := dk_42 (dk_at dksX0_chanceBy_2 1 rfl rfl)
theorem dX0_chanceBy_49 : decode cX0_chanceBy 49 = .ok (.getfield 21, 3) := dk_180 0 21 (dk_at dksX0_chanceBy_2 2 rfl rfl)
theorem dX0_chanceBy_52 : decode cX0_chanceBy 52 = .ok (.getfield 345, 3) := dk_180 1 89 (dk_at dksX0_chanceBy_2 5 rfl rfl)
theorem dX0_chanceBy_55 : decode cX0_chanceBy 55 = .ok (.aload_n 0, 1) := dk_42 (dk_at dksX0_chanceBy_2 8 rfl rfl)
theorem dX0_chanceBy_56 : decode cX0_chanceBy 56 = .ok (.getfield 76, 3) := dk_180 0 76 (dk_at dksX0_chanceBy_2 9 rfl rfl)
theorem dX0_chanceBy_59 : decode cX0_chanceBy 59 = .ok (.bipush 36, 2) := dk_16 36 (dk_at dksX0_chanceBy_2 12 rfl rfl)
theorem dX0_chanceBy_61 : decode cX0_chanceBy 61 = .ok (.iload_n 2, 1) := dk_28 (dk_at dksX0_chanceBy_2 14 rfl rfl)
theorem dX0_chanceBy_62 : decode cX0_chanceBy 62 = .ok (.iconst 1, 1) := dk_4 (dk_at dksX0_chanceBy_2 15 rfl rfl)
theorem dX0_chanceBy_63 : decode cX0_chanceBy 63 = .ok (.isub, 1) := dk_100 (dk_at dksX0_chanceBy_2 16 rfl rfl)
theorem dX0_chanceBy_64 : decode cX0_chanceBy 64 = .ok (.imul, 1) := dk_104 (dk_at dksX0_chanceBy_2 17 rfl rfl)
theorem dX0_chanceBy_65 : decode cX0_chanceBy 65 = .ok (.iload 4, 2) := dk_21 4 (dk_at dksX0_chanceBy_2 18 rfl rfl)
theorem dX0_chanceBy_67 : decode cX0_chanceBy 67 = .ok (.invokestatic 331, 3) := dk_184 1 75 (dk_at dksX0_chanceBy_2 20 rfl rfl)
theorem dX0_chanceBy_70 : decode cX0_chanceBy 70 = .ok (.iadd, 1) := dk_96 (dk_at dksX0_chanceBy_2 23 rfl rfl)
theorem dX0_chanceBy_71 : decode cX0_chanceBy 71 = .ok (.iaload, 1) := dk_46 (dk_at dksX0_chanceBy_3 0 rfl rfl)
theorem dX0_chanceBy_72 : decode cX0_chanceBy 72 = .ok (.imul, 1) := dk_104 (dk_at dksX0_chanceBy_3 1 rfl rfl)
theorem dX0_chanceBy_73 : decode cX0_chanceBy 73 = .ok (.iadd, 1) := dk_96 (dk_at dksX0_chanceBy_3 2 rfl rfl)
theorem dX0_chanceBy_74 : decode cX0_chanceBy 74 = .ok (.ireturn, 1) := dk_172 (dk_at dksX0_chanceBy_3 3 rfl rfl)
abbrev cX0_common : ByteArray := prog_1_method_76_code
def yX0_common : MethodName := ⟨RX0, "common", "(II)I"⟩
def dkwX0_common_0 : List UInt8 := [27, 154, 0, 7, 26, 167, 0, 10, 27, 26, 27, 112, 184, 1, 101, 172]
abbrev dktX0_common_0 : List UInt8 := dkwX0_common_0 ++ []
theorem dksX0_common_0 : cX0_common.data.toList.drop 0 = dktX0_common_0 := by decide +kernel
theorem dX0_common_0 : decode cX0_common 0 = .ok (.iload_n 1, 1) := dk_27 (dk_at dksX0_common_0 0 rfl rfl)
theorem dX0_common_1 : decode cX0_common 1 = .ok (.ifCond .ne 7, 3) := dk_154 0 7 (dk_at dksX0_common_0 1 rfl rfl)
theorem dX0_common_4 : decode cX0_common 4 = .ok (.iload_n 0, 1) := dk_26 (dk_at dksX0_common_0 4 rfl rfl)
theorem dX0_common_5 : decode cX0_common 5 = .ok (.goto 10, 3) := dk_167 0 10 (dk_at dksX0_common_0 5 rfl rfl)
theorem dX0_common_8 : decode cX0_common 8 = .ok (.iload_n 1, 1) := dk_27 (dk_at dksX0_common_0 8 rfl rfl)
theorem dX0_common_9 : decode cX0_common 9 = .ok (.iload_n 0, 1) := dk_26 (dk_at dksX0_common_0 9 rfl rfl)
theorem dX0_common_10 : decode cX0_common 10 = .ok (.iload_n 1, 1) := dk_27 (dk_at dksX0_common_0 10 rfl rfl)
theorem dX0_common_11 : decode cX0_common 11 = .ok (.irem, 1) := dk_112 (dk_at dksX0_common_0 11 rfl rfl)
theorem dX0_common_12 : decode cX0_common 12 = .ok (.invokestatic 357, 3) := dk_184 1 101 (dk_at dksX0_common_0 12 rfl rfl)
theorem dX0_common_15 : decode cX0_common 15 = .ok (.ireturn, 1) := dk_172 (dk_at dksX0_common_0 15 rfl rfl)
abbrev cX0_best : ByteArray := prog_1_method_79_code
def yX0_best : MethodName := ⟨RX0, "best", "(II)I"⟩
def dkwX0_best_3 : List UInt8 := [132, 4, 1, 167, 255, 232]
abbrev dktX0_best_3 : List UInt8 := dkwX0_best_3 ++ []
def dkwX0_best_2 : List UInt8 := [3, 54, 4, 42, 42, 180, 0, 30, 180, 0, 170, 28, 21, 4, 182, 1, 95, 29, 160, 0, 6, 21, 4, 172]
abbrev dktX0_best_2 : List UInt8 := dkwX0_best_2 ++ dktX0_best_3
def dkwX0_best_1 : List UInt8 := [182, 1, 109, 62, 29, 153, 0, 17, 42, 180, 0, 30, 180, 0, 170, 184, 0, 177, 27, 160, 0, 5, 2, 172]
abbrev dktX0_best_1 : List UInt8 := dkwX0_best_1 ++ dktX0_best_2
def dkwX0_best_0 : List UInt8 := [42, 27, 182, 1, 3, 154, 0, 6, 16, 254, 172, 28, 184, 1, 106, 154, 0, 6, 16, 253, 172, 42, 27, 28]
abbrev dktX0_best_0 : List UInt8 := dkwX0_best_0 ++ dktX0_best_1
theorem dksX0_best_0 : cX0_best.data.toList.drop 0 = dktX0_best_0 := by decide +kernel
theorem dksX0_best_1 : cX0_best.data.toList.drop 24 = dktX0_best_1 := dk_seg dksX0_best_0 24 rfl rfl
theorem dksX0_best_2 : cX0_best.data.toList.drop 48 = dktX0_best_2 := dk_seg dksX0_best_1 24 rfl rfl
theorem dksX0_best_3 : cX0_best.data.toList.drop 72 = dktX0_best_3 := dk_seg dksX0_best_2 24 rfl rfl
theorem dX0_best_0 : decode cX0_best 0 = .ok (.aload_n 0, 1) := dk_42 (dk_at dksX0_best_0 0 rfl rfl)
theorem dX0_best_1 : decode cX0_best 1 = .ok (.iload_n 1, 1) := dk_27 (dk_at dksX0_best_0 1 rfl rfl)
theorem dX0_best_2 : decode cX0_best 2 = .ok (.invokevirtual 259, 3) := dk_182 1 3 (dk_at dksX0_best_0 2 rfl rfl)
theorem dX0_best_5 : decode cX0_best 5 = .ok (.ifCond .ne 6, 3) := dk_154 0 6 (dk_at dksX0_best_0 5 rfl rfl)
theorem dX0_best_8 : decode cX0_best 8 = .ok (.bipush (-2), 2) := dk_16 254 (dk_at dksX0_best_0 8 rfl rfl)
theorem dX0_best_10 : decode cX0_best 10 = .ok (.ireturn, 1) := dk_172 (dk_at dksX0_best_0 10 rfl rfl)
theorem dX0_best_11 : decode cX0_best 11 = .ok (.iload_n 2, 1) := dk_28 (dk_at dksX0_best_0 11 rfl rfl)
theorem dX0_best_12 : decode cX0_best 12 = .ok (.invokestatic 362, 3) := dk_184 1 106 (dk_at dksX0_best_0 12 rfl rfl)
theorem dX0_best_15 : decode cX0_best 15 = .ok (.ifCond .ne 6, 3) := dk_154 0 6 (dk_at dksX0_best_0 15 rfl rfl)
theorem dX0_best_18 : decode cX0_best 18 = .ok (.bipush (-3), 2) := dk_16 253 (dk_at dksX0_best_0 18 rfl rfl)
theorem dX0_best_20 : decode cX0_best 20 = .ok (.ireturn, 1) := dk_172 (dk_at dksX0_best_0 20 rfl rfl)
theorem dX0_best_21 : decode cX0_best 21 = .ok (.aload_n 0, 1) := dk_42 (dk_at dksX0_best_0 21 rfl rfl)
theorem dX0_best_22 : decode cX0_best 22 = .ok (.iload_n 1, 1) := dk_27 (dk_at dksX0_best_0 22 rfl rfl)
theorem dX0_best_23 : decode cX0_best 23 = .ok (.iload_n 2, 1) := dk_28 (dk_at dksX0_best_0 23 rfl rfl)
theorem dX0_best_24 : decode cX0_best 24 = .ok (.invokevirtual 365, 3) := dk_182 1 109 (dk_at dksX0_best_1 0 rfl rfl)
theorem dX0_best_27 : decode cX0_best 27 = .ok (.istore_n 3, 1) := dk_62 (dk_at dksX0_best_1 3 rfl rfl)
theorem dX0_best_28 : decode cX0_best 28 = .ok (.iload_n 3, 1) := dk_29 (dk_at dksX0_best_1 4 rfl rfl)
theorem dX0_best_29 : decode cX0_best 29 = .ok (.ifCond .eq 17, 3) := dk_153 0 17 (dk_at dksX0_best_1 5 rfl rfl)
theorem dX0_best_32 : decode cX0_best 32 = .ok (.aload_n 0, 1) := dk_42 (dk_at dksX0_best_1 8 rfl rfl)
theorem dX0_best_33 : decode cX0_best 33 = .ok (.getfield 30, 3) := dk_180 0 30 (dk_at dksX0_best_1 9 rfl rfl)
theorem dX0_best_36 : decode cX0_best 36 = .ok (.getfield 170, 3) := dk_180 0 170 (dk_at dksX0_best_1 12 rfl rfl)
theorem dX0_best_39 : decode cX0_best 39 = .ok (.invokestatic 177, 3) := dk_184 0 177 (dk_at dksX0_best_1 15 rfl rfl)
theorem dX0_best_42 : decode cX0_best 42 = .ok (.iload_n 1, 1) := dk_27 (dk_at dksX0_best_1 18 rfl rfl)
theorem dX0_best_43 : decode cX0_best 43 = .ok (.if_icmp .ne 5, 3) := dk_160 0 5 (dk_at dksX0_best_1 19 rfl rfl)
theorem dX0_best_46 : decode cX0_best 46 = .ok (.iconst (-1), 1) := dk_2 (dk_at dksX0_best_1 22 rfl rfl)
theorem dX0_best_47 : decode cX0_best 47 = .ok (.ireturn, 1) := dk_172 (dk_at dksX0_best_1 23 rfl rfl)
theorem dX0_best_48 : decode cX0_best 48 = .ok (.iconst 0, 1) := dk_3 (dk_at dksX0_best_2 0 rfl rfl)
theorem dX0_best_49 : decode cX0_best 49 = .ok (.istore 4, 2) := dk_54 4 (dk_at dksX0_best_2 1 rfl rfl)
theorem dX0_best_51 : decode cX0_best 51 = .ok (.aload_n 0, 1) := dk_42 (dk_at dksX0_best_2 3 rfl rfl)
theorem dX0_best_52 : decode cX0_best 52 = .ok (.aload_n 0, 1) := dk_42 (dk_at dksX0_best_2 4 rfl rfl)
theorem dX0_best_53 : decode cX0_best 53 = .ok (.getfield 30, 3) := dk_180 0 30 (dk_at dksX0_best_2 5 rfl rfl)
theorem dX0_best_56 : decode cX0_best 56 = .ok (.getfield 170, 3) := dk_180 0 170 (dk_at dksX0_best_2 8 rfl rfl)
theorem dX0_best_59 : decode cX0_best 59 = .ok (.iload_n 2, 1) := dk_28 (dk_at dksX0_best_2 11 rfl rfl)
theorem dX0_best_60 : decode cX0_best 60 = .ok (.iload 4, 2) := dk_21 4 (dk_at dksX0_best_2 12 rfl rfl)
theorem dX0_best_62 : decode cX0_best 62 = .ok (.invokevirtual 351, 3) := dk_182 1 95 (dk_at dksX0_best_2 14 rfl rfl)
theorem dX0_best_65 : decode cX0_best 65 = .ok (.iload_n 3, 1) := dk_29 (dk_at dksX0_best_2 17 rfl rfl)
theorem dX0_best_66 : decode cX0_best 66 = .ok (.if_icmp .ne 6, 3) := dk_160 0 6 (dk_at dksX0_best_2 18 rfl rfl)
theorem dX0_best_69 : decode cX0_best 69 = .ok (.iload 4, 2) := dk_21 4 (dk_at dksX0_best_2 21 rfl rfl)
theorem dX0_best_71 : decode cX0_best 71 = .ok (.ireturn, 1) := dk_172 (dk_at dksX0_best_2 23 rfl rfl)
theorem dX0_best_72 : decode cX0_best 72 = .ok (.iinc 4 1, 3) := dk_132 4 1 (dk_at dksX0_best_3 0 rfl rfl)
theorem dX0_best_75 : decode cX0_best 75 = .ok (.goto (-24), 3) := dk_167 255 232 (dk_at dksX0_best_3 3 rfl rfl)
abbrev cX0_numbers : ByteArray := prog_1_method_82_code
def yX0_numbers : MethodName := ⟨RX0, "numbers", "(III)I"⟩
def dkwX0_numbers_2 : List UInt8 := [167, 0, 5, 16, 253, 172]
abbrev dktX0_numbers_2 : List UInt8 := dkwX0_numbers_2 ++ []
def dkwX0_numbers_1 : List UInt8 := [16, 40, 164, 0, 6, 16, 253, 172, 42, 180, 0, 82, 27, 50, 28, 29, 182, 1, 119, 153, 0, 7, 3]
abbrev dktX0_numbers_1 : List UInt8 := dkwX0_numbers_1 ++ dktX0_numbers_2
def dkwX0_numbers_0 : List UInt8 := [27, 184, 1, 112, 153, 0, 15, 28, 133, 9, 20, 0, 223, 184, 0, 103, 154, 0, 6, 16, 254, 172, 29]
abbrev dktX0_numbers_0 : List UInt8 := dkwX0_numbers_0 ++ dktX0_numbers_1
theorem dksX0_numbers_0 : cX0_numbers.data.toList.drop 0 = dktX0_numbers_0 := by decide +kernel
theorem dksX0_numbers_1 : cX0_numbers.data.toList.drop 23 = dktX0_numbers_1 := dk_seg dksX0_numbers_0 23 rfl rfl
theorem dksX0_numbers_2 : cX0_numbers.data.toList.drop 46 = dktX0_numbers_2 := dk_seg dksX0_numbers_1 23 rfl rfl
theorem dX0_numbers_0 : decode cX0_numbers 0 = .ok (.iload_n 1, 1) := dk_27 (dk_at dksX0_numbers_0 0 rfl rfl)
theorem dX0_numbers_1 : decode cX0_numbers 1 = .ok (.invokestatic 368, 3) := dk_184 1 112 (dk_at dksX0_numbers_0 1 rfl rfl)
theorem dX0_numbers_4 : decode cX0_numbers 4 = .ok (.ifCond .eq 15, 3) := dk_153 0 15 (dk_at dksX0_numbers_0 4 rfl rfl)
theorem dX0_numbers_7 : decode cX0_numbers 7 = .ok (.iload_n 2, 1) := dk_28 (dk_at dksX0_numbers_0 7 rfl rfl)
theorem dX0_numbers_8 : decode cX0_numbers 8 = .ok (.i2l, 1) := dk_133 (dk_at dksX0_numbers_0 8 rfl rfl)
theorem dX0_numbers_9 : decode cX0_numbers 9 = .ok (.lconst 0, 1) := dk_9 (dk_at dksX0_numbers_0 9 rfl rfl)
theorem dX0_numbers_10 : decode cX0_numbers 10 = .ok (.ldc2_w 223, 3) := dk_20 0 223 (dk_at dksX0_numbers_0 10 rfl rfl)
theorem dX0_numbers_13 : decode cX0_numbers 13 = .ok (.invokestatic 103, 3) := dk_184 0 103 (dk_at dksX0_numbers_0 13 rfl rfl)
theorem dX0_numbers_16 : decode cX0_numbers 16 = .ok (.ifCond .ne 6, 3) := dk_154 0 6 (dk_at dksX0_numbers_0 16 rfl rfl)
theorem dX0_numbers_19 : decode cX0_numbers 19 = .ok (.bipush (-2), 2) := dk_16 254 (dk_at dksX0_numbers_0 19 rfl rfl)
theorem dX0_numbers_21 : decode cX0_numbers 21 = .ok (.ireturn, 1) := dk_172 (dk_at dksX0_numbers_0 21 rfl rfl)
theorem dX0_numbers_22 : decode cX0_numbers 22 = .ok (.iload_n 3, 1) := dk_29 (dk_at dksX0_numbers_0 22 rfl rfl)
theorem dX0_numbers_23 : decode cX0_numbers 23 = .ok (.bipush 40, 2) := dk_16 40 (dk_at dksX0_numbers_1 0 rfl rfl)
theorem dX0_numbers_25 : decode cX0_numbers 25 = .ok (.if_icmp .le 6, 3) := dk_164 0 6 (dk_at dksX0_numbers_1 2 rfl rfl)
theorem dX0_numbers_28 : decode cX0_numbers 28 = .ok (.bipush (-3), 2) := dk_16 253 (dk_at dksX0_numbers_1 5 rfl rfl)
theorem dX0_numbers_30 : decode cX0_numbers 30 = .ok (.ireturn, 1) := dk_172 (dk_at dksX0_numbers_1 7 rfl rfl)
theorem dX0_numbers_31 : decode cX0_numbers 31 = .ok (.aload_n 0, 1) := dk_42 (dk_at dksX0_numbers_1 8 rfl rfl)
theorem dX0_numbers_32 : decode cX0_numbers 32 = .ok (.getfield 82, 3) := dk_180 0 82 (dk_at dksX0_numbers_1 9 rfl rfl)
theorem dX0_numbers_35 : decode cX0_numbers 35 = .ok (.iload_n 1, 1) := dk_27 (dk_at dksX0_numbers_1 12 rfl rfl)
theorem dX0_numbers_36 : decode cX0_numbers 36 = .ok (.aaload, 1) := dk_50 (dk_at dksX0_numbers_1 13 rfl rfl)
theorem dX0_numbers_37 : decode cX0_numbers 37 = .ok (.iload_n 2, 1) := dk_28 (dk_at dksX0_numbers_1 14 rfl rfl)
theorem dX0_numbers_38 : decode cX0_numbers 38 = .ok (.iload_n 3, 1) := dk_29 (dk_at dksX0_numbers_1 15 rfl rfl)
theorem dX0_numbers_39 : decode cX0_numbers 39 = .ok (.invokevirtual 375, 3) := dk_182 1 119 (dk_at dksX0_numbers_1 16 rfl rfl)
theorem dX0_numbers_42 : decode cX0_numbers 42 = .ok (.ifCond .eq 7, 3) := dk_153 0 7 (dk_at dksX0_numbers_1 19 rfl rfl)
theorem dX0_numbers_45 : decode cX0_numbers 45 = .ok (.iconst 0, 1) := dk_3 (dk_at dksX0_numbers_1 22 rfl rfl)
theorem dX0_numbers_46 : decode cX0_numbers 46 = .ok (.goto 5, 3) := dk_167 0 5 (dk_at dksX0_numbers_2 0 rfl rfl)
theorem dX0_numbers_49 : decode cX0_numbers 49 = .ok (.bipush (-3), 2) := dk_16 253 (dk_at dksX0_numbers_2 3 rfl rfl)
theorem dX0_numbers_51 : decode cX0_numbers 51 = .ok (.ireturn, 1) := dk_172 (dk_at dksX0_numbers_2 5 rfl rfl)
abbrev cX0_write : ByteArray := prog_1_method_83_code
def yX0_write : MethodName := ⟨RX0, "write", "(IIJ)J"⟩
def dkwX0_write_1 : List UInt8 := [180, 0, 82, 27, 50, 28, 182, 0, 216, 173, 58, 5, 20, 1, 129, 173, 58, 5, 20, 1, 133, 173]
abbrev dktX0_write_1 : List UInt8 := dkwX0_write_1 ++ []
def dkwX0_write_0 : List UInt8 := [27, 184, 1, 112, 154, 0, 7, 20, 1, 121, 173, 42, 180, 0, 82, 27, 50, 28, 33, 182, 1, 123, 42]
abbrev dktX0_write_0 : List UInt8 := dkwX0_write_0 ++ dktX0_write_1
theorem dksX0_write_0 : cX0_write.data.toList.drop 0 = dktX0_write_0 := by decide +kernel
theorem dksX0_write_1 : cX0_write.data.toList.drop 23 = dktX0_write_1 := dk_seg dksX0_write_0 23 rfl rfl
theorem dX0_write_0 : decode cX0_write 0 = .ok (.iload_n 1, 1) := dk_27 (dk_at dksX0_write_0 0 rfl rfl)
theorem dX0_write_1 : decode cX0_write 1 = .ok (.invokestatic 368, 3) := dk_184 1 112 (dk_at dksX0_write_0 1 rfl rfl)
theorem dX0_write_4 : decode cX0_write 4 = .ok (.ifCond .ne 7, 3) := dk_154 0 7 (dk_at dksX0_write_0 4 rfl rfl)
theorem dX0_write_7 : decode cX0_write 7 = .ok (.ldc2_w 377, 3) := dk_20 1 121 (dk_at dksX0_write_0 7 rfl rfl)
theorem dX0_write_10 : decode cX0_write 10 = .ok (.lreturn, 1) := dk_173 (dk_at dksX0_write_0 10 rfl rfl)
theorem dX0_write_11 : decode cX0_write 11 = .ok (.aload_n 0, 1) := dk_42 (dk_at dksX0_write_0 11 rfl rfl)
theorem dX0_write_12 : decode cX0_write 12 = .ok (.getfield 82, 3) := dk_180 0 82 (dk_at dksX0_write_0 12 rfl rfl)
theorem dX0_write_15 : decode cX0_write 15 = .ok (.iload_n 1, 1) := dk_27 (dk_at dksX0_write_0 15 rfl rfl)
theorem dX0_write_16 : decode cX0_write 16 = .ok (.aaload, 1) := dk_50 (dk_at dksX0_write_0 16 rfl rfl)
theorem dX0_write_17 : decode cX0_write 17 = .ok (.iload_n 2, 1) := dk_28 (dk_at dksX0_write_0 17 rfl rfl)
theorem dX0_write_18 : decode cX0_write 18 = .ok (.lload_n 3, 1) := dk_33 (dk_at dksX0_write_0 18 rfl rfl)
theorem dX0_write_19 : decode cX0_write 19 = .ok (.invokevirtual 379, 3) := dk_182 1 123 (dk_at dksX0_write_0 19 rfl rfl)
theorem dX0_write_22 : decode cX0_write 22 = .ok (.aload_n 0, 1) := dk_42 (dk_at dksX0_write_0 22 rfl rfl)
theorem dX0_write_23 : decode cX0_write 23 = .ok (.getfield 82, 3) := dk_180 0 82 (dk_at dksX0_write_1 0 rfl rfl)
theorem dX0_write_26 : decode cX0_write 26 = .ok (.iload_n 1, 1) := dk_27 (dk_at dksX0_write_1 3 rfl rfl)
theorem dX0_write_27 : decode cX0_write 27 = .ok (.aaload, 1) := dk_50 (dk_at dksX0_write_1 4 rfl rfl)
theorem dX0_write_28 : decode cX0_write 28 = .ok (.iload_n 2, 1) := dk_28 (dk_at dksX0_write_1 5 rfl rfl)
theorem dX0_write_29 : decode cX0_write 29 = .ok (.invokevirtual 216, 3) := dk_182 0 216 (dk_at dksX0_write_1 6 rfl rfl)
theorem dX0_write_32 : decode cX0_write 32 = .ok (.lreturn, 1) := dk_173 (dk_at dksX0_write_1 9 rfl rfl)
theorem dX0_write_33 : decode cX0_write 33 = .ok (.astore 5, 2) := dk_58 5 (dk_at dksX0_write_1 10 rfl rfl)
theorem dX0_write_35 : decode cX0_write 35 = .ok (.ldc2_w 385, 3) := dk_20 1 129 (dk_at dksX0_write_1 12 rfl rfl)
theorem dX0_write_38 : decode cX0_write 38 = .ok (.lreturn, 1) := dk_173 (dk_at dksX0_write_1 15 rfl rfl)
theorem dX0_write_39 : decode cX0_write 39 = .ok (.astore 5, 2) := dk_58 5 (dk_at dksX0_write_1 16 rfl rfl)
theorem dX0_write_41 : decode cX0_write 41 = .ok (.ldc2_w 389, 3) := dk_20 1 133 (dk_at dksX0_write_1 18 rfl rfl)
theorem dX0_write_44 : decode cX0_write 44 = .ok (.lreturn, 1) := dk_173 (dk_at dksX0_write_1 21 rfl rfl)
abbrev cX0_lists : ByteArray := prog_1_method_84_code
def yX0_lists : MethodName := ⟨RX0, "lists", "(III)I"⟩
def dkwX0_lists_4 : List UInt8 := [21, 6, 42, 180, 0, 56, 21, 6, 46, 133, 182, 1, 123, 132, 6, 1, 167, 255, 227, 21, 5, 172]
abbrev dktX0_lists_4 : List UInt8 := dkwX0_lists_4 ++ []
def dkwX0_lists_3 : List UInt8 := [182, 0, 213, 184, 0, 187, 54, 5, 3, 54, 6, 21, 6, 21, 5, 162, 0, 28, 42, 180, 0, 82, 27, 50]
abbrev dktX0_lists_3 : List UInt8 := dkwX0_lists_3 ++ dktX0_lists_4
def dkwX0_lists_2 : List UInt8 := [182, 1, 17, 2, 160, 0, 6, 16, 251, 172, 42, 182, 1, 20, 42, 180, 1, 0, 42, 180, 0, 82, 27, 50]
abbrev dktX0_lists_2 : List UInt8 := dkwX0_lists_2 ++ dktX0_lists_3
def dkwX0_lists_1 : List UInt8 := [154, 0, 11, 42, 28, 29, 182, 1, 14, 54, 4, 21, 4, 153, 0, 6, 21, 4, 172, 42, 28, 29]
abbrev dktX0_lists_1 : List UInt8 := dkwX0_lists_1 ++ dktX0_lists_2
def dkwX0_lists_0 : List UInt8 := [42, 28, 182, 1, 3, 153, 0, 11, 42, 27, 182, 0, 225, 167, 0, 5, 16, 254, 54, 4, 21, 4]
abbrev dktX0_lists_0 : List UInt8 := dkwX0_lists_0 ++ dktX0_lists_1
theorem dksX0_lists_0 : cX0_lists.data.toList.drop 0 = dktX0_lists_0 := by decide +kernel
theorem dksX0_lists_1 : cX0_lists.data.toList.drop 22 = dktX0_lists_1 := dk_seg dksX0_lists_0 22 rfl rfl
theorem dksX0_lists_2 : cX0_lists.data.toList.drop 44 = dktX0_lists_2 := dk_seg dksX0_lists_1 22 rfl rfl
theorem dksX0_lists_3 : cX0_lists.data.toList.drop 68 = dktX0_lists_3 := dk_seg dksX0_lists_2 24 rfl rfl
theorem dksX0_lists_4 : cX0_lists.data.toList.drop 92 = dktX0_lists_4 := dk_seg dksX0_lists_3 24 rfl rfl
theorem dX0_lists_0 : decode cX0_lists 0 = .ok (.aload_n 0, 1) := dk_42 (dk_at dksX0_lists_0 0 rfl rfl)
theorem dX0_lists_1 : decode cX0_lists 1 = .ok (.iload_n 2, 1) := dk_28 (dk_at dksX0_lists_0 1 rfl rfl)
theorem dX0_lists_2 : decode cX0_lists 2 = .ok (.invokevirtual 259, 3) := dk_182 1 3 (dk_at dksX0_lists_0 2 rfl rfl)
theorem dX0_lists_5 : decode cX0_lists 5 = .ok (.ifCond .eq 11, 3) := dk_153 0 11 (dk_at dksX0_lists_0 5 rfl rfl)
theorem dX0_lists_8 : decode cX0_lists 8 = .ok (.aload_n 0, 1) := dk_42 (dk_at dksX0_lists_0 8 rfl rfl)
theorem dX0_lists_9 : decode cX0_lists 9 = .ok (.iload_n 1, 1) := dk_27 (dk_at dksX0_lists_0 9 rfl rfl)
theorem dX0_lists_10 : decode cX0_lists 10 = .ok (.invokevirtual 225, 3) := dk_182 0 225 (dk_at dksX0_lists_0 10 rfl rfl)
theorem dX0_lists_13 : decode cX0_lists 13 = .ok (.goto 5, 3) := dk_167 0 5 (dk_at dksX0_lists_0 13 rfl rfl)
theorem dX0_lists_16 : decode cX0_lists 16 = .ok (.bipush (-2), 2) := dk_16 254 (dk_at dksX0_lists_0 16 rfl rfl)
theorem dX0_lists_18 : decode cX0_lists 18 = .ok (.istore 4, 2) := dk_54 4 (dk_at dksX0_lists_0 18 rfl rfl)
theorem dX0_lists_20 : decode cX0_lists 20 = .ok (.iload 4, 2) := dk_21 4 (dk_at dksX0_lists_0 20 rfl rfl)
theorem dX0_lists_22 : decode cX0_lists 22 = .ok (.ifCond .ne 11, 3) := dk_154 0 11 (dk_at dksX0_lists_1 0 rfl rfl)
theorem dX0_lists_25 : decode cX0_lists 25 = .ok (.aload_n 0, 1) := dk_42 (dk_at dksX0_lists_1 3 rfl rfl)
theorem dX0_lists_26 : decode cX0_lists 26 = .ok (.iload_n 2, 1) := dk_28 (dk_at dksX0_lists_1 4 rfl rfl)
theorem dX0_lists_27 : decode cX0_lists 27 = .ok (.iload_n 3, 1) := dk_29 (dk_at dksX0_lists_1 5 rfl rfl)
theorem dX0_lists_28 : decode cX0_lists 28 = .ok (.invokevirtual 270, 3) := dk_182 1 14 (dk_at dksX0_lists_1 6 rfl rfl)
theorem dX0_lists_31 : decode cX0_lists 31 = .ok (.istore 4, 2) := dk_54 4 (dk_at dksX0_lists_1 9 rfl rfl)
theorem dX0_lists_33 : decode cX0_lists 33 = .ok (.iload 4, 2) := dk_21 4 (dk_at dksX0_lists_1 11 rfl rfl)
theorem dX0_lists_35 : decode cX0_lists 35 = .ok (.ifCond .eq 6, 3) := dk_153 0 6 (dk_at dksX0_lists_1 13 rfl rfl)
theorem dX0_lists_38 : decode cX0_lists 38 = .ok (.iload 4, 2) := dk_21 4 (dk_at dksX0_lists_1 16 rfl rfl)
theorem dX0_lists_40 : decode cX0_lists 40 = .ok (.ireturn, 1) := dk_172 (dk_at dksX0_lists_1 18 rfl rfl)
theorem dX0_lists_41 : decode cX0_lists 41 = .ok (.aload_n 0, 1) := dk_42 (dk_at dksX0_lists_1 19 rfl rfl)
theorem dX0_lists_42 : decode cX0_lists 42 = .ok (.iload_n 2, 1) := dk_28 (dk_at dksX0_lists_1 20 rfl rfl)
theorem dX0_lists_43 : decode cX0_lists 43 = .ok (.iload_n 3, 1) := dk_29 (dk_at dksX0_lists_1 21 rfl rfl)
theorem dX0_lists_44 : decode cX0_lists 44 = .ok (.invokevirtual 273, 3) := dk_182 1 17 (dk_at dksX0_lists_2 0 rfl rfl)
theorem dX0_lists_47 : decode cX0_lists 47 = .ok (.iconst (-1), 1) := dk_2 (dk_at dksX0_lists_2 3 rfl rfl)
theorem dX0_lists_48 : decode cX0_lists 48 = .ok (.if_icmp .ne 6, 3) := dk_160 0 6 (dk_at dksX0_lists_2 4 rfl rfl)
theorem dX0_lists_51 : decode cX0_lists 51 = .ok (.bipush (-5), 2) := dk_16 251 (dk_at dksX0_lists_2 7 rfl rfl)
theorem dX0_lists_53 : decode cX0_lists 53 = .ok (.ireturn, 1) := dk_172 (dk_at dksX0_lists_2 9 rfl rfl)
theorem dX0_lists_54 : decode cX0_lists 54 = .ok (.aload_n 0, 1) := dk_42 (dk_at dksX0_lists_2 10 rfl rfl)
theorem dX0_lists_55 : decode cX0_lists 55 = .ok (.invokevirtual 276, 3) := dk_182 1 20 (dk_at dksX0_lists_2 11 rfl rfl)
theorem dX0_lists_58 : decode cX0_lists 58 = .ok (.aload_n 0, 1) := dk_42 (dk_at dksX0_lists_2 14 rfl rfl)
theorem dX0_lists_59 : decode cX0_lists 59 = .ok (.getfield 256, 3) := dk_180 1 0 (dk_at dksX0_lists_2 15 rfl rfl)
theorem dX0_lists_62 : decode cX0_lists 62 = .ok (.aload_n 0, 1) := dk_42 (dk_at dksX0_lists_2 18 rfl rfl)
theorem dX0_lists_63 : decode cX0_lists 63 = .ok (.getfield 82, 3) := dk_180 0 82 (dk_at dksX0_lists_2 19 rfl rfl)
theorem dX0_lists_66 : decode cX0_lists 66 = .ok (.iload_n 1, 1) := dk_27 (dk_at dksX0_lists_2 22 rfl rfl)
theorem dX0_lists_67 : decode cX0_lists 67 = .ok (.aaload, 1) := dk_50 (dk_at dksX0_lists_2 23 rfl rfl)
theorem dX0_lists_68 : decode cX0_lists 68 = .ok (.invokevirtual 213, 3) := dk_182 0 213 (dk_at dksX0_lists_3 0 rfl rfl)
theorem dX0_lists_71 : decode cX0_lists 71 = .ok (.invokestatic 187, 3) := dk_184 0 187 (dk_at dksX0_lists_3 3 rfl rfl)
theorem dX0_lists_74 : decode cX0_lists 74 = .ok (.istore 5, 2) := dk_54 5 (dk_at dksX0_lists_3 6 rfl rfl)
theorem dX0_lists_76 : decode cX0_lists 76 = .ok (.iconst 0, 1) := dk_3 (dk_at dksX0_lists_3 8 rfl rfl)
theorem dX0_lists_77 : decode cX0_lists 77 = .ok (.istore 6, 2) := dk_54 6 (dk_at dksX0_lists_3 9 rfl rfl)
theorem dX0_lists_79 : decode cX0_lists 79 = .ok (.iload 6, 2) := dk_21 6 (dk_at dksX0_lists_3 11 rfl rfl)
theorem dX0_lists_81 : decode cX0_lists 81 = .ok (.iload 5, 2) := dk_21 5 (dk_at dksX0_lists_3 13 rfl rfl)
theorem dX0_lists_83 : decode cX0_lists 83 = .ok (.if_icmp .ge 28, 3) := dk_162 0 28 (dk_at dksX0_lists_3 15 rfl rfl)
theorem dX0_lists_86 : decode cX0_lists 86 = .ok (.aload_n 0, 1) := dk_42 (dk_at dksX0_lists_3 18 rfl rfl)
theorem dX0_lists_87 : decode cX0_lists 87 = .ok (.getfield 82, 3) := dk_180 0 82 (dk_at dksX0_lists_3 19 rfl rfl)
theorem dX0_lists_90 : decode cX0_lists 90 = .ok (.iload_n 1, 1) := dk_27 (dk_at dksX0_lists_3 22 rfl rfl)
theorem dX0_lists_91 : decode cX0_lists 91 = .ok (.aaload, 1) := dk_50 (dk_at dksX0_lists_3 23 rfl rfl)
theorem dX0_lists_92 : decode cX0_lists 92 = .ok (.iload 6, 2) := dk_21 6 (dk_at dksX0_lists_4 0 rfl rfl)
theorem dX0_lists_94 : decode cX0_lists 94 = .ok (.aload_n 0, 1) := dk_42 (dk_at dksX0_lists_4 2 rfl rfl)
theorem dX0_lists_95 : decode cX0_lists 95 = .ok (.getfield 56, 3) := dk_180 0 56 (dk_at dksX0_lists_4 3 rfl rfl)
theorem dX0_lists_98 : decode cX0_lists 98 = .ok (.iload 6, 2) := dk_21 6 (dk_at dksX0_lists_4 6 rfl rfl)
theorem dX0_lists_100 : decode cX0_lists 100 = .ok (.iaload, 1) := dk_46 (dk_at dksX0_lists_4 8 rfl rfl)
theorem dX0_lists_101 : decode cX0_lists 101 = .ok (.i2l, 1) := dk_133 (dk_at dksX0_lists_4 9 rfl rfl)
theorem dX0_lists_102 : decode cX0_lists 102 = .ok (.invokevirtual 379, 3) := dk_182 1 123 (dk_at dksX0_lists_4 10 rfl rfl)
theorem dX0_lists_105 : decode cX0_lists 105 = .ok (.iinc 6 1, 3) := dk_132 6 1 (dk_at dksX0_lists_4 13 rfl rfl)
theorem dX0_lists_108 : decode cX0_lists 108 = .ok (.goto (-29), 3) := dk_167 255 227 (dk_at dksX0_lists_4 16 rfl rfl)
theorem dX0_lists_111 : decode cX0_lists 111 = .ok (.iload 5, 2) := dk_21 5 (dk_at dksX0_lists_4 19 rfl rfl)
theorem dX0_lists_113 : decode cX0_lists 113 = .ok (.ireturn, 1) := dk_172 (dk_at dksX0_lists_4 21 rfl rfl)
abbrev cX0_image : ByteArray := prog_1_method_85_code
def yX0_image : MethodName := ⟨RX0, "image", "(I)I"⟩
def dkwX0_image_1 : List UInt8 := [180, 0, 90, 27, 50, 42, 180, 0, 30, 182, 0, 183, 87, 3, 172]
abbrev dktX0_image_1 : List UInt8 := dkwX0_image_1 ++ []
def dkwX0_image_0 : List UInt8 := [27, 133, 9, 10, 184, 0, 103, 154, 0, 6, 16, 254, 172, 42, 180, 0, 86, 27, 42, 180, 0, 21, 83, 42]
abbrev dktX0_image_0 : List UInt8 := dkwX0_image_0 ++ dktX0_image_1
theorem dksX0_image_0 : cX0_image.data.toList.drop 0 = dktX0_image_0 := by decide +kernel
theorem dksX0_image_1 : cX0_image.data.toList.drop 24 = dktX0_image_1 := dk_seg dksX0_image_0 24 rfl rfl
theorem dX0_image_0 : decode cX0_image 0 = .ok (.iload_n 1, 1) := dk_27 (dk_at dksX0_image_0 0 rfl rfl)
theorem dX0_image_1 : decode cX0_image 1 = .ok (.i2l, 1) := dk_133 (dk_at dksX0_image_0 1 rfl rfl)
theorem dX0_image_2 : decode cX0_image 2 = .ok (.lconst 0, 1) := dk_9 (dk_at dksX0_image_0 2 rfl rfl)
theorem dX0_image_3 : decode cX0_image 3 = .ok (.lconst 1, 1) := dk_10 (dk_at dksX0_image_0 3 rfl rfl)
theorem dX0_image_4 : decode cX0_image 4 = .ok (.invokestatic 103, 3) := dk_184 0 103 (dk_at dksX0_image_0 4 rfl rfl)
theorem dX0_image_7 : decode cX0_image 7 = .ok (.ifCond .ne 6, 3) := dk_154 0 6 (dk_at dksX0_image_0 7 rfl rfl)
theorem dX0_image_10 : decode cX0_image 10 = .ok (.bipush (-2), 2) := dk_16 254 (dk_at dksX0_image_0 10 rfl rfl)
theorem dX0_image_12 : decode cX0_image 12 = .ok (.ireturn, 1) := dk_172 (dk_at dksX0_image_0 12 rfl rfl)
theorem dX0_image_13 : decode cX0_image 13 = .ok (.aload_n 0, 1) := dk_42 (dk_at dksX0_image_0 13 rfl rfl)
theorem dX0_image_14 : decode cX0_image 14 = .ok (.getfield 86, 3) := dk_180 0 86 (dk_at dksX0_image_0 14 rfl rfl)
theorem dX0_image_17 : decode cX0_image 17 = .ok (.iload_n 1, 1) := dk_27 (dk_at dksX0_image_0 17 rfl rfl)
theorem dX0_image_18 : decode cX0_image 18 = .ok (.aload_n 0, 1) := dk_42 (dk_at dksX0_image_0 18 rfl rfl)
theorem dX0_image_19 : decode cX0_image 19 = .ok (.getfield 21, 3) := dk_180 0 21 (dk_at dksX0_image_0 19 rfl rfl)
theorem dX0_image_22 : decode cX0_image 22 = .ok (.aastore, 1) := dk_83 (dk_at dksX0_image_0 22 rfl rfl)
theorem dX0_image_23 : decode cX0_image 23 = .ok (.aload_n 0, 1) := dk_42 (dk_at dksX0_image_0 23 rfl rfl)
theorem dX0_image_24 : decode cX0_image 24 = .ok (.getfield 90, 3) := dk_180 0 90 (dk_at dksX0_image_1 0 rfl rfl)
theorem dX0_image_27 : decode cX0_image 27 = .ok (.iload_n 1, 1) := dk_27 (dk_at dksX0_image_1 3 rfl rfl)
theorem dX0_image_28 : decode cX0_image 28 = .ok (.aaload, 1) := dk_50 (dk_at dksX0_image_1 4 rfl rfl)
theorem dX0_image_29 : decode cX0_image 29 = .ok (.aload_n 0, 1) := dk_42 (dk_at dksX0_image_1 5 rfl rfl)
theorem dX0_image_30 : decode cX0_image 30 = .ok (.getfield 30, 3) := dk_180 0 30 (dk_at dksX0_image_1 6 rfl rfl)
theorem dX0_image_33 : decode cX0_image 33 = .ok (.invokevirtual 183, 3) := dk_182 0 183 (dk_at dksX0_image_1 9 rfl rfl)
theorem dX0_image_36 : decode cX0_image 36 = .ok (.pop, 1) := dk_87 (dk_at dksX0_image_1 12 rfl rfl)
theorem dX0_image_37 : decode cX0_image 37 = .ok (.iconst 0, 1) := dk_3 (dk_at dksX0_image_1 13 rfl rfl)
theorem dX0_image_38 : decode cX0_image 38 = .ok (.ireturn, 1) := dk_172 (dk_at dksX0_image_1 14 rfl rfl)
abbrev cX0_restore : ByteArray := prog_1_method_86_code
def yX0_restore : MethodName := ⟨RX0, "restore", "(I)I"⟩
def dkwX0_restore_2 : List UInt8 := [87, 42, 3, 181, 0, 127, 3, 172]
abbrev dktX0_restore_2 : List UInt8 := dkwX0_restore_2 ++ []
def dkwX0_restore_1 : List UInt8 := [172, 42, 42, 180, 0, 86, 27, 50, 181, 0, 21, 42, 180, 0, 30, 42, 180, 0, 90, 27, 50, 182, 0, 183]
abbrev dktX0_restore_1 : List UInt8 := dkwX0_restore_1 ++ dktX0_restore_2
def dkwX0_restore_0 : List UInt8 := [27, 133, 9, 10, 184, 0, 103, 154, 0, 6, 16, 254, 172, 42, 180, 0, 86, 27, 50, 199, 0, 6, 16, 251]
abbrev dktX0_restore_0 : List UInt8 := dkwX0_restore_0 ++ dktX0_restore_1
theorem dksX0_restore_0 : cX0_restore.data.toList.drop 0 = dktX0_restore_0 := by decide +kernel
theorem dksX0_restore_1 : cX0_restore.data.toList.drop 24 = dktX0_restore_1 := dk_seg dksX0_restore_0 24 rfl rfl
theorem dksX0_restore_2 : cX0_restore.data.toList.drop 48 = dktX0_restore_2 := dk_seg dksX0_restore_1 24 rfl rfl
theorem dX0_restore_0 : decode cX0_restore 0 = .ok (.iload_n 1, 1) := dk_27 (dk_at dksX0_restore_0 0 rfl rfl)
theorem dX0_restore_1 : decode cX0_restore 1 = .ok (.i2l, 1) := dk_133 (dk_at dksX0_restore_0 1 rfl rfl)
theorem dX0_restore_2 : decode cX0_restore 2 = .ok (.lconst 0, 1) := dk_9 (dk_at dksX0_restore_0 2 rfl rfl)
theorem dX0_restore_3 : decode cX0_restore 3 = .ok (.lconst 1, 1) := dk_10 (dk_at dksX0_restore_0 3 rfl rfl)
theorem dX0_restore_4 : decode cX0_restore 4 = .ok (.invokestatic 103, 3) := dk_184 0 103 (dk_at dksX0_restore_0 4 rfl rfl)
theorem dX0_restore_7 : decode cX0_restore 7 = .ok (.ifCond .ne 6, 3) := dk_154 0 6 (dk_at dksX0_restore_0 7 rfl rfl)
theorem dX0_restore_10 : decode cX0_restore 10 = .ok (.bipush (-2), 2) := dk_16 254 (dk_at dksX0_restore_0 10 rfl rfl)
theorem dX0_restore_12 : decode cX0_restore 12 = .ok (.ireturn, 1) := dk_172 (dk_at dksX0_restore_0 12 rfl rfl)
theorem dX0_restore_13 : decode cX0_restore 13 = .ok (.aload_n 0, 1) := dk_42 (dk_at dksX0_restore_0 13 rfl rfl)
theorem dX0_restore_14 : decode cX0_restore 14 = .ok (.getfield 86, 3) := dk_180 0 86 (dk_at dksX0_restore_0 14 rfl rfl)
theorem dX0_restore_17 : decode cX0_restore 17 = .ok (.iload_n 1, 1) := dk_27 (dk_at dksX0_restore_0 17 rfl rfl)
theorem dX0_restore_18 : decode cX0_restore 18 = .ok (.aaload, 1) := dk_50 (dk_at dksX0_restore_0 18 rfl rfl)
theorem dX0_restore_19 : decode cX0_restore 19 = .ok (.ifnonnull 6, 3) := dk_199 0 6 (dk_at dksX0_restore_0 19 rfl rfl)
theorem dX0_restore_22 : decode cX0_restore 22 = .ok (.bipush (-5), 2) := dk_16 251 (dk_at dksX0_restore_0 22 rfl rfl)
theorem dX0_restore_24 : decode cX0_restore 24 = .ok (.ireturn, 1) := dk_172 (dk_at dksX0_restore_1 0 rfl rfl)
theorem dX0_restore_25 : decode cX0_restore 25 = .ok (.aload_n 0, 1) := dk_42 (dk_at dksX0_restore_1 1 rfl rfl)
theorem dX0_restore_26 : decode cX0_restore 26 = .ok (.aload_n 0, 1) := dk_42 (dk_at dksX0_restore_1 2 rfl rfl)
theorem dX0_restore_27 : decode cX0_restore 27 = .ok (.getfield 86, 3) := dk_180 0 86 (dk_at dksX0_restore_1 3 rfl rfl)
theorem dX0_restore_30 : decode cX0_restore 30 = .ok (.iload_n 1, 1) := dk_27 (dk_at dksX0_restore_1 6 rfl rfl)
theorem dX0_restore_31 : decode cX0_restore 31 = .ok (.aaload, 1) := dk_50 (dk_at dksX0_restore_1 7 rfl rfl)
theorem dX0_restore_32 : decode cX0_restore 32 = .ok (.putfield 21, 3) := dk_181 0 21 (dk_at dksX0_restore_1 8 rfl rfl)
theorem dX0_restore_35 : decode cX0_restore 35 = .ok (.aload_n 0, 1) := dk_42 (dk_at dksX0_restore_1 11 rfl rfl)
theorem dX0_restore_36 : decode cX0_restore 36 = .ok (.getfield 30, 3) := dk_180 0 30 (dk_at dksX0_restore_1 12 rfl rfl)
theorem dX0_restore_39 : decode cX0_restore 39 = .ok (.aload_n 0, 1) := dk_42 (dk_at dksX0_restore_1 15 rfl rfl)
theorem dX0_restore_40 : decode cX0_restore 40 = .ok (.getfield 90, 3) := dk_180 0 90 (dk_at dksX0_restore_1 16 rfl rfl)
theorem dX0_restore_43 : decode cX0_restore 43 = .ok (.iload_n 1, 1) := dk_27 (dk_at dksX0_restore_1 19 rfl rfl)
theorem dX0_restore_44 : decode cX0_restore 44 = .ok (.aaload, 1) := dk_50 (dk_at dksX0_restore_1 20 rfl rfl)
theorem dX0_restore_45 : decode cX0_restore 45 = .ok (.invokevirtual 183, 3) := dk_182 0 183 (dk_at dksX0_restore_1 21 rfl rfl)
theorem dX0_restore_48 : decode cX0_restore 48 = .ok (.pop, 1) := dk_87 (dk_at dksX0_restore_2 0 rfl rfl)
theorem dX0_restore_49 : decode cX0_restore 49 = .ok (.aload_n 0, 1) := dk_42 (dk_at dksX0_restore_2 1 rfl rfl)
theorem dX0_restore_50 : decode cX0_restore 50 = .ok (.iconst 0, 1) := dk_3 (dk_at dksX0_restore_2 2 rfl rfl)
theorem dX0_restore_51 : decode cX0_restore 51 = .ok (.putfield 127, 3) := dk_181 0 127 (dk_at dksX0_restore_2 3 rfl rfl)
theorem dX0_restore_54 : decode cX0_restore 54 = .ok (.iconst 0, 1) := dk_3 (dk_at dksX0_restore_2 6 rfl rfl)
theorem dX0_restore_55 : decode cX0_restore 55 = .ok (.ireturn, 1) := dk_172 (dk_at dksX0_restore_2 7 rfl rfl)
abbrev cX0_count : ByteArray := prog_1_method_87_code
def yX0_count : MethodName := ⟨RX0, "count", "(I)I"⟩
def dkwX0_count_5 : List UInt8 := [172, 42, 180, 0, 21, 180, 0, 130, 172, 2, 172]
abbrev dktX0_count_5 : List UInt8 := dkwX0_count_5 ++ []
def dkwX0_count_4 : List UInt8 := [180, 0, 30, 180, 0, 210, 172, 42, 180, 0, 30, 180, 1, 135, 172, 42, 180, 0, 127, 172, 42, 180, 0, 96]
abbrev dktX0_count_4 : List UInt8 := dkwX0_count_4 ++ dktX0_count_5
def dkwX0_count_3 : List UInt8 := [184, 0, 177, 172, 42, 180, 0, 30, 180, 0, 170, 184, 0, 9, 172, 42, 180, 0, 30, 180, 0, 163, 172, 42]
abbrev dktX0_count_3 : List UInt8 := dkwX0_count_3 ++ dktX0_count_4
def dkwX0_count_2 : List UInt8 := [42, 180, 0, 21, 180, 0, 136, 172, 42, 180, 0, 21, 180, 0, 133, 172, 42, 180, 0, 30, 180, 0, 170]
abbrev dktX0_count_2 : List UInt8 := dkwX0_count_2 ++ dktX0_count_3
def dkwX0_count_1 : List UInt8 := [170, 0, 0, 0, 0, 0, 135, 0, 0, 0, 0, 0, 0, 0, 9, 0, 0, 0, 55, 0, 0, 0, 63, 0, 0, 0, 71, 0, 0, 0, 82, 0, 0, 0, 93, 0, 0, 0, 101, 0, 0, 0, 109, 0, 0, 0, 117, 0, 0, 0, 122, 0, 0, 0, 127]
abbrev dktX0_count_1 : List UInt8 := dkwX0_count_1 ++ dktX0_count_2
def dkwX0_count_0 : List UInt8 := [27]
abbrev dktX0_count_0 : List UInt8 := dkwX0_count_0 ++ dktX0_count_1
theorem dksX0_count_0 : cX0_count.data.toList.drop 0 = dktX0_count_0 := by decide +kernel
theorem dksX0_count_1 : cX0_count.data.toList.drop 1 = dktX0_count_1 := dk_seg dksX0_count_0 1 rfl rfl
theorem dksX0_count_2 : cX0_count.data.toList.drop 56 = dktX0_count_2 := dk_seg dksX0_count_1 55 rfl rfl
theorem dksX0_count_3 : cX0_count.data.toList.drop 79 = dktX0_count_3 := dk_seg dksX0_count_2 23 rfl rfl
theorem dksX0_count_4 : cX0_count.data.toList.drop 103 = dktX0_count_4 := dk_seg dksX0_count_3 24 rfl rfl
theorem dksX0_count_5 : cX0_count.data.toList.drop 127 = dktX0_count_5 := dk_seg dksX0_count_4 24 rfl rfl
theorem dX0_count_0 : decode cX0_count 0 = .ok (.iload_n 1, 1) := dk_27 (dk_at dksX0_count_0 0 rfl rfl)
theorem dX0_count_1 : decode cX0_count 1 = .ok (.tableswitch 135 0 9 #[55, 63, 71, 82, 93, 101, 109, 117, 122, 127], 55) := by decide +kernel
theorem dX0_count_56 : decode cX0_count 56 = .ok (.aload_n 0, 1) := dk_42 (dk_at dksX0_count_2 0 rfl rfl)
theorem dX0_count_57 : decode cX0_count 57 = .ok (.getfield 21, 3) := dk_180 0 21 (dk_at dksX0_count_2 1 rfl rfl)
theorem dX0_count_60 : decode cX0_count 60 = .ok (.getfield 136, 3) := dk_180 0 136 (dk_at dksX0_count_2 4 rfl rfl)
theorem dX0_count_63 : decode cX0_count 63 = .ok (.ireturn, 1) := dk_172 (dk_at dksX0_count_2 7 rfl rfl)
theorem dX0_count_64 : decode cX0_count 64 = .ok (.aload_n 0, 1) := dk_42 (dk_at dksX0_count_2 8 rfl rfl)
theorem dX0_count_65 : decode cX0_count 65 = .ok (.getfield 21, 3) := dk_180 0 21 (dk_at dksX0_count_2 9 rfl rfl)
theorem dX0_count_68 : decode cX0_count 68 = .ok (.getfield 133, 3) := dk_180 0 133 (dk_at dksX0_count_2 12 rfl rfl)
theorem dX0_count_71 : decode cX0_count 71 = .ok (.ireturn, 1) := dk_172 (dk_at dksX0_count_2 15 rfl rfl)
theorem dX0_count_72 : decode cX0_count 72 = .ok (.aload_n 0, 1) := dk_42 (dk_at dksX0_count_2 16 rfl rfl)
theorem dX0_count_73 : decode cX0_count 73 = .ok (.getfield 30, 3) := dk_180 0 30 (dk_at dksX0_count_2 17 rfl rfl)
theorem dX0_count_76 : decode cX0_count 76 = .ok (.getfield 170, 3) := dk_180 0 170 (dk_at dksX0_count_2 20 rfl rfl)
theorem dX0_count_79 : decode cX0_count 79 = .ok (.invokestatic 177, 3) := dk_184 0 177 (dk_at dksX0_count_3 0 rfl rfl)
theorem dX0_count_82 : decode cX0_count 82 = .ok (.ireturn, 1) := dk_172 (dk_at dksX0_count_3 3 rfl rfl)
theorem dX0_count_83 : decode cX0_count 83 = .ok (.aload_n 0, 1) := dk_42 (dk_at dksX0_count_3 4 rfl rfl)
theorem dX0_count_84 : decode cX0_count 84 = .ok (.getfield 30, 3) := dk_180 0 30 (dk_at dksX0_count_3 5 rfl rfl)
theorem dX0_count_87 : decode cX0_count 87 = .ok (.getfield 170, 3) := dk_180 0 170 (dk_at dksX0_count_3 8 rfl rfl)
theorem dX0_count_90 : decode cX0_count 90 = .ok (.invokestatic 9, 3) := dk_184 0 9 (dk_at dksX0_count_3 11 rfl rfl)
theorem dX0_count_93 : decode cX0_count 93 = .ok (.ireturn, 1) := dk_172 (dk_at dksX0_count_3 14 rfl rfl)
theorem dX0_count_94 : decode cX0_count 94 = .ok (.aload_n 0, 1) := dk_42 (dk_at dksX0_count_3 15 rfl rfl)
theorem dX0_count_95 : decode cX0_count 95 = .ok (.getfield 30, 3) := dk_180 0 30 (dk_at dksX0_count_3 16 rfl rfl)
theorem dX0_count_98 : decode cX0_count 98 = .ok (.getfield 163, 3) := dk_180 0 163 (dk_at dksX0_count_3 19 rfl rfl)
theorem dX0_count_101 : decode cX0_count 101 = .ok (.ireturn, 1) := dk_172 (dk_at dksX0_count_3 22 rfl rfl)
theorem dX0_count_102 : decode cX0_count 102 = .ok (.aload_n 0, 1) := dk_42 (dk_at dksX0_count_3 23 rfl rfl)
theorem dX0_count_103 : decode cX0_count 103 = .ok (.getfield 30, 3) := dk_180 0 30 (dk_at dksX0_count_4 0 rfl rfl)
theorem dX0_count_106 : decode cX0_count 106 = .ok (.getfield 210, 3) := dk_180 0 210 (dk_at dksX0_count_4 3 rfl rfl)
theorem dX0_count_109 : decode cX0_count 109 = .ok (.ireturn, 1) := dk_172 (dk_at dksX0_count_4 6 rfl rfl)
theorem dX0_count_110 : decode cX0_count 110 = .ok (.aload_n 0, 1) := dk_42 (dk_at dksX0_count_4 7 rfl rfl)
theorem dX0_count_111 : decode cX0_count 111 = .ok (.getfield 30, 3) := dk_180 0 30 (dk_at dksX0_count_4 8 rfl rfl)
theorem dX0_count_114 : decode cX0_count 114 = .ok (.getfield 391, 3) := dk_180 1 135 (dk_at dksX0_count_4 11 rfl rfl)
theorem dX0_count_117 : decode cX0_count 117 = .ok (.ireturn, 1) := dk_172 (dk_at dksX0_count_4 14 rfl rfl)
theorem dX0_count_118 : decode cX0_count 118 = .ok (.aload_n 0, 1) := dk_42 (dk_at dksX0_count_4 15 rfl rfl)
theorem dX0_count_119 : decode cX0_count 119 = .ok (.getfield 127, 3) := dk_180 0 127 (dk_at dksX0_count_4 16 rfl rfl)
theorem dX0_count_122 : decode cX0_count 122 = .ok (.ireturn, 1) := dk_172 (dk_at dksX0_count_4 19 rfl rfl)
theorem dX0_count_123 : decode cX0_count 123 = .ok (.aload_n 0, 1) := dk_42 (dk_at dksX0_count_4 20 rfl rfl)
theorem dX0_count_124 : decode cX0_count 124 = .ok (.getfield 96, 3) := dk_180 0 96 (dk_at dksX0_count_4 21 rfl rfl)
theorem dX0_count_127 : decode cX0_count 127 = .ok (.ireturn, 1) := dk_172 (dk_at dksX0_count_5 0 rfl rfl)
theorem dX0_count_128 : decode cX0_count 128 = .ok (.aload_n 0, 1) := dk_42 (dk_at dksX0_count_5 1 rfl rfl)
theorem dX0_count_129 : decode cX0_count 129 = .ok (.getfield 21, 3) := dk_180 0 21 (dk_at dksX0_count_5 2 rfl rfl)
theorem dX0_count_132 : decode cX0_count 132 = .ok (.getfield 130, 3) := dk_180 0 130 (dk_at dksX0_count_5 5 rfl rfl)
theorem dX0_count_135 : decode cX0_count 135 = .ok (.ireturn, 1) := dk_172 (dk_at dksX0_count_5 8 rfl rfl)
theorem dX0_count_136 : decode cX0_count 136 = .ok (.iconst (-1), 1) := dk_2 (dk_at dksX0_count_5 9 rfl rfl)
theorem dX0_count_137 : decode cX0_count 137 = .ok (.ireturn, 1) := dk_172 (dk_at dksX0_count_5 10 rfl rfl)
theorem q134 : (Jvm.Cond.initialized "BackRescue") ∈ lw_all := lw_g (lw_at lw_m1 1 rfl) rfl
theorem q164 : (Jvm.Cond.instantiable "BackRescue" (24 : Nat)) ∈ lw_all := lw_g (lw_at lw_m1 31 rfl) rfl
theorem q166 : (Jvm.Cond.instanceMethod ({ cls := "BackRescue", name := "<init>", desc := "()V" } : Jvm.MethodName)) ∈ lw_all := lw_g (lw_at lw_m1 33 rfl) rfl
theorem q167 : (Jvm.Cond.code ({ cls := "BackRescue", name := "<init>", desc := "()V" } : Jvm.MethodName) prog_1_method_9_code (1 : Nat) (Option.none : Option Jvm.ClassFile.FieldType)) ∈ lw_all := lw_g (lw_at lw_m1 34 rfl) rfl
theorem q168 : (Jvm.Cond.methodLink "BackRescue" (12 : Nat) ({ cls := "java/lang/Object", name := "<init>", desc := "()V" } : Jvm.MethodName)) ∈ lw_all := lw_g (lw_at lw_m1 35 rfl) rfl
theorem q171 : (Jvm.Cond.classLink "BackRescue" (18 : Nat) "BackRescue$Cave") ∈ lw_all := lw_g (lw_at lw_m1 38 rfl) rfl
theorem q173 : (Jvm.Cond.methodLinkNest "BackRescue" (20 : Nat) ({ cls := "BackRescue$Cave", name := "<init>", desc := "()V" } : Jvm.MethodName) "BackRescue") ∈ lw_tbl := lw_at lw_m1 40 rfl
theorem q179 : (Jvm.Cond.fieldLinkNest "BackRescue" (143 : Nat) "BackRescue$Cave" "begin" "[I" "BackRescue") ∈ lw_tbl := lw_at lw_m1 46 rfl
theorem q183 : (Jvm.Cond.fieldLinkNest "BackRescue" (146 : Nat) "BackRescue$Cave" "end" "[I" "BackRescue") ∈ lw_tbl := lw_at lw_m1 50 rfl
theorem q186 : (Jvm.Cond.fieldLinkNest "BackRescue" (149 : Nat) "BackRescue$Cave" "drop" "[I" "BackRescue") ∈ lw_tbl := lw_at lw_m1 53 rfl
theorem q192 : (Jvm.Cond.fieldLinkNest "BackRescue" (136 : Nat) "BackRescue$Cave" "rooms" "I" "BackRescue") ∈ lw_tbl := lw_at lw_m1 59 rfl
theorem q194 : (Jvm.Cond.fieldLinkNest "BackRescue" (133 : Nat) "BackRescue$Cave" "passages" "I" "BackRescue") ∈ lw_tbl := lw_at lw_m1 61 rfl
theorem q197 : (Jvm.Cond.fieldLinkNest "BackRescue" (152 : Nat) "BackRescue$Cave" "twoWays" "I" "BackRescue") ∈ lw_tbl := lw_at lw_m1 64 rfl
theorem q208 : (Jvm.Cond.fieldLinkNest "BackRescue" (345 : Nat) "BackRescue$Cave" "falls" "I" "BackRescue") ∈ lw_tbl := lw_at lw_m1 75 rfl
theorem q209 : (Jvm.Cond.fieldLinkNest "BackRescue" (130 : Nat) "BackRescue$Cave" "lines" "I" "BackRescue") ∈ lw_tbl := lw_at lw_m1 76 rfl
theorem q247 : (Jvm.Cond.classLink "BackRescue" (25 : Nat) "BackRescue$State") ∈ lw_all := lw_g (lw_at lw_m1 114 rfl) rfl
theorem q249 : (Jvm.Cond.methodLinkNest "BackRescue" (27 : Nat) ({ cls := "BackRescue$State", name := "<init>", desc := "(LBackRescue;)V" } : Jvm.MethodName) "BackRescue") ∈ lw_tbl := lw_at lw_m1 116 rfl
theorem q254 : (Jvm.Cond.fieldLinkNest "BackRescue" (170 : Nat) "BackRescue$State" "stand" "I" "BackRescue") ∈ lw_tbl := lw_at lw_m1 121 rfl
theorem q256 : (Jvm.Cond.fieldLinkNest "BackRescue" (163 : Nat) "BackRescue$State" "roped" "I" "BackRescue") ∈ lw_tbl := lw_at lw_m1 123 rfl
theorem q258 : (Jvm.Cond.fieldLinkNest "BackRescue" (210 : Nat) "BackRescue$State" "slack" "I" "BackRescue") ∈ lw_tbl := lw_at lw_m1 125 rfl
theorem q260 : (Jvm.Cond.fieldLinkNest "BackRescue" (391 : Nat) "BackRescue$State" "steps" "I" "BackRescue") ∈ lw_tbl := lw_at lw_m1 127 rfl
theorem q274 : (Jvm.Cond.classLink "BackRescue" (79 : Nat) "BackRescue$Numbers") ∈ lw_all := lw_g (lw_at lw_m1 141 rfl) rfl
theorem q277 : (Jvm.Cond.methodLinkNest "BackRescue" (81 : Nat) ({ cls := "BackRescue$Numbers", name := "<init>", desc := "()V" } : Jvm.MethodName) "BackRescue") ∈ lw_tbl := lw_at lw_m1 144 rfl
theorem q282 : (Jvm.Cond.fieldLinkNest "BackRescue" (371 : Nat) "BackRescue$Numbers" "held" "Ljava/lang/Object;" "BackRescue") ∈ lw_tbl := lw_at lw_m1 149 rfl
theorem q290 : (Jvm.Cond.methodLink "BackRescue" (93 : Nat) ({ cls := "BackRescue$State", name := "begins", desc := "()V" } : Jvm.MethodName)) ∈ lw_all := lw_g (lw_at lw_m1 157 rfl) rfl
theorem q295 : (Jvm.Cond.static ({ cls := "BackRescue", name := "standOf", desc := "(II)I" } : Jvm.MethodName)) ∈ lw_all := lw_g (lw_at lw_m1 162 rfl) rfl
theorem q296 : (Jvm.Cond.code ({ cls := "BackRescue", name := "standOf", desc := "(II)I" } : Jvm.MethodName) prog_1_method_5_code (2 : Nat) (Option.some Jvm.ClassFile.FieldType.int)) ∈ lw_all := lw_g (lw_at lw_m1 163 rfl) rfl
theorem q298 : (Jvm.Cond.fieldLink "BackRescue" (21 : Nat) "BackRescue" "its" "LBackRescue$Cave;") ∈ lw_all := lw_g (lw_at lw_m1 165 rfl) rfl
theorem q299 : (Jvm.Cond.fieldLink "BackRescue" (30 : Nat) "BackRescue" "now" "LBackRescue$State;") ∈ lw_all := lw_g (lw_at lw_m1 166 rfl) rfl
theorem q300 : (Jvm.Cond.fieldLink "BackRescue" (34 : Nat) "BackRescue" "thought" "LBackRescue$State;") ∈ lw_all := lw_g (lw_at lw_m1 167 rfl) rfl
theorem q302 : (Jvm.Cond.fieldLink "BackRescue" (37 : Nat) "BackRescue" "tape" "[B") ∈ lw_all := lw_g (lw_at lw_m1 169 rfl) rfl
theorem q303 : (Jvm.Cond.fieldLink "BackRescue" (96 : Nat) "BackRescue" "taped" "I") ∈ lw_all := lw_g (lw_at lw_m1 170 rfl) rfl
theorem q304 : (Jvm.Cond.fieldLink "BackRescue" (118 : Nat) "BackRescue" "faultKind" "I") ∈ lw_all := lw_g (lw_at lw_m1 171 rfl) rfl
theorem q305 : (Jvm.Cond.fieldLink "BackRescue" (41 : Nat) "BackRescue" "faultPlace" "I") ∈ lw_all := lw_g (lw_at lw_m1 172 rfl) rfl
theorem q306 : (Jvm.Cond.fieldLink "BackRescue" (45 : Nat) "BackRescue" "undos" "[LBackRescue$State;") ∈ lw_all := lw_g (lw_at lw_m1 173 rfl) rfl
theorem q307 : (Jvm.Cond.fieldLink "BackRescue" (127 : Nat) "BackRescue" "undoMany" "I") ∈ lw_all := lw_g (lw_at lw_m1 174 rfl) rfl
theorem q308 : (Jvm.Cond.fieldLink "BackRescue" (180 : Nat) "BackRescue" "undoAt" "I") ∈ lw_all := lw_g (lw_at lw_m1 175 rfl) rfl
theorem q309 : (Jvm.Cond.fieldLink "BackRescue" (233 : Nat) "BackRescue" "x" "I") ∈ lw_all := lw_g (lw_at lw_m1 176 rfl) rfl
theorem q310 : (Jvm.Cond.fieldLink "BackRescue" (49 : Nat) "BackRescue" "next" "[I") ∈ lw_all := lw_g (lw_at lw_m1 177 rfl) rfl
theorem q311 : (Jvm.Cond.fieldLink "BackRescue" (53 : Nat) "BackRescue" "far" "[I") ∈ lw_all := lw_g (lw_at lw_m1 178 rfl) rfl
theorem q312 : (Jvm.Cond.fieldLink "BackRescue" (56 : Nat) "BackRescue" "path" "[I") ∈ lw_all := lw_g (lw_at lw_m1 179 rfl) rfl
theorem q313 : (Jvm.Cond.fieldLink "BackRescue" (256 : Nat) "BackRescue" "pathMany" "I") ∈ lw_all := lw_g (lw_at lw_m1 180 rfl) rfl
theorem q314 : (Jvm.Cond.fieldLink "BackRescue" (59 : Nat) "BackRescue" "isMet" "[Z") ∈ lw_all := lw_g (lw_at lw_m1 181 rfl) rfl
theorem q315 : (Jvm.Cond.fieldLink "BackRescue" (63 : Nat) "BackRescue" "onward" "[J") ∈ lw_all := lw_g (lw_at lw_m1 182 rfl) rfl
theorem q316 : (Jvm.Cond.fieldLink "BackRescue" (67 : Nat) "BackRescue" "many" "[J") ∈ lw_all := lw_g (lw_at lw_m1 183 rfl) rfl
theorem q317 : (Jvm.Cond.fieldLink "BackRescue" (70 : Nat) "BackRescue" "like" "[I") ∈ lw_all := lw_g (lw_at lw_m1 184 rfl) rfl
theorem q318 : (Jvm.Cond.fieldLink "BackRescue" (73 : Nat) "BackRescue" "wins" "[Z") ∈ lw_all := lw_g (lw_at lw_m1 185 rfl) rfl
theorem q319 : (Jvm.Cond.fieldLink "BackRescue" (76 : Nat) "BackRescue" "chances" "[I") ∈ lw_all := lw_g (lw_at lw_m1 186 rfl) rfl
theorem q320 : (Jvm.Cond.fieldLink "BackRescue" (82 : Nat) "BackRescue" "trays" "[LBackRescue$Numbers;") ∈ lw_all := lw_g (lw_at lw_m1 187 rfl) rfl
theorem q321 : (Jvm.Cond.fieldLink "BackRescue" (86 : Nat) "BackRescue" "caves" "[LBackRescue$Cave;") ∈ lw_all := lw_g (lw_at lw_m1 188 rfl) rfl
theorem q322 : (Jvm.Cond.fieldLink "BackRescue" (90 : Nat) "BackRescue" "states" "[LBackRescue$State;") ∈ lw_all := lw_g (lw_at lw_m1 189 rfl) rfl
theorem q323 : (Jvm.Cond.lays "BackRescue" "BackRescue" "its" "LBackRescue$Cave;") ∈ lw_all := lw_g (lw_at lw_m1 190 rfl) rfl
theorem q324 : (Jvm.Cond.soleField "BackRescue" "its") ∈ lw_all := lw_g (lw_at lw_m1 191 rfl) rfl
theorem q325 : (Jvm.Cond.laysFinal "BackRescue" "BackRescue" "now" "LBackRescue$State;") ∈ lw_all := lw_g (lw_at lw_m1 192 rfl) rfl
theorem q326 : (Jvm.Cond.soleField "BackRescue" "now") ∈ lw_all := lw_g (lw_at lw_m1 193 rfl) rfl
theorem q327 : (Jvm.Cond.laysFinal "BackRescue" "BackRescue" "thought" "LBackRescue$State;") ∈ lw_all := lw_g (lw_at lw_m1 194 rfl) rfl
theorem q328 : (Jvm.Cond.soleField "BackRescue" "thought") ∈ lw_all := lw_g (lw_at lw_m1 195 rfl) rfl
theorem q329 : (Jvm.Cond.laysFinal "BackRescue" "BackRescue" "tape" "[B") ∈ lw_all := lw_g (lw_at lw_m1 196 rfl) rfl
theorem q330 : (Jvm.Cond.soleField "BackRescue" "tape") ∈ lw_all := lw_g (lw_at lw_m1 197 rfl) rfl
theorem q331 : (Jvm.Cond.lays "BackRescue" "BackRescue" "taped" "I") ∈ lw_all := lw_g (lw_at lw_m1 198 rfl) rfl
theorem q332 : (Jvm.Cond.soleField "BackRescue" "taped") ∈ lw_all := lw_g (lw_at lw_m1 199 rfl) rfl
theorem q333 : (Jvm.Cond.lays "BackRescue" "BackRescue" "faultKind" "I") ∈ lw_all := lw_g (lw_at lw_m1 200 rfl) rfl
theorem q334 : (Jvm.Cond.soleField "BackRescue" "faultKind") ∈ lw_all := lw_g (lw_at lw_m1 201 rfl) rfl
theorem q335 : (Jvm.Cond.lays "BackRescue" "BackRescue" "faultPlace" "I") ∈ lw_all := lw_g (lw_at lw_m1 202 rfl) rfl
theorem q336 : (Jvm.Cond.soleField "BackRescue" "faultPlace") ∈ lw_all := lw_g (lw_at lw_m1 203 rfl) rfl
theorem q337 : (Jvm.Cond.laysFinal "BackRescue" "BackRescue" "undos" "[LBackRescue$State;") ∈ lw_all := lw_g (lw_at lw_m1 204 rfl) rfl
theorem q338 : (Jvm.Cond.soleField "BackRescue" "undos") ∈ lw_all := lw_g (lw_at lw_m1 205 rfl) rfl
theorem q339 : (Jvm.Cond.lays "BackRescue" "BackRescue" "undoMany" "I") ∈ lw_all := lw_g (lw_at lw_m1 206 rfl) rfl
theorem q340 : (Jvm.Cond.soleField "BackRescue" "undoMany") ∈ lw_all := lw_g (lw_at lw_m1 207 rfl) rfl
theorem q341 : (Jvm.Cond.lays "BackRescue" "BackRescue" "undoAt" "I") ∈ lw_all := lw_g (lw_at lw_m1 208 rfl) rfl
theorem q342 : (Jvm.Cond.soleField "BackRescue" "undoAt") ∈ lw_all := lw_g (lw_at lw_m1 209 rfl) rfl
theorem q343 : (Jvm.Cond.lays "BackRescue" "BackRescue" "x" "I") ∈ lw_all := lw_g (lw_at lw_m1 210 rfl) rfl
theorem q344 : (Jvm.Cond.soleField "BackRescue" "x") ∈ lw_all := lw_g (lw_at lw_m1 211 rfl) rfl
theorem q345 : (Jvm.Cond.laysFinal "BackRescue" "BackRescue" "next" "[I") ∈ lw_all := lw_g (lw_at lw_m1 212 rfl) rfl
theorem q346 : (Jvm.Cond.soleField "BackRescue" "next") ∈ lw_all := lw_g (lw_at lw_m1 213 rfl) rfl
theorem q347 : (Jvm.Cond.laysFinal "BackRescue" "BackRescue" "far" "[I") ∈ lw_all := lw_g (lw_at lw_m1 214 rfl) rfl
theorem q348 : (Jvm.Cond.soleField "BackRescue" "far") ∈ lw_all := lw_g (lw_at lw_m1 215 rfl) rfl
theorem q349 : (Jvm.Cond.laysFinal "BackRescue" "BackRescue" "path" "[I") ∈ lw_all := lw_g (lw_at lw_m1 216 rfl) rfl
theorem q350 : (Jvm.Cond.soleField "BackRescue" "path") ∈ lw_all := lw_g (lw_at lw_m1 217 rfl) rfl
theorem q351 : (Jvm.Cond.lays "BackRescue" "BackRescue" "pathMany" "I") ∈ lw_all := lw_g (lw_at lw_m1 218 rfl) rfl
theorem q352 : (Jvm.Cond.soleField "BackRescue" "pathMany") ∈ lw_all := lw_g (lw_at lw_m1 219 rfl) rfl
theorem q353 : (Jvm.Cond.laysFinal "BackRescue" "BackRescue" "isMet" "[Z") ∈ lw_all := lw_g (lw_at lw_m1 220 rfl) rfl
theorem q354 : (Jvm.Cond.soleField "BackRescue" "isMet") ∈ lw_all := lw_g (lw_at lw_m1 221 rfl) rfl
theorem q355 : (Jvm.Cond.laysFinal "BackRescue" "BackRescue" "onward" "[J") ∈ lw_all := lw_g (lw_at lw_m1 222 rfl) rfl
theorem q356 : (Jvm.Cond.soleField "BackRescue" "onward") ∈ lw_all := lw_g (lw_at lw_m1 223 rfl) rfl
theorem q357 : (Jvm.Cond.laysFinal "BackRescue" "BackRescue" "many" "[J") ∈ lw_all := lw_g (lw_at lw_m1 224 rfl) rfl
theorem q358 : (Jvm.Cond.soleField "BackRescue" "many") ∈ lw_all := lw_g (lw_at lw_m1 225 rfl) rfl
theorem q359 : (Jvm.Cond.laysFinal "BackRescue" "BackRescue" "like" "[I") ∈ lw_all := lw_g (lw_at lw_m1 226 rfl) rfl
theorem q360 : (Jvm.Cond.soleField "BackRescue" "like") ∈ lw_all := lw_g (lw_at lw_m1 227 rfl) rfl
theorem q361 : (Jvm.Cond.laysFinal "BackRescue" "BackRescue" "wins" "[Z") ∈ lw_all := lw_g (lw_at lw_m1 228 rfl) rfl
theorem q362 : (Jvm.Cond.soleField "BackRescue" "wins") ∈ lw_all := lw_g (lw_at lw_m1 229 rfl) rfl
theorem q363 : (Jvm.Cond.laysFinal "BackRescue" "BackRescue" "chances" "[I") ∈ lw_all := lw_g (lw_at lw_m1 230 rfl) rfl
theorem q364 : (Jvm.Cond.soleField "BackRescue" "chances") ∈ lw_all := lw_g (lw_at lw_m1 231 rfl) rfl
theorem q365 : (Jvm.Cond.laysFinal "BackRescue" "BackRescue" "trays" "[LBackRescue$Numbers;") ∈ lw_all := lw_g (lw_at lw_m1 232 rfl) rfl
theorem q366 : (Jvm.Cond.soleField "BackRescue" "trays") ∈ lw_all := lw_g (lw_at lw_m1 233 rfl) rfl
theorem q367 : (Jvm.Cond.laysFinal "BackRescue" "BackRescue" "caves" "[LBackRescue$Cave;") ∈ lw_all := lw_g (lw_at lw_m1 234 rfl) rfl
theorem q368 : (Jvm.Cond.soleField "BackRescue" "caves") ∈ lw_all := lw_g (lw_at lw_m1 235 rfl) rfl
theorem q369 : (Jvm.Cond.laysFinal "BackRescue" "BackRescue" "states" "[LBackRescue$State;") ∈ lw_all := lw_g (lw_at lw_m1 236 rfl) rfl
theorem q370 : (Jvm.Cond.soleField "BackRescue" "states") ∈ lw_all := lw_g (lw_at lw_m1 237 rfl) rfl
theorem q371 : (Jvm.Cond.superclass "BackRescue" "java/lang/Object") ∈ lw_all := lw_g (lw_at lw_m1 238 rfl) rfl
theorem q373 : (Jvm.Cond.instanceMethod ({ cls := "BackRescue", name := "feed", desc := "(IIIII)I" } : Jvm.MethodName)) ∈ lw_all := lw_g (lw_at lw_m2 0 rfl) rfl
theorem q374 : (Jvm.Cond.selects "BackRescue" ({ cls := "BackRescue", name := "feed", desc := "(IIIII)I" } : Jvm.MethodName) ({ cls := "BackRescue", name := "feed", desc := "(IIIII)I" } : Jvm.MethodName)) ∈ lw_all := lw_g (lw_at lw_m2 1 rfl) rfl
theorem q375 : (Jvm.Cond.code ({ cls := "BackRescue", name := "feed", desc := "(IIIII)I" } : Jvm.MethodName) prog_1_method_10_code (6 : Nat) (Option.some Jvm.ClassFile.FieldType.int)) ∈ lw_all := lw_g (lw_at lw_m2 2 rfl) rfl
theorem q376 : (Jvm.Cond.methodLink "BackRescue" (99 : Nat) ({ cls := "BackRescue", name := "bytes", desc := "(I)V" } : Jvm.MethodName)) ∈ lw_all := lw_g (lw_at lw_m2 3 rfl) rfl
theorem q377 : (Jvm.Cond.privateMethod ({ cls := "BackRescue", name := "bytes", desc := "(I)V" } : Jvm.MethodName)) ∈ lw_tbl := lw_at lw_m2 4 rfl
theorem q378 : (Jvm.Cond.instanceMethod ({ cls := "BackRescue", name := "bytes", desc := "(I)V" } : Jvm.MethodName)) ∈ lw_all := lw_g (lw_at lw_m2 5 rfl) rfl
theorem q379 : (Jvm.Cond.code ({ cls := "BackRescue", name := "bytes", desc := "(I)V" } : Jvm.MethodName) prog_1_method_11_code (3 : Nat) (Option.none : Option Jvm.ClassFile.FieldType)) ∈ lw_all := lw_g (lw_at lw_m2 6 rfl) rfl
theorem q381 : (Jvm.Cond.instanceMethod ({ cls := "BackRescue", name := "cave", desc := "(I)I" } : Jvm.MethodName)) ∈ lw_all := lw_g (lw_at lw_m2 8 rfl) rfl
theorem q382 : (Jvm.Cond.selects "BackRescue" ({ cls := "BackRescue", name := "cave", desc := "(I)I" } : Jvm.MethodName) ({ cls := "BackRescue", name := "cave", desc := "(I)I" } : Jvm.MethodName)) ∈ lw_all := lw_g (lw_at lw_m2 9 rfl) rfl
theorem q383 : (Jvm.Cond.code ({ cls := "BackRescue", name := "cave", desc := "(I)I" } : Jvm.MethodName) prog_1_method_12_code (3 : Nat) (Option.some Jvm.ClassFile.FieldType.int)) ∈ lw_all := lw_g (lw_at lw_m2 10 rfl) rfl
theorem q384 : (Jvm.Cond.methodLink "BackRescue" (103 : Nat) ({ cls := "BackRescue", name := "in", desc := "(JJJ)Z" } : Jvm.MethodName)) ∈ lw_all := lw_g (lw_at lw_m2 11 rfl) rfl
theorem q385 : (Jvm.Cond.static ({ cls := "BackRescue", name := "in", desc := "(JJJ)Z" } : Jvm.MethodName)) ∈ lw_all := lw_g (lw_at lw_m2 12 rfl) rfl
theorem q386 : (Jvm.Cond.code ({ cls := "BackRescue", name := "in", desc := "(JJJ)Z" } : Jvm.MethodName) prog_1_method_1_code (6 : Nat) (Option.some Jvm.ClassFile.FieldType.boolean)) ∈ lw_all := lw_g (lw_at lw_m2 13 rfl) rfl
theorem q387 : (Jvm.Cond.classLink "BackRescue" (107 : Nat) "BackRescue$Reader") ∈ lw_all := lw_g (lw_at lw_m2 14 rfl) rfl
theorem q389 : (Jvm.Cond.methodLink "BackRescue" (109 : Nat) ({ cls := "BackRescue$Reader", name := "<init>", desc := "(LBackRescue;I)V" } : Jvm.MethodName)) ∈ lw_all := lw_g (lw_at lw_m2 16 rfl) rfl
theorem q397 : (Jvm.Cond.fieldLinkNest "BackRescue" (124 : Nat) "BackRescue$Reader" "made" "LBackRescue$Cave;" "BackRescue") ∈ lw_tbl := lw_at lw_m2 24 rfl
theorem q403 : (Jvm.Cond.fieldLinkNest "BackRescue" (115 : Nat) "BackRescue$Reader" "fault" "I" "BackRescue") ∈ lw_tbl := lw_at lw_m2 30 rfl
theorem q406 : (Jvm.Cond.fieldLinkNest "BackRescue" (121 : Nat) "BackRescue$Reader" "place" "I" "BackRescue") ∈ lw_tbl := lw_at lw_m2 33 rfl
theorem q432 : (Jvm.Cond.methodLink "BackRescue" (112 : Nat) ({ cls := "BackRescue$Reader", name := "read", desc := "()V" } : Jvm.MethodName)) ∈ lw_all := lw_g (lw_at lw_m2 59 rfl) rfl
theorem q783 : (Jvm.Cond.instanceMethod ({ cls := "BackRescue", name := "fault", desc := "(I)I" } : Jvm.MethodName)) ∈ lw_all := lw_g (lw_at lw_m3 170 rfl) rfl
theorem q784 : (Jvm.Cond.selects "BackRescue" ({ cls := "BackRescue", name := "fault", desc := "(I)I" } : Jvm.MethodName) ({ cls := "BackRescue", name := "fault", desc := "(I)I" } : Jvm.MethodName)) ∈ lw_all := lw_g (lw_at lw_m3 171 rfl) rfl
theorem q785 : (Jvm.Cond.code ({ cls := "BackRescue", name := "fault", desc := "(I)I" } : Jvm.MethodName) prog_1_method_13_code (2 : Nat) (Option.some Jvm.ClassFile.FieldType.int)) ∈ lw_all := lw_g (lw_at lw_m3 172 rfl) rfl
theorem q787 : (Jvm.Cond.instanceMethod ({ cls := "BackRescue", name := "passage", desc := "(II)I" } : Jvm.MethodName)) ∈ lw_all := lw_g (lw_at lw_m3 174 rfl) rfl
theorem q788 : (Jvm.Cond.selects "BackRescue" ({ cls := "BackRescue", name := "passage", desc := "(II)I" } : Jvm.MethodName) ({ cls := "BackRescue", name := "passage", desc := "(II)I" } : Jvm.MethodName)) ∈ lw_all := lw_g (lw_at lw_m3 175 rfl) rfl
theorem q789 : (Jvm.Cond.code ({ cls := "BackRescue", name := "passage", desc := "(II)I" } : Jvm.MethodName) prog_1_method_17_code (3 : Nat) (Option.some Jvm.ClassFile.FieldType.int)) ∈ lw_all := lw_g (lw_at lw_m3 176 rfl) rfl
theorem q790 : (Jvm.Cond.methodLink "BackRescue" (139 : Nat) ({ cls := "BackRescue", name := "isPassage", desc := "(J)Z" } : Jvm.MethodName)) ∈ lw_all := lw_g (lw_at lw_m3 177 rfl) rfl
theorem q791 : (Jvm.Cond.privateMethod ({ cls := "BackRescue", name := "isPassage", desc := "(J)Z" } : Jvm.MethodName)) ∈ lw_tbl := lw_at lw_m3 178 rfl
theorem q792 : (Jvm.Cond.instanceMethod ({ cls := "BackRescue", name := "isPassage", desc := "(J)Z" } : Jvm.MethodName)) ∈ lw_all := lw_g (lw_at lw_m3 179 rfl) rfl
theorem q793 : (Jvm.Cond.code ({ cls := "BackRescue", name := "isPassage", desc := "(J)Z" } : Jvm.MethodName) prog_1_method_14_code (3 : Nat) (Option.some Jvm.ClassFile.FieldType.boolean)) ∈ lw_all := lw_g (lw_at lw_m3 180 rfl) rfl
theorem q794 : (Jvm.Cond.methodLink "BackRescue" (155 : Nat) ({ cls := "BackRescue", name := "has", desc := "(II)Z" } : Jvm.MethodName)) ∈ lw_all := lw_g (lw_at lw_m3 181 rfl) rfl
theorem q795 : (Jvm.Cond.static ({ cls := "BackRescue", name := "has", desc := "(II)Z" } : Jvm.MethodName)) ∈ lw_all := lw_g (lw_at lw_m3 182 rfl) rfl
theorem q796 : (Jvm.Cond.code ({ cls := "BackRescue", name := "has", desc := "(II)Z" } : Jvm.MethodName) prog_1_method_2_code (2 : Nat) (Option.some Jvm.ClassFile.FieldType.boolean)) ∈ lw_all := lw_g (lw_at lw_m3 183 rfl) rfl
theorem q797 : (Jvm.Cond.methodLink "BackRescue" (159 : Nat) ({ cls := "BackRescue", name := "one", desc := "(Z)I" } : Jvm.MethodName)) ∈ lw_all := lw_g (lw_at lw_m3 184 rfl) rfl
theorem q798 : (Jvm.Cond.static ({ cls := "BackRescue", name := "one", desc := "(Z)I" } : Jvm.MethodName)) ∈ lw_all := lw_g (lw_at lw_m3 185 rfl) rfl
theorem q799 : (Jvm.Cond.code ({ cls := "BackRescue", name := "one", desc := "(Z)I" } : Jvm.MethodName) prog_1_method_3_code (1 : Nat) (Option.some Jvm.ClassFile.FieldType.int)) ∈ lw_all := lw_g (lw_at lw_m3 186 rfl) rfl
theorem q801 : (Jvm.Cond.instanceMethod ({ cls := "BackRescue", name := "why", desc := "(I)I" } : Jvm.MethodName)) ∈ lw_all := lw_g (lw_at lw_m3 188 rfl) rfl
theorem q802 : (Jvm.Cond.selects "BackRescue" ({ cls := "BackRescue", name := "why", desc := "(I)I" } : Jvm.MethodName) ({ cls := "BackRescue", name := "why", desc := "(I)I" } : Jvm.MethodName)) ∈ lw_all := lw_g (lw_at lw_m3 189 rfl) rfl
theorem q803 : (Jvm.Cond.code ({ cls := "BackRescue", name := "why", desc := "(I)I" } : Jvm.MethodName) prog_1_method_18_code (2 : Nat) (Option.some Jvm.ClassFile.FieldType.int)) ∈ lw_all := lw_g (lw_at lw_m3 190 rfl) rfl
theorem q804 : (Jvm.Cond.methodLink "BackRescue" (166 : Nat) ({ cls := "BackRescue$State", name := "whyGo", desc := "(J)I" } : Jvm.MethodName)) ∈ lw_all := lw_g (lw_at lw_m3 191 rfl) rfl
theorem q822 : (Jvm.Cond.static ({ cls := "BackRescue", name := "roomOf", desc := "(I)I" } : Jvm.MethodName)) ∈ lw_all := lw_g (lw_at lw_m3 209 rfl) rfl
theorem q823 : (Jvm.Cond.code ({ cls := "BackRescue", name := "roomOf", desc := "(I)I" } : Jvm.MethodName) prog_1_method_6_code (1 : Nat) (Option.some Jvm.ClassFile.FieldType.int)) ∈ lw_all := lw_g (lw_at lw_m3 210 rfl) rfl
theorem q826 : (Jvm.Cond.static ({ cls := "BackRescue", name := "isLost", desc := "(I)Z" } : Jvm.MethodName)) ∈ lw_all := lw_g (lw_at lw_m3 213 rfl) rfl
theorem q827 : (Jvm.Cond.code ({ cls := "BackRescue", name := "isLost", desc := "(I)Z" } : Jvm.MethodName) prog_1_method_8_code (1 : Nat) (Option.some Jvm.ClassFile.FieldType.boolean)) ∈ lw_all := lw_g (lw_at lw_m3 214 rfl) rfl
theorem q828 : (Jvm.Cond.methodLink "BackRescue" (9 : Nat) ({ cls := "BackRescue", name := "hurtOf", desc := "(I)I" } : Jvm.MethodName)) ∈ lw_all := lw_g (lw_at lw_m3 215 rfl) rfl
theorem q829 : (Jvm.Cond.static ({ cls := "BackRescue", name := "hurtOf", desc := "(I)I" } : Jvm.MethodName)) ∈ lw_all := lw_g (lw_at lw_m3 216 rfl) rfl
theorem q830 : (Jvm.Cond.code ({ cls := "BackRescue", name := "hurtOf", desc := "(I)I" } : Jvm.MethodName) prog_1_method_7_code (1 : Nat) (Option.some Jvm.ClassFile.FieldType.int)) ∈ lw_all := lw_g (lw_at lw_m3 217 rfl) rfl
theorem q886 : (Jvm.Cond.instanceMethod ({ cls := "BackRescue", name := "by", desc := "(II)I" } : Jvm.MethodName)) ∈ lw_all := lw_g (lw_at lw_m4 33 rfl) rfl
theorem q887 : (Jvm.Cond.selects "BackRescue" ({ cls := "BackRescue", name := "by", desc := "(II)I" } : Jvm.MethodName) ({ cls := "BackRescue", name := "by", desc := "(II)I" } : Jvm.MethodName)) ∈ lw_all := lw_g (lw_at lw_m4 34 rfl) rfl
theorem q888 : (Jvm.Cond.code ({ cls := "BackRescue", name := "by", desc := "(II)I" } : Jvm.MethodName) prog_1_method_19_code (4 : Nat) (Option.some Jvm.ClassFile.FieldType.int)) ∈ lw_all := lw_g (lw_at lw_m4 35 rfl) rfl
theorem q889 : (Jvm.Cond.methodLink "BackRescue" (173 : Nat) ({ cls := "BackRescue$State", name := "then", desc := "(II)I" } : Jvm.MethodName)) ∈ lw_all := lw_g (lw_at lw_m4 36 rfl) rfl
theorem q900 : (Jvm.Cond.methodLink "BackRescue" (177 : Nat) ({ cls := "BackRescue", name := "roomOf", desc := "(I)I" } : Jvm.MethodName)) ∈ lw_all := lw_g (lw_at lw_m4 47 rfl) rfl
theorem q902 : (Jvm.Cond.instanceMethod ({ cls := "BackRescue", name := "go", desc := "(I)I" } : Jvm.MethodName)) ∈ lw_all := lw_g (lw_at lw_m4 49 rfl) rfl
theorem q903 : (Jvm.Cond.selects "BackRescue" ({ cls := "BackRescue", name := "go", desc := "(I)I" } : Jvm.MethodName) ({ cls := "BackRescue", name := "go", desc := "(I)I" } : Jvm.MethodName)) ∈ lw_all := lw_g (lw_at lw_m4 50 rfl) rfl
theorem q904 : (Jvm.Cond.code ({ cls := "BackRescue", name := "go", desc := "(I)I" } : Jvm.MethodName) prog_1_method_21_code (3 : Nat) (Option.some Jvm.ClassFile.FieldType.int)) ∈ lw_all := lw_g (lw_at lw_m4 51 rfl) rfl
theorem q905 : (Jvm.Cond.methodLink "BackRescue" (192 : Nat) ({ cls := "BackRescue", name := "keeps", desc := "()V" } : Jvm.MethodName)) ∈ lw_all := lw_g (lw_at lw_m4 52 rfl) rfl
theorem q906 : (Jvm.Cond.privateMethod ({ cls := "BackRescue", name := "keeps", desc := "()V" } : Jvm.MethodName)) ∈ lw_tbl := lw_at lw_m4 53 rfl
theorem q907 : (Jvm.Cond.instanceMethod ({ cls := "BackRescue", name := "keeps", desc := "()V" } : Jvm.MethodName)) ∈ lw_all := lw_g (lw_at lw_m4 54 rfl) rfl
theorem q908 : (Jvm.Cond.code ({ cls := "BackRescue", name := "keeps", desc := "()V" } : Jvm.MethodName) prog_1_method_20_code (1 : Nat) (Option.none : Option Jvm.ClassFile.FieldType)) ∈ lw_all := lw_g (lw_at lw_m4 55 rfl) rfl
theorem q909 : (Jvm.Cond.methodLink "BackRescue" (183 : Nat) ({ cls := "BackRescue$State", name := "be", desc := "(LBackRescue$State;)LBackRescue$State;" } : Jvm.MethodName)) ∈ lw_all := lw_g (lw_at lw_m4 56 rfl) rfl
theorem q913 : (Jvm.Cond.methodLink "BackRescue" (187 : Nat) ({ cls := "java/lang/Math", name := "min", desc := "(II)I" } : Jvm.MethodName)) ∈ lw_all := lw_g (lw_at lw_m4 60 rfl) rfl
theorem q914 : (Jvm.Cond.methodLink "BackRescue" (195 : Nat) ({ cls := "BackRescue$State", name := "goes", desc := "(I)V" } : Jvm.MethodName)) ∈ lw_all := lw_g (lw_at lw_m4 61 rfl) rfl
theorem q920 : (Jvm.Cond.instanceMethod ({ cls := "BackRescue", name := "rope", desc := "(I)I" } : Jvm.MethodName)) ∈ lw_all := lw_g (lw_at lw_m4 67 rfl) rfl
theorem q921 : (Jvm.Cond.selects "BackRescue" ({ cls := "BackRescue", name := "rope", desc := "(I)I" } : Jvm.MethodName) ({ cls := "BackRescue", name := "rope", desc := "(I)I" } : Jvm.MethodName)) ∈ lw_all := lw_g (lw_at lw_m4 68 rfl) rfl
theorem q922 : (Jvm.Cond.code ({ cls := "BackRescue", name := "rope", desc := "(I)I" } : Jvm.MethodName) prog_1_method_22_code (2 : Nat) (Option.some Jvm.ClassFile.FieldType.int)) ∈ lw_all := lw_g (lw_at lw_m4 69 rfl) rfl
theorem q923 : (Jvm.Cond.methodLink "BackRescue" (198 : Nat) ({ cls := "BackRescue$State", name := "does", desc := "(I)V" } : Jvm.MethodName)) ∈ lw_all := lw_g (lw_at lw_m4 70 rfl) rfl
theorem q929 : (Jvm.Cond.instanceMethod ({ cls := "BackRescue", name := "put", desc := "(II)I" } : Jvm.MethodName)) ∈ lw_all := lw_g (lw_at lw_m4 76 rfl) rfl
theorem q930 : (Jvm.Cond.selects "BackRescue" ({ cls := "BackRescue", name := "put", desc := "(II)I" } : Jvm.MethodName) ({ cls := "BackRescue", name := "put", desc := "(II)I" } : Jvm.MethodName)) ∈ lw_all := lw_g (lw_at lw_m4 77 rfl) rfl
theorem q931 : (Jvm.Cond.code ({ cls := "BackRescue", name := "put", desc := "(II)I" } : Jvm.MethodName) prog_1_method_23_code (5 : Nat) (Option.some Jvm.ClassFile.FieldType.int)) ∈ lw_all := lw_g (lw_at lw_m4 78 rfl) rfl
theorem q932 : (Jvm.Cond.methodLink "BackRescue" (201 : Nat) ({ cls := "BackRescue$State", name := "whyPut", desc := "(JJ)I" } : Jvm.MethodName)) ∈ lw_all := lw_g (lw_at lw_m4 79 rfl) rfl
theorem q937 : (Jvm.Cond.methodLink "BackRescue" (205 : Nat) ({ cls := "BackRescue", name := "standOf", desc := "(II)I" } : Jvm.MethodName)) ∈ lw_all := lw_g (lw_at lw_m4 84 rfl) rfl
theorem q939 : (Jvm.Cond.instanceMethod ({ cls := "BackRescue", name := "slack", desc := "(I)I" } : Jvm.MethodName)) ∈ lw_all := lw_g (lw_at lw_m4 86 rfl) rfl
theorem q940 : (Jvm.Cond.selects "BackRescue" ({ cls := "BackRescue", name := "slack", desc := "(I)I" } : Jvm.MethodName) ({ cls := "BackRescue", name := "slack", desc := "(I)I" } : Jvm.MethodName)) ∈ lw_all := lw_g (lw_at lw_m4 87 rfl) rfl
theorem q941 : (Jvm.Cond.code ({ cls := "BackRescue", name := "slack", desc := "(I)I" } : Jvm.MethodName) prog_1_method_24_code (3 : Nat) (Option.some Jvm.ClassFile.FieldType.int)) ∈ lw_all := lw_g (lw_at lw_m4 88 rfl) rfl
theorem q942 : (Jvm.Cond.constantLong "BackRescue" (208 : Nat) (9 : Int64)) ∈ lw_all := lw_g (lw_at lw_m4 89 rfl) rfl
theorem q944 : (Jvm.Cond.instanceMethod ({ cls := "BackRescue", name := "undo", desc := "(I)I" } : Jvm.MethodName)) ∈ lw_all := lw_g (lw_at lw_m4 91 rfl) rfl
theorem q945 : (Jvm.Cond.selects "BackRescue" ({ cls := "BackRescue", name := "undo", desc := "(I)I" } : Jvm.MethodName) ({ cls := "BackRescue", name := "undo", desc := "(I)I" } : Jvm.MethodName)) ∈ lw_all := lw_g (lw_at lw_m4 92 rfl) rfl
theorem q946 : (Jvm.Cond.code ({ cls := "BackRescue", name := "undo", desc := "(I)I" } : Jvm.MethodName) prog_1_method_25_code (2 : Nat) (Option.some Jvm.ClassFile.FieldType.int)) ∈ lw_all := lw_g (lw_at lw_m4 93 rfl) rfl
theorem q948 : (Jvm.Cond.instanceMethod ({ cls := "BackRescue", name := "judge", desc := "(II)I" } : Jvm.MethodName)) ∈ lw_all := lw_g (lw_at lw_m4 95 rfl) rfl
theorem q949 : (Jvm.Cond.selects "BackRescue" ({ cls := "BackRescue", name := "judge", desc := "(II)I" } : Jvm.MethodName) ({ cls := "BackRescue", name := "judge", desc := "(II)I" } : Jvm.MethodName)) ∈ lw_all := lw_g (lw_at lw_m4 96 rfl) rfl
theorem q950 : (Jvm.Cond.code ({ cls := "BackRescue", name := "judge", desc := "(II)I" } : Jvm.MethodName) prog_1_method_27_code (6 : Nat) (Option.some Jvm.ClassFile.FieldType.int)) ∈ lw_all := lw_g (lw_at lw_m4 97 rfl) rfl
theorem q951 : (Jvm.Cond.constantLong "BackRescue" (223 : Nat) (3 : Int64)) ∈ lw_all := lw_g (lw_at lw_m4 98 rfl) rfl
theorem q952 : (Jvm.Cond.methodLink "BackRescue" (225 : Nat) ({ cls := "BackRescue", name := "trayFault", desc := "(I)I" } : Jvm.MethodName)) ∈ lw_all := lw_g (lw_at lw_m4 99 rfl) rfl
theorem q953 : (Jvm.Cond.privateMethod ({ cls := "BackRescue", name := "trayFault", desc := "(I)I" } : Jvm.MethodName)) ∈ lw_tbl := lw_at lw_m4 100 rfl
theorem q954 : (Jvm.Cond.instanceMethod ({ cls := "BackRescue", name := "trayFault", desc := "(I)I" } : Jvm.MethodName)) ∈ lw_all := lw_g (lw_at lw_m4 101 rfl) rfl
theorem q955 : (Jvm.Cond.code ({ cls := "BackRescue", name := "trayFault", desc := "(I)I" } : Jvm.MethodName) prog_1_method_81_code (2 : Nat) (Option.some Jvm.ClassFile.FieldType.int)) ∈ lw_all := lw_g (lw_at lw_m4 102 rfl) rfl
theorem q956 : (Jvm.Cond.methodLink "BackRescue" (368 : Nat) ({ cls := "BackRescue", name := "isTray", desc := "(I)Z" } : Jvm.MethodName)) ∈ lw_all := lw_g (lw_at lw_m4 103 rfl) rfl
theorem q957 : (Jvm.Cond.static ({ cls := "BackRescue", name := "isTray", desc := "(I)Z" } : Jvm.MethodName)) ∈ lw_all := lw_g (lw_at lw_m4 104 rfl) rfl
theorem q958 : (Jvm.Cond.code ({ cls := "BackRescue", name := "isTray", desc := "(I)Z" } : Jvm.MethodName) prog_1_method_80_code (1 : Nat) (Option.some Jvm.ClassFile.FieldType.boolean)) ∈ lw_all := lw_g (lw_at lw_m4 105 rfl) rfl
theorem q959 : (Jvm.Cond.methodLink "BackRescue" (228 : Nat) ({ cls := "BackRescue", name := "goesAlong", desc := "(LBackRescue$Numbers;)I" } : Jvm.MethodName)) ∈ lw_all := lw_g (lw_at lw_m4 106 rfl) rfl
theorem q960 : (Jvm.Cond.privateMethod ({ cls := "BackRescue", name := "goesAlong", desc := "(LBackRescue$Numbers;)I" } : Jvm.MethodName)) ∈ lw_tbl := lw_at lw_m4 107 rfl
theorem q961 : (Jvm.Cond.instanceMethod ({ cls := "BackRescue", name := "goesAlong", desc := "(LBackRescue$Numbers;)I" } : Jvm.MethodName)) ∈ lw_all := lw_g (lw_at lw_m4 108 rfl) rfl
theorem q962 : (Jvm.Cond.code ({ cls := "BackRescue", name := "goesAlong", desc := "(LBackRescue$Numbers;)I" } : Jvm.MethodName) prog_1_method_26_code (3 : Nat) (Option.some Jvm.ClassFile.FieldType.int)) ∈ lw_all := lw_g (lw_at lw_m4 109 rfl) rfl
theorem q963 : (Jvm.Cond.methodLink "BackRescue" (213 : Nat) ({ cls := "BackRescue$Numbers", name := "many", desc := "()I" } : Jvm.MethodName)) ∈ lw_all := lw_g (lw_at lw_m4 110 rfl) rfl
theorem q971 : (Jvm.Cond.methodLink "BackRescue" (216 : Nat) ({ cls := "BackRescue$Numbers", name := "number", desc := "(I)J" } : Jvm.MethodName)) ∈ lw_all := lw_g (lw_at lw_m4 118 rfl) rfl
theorem q975 : (Jvm.Cond.methodLink "BackRescue" (220 : Nat) ({ cls := "BackRescue$State", name := "whyDeed", desc := "(J)I" } : Jvm.MethodName)) ∈ lw_all := lw_g (lw_at lw_m4 122 rfl) rfl
theorem q989 : (Jvm.Cond.instanceMethod ({ cls := "BackRescue", name := "perform", desc := "(I)I" } : Jvm.MethodName)) ∈ lw_all := lw_g (lw_at lw_m4 136 rfl) rfl
theorem q990 : (Jvm.Cond.selects "BackRescue" ({ cls := "BackRescue", name := "perform", desc := "(I)I" } : Jvm.MethodName) ({ cls := "BackRescue", name := "perform", desc := "(I)I" } : Jvm.MethodName)) ∈ lw_all := lw_g (lw_at lw_m4 137 rfl) rfl
theorem q991 : (Jvm.Cond.code ({ cls := "BackRescue", name := "perform", desc := "(I)I" } : Jvm.MethodName) prog_1_method_28_code (4 : Nat) (Option.some Jvm.ClassFile.FieldType.int)) ∈ lw_all := lw_g (lw_at lw_m4 138 rfl) rfl
theorem q993 : (Jvm.Cond.instanceMethod ({ cls := "BackRescue", name := "day", desc := "(II)I" } : Jvm.MethodName)) ∈ lw_all := lw_g (lw_at lw_m4 140 rfl) rfl
theorem q994 : (Jvm.Cond.selects "BackRescue" ({ cls := "BackRescue", name := "day", desc := "(II)I" } : Jvm.MethodName) ({ cls := "BackRescue", name := "day", desc := "(II)I" } : Jvm.MethodName)) ∈ lw_all := lw_g (lw_at lw_m4 141 rfl) rfl
theorem q995 : (Jvm.Cond.code ({ cls := "BackRescue", name := "day", desc := "(II)I" } : Jvm.MethodName) prog_1_method_31_code (6 : Nat) (Option.some Jvm.ClassFile.FieldType.int)) ∈ lw_all := lw_g (lw_at lw_m4 142 rfl) rfl
theorem q996 : (Jvm.Cond.constantLong "BackRescue" (239 : Nat) (40 : Int64)) ∈ lw_all := lw_g (lw_at lw_m4 143 rfl) rfl
theorem q997 : (Jvm.Cond.methodLink "BackRescue" (241 : Nat) ({ cls := "BackRescue", name := "drawn", desc := "()I" } : Jvm.MethodName)) ∈ lw_all := lw_g (lw_at lw_m4 144 rfl) rfl
theorem q998 : (Jvm.Cond.privateMethod ({ cls := "BackRescue", name := "drawn", desc := "()I" } : Jvm.MethodName)) ∈ lw_tbl := lw_at lw_m4 145 rfl
theorem q999 : (Jvm.Cond.instanceMethod ({ cls := "BackRescue", name := "drawn", desc := "()I" } : Jvm.MethodName)) ∈ lw_all := lw_g (lw_at lw_m4 146 rfl) rfl
theorem q1000 : (Jvm.Cond.code ({ cls := "BackRescue", name := "drawn", desc := "()I" } : Jvm.MethodName) prog_1_method_30_code (3 : Nat) (Option.some Jvm.ClassFile.FieldType.int)) ∈ lw_all := lw_g (lw_at lw_m4 147 rfl) rfl
theorem q1001 : (Jvm.Cond.methodLink "BackRescue" (236 : Nat) ({ cls := "BackRescue", name := "draw", desc := "(I)I" } : Jvm.MethodName)) ∈ lw_all := lw_g (lw_at lw_m4 148 rfl) rfl
theorem q1002 : (Jvm.Cond.privateMethod ({ cls := "BackRescue", name := "draw", desc := "(I)I" } : Jvm.MethodName)) ∈ lw_tbl := lw_at lw_m4 149 rfl
theorem q1003 : (Jvm.Cond.instanceMethod ({ cls := "BackRescue", name := "draw", desc := "(I)I" } : Jvm.MethodName)) ∈ lw_all := lw_g (lw_at lw_m4 150 rfl) rfl
theorem q1004 : (Jvm.Cond.code ({ cls := "BackRescue", name := "draw", desc := "(I)I" } : Jvm.MethodName) prog_1_method_29_code (2 : Nat) (Option.some Jvm.ClassFile.FieldType.int)) ∈ lw_all := lw_g (lw_at lw_m4 151 rfl) rfl
theorem q1005 : (Jvm.Cond.constant "BackRescue" (232 : Nat) (1103515245 : Int32)) ∈ lw_all := lw_g (lw_at lw_m4 152 rfl) rfl
theorem q1007 : (Jvm.Cond.instanceMethod ({ cls := "BackRescue", name := "soonest", desc := "(II)I" } : Jvm.MethodName)) ∈ lw_all := lw_g (lw_at lw_m4 154 rfl) rfl
theorem q1008 : (Jvm.Cond.selects "BackRescue" ({ cls := "BackRescue", name := "soonest", desc := "(II)I" } : Jvm.MethodName) ({ cls := "BackRescue", name := "soonest", desc := "(II)I" } : Jvm.MethodName)) ∈ lw_all := lw_g (lw_at lw_m4 155 rfl) rfl
theorem q1009 : (Jvm.Cond.code ({ cls := "BackRescue", name := "soonest", desc := "(II)I" } : Jvm.MethodName) prog_1_method_39_code (4 : Nat) (Option.some Jvm.ClassFile.FieldType.int)) ∈ lw_all := lw_g (lw_at lw_m4 156 rfl) rfl
theorem q1010 : (Jvm.Cond.methodLink "BackRescue" (270 : Nat) ({ cls := "BackRescue", name := "comingFault", desc := "(II)I" } : Jvm.MethodName)) ∈ lw_all := lw_g (lw_at lw_m4 157 rfl) rfl
theorem q1011 : (Jvm.Cond.privateMethod ({ cls := "BackRescue", name := "comingFault", desc := "(II)I" } : Jvm.MethodName)) ∈ lw_tbl := lw_at lw_m4 158 rfl
theorem q1012 : (Jvm.Cond.instanceMethod ({ cls := "BackRescue", name := "comingFault", desc := "(II)I" } : Jvm.MethodName)) ∈ lw_all := lw_g (lw_at lw_m4 159 rfl) rfl
theorem q1013 : (Jvm.Cond.code ({ cls := "BackRescue", name := "comingFault", desc := "(II)I" } : Jvm.MethodName) prog_1_method_37_code (3 : Nat) (Option.some Jvm.ClassFile.FieldType.int)) ∈ lw_all := lw_g (lw_at lw_m4 160 rfl) rfl
theorem q1014 : (Jvm.Cond.methodLink "BackRescue" (259 : Nat) ({ cls := "BackRescue", name := "isRoom", desc := "(I)Z" } : Jvm.MethodName)) ∈ lw_all := lw_g (lw_at lw_m4 161 rfl) rfl
theorem q1015 : (Jvm.Cond.privateMethod ({ cls := "BackRescue", name := "isRoom", desc := "(I)Z" } : Jvm.MethodName)) ∈ lw_tbl := lw_at lw_m4 162 rfl
theorem q1016 : (Jvm.Cond.instanceMethod ({ cls := "BackRescue", name := "isRoom", desc := "(I)Z" } : Jvm.MethodName)) ∈ lw_all := lw_g (lw_at lw_m4 163 rfl) rfl
theorem q1017 : (Jvm.Cond.code ({ cls := "BackRescue", name := "isRoom", desc := "(I)Z" } : Jvm.MethodName) prog_1_method_15_code (2 : Nat) (Option.some Jvm.ClassFile.FieldType.boolean)) ∈ lw_all := lw_g (lw_at lw_m4 164 rfl) rfl
theorem q1018 : (Jvm.Cond.constantLong "BackRescue" (262 : Nat) (4 : Int64)) ∈ lw_all := lw_g (lw_at lw_m4 165 rfl) rfl
theorem q1019 : (Jvm.Cond.methodLink "BackRescue" (273 : Nat) ({ cls := "BackRescue", name := "soonestTo", desc := "(II)I" } : Jvm.MethodName)) ∈ lw_all := lw_g (lw_at lw_m4 166 rfl) rfl
theorem q1020 : (Jvm.Cond.privateMethod ({ cls := "BackRescue", name := "soonestTo", desc := "(II)I" } : Jvm.MethodName)) ∈ lw_tbl := lw_at lw_m4 167 rfl
theorem q1021 : (Jvm.Cond.instanceMethod ({ cls := "BackRescue", name := "soonestTo", desc := "(II)I" } : Jvm.MethodName)) ∈ lw_all := lw_g (lw_at lw_m4 168 rfl) rfl
theorem q1022 : (Jvm.Cond.code ({ cls := "BackRescue", name := "soonestTo", desc := "(II)I" } : Jvm.MethodName) prog_1_method_38_code (3 : Nat) (Option.some Jvm.ClassFile.FieldType.int)) ∈ lw_all := lw_g (lw_at lw_m4 169 rfl) rfl
theorem q1023 : (Jvm.Cond.methodLink "BackRescue" (264 : Nat) ({ cls := "BackRescue", name := "laysNow", desc := "()V" } : Jvm.MethodName)) ∈ lw_all := lw_g (lw_at lw_m4 170 rfl) rfl
theorem q1024 : (Jvm.Cond.privateMethod ({ cls := "BackRescue", name := "laysNow", desc := "()V" } : Jvm.MethodName)) ∈ lw_tbl := lw_at lw_m4 171 rfl
theorem q1025 : (Jvm.Cond.instanceMethod ({ cls := "BackRescue", name := "laysNow", desc := "()V" } : Jvm.MethodName)) ∈ lw_all := lw_g (lw_at lw_m4 172 rfl) rfl
theorem q1026 : (Jvm.Cond.code ({ cls := "BackRescue", name := "laysNow", desc := "()V" } : Jvm.MethodName) prog_1_method_33_code (1 : Nat) (Option.none : Option Jvm.ClassFile.FieldType)) ∈ lw_all := lw_g (lw_at lw_m4 173 rfl) rfl
theorem q1027 : (Jvm.Cond.methodLink "BackRescue" (247 : Nat) ({ cls := "BackRescue", name := "laysAll", desc := "(LBackRescue$State;I)V" } : Jvm.MethodName)) ∈ lw_all := lw_g (lw_at lw_m4 174 rfl) rfl
theorem q1028 : (Jvm.Cond.privateMethod ({ cls := "BackRescue", name := "laysAll", desc := "(LBackRescue$State;I)V" } : Jvm.MethodName)) ∈ lw_tbl := lw_at lw_m4 175 rfl
theorem q1029 : (Jvm.Cond.instanceMethod ({ cls := "BackRescue", name := "laysAll", desc := "(LBackRescue$State;I)V" } : Jvm.MethodName)) ∈ lw_all := lw_g (lw_at lw_m4 176 rfl) rfl
theorem q1030 : (Jvm.Cond.code ({ cls := "BackRescue", name := "laysAll", desc := "(LBackRescue$State;I)V" } : Jvm.MethodName) prog_1_method_32_code (6 : Nat) (Option.none : Option Jvm.ClassFile.FieldType)) ∈ lw_all := lw_g (lw_at lw_m4 177 rfl) rfl
theorem q1031 : (Jvm.Cond.methodLink "BackRescue" (244 : Nat) ({ cls := "BackRescue$State", name := "whyFrom", desc := "(II)I" } : Jvm.MethodName)) ∈ lw_all := lw_g (lw_at lw_m4 178 rfl) rfl
theorem q1032 : (Jvm.Cond.methodLink "BackRescue" (267 : Nat) ({ cls := "BackRescue", name := "laysComing", desc := "(II)I" } : Jvm.MethodName)) ∈ lw_all := lw_g (lw_at lw_m4 179 rfl) rfl
theorem q1033 : (Jvm.Cond.privateMethod ({ cls := "BackRescue", name := "laysComing", desc := "(II)I" } : Jvm.MethodName)) ∈ lw_tbl := lw_at lw_m4 180 rfl
theorem q1034 : (Jvm.Cond.instanceMethod ({ cls := "BackRescue", name := "laysComing", desc := "(II)I" } : Jvm.MethodName)) ∈ lw_all := lw_g (lw_at lw_m4 181 rfl) rfl
theorem q1035 : (Jvm.Cond.code ({ cls := "BackRescue", name := "laysComing", desc := "(II)I" } : Jvm.MethodName) prog_1_method_34_code (5 : Nat) (Option.some Jvm.ClassFile.FieldType.int)) ∈ lw_all := lw_g (lw_at lw_m4 182 rfl) rfl
theorem q1036 : (Jvm.Cond.constant "BackRescue" (251 : Nat) (536870912 : Int32)) ∈ lw_all := lw_g (lw_at lw_m4 183 rfl) rfl
theorem q1037 : (Jvm.Cond.methodLink "BackRescue" (252 : Nat) ({ cls := "BackRescue", name := "lowers", desc := "(I)Z" } : Jvm.MethodName)) ∈ lw_all := lw_g (lw_at lw_m4 184 rfl) rfl
theorem q1038 : (Jvm.Cond.privateMethod ({ cls := "BackRescue", name := "lowers", desc := "(I)Z" } : Jvm.MethodName)) ∈ lw_tbl := lw_at lw_m4 185 rfl
theorem q1039 : (Jvm.Cond.instanceMethod ({ cls := "BackRescue", name := "lowers", desc := "(I)Z" } : Jvm.MethodName)) ∈ lw_all := lw_g (lw_at lw_m4 186 rfl) rfl
theorem q1040 : (Jvm.Cond.code ({ cls := "BackRescue", name := "lowers", desc := "(I)Z" } : Jvm.MethodName) prog_1_method_35_code (4 : Nat) (Option.some Jvm.ClassFile.FieldType.boolean)) ∈ lw_all := lw_g (lw_at lw_m4 187 rfl) rfl
theorem q1042 : (Jvm.Cond.instanceMethod ({ cls := "BackRescue", name := "way", desc := "(III)I" } : Jvm.MethodName)) ∈ lw_all := lw_g (lw_at lw_m4 189 rfl) rfl
theorem q1043 : (Jvm.Cond.selects "BackRescue" ({ cls := "BackRescue", name := "way", desc := "(III)I" } : Jvm.MethodName) ({ cls := "BackRescue", name := "way", desc := "(III)I" } : Jvm.MethodName)) ∈ lw_all := lw_g (lw_at lw_m4 190 rfl) rfl
theorem q1044 : (Jvm.Cond.code ({ cls := "BackRescue", name := "way", desc := "(III)I" } : Jvm.MethodName) prog_1_method_40_code (5 : Nat) (Option.some Jvm.ClassFile.FieldType.int)) ∈ lw_all := lw_g (lw_at lw_m4 191 rfl) rfl
theorem q1045 : (Jvm.Cond.methodLink "BackRescue" (276 : Nat) ({ cls := "BackRescue", name := "laysPath", desc := "()V" } : Jvm.MethodName)) ∈ lw_all := lw_g (lw_at lw_m4 192 rfl) rfl
theorem q1046 : (Jvm.Cond.privateMethod ({ cls := "BackRescue", name := "laysPath", desc := "()V" } : Jvm.MethodName)) ∈ lw_tbl := lw_at lw_m4 193 rfl
theorem q1047 : (Jvm.Cond.instanceMethod ({ cls := "BackRescue", name := "laysPath", desc := "()V" } : Jvm.MethodName)) ∈ lw_all := lw_g (lw_at lw_m4 194 rfl) rfl
theorem q1048 : (Jvm.Cond.code ({ cls := "BackRescue", name := "laysPath", desc := "()V" } : Jvm.MethodName) prog_1_method_36_code (3 : Nat) (Option.none : Option Jvm.ClassFile.FieldType)) ∈ lw_all := lw_g (lw_at lw_m4 195 rfl) rfl
theorem q1050 : (Jvm.Cond.instanceMethod ({ cls := "BackRescue", name := "least", desc := "(I)I" } : Jvm.MethodName)) ∈ lw_all := lw_g (lw_at lw_m4 197 rfl) rfl
theorem q1051 : (Jvm.Cond.selects "BackRescue" ({ cls := "BackRescue", name := "least", desc := "(I)I" } : Jvm.MethodName) ({ cls := "BackRescue", name := "least", desc := "(I)I" } : Jvm.MethodName)) ∈ lw_all := lw_g (lw_at lw_m4 198 rfl) rfl
theorem q1052 : (Jvm.Cond.code ({ cls := "BackRescue", name := "least", desc := "(I)I" } : Jvm.MethodName) prog_1_method_41_code (3 : Nat) (Option.some Jvm.ClassFile.FieldType.int)) ∈ lw_all := lw_g (lw_at lw_m4 199 rfl) rfl
theorem q1054 : (Jvm.Cond.instanceMethod ({ cls := "BackRescue", name := "stands", desc := "()I" } : Jvm.MethodName)) ∈ lw_all := lw_g (lw_at lw_m4 201 rfl) rfl
theorem q1055 : (Jvm.Cond.selects "BackRescue" ({ cls := "BackRescue", name := "stands", desc := "()I" } : Jvm.MethodName) ({ cls := "BackRescue", name := "stands", desc := "()I" } : Jvm.MethodName)) ∈ lw_all := lw_g (lw_at lw_m4 202 rfl) rfl
theorem q1056 : (Jvm.Cond.code ({ cls := "BackRescue", name := "stands", desc := "()I" } : Jvm.MethodName) prog_1_method_43_code (3 : Nat) (Option.some Jvm.ClassFile.FieldType.int)) ∈ lw_all := lw_g (lw_at lw_m4 203 rfl) rfl
theorem q1057 : (Jvm.Cond.methodLink "BackRescue" (279 : Nat) ({ cls := "BackRescue", name := "meetsAll", desc := "(I)V" } : Jvm.MethodName)) ∈ lw_all := lw_g (lw_at lw_m4 204 rfl) rfl
theorem q1058 : (Jvm.Cond.privateMethod ({ cls := "BackRescue", name := "meetsAll", desc := "(I)V" } : Jvm.MethodName)) ∈ lw_tbl := lw_at lw_m4 205 rfl
theorem q1059 : (Jvm.Cond.instanceMethod ({ cls := "BackRescue", name := "meetsAll", desc := "(I)V" } : Jvm.MethodName)) ∈ lw_all := lw_g (lw_at lw_m4 206 rfl) rfl
theorem q1060 : (Jvm.Cond.code ({ cls := "BackRescue", name := "meetsAll", desc := "(I)V" } : Jvm.MethodName) prog_1_method_42_code (6 : Nat) (Option.none : Option Jvm.ClassFile.FieldType)) ∈ lw_all := lw_g (lw_at lw_m4 207 rfl) rfl
theorem q1061 : (Jvm.Cond.methodLink "BackRescue" (282 : Nat) ({ cls := "BackRescue", name := "isLost", desc := "(I)Z" } : Jvm.MethodName)) ∈ lw_all := lw_g (lw_at lw_m4 208 rfl) rfl
theorem q1063 : (Jvm.Cond.instanceMethod ({ cls := "BackRescue", name := "before", desc := "(II)I" } : Jvm.MethodName)) ∈ lw_all := lw_g (lw_at lw_m4 210 rfl) rfl
theorem q1064 : (Jvm.Cond.selects "BackRescue" ({ cls := "BackRescue", name := "before", desc := "(II)I" } : Jvm.MethodName) ({ cls := "BackRescue", name := "before", desc := "(II)I" } : Jvm.MethodName)) ∈ lw_all := lw_g (lw_at lw_m4 211 rfl) rfl
theorem q1065 : (Jvm.Cond.code ({ cls := "BackRescue", name := "before", desc := "(II)I" } : Jvm.MethodName) prog_1_method_47_code (4 : Nat) (Option.some Jvm.ClassFile.FieldType.int)) ∈ lw_all := lw_g (lw_at lw_m4 212 rfl) rfl
theorem q1066 : (Jvm.Cond.methodLink "BackRescue" (288 : Nat) ({ cls := "BackRescue", name := "standFault", desc := "(III)I" } : Jvm.MethodName)) ∈ lw_all := lw_g (lw_at lw_m4 213 rfl) rfl
theorem q1067 : (Jvm.Cond.privateMethod ({ cls := "BackRescue", name := "standFault", desc := "(III)I" } : Jvm.MethodName)) ∈ lw_tbl := lw_at lw_m4 214 rfl
theorem q1068 : (Jvm.Cond.instanceMethod ({ cls := "BackRescue", name := "standFault", desc := "(III)I" } : Jvm.MethodName)) ∈ lw_all := lw_g (lw_at lw_m4 215 rfl) rfl
theorem q1069 : (Jvm.Cond.code ({ cls := "BackRescue", name := "standFault", desc := "(III)I" } : Jvm.MethodName) prog_1_method_44_code (4 : Nat) (Option.some Jvm.ClassFile.FieldType.int)) ∈ lw_all := lw_g (lw_at lw_m4 216 rfl) rfl
theorem q1070 : (Jvm.Cond.methodLink "BackRescue" (292 : Nat) ({ cls := "BackRescue", name := "manyBefore", desc := "(I)I" } : Jvm.MethodName)) ∈ lw_all := lw_g (lw_at lw_m4 217 rfl) rfl
theorem q1071 : (Jvm.Cond.privateMethod ({ cls := "BackRescue", name := "manyBefore", desc := "(I)I" } : Jvm.MethodName)) ∈ lw_tbl := lw_at lw_m4 218 rfl
theorem q1072 : (Jvm.Cond.instanceMethod ({ cls := "BackRescue", name := "manyBefore", desc := "(I)I" } : Jvm.MethodName)) ∈ lw_all := lw_g (lw_at lw_m4 219 rfl) rfl
theorem q1073 : (Jvm.Cond.code ({ cls := "BackRescue", name := "manyBefore", desc := "(I)I" } : Jvm.MethodName) prog_1_method_46_code (4 : Nat) (Option.some Jvm.ClassFile.FieldType.int)) ∈ lw_all := lw_g (lw_at lw_m4 220 rfl) rfl
theorem q1074 : (Jvm.Cond.methodLink "BackRescue" (285 : Nat) ({ cls := "BackRescue", name := "leadsTo", desc := "(II)Z" } : Jvm.MethodName)) ∈ lw_all := lw_g (lw_at lw_m4 221 rfl) rfl
theorem q1075 : (Jvm.Cond.privateMethod ({ cls := "BackRescue", name := "leadsTo", desc := "(II)Z" } : Jvm.MethodName)) ∈ lw_tbl := lw_at lw_m4 222 rfl
theorem q1076 : (Jvm.Cond.instanceMethod ({ cls := "BackRescue", name := "leadsTo", desc := "(II)Z" } : Jvm.MethodName)) ∈ lw_all := lw_g (lw_at lw_m4 223 rfl) rfl
theorem q1077 : (Jvm.Cond.code ({ cls := "BackRescue", name := "leadsTo", desc := "(II)Z" } : Jvm.MethodName) prog_1_method_45_code (4 : Nat) (Option.some Jvm.ClassFile.FieldType.boolean)) ∈ lw_all := lw_g (lw_at lw_m4 224 rfl) rfl
theorem q1079 : (Jvm.Cond.instanceMethod ({ cls := "BackRescue", name := "ahead", desc := "(II)I" } : Jvm.MethodName)) ∈ lw_all := lw_g (lw_at lw_m4 226 rfl) rfl
theorem q1080 : (Jvm.Cond.selects "BackRescue" ({ cls := "BackRescue", name := "ahead", desc := "(II)I" } : Jvm.MethodName) ({ cls := "BackRescue", name := "ahead", desc := "(II)I" } : Jvm.MethodName)) ∈ lw_all := lw_g (lw_at lw_m4 227 rfl) rfl
theorem q1081 : (Jvm.Cond.code ({ cls := "BackRescue", name := "ahead", desc := "(II)I" } : Jvm.MethodName) prog_1_method_48_code (7 : Nat) (Option.some Jvm.ClassFile.FieldType.int)) ∈ lw_all := lw_g (lw_at lw_m4 228 rfl) rfl
theorem q1083 : (Jvm.Cond.instanceMethod ({ cls := "BackRescue", name := "orphans", desc := "()I" } : Jvm.MethodName)) ∈ lw_all := lw_g (lw_at lw_m4 230 rfl) rfl
theorem q1084 : (Jvm.Cond.selects "BackRescue" ({ cls := "BackRescue", name := "orphans", desc := "()I" } : Jvm.MethodName) ({ cls := "BackRescue", name := "orphans", desc := "()I" } : Jvm.MethodName)) ∈ lw_all := lw_g (lw_at lw_m4 231 rfl) rfl
theorem q1085 : (Jvm.Cond.code ({ cls := "BackRescue", name := "orphans", desc := "()I" } : Jvm.MethodName) prog_1_method_50_code (3 : Nat) (Option.some Jvm.ClassFile.FieldType.int)) ∈ lw_all := lw_g (lw_at lw_m4 232 rfl) rfl
theorem q1086 : (Jvm.Cond.methodLink "BackRescue" (295 : Nat) ({ cls := "BackRescue", name := "isOrphan", desc := "(I)Z" } : Jvm.MethodName)) ∈ lw_all := lw_g (lw_at lw_m4 233 rfl) rfl
theorem q1087 : (Jvm.Cond.privateMethod ({ cls := "BackRescue", name := "isOrphan", desc := "(I)Z" } : Jvm.MethodName)) ∈ lw_tbl := lw_at lw_m4 234 rfl
theorem q1088 : (Jvm.Cond.instanceMethod ({ cls := "BackRescue", name := "isOrphan", desc := "(I)Z" } : Jvm.MethodName)) ∈ lw_all := lw_g (lw_at lw_m4 235 rfl) rfl
theorem q1089 : (Jvm.Cond.code ({ cls := "BackRescue", name := "isOrphan", desc := "(I)Z" } : Jvm.MethodName) prog_1_method_49_code (2 : Nat) (Option.some Jvm.ClassFile.FieldType.boolean)) ∈ lw_all := lw_g (lw_at lw_m4 236 rfl) rfl
theorem q1091 : (Jvm.Cond.instanceMethod ({ cls := "BackRescue", name := "orphan", desc := "(I)I" } : Jvm.MethodName)) ∈ lw_all := lw_g (lw_at lw_m4 238 rfl) rfl
theorem q1092 : (Jvm.Cond.selects "BackRescue" ({ cls := "BackRescue", name := "orphan", desc := "(I)I" } : Jvm.MethodName) ({ cls := "BackRescue", name := "orphan", desc := "(I)I" } : Jvm.MethodName)) ∈ lw_all := lw_g (lw_at lw_m4 239 rfl) rfl
theorem q1093 : (Jvm.Cond.code ({ cls := "BackRescue", name := "orphan", desc := "(I)I" } : Jvm.MethodName) prog_1_method_51_code (4 : Nat) (Option.some Jvm.ClassFile.FieldType.int)) ∈ lw_all := lw_g (lw_at lw_m5 0 rfl) rfl
theorem q1095 : (Jvm.Cond.instanceMethod ({ cls := "BackRescue", name := "ring", desc := "(II)I" } : Jvm.MethodName)) ∈ lw_all := lw_g (lw_at lw_m5 2 rfl) rfl
theorem q1096 : (Jvm.Cond.selects "BackRescue" ({ cls := "BackRescue", name := "ring", desc := "(II)I" } : Jvm.MethodName) ({ cls := "BackRescue", name := "ring", desc := "(II)I" } : Jvm.MethodName)) ∈ lw_all := lw_g (lw_at lw_m5 3 rfl) rfl
theorem q1097 : (Jvm.Cond.code ({ cls := "BackRescue", name := "ring", desc := "(II)I" } : Jvm.MethodName) prog_1_method_52_code (8 : Nat) (Option.some Jvm.ClassFile.FieldType.int)) ∈ lw_all := lw_g (lw_at lw_m5 4 rfl) rfl
theorem q1099 : (Jvm.Cond.instanceMethod ({ cls := "BackRescue", name := "found", desc := "(III)J" } : Jvm.MethodName)) ∈ lw_all := lw_g (lw_at lw_m5 6 rfl) rfl
theorem q1100 : (Jvm.Cond.selects "BackRescue" ({ cls := "BackRescue", name := "found", desc := "(III)J" } : Jvm.MethodName) ({ cls := "BackRescue", name := "found", desc := "(III)J" } : Jvm.MethodName)) ∈ lw_all := lw_g (lw_at lw_m5 7 rfl) rfl
theorem q1101 : (Jvm.Cond.code ({ cls := "BackRescue", name := "found", desc := "(III)J" } : Jvm.MethodName) prog_1_method_55_code (5 : Nat) (Option.some Jvm.ClassFile.FieldType.long)) ∈ lw_all := lw_g (lw_at lw_m5 8 rfl) rfl
theorem q1102 : (Jvm.Cond.methodLink "BackRescue" (300 : Nat) ({ cls := "BackRescue", name := "foundFault", desc := "(III)I" } : Jvm.MethodName)) ∈ lw_all := lw_g (lw_at lw_m5 9 rfl) rfl
theorem q1103 : (Jvm.Cond.privateMethod ({ cls := "BackRescue", name := "foundFault", desc := "(III)I" } : Jvm.MethodName)) ∈ lw_tbl := lw_at lw_m5 10 rfl
theorem q1104 : (Jvm.Cond.instanceMethod ({ cls := "BackRescue", name := "foundFault", desc := "(III)I" } : Jvm.MethodName)) ∈ lw_all := lw_g (lw_at lw_m5 11 rfl) rfl
theorem q1105 : (Jvm.Cond.code ({ cls := "BackRescue", name := "foundFault", desc := "(III)I" } : Jvm.MethodName) prog_1_method_54_code (5 : Nat) (Option.some Jvm.ClassFile.FieldType.int)) ∈ lw_all := lw_g (lw_at lw_m5 12 rfl) rfl
theorem q1106 : (Jvm.Cond.constantLong "BackRescue" (298 : Nat) (10 : Int64)) ∈ lw_all := lw_g (lw_at lw_m5 13 rfl) rfl
theorem q1107 : (Jvm.Cond.methodLink "BackRescue" (303 : Nat) ({ cls := "BackRescue", name := "laysOnward", desc := "(III)J" } : Jvm.MethodName)) ∈ lw_all := lw_g (lw_at lw_m5 14 rfl) rfl
theorem q1108 : (Jvm.Cond.privateMethod ({ cls := "BackRescue", name := "laysOnward", desc := "(III)J" } : Jvm.MethodName)) ∈ lw_tbl := lw_at lw_m5 15 rfl
theorem q1109 : (Jvm.Cond.instanceMethod ({ cls := "BackRescue", name := "laysOnward", desc := "(III)J" } : Jvm.MethodName)) ∈ lw_all := lw_g (lw_at lw_m5 16 rfl) rfl
theorem q1110 : (Jvm.Cond.code ({ cls := "BackRescue", name := "laysOnward", desc := "(III)J" } : Jvm.MethodName) prog_1_method_53_code (9 : Nat) (Option.some Jvm.ClassFile.FieldType.long)) ∈ lw_all := lw_g (lw_at lw_m5 17 rfl) rfl
theorem q1112 : (Jvm.Cond.instanceMethod ({ cls := "BackRescue", name := "foundBy", desc := "(IIII)I" } : Jvm.MethodName)) ∈ lw_all := lw_g (lw_at lw_m5 19 rfl) rfl
theorem q1113 : (Jvm.Cond.selects "BackRescue" ({ cls := "BackRescue", name := "foundBy", desc := "(IIII)I" } : Jvm.MethodName) ({ cls := "BackRescue", name := "foundBy", desc := "(IIII)I" } : Jvm.MethodName)) ∈ lw_all := lw_g (lw_at lw_m5 20 rfl) rfl
theorem q1114 : (Jvm.Cond.code ({ cls := "BackRescue", name := "foundBy", desc := "(IIII)I" } : Jvm.MethodName) prog_1_method_56_code (9 : Nat) (Option.some Jvm.ClassFile.FieldType.int)) ∈ lw_all := lw_g (lw_at lw_m5 21 rfl) rfl
theorem q1116 : (Jvm.Cond.instanceMethod ({ cls := "BackRescue", name := "surely", desc := "(III)I" } : Jvm.MethodName)) ∈ lw_all := lw_g (lw_at lw_m5 23 rfl) rfl
theorem q1117 : (Jvm.Cond.selects "BackRescue" ({ cls := "BackRescue", name := "surely", desc := "(III)I" } : Jvm.MethodName) ({ cls := "BackRescue", name := "surely", desc := "(III)I" } : Jvm.MethodName)) ∈ lw_all := lw_g (lw_at lw_m5 24 rfl) rfl
theorem q1118 : (Jvm.Cond.code ({ cls := "BackRescue", name := "surely", desc := "(III)I" } : Jvm.MethodName) prog_1_method_57_code (8 : Nat) (Option.some Jvm.ClassFile.FieldType.int)) ∈ lw_all := lw_g (lw_at lw_m5 25 rfl) rfl
theorem q1120 : (Jvm.Cond.instanceMethod ({ cls := "BackRescue", name := "both", desc := "(IIII)I" } : Jvm.MethodName)) ∈ lw_all := lw_g (lw_at lw_m5 27 rfl) rfl
theorem q1121 : (Jvm.Cond.selects "BackRescue" ({ cls := "BackRescue", name := "both", desc := "(IIII)I" } : Jvm.MethodName) ({ cls := "BackRescue", name := "both", desc := "(IIII)I" } : Jvm.MethodName)) ∈ lw_all := lw_g (lw_at lw_m5 28 rfl) rfl
theorem q1122 : (Jvm.Cond.code ({ cls := "BackRescue", name := "both", desc := "(IIII)I" } : Jvm.MethodName) prog_1_method_58_code (9 : Nat) (Option.some Jvm.ClassFile.FieldType.int)) ∈ lw_all := lw_g (lw_at lw_m5 29 rfl) rfl
theorem q1124 : (Jvm.Cond.instanceMethod ({ cls := "BackRescue", name := "ropes", desc := "(III)I" } : Jvm.MethodName)) ∈ lw_all := lw_g (lw_at lw_m5 31 rfl) rfl
theorem q1125 : (Jvm.Cond.selects "BackRescue" ({ cls := "BackRescue", name := "ropes", desc := "(III)I" } : Jvm.MethodName) ({ cls := "BackRescue", name := "ropes", desc := "(III)I" } : Jvm.MethodName)) ∈ lw_all := lw_g (lw_at lw_m5 32 rfl) rfl
theorem q1126 : (Jvm.Cond.code ({ cls := "BackRescue", name := "ropes", desc := "(III)I" } : Jvm.MethodName) prog_1_method_59_code (6 : Nat) (Option.some Jvm.ClassFile.FieldType.int)) ∈ lw_all := lw_g (lw_at lw_m5 33 rfl) rfl
theorem q1127 : (Jvm.Cond.methodLink "BackRescue" (307 : Nat) ({ cls := "BackRescue", name := "allPassages", desc := "()I" } : Jvm.MethodName)) ∈ lw_all := lw_g (lw_at lw_m5 34 rfl) rfl
theorem q1128 : (Jvm.Cond.privateMethod ({ cls := "BackRescue", name := "allPassages", desc := "()I" } : Jvm.MethodName)) ∈ lw_tbl := lw_at lw_m5 35 rfl
theorem q1129 : (Jvm.Cond.instanceMethod ({ cls := "BackRescue", name := "allPassages", desc := "()I" } : Jvm.MethodName)) ∈ lw_all := lw_g (lw_at lw_m5 36 rfl) rfl
theorem q1130 : (Jvm.Cond.code ({ cls := "BackRescue", name := "allPassages", desc := "()I" } : Jvm.MethodName) prog_1_method_16_code (1 : Nat) (Option.some Jvm.ClassFile.FieldType.int)) ∈ lw_all := lw_g (lw_at lw_m5 37 rfl) rfl
theorem q1131 : (Jvm.Cond.methodLink "BackRescue" (310 : Nat) ({ cls := "BackRescue", name := "size", desc := "(I)I" } : Jvm.MethodName)) ∈ lw_all := lw_g (lw_at lw_m5 38 rfl) rfl
theorem q1132 : (Jvm.Cond.static ({ cls := "BackRescue", name := "size", desc := "(I)I" } : Jvm.MethodName)) ∈ lw_all := lw_g (lw_at lw_m5 39 rfl) rfl
theorem q1133 : (Jvm.Cond.code ({ cls := "BackRescue", name := "size", desc := "(I)I" } : Jvm.MethodName) prog_1_method_4_code (1 : Nat) (Option.some Jvm.ClassFile.FieldType.int)) ∈ lw_all := lw_g (lw_at lw_m5 40 rfl) rfl
theorem q1134 : (Jvm.Cond.methodLink "BackRescue" (3 : Nat) ({ cls := "java/lang/Integer", name := "bitCount", desc := "(I)I" } : Jvm.MethodName)) ∈ lw_all := lw_g (lw_at lw_m5 41 rfl) rfl
theorem q1141 : (Jvm.Cond.instanceMethod ({ cls := "BackRescue", name := "watch", desc := "(II)I" } : Jvm.MethodName)) ∈ lw_all := lw_g (lw_at lw_m5 48 rfl) rfl
theorem q1142 : (Jvm.Cond.selects "BackRescue" ({ cls := "BackRescue", name := "watch", desc := "(II)I" } : Jvm.MethodName) ({ cls := "BackRescue", name := "watch", desc := "(II)I" } : Jvm.MethodName)) ∈ lw_all := lw_g (lw_at lw_m5 49 rfl) rfl
theorem q1143 : (Jvm.Cond.code ({ cls := "BackRescue", name := "watch", desc := "(II)I" } : Jvm.MethodName) prog_1_method_61_code (5 : Nat) (Option.some Jvm.ClassFile.FieldType.int)) ∈ lw_all := lw_g (lw_at lw_m5 50 rfl) rfl
theorem q1144 : (Jvm.Cond.methodLink "BackRescue" (313 : Nat) ({ cls := "BackRescue", name := "canAvoid", desc := "(II)Z" } : Jvm.MethodName)) ∈ lw_all := lw_g (lw_at lw_m5 51 rfl) rfl
theorem q1145 : (Jvm.Cond.privateMethod ({ cls := "BackRescue", name := "canAvoid", desc := "(II)Z" } : Jvm.MethodName)) ∈ lw_tbl := lw_at lw_m5 52 rfl
theorem q1146 : (Jvm.Cond.instanceMethod ({ cls := "BackRescue", name := "canAvoid", desc := "(II)Z" } : Jvm.MethodName)) ∈ lw_all := lw_g (lw_at lw_m5 53 rfl) rfl
theorem q1147 : (Jvm.Cond.code ({ cls := "BackRescue", name := "canAvoid", desc := "(II)Z" } : Jvm.MethodName) prog_1_method_60_code (7 : Nat) (Option.some Jvm.ClassFile.FieldType.boolean)) ∈ lw_all := lw_g (lw_at lw_m5 54 rfl) rfl
theorem q1149 : (Jvm.Cond.instanceMethod ({ cls := "BackRescue", name := "slacks", desc := "(II)I" } : Jvm.MethodName)) ∈ lw_all := lw_g (lw_at lw_m5 56 rfl) rfl
theorem q1150 : (Jvm.Cond.selects "BackRescue" ({ cls := "BackRescue", name := "slacks", desc := "(II)I" } : Jvm.MethodName) ({ cls := "BackRescue", name := "slacks", desc := "(II)I" } : Jvm.MethodName)) ∈ lw_all := lw_g (lw_at lw_m5 57 rfl) rfl
theorem q1151 : (Jvm.Cond.code ({ cls := "BackRescue", name := "slacks", desc := "(II)I" } : Jvm.MethodName) prog_1_method_64_code (4 : Nat) (Option.some Jvm.ClassFile.FieldType.int)) ∈ lw_all := lw_g (lw_at lw_m5 58 rfl) rfl
theorem q1152 : (Jvm.Cond.methodLink "BackRescue" (318 : Nat) ({ cls := "BackRescue", name := "tookFault", desc := "(II)I" } : Jvm.MethodName)) ∈ lw_all := lw_g (lw_at lw_m5 59 rfl) rfl
theorem q1153 : (Jvm.Cond.privateMethod ({ cls := "BackRescue", name := "tookFault", desc := "(II)I" } : Jvm.MethodName)) ∈ lw_tbl := lw_at lw_m5 60 rfl
theorem q1154 : (Jvm.Cond.instanceMethod ({ cls := "BackRescue", name := "tookFault", desc := "(II)I" } : Jvm.MethodName)) ∈ lw_all := lw_g (lw_at lw_m5 61 rfl) rfl
theorem q1155 : (Jvm.Cond.code ({ cls := "BackRescue", name := "tookFault", desc := "(II)I" } : Jvm.MethodName) prog_1_method_62_code (6 : Nat) (Option.some Jvm.ClassFile.FieldType.int)) ∈ lw_all := lw_g (lw_at lw_m5 62 rfl) rfl
theorem q1156 : (Jvm.Cond.constantLong "BackRescue" (316 : Nat) (5 : Int64)) ∈ lw_all := lw_g (lw_at lw_m5 63 rfl) rfl
theorem q1157 : (Jvm.Cond.methodLink "BackRescue" (321 : Nat) ({ cls := "BackRescue", name := "slacksOf", desc := "(LBackRescue$Numbers;I)I" } : Jvm.MethodName)) ∈ lw_all := lw_g (lw_at lw_m5 64 rfl) rfl
theorem q1158 : (Jvm.Cond.privateMethod ({ cls := "BackRescue", name := "slacksOf", desc := "(LBackRescue$Numbers;I)I" } : Jvm.MethodName)) ∈ lw_tbl := lw_at lw_m5 65 rfl
theorem q1159 : (Jvm.Cond.instanceMethod ({ cls := "BackRescue", name := "slacksOf", desc := "(LBackRescue$Numbers;I)I" } : Jvm.MethodName)) ∈ lw_all := lw_g (lw_at lw_m5 66 rfl) rfl
theorem q1160 : (Jvm.Cond.code ({ cls := "BackRescue", name := "slacksOf", desc := "(LBackRescue$Numbers;I)I" } : Jvm.MethodName) prog_1_method_63_code (7 : Nat) (Option.some Jvm.ClassFile.FieldType.int)) ∈ lw_all := lw_g (lw_at lw_m5 67 rfl) rfl
theorem q1162 : (Jvm.Cond.instanceMethod ({ cls := "BackRescue", name := "attempt", desc := "(II)I" } : Jvm.MethodName)) ∈ lw_all := lw_g (lw_at lw_m5 69 rfl) rfl
theorem q1163 : (Jvm.Cond.selects "BackRescue" ({ cls := "BackRescue", name := "attempt", desc := "(II)I" } : Jvm.MethodName) ({ cls := "BackRescue", name := "attempt", desc := "(II)I" } : Jvm.MethodName)) ∈ lw_all := lw_g (lw_at lw_m5 70 rfl) rfl
theorem q1164 : (Jvm.Cond.code ({ cls := "BackRescue", name := "attempt", desc := "(II)I" } : Jvm.MethodName) prog_1_method_66_code (9 : Nat) (Option.some Jvm.ClassFile.FieldType.int)) ∈ lw_all := lw_g (lw_at lw_m5 71 rfl) rfl
theorem q1165 : (Jvm.Cond.methodLink "BackRescue" (328 : Nat) ({ cls := "BackRescue", name := "mostAlike", desc := "(II)I" } : Jvm.MethodName)) ∈ lw_all := lw_g (lw_at lw_m5 72 rfl) rfl
theorem q1166 : (Jvm.Cond.privateMethod ({ cls := "BackRescue", name := "mostAlike", desc := "(II)I" } : Jvm.MethodName)) ∈ lw_tbl := lw_at lw_m5 73 rfl
theorem q1167 : (Jvm.Cond.instanceMethod ({ cls := "BackRescue", name := "mostAlike", desc := "(II)I" } : Jvm.MethodName)) ∈ lw_all := lw_g (lw_at lw_m5 74 rfl) rfl
theorem q1168 : (Jvm.Cond.code ({ cls := "BackRescue", name := "mostAlike", desc := "(II)I" } : Jvm.MethodName) prog_1_method_65_code (6 : Nat) (Option.some Jvm.ClassFile.FieldType.int)) ∈ lw_all := lw_g (lw_at lw_m5 75 rfl) rfl
theorem q1169 : (Jvm.Cond.methodLink "BackRescue" (325 : Nat) ({ cls := "java/lang/Math", name := "max", desc := "(II)I" } : Jvm.MethodName)) ∈ lw_all := lw_g (lw_at lw_m5 76 rfl) rfl
theorem q1171 : (Jvm.Cond.instanceMethod ({ cls := "BackRescue", name := "withstands", desc := "(I)I" } : Jvm.MethodName)) ∈ lw_all := lw_g (lw_at lw_m5 78 rfl) rfl
theorem q1172 : (Jvm.Cond.selects "BackRescue" ({ cls := "BackRescue", name := "withstands", desc := "(I)I" } : Jvm.MethodName) ({ cls := "BackRescue", name := "withstands", desc := "(I)I" } : Jvm.MethodName)) ∈ lw_all := lw_g (lw_at lw_m5 79 rfl) rfl
theorem q1173 : (Jvm.Cond.code ({ cls := "BackRescue", name := "withstands", desc := "(I)I" } : Jvm.MethodName) prog_1_method_71_code (4 : Nat) (Option.some Jvm.ClassFile.FieldType.int)) ∈ lw_all := lw_g (lw_at lw_m5 80 rfl) rfl
theorem q1174 : (Jvm.Cond.methodLink "BackRescue" (341 : Nat) ({ cls := "BackRescue", name := "laysFalls", desc := "(II)V" } : Jvm.MethodName)) ∈ lw_all := lw_g (lw_at lw_m5 81 rfl) rfl
theorem q1175 : (Jvm.Cond.privateMethod ({ cls := "BackRescue", name := "laysFalls", desc := "(II)V" } : Jvm.MethodName)) ∈ lw_tbl := lw_at lw_m5 82 rfl
theorem q1176 : (Jvm.Cond.instanceMethod ({ cls := "BackRescue", name := "laysFalls", desc := "(II)V" } : Jvm.MethodName)) ∈ lw_all := lw_g (lw_at lw_m5 83 rfl) rfl
theorem q1177 : (Jvm.Cond.code ({ cls := "BackRescue", name := "laysFalls", desc := "(II)V" } : Jvm.MethodName) prog_1_method_70_code (5 : Nat) (Option.none : Option Jvm.ClassFile.FieldType)) ∈ lw_all := lw_g (lw_at lw_m5 84 rfl) rfl
theorem q1178 : (Jvm.Cond.methodLink "BackRescue" (338 : Nat) ({ cls := "BackRescue", name := "gains", desc := "(II)Z" } : Jvm.MethodName)) ∈ lw_all := lw_g (lw_at lw_m5 85 rfl) rfl
theorem q1179 : (Jvm.Cond.privateMethod ({ cls := "BackRescue", name := "gains", desc := "(II)Z" } : Jvm.MethodName)) ∈ lw_tbl := lw_at lw_m5 86 rfl
theorem q1180 : (Jvm.Cond.instanceMethod ({ cls := "BackRescue", name := "gains", desc := "(II)Z" } : Jvm.MethodName)) ∈ lw_all := lw_g (lw_at lw_m5 87 rfl) rfl
theorem q1181 : (Jvm.Cond.code ({ cls := "BackRescue", name := "gains", desc := "(II)Z" } : Jvm.MethodName) prog_1_method_69_code (4 : Nat) (Option.some Jvm.ClassFile.FieldType.boolean)) ∈ lw_all := lw_g (lw_at lw_m5 88 rfl) rfl
theorem q1182 : (Jvm.Cond.methodLink "BackRescue" (334 : Nat) ({ cls := "BackRescue", name := "winsBy", desc := "(III)Z" } : Jvm.MethodName)) ∈ lw_all := lw_g (lw_at lw_m5 89 rfl) rfl
theorem q1183 : (Jvm.Cond.privateMethod ({ cls := "BackRescue", name := "winsBy", desc := "(III)Z" } : Jvm.MethodName)) ∈ lw_tbl := lw_at lw_m5 90 rfl
theorem q1184 : (Jvm.Cond.instanceMethod ({ cls := "BackRescue", name := "winsBy", desc := "(III)Z" } : Jvm.MethodName)) ∈ lw_all := lw_g (lw_at lw_m5 91 rfl) rfl
theorem q1185 : (Jvm.Cond.code ({ cls := "BackRescue", name := "winsBy", desc := "(III)Z" } : Jvm.MethodName) prog_1_method_68_code (5 : Nat) (Option.some Jvm.ClassFile.FieldType.boolean)) ∈ lw_all := lw_g (lw_at lw_m5 92 rfl) rfl
theorem q1186 : (Jvm.Cond.methodLink "BackRescue" (331 : Nat) ({ cls := "BackRescue", name := "fallen", desc := "(I)I" } : Jvm.MethodName)) ∈ lw_all := lw_g (lw_at lw_m5 93 rfl) rfl
theorem q1187 : (Jvm.Cond.static ({ cls := "BackRescue", name := "fallen", desc := "(I)I" } : Jvm.MethodName)) ∈ lw_all := lw_g (lw_at lw_m5 94 rfl) rfl
theorem q1188 : (Jvm.Cond.code ({ cls := "BackRescue", name := "fallen", desc := "(I)I" } : Jvm.MethodName) prog_1_method_67_code (1 : Nat) (Option.some Jvm.ClassFile.FieldType.int)) ∈ lw_all := lw_g (lw_at lw_m5 95 rfl) rfl
theorem q1190 : (Jvm.Cond.instanceMethod ({ cls := "BackRescue", name := "chance", desc := "(III)I" } : Jvm.MethodName)) ∈ lw_all := lw_g (lw_at lw_m5 97 rfl) rfl
theorem q1191 : (Jvm.Cond.selects "BackRescue" ({ cls := "BackRescue", name := "chance", desc := "(III)I" } : Jvm.MethodName) ({ cls := "BackRescue", name := "chance", desc := "(III)I" } : Jvm.MethodName)) ∈ lw_all := lw_g (lw_at lw_m5 98 rfl) rfl
theorem q1192 : (Jvm.Cond.code ({ cls := "BackRescue", name := "chance", desc := "(III)I" } : Jvm.MethodName) prog_1_method_78_code (6 : Nat) (Option.some Jvm.ClassFile.FieldType.int)) ∈ lw_all := lw_g (lw_at lw_m5 99 rfl) rfl
theorem q1193 : (Jvm.Cond.methodLink "BackRescue" (362 : Nat) ({ cls := "BackRescue", name := "isSoon", desc := "(I)Z" } : Jvm.MethodName)) ∈ lw_all := lw_g (lw_at lw_m5 100 rfl) rfl
theorem q1194 : (Jvm.Cond.static ({ cls := "BackRescue", name := "isSoon", desc := "(I)Z" } : Jvm.MethodName)) ∈ lw_all := lw_g (lw_at lw_m5 101 rfl) rfl
theorem q1195 : (Jvm.Cond.code ({ cls := "BackRescue", name := "isSoon", desc := "(I)Z" } : Jvm.MethodName) prog_1_method_77_code (1 : Nat) (Option.some Jvm.ClassFile.FieldType.boolean)) ∈ lw_all := lw_g (lw_at lw_m5 102 rfl) rfl
theorem q1196 : (Jvm.Cond.constantLong "BackRescue" (360 : Nat) (8 : Int64)) ∈ lw_all := lw_g (lw_at lw_m5 103 rfl) rfl
theorem q1197 : (Jvm.Cond.methodLink "BackRescue" (365 : Nat) ({ cls := "BackRescue", name := "laysChances", desc := "(II)I" } : Jvm.MethodName)) ∈ lw_all := lw_g (lw_at lw_m5 104 rfl) rfl
theorem q1198 : (Jvm.Cond.privateMethod ({ cls := "BackRescue", name := "laysChances", desc := "(II)I" } : Jvm.MethodName)) ∈ lw_tbl := lw_at lw_m5 105 rfl
theorem q1199 : (Jvm.Cond.instanceMethod ({ cls := "BackRescue", name := "laysChances", desc := "(II)I" } : Jvm.MethodName)) ∈ lw_all := lw_g (lw_at lw_m5 106 rfl) rfl
theorem q1200 : (Jvm.Cond.code ({ cls := "BackRescue", name := "laysChances", desc := "(II)I" } : Jvm.MethodName) prog_1_method_75_code (5 : Nat) (Option.some Jvm.ClassFile.FieldType.int)) ∈ lw_all := lw_g (lw_at lw_m5 107 rfl) rfl
theorem q1201 : (Jvm.Cond.methodLink "BackRescue" (354 : Nat) ({ cls := "BackRescue", name := "chanceFrom", desc := "(III)I" } : Jvm.MethodName)) ∈ lw_all := lw_g (lw_at lw_m5 108 rfl) rfl
theorem q1202 : (Jvm.Cond.privateMethod ({ cls := "BackRescue", name := "chanceFrom", desc := "(III)I" } : Jvm.MethodName)) ∈ lw_tbl := lw_at lw_m5 109 rfl
theorem q1203 : (Jvm.Cond.instanceMethod ({ cls := "BackRescue", name := "chanceFrom", desc := "(III)I" } : Jvm.MethodName)) ∈ lw_all := lw_g (lw_at lw_m5 110 rfl) rfl
theorem q1204 : (Jvm.Cond.code ({ cls := "BackRescue", name := "chanceFrom", desc := "(III)I" } : Jvm.MethodName) prog_1_method_74_code (6 : Nat) (Option.some Jvm.ClassFile.FieldType.int)) ∈ lw_all := lw_g (lw_at lw_m5 111 rfl) rfl
theorem q1205 : (Jvm.Cond.methodLink "BackRescue" (348 : Nat) ({ cls := "BackRescue", name := "tens", desc := "(I)I" } : Jvm.MethodName)) ∈ lw_all := lw_g (lw_at lw_m5 112 rfl) rfl
theorem q1206 : (Jvm.Cond.static ({ cls := "BackRescue", name := "tens", desc := "(I)I" } : Jvm.MethodName)) ∈ lw_all := lw_g (lw_at lw_m5 113 rfl) rfl
theorem q1207 : (Jvm.Cond.code ({ cls := "BackRescue", name := "tens", desc := "(I)I" } : Jvm.MethodName) prog_1_method_72_code (3 : Nat) (Option.some Jvm.ClassFile.FieldType.int)) ∈ lw_all := lw_g (lw_at lw_m5 114 rfl) rfl
theorem q1208 : (Jvm.Cond.methodLink "BackRescue" (351 : Nat) ({ cls := "BackRescue", name := "chanceBy", desc := "(III)I" } : Jvm.MethodName)) ∈ lw_all := lw_g (lw_at lw_m5 115 rfl) rfl
theorem q1209 : (Jvm.Cond.privateMethod ({ cls := "BackRescue", name := "chanceBy", desc := "(III)I" } : Jvm.MethodName)) ∈ lw_tbl := lw_at lw_m5 116 rfl
theorem q1210 : (Jvm.Cond.instanceMethod ({ cls := "BackRescue", name := "chanceBy", desc := "(III)I" } : Jvm.MethodName)) ∈ lw_all := lw_g (lw_at lw_m5 117 rfl) rfl
theorem q1211 : (Jvm.Cond.code ({ cls := "BackRescue", name := "chanceBy", desc := "(III)I" } : Jvm.MethodName) prog_1_method_73_code (5 : Nat) (Option.some Jvm.ClassFile.FieldType.int)) ∈ lw_all := lw_g (lw_at lw_m5 118 rfl) rfl
theorem q1212 : (Jvm.Cond.methodLink "BackRescue" (357 : Nat) ({ cls := "BackRescue", name := "common", desc := "(II)I" } : Jvm.MethodName)) ∈ lw_all := lw_g (lw_at lw_m5 119 rfl) rfl
theorem q1213 : (Jvm.Cond.static ({ cls := "BackRescue", name := "common", desc := "(II)I" } : Jvm.MethodName)) ∈ lw_all := lw_g (lw_at lw_m5 120 rfl) rfl
theorem q1214 : (Jvm.Cond.code ({ cls := "BackRescue", name := "common", desc := "(II)I" } : Jvm.MethodName) prog_1_method_76_code (2 : Nat) (Option.some Jvm.ClassFile.FieldType.int)) ∈ lw_all := lw_g (lw_at lw_m5 121 rfl) rfl
theorem q1216 : (Jvm.Cond.instanceMethod ({ cls := "BackRescue", name := "best", desc := "(II)I" } : Jvm.MethodName)) ∈ lw_all := lw_g (lw_at lw_m5 123 rfl) rfl
theorem q1217 : (Jvm.Cond.selects "BackRescue" ({ cls := "BackRescue", name := "best", desc := "(II)I" } : Jvm.MethodName) ({ cls := "BackRescue", name := "best", desc := "(II)I" } : Jvm.MethodName)) ∈ lw_all := lw_g (lw_at lw_m5 124 rfl) rfl
theorem q1218 : (Jvm.Cond.code ({ cls := "BackRescue", name := "best", desc := "(II)I" } : Jvm.MethodName) prog_1_method_79_code (5 : Nat) (Option.some Jvm.ClassFile.FieldType.int)) ∈ lw_all := lw_g (lw_at lw_m5 125 rfl) rfl
theorem q1220 : (Jvm.Cond.instanceMethod ({ cls := "BackRescue", name := "numbers", desc := "(III)I" } : Jvm.MethodName)) ∈ lw_all := lw_g (lw_at lw_m5 127 rfl) rfl
theorem q1221 : (Jvm.Cond.selects "BackRescue" ({ cls := "BackRescue", name := "numbers", desc := "(III)I" } : Jvm.MethodName) ({ cls := "BackRescue", name := "numbers", desc := "(III)I" } : Jvm.MethodName)) ∈ lw_all := lw_g (lw_at lw_m5 128 rfl) rfl
theorem q1222 : (Jvm.Cond.code ({ cls := "BackRescue", name := "numbers", desc := "(III)I" } : Jvm.MethodName) prog_1_method_82_code (4 : Nat) (Option.some Jvm.ClassFile.FieldType.int)) ∈ lw_all := lw_g (lw_at lw_m5 129 rfl) rfl
theorem q1223 : (Jvm.Cond.methodLink "BackRescue" (375 : Nat) ({ cls := "BackRescue$Numbers", name := "begins", desc := "(II)Z" } : Jvm.MethodName)) ∈ lw_all := lw_g (lw_at lw_m5 130 rfl) rfl
theorem q1312 : (Jvm.Cond.instanceMethod ({ cls := "BackRescue", name := "write", desc := "(IIJ)J" } : Jvm.MethodName)) ∈ lw_all := lw_g (lw_at lw_m5 219 rfl) rfl
theorem q1313 : (Jvm.Cond.selects "BackRescue" ({ cls := "BackRescue", name := "write", desc := "(IIJ)J" } : Jvm.MethodName) ({ cls := "BackRescue", name := "write", desc := "(IIJ)J" } : Jvm.MethodName)) ∈ lw_all := lw_g (lw_at lw_m5 220 rfl) rfl
theorem q1314 : (Jvm.Cond.codeWith ({ cls := "BackRescue", name := "write", desc := "(IIJ)J" } : Jvm.MethodName) prog_1_method_83_code (6 : Nat) (Option.some Jvm.ClassFile.FieldType.long) [((11 : Nat), (32 : Nat), (33 : Nat), (383 : Nat)), ((11 : Nat), (32 : Nat), (39 : Nat), (387 : Nat))]) ∈ lw_all := lw_g (lw_at lw_m5 221 rfl) rfl
theorem q1315 : (Jvm.Cond.classLink "BackRescue" (383 : Nat) "java/lang/NullPointerException") ∈ lw_all := lw_g (lw_at lw_m5 222 rfl) rfl
theorem q1340 : (Jvm.Cond.classLink "BackRescue" (387 : Nat) "java/lang/ArrayIndexOutOfBoundsException") ∈ lw_all := lw_g (lw_at lw_m6 7 rfl) rfl
theorem q1359 : (Jvm.Cond.constantLong "BackRescue" (377 : Nat) (-2 : Int64)) ∈ lw_all := lw_g (lw_at lw_m6 26 rfl) rfl
theorem q1360 : (Jvm.Cond.methodLink "BackRescue" (379 : Nat) ({ cls := "BackRescue$Numbers", name := "puts", desc := "(IJ)V" } : Jvm.MethodName)) ∈ lw_all := lw_g (lw_at lw_m6 27 rfl) rfl
theorem q1364 : (Jvm.Cond.constantLong "BackRescue" (385 : Nat) (-6 : Int64)) ∈ lw_all := lw_g (lw_at lw_m6 31 rfl) rfl
theorem q1365 : (Jvm.Cond.constantLong "BackRescue" (389 : Nat) (-7 : Int64)) ∈ lw_all := lw_g (lw_at lw_m6 32 rfl) rfl
theorem q1367 : (Jvm.Cond.instanceMethod ({ cls := "BackRescue", name := "lists", desc := "(III)I" } : Jvm.MethodName)) ∈ lw_all := lw_g (lw_at lw_m6 34 rfl) rfl
theorem q1368 : (Jvm.Cond.selects "BackRescue" ({ cls := "BackRescue", name := "lists", desc := "(III)I" } : Jvm.MethodName) ({ cls := "BackRescue", name := "lists", desc := "(III)I" } : Jvm.MethodName)) ∈ lw_all := lw_g (lw_at lw_m6 35 rfl) rfl
theorem q1369 : (Jvm.Cond.code ({ cls := "BackRescue", name := "lists", desc := "(III)I" } : Jvm.MethodName) prog_1_method_84_code (7 : Nat) (Option.some Jvm.ClassFile.FieldType.int)) ∈ lw_all := lw_g (lw_at lw_m6 36 rfl) rfl
theorem q1371 : (Jvm.Cond.instanceMethod ({ cls := "BackRescue", name := "image", desc := "(I)I" } : Jvm.MethodName)) ∈ lw_all := lw_g (lw_at lw_m6 38 rfl) rfl
theorem q1372 : (Jvm.Cond.selects "BackRescue" ({ cls := "BackRescue", name := "image", desc := "(I)I" } : Jvm.MethodName) ({ cls := "BackRescue", name := "image", desc := "(I)I" } : Jvm.MethodName)) ∈ lw_all := lw_g (lw_at lw_m6 39 rfl) rfl
theorem q1373 : (Jvm.Cond.code ({ cls := "BackRescue", name := "image", desc := "(I)I" } : Jvm.MethodName) prog_1_method_85_code (2 : Nat) (Option.some Jvm.ClassFile.FieldType.int)) ∈ lw_all := lw_g (lw_at lw_m6 40 rfl) rfl
theorem q1375 : (Jvm.Cond.instanceMethod ({ cls := "BackRescue", name := "restore", desc := "(I)I" } : Jvm.MethodName)) ∈ lw_all := lw_g (lw_at lw_m6 42 rfl) rfl
theorem q1376 : (Jvm.Cond.selects "BackRescue" ({ cls := "BackRescue", name := "restore", desc := "(I)I" } : Jvm.MethodName) ({ cls := "BackRescue", name := "restore", desc := "(I)I" } : Jvm.MethodName)) ∈ lw_all := lw_g (lw_at lw_m6 43 rfl) rfl
theorem q1377 : (Jvm.Cond.code ({ cls := "BackRescue", name := "restore", desc := "(I)I" } : Jvm.MethodName) prog_1_method_86_code (2 : Nat) (Option.some Jvm.ClassFile.FieldType.int)) ∈ lw_all := lw_g (lw_at lw_m6 44 rfl) rfl
theorem q1379 : (Jvm.Cond.instanceMethod ({ cls := "BackRescue", name := "count", desc := "(I)I" } : Jvm.MethodName)) ∈ lw_all := lw_g (lw_at lw_m6 46 rfl) rfl
theorem q1380 : (Jvm.Cond.selects "BackRescue" ({ cls := "BackRescue", name := "count", desc := "(I)I" } : Jvm.MethodName) ({ cls := "BackRescue", name := "count", desc := "(I)I" } : Jvm.MethodName)) ∈ lw_all := lw_g (lw_at lw_m6 47 rfl) rfl
theorem q1381 : (Jvm.Cond.code ({ cls := "BackRescue", name := "count", desc := "(I)I" } : Jvm.MethodName) prog_1_method_87_code (2 : Nat) (Option.some Jvm.ClassFile.FieldType.int)) ∈ lw_all := lw_g (lw_at lw_m6 48 rfl) rfl
theorem in_X0 : ∀ w ∈ wsX00, w ∈ lw_all := lw_in wsX00 [323, 325, 327, 329, 331, 333, 335, 337, 339, 341, 343, 345, 347, 349, 351, 353, 355, 357, 359, 361, 363, 365, 367, 369] (by decide +kernel) (by decide +kernel)
