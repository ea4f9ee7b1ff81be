/-! BackRescue$Cave -/
set_option maxRecDepth 100000
def RX1 : String := "BackRescue$Cave"
def TX1 : u_T := fun k => match k with
  | 0 => ("BackRescue$Cave", "begin", "[I", true)
  | 1 => ("BackRescue$Cave", "end", "[I", true)
  | 2 => ("BackRescue$Cave", "drop", "[I", true)
  | 3 => ("BackRescue$Cave", "words", "[I", true)
  | 4 => ("BackRescue$Cave", "rooms", "I", false)
  | 5 => ("BackRescue$Cave", "passages", "I", false)
  | 6 => ("BackRescue$Cave", "twoWays", "I", false)
  | 7 => ("BackRescue$Cave", "roped", "I", false)
  | 8 => ("BackRescue$Cave", "room", "I", false)
  | 9 => ("BackRescue$Cave", "hurt", "I", false)
  | 10 => ("BackRescue$Cave", "slack", "I", false)
  | 11 => ("BackRescue$Cave", "falls", "I", false)
  | 12 => ("BackRescue$Cave", "lines", "I", false)
  | 13 => ("BackRescue$Cave", "hurts", "LBackRescue$Sum;", false)
  | _ => ("BackRescue$Cave", "may", "LBackRescue$Truth;", false)
def tyX1 : Nat → FieldType := fun k => match k with
  | 0 => .array .int
  | 1 => .array .int
  | 2 => .array .int
  | 3 => .array .int
  | 4 => .int
  | 5 => .int
  | 6 => .int
  | 7 => .int
  | 8 => .int
  | 9 => .int
  | 10 => .int
  | 11 => .int
  | 12 => .int
  | 13 => .object "BackRescue$Sum"
  | _ => .object "BackRescue$Truth"
abbrev wsX10 : List Cond := u_ws RX1 TX1 15
set_option maxRecDepth 100000 in
theorem nmX1 : ∀ a, a < 15 → ∀ b, b < 15 → a ≠ b → (TX1 a).2.1 ≠ (TX1 b).2.1 := by decide +kernel
set_option maxRecDepth 100000 in
theorem tyX1_ok : ∀ k, k < 15 → parseFieldDescriptor (TX1 k).2.2.1 = some (tyX1 k) := by decide +kernel
abbrev cX1_init : ByteArray := prog_3_method_1_code
def yX1_init : MethodName := ⟨RX1, "<init>", "()V"⟩
def dkwX1_init_1 : List UInt8 := [188, 10, 181, 0, 18, 42, 16, 7, 188, 10, 181, 0, 21, 42, 4, 181, 0, 24, 177]
abbrev dktX1_init_1 : List UInt8 := dkwX1_init_1 ++ []
def dkwX1_init_0 : List UInt8 := [42, 183, 0, 3, 42, 16, 8, 188, 10, 181, 0, 9, 42, 16, 8, 188, 10, 181, 0, 15, 42, 16, 8]
abbrev dktX1_init_0 : List UInt8 := dkwX1_init_0 ++ dktX1_init_1
theorem dksX1_init_0 : cX1_init.data.toList.drop 0 = dktX1_init_0 := by decide +kernel
theorem dksX1_init_1 : cX1_init.data.toList.drop 23 = dktX1_init_1 := dk_seg dksX1_init_0 23 rfl rfl
theorem dX1_init_0 : decode cX1_init 0 = .ok (.aload_n 0, 1) := dk_42 (dk_at dksX1_init_0 0 rfl rfl)
theorem dX1_init_1 : decode cX1_init 1 = .ok (.invokespecial 3, 3) := dk_183 0 3 (dk_at dksX1_init_0 1 rfl rfl)
theorem dX1_init_4 : decode cX1_init 4 = .ok (.aload_n 0, 1) := dk_42 (dk_at dksX1_init_0 4 rfl rfl)
theorem dX1_init_5 : decode cX1_init 5 = .ok (.bipush 8, 2) := dk_16 8 (dk_at dksX1_init_0 5 rfl rfl)
theorem dX1_init_7 : decode cX1_init 7 = .ok (.newarray .int, 2) := dk_188_10 (dk_at dksX1_init_0 7 rfl rfl)
theorem dX1_init_9 : decode cX1_init 9 = .ok (.putfield 9, 3) := dk_181 0 9 (dk_at dksX1_init_0 9 rfl rfl)
theorem dX1_init_12 : decode cX1_init 12 = .ok (.aload_n 0, 1) := dk_42 (dk_at dksX1_init_0 12 rfl rfl)
theorem dX1_init_13 : decode cX1_init 13 = .ok (.bipush 8, 2) := dk_16 8 (dk_at dksX1_init_0 13 rfl rfl)
theorem dX1_init_15 : decode cX1_init 15 = .ok (.newarray .int, 2) := dk_188_10 (dk_at dksX1_init_0 15 rfl rfl)
theorem dX1_init_17 : decode cX1_init 17 = .ok (.putfield 15, 3) := dk_181 0 15 (dk_at dksX1_init_0 17 rfl rfl)
theorem dX1_init_20 : decode cX1_init 20 = .ok (.aload_n 0, 1) := dk_42 (dk_at dksX1_init_0 20 rfl rfl)
theorem dX1_init_21 : decode cX1_init 21 = .ok (.bipush 8, 2) := dk_16 8 (dk_at dksX1_init_0 21 rfl rfl)
theorem dX1_init_23 : decode cX1_init 23 = .ok (.newarray .int, 2) := dk_188_10 (dk_at dksX1_init_1 0 rfl rfl)
theorem dX1_init_25 : decode cX1_init 25 = .ok (.putfield 18, 3) := dk_181 0 18 (dk_at dksX1_init_1 2 rfl rfl)
theorem dX1_init_28 : decode cX1_init 28 = .ok (.aload_n 0, 1) := dk_42 (dk_at dksX1_init_1 5 rfl rfl)
theorem dX1_init_29 : decode cX1_init 29 = .ok (.bipush 7, 2) := dk_16 7 (dk_at dksX1_init_1 6 rfl rfl)
theorem dX1_init_31 : decode cX1_init 31 = .ok (.newarray .int, 2) := dk_188_10 (dk_at dksX1_init_1 8 rfl rfl)
theorem dX1_init_33 : decode cX1_init 33 = .ok (.putfield 21, 3) := dk_181 0 21 (dk_at dksX1_init_1 10 rfl rfl)
theorem dX1_init_36 : decode cX1_init 36 = .ok (.aload_n 0, 1) := dk_42 (dk_at dksX1_init_1 13 rfl rfl)
theorem dX1_init_37 : decode cX1_init 37 = .ok (.iconst 1, 1) := dk_4 (dk_at dksX1_init_1 14 rfl rfl)
theorem dX1_init_38 : decode cX1_init 38 = .ok (.putfield 24, 3) := dk_181 0 24 (dk_at dksX1_init_1 15 rfl rfl)
theorem dX1_init_41 : decode cX1_init 41 = .ok (.return_, 1) := dk_177 (dk_at dksX1_init_1 18 rfl rfl)
abbrev cX1_may : ByteArray := prog_3_method_4_code
def yX1_may : MethodName := ⟨RX1, "may", "(IIZIZ)Z"⟩
def dkwX1_may_2 : List UInt8 := [180, 0, 55, 42, 180, 0, 21, 182, 0, 59, 172]
abbrev dktX1_may_2 : List UInt8 := dkwX1_may_2 ++ []
def dkwX1_may_1 : List UInt8 := [16, 6, 21, 5, 153, 0, 12, 42, 180, 0, 9, 27, 46, 167, 0, 9, 42, 180, 0, 15, 27, 46, 79, 42]
abbrev dktX1_may_1 : List UInt8 := dkwX1_may_1 ++ dktX1_may_2
def dkwX1_may_0 : List UInt8 := [42, 180, 0, 55, 199, 0, 5, 4, 172, 42, 27, 28, 29, 21, 4, 21, 5, 182, 0, 42, 42, 180, 0, 21]
abbrev dktX1_may_0 : List UInt8 := dkwX1_may_0 ++ dktX1_may_1
theorem dksX1_may_0 : cX1_may.data.toList.drop 0 = dktX1_may_0 := by decide +kernel
theorem dksX1_may_1 : cX1_may.data.toList.drop 24 = dktX1_may_1 := dk_seg dksX1_may_0 24 rfl rfl
theorem dksX1_may_2 : cX1_may.data.toList.drop 48 = dktX1_may_2 := dk_seg dksX1_may_1 24 rfl rfl
theorem dX1_may_0 : decode cX1_may 0 = .ok (.aload_n 0, 1) := dk_42 (dk_at dksX1_may_0 0 rfl rfl)
theorem dX1_may_1 : decode cX1_may 1 = .ok (.getfield 55, 3) := dk_180 0 55 (dk_at dksX1_may_0 1 rfl rfl)
theorem dX1_may_4 : decode cX1_may 4 = .ok (.ifnonnull 5, 3) := dk_199 0 5 (dk_at dksX1_may_0 4 rfl rfl)
theorem dX1_may_7 : decode cX1_may 7 = .ok (.iconst 1, 1) := dk_4 (dk_at dksX1_may_0 7 rfl rfl)
theorem dX1_may_8 : decode cX1_may 8 = .ok (.ireturn, 1) := dk_172 (dk_at dksX1_may_0 8 rfl rfl)
theorem dX1_may_9 : decode cX1_may 9 = .ok (.aload_n 0, 1) := dk_42 (dk_at dksX1_may_0 9 rfl rfl)
theorem dX1_may_10 : decode cX1_may 10 = .ok (.iload_n 1, 1) := dk_27 (dk_at dksX1_may_0 10 rfl rfl)
theorem dX1_may_11 : decode cX1_may 11 = .ok (.iload_n 2, 1) := dk_28 (dk_at dksX1_may_0 11 rfl rfl)
theorem dX1_may_12 : decode cX1_may 12 = .ok (.iload_n 3, 1) := dk_29 (dk_at dksX1_may_0 12 rfl rfl)
theorem dX1_may_13 : decode cX1_may 13 = .ok (.iload 4, 2) := dk_21 4 (dk_at dksX1_may_0 13 rfl rfl)
theorem dX1_may_15 : decode cX1_may 15 = .ok (.iload 5, 2) := dk_21 5 (dk_at dksX1_may_0 15 rfl rfl)
theorem dX1_may_17 : decode cX1_may 17 = .ok (.invokevirtual 42, 3) := dk_182 0 42 (dk_at dksX1_may_0 17 rfl rfl)
theorem dX1_may_20 : decode cX1_may 20 = .ok (.aload_n 0, 1) := dk_42 (dk_at dksX1_may_0 20 rfl rfl)
theorem dX1_may_21 : decode cX1_may 21 = .ok (.getfield 21, 3) := dk_180 0 21 (dk_at dksX1_may_0 21 rfl rfl)
theorem dX1_may_24 : decode cX1_may 24 = .ok (.bipush 6, 2) := dk_16 6 (dk_at dksX1_may_1 0 rfl rfl)
theorem dX1_may_26 : decode cX1_may 26 = .ok (.iload 5, 2) := dk_21 5 (dk_at dksX1_may_1 2 rfl rfl)
theorem dX1_may_28 : decode cX1_may 28 = .ok (.ifCond .eq 12, 3) := dk_153 0 12 (dk_at dksX1_may_1 4 rfl rfl)
theorem dX1_may_31 : decode cX1_may 31 = .ok (.aload_n 0, 1) := dk_42 (dk_at dksX1_may_1 7 rfl rfl)
theorem dX1_may_32 : decode cX1_may 32 = .ok (.getfield 9, 3) := dk_180 0 9 (dk_at dksX1_may_1 8 rfl rfl)
theorem dX1_may_35 : decode cX1_may 35 = .ok (.iload_n 1, 1) := dk_27 (dk_at dksX1_may_1 11 rfl rfl)
theorem dX1_may_36 : decode cX1_may 36 = .ok (.iaload, 1) := dk_46 (dk_at dksX1_may_1 12 rfl rfl)
theorem dX1_may_37 : decode cX1_may 37 = .ok (.goto 9, 3) := dk_167 0 9 (dk_at dksX1_may_1 13 rfl rfl)
theorem dX1_may_40 : decode cX1_may 40 = .ok (.aload_n 0, 1) := dk_42 (dk_at dksX1_may_1 16 rfl rfl)
theorem dX1_may_41 : decode cX1_may 41 = .ok (.getfield 15, 3) := dk_180 0 15 (dk_at dksX1_may_1 17 rfl rfl)
theorem dX1_may_44 : decode cX1_may 44 = .ok (.iload_n 1, 1) := dk_27 (dk_at dksX1_may_1 20 rfl rfl)
theorem dX1_may_45 : decode cX1_may 45 = .ok (.iaload, 1) := dk_46 (dk_at dksX1_may_1 21 rfl rfl)
theorem dX1_may_46 : decode cX1_may 46 = .ok (.iastore, 1) := dk_79 (dk_at dksX1_may_1 22 rfl rfl)
theorem dX1_may_47 : decode cX1_may 47 = .ok (.aload_n 0, 1) := dk_42 (dk_at dksX1_may_1 23 rfl rfl)
theorem dX1_may_48 : decode cX1_may 48 = .ok (.getfield 55, 3) := dk_180 0 55 (dk_at dksX1_may_2 0 rfl rfl)
theorem dX1_may_51 : decode cX1_may 51 = .ok (.aload_n 0, 1) := dk_42 (dk_at dksX1_may_2 3 rfl rfl)
theorem dX1_may_52 : decode cX1_may 52 = .ok (.getfield 21, 3) := dk_180 0 21 (dk_at dksX1_may_2 4 rfl rfl)
theorem dX1_may_55 : decode cX1_may 55 = .ok (.invokevirtual 59, 3) := dk_182 0 59 (dk_at dksX1_may_2 7 rfl rfl)
theorem dX1_may_58 : decode cX1_may 58 = .ok (.ireturn, 1) := dk_172 (dk_at dksX1_may_2 10 rfl rfl)
abbrev cX1_lays : ByteArray := prog_3_method_2_code
def yX1_lays : MethodName := ⟨RX1, "lays", "(IIZIZ)V"⟩
def dkwX1_lays_2 : List UInt8 := [8, 21, 5, 184, 0, 28, 79, 177]
abbrev dktX1_lays_2 : List UInt8 := dkwX1_lays_2 ++ []
def dkwX1_lays_1 : List UInt8 := [28, 79, 42, 180, 0, 21, 6, 29, 184, 0, 28, 79, 42, 180, 0, 21, 7, 21, 4, 79, 42, 180, 0, 21]
abbrev dktX1_lays_1 : List UInt8 := dkwX1_lays_1 ++ dktX1_lays_2
def dkwX1_lays_0 : List UInt8 := [42, 180, 0, 21, 3, 27, 79, 42, 180, 0, 21, 4, 42, 180, 0, 18, 27, 46, 79, 42, 180, 0, 21, 5]
abbrev dktX1_lays_0 : List UInt8 := dkwX1_lays_0 ++ dktX1_lays_1
theorem dksX1_lays_0 : cX1_lays.data.toList.drop 0 = dktX1_lays_0 := by decide +kernel
theorem dksX1_lays_1 : cX1_lays.data.toList.drop 24 = dktX1_lays_1 := dk_seg dksX1_lays_0 24 rfl rfl
theorem dksX1_lays_2 : cX1_lays.data.toList.drop 48 = dktX1_lays_2 := dk_seg dksX1_lays_1 24 rfl rfl
theorem dX1_lays_0 : decode cX1_lays 0 = .ok (.aload_n 0, 1) := dk_42 (dk_at dksX1_lays_0 0 rfl rfl)
theorem dX1_lays_1 : decode cX1_lays 1 = .ok (.getfield 21, 3) := dk_180 0 21 (dk_at dksX1_lays_0 1 rfl rfl)
theorem dX1_lays_4 : decode cX1_lays 4 = .ok (.iconst 0, 1) := dk_3 (dk_at dksX1_lays_0 4 rfl rfl)
theorem dX1_lays_5 : decode cX1_lays 5 = .ok (.iload_n 1, 1) := dk_27 (dk_at dksX1_lays_0 5 rfl rfl)
theorem dX1_lays_6 : decode cX1_lays 6 = .ok (.iastore, 1) := dk_79 (dk_at dksX1_lays_0 6 rfl rfl)
theorem dX1_lays_7 : decode cX1_lays 7 = .ok (.aload_n 0, 1) := dk_42 (dk_at dksX1_lays_0 7 rfl rfl)
theorem dX1_lays_8 : decode cX1_lays 8 = .ok (.getfield 21, 3) := dk_180 0 21 (dk_at dksX1_lays_0 8 rfl rfl)
theorem dX1_lays_11 : decode cX1_lays 11 = .ok (.iconst 1, 1) := dk_4 (dk_at dksX1_lays_0 11 rfl rfl)
theorem dX1_lays_12 : decode cX1_lays 12 = .ok (.aload_n 0, 1) := dk_42 (dk_at dksX1_lays_0 12 rfl rfl)
theorem dX1_lays_13 : decode cX1_lays 13 = .ok (.getfield 18, 3) := dk_180 0 18 (dk_at dksX1_lays_0 13 rfl rfl)
theorem dX1_lays_16 : decode cX1_lays 16 = .ok (.iload_n 1, 1) := dk_27 (dk_at dksX1_lays_0 16 rfl rfl)
theorem dX1_lays_17 : decode cX1_lays 17 = .ok (.iaload, 1) := dk_46 (dk_at dksX1_lays_0 17 rfl rfl)
theorem dX1_lays_18 : decode cX1_lays 18 = .ok (.iastore, 1) := dk_79 (dk_at dksX1_lays_0 18 rfl rfl)
theorem dX1_lays_19 : decode cX1_lays 19 = .ok (.aload_n 0, 1) := dk_42 (dk_at dksX1_lays_0 19 rfl rfl)
theorem dX1_lays_20 : decode cX1_lays 20 = .ok (.getfield 21, 3) := dk_180 0 21 (dk_at dksX1_lays_0 20 rfl rfl)
theorem dX1_lays_23 : decode cX1_lays 23 = .ok (.iconst 2, 1) := dk_5 (dk_at dksX1_lays_0 23 rfl rfl)
theorem dX1_lays_24 : decode cX1_lays 24 = .ok (.iload_n 2, 1) := dk_28 (dk_at dksX1_lays_1 0 rfl rfl)
theorem dX1_lays_25 : decode cX1_lays 25 = .ok (.iastore, 1) := dk_79 (dk_at dksX1_lays_1 1 rfl rfl)
theorem dX1_lays_26 : decode cX1_lays 26 = .ok (.aload_n 0, 1) := dk_42 (dk_at dksX1_lays_1 2 rfl rfl)
theorem dX1_lays_27 : decode cX1_lays 27 = .ok (.getfield 21, 3) := dk_180 0 21 (dk_at dksX1_lays_1 3 rfl rfl)
theorem dX1_lays_30 : decode cX1_lays 30 = .ok (.iconst 3, 1) := dk_6 (dk_at dksX1_lays_1 6 rfl rfl)
theorem dX1_lays_31 : decode cX1_lays 31 = .ok (.iload_n 3, 1) := dk_29 (dk_at dksX1_lays_1 7 rfl rfl)
theorem dX1_lays_32 : decode cX1_lays 32 = .ok (.invokestatic 28, 3) := dk_184 0 28 (dk_at dksX1_lays_1 8 rfl rfl)
theorem dX1_lays_35 : decode cX1_lays 35 = .ok (.iastore, 1) := dk_79 (dk_at dksX1_lays_1 11 rfl rfl)
theorem dX1_lays_36 : decode cX1_lays 36 = .ok (.aload_n 0, 1) := dk_42 (dk_at dksX1_lays_1 12 rfl rfl)
theorem dX1_lays_37 : decode cX1_lays 37 = .ok (.getfield 21, 3) := dk_180 0 21 (dk_at dksX1_lays_1 13 rfl rfl)
theorem dX1_lays_40 : decode cX1_lays 40 = .ok (.iconst 4, 1) := dk_7 (dk_at dksX1_lays_1 16 rfl rfl)
theorem dX1_lays_41 : decode cX1_lays 41 = .ok (.iload 4, 2) := dk_21 4 (dk_at dksX1_lays_1 17 rfl rfl)
theorem dX1_lays_43 : decode cX1_lays 43 = .ok (.iastore, 1) := dk_79 (dk_at dksX1_lays_1 19 rfl rfl)
theorem dX1_lays_44 : decode cX1_lays 44 = .ok (.aload_n 0, 1) := dk_42 (dk_at dksX1_lays_1 20 rfl rfl)
theorem dX1_lays_45 : decode cX1_lays 45 = .ok (.getfield 21, 3) := dk_180 0 21 (dk_at dksX1_lays_1 21 rfl rfl)
theorem dX1_lays_48 : decode cX1_lays 48 = .ok (.iconst 5, 1) := dk_8 (dk_at dksX1_lays_2 0 rfl rfl)
theorem dX1_lays_49 : decode cX1_lays 49 = .ok (.iload 5, 2) := dk_21 5 (dk_at dksX1_lays_2 1 rfl rfl)
theorem dX1_lays_51 : decode cX1_lays 51 = .ok (.invokestatic 28, 3) := dk_184 0 28 (dk_at dksX1_lays_2 3 rfl rfl)
theorem dX1_lays_54 : decode cX1_lays 54 = .ok (.iastore, 1) := dk_79 (dk_at dksX1_lays_2 6 rfl rfl)
theorem dX1_lays_55 : decode cX1_lays 55 = .ok (.return_, 1) := dk_177 (dk_at dksX1_lays_2 7 rfl rfl)
abbrev cX1_hurts : ByteArray := prog_3_method_3_code
def yX1_hurts : MethodName := ⟨RX1, "hurts", "(IIZIZ)I"⟩
def dkwX1_hurts_2 : List UInt8 := [180, 0, 32, 42, 180, 0, 21, 182, 0, 46, 184, 0, 36, 184, 0, 52, 172]
abbrev dktX1_hurts_2 : List UInt8 := dkwX1_hurts_2 ++ []
def dkwX1_hurts_1 : List UInt8 := [96, 167, 0, 4, 28, 184, 0, 36, 172, 42, 27, 28, 29, 21, 4, 21, 5, 182, 0, 42, 3, 8, 42]
abbrev dktX1_hurts_1 : List UInt8 := dkwX1_hurts_1 ++ dktX1_hurts_2
def dkwX1_hurts_0 : List UInt8 := [42, 180, 0, 32, 199, 0, 29, 8, 42, 180, 0, 18, 27, 46, 7, 164, 0, 13, 29, 154, 0, 9, 28, 4]
abbrev dktX1_hurts_0 : List UInt8 := dkwX1_hurts_0 ++ dktX1_hurts_1
theorem dksX1_hurts_0 : cX1_hurts.data.toList.drop 0 = dktX1_hurts_0 := by decide +kernel
theorem dksX1_hurts_1 : cX1_hurts.data.toList.drop 24 = dktX1_hurts_1 := dk_seg dksX1_hurts_0 24 rfl rfl
theorem dksX1_hurts_2 : cX1_hurts.data.toList.drop 47 = dktX1_hurts_2 := dk_seg dksX1_hurts_1 23 rfl rfl
theorem dX1_hurts_0 : decode cX1_hurts 0 = .ok (.aload_n 0, 1) := dk_42 (dk_at dksX1_hurts_0 0 rfl rfl)
theorem dX1_hurts_1 : decode cX1_hurts 1 = .ok (.getfield 32, 3) := dk_180 0 32 (dk_at dksX1_hurts_0 1 rfl rfl)
theorem dX1_hurts_4 : decode cX1_hurts 4 = .ok (.ifnonnull 29, 3) := dk_199 0 29 (dk_at dksX1_hurts_0 4 rfl rfl)
theorem dX1_hurts_7 : decode cX1_hurts 7 = .ok (.iconst 5, 1) := dk_8 (dk_at dksX1_hurts_0 7 rfl rfl)
theorem dX1_hurts_8 : decode cX1_hurts 8 = .ok (.aload_n 0, 1) := dk_42 (dk_at dksX1_hurts_0 8 rfl rfl)
theorem dX1_hurts_9 : decode cX1_hurts 9 = .ok (.getfield 18, 3) := dk_180 0 18 (dk_at dksX1_hurts_0 9 rfl rfl)
theorem dX1_hurts_12 : decode cX1_hurts 12 = .ok (.iload_n 1, 1) := dk_27 (dk_at dksX1_hurts_0 12 rfl rfl)
theorem dX1_hurts_13 : decode cX1_hurts 13 = .ok (.iaload, 1) := dk_46 (dk_at dksX1_hurts_0 13 rfl rfl)
theorem dX1_hurts_14 : decode cX1_hurts 14 = .ok (.iconst 4, 1) := dk_7 (dk_at dksX1_hurts_0 14 rfl rfl)
theorem dX1_hurts_15 : decode cX1_hurts 15 = .ok (.if_icmp .le 13, 3) := dk_164 0 13 (dk_at dksX1_hurts_0 15 rfl rfl)
theorem dX1_hurts_18 : decode cX1_hurts 18 = .ok (.iload_n 3, 1) := dk_29 (dk_at dksX1_hurts_0 18 rfl rfl)
theorem dX1_hurts_19 : decode cX1_hurts 19 = .ok (.ifCond .ne 9, 3) := dk_154 0 9 (dk_at dksX1_hurts_0 19 rfl rfl)
theorem dX1_hurts_22 : decode cX1_hurts 22 = .ok (.iload_n 2, 1) := dk_28 (dk_at dksX1_hurts_0 22 rfl rfl)
theorem dX1_hurts_23 : decode cX1_hurts 23 = .ok (.iconst 1, 1) := dk_4 (dk_at dksX1_hurts_0 23 rfl rfl)
theorem dX1_hurts_24 : decode cX1_hurts 24 = .ok (.iadd, 1) := dk_96 (dk_at dksX1_hurts_1 0 rfl rfl)
theorem dX1_hurts_25 : decode cX1_hurts 25 = .ok (.goto 4, 3) := dk_167 0 4 (dk_at dksX1_hurts_1 1 rfl rfl)
theorem dX1_hurts_28 : decode cX1_hurts 28 = .ok (.iload_n 2, 1) := dk_28 (dk_at dksX1_hurts_1 4 rfl rfl)
theorem dX1_hurts_29 : decode cX1_hurts 29 = .ok (.invokestatic 36, 3) := dk_184 0 36 (dk_at dksX1_hurts_1 5 rfl rfl)
theorem dX1_hurts_32 : decode cX1_hurts 32 = .ok (.ireturn, 1) := dk_172 (dk_at dksX1_hurts_1 8 rfl rfl)
theorem dX1_hurts_33 : decode cX1_hurts 33 = .ok (.aload_n 0, 1) := dk_42 (dk_at dksX1_hurts_1 9 rfl rfl)
theorem dX1_hurts_34 : decode cX1_hurts 34 = .ok (.iload_n 1, 1) := dk_27 (dk_at dksX1_hurts_1 10 rfl rfl)
theorem dX1_hurts_35 : decode cX1_hurts 35 = .ok (.iload_n 2, 1) := dk_28 (dk_at dksX1_hurts_1 11 rfl rfl)
theorem dX1_hurts_36 : decode cX1_hurts 36 = .ok (.iload_n 3, 1) := dk_29 (dk_at dksX1_hurts_1 12 rfl rfl)
theorem dX1_hurts_37 : decode cX1_hurts 37 = .ok (.iload 4, 2) := dk_21 4 (dk_at dksX1_hurts_1 13 rfl rfl)
theorem dX1_hurts_39 : decode cX1_hurts 39 = .ok (.iload 5, 2) := dk_21 5 (dk_at dksX1_hurts_1 15 rfl rfl)
theorem dX1_hurts_41 : decode cX1_hurts 41 = .ok (.invokevirtual 42, 3) := dk_182 0 42 (dk_at dksX1_hurts_1 17 rfl rfl)
theorem dX1_hurts_44 : decode cX1_hurts 44 = .ok (.iconst 0, 1) := dk_3 (dk_at dksX1_hurts_1 20 rfl rfl)
theorem dX1_hurts_45 : decode cX1_hurts 45 = .ok (.iconst 5, 1) := dk_8 (dk_at dksX1_hurts_1 21 rfl rfl)
theorem dX1_hurts_46 : decode cX1_hurts 46 = .ok (.aload_n 0, 1) := dk_42 (dk_at dksX1_hurts_1 22 rfl rfl)
theorem dX1_hurts_47 : decode cX1_hurts 47 = .ok (.getfield 32, 3) := dk_180 0 32 (dk_at dksX1_hurts_2 0 rfl rfl)
theorem dX1_hurts_50 : decode cX1_hurts 50 = .ok (.aload_n 0, 1) := dk_42 (dk_at dksX1_hurts_2 3 rfl rfl)
theorem dX1_hurts_51 : decode cX1_hurts 51 = .ok (.getfield 21, 3) := dk_180 0 21 (dk_at dksX1_hurts_2 4 rfl rfl)
theorem dX1_hurts_54 : decode cX1_hurts 54 = .ok (.invokevirtual 46, 3) := dk_182 0 46 (dk_at dksX1_hurts_2 7 rfl rfl)
theorem dX1_hurts_57 : decode cX1_hurts 57 = .ok (.invokestatic 36, 3) := dk_184 0 36 (dk_at dksX1_hurts_2 10 rfl rfl)
theorem dX1_hurts_60 : decode cX1_hurts 60 = .ok (.invokestatic 52, 3) := dk_184 0 52 (dk_at dksX1_hurts_2 13 rfl rfl)
theorem dX1_hurts_63 : decode cX1_hurts 63 = .ok (.ireturn, 1) := dk_172 (dk_at dksX1_hurts_2 16 rfl rfl)
theorem q135 : (Jvm.Cond.initialized "BackRescue$Cave") ∈ lw_all := lw_g (lw_at lw_m1 2 rfl) rfl
theorem q172 : (Jvm.Cond.instantiable "BackRescue$Cave" (15 : Nat)) ∈ lw_all := lw_g (lw_at lw_m1 39 rfl) rfl
theorem q174 : (Jvm.Cond.instanceMethod ({ cls := "BackRescue$Cave", name := "<init>", desc := "()V" } : Jvm.MethodName)) ∈ lw_all := lw_g (lw_at lw_m1 41 rfl) rfl
theorem q175 : (Jvm.Cond.code ({ cls := "BackRescue$Cave", name := "<init>", desc := "()V" } : Jvm.MethodName) prog_3_method_1_code (1 : Nat) (Option.none : Option Jvm.ClassFile.FieldType)) ∈ lw_all := lw_g (lw_at lw_m1 42 rfl) rfl
theorem q176 : (Jvm.Cond.methodLink "BackRescue$Cave" (3 : Nat) ({ cls := "java/lang/Object", name := "<init>", desc := "()V" } : Jvm.MethodName)) ∈ lw_all := lw_g (lw_at lw_m1 43 rfl) rfl
theorem q177 : (Jvm.Cond.fieldLink "BackRescue$Cave" (9 : Nat) "BackRescue$Cave" "begin" "[I") ∈ lw_all := lw_g (lw_at lw_m1 44 rfl) rfl
theorem q181 : (Jvm.Cond.fieldLink "BackRescue$Cave" (15 : Nat) "BackRescue$Cave" "end" "[I") ∈ lw_all := lw_g (lw_at lw_m1 48 rfl) rfl
theorem q185 : (Jvm.Cond.fieldLink "BackRescue$Cave" (18 : Nat) "BackRescue$Cave" "drop" "[I") ∈ lw_all := lw_g (lw_at lw_m1 52 rfl) rfl
theorem q188 : (Jvm.Cond.fieldLink "BackRescue$Cave" (21 : Nat) "BackRescue$Cave" "words" "[I") ∈ lw_all := lw_g (lw_at lw_m1 55 rfl) rfl
theorem q189 : (Jvm.Cond.fieldLink "BackRescue$Cave" (24 : Nat) "BackRescue$Cave" "rooms" "I") ∈ lw_all := lw_g (lw_at lw_m1 56 rfl) rfl
theorem q211 : (Jvm.Cond.fieldLink "BackRescue$Cave" (32 : Nat) "BackRescue$Cave" "hurts" "LBackRescue$Sum;") ∈ lw_all := lw_g (lw_at lw_m1 78 rfl) rfl
theorem q213 : (Jvm.Cond.fieldLink "BackRescue$Cave" (55 : Nat) "BackRescue$Cave" "may" "LBackRescue$Truth;") ∈ lw_all := lw_g (lw_at lw_m1 80 rfl) rfl
theorem q215 : (Jvm.Cond.laysFinal "BackRescue$Cave" "BackRescue$Cave" "begin" "[I") ∈ lw_all := lw_g (lw_at lw_m1 82 rfl) rfl
theorem q216 : (Jvm.Cond.soleField "BackRescue$Cave" "begin") ∈ lw_all := lw_g (lw_at lw_m1 83 rfl) rfl
theorem q217 : (Jvm.Cond.laysFinal "BackRescue$Cave" "BackRescue$Cave" "end" "[I") ∈ lw_all := lw_g (lw_at lw_m1 84 rfl) rfl
theorem q218 : (Jvm.Cond.soleField "BackRescue$Cave" "end") ∈ lw_all := lw_g (lw_at lw_m1 85 rfl) rfl
theorem q219 : (Jvm.Cond.laysFinal "BackRescue$Cave" "BackRescue$Cave" "drop" "[I") ∈ lw_all := lw_g (lw_at lw_m1 86 rfl) rfl
theorem q220 : (Jvm.Cond.soleField "BackRescue$Cave" "drop") ∈ lw_all := lw_g (lw_at lw_m1 87 rfl) rfl
theorem q221 : (Jvm.Cond.laysFinal "BackRescue$Cave" "BackRescue$Cave" "words" "[I") ∈ lw_all := lw_g (lw_at lw_m1 88 rfl) rfl
theorem q222 : (Jvm.Cond.soleField "BackRescue$Cave" "words") ∈ lw_all := lw_g (lw_at lw_m1 89 rfl) rfl
theorem q223 : (Jvm.Cond.lays "BackRescue$Cave" "BackRescue$Cave" "rooms" "I") ∈ lw_all := lw_g (lw_at lw_m1 90 rfl) rfl
theorem q224 : (Jvm.Cond.soleField "BackRescue$Cave" "rooms") ∈ lw_all := lw_g (lw_at lw_m1 91 rfl) rfl
theorem q225 : (Jvm.Cond.lays "BackRescue$Cave" "BackRescue$Cave" "passages" "I") ∈ lw_all := lw_g (lw_at lw_m1 92 rfl) rfl
theorem q226 : (Jvm.Cond.soleField "BackRescue$Cave" "passages") ∈ lw_all := lw_g (lw_at lw_m1 93 rfl) rfl
theorem q227 : (Jvm.Cond.lays "BackRescue$Cave" "BackRescue$Cave" "twoWays" "I") ∈ lw_all := lw_g (lw_at lw_m1 94 rfl) rfl
theorem q228 : (Jvm.Cond.soleField "BackRescue$Cave" "twoWays") ∈ lw_all := lw_g (lw_at lw_m1 95 rfl) rfl
theorem q229 : (Jvm.Cond.lays "BackRescue$Cave" "BackRescue$Cave" "roped" "I") ∈ lw_all := lw_g (lw_at lw_m1 96 rfl) rfl
theorem q230 : (Jvm.Cond.soleField "BackRescue$Cave" "roped") ∈ lw_all := lw_g (lw_at lw_m1 97 rfl) rfl
theorem q231 : (Jvm.Cond.lays "BackRescue$Cave" "BackRescue$Cave" "room" "I") ∈ lw_all := lw_g (lw_at lw_m1 98 rfl) rfl
theorem q232 : (Jvm.Cond.soleField "BackRescue$Cave" "room") ∈ lw_all := lw_g (lw_at lw_m1 99 rfl) rfl
theorem q233 : (Jvm.Cond.lays "BackRescue$Cave" "BackRescue$Cave" "hurt" "I") ∈ lw_all := lw_g (lw_at lw_m1 100 rfl) rfl
theorem q234 : (Jvm.Cond.soleField "BackRescue$Cave" "hurt") ∈ lw_all := lw_g (lw_at lw_m1 101 rfl) rfl
theorem q235 : (Jvm.Cond.lays "BackRescue$Cave" "BackRescue$Cave" "slack" "I") ∈ lw_all := lw_g (lw_at lw_m1 102 rfl) rfl
theorem q236 : (Jvm.Cond.soleField "BackRescue$Cave" "slack") ∈ lw_all := lw_g (lw_at lw_m1 103 rfl) rfl
theorem q237 : (Jvm.Cond.lays "BackRescue$Cave" "BackRescue$Cave" "falls" "I") ∈ lw_all := lw_g (lw_at lw_m1 104 rfl) rfl
theorem q238 : (Jvm.Cond.soleField "BackRescue$Cave" "falls") ∈ lw_all := lw_g (lw_at lw_m1 105 rfl) rfl
theorem q239 : (Jvm.Cond.lays "BackRescue$Cave" "BackRescue$Cave" "lines" "I") ∈ lw_all := lw_g (lw_at lw_m1 106 rfl) rfl
theorem q240 : (Jvm.Cond.soleField "BackRescue$Cave" "lines") ∈ lw_all := lw_g (lw_at lw_m1 107 rfl) rfl
theorem q241 : (Jvm.Cond.lays "BackRescue$Cave" "BackRescue$Cave" "hurts" "LBackRescue$Sum;") ∈ lw_all := lw_g (lw_at lw_m1 108 rfl) rfl
theorem q242 : (Jvm.Cond.soleField "BackRescue$Cave" "hurts") ∈ lw_all := lw_g (lw_at lw_m1 109 rfl) rfl
theorem q243 : (Jvm.Cond.lays "BackRescue$Cave" "BackRescue$Cave" "may" "LBackRescue$Truth;") ∈ lw_all := lw_g (lw_at lw_m1 110 rfl) rfl
theorem q244 : (Jvm.Cond.soleField "BackRescue$Cave" "may") ∈ lw_all := lw_g (lw_at lw_m1 111 rfl) rfl
theorem q245 : (Jvm.Cond.superclass "BackRescue$Cave" "java/lang/Object") ∈ lw_all := lw_g (lw_at lw_m1 112 rfl) rfl
theorem q837 : (Jvm.Cond.instanceMethod ({ cls := "BackRescue$Cave", name := "may", desc := "(IIZIZ)Z" } : Jvm.MethodName)) ∈ lw_all := lw_g (lw_at lw_m3 224 rfl) rfl
theorem q838 : (Jvm.Cond.selects "BackRescue$Cave" ({ cls := "BackRescue$Cave", name := "may", desc := "(IIZIZ)Z" } : Jvm.MethodName) ({ cls := "BackRescue$Cave", name := "may", desc := "(IIZIZ)Z" } : Jvm.MethodName)) ∈ lw_all := lw_g (lw_at lw_m3 225 rfl) rfl
theorem q839 : (Jvm.Cond.code ({ cls := "BackRescue$Cave", name := "may", desc := "(IIZIZ)Z" } : Jvm.MethodName) prog_3_method_4_code (6 : Nat) (Option.some Jvm.ClassFile.FieldType.boolean)) ∈ lw_all := lw_g (lw_at lw_m3 226 rfl) rfl
theorem q840 : (Jvm.Cond.methodLink "BackRescue$Cave" (42 : Nat) ({ cls := "BackRescue$Cave", name := "lays", desc := "(IIZIZ)V" } : Jvm.MethodName)) ∈ lw_all := lw_g (lw_at lw_m3 227 rfl) rfl
theorem q841 : (Jvm.Cond.privateMethod ({ cls := "BackRescue$Cave", name := "lays", desc := "(IIZIZ)V" } : Jvm.MethodName)) ∈ lw_tbl := lw_at lw_m3 228 rfl
theorem q842 : (Jvm.Cond.instanceMethod ({ cls := "BackRescue$Cave", name := "lays", desc := "(IIZIZ)V" } : Jvm.MethodName)) ∈ lw_all := lw_g (lw_at lw_m3 229 rfl) rfl
theorem q843 : (Jvm.Cond.code ({ cls := "BackRescue$Cave", name := "lays", desc := "(IIZIZ)V" } : Jvm.MethodName) prog_3_method_2_code (6 : Nat) (Option.none : Option Jvm.ClassFile.FieldType)) ∈ lw_all := lw_g (lw_at lw_m3 230 rfl) rfl
theorem q844 : (Jvm.Cond.methodLinkNest "BackRescue$Cave" (28 : Nat) ({ cls := "BackRescue", name := "one", desc := "(Z)I" } : Jvm.MethodName) "BackRescue") ∈ lw_tbl := lw_at lw_m3 231 rfl
theorem q845 : (Jvm.Cond.methodLink "BackRescue$Cave" (59 : Nat) ({ cls := "BackRescue$Truth", name := "holds", desc := "([I)Z" } : Jvm.MethodName)) ∈ lw_all := lw_g (lw_at lw_m3 232 rfl) rfl
theorem q894 : (Jvm.Cond.instanceMethod ({ cls := "BackRescue$Cave", name := "hurts", desc := "(IIZIZ)I" } : Jvm.MethodName)) ∈ lw_all := lw_g (lw_at lw_m4 41 rfl) rfl
theorem q895 : (Jvm.Cond.selects "BackRescue$Cave" ({ cls := "BackRescue$Cave", name := "hurts", desc := "(IIZIZ)I" } : Jvm.MethodName) ({ cls := "BackRescue$Cave", name := "hurts", desc := "(IIZIZ)I" } : Jvm.MethodName)) ∈ lw_all := lw_g (lw_at lw_m4 42 rfl) rfl
theorem q896 : (Jvm.Cond.code ({ cls := "BackRescue$Cave", name := "hurts", desc := "(IIZIZ)I" } : Jvm.MethodName) prog_3_method_3_code (6 : Nat) (Option.some Jvm.ClassFile.FieldType.int)) ∈ lw_all := lw_g (lw_at lw_m4 43 rfl) rfl
theorem q897 : (Jvm.Cond.methodLink "BackRescue$Cave" (36 : Nat) ({ cls := "java/lang/Math", name := "min", desc := "(II)I" } : Jvm.MethodName)) ∈ lw_all := lw_g (lw_at lw_m4 44 rfl) rfl
theorem q898 : (Jvm.Cond.methodLink "BackRescue$Cave" (46 : Nat) ({ cls := "BackRescue$Sum", name := "value", desc := "([I)I" } : Jvm.MethodName)) ∈ lw_all := lw_g (lw_at lw_m4 45 rfl) rfl
theorem q899 : (Jvm.Cond.methodLink "BackRescue$Cave" (52 : Nat) ({ cls := "java/lang/Math", name := "max", desc := "(II)I" } : Jvm.MethodName)) ∈ lw_all := lw_g (lw_at lw_m4 46 rfl) rfl
theorem in_X1 : ∀ w ∈ wsX10, w ∈ lw_all := lw_in wsX10 [215, 217, 219, 221, 223, 225, 227, 229, 231, 233, 235, 237, 239, 241, 243] (by decide +kernel) (by decide +kernel)
/-! BackRescue$State -/
set_option maxRecDepth 100000
def RX2 : String := "BackRescue$State"
def TX2 : u_T := fun k => match k with
  | 0 => ("BackRescue$State", "stand", "I", false)
  | 1 => ("BackRescue$State", "roped", "I", false)
  | 2 => ("BackRescue$State", "slack", "I", false)
  | 3 => ("BackRescue$State", "steps", "I", false)
  | _ => ("BackRescue$State", "this$0", "LBackRescue;", true)
def tyX2 : Nat → FieldType := fun k => match k with
  | 0 => .int
  | 1 => .int
  | 2 => .int
  | 3 => .int
  | _ => .object "BackRescue"
abbrev wsX20 : List Cond := u_ws RX2 TX2 5
theorem nmX2 : ∀ a, a < 5 → ∀ b, b < 5 → a ≠ b → (TX2 a).2.1 ≠ (TX2 b).2.1 := by decide +kernel
theorem tyX2_ok : ∀ k, k < 5 → parseFieldDescriptor (TX2 k).2.2.1 = some (tyX2 k) := by decide +kernel
abbrev cX2_init : ByteArray := prog_12_method_1_code
def yX2_init : MethodName := ⟨RX2, "<init>", "(LBackRescue;)V"⟩
def dkwX2_init_0 : List UInt8 := [42, 43, 181, 0, 3, 42, 183, 0, 9, 177]
abbrev dktX2_init_0 : List UInt8 := dkwX2_init_0 ++ []
theorem dksX2_init_0 : cX2_init.data.toList.drop 0 = dktX2_init_0 := by decide +kernel
theorem dX2_init_0 : decode cX2_init 0 = .ok (.aload_n 0, 1) := dk_42 (dk_at dksX2_init_0 0 rfl rfl)
theorem dX2_init_1 : decode cX2_init 1 = .ok (.aload_n 1, 1) := dk_43 (dk_at dksX2_init_0 1 rfl rfl)
theorem dX2_init_2 : decode cX2_init 2 = .ok (.putfield 3, 3) := dk_181 0 3 (dk_at dksX2_init_0 2 rfl rfl)
theorem dX2_init_5 : decode cX2_init 5 = .ok (.aload_n 0, 1) := dk_42 (dk_at dksX2_init_0 5 rfl rfl)
theorem dX2_init_6 : decode cX2_init 6 = .ok (.invokespecial 9, 3) := dk_183 0 9 (dk_at dksX2_init_0 6 rfl rfl)
theorem dX2_init_9 : decode cX2_init 9 = .ok (.return_, 1) := dk_177 (dk_at dksX2_init_0 9 rfl rfl)
abbrev cX2_begins : ByteArray := prog_12_method_3_code
def yX2_begins : MethodName := ⟨RX2, "begins", "()V"⟩
def dkwX2_begins_2 : List UInt8 := [180, 0, 28, 180, 0, 45, 181, 0, 22, 42, 3, 181, 0, 25, 177]
abbrev dktX2_begins_2 : List UInt8 := dkwX2_begins_2 ++ []
def dkwX2_begins_1 : List UInt8 := [181, 0, 15, 42, 42, 180, 0, 3, 180, 0, 28, 180, 0, 44, 181, 0, 19, 42, 42, 180, 0, 3]
abbrev dktX2_begins_1 : List UInt8 := dkwX2_begins_1 ++ dktX2_begins_2
def dkwX2_begins_0 : List UInt8 := [42, 42, 180, 0, 3, 180, 0, 28, 180, 0, 32, 42, 180, 0, 3, 180, 0, 28, 180, 0, 37, 184, 0, 40]
abbrev dktX2_begins_0 : List UInt8 := dkwX2_begins_0 ++ dktX2_begins_1
theorem dksX2_begins_0 : cX2_begins.data.toList.drop 0 = dktX2_begins_0 := by decide +kernel
theorem dksX2_begins_1 : cX2_begins.data.toList.drop 24 = dktX2_begins_1 := dk_seg dksX2_begins_0 24 rfl rfl
theorem dksX2_begins_2 : cX2_begins.data.toList.drop 46 = dktX2_begins_2 := dk_seg dksX2_begins_1 22 rfl rfl
theorem dX2_begins_0 : decode cX2_begins 0 = .ok (.aload_n 0, 1) := dk_42 (dk_at dksX2_begins_0 0 rfl rfl)
theorem dX2_begins_1 : decode cX2_begins 1 = .ok (.aload_n 0, 1) := dk_42 (dk_at dksX2_begins_0 1 rfl rfl)
theorem dX2_begins_2 : decode cX2_begins 2 = .ok (.getfield 3, 3) := dk_180 0 3 (dk_at dksX2_begins_0 2 rfl rfl)
theorem dX2_begins_5 : decode cX2_begins 5 = .ok (.getfield 28, 3) := dk_180 0 28 (dk_at dksX2_begins_0 5 rfl rfl)
theorem dX2_begins_8 : decode cX2_begins 8 = .ok (.getfield 32, 3) := dk_180 0 32 (dk_at dksX2_begins_0 8 rfl rfl)
theorem dX2_begins_11 : decode cX2_begins 11 = .ok (.aload_n 0, 1) := dk_42 (dk_at dksX2_begins_0 11 rfl rfl)
theorem dX2_begins_12 : decode cX2_begins 12 = .ok (.getfield 3, 3) := dk_180 0 3 (dk_at dksX2_begins_0 12 rfl rfl)
theorem dX2_begins_15 : decode cX2_begins 15 = .ok (.getfield 28, 3) := dk_180 0 28 (dk_at dksX2_begins_0 15 rfl rfl)
theorem dX2_begins_18 : decode cX2_begins 18 = .ok (.getfield 37, 3) := dk_180 0 37 (dk_at dksX2_begins_0 18 rfl rfl)
theorem dX2_begins_21 : decode cX2_begins 21 = .ok (.invokestatic 40, 3) := dk_184 0 40 (dk_at dksX2_begins_0 21 rfl rfl)
theorem dX2_begins_24 : decode cX2_begins 24 = .ok (.putfield 15, 3) := dk_181 0 15 (dk_at dksX2_begins_1 0 rfl rfl)
theorem dX2_begins_27 : decode cX2_begins 27 = .ok (.aload_n 0, 1) := dk_42 (dk_at dksX2_begins_1 3 rfl rfl)
theorem dX2_begins_28 : decode cX2_begins 28 = .ok (.aload_n 0, 1) := dk_42 (dk_at dksX2_begins_1 4 rfl rfl)
theorem dX2_begins_29 : decode cX2_begins 29 = .ok (.getfield 3, 3) := dk_180 0 3 (dk_at dksX2_begins_1 5 rfl rfl)
theorem dX2_begins_32 : decode cX2_begins 32 = .ok (.getfield 28, 3) := dk_180 0 28 (dk_at dksX2_begins_1 8 rfl rfl)
theorem dX2_begins_35 : decode cX2_begins 35 = .ok (.getfield 44, 3) := dk_180 0 44 (dk_at dksX2_begins_1 11 rfl rfl)
theorem dX2_begins_38 : decode cX2_begins 38 = .ok (.putfield 19, 3) := dk_181 0 19 (dk_at dksX2_begins_1 14 rfl rfl)
theorem dX2_begins_41 : decode cX2_begins 41 = .ok (.aload_n 0, 1) := dk_42 (dk_at dksX2_begins_1 17 rfl rfl)
theorem dX2_begins_42 : decode cX2_begins 42 = .ok (.aload_n 0, 1) := dk_42 (dk_at dksX2_begins_1 18 rfl rfl)
theorem dX2_begins_43 : decode cX2_begins 43 = .ok (.getfield 3, 3) := dk_180 0 3 (dk_at dksX2_begins_1 19 rfl rfl)
theorem dX2_begins_46 : decode cX2_begins 46 = .ok (.getfield 28, 3) := dk_180 0 28 (dk_at dksX2_begins_2 0 rfl rfl)
theorem dX2_begins_49 : decode cX2_begins 49 = .ok (.getfield 45, 3) := dk_180 0 45 (dk_at dksX2_begins_2 3 rfl rfl)
theorem dX2_begins_52 : decode cX2_begins 52 = .ok (.putfield 22, 3) := dk_181 0 22 (dk_at dksX2_begins_2 6 rfl rfl)
theorem dX2_begins_55 : decode cX2_begins 55 = .ok (.aload_n 0, 1) := dk_42 (dk_at dksX2_begins_2 9 rfl rfl)
theorem dX2_begins_56 : decode cX2_begins 56 = .ok (.iconst 0, 1) := dk_3 (dk_at dksX2_begins_2 10 rfl rfl)
theorem dX2_begins_57 : decode cX2_begins 57 = .ok (.putfield 25, 3) := dk_181 0 25 (dk_at dksX2_begins_2 11 rfl rfl)
theorem dX2_begins_60 : decode cX2_begins 60 = .ok (.return_, 1) := dk_177 (dk_at dksX2_begins_2 14 rfl rfl)
abbrev cX2_whyGo : ByteArray := prog_12_method_9_code
def yX2_whyGo : MethodName := ⟨RX2, "whyGo", "(J)I"⟩
def dkwX2_whyGo_0 : List UInt8 := [42, 31, 182, 0, 92, 153, 0, 16, 42, 42, 180, 0, 15, 31, 136, 182, 0, 96, 167, 0, 4, 4, 172]
abbrev dktX2_whyGo_0 : List UInt8 := dkwX2_whyGo_0 ++ []
theorem dksX2_whyGo_0 : cX2_whyGo.data.toList.drop 0 = dktX2_whyGo_0 := by decide +kernel
theorem dX2_whyGo_0 : decode cX2_whyGo 0 = .ok (.aload_n 0, 1) := dk_42 (dk_at dksX2_whyGo_0 0 rfl rfl)
theorem dX2_whyGo_1 : decode cX2_whyGo 1 = .ok (.lload_n 1, 1) := dk_31 (dk_at dksX2_whyGo_0 1 rfl rfl)
theorem dX2_whyGo_2 : decode cX2_whyGo 2 = .ok (.invokevirtual 92, 3) := dk_182 0 92 (dk_at dksX2_whyGo_0 2 rfl rfl)
theorem dX2_whyGo_5 : decode cX2_whyGo 5 = .ok (.ifCond .eq 16, 3) := dk_153 0 16 (dk_at dksX2_whyGo_0 5 rfl rfl)
theorem dX2_whyGo_8 : decode cX2_whyGo 8 = .ok (.aload_n 0, 1) := dk_42 (dk_at dksX2_whyGo_0 8 rfl rfl)
theorem dX2_whyGo_9 : decode cX2_whyGo 9 = .ok (.aload_n 0, 1) := dk_42 (dk_at dksX2_whyGo_0 9 rfl rfl)
theorem dX2_whyGo_10 : decode cX2_whyGo 10 = .ok (.getfield 15, 3) := dk_180 0 15 (dk_at dksX2_whyGo_0 10 rfl rfl)
theorem dX2_whyGo_13 : decode cX2_whyGo 13 = .ok (.lload_n 1, 1) := dk_31 (dk_at dksX2_whyGo_0 13 rfl rfl)
theorem dX2_whyGo_14 : decode cX2_whyGo 14 = .ok (.l2i, 1) := dk_136 (dk_at dksX2_whyGo_0 14 rfl rfl)
theorem dX2_whyGo_15 : decode cX2_whyGo 15 = .ok (.invokevirtual 96, 3) := dk_182 0 96 (dk_at dksX2_whyGo_0 15 rfl rfl)
theorem dX2_whyGo_18 : decode cX2_whyGo 18 = .ok (.goto 4, 3) := dk_167 0 4 (dk_at dksX2_whyGo_0 18 rfl rfl)
theorem dX2_whyGo_21 : decode cX2_whyGo 21 = .ok (.iconst 1, 1) := dk_4 (dk_at dksX2_whyGo_0 21 rfl rfl)
theorem dX2_whyGo_22 : decode cX2_whyGo 22 = .ok (.ireturn, 1) := dk_172 (dk_at dksX2_whyGo_0 22 rfl rfl)
abbrev cX2_isPassage : ByteArray := prog_12_method_8_code
def yX2_isPassage : MethodName := ⟨RX2, "isPassage", "(J)Z"⟩
def dkwX2_isPassage_0 : List UInt8 := [31, 9, 42, 180, 0, 3, 180, 0, 28, 180, 0, 85, 4, 100, 133, 184, 0, 88, 172]
abbrev dktX2_isPassage_0 : List UInt8 := dkwX2_isPassage_0 ++ []
theorem dksX2_isPassage_0 : cX2_isPassage.data.toList.drop 0 = dktX2_isPassage_0 := by decide +kernel
theorem dX2_isPassage_0 : decode cX2_isPassage 0 = .ok (.lload_n 1, 1) := dk_31 (dk_at dksX2_isPassage_0 0 rfl rfl)
theorem dX2_isPassage_1 : decode cX2_isPassage 1 = .ok (.lconst 0, 1) := dk_9 (dk_at dksX2_isPassage_0 1 rfl rfl)
theorem dX2_isPassage_2 : decode cX2_isPassage 2 = .ok (.aload_n 0, 1) := dk_42 (dk_at dksX2_isPassage_0 2 rfl rfl)
theorem dX2_isPassage_3 : decode cX2_isPassage 3 = .ok (.getfield 3, 3) := dk_180 0 3 (dk_at dksX2_isPassage_0 3 rfl rfl)
theorem dX2_isPassage_6 : decode cX2_isPassage 6 = .ok (.getfield 28, 3) := dk_180 0 28 (dk_at dksX2_isPassage_0 6 rfl rfl)
theorem dX2_isPassage_9 : decode cX2_isPassage 9 = .ok (.getfield 85, 3) := dk_180 0 85 (dk_at dksX2_isPassage_0 9 rfl rfl)
theorem dX2_isPassage_12 : decode cX2_isPassage 12 = .ok (.iconst 1, 1) := dk_4 (dk_at dksX2_isPassage_0 12 rfl rfl)
theorem dX2_isPassage_13 : decode cX2_isPassage 13 = .ok (.isub, 1) := dk_100 (dk_at dksX2_isPassage_0 13 rfl rfl)
theorem dX2_isPassage_14 : decode cX2_isPassage 14 = .ok (.i2l, 1) := dk_133 (dk_at dksX2_isPassage_0 14 rfl rfl)
theorem dX2_isPassage_15 : decode cX2_isPassage 15 = .ok (.invokestatic 88, 3) := dk_184 0 88 (dk_at dksX2_isPassage_0 15 rfl rfl)
theorem dX2_isPassage_18 : decode cX2_isPassage 18 = .ok (.ireturn, 1) := dk_172 (dk_at dksX2_isPassage_0 18 rfl rfl)
abbrev cX2_whyFrom : ByteArray := prog_12_method_6_code
def yX2_whyFrom : MethodName := ⟨RX2, "whyFrom", "(II)I"⟩
def dkwX2_whyFrom_2 : List UInt8 := [182, 0, 74, 182, 0, 77, 153, 0, 7, 3, 167, 0, 4, 7, 172]
abbrev dktX2_whyFrom_2 : List UInt8 := dkwX2_whyFrom_2 ++ []
def dkwX2_whyFrom_1 : List UInt8 := [180, 0, 28, 28, 27, 184, 0, 71, 42, 180, 0, 19, 28, 184, 0, 57, 42, 180, 0, 22, 42, 27, 28]
abbrev dktX2_whyFrom_1 : List UInt8 := dkwX2_whyFrom_1 ++ dktX2_whyFrom_2
def dkwX2_whyFrom_0 : List UInt8 := [42, 27, 28, 182, 0, 64, 154, 0, 5, 5, 172, 27, 184, 0, 67, 153, 0, 5, 6, 172, 42, 180, 0, 3]
abbrev dktX2_whyFrom_0 : List UInt8 := dkwX2_whyFrom_0 ++ dktX2_whyFrom_1
theorem dksX2_whyFrom_0 : cX2_whyFrom.data.toList.drop 0 = dktX2_whyFrom_0 := by decide +kernel
theorem dksX2_whyFrom_1 : cX2_whyFrom.data.toList.drop 24 = dktX2_whyFrom_1 := dk_seg dksX2_whyFrom_0 24 rfl rfl
theorem dksX2_whyFrom_2 : cX2_whyFrom.data.toList.drop 47 = dktX2_whyFrom_2 := dk_seg dksX2_whyFrom_1 23 rfl rfl
theorem dX2_whyFrom_0 : decode cX2_whyFrom 0 = .ok (.aload_n 0, 1) := dk_42 (dk_at dksX2_whyFrom_0 0 rfl rfl)
theorem dX2_whyFrom_1 : decode cX2_whyFrom 1 = .ok (.iload_n 1, 1) := dk_27 (dk_at dksX2_whyFrom_0 1 rfl rfl)
theorem dX2_whyFrom_2 : decode cX2_whyFrom 2 = .ok (.iload_n 2, 1) := dk_28 (dk_at dksX2_whyFrom_0 2 rfl rfl)
theorem dX2_whyFrom_3 : decode cX2_whyFrom 3 = .ok (.invokevirtual 64, 3) := dk_182 0 64 (dk_at dksX2_whyFrom_0 3 rfl rfl)
theorem dX2_whyFrom_6 : decode cX2_whyFrom 6 = .ok (.ifCond .ne 5, 3) := dk_154 0 5 (dk_at dksX2_whyFrom_0 6 rfl rfl)
theorem dX2_whyFrom_9 : decode cX2_whyFrom 9 = .ok (.iconst 2, 1) := dk_5 (dk_at dksX2_whyFrom_0 9 rfl rfl)
theorem dX2_whyFrom_10 : decode cX2_whyFrom 10 = .ok (.ireturn, 1) := dk_172 (dk_at dksX2_whyFrom_0 10 rfl rfl)
theorem dX2_whyFrom_11 : decode cX2_whyFrom 11 = .ok (.iload_n 1, 1) := dk_27 (dk_at dksX2_whyFrom_0 11 rfl rfl)
theorem dX2_whyFrom_12 : decode cX2_whyFrom 12 = .ok (.invokestatic 67, 3) := dk_184 0 67 (dk_at dksX2_whyFrom_0 12 rfl rfl)
theorem dX2_whyFrom_15 : decode cX2_whyFrom 15 = .ok (.ifCond .eq 5, 3) := dk_153 0 5 (dk_at dksX2_whyFrom_0 15 rfl rfl)
theorem dX2_whyFrom_18 : decode cX2_whyFrom 18 = .ok (.iconst 3, 1) := dk_6 (dk_at dksX2_whyFrom_0 18 rfl rfl)
theorem dX2_whyFrom_19 : decode cX2_whyFrom 19 = .ok (.ireturn, 1) := dk_172 (dk_at dksX2_whyFrom_0 19 rfl rfl)
theorem dX2_whyFrom_20 : decode cX2_whyFrom 20 = .ok (.aload_n 0, 1) := dk_42 (dk_at dksX2_whyFrom_0 20 rfl rfl)
theorem dX2_whyFrom_21 : decode cX2_whyFrom 21 = .ok (.getfield 3, 3) := dk_180 0 3 (dk_at dksX2_whyFrom_0 21 rfl rfl)
theorem dX2_whyFrom_24 : decode cX2_whyFrom 24 = .ok (.getfield 28, 3) := dk_180 0 28 (dk_at dksX2_whyFrom_1 0 rfl rfl)
theorem dX2_whyFrom_27 : decode cX2_whyFrom 27 = .ok (.iload_n 2, 1) := dk_28 (dk_at dksX2_whyFrom_1 3 rfl rfl)
theorem dX2_whyFrom_28 : decode cX2_whyFrom 28 = .ok (.iload_n 1, 1) := dk_27 (dk_at dksX2_whyFrom_1 4 rfl rfl)
theorem dX2_whyFrom_29 : decode cX2_whyFrom 29 = .ok (.invokestatic 71, 3) := dk_184 0 71 (dk_at dksX2_whyFrom_1 5 rfl rfl)
theorem dX2_whyFrom_32 : decode cX2_whyFrom 32 = .ok (.aload_n 0, 1) := dk_42 (dk_at dksX2_whyFrom_1 8 rfl rfl)
theorem dX2_whyFrom_33 : decode cX2_whyFrom 33 = .ok (.getfield 19, 3) := dk_180 0 19 (dk_at dksX2_whyFrom_1 9 rfl rfl)
theorem dX2_whyFrom_36 : decode cX2_whyFrom 36 = .ok (.iload_n 2, 1) := dk_28 (dk_at dksX2_whyFrom_1 12 rfl rfl)
theorem dX2_whyFrom_37 : decode cX2_whyFrom 37 = .ok (.invokestatic 57, 3) := dk_184 0 57 (dk_at dksX2_whyFrom_1 13 rfl rfl)
theorem dX2_whyFrom_40 : decode cX2_whyFrom 40 = .ok (.aload_n 0, 1) := dk_42 (dk_at dksX2_whyFrom_1 16 rfl rfl)
theorem dX2_whyFrom_41 : decode cX2_whyFrom 41 = .ok (.getfield 22, 3) := dk_180 0 22 (dk_at dksX2_whyFrom_1 17 rfl rfl)
theorem dX2_whyFrom_44 : decode cX2_whyFrom 44 = .ok (.aload_n 0, 1) := dk_42 (dk_at dksX2_whyFrom_1 20 rfl rfl)
theorem dX2_whyFrom_45 : decode cX2_whyFrom 45 = .ok (.iload_n 1, 1) := dk_27 (dk_at dksX2_whyFrom_1 21 rfl rfl)
theorem dX2_whyFrom_46 : decode cX2_whyFrom 46 = .ok (.iload_n 2, 1) := dk_28 (dk_at dksX2_whyFrom_1 22 rfl rfl)
theorem dX2_whyFrom_47 : decode cX2_whyFrom 47 = .ok (.invokevirtual 74, 3) := dk_182 0 74 (dk_at dksX2_whyFrom_2 0 rfl rfl)
theorem dX2_whyFrom_50 : decode cX2_whyFrom 50 = .ok (.invokevirtual 77, 3) := dk_182 0 77 (dk_at dksX2_whyFrom_2 3 rfl rfl)
theorem dX2_whyFrom_53 : decode cX2_whyFrom 53 = .ok (.ifCond .eq 7, 3) := dk_153 0 7 (dk_at dksX2_whyFrom_2 6 rfl rfl)
theorem dX2_whyFrom_56 : decode cX2_whyFrom 56 = .ok (.iconst 0, 1) := dk_3 (dk_at dksX2_whyFrom_2 9 rfl rfl)
theorem dX2_whyFrom_57 : decode cX2_whyFrom 57 = .ok (.goto 4, 3) := dk_167 0 4 (dk_at dksX2_whyFrom_2 10 rfl rfl)
theorem dX2_whyFrom_60 : decode cX2_whyFrom 60 = .ok (.iconst 4, 1) := dk_7 (dk_at dksX2_whyFrom_2 13 rfl rfl)
theorem dX2_whyFrom_61 : decode cX2_whyFrom 61 = .ok (.ireturn, 1) := dk_172 (dk_at dksX2_whyFrom_2 14 rfl rfl)
abbrev cX2_leads : ByteArray := prog_12_method_4_code
def yX2_leads : MethodName := ⟨RX2, "leads", "(II)Z"⟩
def dkwX2_leads_2 : List UInt8 := [46, 27, 184, 0, 50, 160, 0, 7, 4, 167, 0, 4, 3, 172]
abbrev dktX2_leads_2 : List UInt8 := dkwX2_leads_2 ++ []
def dkwX2_leads_1 : List UInt8 := [180, 0, 28, 180, 0, 54, 28, 184, 0, 57, 153, 0, 26, 42, 180, 0, 3, 180, 0, 28, 180, 0, 61, 28]
abbrev dktX2_leads_1 : List UInt8 := dkwX2_leads_1 ++ dktX2_leads_2
def dkwX2_leads_0 : List UInt8 := [42, 180, 0, 3, 180, 0, 28, 180, 0, 46, 28, 46, 27, 184, 0, 50, 159, 0, 39, 42, 180, 0, 3]
abbrev dktX2_leads_0 : List UInt8 := dkwX2_leads_0 ++ dktX2_leads_1
theorem dksX2_leads_0 : cX2_leads.data.toList.drop 0 = dktX2_leads_0 := by decide +kernel
theorem dksX2_leads_1 : cX2_leads.data.toList.drop 23 = dktX2_leads_1 := dk_seg dksX2_leads_0 23 rfl rfl
theorem dksX2_leads_2 : cX2_leads.data.toList.drop 47 = dktX2_leads_2 := dk_seg dksX2_leads_1 24 rfl rfl
theorem dX2_leads_0 : decode cX2_leads 0 = .ok (.aload_n 0, 1) := dk_42 (dk_at dksX2_leads_0 0 rfl rfl)
theorem dX2_leads_1 : decode cX2_leads 1 = .ok (.getfield 3, 3) := dk_180 0 3 (dk_at dksX2_leads_0 1 rfl rfl)
theorem dX2_leads_4 : decode cX2_leads 4 = .ok (.getfield 28, 3) := dk_180 0 28 (dk_at dksX2_leads_0 4 rfl rfl)
theorem dX2_leads_7 : decode cX2_leads 7 = .ok (.getfield 46, 3) := dk_180 0 46 (dk_at dksX2_leads_0 7 rfl rfl)
theorem dX2_leads_10 : decode cX2_leads 10 = .ok (.iload_n 2, 1) := dk_28 (dk_at dksX2_leads_0 10 rfl rfl)
theorem dX2_leads_11 : decode cX2_leads 11 = .ok (.iaload, 1) := dk_46 (dk_at dksX2_leads_0 11 rfl rfl)
theorem dX2_leads_12 : decode cX2_leads 12 = .ok (.iload_n 1, 1) := dk_27 (dk_at dksX2_leads_0 12 rfl rfl)
theorem dX2_leads_13 : decode cX2_leads 13 = .ok (.invokestatic 50, 3) := dk_184 0 50 (dk_at dksX2_leads_0 13 rfl rfl)
theorem dX2_leads_16 : decode cX2_leads 16 = .ok (.if_icmp .eq 39, 3) := dk_159 0 39 (dk_at dksX2_leads_0 16 rfl rfl)
theorem dX2_leads_19 : decode cX2_leads 19 = .ok (.aload_n 0, 1) := dk_42 (dk_at dksX2_leads_0 19 rfl rfl)
theorem dX2_leads_20 : decode cX2_leads 20 = .ok (.getfield 3, 3) := dk_180 0 3 (dk_at dksX2_leads_0 20 rfl rfl)
theorem dX2_leads_23 : decode cX2_leads 23 = .ok (.getfield 28, 3) := dk_180 0 28 (dk_at dksX2_leads_1 0 rfl rfl)
theorem dX2_leads_26 : decode cX2_leads 26 = .ok (.getfield 54, 3) := dk_180 0 54 (dk_at dksX2_leads_1 3 rfl rfl)
theorem dX2_leads_29 : decode cX2_leads 29 = .ok (.iload_n 2, 1) := dk_28 (dk_at dksX2_leads_1 6 rfl rfl)
theorem dX2_leads_30 : decode cX2_leads 30 = .ok (.invokestatic 57, 3) := dk_184 0 57 (dk_at dksX2_leads_1 7 rfl rfl)
theorem dX2_leads_33 : decode cX2_leads 33 = .ok (.ifCond .eq 26, 3) := dk_153 0 26 (dk_at dksX2_leads_1 10 rfl rfl)
theorem dX2_leads_36 : decode cX2_leads 36 = .ok (.aload_n 0, 1) := dk_42 (dk_at dksX2_leads_1 13 rfl rfl)
theorem dX2_leads_37 : decode cX2_leads 37 = .ok (.getfield 3, 3) := dk_180 0 3 (dk_at dksX2_leads_1 14 rfl rfl)
theorem dX2_leads_40 : decode cX2_leads 40 = .ok (.getfield 28, 3) := dk_180 0 28 (dk_at dksX2_leads_1 17 rfl rfl)
theorem dX2_leads_43 : decode cX2_leads 43 = .ok (.getfield 61, 3) := dk_180 0 61 (dk_at dksX2_leads_1 20 rfl rfl)
theorem dX2_leads_46 : decode cX2_leads 46 = .ok (.iload_n 2, 1) := dk_28 (dk_at dksX2_leads_1 23 rfl rfl)
theorem dX2_leads_47 : decode cX2_leads 47 = .ok (.iaload, 1) := dk_46 (dk_at dksX2_leads_2 0 rfl rfl)
theorem dX2_leads_48 : decode cX2_leads 48 = .ok (.iload_n 1, 1) := dk_27 (dk_at dksX2_leads_2 1 rfl rfl)
theorem dX2_leads_49 : decode cX2_leads 49 = .ok (.invokestatic 50, 3) := dk_184 0 50 (dk_at dksX2_leads_2 2 rfl rfl)
theorem dX2_leads_52 : decode cX2_leads 52 = .ok (.if_icmp .ne 7, 3) := dk_160 0 7 (dk_at dksX2_leads_2 5 rfl rfl)
theorem dX2_leads_55 : decode cX2_leads 55 = .ok (.iconst 1, 1) := dk_4 (dk_at dksX2_leads_2 8 rfl rfl)
theorem dX2_leads_56 : decode cX2_leads 56 = .ok (.goto 4, 3) := dk_167 0 4 (dk_at dksX2_leads_2 9 rfl rfl)
theorem dX2_leads_59 : decode cX2_leads 59 = .ok (.iconst 0, 1) := dk_3 (dk_at dksX2_leads_2 12 rfl rfl)
theorem dX2_leads_60 : decode cX2_leads 60 = .ok (.ireturn, 1) := dk_172 (dk_at dksX2_leads_2 13 rfl rfl)
abbrev cX2_isBack : ByteArray := prog_12_method_5_code
def yX2_isBack : MethodName := ⟨RX2, "isBack", "(II)Z"⟩
def dkwX2_isBack_1 : List UInt8 := [172]
abbrev dktX2_isBack_1 : List UInt8 := dkwX2_isBack_1 ++ []
def dkwX2_isBack_0 : List UInt8 := [42, 180, 0, 3, 180, 0, 28, 180, 0, 46, 28, 46, 27, 184, 0, 50, 159, 0, 7, 4, 167, 0, 4, 3]
abbrev dktX2_isBack_0 : List UInt8 := dkwX2_isBack_0 ++ dktX2_isBack_1
theorem dksX2_isBack_0 : cX2_isBack.data.toList.drop 0 = dktX2_isBack_0 := by decide +kernel
theorem dksX2_isBack_1 : cX2_isBack.data.toList.drop 24 = dktX2_isBack_1 := dk_seg dksX2_isBack_0 24 rfl rfl
theorem dX2_isBack_0 : decode cX2_isBack 0 = .ok (.aload_n 0, 1) := dk_42 (dk_at dksX2_isBack_0 0 rfl rfl)
theorem dX2_isBack_1 : decode cX2_isBack 1 = .ok (.getfield 3, 3) := dk_180 0 3 (dk_at dksX2_isBack_0 1 rfl rfl)
theorem dX2_isBack_4 : decode cX2_isBack 4 = .ok (.getfield 28, 3) := dk_180 0 28 (dk_at dksX2_isBack_0 4 rfl rfl)
theorem dX2_isBack_7 : decode cX2_isBack 7 = .ok (.getfield 46, 3) := dk_180 0 46 (dk_at dksX2_isBack_0 7 rfl rfl)
theorem dX2_isBack_10 : decode cX2_isBack 10 = .ok (.iload_n 2, 1) := dk_28 (dk_at dksX2_isBack_0 10 rfl rfl)
theorem dX2_isBack_11 : decode cX2_isBack 11 = .ok (.iaload, 1) := dk_46 (dk_at dksX2_isBack_0 11 rfl rfl)
theorem dX2_isBack_12 : decode cX2_isBack 12 = .ok (.iload_n 1, 1) := dk_27 (dk_at dksX2_isBack_0 12 rfl rfl)
theorem dX2_isBack_13 : decode cX2_isBack 13 = .ok (.invokestatic 50, 3) := dk_184 0 50 (dk_at dksX2_isBack_0 13 rfl rfl)
theorem dX2_isBack_16 : decode cX2_isBack 16 = .ok (.if_icmp .eq 7, 3) := dk_159 0 7 (dk_at dksX2_isBack_0 16 rfl rfl)
theorem dX2_isBack_19 : decode cX2_isBack 19 = .ok (.iconst 1, 1) := dk_4 (dk_at dksX2_isBack_0 19 rfl rfl)
theorem dX2_isBack_20 : decode cX2_isBack 20 = .ok (.goto 4, 3) := dk_167 0 4 (dk_at dksX2_isBack_0 20 rfl rfl)
theorem dX2_isBack_23 : decode cX2_isBack 23 = .ok (.iconst 0, 1) := dk_3 (dk_at dksX2_isBack_0 23 rfl rfl)
theorem dX2_isBack_24 : decode cX2_isBack 24 = .ok (.ireturn, 1) := dk_172 (dk_at dksX2_isBack_1 0 rfl rfl)
abbrev cX2_then : ByteArray := prog_12_method_7_code
def yX2_then : MethodName := ⟨RX2, "then", "(II)I"⟩
def dkwX2_then_2 : List UInt8 := [184, 0, 71, 42, 180, 0, 19, 28, 184, 0, 57, 42, 180, 0, 22, 29, 182, 0, 81, 184, 0, 40, 172]
abbrev dktX2_then_2 : List UInt8 := dkwX2_then_2 ++ []
def dkwX2_then_1 : List UInt8 := [167, 0, 15, 42, 180, 0, 3, 180, 0, 28, 180, 0, 61, 28, 46, 42, 180, 0, 3, 180, 0, 28, 28, 27]
abbrev dktX2_then_1 : List UInt8 := dkwX2_then_1 ++ dktX2_then_2
def dkwX2_then_0 : List UInt8 := [42, 27, 28, 182, 0, 74, 62, 29, 153, 0, 18, 42, 180, 0, 3, 180, 0, 28, 180, 0, 46, 28, 46]
abbrev dktX2_then_0 : List UInt8 := dkwX2_then_0 ++ dktX2_then_1
theorem dksX2_then_0 : cX2_then.data.toList.drop 0 = dktX2_then_0 := by decide +kernel
theorem dksX2_then_1 : cX2_then.data.toList.drop 23 = dktX2_then_1 := dk_seg dksX2_then_0 23 rfl rfl
theorem dksX2_then_2 : cX2_then.data.toList.drop 47 = dktX2_then_2 := dk_seg dksX2_then_1 24 rfl rfl
theorem dX2_then_0 : decode cX2_then 0 = .ok (.aload_n 0, 1) := dk_42 (dk_at dksX2_then_0 0 rfl rfl)
theorem dX2_then_1 : decode cX2_then 1 = .ok (.iload_n 1, 1) := dk_27 (dk_at dksX2_then_0 1 rfl rfl)
theorem dX2_then_2 : decode cX2_then 2 = .ok (.iload_n 2, 1) := dk_28 (dk_at dksX2_then_0 2 rfl rfl)
theorem dX2_then_3 : decode cX2_then 3 = .ok (.invokevirtual 74, 3) := dk_182 0 74 (dk_at dksX2_then_0 3 rfl rfl)
theorem dX2_then_6 : decode cX2_then 6 = .ok (.istore_n 3, 1) := dk_62 (dk_at dksX2_then_0 6 rfl rfl)
theorem dX2_then_7 : decode cX2_then 7 = .ok (.iload_n 3, 1) := dk_29 (dk_at dksX2_then_0 7 rfl rfl)
theorem dX2_then_8 : decode cX2_then 8 = .ok (.ifCond .eq 18, 3) := dk_153 0 18 (dk_at dksX2_then_0 8 rfl rfl)
theorem dX2_then_11 : decode cX2_then 11 = .ok (.aload_n 0, 1) := dk_42 (dk_at dksX2_then_0 11 rfl rfl)
theorem dX2_then_12 : decode cX2_then 12 = .ok (.getfield 3, 3) := dk_180 0 3 (dk_at dksX2_then_0 12 rfl rfl)
theorem dX2_then_15 : decode cX2_then 15 = .ok (.getfield 28, 3) := dk_180 0 28 (dk_at dksX2_then_0 15 rfl rfl)
theorem dX2_then_18 : decode cX2_then 18 = .ok (.getfield 46, 3) := dk_180 0 46 (dk_at dksX2_then_0 18 rfl rfl)
theorem dX2_then_21 : decode cX2_then 21 = .ok (.iload_n 2, 1) := dk_28 (dk_at dksX2_then_0 21 rfl rfl)
theorem dX2_then_22 : decode cX2_then 22 = .ok (.iaload, 1) := dk_46 (dk_at dksX2_then_0 22 rfl rfl)
theorem dX2_then_23 : decode cX2_then 23 = .ok (.goto 15, 3) := dk_167 0 15 (dk_at dksX2_then_1 0 rfl rfl)
theorem dX2_then_26 : decode cX2_then 26 = .ok (.aload_n 0, 1) := dk_42 (dk_at dksX2_then_1 3 rfl rfl)
theorem dX2_then_27 : decode cX2_then 27 = .ok (.getfield 3, 3) := dk_180 0 3 (dk_at dksX2_then_1 4 rfl rfl)
theorem dX2_then_30 : decode cX2_then 30 = .ok (.getfield 28, 3) := dk_180 0 28 (dk_at dksX2_then_1 7 rfl rfl)
theorem dX2_then_33 : decode cX2_then 33 = .ok (.getfield 61, 3) := dk_180 0 61 (dk_at dksX2_then_1 10 rfl rfl)
theorem dX2_then_36 : decode cX2_then 36 = .ok (.iload_n 2, 1) := dk_28 (dk_at dksX2_then_1 13 rfl rfl)
theorem dX2_then_37 : decode cX2_then 37 = .ok (.iaload, 1) := dk_46 (dk_at dksX2_then_1 14 rfl rfl)
theorem dX2_then_38 : decode cX2_then 38 = .ok (.aload_n 0, 1) := dk_42 (dk_at dksX2_then_1 15 rfl rfl)
theorem dX2_then_39 : decode cX2_then 39 = .ok (.getfield 3, 3) := dk_180 0 3 (dk_at dksX2_then_1 16 rfl rfl)
theorem dX2_then_42 : decode cX2_then 42 = .ok (.getfield 28, 3) := dk_180 0 28 (dk_at dksX2_then_1 19 rfl rfl)
theorem dX2_then_45 : decode cX2_then 45 = .ok (.iload_n 2, 1) := dk_28 (dk_at dksX2_then_1 22 rfl rfl)
theorem dX2_then_46 : decode cX2_then 46 = .ok (.iload_n 1, 1) := dk_27 (dk_at dksX2_then_1 23 rfl rfl)
theorem dX2_then_47 : decode cX2_then 47 = .ok (.invokestatic 71, 3) := dk_184 0 71 (dk_at dksX2_then_2 0 rfl rfl)
theorem dX2_then_50 : decode cX2_then 50 = .ok (.aload_n 0, 1) := dk_42 (dk_at dksX2_then_2 3 rfl rfl)
theorem dX2_then_51 : decode cX2_then 51 = .ok (.getfield 19, 3) := dk_180 0 19 (dk_at dksX2_then_2 4 rfl rfl)
theorem dX2_then_54 : decode cX2_then 54 = .ok (.iload_n 2, 1) := dk_28 (dk_at dksX2_then_2 7 rfl rfl)
theorem dX2_then_55 : decode cX2_then 55 = .ok (.invokestatic 57, 3) := dk_184 0 57 (dk_at dksX2_then_2 8 rfl rfl)
theorem dX2_then_58 : decode cX2_then 58 = .ok (.aload_n 0, 1) := dk_42 (dk_at dksX2_then_2 11 rfl rfl)
theorem dX2_then_59 : decode cX2_then 59 = .ok (.getfield 22, 3) := dk_180 0 22 (dk_at dksX2_then_2 12 rfl rfl)
theorem dX2_then_62 : decode cX2_then 62 = .ok (.iload_n 3, 1) := dk_29 (dk_at dksX2_then_2 15 rfl rfl)
theorem dX2_then_63 : decode cX2_then 63 = .ok (.invokevirtual 81, 3) := dk_182 0 81 (dk_at dksX2_then_2 16 rfl rfl)
theorem dX2_then_66 : decode cX2_then 66 = .ok (.invokestatic 40, 3) := dk_184 0 40 (dk_at dksX2_then_2 19 rfl rfl)
theorem dX2_then_69 : decode cX2_then 69 = .ok (.ireturn, 1) := dk_172 (dk_at dksX2_then_2 22 rfl rfl)
abbrev cX2_be : ByteArray := prog_12_method_2_code
def yX2_be : MethodName := ⟨RX2, "be", "(LBackRescue$State;)LBackRescue$State;"⟩
def dkwX2_be_1 : List UInt8 := [42, 43, 180, 0, 25, 181, 0, 25, 42, 176]
abbrev dktX2_be_1 : List UInt8 := dkwX2_be_1 ++ []
def dkwX2_be_0 : List UInt8 := [42, 43, 180, 0, 15, 181, 0, 15, 42, 43, 180, 0, 19, 181, 0, 19, 42, 43, 180, 0, 22, 181, 0, 22]
abbrev dktX2_be_0 : List UInt8 := dkwX2_be_0 ++ dktX2_be_1
theorem dksX2_be_0 : cX2_be.data.toList.drop 0 = dktX2_be_0 := by decide +kernel
theorem dksX2_be_1 : cX2_be.data.toList.drop 24 = dktX2_be_1 := dk_seg dksX2_be_0 24 rfl rfl
theorem dX2_be_0 : decode cX2_be 0 = .ok (.aload_n 0, 1) := dk_42 (dk_at dksX2_be_0 0 rfl rfl)
theorem dX2_be_1 : decode cX2_be 1 = .ok (.aload_n 1, 1) := dk_43 (dk_at dksX2_be_0 1 rfl rfl)
theorem dX2_be_2 : decode cX2_be 2 = .ok (.getfield 15, 3) := dk_180 0 15 (dk_at dksX2_be_0 2 rfl rfl)
theorem dX2_be_5 : decode cX2_be 5 = .ok (.putfield 15, 3) := dk_181 0 15 (dk_at dksX2_be_0 5 rfl rfl)
theorem dX2_be_8 : decode cX2_be 8 = .ok (.aload_n 0, 1) := dk_42 (dk_at dksX2_be_0 8 rfl rfl)
theorem dX2_be_9 : decode cX2_be 9 = .ok (.aload_n 1, 1) := dk_43 (dk_at dksX2_be_0 9 rfl rfl)
theorem dX2_be_10 : decode cX2_be 10 = .ok (.getfield 19, 3) := dk_180 0 19 (dk_at dksX2_be_0 10 rfl rfl)
theorem dX2_be_13 : decode cX2_be 13 = .ok (.putfield 19, 3) := dk_181 0 19 (dk_at dksX2_be_0 13 rfl rfl)
theorem dX2_be_16 : decode cX2_be 16 = .ok (.aload_n 0, 1) := dk_42 (dk_at dksX2_be_0 16 rfl rfl)
theorem dX2_be_17 : decode cX2_be 17 = .ok (.aload_n 1, 1) := dk_43 (dk_at dksX2_be_0 17 rfl rfl)
theorem dX2_be_18 : decode cX2_be 18 = .ok (.getfield 22, 3) := dk_180 0 22 (dk_at dksX2_be_0 18 rfl rfl)
theorem dX2_be_21 : decode cX2_be 21 = .ok (.putfield 22, 3) := dk_181 0 22 (dk_at dksX2_be_0 21 rfl rfl)
theorem dX2_be_24 : decode cX2_be 24 = .ok (.aload_n 0, 1) := dk_42 (dk_at dksX2_be_1 0 rfl rfl)
theorem dX2_be_25 : decode cX2_be 25 = .ok (.aload_n 1, 1) := dk_43 (dk_at dksX2_be_1 1 rfl rfl)
theorem dX2_be_26 : decode cX2_be 26 = .ok (.getfield 25, 3) := dk_180 0 25 (dk_at dksX2_be_1 2 rfl rfl)
theorem dX2_be_29 : decode cX2_be 29 = .ok (.putfield 25, 3) := dk_181 0 25 (dk_at dksX2_be_1 5 rfl rfl)
theorem dX2_be_32 : decode cX2_be 32 = .ok (.aload_n 0, 1) := dk_42 (dk_at dksX2_be_1 8 rfl rfl)
theorem dX2_be_33 : decode cX2_be 33 = .ok (.areturn, 1) := dk_176 (dk_at dksX2_be_1 9 rfl rfl)
abbrev cX2_goes : ByteArray := prog_12_method_13_code
def yX2_goes : MethodName := ⟨RX2, "goes", "(I)V"⟩
def dkwX2_goes_0 : List UInt8 := [42, 42, 42, 180, 0, 15, 27, 182, 0, 130, 181, 0, 15, 42, 89, 180, 0, 25, 4, 96, 181, 0, 25, 177]
abbrev dktX2_goes_0 : List UInt8 := dkwX2_goes_0 ++ []
theorem dksX2_goes_0 : cX2_goes.data.toList.drop 0 = dktX2_goes_0 := by decide +kernel
theorem dX2_goes_0 : decode cX2_goes 0 = .ok (.aload_n 0, 1) := dk_42 (dk_at dksX2_goes_0 0 rfl rfl)
theorem dX2_goes_1 : decode cX2_goes 1 = .ok (.aload_n 0, 1) := dk_42 (dk_at dksX2_goes_0 1 rfl rfl)
theorem dX2_goes_2 : decode cX2_goes 2 = .ok (.aload_n 0, 1) := dk_42 (dk_at dksX2_goes_0 2 rfl rfl)
theorem dX2_goes_3 : decode cX2_goes 3 = .ok (.getfield 15, 3) := dk_180 0 15 (dk_at dksX2_goes_0 3 rfl rfl)
theorem dX2_goes_6 : decode cX2_goes 6 = .ok (.iload_n 1, 1) := dk_27 (dk_at dksX2_goes_0 6 rfl rfl)
theorem dX2_goes_7 : decode cX2_goes 7 = .ok (.invokevirtual 130, 3) := dk_182 0 130 (dk_at dksX2_goes_0 7 rfl rfl)
theorem dX2_goes_10 : decode cX2_goes 10 = .ok (.putfield 15, 3) := dk_181 0 15 (dk_at dksX2_goes_0 10 rfl rfl)
theorem dX2_goes_13 : decode cX2_goes 13 = .ok (.aload_n 0, 1) := dk_42 (dk_at dksX2_goes_0 13 rfl rfl)
theorem dX2_goes_14 : decode cX2_goes 14 = .ok (.dup, 1) := dk_89 (dk_at dksX2_goes_0 14 rfl rfl)
theorem dX2_goes_15 : decode cX2_goes 15 = .ok (.getfield 25, 3) := dk_180 0 25 (dk_at dksX2_goes_0 15 rfl rfl)
theorem dX2_goes_18 : decode cX2_goes 18 = .ok (.iconst 1, 1) := dk_4 (dk_at dksX2_goes_0 18 rfl rfl)
theorem dX2_goes_19 : decode cX2_goes 19 = .ok (.iadd, 1) := dk_96 (dk_at dksX2_goes_0 19 rfl rfl)
theorem dX2_goes_20 : decode cX2_goes 20 = .ok (.putfield 25, 3) := dk_181 0 25 (dk_at dksX2_goes_0 20 rfl rfl)
theorem dX2_goes_23 : decode cX2_goes 23 = .ok (.return_, 1) := dk_177 (dk_at dksX2_goes_0 23 rfl rfl)
abbrev cX2_does : ByteArray := prog_12_method_12_code
def yX2_does : MethodName := ⟨RX2, "does", "(I)V"⟩
def dkwX2_does_3 : List UInt8 := [181, 0, 15, 177]
abbrev dktX2_does_3 : List UInt8 := dkwX2_does_3 ++ []
def dkwX2_does_2 : List UInt8 := [16, 20, 100, 181, 0, 22, 167, 0, 21, 42, 27, 16, 100, 100, 16, 10, 108, 27, 16, 10, 112, 184, 0, 40]
abbrev dktX2_does_2 : List UInt8 := dkwX2_does_2 ++ dktX2_does_3
def dkwX2_does_1 : List UInt8 := [180, 0, 19, 4, 27, 16, 10, 100, 120, 130, 181, 0, 19, 167, 0, 38, 27, 16, 100, 162, 0, 14, 42, 27]
abbrev dktX2_does_1 : List UInt8 := dkwX2_does_1 ++ dktX2_does_2
def dkwX2_does_0 : List UInt8 := [27, 16, 10, 162, 0, 11, 42, 27, 182, 0, 126, 167, 0, 62, 27, 16, 20, 162, 0, 21, 42, 89]
abbrev dktX2_does_0 : List UInt8 := dkwX2_does_0 ++ dktX2_does_1
theorem dksX2_does_0 : cX2_does.data.toList.drop 0 = dktX2_does_0 := by decide +kernel
theorem dksX2_does_1 : cX2_does.data.toList.drop 22 = dktX2_does_1 := dk_seg dksX2_does_0 22 rfl rfl
theorem dksX2_does_2 : cX2_does.data.toList.drop 46 = dktX2_does_2 := dk_seg dksX2_does_1 24 rfl rfl
theorem dksX2_does_3 : cX2_does.data.toList.drop 70 = dktX2_does_3 := dk_seg dksX2_does_2 24 rfl rfl
theorem dX2_does_0 : decode cX2_does 0 = .ok (.iload_n 1, 1) := dk_27 (dk_at dksX2_does_0 0 rfl rfl)
theorem dX2_does_1 : decode cX2_does 1 = .ok (.bipush 10, 2) := dk_16 10 (dk_at dksX2_does_0 1 rfl rfl)
theorem dX2_does_3 : decode cX2_does 3 = .ok (.if_icmp .ge 11, 3) := dk_162 0 11 (dk_at dksX2_does_0 3 rfl rfl)
theorem dX2_does_6 : decode cX2_does 6 = .ok (.aload_n 0, 1) := dk_42 (dk_at dksX2_does_0 6 rfl rfl)
theorem dX2_does_7 : decode cX2_does 7 = .ok (.iload_n 1, 1) := dk_27 (dk_at dksX2_does_0 7 rfl rfl)
theorem dX2_does_8 : decode cX2_does 8 = .ok (.invokevirtual 126, 3) := dk_182 0 126 (dk_at dksX2_does_0 8 rfl rfl)
theorem dX2_does_11 : decode cX2_does 11 = .ok (.goto 62, 3) := dk_167 0 62 (dk_at dksX2_does_0 11 rfl rfl)
theorem dX2_does_14 : decode cX2_does 14 = .ok (.iload_n 1, 1) := dk_27 (dk_at dksX2_does_0 14 rfl rfl)
theorem dX2_does_15 : decode cX2_does 15 = .ok (.bipush 20, 2) := dk_16 20 (dk_at dksX2_does_0 15 rfl rfl)
theorem dX2_does_17 : decode cX2_does 17 = .ok (.if_icmp .ge 21, 3) := dk_162 0 21 (dk_at dksX2_does_0 17 rfl rfl)
theorem dX2_does_20 : decode cX2_does 20 = .ok (.aload_n 0, 1) := dk_42 (dk_at dksX2_does_0 20 rfl rfl)
theorem dX2_does_21 : decode cX2_does 21 = .ok (.dup, 1) := dk_89 (dk_at dksX2_does_0 21 rfl rfl)
theorem dX2_does_22 : decode cX2_does 22 = .ok (.getfield 19, 3) := dk_180 0 19 (dk_at dksX2_does_1 0 rfl rfl)
theorem dX2_does_25 : decode cX2_does 25 = .ok (.iconst 1, 1) := dk_4 (dk_at dksX2_does_1 3 rfl rfl)
theorem dX2_does_26 : decode cX2_does 26 = .ok (.iload_n 1, 1) := dk_27 (dk_at dksX2_does_1 4 rfl rfl)
theorem dX2_does_27 : decode cX2_does 27 = .ok (.bipush 10, 2) := dk_16 10 (dk_at dksX2_does_1 5 rfl rfl)
theorem dX2_does_29 : decode cX2_does 29 = .ok (.isub, 1) := dk_100 (dk_at dksX2_does_1 7 rfl rfl)
theorem dX2_does_30 : decode cX2_does 30 = .ok (.ishl, 1) := dk_120 (dk_at dksX2_does_1 8 rfl rfl)
theorem dX2_does_31 : decode cX2_does 31 = .ok (.ixor, 1) := dk_130 (dk_at dksX2_does_1 9 rfl rfl)
theorem dX2_does_32 : decode cX2_does 32 = .ok (.putfield 19, 3) := dk_181 0 19 (dk_at dksX2_does_1 10 rfl rfl)
theorem dX2_does_35 : decode cX2_does 35 = .ok (.goto 38, 3) := dk_167 0 38 (dk_at dksX2_does_1 13 rfl rfl)
theorem dX2_does_38 : decode cX2_does 38 = .ok (.iload_n 1, 1) := dk_27 (dk_at dksX2_does_1 16 rfl rfl)
theorem dX2_does_39 : decode cX2_does 39 = .ok (.bipush 100, 2) := dk_16 100 (dk_at dksX2_does_1 17 rfl rfl)
theorem dX2_does_41 : decode cX2_does 41 = .ok (.if_icmp .ge 14, 3) := dk_162 0 14 (dk_at dksX2_does_1 19 rfl rfl)
theorem dX2_does_44 : decode cX2_does 44 = .ok (.aload_n 0, 1) := dk_42 (dk_at dksX2_does_1 22 rfl rfl)
theorem dX2_does_45 : decode cX2_does 45 = .ok (.iload_n 1, 1) := dk_27 (dk_at dksX2_does_1 23 rfl rfl)
theorem dX2_does_46 : decode cX2_does 46 = .ok (.bipush 20, 2) := dk_16 20 (dk_at dksX2_does_2 0 rfl rfl)
theorem dX2_does_48 : decode cX2_does 48 = .ok (.isub, 1) := dk_100 (dk_at dksX2_does_2 2 rfl rfl)
theorem dX2_does_49 : decode cX2_does 49 = .ok (.putfield 22, 3) := dk_181 0 22 (dk_at dksX2_does_2 3 rfl rfl)
theorem dX2_does_52 : decode cX2_does 52 = .ok (.goto 21, 3) := dk_167 0 21 (dk_at dksX2_does_2 6 rfl rfl)
theorem dX2_does_55 : decode cX2_does 55 = .ok (.aload_n 0, 1) := dk_42 (dk_at dksX2_does_2 9 rfl rfl)
theorem dX2_does_56 : decode cX2_does 56 = .ok (.iload_n 1, 1) := dk_27 (dk_at dksX2_does_2 10 rfl rfl)
theorem dX2_does_57 : decode cX2_does 57 = .ok (.bipush 100, 2) := dk_16 100 (dk_at dksX2_does_2 11 rfl rfl)
theorem dX2_does_59 : decode cX2_does 59 = .ok (.isub, 1) := dk_100 (dk_at dksX2_does_2 13 rfl rfl)
theorem dX2_does_60 : decode cX2_does 60 = .ok (.bipush 10, 2) := dk_16 10 (dk_at dksX2_does_2 14 rfl rfl)
theorem dX2_does_62 : decode cX2_does 62 = .ok (.idiv, 1) := dk_108 (dk_at dksX2_does_2 16 rfl rfl)
theorem dX2_does_63 : decode cX2_does 63 = .ok (.iload_n 1, 1) := dk_27 (dk_at dksX2_does_2 17 rfl rfl)
theorem dX2_does_64 : decode cX2_does 64 = .ok (.bipush 10, 2) := dk_16 10 (dk_at dksX2_does_2 18 rfl rfl)
theorem dX2_does_66 : decode cX2_does 66 = .ok (.irem, 1) := dk_112 (dk_at dksX2_does_2 20 rfl rfl)
theorem dX2_does_67 : decode cX2_does 67 = .ok (.invokestatic 40, 3) := dk_184 0 40 (dk_at dksX2_does_2 21 rfl rfl)
theorem dX2_does_70 : decode cX2_does 70 = .ok (.putfield 15, 3) := dk_181 0 15 (dk_at dksX2_does_3 0 rfl rfl)
theorem dX2_does_73 : decode cX2_does 73 = .ok (.return_, 1) := dk_177 (dk_at dksX2_does_3 3 rfl rfl)
abbrev cX2_whyPut : ByteArray := prog_12_method_10_code
def yX2_whyPut : MethodName := ⟨RX2, "whyPut", "(JJ)I"⟩
def dkwX2_whyPut_1 : List UInt8 := [20, 0, 102, 184, 0, 88, 153, 0, 7, 3, 167, 0, 4, 4, 172]
abbrev dktX2_whyPut_1 : List UInt8 := dkwX2_whyPut_1 ++ []
def dkwX2_whyPut_0 : List UInt8 := [31, 9, 42, 180, 0, 3, 180, 0, 28, 180, 0, 99, 4, 100, 133, 184, 0, 88, 153, 0, 18, 33, 9]
abbrev dktX2_whyPut_0 : List UInt8 := dkwX2_whyPut_0 ++ dktX2_whyPut_1
theorem dksX2_whyPut_0 : cX2_whyPut.data.toList.drop 0 = dktX2_whyPut_0 := by decide +kernel
theorem dksX2_whyPut_1 : cX2_whyPut.data.toList.drop 23 = dktX2_whyPut_1 := dk_seg dksX2_whyPut_0 23 rfl rfl
theorem dX2_whyPut_0 : decode cX2_whyPut 0 = .ok (.lload_n 1, 1) := dk_31 (dk_at dksX2_whyPut_0 0 rfl rfl)
theorem dX2_whyPut_1 : decode cX2_whyPut 1 = .ok (.lconst 0, 1) := dk_9 (dk_at dksX2_whyPut_0 1 rfl rfl)
theorem dX2_whyPut_2 : decode cX2_whyPut 2 = .ok (.aload_n 0, 1) := dk_42 (dk_at dksX2_whyPut_0 2 rfl rfl)
theorem dX2_whyPut_3 : decode cX2_whyPut 3 = .ok (.getfield 3, 3) := dk_180 0 3 (dk_at dksX2_whyPut_0 3 rfl rfl)
theorem dX2_whyPut_6 : decode cX2_whyPut 6 = .ok (.getfield 28, 3) := dk_180 0 28 (dk_at dksX2_whyPut_0 6 rfl rfl)
theorem dX2_whyPut_9 : decode cX2_whyPut 9 = .ok (.getfield 99, 3) := dk_180 0 99 (dk_at dksX2_whyPut_0 9 rfl rfl)
theorem dX2_whyPut_12 : decode cX2_whyPut 12 = .ok (.iconst 1, 1) := dk_4 (dk_at dksX2_whyPut_0 12 rfl rfl)
theorem dX2_whyPut_13 : decode cX2_whyPut 13 = .ok (.isub, 1) := dk_100 (dk_at dksX2_whyPut_0 13 rfl rfl)
theorem dX2_whyPut_14 : decode cX2_whyPut 14 = .ok (.i2l, 1) := dk_133 (dk_at dksX2_whyPut_0 14 rfl rfl)
theorem dX2_whyPut_15 : decode cX2_whyPut 15 = .ok (.invokestatic 88, 3) := dk_184 0 88 (dk_at dksX2_whyPut_0 15 rfl rfl)
theorem dX2_whyPut_18 : decode cX2_whyPut 18 = .ok (.ifCond .eq 18, 3) := dk_153 0 18 (dk_at dksX2_whyPut_0 18 rfl rfl)
theorem dX2_whyPut_21 : decode cX2_whyPut 21 = .ok (.lload_n 3, 1) := dk_33 (dk_at dksX2_whyPut_0 21 rfl rfl)
theorem dX2_whyPut_22 : decode cX2_whyPut 22 = .ok (.lconst 0, 1) := dk_9 (dk_at dksX2_whyPut_0 22 rfl rfl)
theorem dX2_whyPut_23 : decode cX2_whyPut 23 = .ok (.ldc2_w 102, 3) := dk_20 0 102 (dk_at dksX2_whyPut_1 0 rfl rfl)
theorem dX2_whyPut_26 : decode cX2_whyPut 26 = .ok (.invokestatic 88, 3) := dk_184 0 88 (dk_at dksX2_whyPut_1 3 rfl rfl)
theorem dX2_whyPut_29 : decode cX2_whyPut 29 = .ok (.ifCond .eq 7, 3) := dk_153 0 7 (dk_at dksX2_whyPut_1 6 rfl rfl)
theorem dX2_whyPut_32 : decode cX2_whyPut 32 = .ok (.iconst 0, 1) := dk_3 (dk_at dksX2_whyPut_1 9 rfl rfl)
theorem dX2_whyPut_33 : decode cX2_whyPut 33 = .ok (.goto 4, 3) := dk_167 0 4 (dk_at dksX2_whyPut_1 10 rfl rfl)
theorem dX2_whyPut_36 : decode cX2_whyPut 36 = .ok (.iconst 1, 1) := dk_4 (dk_at dksX2_whyPut_1 13 rfl rfl)
theorem dX2_whyPut_37 : decode cX2_whyPut 37 = .ok (.ireturn, 1) := dk_172 (dk_at dksX2_whyPut_1 14 rfl rfl)
abbrev cX2_whyDeed : ByteArray := prog_12_method_11_code
def yX2_whyDeed : MethodName := ⟨RX2, "whyDeed", "(J)I"⟩
def dkwX2_whyDeed_4 : List UInt8 := [167, 0, 4, 4, 172]
abbrev dktX2_whyDeed_4 : List UInt8 := dkwX2_whyDeed_4 ++ []
def dkwX2_whyDeed_3 : List UInt8 := [184, 0, 88, 153, 0, 24, 42, 31, 20, 0, 118, 101, 20, 0, 110, 109, 31, 20, 0, 110, 113, 182, 0, 122]
abbrev dktX2_whyDeed_3 : List UInt8 := dkwX2_whyDeed_3 ++ dktX2_whyDeed_4
def dkwX2_whyDeed_2 : List UInt8 := [31, 20, 0, 114, 20, 0, 116, 184, 0, 88, 153, 0, 5, 3, 172, 31, 20, 0, 118, 20, 0, 120]
abbrev dktX2_whyDeed_2 : List UInt8 := dkwX2_whyDeed_2 ++ dktX2_whyDeed_3
def dkwX2_whyDeed_1 : List UInt8 := [184, 0, 88, 153, 0, 21, 42, 31, 20, 0, 110, 101, 182, 0, 92, 153, 0, 7, 3, 167, 0, 4, 4, 172]
abbrev dktX2_whyDeed_1 : List UInt8 := dkwX2_whyDeed_1 ++ dktX2_whyDeed_2
def dkwX2_whyDeed_0 : List UInt8 := [31, 9, 20, 0, 104, 184, 0, 88, 153, 0, 9, 42, 31, 182, 0, 106, 172, 31, 20, 0, 110, 20, 0, 112]
abbrev dktX2_whyDeed_0 : List UInt8 := dkwX2_whyDeed_0 ++ dktX2_whyDeed_1
theorem dksX2_whyDeed_0 : cX2_whyDeed.data.toList.drop 0 = dktX2_whyDeed_0 := by decide +kernel
theorem dksX2_whyDeed_1 : cX2_whyDeed.data.toList.drop 24 = dktX2_whyDeed_1 := dk_seg dksX2_whyDeed_0 24 rfl rfl
theorem dksX2_whyDeed_2 : cX2_whyDeed.data.toList.drop 48 = dktX2_whyDeed_2 := dk_seg dksX2_whyDeed_1 24 rfl rfl
theorem dksX2_whyDeed_3 : cX2_whyDeed.data.toList.drop 70 = dktX2_whyDeed_3 := dk_seg dksX2_whyDeed_2 22 rfl rfl
theorem dksX2_whyDeed_4 : cX2_whyDeed.data.toList.drop 94 = dktX2_whyDeed_4 := dk_seg dksX2_whyDeed_3 24 rfl rfl
theorem dX2_whyDeed_0 : decode cX2_whyDeed 0 = .ok (.lload_n 1, 1) := dk_31 (dk_at dksX2_whyDeed_0 0 rfl rfl)
theorem dX2_whyDeed_1 : decode cX2_whyDeed 1 = .ok (.lconst 0, 1) := dk_9 (dk_at dksX2_whyDeed_0 1 rfl rfl)
theorem dX2_whyDeed_2 : decode cX2_whyDeed 2 = .ok (.ldc2_w 104, 3) := dk_20 0 104 (dk_at dksX2_whyDeed_0 2 rfl rfl)
theorem dX2_whyDeed_5 : decode cX2_whyDeed 5 = .ok (.invokestatic 88, 3) := dk_184 0 88 (dk_at dksX2_whyDeed_0 5 rfl rfl)
theorem dX2_whyDeed_8 : decode cX2_whyDeed 8 = .ok (.ifCond .eq 9, 3) := dk_153 0 9 (dk_at dksX2_whyDeed_0 8 rfl rfl)
theorem dX2_whyDeed_11 : decode cX2_whyDeed 11 = .ok (.aload_n 0, 1) := dk_42 (dk_at dksX2_whyDeed_0 11 rfl rfl)
theorem dX2_whyDeed_12 : decode cX2_whyDeed 12 = .ok (.lload_n 1, 1) := dk_31 (dk_at dksX2_whyDeed_0 12 rfl rfl)
theorem dX2_whyDeed_13 : decode cX2_whyDeed 13 = .ok (.invokevirtual 106, 3) := dk_182 0 106 (dk_at dksX2_whyDeed_0 13 rfl rfl)
theorem dX2_whyDeed_16 : decode cX2_whyDeed 16 = .ok (.ireturn, 1) := dk_172 (dk_at dksX2_whyDeed_0 16 rfl rfl)
theorem dX2_whyDeed_17 : decode cX2_whyDeed 17 = .ok (.lload_n 1, 1) := dk_31 (dk_at dksX2_whyDeed_0 17 rfl rfl)
theorem dX2_whyDeed_18 : decode cX2_whyDeed 18 = .ok (.ldc2_w 110, 3) := dk_20 0 110 (dk_at dksX2_whyDeed_0 18 rfl rfl)
theorem dX2_whyDeed_21 : decode cX2_whyDeed 21 = .ok (.ldc2_w 112, 3) := dk_20 0 112 (dk_at dksX2_whyDeed_0 21 rfl rfl)
theorem dX2_whyDeed_24 : decode cX2_whyDeed 24 = .ok (.invokestatic 88, 3) := dk_184 0 88 (dk_at dksX2_whyDeed_1 0 rfl rfl)
theorem dX2_whyDeed_27 : decode cX2_whyDeed 27 = .ok (.ifCond .eq 21, 3) := dk_153 0 21 (dk_at dksX2_whyDeed_1 3 rfl rfl)
theorem dX2_whyDeed_30 : decode cX2_whyDeed 30 = .ok (.aload_n 0, 1) := dk_42 (dk_at dksX2_whyDeed_1 6 rfl rfl)
theorem dX2_whyDeed_31 : decode cX2_whyDeed 31 = .ok (.lload_n 1, 1) := dk_31 (dk_at dksX2_whyDeed_1 7 rfl rfl)
theorem dX2_whyDeed_32 : decode cX2_whyDeed 32 = .ok (.ldc2_w 110, 3) := dk_20 0 110 (dk_at dksX2_whyDeed_1 8 rfl rfl)
theorem dX2_whyDeed_35 : decode cX2_whyDeed 35 = .ok (.lsub, 1) := dk_101 (dk_at dksX2_whyDeed_1 11 rfl rfl)
theorem dX2_whyDeed_36 : decode cX2_whyDeed 36 = .ok (.invokevirtual 92, 3) := dk_182 0 92 (dk_at dksX2_whyDeed_1 12 rfl rfl)
theorem dX2_whyDeed_39 : decode cX2_whyDeed 39 = .ok (.ifCond .eq 7, 3) := dk_153 0 7 (dk_at dksX2_whyDeed_1 15 rfl rfl)
theorem dX2_whyDeed_42 : decode cX2_whyDeed 42 = .ok (.iconst 0, 1) := dk_3 (dk_at dksX2_whyDeed_1 18 rfl rfl)
theorem dX2_whyDeed_43 : decode cX2_whyDeed 43 = .ok (.goto 4, 3) := dk_167 0 4 (dk_at dksX2_whyDeed_1 19 rfl rfl)
theorem dX2_whyDeed_46 : decode cX2_whyDeed 46 = .ok (.iconst 1, 1) := dk_4 (dk_at dksX2_whyDeed_1 22 rfl rfl)
theorem dX2_whyDeed_47 : decode cX2_whyDeed 47 = .ok (.ireturn, 1) := dk_172 (dk_at dksX2_whyDeed_1 23 rfl rfl)
theorem dX2_whyDeed_48 : decode cX2_whyDeed 48 = .ok (.lload_n 1, 1) := dk_31 (dk_at dksX2_whyDeed_2 0 rfl rfl)
theorem dX2_whyDeed_49 : decode cX2_whyDeed 49 = .ok (.ldc2_w 114, 3) := dk_20 0 114 (dk_at dksX2_whyDeed_2 1 rfl rfl)
theorem dX2_whyDeed_52 : decode cX2_whyDeed 52 = .ok (.ldc2_w 116, 3) := dk_20 0 116 (dk_at dksX2_whyDeed_2 4 rfl rfl)
theorem dX2_whyDeed_55 : decode cX2_whyDeed 55 = .ok (.invokestatic 88, 3) := dk_184 0 88 (dk_at dksX2_whyDeed_2 7 rfl rfl)
theorem dX2_whyDeed_58 : decode cX2_whyDeed 58 = .ok (.ifCond .eq 5, 3) := dk_153 0 5 (dk_at dksX2_whyDeed_2 10 rfl rfl)
theorem dX2_whyDeed_61 : decode cX2_whyDeed 61 = .ok (.iconst 0, 1) := dk_3 (dk_at dksX2_whyDeed_2 13 rfl rfl)
theorem dX2_whyDeed_62 : decode cX2_whyDeed 62 = .ok (.ireturn, 1) := dk_172 (dk_at dksX2_whyDeed_2 14 rfl rfl)
theorem dX2_whyDeed_63 : decode cX2_whyDeed 63 = .ok (.lload_n 1, 1) := dk_31 (dk_at dksX2_whyDeed_2 15 rfl rfl)
theorem dX2_whyDeed_64 : decode cX2_whyDeed 64 = .ok (.ldc2_w 118, 3) := dk_20 0 118 (dk_at dksX2_whyDeed_2 16 rfl rfl)
theorem dX2_whyDeed_67 : decode cX2_whyDeed 67 = .ok (.ldc2_w 120, 3) := dk_20 0 120 (dk_at dksX2_whyDeed_2 19 rfl rfl)
theorem dX2_whyDeed_70 : decode cX2_whyDeed 70 = .ok (.invokestatic 88, 3) := dk_184 0 88 (dk_at dksX2_whyDeed_3 0 rfl rfl)
theorem dX2_whyDeed_73 : decode cX2_whyDeed 73 = .ok (.ifCond .eq 24, 3) := dk_153 0 24 (dk_at dksX2_whyDeed_3 3 rfl rfl)
theorem dX2_whyDeed_76 : decode cX2_whyDeed 76 = .ok (.aload_n 0, 1) := dk_42 (dk_at dksX2_whyDeed_3 6 rfl rfl)
theorem dX2_whyDeed_77 : decode cX2_whyDeed 77 = .ok (.lload_n 1, 1) := dk_31 (dk_at dksX2_whyDeed_3 7 rfl rfl)
theorem dX2_whyDeed_78 : decode cX2_whyDeed 78 = .ok (.ldc2_w 118, 3) := dk_20 0 118 (dk_at dksX2_whyDeed_3 8 rfl rfl)
theorem dX2_whyDeed_81 : decode cX2_whyDeed 81 = .ok (.lsub, 1) := dk_101 (dk_at dksX2_whyDeed_3 11 rfl rfl)
theorem dX2_whyDeed_82 : decode cX2_whyDeed 82 = .ok (.ldc2_w 110, 3) := dk_20 0 110 (dk_at dksX2_whyDeed_3 12 rfl rfl)
theorem dX2_whyDeed_85 : decode cX2_whyDeed 85 = .ok (.ldiv, 1) := dk_109 (dk_at dksX2_whyDeed_3 15 rfl rfl)
theorem dX2_whyDeed_86 : decode cX2_whyDeed 86 = .ok (.lload_n 1, 1) := dk_31 (dk_at dksX2_whyDeed_3 16 rfl rfl)
theorem dX2_whyDeed_87 : decode cX2_whyDeed 87 = .ok (.ldc2_w 110, 3) := dk_20 0 110 (dk_at dksX2_whyDeed_3 17 rfl rfl)
theorem dX2_whyDeed_90 : decode cX2_whyDeed 90 = .ok (.lrem, 1) := dk_113 (dk_at dksX2_whyDeed_3 20 rfl rfl)
theorem dX2_whyDeed_91 : decode cX2_whyDeed 91 = .ok (.invokevirtual 122, 3) := dk_182 0 122 (dk_at dksX2_whyDeed_3 21 rfl rfl)
theorem dX2_whyDeed_94 : decode cX2_whyDeed 94 = .ok (.goto 4, 3) := dk_167 0 4 (dk_at dksX2_whyDeed_4 0 rfl rfl)
theorem dX2_whyDeed_97 : decode cX2_whyDeed 97 = .ok (.iconst 1, 1) := dk_4 (dk_at dksX2_whyDeed_4 3 rfl rfl)
theorem dX2_whyDeed_98 : decode cX2_whyDeed 98 = .ok (.ireturn, 1) := dk_172 (dk_at dksX2_whyDeed_4 4 rfl rfl)
theorem q136 : (Jvm.Cond.initialized "BackRescue$State") ∈ lw_all := lw_g (lw_at lw_m1 3 rfl) rfl
theorem q178 : (Jvm.Cond.fieldLinkNest "BackRescue$State" (46 : Nat) "BackRescue$Cave" "begin" "[I" "BackRescue") ∈ lw_tbl := lw_at lw_m1 45 rfl
theorem q182 : (Jvm.Cond.fieldLinkNest "BackRescue$State" (61 : Nat) "BackRescue$Cave" "end" "[I" "BackRescue") ∈ lw_tbl := lw_at lw_m1 49 rfl
theorem q190 : (Jvm.Cond.fieldLinkNest "BackRescue$State" (99 : Nat) "BackRescue$Cave" "rooms" "I" "BackRescue") ∈ lw_tbl := lw_at lw_m1 57 rfl
theorem q193 : (Jvm.Cond.fieldLinkNest "BackRescue$State" (85 : Nat) "BackRescue$Cave" "passages" "I" "BackRescue") ∈ lw_tbl := lw_at lw_m1 60 rfl
theorem q196 : (Jvm.Cond.fieldLinkNest "BackRescue$State" (54 : Nat) "BackRescue$Cave" "twoWays" "I" "BackRescue") ∈ lw_tbl := lw_at lw_m1 63 rfl
theorem q199 : (Jvm.Cond.fieldLinkNest "BackRescue$State" (44 : Nat) "BackRescue$Cave" "roped" "I" "BackRescue") ∈ lw_tbl := lw_at lw_m1 66 rfl
theorem q201 : (Jvm.Cond.fieldLinkNest "BackRescue$State" (32 : Nat) "BackRescue$Cave" "room" "I" "BackRescue") ∈ lw_tbl := lw_at lw_m1 68 rfl
theorem q203 : (Jvm.Cond.fieldLinkNest "BackRescue$State" (37 : Nat) "BackRescue$Cave" "hurt" "I" "BackRescue") ∈ lw_tbl := lw_at lw_m1 70 rfl
theorem q205 : (Jvm.Cond.fieldLinkNest "BackRescue$State" (45 : Nat) "BackRescue$Cave" "slack" "I" "BackRescue") ∈ lw_tbl := lw_at lw_m1 72 rfl
theorem q248 : (Jvm.Cond.instantiable "BackRescue$State" (5 : Nat)) ∈ lw_all := lw_g (lw_at lw_m1 115 rfl) rfl
theorem q250 : (Jvm.Cond.instanceMethod ({ cls := "BackRescue$State", name := "<init>", desc := "(LBackRescue;)V" } : Jvm.MethodName)) ∈ lw_all := lw_g (lw_at lw_m1 117 rfl) rfl
theorem q251 : (Jvm.Cond.code ({ cls := "BackRescue$State", name := "<init>", desc := "(LBackRescue;)V" } : Jvm.MethodName) prog_12_method_1_code (2 : Nat) (Option.none : Option Jvm.ClassFile.FieldType)) ∈ lw_all := lw_g (lw_at lw_m1 118 rfl) rfl
theorem q252 : (Jvm.Cond.methodLink "BackRescue$State" (9 : Nat) ({ cls := "java/lang/Object", name := "<init>", desc := "()V" } : Jvm.MethodName)) ∈ lw_all := lw_g (lw_at lw_m1 119 rfl) rfl
theorem q253 : (Jvm.Cond.fieldLink "BackRescue$State" (15 : Nat) "BackRescue$State" "stand" "I") ∈ lw_all := lw_g (lw_at lw_m1 120 rfl) rfl
theorem q255 : (Jvm.Cond.fieldLink "BackRescue$State" (19 : Nat) "BackRescue$State" "roped" "I") ∈ lw_all := lw_g (lw_at lw_m1 122 rfl) rfl
theorem q257 : (Jvm.Cond.fieldLink "BackRescue$State" (22 : Nat) "BackRescue$State" "slack" "I") ∈ lw_all := lw_g (lw_at lw_m1 124 rfl) rfl
theorem q259 : (Jvm.Cond.fieldLink "BackRescue$State" (25 : Nat) "BackRescue$State" "steps" "I") ∈ lw_all := lw_g (lw_at lw_m1 126 rfl) rfl
theorem q261 : (Jvm.Cond.fieldLink "BackRescue$State" (3 : Nat) "BackRescue$State" "this$0" "LBackRescue;") ∈ lw_all := lw_g (lw_at lw_m1 128 rfl) rfl
theorem q262 : (Jvm.Cond.lays "BackRescue$State" "BackRescue$State" "stand" "I") ∈ lw_all := lw_g (lw_at lw_m1 129 rfl) rfl
theorem q263 : (Jvm.Cond.soleField "BackRescue$State" "stand") ∈ lw_all := lw_g (lw_at lw_m1 130 rfl) rfl
theorem q264 : (Jvm.Cond.lays "BackRescue$State" "BackRescue$State" "roped" "I") ∈ lw_all := lw_g (lw_at lw_m1 131 rfl) rfl
theorem q265 : (Jvm.Cond.soleField "BackRescue$State" "roped") ∈ lw_all := lw_g (lw_at lw_m1 132 rfl) rfl
theorem q266 : (Jvm.Cond.lays "BackRescue$State" "BackRescue$State" "slack" "I") ∈ lw_all := lw_g (lw_at lw_m1 133 rfl) rfl
theorem q267 : (Jvm.Cond.soleField "BackRescue$State" "slack") ∈ lw_all := lw_g (lw_at lw_m1 134 rfl) rfl
theorem q268 : (Jvm.Cond.lays "BackRescue$State" "BackRescue$State" "steps" "I") ∈ lw_all := lw_g (lw_at lw_m1 135 rfl) rfl
theorem q269 : (Jvm.Cond.soleField "BackRescue$State" "steps") ∈ lw_all := lw_g (lw_at lw_m1 136 rfl) rfl
theorem q270 : (Jvm.Cond.laysFinal "BackRescue$State" "BackRescue$State" "this$0" "LBackRescue;") ∈ lw_all := lw_g (lw_at lw_m1 137 rfl) rfl
theorem q271 : (Jvm.Cond.soleField "BackRescue$State" "this$0") ∈ lw_all := lw_g (lw_at lw_m1 138 rfl) rfl
theorem q272 : (Jvm.Cond.superclass "BackRescue$State" "java/lang/Object") ∈ lw_all := lw_g (lw_at lw_m1 139 rfl) rfl
theorem q291 : (Jvm.Cond.instanceMethod ({ cls := "BackRescue$State", name := "begins", desc := "()V" } : Jvm.MethodName)) ∈ lw_all := lw_g (lw_at lw_m1 158 rfl) rfl
theorem q292 : (Jvm.Cond.selects "BackRescue$State" ({ cls := "BackRescue$State", name := "begins", desc := "()V" } : Jvm.MethodName) ({ cls := "BackRescue$State", name := "begins", desc := "()V" } : Jvm.MethodName)) ∈ lw_all := lw_g (lw_at lw_m1 159 rfl) rfl
theorem q293 : (Jvm.Cond.code ({ cls := "BackRescue$State", name := "begins", desc := "()V" } : Jvm.MethodName) prog_12_method_3_code (1 : Nat) (Option.none : Option Jvm.ClassFile.FieldType)) ∈ lw_all := lw_g (lw_at lw_m1 160 rfl) rfl
theorem q294 : (Jvm.Cond.methodLinkNest "BackRescue$State" (40 : Nat) ({ cls := "BackRescue", name := "standOf", desc := "(II)I" } : Jvm.MethodName) "BackRescue") ∈ lw_tbl := lw_at lw_m1 161 rfl
theorem q297 : (Jvm.Cond.fieldLinkNest "BackRescue$State" (28 : Nat) "BackRescue" "its" "LBackRescue$Cave;" "BackRescue") ∈ lw_tbl := lw_at lw_m1 164 rfl
theorem q805 : (Jvm.Cond.instanceMethod ({ cls := "BackRescue$State", name := "whyGo", desc := "(J)I" } : Jvm.MethodName)) ∈ lw_all := lw_g (lw_at lw_m3 192 rfl) rfl
theorem q806 : (Jvm.Cond.selects "BackRescue$State" ({ cls := "BackRescue$State", name := "whyGo", desc := "(J)I" } : Jvm.MethodName) ({ cls := "BackRescue$State", name := "whyGo", desc := "(J)I" } : Jvm.MethodName)) ∈ lw_all := lw_g (lw_at lw_m3 193 rfl) rfl
theorem q807 : (Jvm.Cond.code ({ cls := "BackRescue$State", name := "whyGo", desc := "(J)I" } : Jvm.MethodName) prog_12_method_9_code (3 : Nat) (Option.some Jvm.ClassFile.FieldType.int)) ∈ lw_all := lw_g (lw_at lw_m3 194 rfl) rfl
theorem q808 : (Jvm.Cond.methodLink "BackRescue$State" (92 : Nat) ({ cls := "BackRescue$State", name := "isPassage", desc := "(J)Z" } : Jvm.MethodName)) ∈ lw_all := lw_g (lw_at lw_m3 195 rfl) rfl
theorem q809 : (Jvm.Cond.privateMethod ({ cls := "BackRescue$State", name := "isPassage", desc := "(J)Z" } : Jvm.MethodName)) ∈ lw_tbl := lw_at lw_m3 196 rfl
theorem q810 : (Jvm.Cond.instanceMethod ({ cls := "BackRescue$State", name := "isPassage", desc := "(J)Z" } : Jvm.MethodName)) ∈ lw_all := lw_g (lw_at lw_m3 197 rfl) rfl
theorem q811 : (Jvm.Cond.code ({ cls := "BackRescue$State", name := "isPassage", desc := "(J)Z" } : Jvm.MethodName) prog_12_method_8_code (3 : Nat) (Option.some Jvm.ClassFile.FieldType.boolean)) ∈ lw_all := lw_g (lw_at lw_m3 198 rfl) rfl
theorem q812 : (Jvm.Cond.methodLinkNest "BackRescue$State" (88 : Nat) ({ cls := "BackRescue", name := "in", desc := "(JJJ)Z" } : Jvm.MethodName) "BackRescue") ∈ lw_tbl := lw_at lw_m3 199 rfl
theorem q813 : (Jvm.Cond.methodLink "BackRescue$State" (96 : Nat) ({ cls := "BackRescue$State", name := "whyFrom", desc := "(II)I" } : Jvm.MethodName)) ∈ lw_all := lw_g (lw_at lw_m3 200 rfl) rfl
theorem q814 : (Jvm.Cond.instanceMethod ({ cls := "BackRescue$State", name := "whyFrom", desc := "(II)I" } : Jvm.MethodName)) ∈ lw_all := lw_g (lw_at lw_m3 201 rfl) rfl
theorem q815 : (Jvm.Cond.selects "BackRescue$State" ({ cls := "BackRescue$State", name := "whyFrom", desc := "(II)I" } : Jvm.MethodName) ({ cls := "BackRescue$State", name := "whyFrom", desc := "(II)I" } : Jvm.MethodName)) ∈ lw_all := lw_g (lw_at lw_m3 202 rfl) rfl
theorem q816 : (Jvm.Cond.code ({ cls := "BackRescue$State", name := "whyFrom", desc := "(II)I" } : Jvm.MethodName) prog_12_method_6_code (3 : Nat) (Option.some Jvm.ClassFile.FieldType.int)) ∈ lw_all := lw_g (lw_at lw_m3 203 rfl) rfl
theorem q817 : (Jvm.Cond.methodLink "BackRescue$State" (64 : Nat) ({ cls := "BackRescue$State", name := "leads", desc := "(II)Z" } : Jvm.MethodName)) ∈ lw_all := lw_g (lw_at lw_m3 204 rfl) rfl
theorem q818 : (Jvm.Cond.privateMethod ({ cls := "BackRescue$State", name := "leads", desc := "(II)Z" } : Jvm.MethodName)) ∈ lw_tbl := lw_at lw_m3 205 rfl
theorem q819 : (Jvm.Cond.instanceMethod ({ cls := "BackRescue$State", name := "leads", desc := "(II)Z" } : Jvm.MethodName)) ∈ lw_all := lw_g (lw_at lw_m3 206 rfl) rfl
theorem q820 : (Jvm.Cond.code ({ cls := "BackRescue$State", name := "leads", desc := "(II)Z" } : Jvm.MethodName) prog_12_method_4_code (3 : Nat) (Option.some Jvm.ClassFile.FieldType.boolean)) ∈ lw_all := lw_g (lw_at lw_m3 207 rfl) rfl
theorem q821 : (Jvm.Cond.methodLinkNest "BackRescue$State" (50 : Nat) ({ cls := "BackRescue", name := "roomOf", desc := "(I)I" } : Jvm.MethodName) "BackRescue") ∈ lw_tbl := lw_at lw_m3 208 rfl
theorem q824 : (Jvm.Cond.methodLinkNest "BackRescue$State" (57 : Nat) ({ cls := "BackRescue", name := "has", desc := "(II)Z" } : Jvm.MethodName) "BackRescue") ∈ lw_tbl := lw_at lw_m3 211 rfl
theorem q825 : (Jvm.Cond.methodLinkNest "BackRescue$State" (67 : Nat) ({ cls := "BackRescue", name := "isLost", desc := "(I)Z" } : Jvm.MethodName) "BackRescue") ∈ lw_tbl := lw_at lw_m3 212 rfl
theorem q831 : (Jvm.Cond.methodLinkNest "BackRescue$State" (71 : Nat) ({ cls := "BackRescue", name := "hurtOf", desc := "(I)I" } : Jvm.MethodName) "BackRescue") ∈ lw_tbl := lw_at lw_m3 218 rfl
theorem q832 : (Jvm.Cond.methodLink "BackRescue$State" (74 : Nat) ({ cls := "BackRescue$State", name := "isBack", desc := "(II)Z" } : Jvm.MethodName)) ∈ lw_all := lw_g (lw_at lw_m3 219 rfl) rfl
theorem q833 : (Jvm.Cond.privateMethod ({ cls := "BackRescue$State", name := "isBack", desc := "(II)Z" } : Jvm.MethodName)) ∈ lw_tbl := lw_at lw_m3 220 rfl
theorem q834 : (Jvm.Cond.instanceMethod ({ cls := "BackRescue$State", name := "isBack", desc := "(II)Z" } : Jvm.MethodName)) ∈ lw_all := lw_g (lw_at lw_m3 221 rfl) rfl
theorem q835 : (Jvm.Cond.code ({ cls := "BackRescue$State", name := "isBack", desc := "(II)Z" } : Jvm.MethodName) prog_12_method_5_code (3 : Nat) (Option.some Jvm.ClassFile.FieldType.boolean)) ∈ lw_all := lw_g (lw_at lw_m3 222 rfl) rfl
theorem q836 : (Jvm.Cond.methodLink "BackRescue$State" (77 : Nat) ({ cls := "BackRescue$Cave", name := "may", desc := "(IIZIZ)Z" } : Jvm.MethodName)) ∈ lw_all := lw_g (lw_at lw_m3 223 rfl) rfl
theorem q890 : (Jvm.Cond.instanceMethod ({ cls := "BackRescue$State", name := "then", desc := "(II)I" } : Jvm.MethodName)) ∈ lw_all := lw_g (lw_at lw_m4 37 rfl) rfl
theorem q891 : (Jvm.Cond.selects "BackRescue$State" ({ cls := "BackRescue$State", name := "then", desc := "(II)I" } : Jvm.MethodName) ({ cls := "BackRescue$State", name := "then", desc := "(II)I" } : Jvm.MethodName)) ∈ lw_all := lw_g (lw_at lw_m4 38 rfl) rfl
theorem q892 : (Jvm.Cond.code ({ cls := "BackRescue$State", name := "then", desc := "(II)I" } : Jvm.MethodName) prog_12_method_7_code (4 : Nat) (Option.some Jvm.ClassFile.FieldType.int)) ∈ lw_all := lw_g (lw_at lw_m4 39 rfl) rfl
theorem q893 : (Jvm.Cond.methodLink "BackRescue$State" (81 : Nat) ({ cls := "BackRescue$Cave", name := "hurts", desc := "(IIZIZ)I" } : Jvm.MethodName)) ∈ lw_all := lw_g (lw_at lw_m4 40 rfl) rfl
theorem q910 : (Jvm.Cond.instanceMethod ({ cls := "BackRescue$State", name := "be", desc := "(LBackRescue$State;)LBackRescue$State;" } : Jvm.MethodName)) ∈ lw_all := lw_g (lw_at lw_m4 57 rfl) rfl
theorem q911 : (Jvm.Cond.selects "BackRescue$State" ({ cls := "BackRescue$State", name := "be", desc := "(LBackRescue$State;)LBackRescue$State;" } : Jvm.MethodName) ({ cls := "BackRescue$State", name := "be", desc := "(LBackRescue$State;)LBackRescue$State;" } : Jvm.MethodName)) ∈ lw_all := lw_g (lw_at lw_m4 58 rfl) rfl
theorem q912 : (Jvm.Cond.code ({ cls := "BackRescue$State", name := "be", desc := "(LBackRescue$State;)LBackRescue$State;" } : Jvm.MethodName) prog_12_method_2_code (2 : Nat) (Option.some (Jvm.ClassFile.FieldType.object "BackRescue$State"))) ∈ lw_all := lw_g (lw_at lw_m4 59 rfl) rfl
theorem q915 : (Jvm.Cond.instanceMethod ({ cls := "BackRescue$State", name := "goes", desc := "(I)V" } : Jvm.MethodName)) ∈ lw_all := lw_g (lw_at lw_m4 62 rfl) rfl
theorem q916 : (Jvm.Cond.selects "BackRescue$State" ({ cls := "BackRescue$State", name := "goes", desc := "(I)V" } : Jvm.MethodName) ({ cls := "BackRescue$State", name := "goes", desc := "(I)V" } : Jvm.MethodName)) ∈ lw_all := lw_g (lw_at lw_m4 63 rfl) rfl
theorem q917 : (Jvm.Cond.code ({ cls := "BackRescue$State", name := "goes", desc := "(I)V" } : Jvm.MethodName) prog_12_method_13_code (2 : Nat) (Option.none : Option Jvm.ClassFile.FieldType)) ∈ lw_all := lw_g (lw_at lw_m4 64 rfl) rfl
theorem q918 : (Jvm.Cond.methodLink "BackRescue$State" (130 : Nat) ({ cls := "BackRescue$State", name := "then", desc := "(II)I" } : Jvm.MethodName)) ∈ lw_all := lw_g (lw_at lw_m4 65 rfl) rfl
theorem q924 : (Jvm.Cond.instanceMethod ({ cls := "BackRescue$State", name := "does", desc := "(I)V" } : Jvm.MethodName)) ∈ lw_all := lw_g (lw_at lw_m4 71 rfl) rfl
theorem q925 : (Jvm.Cond.selects "BackRescue$State" ({ cls := "BackRescue$State", name := "does", desc := "(I)V" } : Jvm.MethodName) ({ cls := "BackRescue$State", name := "does", desc := "(I)V" } : Jvm.MethodName)) ∈ lw_all := lw_g (lw_at lw_m4 72 rfl) rfl
theorem q926 : (Jvm.Cond.code ({ cls := "BackRescue$State", name := "does", desc := "(I)V" } : Jvm.MethodName) prog_12_method_12_code (2 : Nat) (Option.none : Option Jvm.ClassFile.FieldType)) ∈ lw_all := lw_g (lw_at lw_m4 73 rfl) rfl
theorem q927 : (Jvm.Cond.methodLink "BackRescue$State" (126 : Nat) ({ cls := "BackRescue$State", name := "goes", desc := "(I)V" } : Jvm.MethodName)) ∈ lw_all := lw_g (lw_at lw_m4 74 rfl) rfl
theorem q933 : (Jvm.Cond.instanceMethod ({ cls := "BackRescue$State", name := "whyPut", desc := "(JJ)I" } : Jvm.MethodName)) ∈ lw_all := lw_g (lw_at lw_m4 80 rfl) rfl
theorem q934 : (Jvm.Cond.selects "BackRescue$State" ({ cls := "BackRescue$State", name := "whyPut", desc := "(JJ)I" } : Jvm.MethodName) ({ cls := "BackRescue$State", name := "whyPut", desc := "(JJ)I" } : Jvm.MethodName)) ∈ lw_all := lw_g (lw_at lw_m4 81 rfl) rfl
theorem q935 : (Jvm.Cond.code ({ cls := "BackRescue$State", name := "whyPut", desc := "(JJ)I" } : Jvm.MethodName) prog_12_method_10_code (5 : Nat) (Option.some Jvm.ClassFile.FieldType.int)) ∈ lw_all := lw_g (lw_at lw_m4 82 rfl) rfl
theorem q936 : (Jvm.Cond.constantLong "BackRescue$State" (102 : Nat) (5 : Int64)) ∈ lw_all := lw_g (lw_at lw_m4 83 rfl) rfl
theorem q976 : (Jvm.Cond.instanceMethod ({ cls := "BackRescue$State", name := "whyDeed", desc := "(J)I" } : Jvm.MethodName)) ∈ lw_all := lw_g (lw_at lw_m4 123 rfl) rfl
theorem q977 : (Jvm.Cond.selects "BackRescue$State" ({ cls := "BackRescue$State", name := "whyDeed", desc := "(J)I" } : Jvm.MethodName) ({ cls := "BackRescue$State", name := "whyDeed", desc := "(J)I" } : Jvm.MethodName)) ∈ lw_all := lw_g (lw_at lw_m4 124 rfl) rfl
theorem q978 : (Jvm.Cond.code ({ cls := "BackRescue$State", name := "whyDeed", desc := "(J)I" } : Jvm.MethodName) prog_12_method_11_code (3 : Nat) (Option.some Jvm.ClassFile.FieldType.int)) ∈ lw_all := lw_g (lw_at lw_m4 125 rfl) rfl
theorem q979 : (Jvm.Cond.constantLong "BackRescue$State" (104 : Nat) (9 : Int64)) ∈ lw_all := lw_g (lw_at lw_m4 126 rfl) rfl
theorem q980 : (Jvm.Cond.methodLink "BackRescue$State" (106 : Nat) ({ cls := "BackRescue$State", name := "whyGo", desc := "(J)I" } : Jvm.MethodName)) ∈ lw_all := lw_g (lw_at lw_m4 127 rfl) rfl
theorem q981 : (Jvm.Cond.constantLong "BackRescue$State" (110 : Nat) (10 : Int64)) ∈ lw_all := lw_g (lw_at lw_m4 128 rfl) rfl
theorem q982 : (Jvm.Cond.constantLong "BackRescue$State" (112 : Nat) (19 : Int64)) ∈ lw_all := lw_g (lw_at lw_m4 129 rfl) rfl
theorem q983 : (Jvm.Cond.constantLong "BackRescue$State" (114 : Nat) (20 : Int64)) ∈ lw_all := lw_g (lw_at lw_m4 130 rfl) rfl
theorem q984 : (Jvm.Cond.constantLong "BackRescue$State" (116 : Nat) (29 : Int64)) ∈ lw_all := lw_g (lw_at lw_m4 131 rfl) rfl
theorem q985 : (Jvm.Cond.constantLong "BackRescue$State" (118 : Nat) (100 : Int64)) ∈ lw_all := lw_g (lw_at lw_m4 132 rfl) rfl
theorem q986 : (Jvm.Cond.constantLong "BackRescue$State" (120 : Nat) (199 : Int64)) ∈ lw_all := lw_g (lw_at lw_m4 133 rfl) rfl
theorem q987 : (Jvm.Cond.methodLink "BackRescue$State" (122 : Nat) ({ cls := "BackRescue$State", name := "whyPut", desc := "(JJ)I" } : Jvm.MethodName)) ∈ lw_all := lw_g (lw_at lw_m4 134 rfl) rfl
theorem in_X2 : ∀ w ∈ wsX20, w ∈ lw_all := lw_in wsX20 [262, 264, 266, 268, 270] (by decide +kernel) (by decide +kernel)
/-! BackRescue$Numbers -/
set_option maxRecDepth 100000
def RX3 : String := "BackRescue$Numbers"
def TX3 : u_T := fun k => match k with
  | _ => ("BackRescue$Numbers", "held", "Ljava/lang/Object;", false)
def tyX3 : Nat → FieldType := fun k => match k with
  | _ => .object "java/lang/Object"
abbrev wsX30 : List Cond := u_ws RX3 TX3 1
theorem nmX3 : ∀ a, a < 1 → ∀ b, b < 1 → a ≠ b → (TX3 a).2.1 ≠ (TX3 b).2.1 := by decide +kernel
theorem tyX3_ok : ∀ k, k < 1 → parseFieldDescriptor (TX3 k).2.2.1 = some (tyX3 k) := by decide +kernel
abbrev cX3_init : ByteArray := prog_8_method_1_code
def yX3_init : MethodName := ⟨RX3, "<init>", "()V"⟩
theorem dX3_init_0 : decode cX3_init 0 = .ok (.aload_n 0, 1) := by decide +kernel
theorem dX3_init_1 : decode cX3_init 1 = .ok (.invokespecial 1, 3) := by decide +kernel
theorem dX3_init_4 : decode cX3_init 4 = .ok (.return_, 1) := by decide +kernel
abbrev cX3_many : ByteArray := prog_8_method_3_code
def yX3_many : MethodName := ⟨RX3, "many", "()I"⟩
def dkwX3_many_2 : List UInt8 := [153, 0, 14, 42, 180, 0, 7, 192, 0, 19, 190, 167, 0, 11, 42, 180, 0, 7, 192, 0, 21, 190, 172]
abbrev dktX3_many_2 : List UInt8 := dkwX3_many_2 ++ []
def dkwX3_many_1 : List UInt8 := [193, 0, 17, 153, 0, 12, 42, 180, 0, 7, 192, 0, 17, 190, 172, 42, 180, 0, 7, 193, 0, 19]
abbrev dktX3_many_1 : List UInt8 := dkwX3_many_1 ++ dktX3_many_2
def dkwX3_many_0 : List UInt8 := [42, 180, 0, 7, 193, 0, 15, 153, 0, 12, 42, 180, 0, 7, 192, 0, 15, 190, 172, 42, 180, 0, 7]
abbrev dktX3_many_0 : List UInt8 := dkwX3_many_0 ++ dktX3_many_1
theorem dksX3_many_0 : cX3_many.data.toList.drop 0 = dktX3_many_0 := by decide +kernel
theorem dksX3_many_1 : cX3_many.data.toList.drop 23 = dktX3_many_1 := dk_seg dksX3_many_0 23 rfl rfl
theorem dksX3_many_2 : cX3_many.data.toList.drop 45 = dktX3_many_2 := dk_seg dksX3_many_1 22 rfl rfl
theorem dX3_many_0 : decode cX3_many 0 = .ok (.aload_n 0, 1) := dk_42 (dk_at dksX3_many_0 0 rfl rfl)
theorem dX3_many_1 : decode cX3_many 1 = .ok (.getfield 7, 3) := dk_180 0 7 (dk_at dksX3_many_0 1 rfl rfl)
theorem dX3_many_4 : decode cX3_many 4 = .ok (.instanceof 15, 3) := dk_193 0 15 (dk_at dksX3_many_0 4 rfl rfl)
theorem dX3_many_7 : decode cX3_many 7 = .ok (.ifCond .eq 12, 3) := dk_153 0 12 (dk_at dksX3_many_0 7 rfl rfl)
theorem dX3_many_10 : decode cX3_many 10 = .ok (.aload_n 0, 1) := dk_42 (dk_at dksX3_many_0 10 rfl rfl)
theorem dX3_many_11 : decode cX3_many 11 = .ok (.getfield 7, 3) := dk_180 0 7 (dk_at dksX3_many_0 11 rfl rfl)
theorem dX3_many_14 : decode cX3_many 14 = .ok (.checkcast 15, 3) := dk_192 0 15 (dk_at dksX3_many_0 14 rfl rfl)
theorem dX3_many_17 : decode cX3_many 17 = .ok (.arraylength, 1) := dk_190 (dk_at dksX3_many_0 17 rfl rfl)
theorem dX3_many_18 : decode cX3_many 18 = .ok (.ireturn, 1) := dk_172 (dk_at dksX3_many_0 18 rfl rfl)
theorem dX3_many_19 : decode cX3_many 19 = .ok (.aload_n 0, 1) := dk_42 (dk_at dksX3_many_0 19 rfl rfl)
theorem dX3_many_20 : decode cX3_many 20 = .ok (.getfield 7, 3) := dk_180 0 7 (dk_at dksX3_many_0 20 rfl rfl)
theorem dX3_many_23 : decode cX3_many 23 = .ok (.instanceof 17, 3) := dk_193 0 17 (dk_at dksX3_many_1 0 rfl rfl)
theorem dX3_many_26 : decode cX3_many 26 = .ok (.ifCond .eq 12, 3) := dk_153 0 12 (dk_at dksX3_many_1 3 rfl rfl)
theorem dX3_many_29 : decode cX3_many 29 = .ok (.aload_n 0, 1) := dk_42 (dk_at dksX3_many_1 6 rfl rfl)
theorem dX3_many_30 : decode cX3_many 30 = .ok (.getfield 7, 3) := dk_180 0 7 (dk_at dksX3_many_1 7 rfl rfl)
theorem dX3_many_33 : decode cX3_many 33 = .ok (.checkcast 17, 3) := dk_192 0 17 (dk_at dksX3_many_1 10 rfl rfl)
theorem dX3_many_36 : decode cX3_many 36 = .ok (.arraylength, 1) := dk_190 (dk_at dksX3_many_1 13 rfl rfl)
theorem dX3_many_37 : decode cX3_many 37 = .ok (.ireturn, 1) := dk_172 (dk_at dksX3_many_1 14 rfl rfl)
theorem dX3_many_38 : decode cX3_many 38 = .ok (.aload_n 0, 1) := dk_42 (dk_at dksX3_many_1 15 rfl rfl)
theorem dX3_many_39 : decode cX3_many 39 = .ok (.getfield 7, 3) := dk_180 0 7 (dk_at dksX3_many_1 16 rfl rfl)
theorem dX3_many_42 : decode cX3_many 42 = .ok (.instanceof 19, 3) := dk_193 0 19 (dk_at dksX3_many_1 19 rfl rfl)
theorem dX3_many_45 : decode cX3_many 45 = .ok (.ifCond .eq 14, 3) := dk_153 0 14 (dk_at dksX3_many_2 0 rfl rfl)
theorem dX3_many_48 : decode cX3_many 48 = .ok (.aload_n 0, 1) := dk_42 (dk_at dksX3_many_2 3 rfl rfl)
theorem dX3_many_49 : decode cX3_many 49 = .ok (.getfield 7, 3) := dk_180 0 7 (dk_at dksX3_many_2 4 rfl rfl)
theorem dX3_many_52 : decode cX3_many 52 = .ok (.checkcast 19, 3) := dk_192 0 19 (dk_at dksX3_many_2 7 rfl rfl)
theorem dX3_many_55 : decode cX3_many 55 = .ok (.arraylength, 1) := dk_190 (dk_at dksX3_many_2 10 rfl rfl)
theorem dX3_many_56 : decode cX3_many 56 = .ok (.goto 11, 3) := dk_167 0 11 (dk_at dksX3_many_2 11 rfl rfl)
theorem dX3_many_59 : decode cX3_many 59 = .ok (.aload_n 0, 1) := dk_42 (dk_at dksX3_many_2 14 rfl rfl)
theorem dX3_many_60 : decode cX3_many 60 = .ok (.getfield 7, 3) := dk_180 0 7 (dk_at dksX3_many_2 15 rfl rfl)
theorem dX3_many_63 : decode cX3_many 63 = .ok (.checkcast 21, 3) := dk_192 0 21 (dk_at dksX3_many_2 18 rfl rfl)
theorem dX3_many_66 : decode cX3_many 66 = .ok (.arraylength, 1) := dk_190 (dk_at dksX3_many_2 21 rfl rfl)
theorem dX3_many_67 : decode cX3_many 67 = .ok (.ireturn, 1) := dk_172 (dk_at dksX3_many_2 22 rfl rfl)
abbrev cX3_number : ByteArray := prog_8_method_4_code
def yX3_number : MethodName := ⟨RX3, "number", "(I)J"⟩
def dkwX3_number_3 : List UInt8 := [192, 0, 21, 27, 47, 173]
abbrev dktX3_number_3 : List UInt8 := dkwX3_number_3 ++ []
def dkwX3_number_2 : List UInt8 := [193, 0, 19, 153, 0, 16, 42, 180, 0, 7, 192, 0, 19, 27, 46, 133, 167, 0, 12, 42, 180, 0, 7]
abbrev dktX3_number_2 : List UInt8 := dkwX3_number_2 ++ dktX3_number_3
def dkwX3_number_1 : List UInt8 := [180, 0, 7, 193, 0, 17, 153, 0, 14, 42, 180, 0, 7, 192, 0, 17, 27, 53, 133, 173, 42, 180, 0, 7]
abbrev dktX3_number_1 : List UInt8 := dkwX3_number_1 ++ dktX3_number_2
def dkwX3_number_0 : List UInt8 := [42, 180, 0, 7, 193, 0, 15, 153, 0, 14, 42, 180, 0, 7, 192, 0, 15, 27, 51, 133, 173, 42]
abbrev dktX3_number_0 : List UInt8 := dkwX3_number_0 ++ dktX3_number_1
theorem dksX3_number_0 : cX3_number.data.toList.drop 0 = dktX3_number_0 := by decide +kernel
theorem dksX3_number_1 : cX3_number.data.toList.drop 22 = dktX3_number_1 := dk_seg dksX3_number_0 22 rfl rfl
theorem dksX3_number_2 : cX3_number.data.toList.drop 46 = dktX3_number_2 := dk_seg dksX3_number_1 24 rfl rfl
theorem dksX3_number_3 : cX3_number.data.toList.drop 69 = dktX3_number_3 := dk_seg dksX3_number_2 23 rfl rfl
theorem dX3_number_0 : decode cX3_number 0 = .ok (.aload_n 0, 1) := dk_42 (dk_at dksX3_number_0 0 rfl rfl)
theorem dX3_number_1 : decode cX3_number 1 = .ok (.getfield 7, 3) := dk_180 0 7 (dk_at dksX3_number_0 1 rfl rfl)
theorem dX3_number_4 : decode cX3_number 4 = .ok (.instanceof 15, 3) := dk_193 0 15 (dk_at dksX3_number_0 4 rfl rfl)
theorem dX3_number_7 : decode cX3_number 7 = .ok (.ifCond .eq 14, 3) := dk_153 0 14 (dk_at dksX3_number_0 7 rfl rfl)
theorem dX3_number_10 : decode cX3_number 10 = .ok (.aload_n 0, 1) := dk_42 (dk_at dksX3_number_0 10 rfl rfl)
theorem dX3_number_11 : decode cX3_number 11 = .ok (.getfield 7, 3) := dk_180 0 7 (dk_at dksX3_number_0 11 rfl rfl)
theorem dX3_number_14 : decode cX3_number 14 = .ok (.checkcast 15, 3) := dk_192 0 15 (dk_at dksX3_number_0 14 rfl rfl)
theorem dX3_number_17 : decode cX3_number 17 = .ok (.iload_n 1, 1) := dk_27 (dk_at dksX3_number_0 17 rfl rfl)
theorem dX3_number_18 : decode cX3_number 18 = .ok (.baload, 1) := dk_51 (dk_at dksX3_number_0 18 rfl rfl)
theorem dX3_number_19 : decode cX3_number 19 = .ok (.i2l, 1) := dk_133 (dk_at dksX3_number_0 19 rfl rfl)
theorem dX3_number_20 : decode cX3_number 20 = .ok (.lreturn, 1) := dk_173 (dk_at dksX3_number_0 20 rfl rfl)
theorem dX3_number_21 : decode cX3_number 21 = .ok (.aload_n 0, 1) := dk_42 (dk_at dksX3_number_0 21 rfl rfl)
theorem dX3_number_22 : decode cX3_number 22 = .ok (.getfield 7, 3) := dk_180 0 7 (dk_at dksX3_number_1 0 rfl rfl)
theorem dX3_number_25 : decode cX3_number 25 = .ok (.instanceof 17, 3) := dk_193 0 17 (dk_at dksX3_number_1 3 rfl rfl)
theorem dX3_number_28 : decode cX3_number 28 = .ok (.ifCond .eq 14, 3) := dk_153 0 14 (dk_at dksX3_number_1 6 rfl rfl)
theorem dX3_number_31 : decode cX3_number 31 = .ok (.aload_n 0, 1) := dk_42 (dk_at dksX3_number_1 9 rfl rfl)
theorem dX3_number_32 : decode cX3_number 32 = .ok (.getfield 7, 3) := dk_180 0 7 (dk_at dksX3_number_1 10 rfl rfl)
theorem dX3_number_35 : decode cX3_number 35 = .ok (.checkcast 17, 3) := dk_192 0 17 (dk_at dksX3_number_1 13 rfl rfl)
theorem dX3_number_38 : decode cX3_number 38 = .ok (.iload_n 1, 1) := dk_27 (dk_at dksX3_number_1 16 rfl rfl)
theorem dX3_number_39 : decode cX3_number 39 = .ok (.saload, 1) := dk_53 (dk_at dksX3_number_1 17 rfl rfl)
theorem dX3_number_40 : decode cX3_number 40 = .ok (.i2l, 1) := dk_133 (dk_at dksX3_number_1 18 rfl rfl)
theorem dX3_number_41 : decode cX3_number 41 = .ok (.lreturn, 1) := dk_173 (dk_at dksX3_number_1 19 rfl rfl)
theorem dX3_number_42 : decode cX3_number 42 = .ok (.aload_n 0, 1) := dk_42 (dk_at dksX3_number_1 20 rfl rfl)
theorem dX3_number_43 : decode cX3_number 43 = .ok (.getfield 7, 3) := dk_180 0 7 (dk_at dksX3_number_1 21 rfl rfl)
theorem dX3_number_46 : decode cX3_number 46 = .ok (.instanceof 19, 3) := dk_193 0 19 (dk_at dksX3_number_2 0 rfl rfl)
theorem dX3_number_49 : decode cX3_number 49 = .ok (.ifCond .eq 16, 3) := dk_153 0 16 (dk_at dksX3_number_2 3 rfl rfl)
theorem dX3_number_52 : decode cX3_number 52 = .ok (.aload_n 0, 1) := dk_42 (dk_at dksX3_number_2 6 rfl rfl)
theorem dX3_number_53 : decode cX3_number 53 = .ok (.getfield 7, 3) := dk_180 0 7 (dk_at dksX3_number_2 7 rfl rfl)
theorem dX3_number_56 : decode cX3_number 56 = .ok (.checkcast 19, 3) := dk_192 0 19 (dk_at dksX3_number_2 10 rfl rfl)
theorem dX3_number_59 : decode cX3_number 59 = .ok (.iload_n 1, 1) := dk_27 (dk_at dksX3_number_2 13 rfl rfl)
theorem dX3_number_60 : decode cX3_number 60 = .ok (.iaload, 1) := dk_46 (dk_at dksX3_number_2 14 rfl rfl)
theorem dX3_number_61 : decode cX3_number 61 = .ok (.i2l, 1) := dk_133 (dk_at dksX3_number_2 15 rfl rfl)
theorem dX3_number_62 : decode cX3_number 62 = .ok (.goto 12, 3) := dk_167 0 12 (dk_at dksX3_number_2 16 rfl rfl)
theorem dX3_number_65 : decode cX3_number 65 = .ok (.aload_n 0, 1) := dk_42 (dk_at dksX3_number_2 19 rfl rfl)
theorem dX3_number_66 : decode cX3_number 66 = .ok (.getfield 7, 3) := dk_180 0 7 (dk_at dksX3_number_2 20 rfl rfl)
theorem dX3_number_69 : decode cX3_number 69 = .ok (.checkcast 21, 3) := dk_192 0 21 (dk_at dksX3_number_3 0 rfl rfl)
theorem dX3_number_72 : decode cX3_number 72 = .ok (.iload_n 1, 1) := dk_27 (dk_at dksX3_number_3 3 rfl rfl)
theorem dX3_number_73 : decode cX3_number 73 = .ok (.laload, 1) := dk_47 (dk_at dksX3_number_3 4 rfl rfl)
theorem dX3_number_74 : decode cX3_number 74 = .ok (.lreturn, 1) := dk_173 (dk_at dksX3_number_3 5 rfl rfl)
abbrev cX3_begins : ByteArray := prog_8_method_2_code
def yX3_begins : MethodName := ⟨RX3, "begins", "(II)Z"⟩
def dkwX3_begins_3 : List UInt8 := [181, 0, 7, 167, 0, 10, 42, 28, 188, 11, 181, 0, 7, 4, 172, 78, 3, 172]
abbrev dktX3_begins_3 : List UInt8 := dkwX3_begins_3 ++ []
def dkwX3_begins_2 : List UInt8 := [42, 28, 188, 8, 181, 0, 7, 167, 0, 30, 42, 28, 188, 9, 181, 0, 7, 167, 0, 20, 42, 28, 188, 10]
abbrev dktX3_begins_2 : List UInt8 := dkwX3_begins_2 ++ dktX3_begins_3
def dkwX3_begins_1 : List UInt8 := [170, 0, 0, 0, 0, 0, 57, 0, 0, 0, 0, 0, 0, 0, 2, 0, 0, 0, 27, 0, 0, 0, 37, 0, 0, 0, 47]
abbrev dktX3_begins_1 : List UInt8 := dkwX3_begins_1 ++ dktX3_begins_2
def dkwX3_begins_0 : List UInt8 := [27]
abbrev dktX3_begins_0 : List UInt8 := dkwX3_begins_0 ++ dktX3_begins_1
theorem dksX3_begins_0 : cX3_begins.data.toList.drop 0 = dktX3_begins_0 := by decide +kernel
theorem dksX3_begins_1 : cX3_begins.data.toList.drop 1 = dktX3_begins_1 := dk_seg dksX3_begins_0 1 rfl rfl
theorem dksX3_begins_2 : cX3_begins.data.toList.drop 28 = dktX3_begins_2 := dk_seg dksX3_begins_1 27 rfl rfl
theorem dksX3_begins_3 : cX3_begins.data.toList.drop 52 = dktX3_begins_3 := dk_seg dksX3_begins_2 24 rfl rfl
theorem dX3_begins_0 : decode cX3_begins 0 = .ok (.iload_n 1, 1) := dk_27 (dk_at dksX3_begins_0 0 rfl rfl)
theorem dX3_begins_1 : decode cX3_begins 1 = .ok (.tableswitch 57 0 2 #[27, 37, 47], 27) := by decide +kernel
theorem dX3_begins_28 : decode cX3_begins 28 = .ok (.aload_n 0, 1) := dk_42 (dk_at dksX3_begins_2 0 rfl rfl)
theorem dX3_begins_29 : decode cX3_begins 29 = .ok (.iload_n 2, 1) := dk_28 (dk_at dksX3_begins_2 1 rfl rfl)
theorem dX3_begins_30 : decode cX3_begins 30 = .ok (.newarray .byte, 2) := dk_188_8 (dk_at dksX3_begins_2 2 rfl rfl)
theorem dX3_begins_32 : decode cX3_begins 32 = .ok (.putfield 7, 3) := dk_181 0 7 (dk_at dksX3_begins_2 4 rfl rfl)
theorem dX3_begins_35 : decode cX3_begins 35 = .ok (.goto 30, 3) := dk_167 0 30 (dk_at dksX3_begins_2 7 rfl rfl)
theorem dX3_begins_38 : decode cX3_begins 38 = .ok (.aload_n 0, 1) := dk_42 (dk_at dksX3_begins_2 10 rfl rfl)
theorem dX3_begins_39 : decode cX3_begins 39 = .ok (.iload_n 2, 1) := dk_28 (dk_at dksX3_begins_2 11 rfl rfl)
theorem dX3_begins_40 : decode cX3_begins 40 = .ok (.newarray .short, 2) := dk_188_9 (dk_at dksX3_begins_2 12 rfl rfl)
theorem dX3_begins_42 : decode cX3_begins 42 = .ok (.putfield 7, 3) := dk_181 0 7 (dk_at dksX3_begins_2 14 rfl rfl)
theorem dX3_begins_45 : decode cX3_begins 45 = .ok (.goto 20, 3) := dk_167 0 20 (dk_at dksX3_begins_2 17 rfl rfl)
theorem dX3_begins_48 : decode cX3_begins 48 = .ok (.aload_n 0, 1) := dk_42 (dk_at dksX3_begins_2 20 rfl rfl)
theorem dX3_begins_49 : decode cX3_begins 49 = .ok (.iload_n 2, 1) := dk_28 (dk_at dksX3_begins_2 21 rfl rfl)
theorem dX3_begins_50 : decode cX3_begins 50 = .ok (.newarray .int, 2) := dk_188_10 (dk_at dksX3_begins_2 22 rfl rfl)
theorem dX3_begins_52 : decode cX3_begins 52 = .ok (.putfield 7, 3) := dk_181 0 7 (dk_at dksX3_begins_3 0 rfl rfl)
theorem dX3_begins_55 : decode cX3_begins 55 = .ok (.goto 10, 3) := dk_167 0 10 (dk_at dksX3_begins_3 3 rfl rfl)
theorem dX3_begins_58 : decode cX3_begins 58 = .ok (.aload_n 0, 1) := dk_42 (dk_at dksX3_begins_3 6 rfl rfl)
theorem dX3_begins_59 : decode cX3_begins 59 = .ok (.iload_n 2, 1) := dk_28 (dk_at dksX3_begins_3 7 rfl rfl)
theorem dX3_begins_60 : decode cX3_begins 60 = .ok (.newarray .long, 2) := dk_188_11 (dk_at dksX3_begins_3 8 rfl rfl)
theorem dX3_begins_62 : decode cX3_begins 62 = .ok (.putfield 7, 3) := dk_181 0 7 (dk_at dksX3_begins_3 10 rfl rfl)
theorem dX3_begins_65 : decode cX3_begins 65 = .ok (.iconst 1, 1) := dk_4 (dk_at dksX3_begins_3 13 rfl rfl)
theorem dX3_begins_66 : decode cX3_begins 66 = .ok (.ireturn, 1) := dk_172 (dk_at dksX3_begins_3 14 rfl rfl)
theorem dX3_begins_67 : decode cX3_begins 67 = .ok (.astore_n 3, 1) := dk_78 (dk_at dksX3_begins_3 15 rfl rfl)
theorem dX3_begins_68 : decode cX3_begins 68 = .ok (.iconst 0, 1) := dk_3 (dk_at dksX3_begins_3 16 rfl rfl)
theorem dX3_begins_69 : decode cX3_begins 69 = .ok (.ireturn, 1) := dk_172 (dk_at dksX3_begins_3 17 rfl rfl)
abbrev cX3_puts : ByteArray := prog_8_method_5_code
def yX3_puts : MethodName := ⟨RX3, "puts", "(IJ)V"⟩
def dkwX3_puts_3 : List UInt8 := [79, 167, 0, 13, 42, 180, 0, 7, 192, 0, 21, 27, 32, 80, 177]
abbrev dktX3_puts_3 : List UInt8 := dkwX3_puts_3 ++ []
def dkwX3_puts_2 : List UInt8 := [86, 167, 0, 37, 42, 180, 0, 7, 193, 0, 19, 153, 0, 17, 42, 180, 0, 7, 192, 0, 19, 27, 32, 136]
abbrev dktX3_puts_2 : List UInt8 := dkwX3_puts_2 ++ dktX3_puts_3
def dkwX3_puts_1 : List UInt8 := [167, 0, 62, 42, 180, 0, 7, 193, 0, 17, 153, 0, 18, 42, 180, 0, 7, 192, 0, 17, 27, 32, 136, 147]
abbrev dktX3_puts_1 : List UInt8 := dkwX3_puts_1 ++ dktX3_puts_2
def dkwX3_puts_0 : List UInt8 := [42, 180, 0, 7, 193, 0, 15, 153, 0, 18, 42, 180, 0, 7, 192, 0, 15, 27, 32, 136, 145, 84]
abbrev dktX3_puts_0 : List UInt8 := dkwX3_puts_0 ++ dktX3_puts_1
theorem dksX3_puts_0 : cX3_puts.data.toList.drop 0 = dktX3_puts_0 := by decide +kernel
theorem dksX3_puts_1 : cX3_puts.data.toList.drop 22 = dktX3_puts_1 := dk_seg dksX3_puts_0 22 rfl rfl
theorem dksX3_puts_2 : cX3_puts.data.toList.drop 46 = dktX3_puts_2 := dk_seg dksX3_puts_1 24 rfl rfl
theorem dksX3_puts_3 : cX3_puts.data.toList.drop 70 = dktX3_puts_3 := dk_seg dksX3_puts_2 24 rfl rfl
theorem dX3_puts_0 : decode cX3_puts 0 = .ok (.aload_n 0, 1) := dk_42 (dk_at dksX3_puts_0 0 rfl rfl)
theorem dX3_puts_1 : decode cX3_puts 1 = .ok (.getfield 7, 3) := dk_180 0 7 (dk_at dksX3_puts_0 1 rfl rfl)
theorem dX3_puts_4 : decode cX3_puts 4 = .ok (.instanceof 15, 3) := dk_193 0 15 (dk_at dksX3_puts_0 4 rfl rfl)
theorem dX3_puts_7 : decode cX3_puts 7 = .ok (.ifCond .eq 18, 3) := dk_153 0 18 (dk_at dksX3_puts_0 7 rfl rfl)
theorem dX3_puts_10 : decode cX3_puts 10 = .ok (.aload_n 0, 1) := dk_42 (dk_at dksX3_puts_0 10 rfl rfl)
theorem dX3_puts_11 : decode cX3_puts 11 = .ok (.getfield 7, 3) := dk_180 0 7 (dk_at dksX3_puts_0 11 rfl rfl)
theorem dX3_puts_14 : decode cX3_puts 14 = .ok (.checkcast 15, 3) := dk_192 0 15 (dk_at dksX3_puts_0 14 rfl rfl)
theorem dX3_puts_17 : decode cX3_puts 17 = .ok (.iload_n 1, 1) := dk_27 (dk_at dksX3_puts_0 17 rfl rfl)
theorem dX3_puts_18 : decode cX3_puts 18 = .ok (.lload_n 2, 1) := dk_32 (dk_at dksX3_puts_0 18 rfl rfl)
theorem dX3_puts_19 : decode cX3_puts 19 = .ok (.l2i, 1) := dk_136 (dk_at dksX3_puts_0 19 rfl rfl)
theorem dX3_puts_20 : decode cX3_puts 20 = .ok (.i2b, 1) := dk_145 (dk_at dksX3_puts_0 20 rfl rfl)
theorem dX3_puts_21 : decode cX3_puts 21 = .ok (.bastore, 1) := dk_84 (dk_at dksX3_puts_0 21 rfl rfl)
theorem dX3_puts_22 : decode cX3_puts 22 = .ok (.goto 62, 3) := dk_167 0 62 (dk_at dksX3_puts_1 0 rfl rfl)
theorem dX3_puts_25 : decode cX3_puts 25 = .ok (.aload_n 0, 1) := dk_42 (dk_at dksX3_puts_1 3 rfl rfl)
theorem dX3_puts_26 : decode cX3_puts 26 = .ok (.getfield 7, 3) := dk_180 0 7 (dk_at dksX3_puts_1 4 rfl rfl)
theorem dX3_puts_29 : decode cX3_puts 29 = .ok (.instanceof 17, 3) := dk_193 0 17 (dk_at dksX3_puts_1 7 rfl rfl)
theorem dX3_puts_32 : decode cX3_puts 32 = .ok (.ifCond .eq 18, 3) := dk_153 0 18 (dk_at dksX3_puts_1 10 rfl rfl)
theorem dX3_puts_35 : decode cX3_puts 35 = .ok (.aload_n 0, 1) := dk_42 (dk_at dksX3_puts_1 13 rfl rfl)
theorem dX3_puts_36 : decode cX3_puts 36 = .ok (.getfield 7, 3) := dk_180 0 7 (dk_at dksX3_puts_1 14 rfl rfl)
theorem dX3_puts_39 : decode cX3_puts 39 = .ok (.checkcast 17, 3) := dk_192 0 17 (dk_at dksX3_puts_1 17 rfl rfl)
theorem dX3_puts_42 : decode cX3_puts 42 = .ok (.iload_n 1, 1) := dk_27 (dk_at dksX3_puts_1 20 rfl rfl)
theorem dX3_puts_43 : decode cX3_puts 43 = .ok (.lload_n 2, 1) := dk_32 (dk_at dksX3_puts_1 21 rfl rfl)
theorem dX3_puts_44 : decode cX3_puts 44 = .ok (.l2i, 1) := dk_136 (dk_at dksX3_puts_1 22 rfl rfl)
theorem dX3_puts_45 : decode cX3_puts 45 = .ok (.i2s, 1) := dk_147 (dk_at dksX3_puts_1 23 rfl rfl)
theorem dX3_puts_46 : decode cX3_puts 46 = .ok (.sastore, 1) := dk_86 (dk_at dksX3_puts_2 0 rfl rfl)
theorem dX3_puts_47 : decode cX3_puts 47 = .ok (.goto 37, 3) := dk_167 0 37 (dk_at dksX3_puts_2 1 rfl rfl)
theorem dX3_puts_50 : decode cX3_puts 50 = .ok (.aload_n 0, 1) := dk_42 (dk_at dksX3_puts_2 4 rfl rfl)
theorem dX3_puts_51 : decode cX3_puts 51 = .ok (.getfield 7, 3) := dk_180 0 7 (dk_at dksX3_puts_2 5 rfl rfl)
theorem dX3_puts_54 : decode cX3_puts 54 = .ok (.instanceof 19, 3) := dk_193 0 19 (dk_at dksX3_puts_2 8 rfl rfl)
theorem dX3_puts_57 : decode cX3_puts 57 = .ok (.ifCond .eq 17, 3) := dk_153 0 17 (dk_at dksX3_puts_2 11 rfl rfl)
theorem dX3_puts_60 : decode cX3_puts 60 = .ok (.aload_n 0, 1) := dk_42 (dk_at dksX3_puts_2 14 rfl rfl)
theorem dX3_puts_61 : decode cX3_puts 61 = .ok (.getfield 7, 3) := dk_180 0 7 (dk_at dksX3_puts_2 15 rfl rfl)
theorem dX3_puts_64 : decode cX3_puts 64 = .ok (.checkcast 19, 3) := dk_192 0 19 (dk_at dksX3_puts_2 18 rfl rfl)
theorem dX3_puts_67 : decode cX3_puts 67 = .ok (.iload_n 1, 1) := dk_27 (dk_at dksX3_puts_2 21 rfl rfl)
theorem dX3_puts_68 : decode cX3_puts 68 = .ok (.lload_n 2, 1) := dk_32 (dk_at dksX3_puts_2 22 rfl rfl)
theorem dX3_puts_69 : decode cX3_puts 69 = .ok (.l2i, 1) := dk_136 (dk_at dksX3_puts_2 23 rfl rfl)
theorem dX3_puts_70 : decode cX3_puts 70 = .ok (.iastore, 1) := dk_79 (dk_at dksX3_puts_3 0 rfl rfl)
theorem dX3_puts_71 : decode cX3_puts 71 = .ok (.goto 13, 3) := dk_167 0 13 (dk_at dksX3_puts_3 1 rfl rfl)
theorem dX3_puts_74 : decode cX3_puts 74 = .ok (.aload_n 0, 1) := dk_42 (dk_at dksX3_puts_3 4 rfl rfl)
theorem dX3_puts_75 : decode cX3_puts 75 = .ok (.getfield 7, 3) := dk_180 0 7 (dk_at dksX3_puts_3 5 rfl rfl)
theorem dX3_puts_78 : decode cX3_puts 78 = .ok (.checkcast 21, 3) := dk_192 0 21 (dk_at dksX3_puts_3 8 rfl rfl)
theorem dX3_puts_81 : decode cX3_puts 81 = .ok (.iload_n 1, 1) := dk_27 (dk_at dksX3_puts_3 11 rfl rfl)
theorem dX3_puts_82 : decode cX3_puts 82 = .ok (.lload_n 2, 1) := dk_32 (dk_at dksX3_puts_3 12 rfl rfl)
theorem dX3_puts_83 : decode cX3_puts 83 = .ok (.lastore, 1) := dk_80 (dk_at dksX3_puts_3 13 rfl rfl)
theorem dX3_puts_84 : decode cX3_puts 84 = .ok (.return_, 1) := dk_177 (dk_at dksX3_puts_3 14 rfl rfl)
theorem q137 : (Jvm.Cond.initialized "BackRescue$Numbers") ∈ lw_all := lw_g (lw_at lw_m1 4 rfl) rfl
theorem q276 : (Jvm.Cond.instantiable "BackRescue$Numbers" (1 : Nat)) ∈ lw_all := lw_g (lw_at lw_m1 143 rfl) rfl
theorem q278 : (Jvm.Cond.instanceMethod ({ cls := "BackRescue$Numbers", name := "<init>", desc := "()V" } : Jvm.MethodName)) ∈ lw_all := lw_g (lw_at lw_m1 145 rfl) rfl
theorem q279 : (Jvm.Cond.code ({ cls := "BackRescue$Numbers", name := "<init>", desc := "()V" } : Jvm.MethodName) prog_8_method_1_code (1 : Nat) (Option.none : Option Jvm.ClassFile.FieldType)) ∈ lw_all := lw_g (lw_at lw_m1 146 rfl) rfl
theorem q280 : (Jvm.Cond.methodLink "BackRescue$Numbers" (1 : Nat) ({ cls := "java/lang/Object", name := "<init>", desc := "()V" } : Jvm.MethodName)) ∈ lw_all := lw_g (lw_at lw_m1 147 rfl) rfl
theorem q281 : (Jvm.Cond.fieldLink "BackRescue$Numbers" (7 : Nat) "BackRescue$Numbers" "held" "Ljava/lang/Object;") ∈ lw_all := lw_g (lw_at lw_m1 148 rfl) rfl
theorem q283 : (Jvm.Cond.lays "BackRescue$Numbers" "BackRescue$Numbers" "held" "Ljava/lang/Object;") ∈ lw_all := lw_g (lw_at lw_m1 150 rfl) rfl
theorem q284 : (Jvm.Cond.soleField "BackRescue$Numbers" "held") ∈ lw_all := lw_g (lw_at lw_m1 151 rfl) rfl
theorem q285 : (Jvm.Cond.superclass "BackRescue$Numbers" "java/lang/Object") ∈ lw_all := lw_g (lw_at lw_m1 152 rfl) rfl
theorem q964 : (Jvm.Cond.instanceMethod ({ cls := "BackRescue$Numbers", name := "many", desc := "()I" } : Jvm.MethodName)) ∈ lw_all := lw_g (lw_at lw_m4 111 rfl) rfl
theorem q965 : (Jvm.Cond.selects "BackRescue$Numbers" ({ cls := "BackRescue$Numbers", name := "many", desc := "()I" } : Jvm.MethodName) ({ cls := "BackRescue$Numbers", name := "many", desc := "()I" } : Jvm.MethodName)) ∈ lw_all := lw_g (lw_at lw_m4 112 rfl) rfl
theorem q966 : (Jvm.Cond.code ({ cls := "BackRescue$Numbers", name := "many", desc := "()I" } : Jvm.MethodName) prog_8_method_3_code (1 : Nat) (Option.some Jvm.ClassFile.FieldType.int)) ∈ lw_all := lw_g (lw_at lw_m4 113 rfl) rfl
theorem q967 : (Jvm.Cond.classLink "BackRescue$Numbers" (15 : Nat) "[B") ∈ lw_all := lw_g (lw_at lw_m4 114 rfl) rfl
theorem q968 : (Jvm.Cond.classLink "BackRescue$Numbers" (17 : Nat) "[S") ∈ lw_all := lw_g (lw_at lw_m4 115 rfl) rfl
theorem q969 : (Jvm.Cond.classLink "BackRescue$Numbers" (19 : Nat) "[I") ∈ lw_all := lw_g (lw_at lw_m4 116 rfl) rfl
theorem q970 : (Jvm.Cond.classLink "BackRescue$Numbers" (21 : Nat) "[J") ∈ lw_all := lw_g (lw_at lw_m4 117 rfl) rfl
theorem q972 : (Jvm.Cond.instanceMethod ({ cls := "BackRescue$Numbers", name := "number", desc := "(I)J" } : Jvm.MethodName)) ∈ lw_all := lw_g (lw_at lw_m4 119 rfl) rfl
theorem q973 : (Jvm.Cond.selects "BackRescue$Numbers" ({ cls := "BackRescue$Numbers", name := "number", desc := "(I)J" } : Jvm.MethodName) ({ cls := "BackRescue$Numbers", name := "number", desc := "(I)J" } : Jvm.MethodName)) ∈ lw_all := lw_g (lw_at lw_m4 120 rfl) rfl
theorem q974 : (Jvm.Cond.code ({ cls := "BackRescue$Numbers", name := "number", desc := "(I)J" } : Jvm.MethodName) prog_8_method_4_code (2 : Nat) (Option.some Jvm.ClassFile.FieldType.long)) ∈ lw_all := lw_g (lw_at lw_m4 121 rfl) rfl
theorem q1224 : (Jvm.Cond.instanceMethod ({ cls := "BackRescue$Numbers", name := "begins", desc := "(II)Z" } : Jvm.MethodName)) ∈ lw_all := lw_g (lw_at lw_m5 131 rfl) rfl
theorem q1225 : (Jvm.Cond.selects "BackRescue$Numbers" ({ cls := "BackRescue$Numbers", name := "begins", desc := "(II)Z" } : Jvm.MethodName) ({ cls := "BackRescue$Numbers", name := "begins", desc := "(II)Z" } : Jvm.MethodName)) ∈ lw_all := lw_g (lw_at lw_m5 132 rfl) rfl
theorem q1226 : (Jvm.Cond.codeWith ({ cls := "BackRescue$Numbers", name := "begins", desc := "(II)Z" } : Jvm.MethodName) prog_8_method_2_code (4 : Nat) (Option.some Jvm.ClassFile.FieldType.boolean) [((0 : Nat), (66 : Nat), (67 : Nat), (13 : Nat))]) ∈ lw_all := lw_g (lw_at lw_m5 133 rfl) rfl
theorem q1227 : (Jvm.Cond.classLink "BackRescue$Numbers" (13 : Nat) "java/lang/NegativeArraySizeException") ∈ lw_all := lw_g (lw_at lw_m5 134 rfl) rfl
theorem q1361 : (Jvm.Cond.instanceMethod ({ cls := "BackRescue$Numbers", name := "puts", desc := "(IJ)V" } : Jvm.MethodName)) ∈ lw_all := lw_g (lw_at lw_m6 28 rfl) rfl
theorem q1362 : (Jvm.Cond.selects "BackRescue$Numbers" ({ cls := "BackRescue$Numbers", name := "puts", desc := "(IJ)V" } : Jvm.MethodName) ({ cls := "BackRescue$Numbers", name := "puts", desc := "(IJ)V" } : Jvm.MethodName)) ∈ lw_all := lw_g (lw_at lw_m6 29 rfl) rfl
theorem q1363 : (Jvm.Cond.code ({ cls := "BackRescue$Numbers", name := "puts", desc := "(IJ)V" } : Jvm.MethodName) prog_8_method_5_code (4 : Nat) (Option.none : Option Jvm.ClassFile.FieldType)) ∈ lw_all := lw_g (lw_at lw_m6 30 rfl) rfl
theorem in_X3 : ∀ w ∈ wsX30, w ∈ lw_all := lw_in wsX30 [283] (by decide +kernel) (by decide +kernel)
/-! BackRescue$Reader -/
set_option maxRecDepth 100000
def RX5 : String := "BackRescue$Reader"
def TX5 : u_T := fun k => match k with
  | 0 => ("BackRescue$Reader", "size", "I", true)
  | 1 => ("BackRescue$Reader", "made", "LBackRescue$Cave;", true)
  | 2 => ("BackRescue$Reader", "at", "I", false)
  | 3 => ("BackRescue$Reader", "begin", "I", false)
  | 4 => ("BackRescue$Reader", "token", "I", false)
  | 5 => ("BackRescue$Reader", "value", "I", false)
  | 6 => ("BackRescue$Reader", "fault", "I", false)
  | 7 => ("BackRescue$Reader", "deep", "I", false)
  | 8 => ("BackRescue$Reader", "place", "I", false)
  | 9 => ("BackRescue$Reader", "isMay", "Z", false)
  | _ => ("BackRescue$Reader", "this$0", "LBackRescue;", true)
def tyX5 : Nat → FieldType := fun k => match k with
  | 0 => .int
  | 1 => .object "BackRescue$Cave"
  | 2 => .int
  | 3 => .int
  | 4 => .int
  | 5 => .int
  | 6 => .int
  | 7 => .int
  | 8 => .int
  | 9 => .boolean
  | _ => .object "BackRescue"
abbrev wsX50 : List Cond := u_ws RX5 TX5 11
theorem nmX5 : ∀ a, a < 11 → ∀ b, b < 11 → a ≠ b → (TX5 a).2.1 ≠ (TX5 b).2.1 := by decide +kernel
theorem tyX5_ok : ∀ k, k < 11 → parseFieldDescriptor (TX5 k).2.2.1 = some (tyX5 k) := by decide +kernel
abbrev cX5_init : ByteArray := prog_11_method_1_code
def yX5_init : MethodName := ⟨RX5, "<init>", "(LBackRescue;I)V"⟩
def dkwX5_init_1 : List UInt8 := [181, 0, 22, 42, 28, 181, 0, 26, 177]
abbrev dktX5_init_1 : List UInt8 := dkwX5_init_1 ++ []
def dkwX5_init_0 : List UInt8 := [42, 43, 181, 0, 3, 42, 183, 0, 9, 42, 187, 0, 15, 89, 183, 0, 17, 181, 0, 18, 42, 2]
abbrev dktX5_init_0 : List UInt8 := dkwX5_init_0 ++ dktX5_init_1
theorem dksX5_init_0 : cX5_init.data.toList.drop 0 = dktX5_init_0 := by decide +kernel
theorem dksX5_init_1 : cX5_init.data.toList.drop 22 = dktX5_init_1 := dk_seg dksX5_init_0 22 rfl rfl
theorem dX5_init_0 : decode cX5_init 0 = .ok (.aload_n 0, 1) := dk_42 (dk_at dksX5_init_0 0 rfl rfl)
theorem dX5_init_1 : decode cX5_init 1 = .ok (.aload_n 1, 1) := dk_43 (dk_at dksX5_init_0 1 rfl rfl)
theorem dX5_init_2 : decode cX5_init 2 = .ok (.putfield 3, 3) := dk_181 0 3 (dk_at dksX5_init_0 2 rfl rfl)
theorem dX5_init_5 : decode cX5_init 5 = .ok (.aload_n 0, 1) := dk_42 (dk_at dksX5_init_0 5 rfl rfl)
theorem dX5_init_6 : decode cX5_init 6 = .ok (.invokespecial 9, 3) := dk_183 0 9 (dk_at dksX5_init_0 6 rfl rfl)
theorem dX5_init_9 : decode cX5_init 9 = .ok (.aload_n 0, 1) := dk_42 (dk_at dksX5_init_0 9 rfl rfl)
theorem dX5_init_10 : decode cX5_init 10 = .ok (.new 15, 3) := dk_187 0 15 (dk_at dksX5_init_0 10 rfl rfl)
theorem dX5_init_13 : decode cX5_init 13 = .ok (.dup, 1) := dk_89 (dk_at dksX5_init_0 13 rfl rfl)
theorem dX5_init_14 : decode cX5_init 14 = .ok (.invokespecial 17, 3) := dk_183 0 17 (dk_at dksX5_init_0 14 rfl rfl)
theorem dX5_init_17 : decode cX5_init 17 = .ok (.putfield 18, 3) := dk_181 0 18 (dk_at dksX5_init_0 17 rfl rfl)
theorem dX5_init_20 : decode cX5_init 20 = .ok (.aload_n 0, 1) := dk_42 (dk_at dksX5_init_0 20 rfl rfl)
theorem dX5_init_21 : decode cX5_init 21 = .ok (.iconst (-1), 1) := dk_2 (dk_at dksX5_init_0 21 rfl rfl)
theorem dX5_init_22 : decode cX5_init 22 = .ok (.putfield 22, 3) := dk_181 0 22 (dk_at dksX5_init_1 0 rfl rfl)
theorem dX5_init_25 : decode cX5_init 25 = .ok (.aload_n 0, 1) := dk_42 (dk_at dksX5_init_1 3 rfl rfl)
theorem dX5_init_26 : decode cX5_init 26 = .ok (.iload_n 2, 1) := dk_28 (dk_at dksX5_init_1 4 rfl rfl)
theorem dX5_init_27 : decode cX5_init 27 = .ok (.putfield 26, 3) := dk_181 0 26 (dk_at dksX5_init_1 5 rfl rfl)
theorem dX5_init_30 : decode cX5_init 30 = .ok (.return_, 1) := dk_177 (dk_at dksX5_init_1 8 rfl rfl)
abbrev cX5_read : ByteArray := prog_11_method_13_code
def yX5_read : MethodName := ⟨RX5, "read", "()V"⟩
def dkwX5_read_2 : List UInt8 := [42, 182, 0, 117, 42, 182, 0, 114, 167, 255, 234, 177]
abbrev dktX5_read_2 : List UInt8 := dkwX5_read_2 ++ []
def dkwX5_read_1 : List UInt8 := [182, 0, 108, 181, 0, 112, 42, 182, 0, 114, 42, 180, 0, 75, 154, 0, 21, 42, 180, 0, 55, 153, 0, 14]
abbrev dktX5_read_1 : List UInt8 := dkwX5_read_1 ++ dktX5_read_2
def dkwX5_read_0 : List UInt8 := [42, 182, 0, 90, 42, 18, 100, 182, 0, 102, 42, 18, 106, 182, 0, 102, 42, 180, 0, 18, 42, 4, 16, 6]
abbrev dktX5_read_0 : List UInt8 := dkwX5_read_0 ++ dktX5_read_1
theorem dksX5_read_0 : cX5_read.data.toList.drop 0 = dktX5_read_0 := by decide +kernel
theorem dksX5_read_1 : cX5_read.data.toList.drop 24 = dktX5_read_1 := dk_seg dksX5_read_0 24 rfl rfl
theorem dksX5_read_2 : cX5_read.data.toList.drop 48 = dktX5_read_2 := dk_seg dksX5_read_1 24 rfl rfl
theorem dX5_read_0 : decode cX5_read 0 = .ok (.aload_n 0, 1) := dk_42 (dk_at dksX5_read_0 0 rfl rfl)
theorem dX5_read_1 : decode cX5_read 1 = .ok (.invokevirtual 90, 3) := dk_182 0 90 (dk_at dksX5_read_0 1 rfl rfl)
theorem dX5_read_4 : decode cX5_read 4 = .ok (.aload_n 0, 1) := dk_42 (dk_at dksX5_read_0 4 rfl rfl)
theorem dX5_read_5 : decode cX5_read 5 = .ok (.ldc 100, 2) := dk_18 100 (dk_at dksX5_read_0 5 rfl rfl)
theorem dX5_read_7 : decode cX5_read 7 = .ok (.invokevirtual 102, 3) := dk_182 0 102 (dk_at dksX5_read_0 7 rfl rfl)
theorem dX5_read_10 : decode cX5_read 10 = .ok (.aload_n 0, 1) := dk_42 (dk_at dksX5_read_0 10 rfl rfl)
theorem dX5_read_11 : decode cX5_read 11 = .ok (.ldc 106, 2) := dk_18 106 (dk_at dksX5_read_0 11 rfl rfl)
theorem dX5_read_13 : decode cX5_read 13 = .ok (.invokevirtual 102, 3) := dk_182 0 102 (dk_at dksX5_read_0 13 rfl rfl)
theorem dX5_read_16 : decode cX5_read 16 = .ok (.aload_n 0, 1) := dk_42 (dk_at dksX5_read_0 16 rfl rfl)
theorem dX5_read_17 : decode cX5_read 17 = .ok (.getfield 18, 3) := dk_180 0 18 (dk_at dksX5_read_0 17 rfl rfl)
theorem dX5_read_20 : decode cX5_read 20 = .ok (.aload_n 0, 1) := dk_42 (dk_at dksX5_read_0 20 rfl rfl)
theorem dX5_read_21 : decode cX5_read 21 = .ok (.iconst 1, 1) := dk_4 (dk_at dksX5_read_0 21 rfl rfl)
theorem dX5_read_22 : decode cX5_read 22 = .ok (.bipush 6, 2) := dk_16 6 (dk_at dksX5_read_0 22 rfl rfl)
theorem dX5_read_24 : decode cX5_read 24 = .ok (.invokevirtual 108, 3) := dk_182 0 108 (dk_at dksX5_read_1 0 rfl rfl)
theorem dX5_read_27 : decode cX5_read 27 = .ok (.putfield 112, 3) := dk_181 0 112 (dk_at dksX5_read_1 3 rfl rfl)
theorem dX5_read_30 : decode cX5_read 30 = .ok (.aload_n 0, 1) := dk_42 (dk_at dksX5_read_1 6 rfl rfl)
theorem dX5_read_31 : decode cX5_read 31 = .ok (.invokevirtual 114, 3) := dk_182 0 114 (dk_at dksX5_read_1 7 rfl rfl)
theorem dX5_read_34 : decode cX5_read 34 = .ok (.aload_n 0, 1) := dk_42 (dk_at dksX5_read_1 10 rfl rfl)
theorem dX5_read_35 : decode cX5_read 35 = .ok (.getfield 75, 3) := dk_180 0 75 (dk_at dksX5_read_1 11 rfl rfl)
theorem dX5_read_38 : decode cX5_read 38 = .ok (.ifCond .ne 21, 3) := dk_154 0 21 (dk_at dksX5_read_1 14 rfl rfl)
theorem dX5_read_41 : decode cX5_read 41 = .ok (.aload_n 0, 1) := dk_42 (dk_at dksX5_read_1 17 rfl rfl)
theorem dX5_read_42 : decode cX5_read 42 = .ok (.getfield 55, 3) := dk_180 0 55 (dk_at dksX5_read_1 18 rfl rfl)
theorem dX5_read_45 : decode cX5_read 45 = .ok (.ifCond .eq 14, 3) := dk_153 0 14 (dk_at dksX5_read_1 21 rfl rfl)
theorem dX5_read_48 : decode cX5_read 48 = .ok (.aload_n 0, 1) := dk_42 (dk_at dksX5_read_2 0 rfl rfl)
theorem dX5_read_49 : decode cX5_read 49 = .ok (.invokevirtual 117, 3) := dk_182 0 117 (dk_at dksX5_read_2 1 rfl rfl)
theorem dX5_read_52 : decode cX5_read 52 = .ok (.aload_n 0, 1) := dk_42 (dk_at dksX5_read_2 4 rfl rfl)
theorem dX5_read_53 : decode cX5_read 53 = .ok (.invokevirtual 114, 3) := dk_182 0 114 (dk_at dksX5_read_2 5 rfl rfl)
theorem dX5_read_56 : decode cX5_read 56 = .ok (.goto (-22), 3) := dk_167 255 234 (dk_at dksX5_read_2 8 rfl rfl)
theorem dX5_read_59 : decode cX5_read 59 = .ok (.return_, 1) := dk_177 (dk_at dksX5_read_2 11 rfl rfl)
abbrev cX5_next : ByteArray := prog_11_method_5_code
def yX5_next : MethodName := ⟨RX5, "next", "()V"⟩
def dkwX5_next_11 : List UInt8 := [96, 181, 0, 49, 177]
abbrev dktX5_next_11 : List UInt8 := dkwX5_next_11 ++ []
def dkwX5_next_10 : List UInt8 := [155, 0, 14, 42, 42, 180, 0, 49, 182, 0, 33, 167, 0, 4, 6, 181, 0, 55, 42, 89, 180, 0, 49, 4]
abbrev dktX5_next_10 : List UInt8 := dkwX5_next_10 ++ dktX5_next_11
def dkwX5_next_9 : List UInt8 := [167, 0, 4, 5, 181, 0, 55, 167, 0, 45, 42, 18, 68, 42, 42, 180, 0, 49, 182, 0, 33, 182, 0, 70]
abbrev dktX5_next_9 : List UInt8 := dkwX5_next_9 ++ dktX5_next_10
def dkwX5_next_8 : List UInt8 := [4, 96, 181, 0, 49, 167, 255, 199, 42, 42, 180, 0, 49, 42, 180, 0, 52, 100, 6, 164, 0, 7, 6]
abbrev dktX5_next_8 : List UInt8 := dkwX5_next_8 ++ dktX5_next_9
def dkwX5_next_7 : List UInt8 := [180, 0, 65, 104, 42, 42, 180, 0, 49, 182, 0, 33, 96, 16, 48, 100, 181, 0, 65, 42, 89, 180, 0, 49]
abbrev dktX5_next_7 : List UInt8 := dkwX5_next_7 ++ dktX5_next_8
def dkwX5_next_6 : List UInt8 := [182, 0, 62, 153, 0, 52, 42, 180, 0, 49, 42, 180, 0, 52, 100, 6, 162, 0, 26, 42, 16, 10, 42]
abbrev dktX5_next_6 : List UInt8 := dkwX5_next_6 ++ dktX5_next_7
def dkwX5_next_5 : List UInt8 := [167, 0, 146, 42, 42, 180, 0, 49, 182, 0, 62, 153, 0, 93, 42, 3, 181, 0, 65, 42, 42, 180, 0, 49]
abbrev dktX5_next_5 : List UInt8 := dkwX5_next_5 ++ dktX5_next_6
def dkwX5_next_4 : List UInt8 := [182, 0, 58, 153, 0, 16, 42, 89, 180, 0, 49, 4, 96, 181, 0, 49, 167, 255, 235, 42, 4, 181, 0, 55]
abbrev dktX5_next_4 : List UInt8 := dkwX5_next_4 ++ dktX5_next_5
def dkwX5_next_3 : List UInt8 := [181, 0, 55, 167, 0, 189, 42, 42, 180, 0, 49, 182, 0, 58, 153, 0, 35, 42, 42, 180, 0, 49]
abbrev dktX5_next_3 : List UInt8 := dkwX5_next_3 ++ dktX5_next_4
def dkwX5_next_2 : List UInt8 := [167, 255, 209, 42, 42, 180, 0, 49, 181, 0, 52, 42, 180, 0, 49, 42, 180, 0, 26, 161, 0, 11, 42, 3]
abbrev dktX5_next_2 : List UInt8 := dkwX5_next_2 ++ dktX5_next_3
def dkwX5_next_1 : List UInt8 := [42, 42, 180, 0, 49, 182, 0, 33, 16, 10, 160, 0, 16, 42, 89, 180, 0, 49, 4, 96, 181, 0, 49]
abbrev dktX5_next_1 : List UInt8 := dkwX5_next_1 ++ dktX5_next_2
def dkwX5_next_0 : List UInt8 := [42, 180, 0, 49, 42, 180, 0, 26, 162, 0, 42, 42, 42, 180, 0, 49, 182, 0, 33, 16, 32, 159, 0, 16]
abbrev dktX5_next_0 : List UInt8 := dkwX5_next_0 ++ dktX5_next_1
theorem dksX5_next_0 : cX5_next.data.toList.drop 0 = dktX5_next_0 := by decide +kernel
theorem dksX5_next_1 : cX5_next.data.toList.drop 24 = dktX5_next_1 := dk_seg dksX5_next_0 24 rfl rfl
theorem dksX5_next_2 : cX5_next.data.toList.drop 47 = dktX5_next_2 := dk_seg dksX5_next_1 23 rfl rfl
theorem dksX5_next_3 : cX5_next.data.toList.drop 71 = dktX5_next_3 := dk_seg dksX5_next_2 24 rfl rfl
theorem dksX5_next_4 : cX5_next.data.toList.drop 93 = dktX5_next_4 := dk_seg dksX5_next_3 22 rfl rfl
theorem dksX5_next_5 : cX5_next.data.toList.drop 117 = dktX5_next_5 := dk_seg dksX5_next_4 24 rfl rfl
theorem dksX5_next_6 : cX5_next.data.toList.drop 141 = dktX5_next_6 := dk_seg dksX5_next_5 24 rfl rfl
theorem dksX5_next_7 : cX5_next.data.toList.drop 164 = dktX5_next_7 := dk_seg dksX5_next_6 23 rfl rfl
theorem dksX5_next_8 : cX5_next.data.toList.drop 188 = dktX5_next_8 := dk_seg dksX5_next_7 24 rfl rfl
theorem dksX5_next_9 : cX5_next.data.toList.drop 211 = dktX5_next_9 := dk_seg dksX5_next_8 23 rfl rfl
theorem dksX5_next_10 : cX5_next.data.toList.drop 235 = dktX5_next_10 := dk_seg dksX5_next_9 24 rfl rfl
theorem dksX5_next_11 : cX5_next.data.toList.drop 259 = dktX5_next_11 := dk_seg dksX5_next_10 24 rfl rfl
theorem dX5_next_0 : decode cX5_next 0 = .ok (.aload_n 0, 1) := dk_42 (dk_at dksX5_next_0 0 rfl rfl)
theorem dX5_next_1 : decode cX5_next 1 = .ok (.getfield 49, 3) := dk_180 0 49 (dk_at dksX5_next_0 1 rfl rfl)
theorem dX5_next_4 : decode cX5_next 4 = .ok (.aload_n 0, 1) := dk_42 (dk_at dksX5_next_0 4 rfl rfl)
theorem dX5_next_5 : decode cX5_next 5 = .ok (.getfield 26, 3) := dk_180 0 26 (dk_at dksX5_next_0 5 rfl rfl)
theorem dX5_next_8 : decode cX5_next 8 = .ok (.if_icmp .ge 42, 3) := dk_162 0 42 (dk_at dksX5_next_0 8 rfl rfl)
theorem dX5_next_11 : decode cX5_next 11 = .ok (.aload_n 0, 1) := dk_42 (dk_at dksX5_next_0 11 rfl rfl)
theorem dX5_next_12 : decode cX5_next 12 = .ok (.aload_n 0, 1) := dk_42 (dk_at dksX5_next_0 12 rfl rfl)
theorem dX5_next_13 : decode cX5_next 13 = .ok (.getfield 49, 3) := dk_180 0 49 (dk_at dksX5_next_0 13 rfl rfl)
theorem dX5_next_16 : decode cX5_next 16 = .ok (.invokevirtual 33, 3) := dk_182 0 33 (dk_at dksX5_next_0 16 rfl rfl)
theorem dX5_next_19 : decode cX5_next 19 = .ok (.bipush 32, 2) := dk_16 32 (dk_at dksX5_next_0 19 rfl rfl)
theorem dX5_next_21 : decode cX5_next 21 = .ok (.if_icmp .eq 16, 3) := dk_159 0 16 (dk_at dksX5_next_0 21 rfl rfl)
theorem dX5_next_24 : decode cX5_next 24 = .ok (.aload_n 0, 1) := dk_42 (dk_at dksX5_next_1 0 rfl rfl)
theorem dX5_next_25 : decode cX5_next 25 = .ok (.aload_n 0, 1) := dk_42 (dk_at dksX5_next_1 1 rfl rfl)
theorem dX5_next_26 : decode cX5_next 26 = .ok (.getfield 49, 3) := dk_180 0 49 (dk_at dksX5_next_1 2 rfl rfl)
theorem dX5_next_29 : decode cX5_next 29 = .ok (.invokevirtual 33, 3) := dk_182 0 33 (dk_at dksX5_next_1 5 rfl rfl)
theorem dX5_next_32 : decode cX5_next 32 = .ok (.bipush 10, 2) := dk_16 10 (dk_at dksX5_next_1 8 rfl rfl)
theorem dX5_next_34 : decode cX5_next 34 = .ok (.if_icmp .ne 16, 3) := dk_160 0 16 (dk_at dksX5_next_1 10 rfl rfl)
theorem dX5_next_37 : decode cX5_next 37 = .ok (.aload_n 0, 1) := dk_42 (dk_at dksX5_next_1 13 rfl rfl)
theorem dX5_next_38 : decode cX5_next 38 = .ok (.dup, 1) := dk_89 (dk_at dksX5_next_1 14 rfl rfl)
theorem dX5_next_39 : decode cX5_next 39 = .ok (.getfield 49, 3) := dk_180 0 49 (dk_at dksX5_next_1 15 rfl rfl)
theorem dX5_next_42 : decode cX5_next 42 = .ok (.iconst 1, 1) := dk_4 (dk_at dksX5_next_1 18 rfl rfl)
theorem dX5_next_43 : decode cX5_next 43 = .ok (.iadd, 1) := dk_96 (dk_at dksX5_next_1 19 rfl rfl)
theorem dX5_next_44 : decode cX5_next 44 = .ok (.putfield 49, 3) := dk_181 0 49 (dk_at dksX5_next_1 20 rfl rfl)
theorem dX5_next_47 : decode cX5_next 47 = .ok (.goto (-47), 3) := dk_167 255 209 (dk_at dksX5_next_2 0 rfl rfl)
theorem dX5_next_50 : decode cX5_next 50 = .ok (.aload_n 0, 1) := dk_42 (dk_at dksX5_next_2 3 rfl rfl)
theorem dX5_next_51 : decode cX5_next 51 = .ok (.aload_n 0, 1) := dk_42 (dk_at dksX5_next_2 4 rfl rfl)
theorem dX5_next_52 : decode cX5_next 52 = .ok (.getfield 49, 3) := dk_180 0 49 (dk_at dksX5_next_2 5 rfl rfl)
theorem dX5_next_55 : decode cX5_next 55 = .ok (.putfield 52, 3) := dk_181 0 52 (dk_at dksX5_next_2 8 rfl rfl)
theorem dX5_next_58 : decode cX5_next 58 = .ok (.aload_n 0, 1) := dk_42 (dk_at dksX5_next_2 11 rfl rfl)
theorem dX5_next_59 : decode cX5_next 59 = .ok (.getfield 49, 3) := dk_180 0 49 (dk_at dksX5_next_2 12 rfl rfl)
theorem dX5_next_62 : decode cX5_next 62 = .ok (.aload_n 0, 1) := dk_42 (dk_at dksX5_next_2 15 rfl rfl)
theorem dX5_next_63 : decode cX5_next 63 = .ok (.getfield 26, 3) := dk_180 0 26 (dk_at dksX5_next_2 16 rfl rfl)
theorem dX5_next_66 : decode cX5_next 66 = .ok (.if_icmp .lt 11, 3) := dk_161 0 11 (dk_at dksX5_next_2 19 rfl rfl)
theorem dX5_next_69 : decode cX5_next 69 = .ok (.aload_n 0, 1) := dk_42 (dk_at dksX5_next_2 22 rfl rfl)
theorem dX5_next_70 : decode cX5_next 70 = .ok (.iconst 0, 1) := dk_3 (dk_at dksX5_next_2 23 rfl rfl)
theorem dX5_next_71 : decode cX5_next 71 = .ok (.putfield 55, 3) := dk_181 0 55 (dk_at dksX5_next_3 0 rfl rfl)
theorem dX5_next_74 : decode cX5_next 74 = .ok (.goto 189, 3) := dk_167 0 189 (dk_at dksX5_next_3 3 rfl rfl)
theorem dX5_next_77 : decode cX5_next 77 = .ok (.aload_n 0, 1) := dk_42 (dk_at dksX5_next_3 6 rfl rfl)
theorem dX5_next_78 : decode cX5_next 78 = .ok (.aload_n 0, 1) := dk_42 (dk_at dksX5_next_3 7 rfl rfl)
theorem dX5_next_79 : decode cX5_next 79 = .ok (.getfield 49, 3) := dk_180 0 49 (dk_at dksX5_next_3 8 rfl rfl)
theorem dX5_next_82 : decode cX5_next 82 = .ok (.invokevirtual 58, 3) := dk_182 0 58 (dk_at dksX5_next_3 11 rfl rfl)
theorem dX5_next_85 : decode cX5_next 85 = .ok (.ifCond .eq 35, 3) := dk_153 0 35 (dk_at dksX5_next_3 14 rfl rfl)
theorem dX5_next_88 : decode cX5_next 88 = .ok (.aload_n 0, 1) := dk_42 (dk_at dksX5_next_3 17 rfl rfl)
theorem dX5_next_89 : decode cX5_next 89 = .ok (.aload_n 0, 1) := dk_42 (dk_at dksX5_next_3 18 rfl rfl)
theorem dX5_next_90 : decode cX5_next 90 = .ok (.getfield 49, 3) := dk_180 0 49 (dk_at dksX5_next_3 19 rfl rfl)
theorem dX5_next_93 : decode cX5_next 93 = .ok (.invokevirtual 58, 3) := dk_182 0 58 (dk_at dksX5_next_4 0 rfl rfl)
theorem dX5_next_96 : decode cX5_next 96 = .ok (.ifCond .eq 16, 3) := dk_153 0 16 (dk_at dksX5_next_4 3 rfl rfl)
theorem dX5_next_99 : decode cX5_next 99 = .ok (.aload_n 0, 1) := dk_42 (dk_at dksX5_next_4 6 rfl rfl)
theorem dX5_next_100 : decode cX5_next 100 = .ok (.dup, 1) := dk_89 (dk_at dksX5_next_4 7 rfl rfl)
theorem dX5_next_101 : decode cX5_next 101 = .ok (.getfield 49, 3) := dk_180 0 49 (dk_at dksX5_next_4 8 rfl rfl)
theorem dX5_next_104 : decode cX5_next 104 = .ok (.iconst 1, 1) := dk_4 (dk_at dksX5_next_4 11 rfl rfl)
theorem dX5_next_105 : decode cX5_next 105 = .ok (.iadd, 1) := dk_96 (dk_at dksX5_next_4 12 rfl rfl)
theorem dX5_next_106 : decode cX5_next 106 = .ok (.putfield 49, 3) := dk_181 0 49 (dk_at dksX5_next_4 13 rfl rfl)
theorem dX5_next_109 : decode cX5_next 109 = .ok (.goto (-21), 3) := dk_167 255 235 (dk_at dksX5_next_4 16 rfl rfl)
theorem dX5_next_112 : decode cX5_next 112 = .ok (.aload_n 0, 1) := dk_42 (dk_at dksX5_next_4 19 rfl rfl)
theorem dX5_next_113 : decode cX5_next 113 = .ok (.iconst 1, 1) := dk_4 (dk_at dksX5_next_4 20 rfl rfl)
theorem dX5_next_114 : decode cX5_next 114 = .ok (.putfield 55, 3) := dk_181 0 55 (dk_at dksX5_next_4 21 rfl rfl)
theorem dX5_next_117 : decode cX5_next 117 = .ok (.goto 146, 3) := dk_167 0 146 (dk_at dksX5_next_5 0 rfl rfl)
theorem dX5_next_120 : decode cX5_next 120 = .ok (.aload_n 0, 1) := dk_42 (dk_at dksX5_next_5 3 rfl rfl)
theorem dX5_next_121 : decode cX5_next 121 = .ok (.aload_n 0, 1) := dk_42 (dk_at dksX5_next_5 4 rfl rfl)
theorem dX5_next_122 : decode cX5_next 122 = .ok (.getfield 49, 3) := dk_180 0 49 (dk_at dksX5_next_5 5 rfl rfl)
theorem dX5_next_125 : decode cX5_next 125 = .ok (.invokevirtual 62, 3) := dk_182 0 62 (dk_at dksX5_next_5 8 rfl rfl)
theorem dX5_next_128 : decode cX5_next 128 = .ok (.ifCond .eq 93, 3) := dk_153 0 93 (dk_at dksX5_next_5 11 rfl rfl)
theorem dX5_next_131 : decode cX5_next 131 = .ok (.aload_n 0, 1) := dk_42 (dk_at dksX5_next_5 14 rfl rfl)
theorem dX5_next_132 : decode cX5_next 132 = .ok (.iconst 0, 1) := dk_3 (dk_at dksX5_next_5 15 rfl rfl)
theorem dX5_next_133 : decode cX5_next 133 = .ok (.putfield 65, 3) := dk_181 0 65 (dk_at dksX5_next_5 16 rfl rfl)
theorem dX5_next_136 : decode cX5_next 136 = .ok (.aload_n 0, 1) := dk_42 (dk_at dksX5_next_5 19 rfl rfl)
theorem dX5_next_137 : decode cX5_next 137 = .ok (.aload_n 0, 1) := dk_42 (dk_at dksX5_next_5 20 rfl rfl)
theorem dX5_next_138 : decode cX5_next 138 = .ok (.getfield 49, 3) := dk_180 0 49 (dk_at dksX5_next_5 21 rfl rfl)
theorem dX5_next_141 : decode cX5_next 141 = .ok (.invokevirtual 62, 3) := dk_182 0 62 (dk_at dksX5_next_6 0 rfl rfl)
theorem dX5_next_144 : decode cX5_next 144 = .ok (.ifCond .eq 52, 3) := dk_153 0 52 (dk_at dksX5_next_6 3 rfl rfl)
theorem dX5_next_147 : decode cX5_next 147 = .ok (.aload_n 0, 1) := dk_42 (dk_at dksX5_next_6 6 rfl rfl)
theorem dX5_next_148 : decode cX5_next 148 = .ok (.getfield 49, 3) := dk_180 0 49 (dk_at dksX5_next_6 7 rfl rfl)
theorem dX5_next_151 : decode cX5_next 151 = .ok (.aload_n 0, 1) := dk_42 (dk_at dksX5_next_6 10 rfl rfl)
theorem dX5_next_152 : decode cX5_next 152 = .ok (.getfield 52, 3) := dk_180 0 52 (dk_at dksX5_next_6 11 rfl rfl)
theorem dX5_next_155 : decode cX5_next 155 = .ok (.isub, 1) := dk_100 (dk_at dksX5_next_6 14 rfl rfl)
theorem dX5_next_156 : decode cX5_next 156 = .ok (.iconst 3, 1) := dk_6 (dk_at dksX5_next_6 15 rfl rfl)
theorem dX5_next_157 : decode cX5_next 157 = .ok (.if_icmp .ge 26, 3) := dk_162 0 26 (dk_at dksX5_next_6 16 rfl rfl)
theorem dX5_next_160 : decode cX5_next 160 = .ok (.aload_n 0, 1) := dk_42 (dk_at dksX5_next_6 19 rfl rfl)
theorem dX5_next_161 : decode cX5_next 161 = .ok (.bipush 10, 2) := dk_16 10 (dk_at dksX5_next_6 20 rfl rfl)
theorem dX5_next_163 : decode cX5_next 163 = .ok (.aload_n 0, 1) := dk_42 (dk_at dksX5_next_6 22 rfl rfl)
theorem dX5_next_164 : decode cX5_next 164 = .ok (.getfield 65, 3) := dk_180 0 65 (dk_at dksX5_next_7 0 rfl rfl)
theorem dX5_next_167 : decode cX5_next 167 = .ok (.imul, 1) := dk_104 (dk_at dksX5_next_7 3 rfl rfl)
theorem dX5_next_168 : decode cX5_next 168 = .ok (.aload_n 0, 1) := dk_42 (dk_at dksX5_next_7 4 rfl rfl)
theorem dX5_next_169 : decode cX5_next 169 = .ok (.aload_n 0, 1) := dk_42 (dk_at dksX5_next_7 5 rfl rfl)
theorem dX5_next_170 : decode cX5_next 170 = .ok (.getfield 49, 3) := dk_180 0 49 (dk_at dksX5_next_7 6 rfl rfl)
theorem dX5_next_173 : decode cX5_next 173 = .ok (.invokevirtual 33, 3) := dk_182 0 33 (dk_at dksX5_next_7 9 rfl rfl)
theorem dX5_next_176 : decode cX5_next 176 = .ok (.iadd, 1) := dk_96 (dk_at dksX5_next_7 12 rfl rfl)
theorem dX5_next_177 : decode cX5_next 177 = .ok (.bipush 48, 2) := dk_16 48 (dk_at dksX5_next_7 13 rfl rfl)
theorem dX5_next_179 : decode cX5_next 179 = .ok (.isub, 1) := dk_100 (dk_at dksX5_next_7 15 rfl rfl)
theorem dX5_next_180 : decode cX5_next 180 = .ok (.putfield 65, 3) := dk_181 0 65 (dk_at dksX5_next_7 16 rfl rfl)
theorem dX5_next_183 : decode cX5_next 183 = .ok (.aload_n 0, 1) := dk_42 (dk_at dksX5_next_7 19 rfl rfl)
theorem dX5_next_184 : decode cX5_next 184 = .ok (.dup, 1) := dk_89 (dk_at dksX5_next_7 20 rfl rfl)
theorem dX5_next_185 : decode cX5_next 185 = .ok (.getfield 49, 3) := dk_180 0 49 (dk_at dksX5_next_7 21 rfl rfl)
theorem dX5_next_188 : decode cX5_next 188 = .ok (.iconst 1, 1) := dk_4 (dk_at dksX5_next_8 0 rfl rfl)
theorem dX5_next_189 : decode cX5_next 189 = .ok (.iadd, 1) := dk_96 (dk_at dksX5_next_8 1 rfl rfl)
theorem dX5_next_190 : decode cX5_next 190 = .ok (.putfield 49, 3) := dk_181 0 49 (dk_at dksX5_next_8 2 rfl rfl)
theorem dX5_next_193 : decode cX5_next 193 = .ok (.goto (-57), 3) := dk_167 255 199 (dk_at dksX5_next_8 5 rfl rfl)
theorem dX5_next_196 : decode cX5_next 196 = .ok (.aload_n 0, 1) := dk_42 (dk_at dksX5_next_8 8 rfl rfl)
theorem dX5_next_197 : decode cX5_next 197 = .ok (.aload_n 0, 1) := dk_42 (dk_at dksX5_next_8 9 rfl rfl)
theorem dX5_next_198 : decode cX5_next 198 = .ok (.getfield 49, 3) := dk_180 0 49 (dk_at dksX5_next_8 10 rfl rfl)
theorem dX5_next_201 : decode cX5_next 201 = .ok (.aload_n 0, 1) := dk_42 (dk_at dksX5_next_8 13 rfl rfl)
theorem dX5_next_202 : decode cX5_next 202 = .ok (.getfield 52, 3) := dk_180 0 52 (dk_at dksX5_next_8 14 rfl rfl)
theorem dX5_next_205 : decode cX5_next 205 = .ok (.isub, 1) := dk_100 (dk_at dksX5_next_8 17 rfl rfl)
theorem dX5_next_206 : decode cX5_next 206 = .ok (.iconst 3, 1) := dk_6 (dk_at dksX5_next_8 18 rfl rfl)
theorem dX5_next_207 : decode cX5_next 207 = .ok (.if_icmp .le 7, 3) := dk_164 0 7 (dk_at dksX5_next_8 19 rfl rfl)
theorem dX5_next_210 : decode cX5_next 210 = .ok (.iconst 3, 1) := dk_6 (dk_at dksX5_next_8 22 rfl rfl)
theorem dX5_next_211 : decode cX5_next 211 = .ok (.goto 4, 3) := dk_167 0 4 (dk_at dksX5_next_9 0 rfl rfl)
theorem dX5_next_214 : decode cX5_next 214 = .ok (.iconst 2, 1) := dk_5 (dk_at dksX5_next_9 3 rfl rfl)
theorem dX5_next_215 : decode cX5_next 215 = .ok (.putfield 55, 3) := dk_181 0 55 (dk_at dksX5_next_9 4 rfl rfl)
theorem dX5_next_218 : decode cX5_next 218 = .ok (.goto 45, 3) := dk_167 0 45 (dk_at dksX5_next_9 7 rfl rfl)
theorem dX5_next_221 : decode cX5_next 221 = .ok (.aload_n 0, 1) := dk_42 (dk_at dksX5_next_9 10 rfl rfl)
theorem dX5_next_222 : decode cX5_next 222 = .ok (.ldc 68, 2) := dk_18 68 (dk_at dksX5_next_9 11 rfl rfl)
theorem dX5_next_224 : decode cX5_next 224 = .ok (.aload_n 0, 1) := dk_42 (dk_at dksX5_next_9 13 rfl rfl)
theorem dX5_next_225 : decode cX5_next 225 = .ok (.aload_n 0, 1) := dk_42 (dk_at dksX5_next_9 14 rfl rfl)
theorem dX5_next_226 : decode cX5_next 226 = .ok (.getfield 49, 3) := dk_180 0 49 (dk_at dksX5_next_9 15 rfl rfl)
theorem dX5_next_229 : decode cX5_next 229 = .ok (.invokevirtual 33, 3) := dk_182 0 33 (dk_at dksX5_next_9 18 rfl rfl)
theorem dX5_next_232 : decode cX5_next 232 = .ok (.invokevirtual 70, 3) := dk_182 0 70 (dk_at dksX5_next_9 21 rfl rfl)
theorem dX5_next_235 : decode cX5_next 235 = .ok (.ifCond .lt 14, 3) := dk_155 0 14 (dk_at dksX5_next_10 0 rfl rfl)
theorem dX5_next_238 : decode cX5_next 238 = .ok (.aload_n 0, 1) := dk_42 (dk_at dksX5_next_10 3 rfl rfl)
theorem dX5_next_239 : decode cX5_next 239 = .ok (.aload_n 0, 1) := dk_42 (dk_at dksX5_next_10 4 rfl rfl)
theorem dX5_next_240 : decode cX5_next 240 = .ok (.getfield 49, 3) := dk_180 0 49 (dk_at dksX5_next_10 5 rfl rfl)
theorem dX5_next_243 : decode cX5_next 243 = .ok (.invokevirtual 33, 3) := dk_182 0 33 (dk_at dksX5_next_10 8 rfl rfl)
theorem dX5_next_246 : decode cX5_next 246 = .ok (.goto 4, 3) := dk_167 0 4 (dk_at dksX5_next_10 11 rfl rfl)
theorem dX5_next_249 : decode cX5_next 249 = .ok (.iconst 3, 1) := dk_6 (dk_at dksX5_next_10 14 rfl rfl)
theorem dX5_next_250 : decode cX5_next 250 = .ok (.putfield 55, 3) := dk_181 0 55 (dk_at dksX5_next_10 15 rfl rfl)
theorem dX5_next_253 : decode cX5_next 253 = .ok (.aload_n 0, 1) := dk_42 (dk_at dksX5_next_10 18 rfl rfl)
theorem dX5_next_254 : decode cX5_next 254 = .ok (.dup, 1) := dk_89 (dk_at dksX5_next_10 19 rfl rfl)
theorem dX5_next_255 : decode cX5_next 255 = .ok (.getfield 49, 3) := dk_180 0 49 (dk_at dksX5_next_10 20 rfl rfl)
theorem dX5_next_258 : decode cX5_next 258 = .ok (.iconst 1, 1) := dk_4 (dk_at dksX5_next_10 23 rfl rfl)
theorem dX5_next_259 : decode cX5_next 259 = .ok (.iadd, 1) := dk_96 (dk_at dksX5_next_11 0 rfl rfl)
theorem dX5_next_260 : decode cX5_next 260 = .ok (.putfield 49, 3) := dk_181 0 49 (dk_at dksX5_next_11 1 rfl rfl)
theorem dX5_next_263 : decode cX5_next 263 = .ok (.return_, 1) := dk_177 (dk_at dksX5_next_11 4 rfl rfl)
abbrev cX5_see : ByteArray := prog_11_method_2_code
def yX5_see : MethodName := ⟨RX5, "see", "(I)I"⟩
def dkwX5_see_1 : List UInt8 := [3, 172]
abbrev dktX5_see_1 : List UInt8 := dkwX5_see_1 ++ []
def dkwX5_see_0 : List UInt8 := [27, 42, 180, 0, 26, 162, 0, 19, 42, 180, 0, 3, 180, 0, 29, 27, 51, 17, 0, 255, 126, 167, 0, 4]
abbrev dktX5_see_0 : List UInt8 := dkwX5_see_0 ++ dktX5_see_1
theorem dksX5_see_0 : cX5_see.data.toList.drop 0 = dktX5_see_0 := by decide +kernel
theorem dksX5_see_1 : cX5_see.data.toList.drop 24 = dktX5_see_1 := dk_seg dksX5_see_0 24 rfl rfl
theorem dX5_see_0 : decode cX5_see 0 = .ok (.iload_n 1, 1) := dk_27 (dk_at dksX5_see_0 0 rfl rfl)
theorem dX5_see_1 : decode cX5_see 1 = .ok (.aload_n 0, 1) := dk_42 (dk_at dksX5_see_0 1 rfl rfl)
theorem dX5_see_2 : decode cX5_see 2 = .ok (.getfield 26, 3) := dk_180 0 26 (dk_at dksX5_see_0 2 rfl rfl)
theorem dX5_see_5 : decode cX5_see 5 = .ok (.if_icmp .ge 19, 3) := dk_162 0 19 (dk_at dksX5_see_0 5 rfl rfl)
theorem dX5_see_8 : decode cX5_see 8 = .ok (.aload_n 0, 1) := dk_42 (dk_at dksX5_see_0 8 rfl rfl)
theorem dX5_see_9 : decode cX5_see 9 = .ok (.getfield 3, 3) := dk_180 0 3 (dk_at dksX5_see_0 9 rfl rfl)
theorem dX5_see_12 : decode cX5_see 12 = .ok (.getfield 29, 3) := dk_180 0 29 (dk_at dksX5_see_0 12 rfl rfl)
theorem dX5_see_15 : decode cX5_see 15 = .ok (.iload_n 1, 1) := dk_27 (dk_at dksX5_see_0 15 rfl rfl)
theorem dX5_see_16 : decode cX5_see 16 = .ok (.baload, 1) := dk_51 (dk_at dksX5_see_0 16 rfl rfl)
theorem dX5_see_17 : decode cX5_see 17 = .ok (.sipush 255, 3) := dk_17 0 255 (dk_at dksX5_see_0 17 rfl rfl)
theorem dX5_see_20 : decode cX5_see 20 = .ok (.iand, 1) := dk_126 (dk_at dksX5_see_0 20 rfl rfl)
theorem dX5_see_21 : decode cX5_see 21 = .ok (.goto 4, 3) := dk_167 0 4 (dk_at dksX5_see_0 21 rfl rfl)
theorem dX5_see_24 : decode cX5_see 24 = .ok (.iconst 0, 1) := dk_3 (dk_at dksX5_see_1 0 rfl rfl)
theorem dX5_see_25 : decode cX5_see 25 = .ok (.ireturn, 1) := dk_172 (dk_at dksX5_see_1 1 rfl rfl)
abbrev cX5_isSmall : ByteArray := prog_11_method_3_code
def yX5_isSmall : MethodName := ⟨RX5, "isSmall", "(I)Z"⟩
def dkwX5_isSmall_0 : List UInt8 := [42, 27, 182, 0, 33, 133, 20, 0, 37, 20, 0, 39, 184, 0, 41, 172]
abbrev dktX5_isSmall_0 : List UInt8 := dkwX5_isSmall_0 ++ []
theorem dksX5_isSmall_0 : cX5_isSmall.data.toList.drop 0 = dktX5_isSmall_0 := by decide +kernel
theorem dX5_isSmall_0 : decode cX5_isSmall 0 = .ok (.aload_n 0, 1) := dk_42 (dk_at dksX5_isSmall_0 0 rfl rfl)
theorem dX5_isSmall_1 : decode cX5_isSmall 1 = .ok (.iload_n 1, 1) := dk_27 (dk_at dksX5_isSmall_0 1 rfl rfl)
theorem dX5_isSmall_2 : decode cX5_isSmall 2 = .ok (.invokevirtual 33, 3) := dk_182 0 33 (dk_at dksX5_isSmall_0 2 rfl rfl)
theorem dX5_isSmall_5 : decode cX5_isSmall 5 = .ok (.i2l, 1) := dk_133 (dk_at dksX5_isSmall_0 5 rfl rfl)
theorem dX5_isSmall_6 : decode cX5_isSmall 6 = .ok (.ldc2_w 37, 3) := dk_20 0 37 (dk_at dksX5_isSmall_0 6 rfl rfl)
theorem dX5_isSmall_9 : decode cX5_isSmall 9 = .ok (.ldc2_w 39, 3) := dk_20 0 39 (dk_at dksX5_isSmall_0 9 rfl rfl)
theorem dX5_isSmall_12 : decode cX5_isSmall 12 = .ok (.invokestatic 41, 3) := dk_184 0 41 (dk_at dksX5_isSmall_0 12 rfl rfl)
theorem dX5_isSmall_15 : decode cX5_isSmall 15 = .ok (.ireturn, 1) := dk_172 (dk_at dksX5_isSmall_0 15 rfl rfl)
abbrev cX5_isDigit : ByteArray := prog_11_method_4_code
def yX5_isDigit : MethodName := ⟨RX5, "isDigit", "(I)Z"⟩
def dkwX5_isDigit_0 : List UInt8 := [42, 27, 182, 0, 33, 133, 20, 0, 45, 20, 0, 47, 184, 0, 41, 172]
abbrev dktX5_isDigit_0 : List UInt8 := dkwX5_isDigit_0 ++ []
theorem dksX5_isDigit_0 : cX5_isDigit.data.toList.drop 0 = dktX5_isDigit_0 := by decide +kernel
theorem dX5_isDigit_0 : decode cX5_isDigit 0 = .ok (.aload_n 0, 1) := dk_42 (dk_at dksX5_isDigit_0 0 rfl rfl)
theorem dX5_isDigit_1 : decode cX5_isDigit 1 = .ok (.iload_n 1, 1) := dk_27 (dk_at dksX5_isDigit_0 1 rfl rfl)
theorem dX5_isDigit_2 : decode cX5_isDigit 2 = .ok (.invokevirtual 33, 3) := dk_182 0 33 (dk_at dksX5_isDigit_0 2 rfl rfl)
theorem dX5_isDigit_5 : decode cX5_isDigit 5 = .ok (.i2l, 1) := dk_133 (dk_at dksX5_isDigit_0 5 rfl rfl)
theorem dX5_isDigit_6 : decode cX5_isDigit 6 = .ok (.ldc2_w 45, 3) := dk_20 0 45 (dk_at dksX5_isDigit_0 6 rfl rfl)
theorem dX5_isDigit_9 : decode cX5_isDigit 9 = .ok (.ldc2_w 47, 3) := dk_20 0 47 (dk_at dksX5_isDigit_0 9 rfl rfl)
theorem dX5_isDigit_12 : decode cX5_isDigit 12 = .ok (.invokestatic 41, 3) := dk_184 0 41 (dk_at dksX5_isDigit_0 12 rfl rfl)
theorem dX5_isDigit_15 : decode cX5_isDigit 15 = .ok (.ireturn, 1) := dk_172 (dk_at dksX5_isDigit_0 15 rfl rfl)
abbrev cX5_mustWord : ByteArray := prog_11_method_11_code
def yX5_mustWord : MethodName := ⟨RX5, "mustWord", "(Ljava/lang/String;)V"⟩
def dkwX5_mustWord_0 : List UInt8 := [42, 43, 182, 0, 97, 154, 0, 8, 42, 5, 182, 0, 93, 177]
abbrev dktX5_mustWord_0 : List UInt8 := dkwX5_mustWord_0 ++ []
theorem dksX5_mustWord_0 : cX5_mustWord.data.toList.drop 0 = dktX5_mustWord_0 := by decide +kernel
theorem dX5_mustWord_0 : decode cX5_mustWord 0 = .ok (.aload_n 0, 1) := dk_42 (dk_at dksX5_mustWord_0 0 rfl rfl)
theorem dX5_mustWord_1 : decode cX5_mustWord 1 = .ok (.aload_n 1, 1) := dk_43 (dk_at dksX5_mustWord_0 1 rfl rfl)
theorem dX5_mustWord_2 : decode cX5_mustWord 2 = .ok (.invokevirtual 97, 3) := dk_182 0 97 (dk_at dksX5_mustWord_0 2 rfl rfl)
theorem dX5_mustWord_5 : decode cX5_mustWord 5 = .ok (.ifCond .ne 8, 3) := dk_154 0 8 (dk_at dksX5_mustWord_0 5 rfl rfl)
theorem dX5_mustWord_8 : decode cX5_mustWord 8 = .ok (.aload_n 0, 1) := dk_42 (dk_at dksX5_mustWord_0 8 rfl rfl)
theorem dX5_mustWord_9 : decode cX5_mustWord 9 = .ok (.iconst 2, 1) := dk_5 (dk_at dksX5_mustWord_0 9 rfl rfl)
theorem dX5_mustWord_10 : decode cX5_mustWord 10 = .ok (.invokevirtual 93, 3) := dk_182 0 93 (dk_at dksX5_mustWord_0 10 rfl rfl)
theorem dX5_mustWord_13 : decode cX5_mustWord 13 = .ok (.return_, 1) := dk_177 (dk_at dksX5_mustWord_0 13 rfl rfl)
abbrev cX5_takes : ByteArray := prog_11_method_8_code
def yX5_takes : MethodName := ⟨RX5, "takes", "(Ljava/lang/String;)Z"⟩
def dkwX5_takes_0 : List UInt8 := [42, 43, 182, 0, 86, 154, 0, 5, 3, 172, 42, 182, 0, 90, 4, 172]
abbrev dktX5_takes_0 : List UInt8 := dkwX5_takes_0 ++ []
theorem dksX5_takes_0 : cX5_takes.data.toList.drop 0 = dktX5_takes_0 := by decide +kernel
theorem dX5_takes_0 : decode cX5_takes 0 = .ok (.aload_n 0, 1) := dk_42 (dk_at dksX5_takes_0 0 rfl rfl)
theorem dX5_takes_1 : decode cX5_takes 1 = .ok (.aload_n 1, 1) := dk_43 (dk_at dksX5_takes_0 1 rfl rfl)
theorem dX5_takes_2 : decode cX5_takes 2 = .ok (.invokevirtual 86, 3) := dk_182 0 86 (dk_at dksX5_takes_0 2 rfl rfl)
theorem dX5_takes_5 : decode cX5_takes 5 = .ok (.ifCond .ne 5, 3) := dk_154 0 5 (dk_at dksX5_takes_0 5 rfl rfl)
theorem dX5_takes_8 : decode cX5_takes 8 = .ok (.iconst 0, 1) := dk_3 (dk_at dksX5_takes_0 8 rfl rfl)
theorem dX5_takes_9 : decode cX5_takes 9 = .ok (.ireturn, 1) := dk_172 (dk_at dksX5_takes_0 9 rfl rfl)
theorem dX5_takes_10 : decode cX5_takes 10 = .ok (.aload_n 0, 1) := dk_42 (dk_at dksX5_takes_0 10 rfl rfl)
theorem dX5_takes_11 : decode cX5_takes 11 = .ok (.invokevirtual 90, 3) := dk_182 0 90 (dk_at dksX5_takes_0 11 rfl rfl)
theorem dX5_takes_14 : decode cX5_takes 14 = .ok (.iconst 1, 1) := dk_4 (dk_at dksX5_takes_0 14 rfl rfl)
theorem dX5_takes_15 : decode cX5_takes 15 = .ok (.ireturn, 1) := dk_172 (dk_at dksX5_takes_0 15 rfl rfl)
abbrev cX5_is : ByteArray := prog_11_method_7_code
def yX5_is : MethodName := ⟨RX5, "is", "(Ljava/lang/String;)Z"⟩
def dkwX5_is_2 : List UInt8 := [28, 96, 182, 0, 33, 43, 28, 182, 0, 82, 159, 0, 5, 3, 172, 132, 2, 1, 167, 255, 225, 4, 172]
abbrev dktX5_is_2 : List UInt8 := dkwX5_is_2 ++ []
def dkwX5_is_1 : List UInt8 := [43, 182, 0, 78, 159, 0, 5, 3, 172, 3, 61, 28, 43, 182, 0, 78, 162, 0, 29, 42, 42, 180, 0, 52]
abbrev dktX5_is_1 : List UInt8 := dkwX5_is_1 ++ dktX5_is_2
def dkwX5_is_0 : List UInt8 := [42, 180, 0, 75, 154, 0, 27, 42, 180, 0, 55, 4, 160, 0, 19, 42, 180, 0, 49, 42, 180, 0, 52, 100]
abbrev dktX5_is_0 : List UInt8 := dkwX5_is_0 ++ dktX5_is_1
theorem dksX5_is_0 : cX5_is.data.toList.drop 0 = dktX5_is_0 := by decide +kernel
theorem dksX5_is_1 : cX5_is.data.toList.drop 24 = dktX5_is_1 := dk_seg dksX5_is_0 24 rfl rfl
theorem dksX5_is_2 : cX5_is.data.toList.drop 48 = dktX5_is_2 := dk_seg dksX5_is_1 24 rfl rfl
theorem dX5_is_0 : decode cX5_is 0 = .ok (.aload_n 0, 1) := dk_42 (dk_at dksX5_is_0 0 rfl rfl)
theorem dX5_is_1 : decode cX5_is 1 = .ok (.getfield 75, 3) := dk_180 0 75 (dk_at dksX5_is_0 1 rfl rfl)
theorem dX5_is_4 : decode cX5_is 4 = .ok (.ifCond .ne 27, 3) := dk_154 0 27 (dk_at dksX5_is_0 4 rfl rfl)
theorem dX5_is_7 : decode cX5_is 7 = .ok (.aload_n 0, 1) := dk_42 (dk_at dksX5_is_0 7 rfl rfl)
theorem dX5_is_8 : decode cX5_is 8 = .ok (.getfield 55, 3) := dk_180 0 55 (dk_at dksX5_is_0 8 rfl rfl)
theorem dX5_is_11 : decode cX5_is 11 = .ok (.iconst 1, 1) := dk_4 (dk_at dksX5_is_0 11 rfl rfl)
theorem dX5_is_12 : decode cX5_is 12 = .ok (.if_icmp .ne 19, 3) := dk_160 0 19 (dk_at dksX5_is_0 12 rfl rfl)
theorem dX5_is_15 : decode cX5_is 15 = .ok (.aload_n 0, 1) := dk_42 (dk_at dksX5_is_0 15 rfl rfl)
theorem dX5_is_16 : decode cX5_is 16 = .ok (.getfield 49, 3) := dk_180 0 49 (dk_at dksX5_is_0 16 rfl rfl)
theorem dX5_is_19 : decode cX5_is 19 = .ok (.aload_n 0, 1) := dk_42 (dk_at dksX5_is_0 19 rfl rfl)
theorem dX5_is_20 : decode cX5_is 20 = .ok (.getfield 52, 3) := dk_180 0 52 (dk_at dksX5_is_0 20 rfl rfl)
theorem dX5_is_23 : decode cX5_is 23 = .ok (.isub, 1) := dk_100 (dk_at dksX5_is_0 23 rfl rfl)
theorem dX5_is_24 : decode cX5_is 24 = .ok (.aload_n 1, 1) := dk_43 (dk_at dksX5_is_1 0 rfl rfl)
theorem dX5_is_25 : decode cX5_is 25 = .ok (.invokevirtual 78, 3) := dk_182 0 78 (dk_at dksX5_is_1 1 rfl rfl)
theorem dX5_is_28 : decode cX5_is 28 = .ok (.if_icmp .eq 5, 3) := dk_159 0 5 (dk_at dksX5_is_1 4 rfl rfl)
theorem dX5_is_31 : decode cX5_is 31 = .ok (.iconst 0, 1) := dk_3 (dk_at dksX5_is_1 7 rfl rfl)
theorem dX5_is_32 : decode cX5_is 32 = .ok (.ireturn, 1) := dk_172 (dk_at dksX5_is_1 8 rfl rfl)
theorem dX5_is_33 : decode cX5_is 33 = .ok (.iconst 0, 1) := dk_3 (dk_at dksX5_is_1 9 rfl rfl)
theorem dX5_is_34 : decode cX5_is 34 = .ok (.istore_n 2, 1) := dk_61 (dk_at dksX5_is_1 10 rfl rfl)
theorem dX5_is_35 : decode cX5_is 35 = .ok (.iload_n 2, 1) := dk_28 (dk_at dksX5_is_1 11 rfl rfl)
theorem dX5_is_36 : decode cX5_is 36 = .ok (.aload_n 1, 1) := dk_43 (dk_at dksX5_is_1 12 rfl rfl)
theorem dX5_is_37 : decode cX5_is 37 = .ok (.invokevirtual 78, 3) := dk_182 0 78 (dk_at dksX5_is_1 13 rfl rfl)
theorem dX5_is_40 : decode cX5_is 40 = .ok (.if_icmp .ge 29, 3) := dk_162 0 29 (dk_at dksX5_is_1 16 rfl rfl)
theorem dX5_is_43 : decode cX5_is 43 = .ok (.aload_n 0, 1) := dk_42 (dk_at dksX5_is_1 19 rfl rfl)
theorem dX5_is_44 : decode cX5_is 44 = .ok (.aload_n 0, 1) := dk_42 (dk_at dksX5_is_1 20 rfl rfl)
theorem dX5_is_45 : decode cX5_is 45 = .ok (.getfield 52, 3) := dk_180 0 52 (dk_at dksX5_is_1 21 rfl rfl)
theorem dX5_is_48 : decode cX5_is 48 = .ok (.iload_n 2, 1) := dk_28 (dk_at dksX5_is_2 0 rfl rfl)
theorem dX5_is_49 : decode cX5_is 49 = .ok (.iadd, 1) := dk_96 (dk_at dksX5_is_2 1 rfl rfl)
theorem dX5_is_50 : decode cX5_is 50 = .ok (.invokevirtual 33, 3) := dk_182 0 33 (dk_at dksX5_is_2 2 rfl rfl)
theorem dX5_is_53 : decode cX5_is 53 = .ok (.aload_n 1, 1) := dk_43 (dk_at dksX5_is_2 5 rfl rfl)
theorem dX5_is_54 : decode cX5_is 54 = .ok (.iload_n 2, 1) := dk_28 (dk_at dksX5_is_2 6 rfl rfl)
theorem dX5_is_55 : decode cX5_is 55 = .ok (.invokevirtual 82, 3) := dk_182 0 82 (dk_at dksX5_is_2 7 rfl rfl)
theorem dX5_is_58 : decode cX5_is 58 = .ok (.if_icmp .eq 5, 3) := dk_159 0 5 (dk_at dksX5_is_2 10 rfl rfl)
theorem dX5_is_61 : decode cX5_is 61 = .ok (.iconst 0, 1) := dk_3 (dk_at dksX5_is_2 13 rfl rfl)
theorem dX5_is_62 : decode cX5_is 62 = .ok (.ireturn, 1) := dk_172 (dk_at dksX5_is_2 14 rfl rfl)
theorem dX5_is_63 : decode cX5_is 63 = .ok (.iinc 2 1, 3) := dk_132 2 1 (dk_at dksX5_is_2 15 rfl rfl)
theorem dX5_is_66 : decode cX5_is 66 = .ok (.goto (-31), 3) := dk_167 255 225 (dk_at dksX5_is_2 18 rfl rfl)
theorem dX5_is_69 : decode cX5_is 69 = .ok (.iconst 1, 1) := dk_4 (dk_at dksX5_is_2 21 rfl rfl)
theorem dX5_is_70 : decode cX5_is 70 = .ok (.ireturn, 1) := dk_172 (dk_at dksX5_is_2 22 rfl rfl)
abbrev cX5_wrong : ByteArray := prog_11_method_6_code
def yX5_wrong : MethodName := ⟨RX5, "wrong", "(I)V"⟩
def dkwX5_wrong_1 : List UInt8 := [181, 0, 75, 42, 42, 180, 0, 52, 181, 0, 22, 177]
abbrev dktX5_wrong_1 : List UInt8 := dkwX5_wrong_1 ++ []
def dkwX5_wrong_0 : List UInt8 := [42, 180, 0, 75, 153, 0, 4, 177, 42, 42, 180, 0, 55, 6, 160, 0, 7, 4, 167, 0, 4, 27]
abbrev dktX5_wrong_0 : List UInt8 := dkwX5_wrong_0 ++ dktX5_wrong_1
theorem dksX5_wrong_0 : cX5_wrong.data.toList.drop 0 = dktX5_wrong_0 := by decide +kernel
theorem dksX5_wrong_1 : cX5_wrong.data.toList.drop 22 = dktX5_wrong_1 := dk_seg dksX5_wrong_0 22 rfl rfl
theorem dX5_wrong_0 : decode cX5_wrong 0 = .ok (.aload_n 0, 1) := dk_42 (dk_at dksX5_wrong_0 0 rfl rfl)
theorem dX5_wrong_1 : decode cX5_wrong 1 = .ok (.getfield 75, 3) := dk_180 0 75 (dk_at dksX5_wrong_0 1 rfl rfl)
theorem dX5_wrong_4 : decode cX5_wrong 4 = .ok (.ifCond .eq 4, 3) := dk_153 0 4 (dk_at dksX5_wrong_0 4 rfl rfl)
theorem dX5_wrong_7 : decode cX5_wrong 7 = .ok (.return_, 1) := dk_177 (dk_at dksX5_wrong_0 7 rfl rfl)
theorem dX5_wrong_8 : decode cX5_wrong 8 = .ok (.aload_n 0, 1) := dk_42 (dk_at dksX5_wrong_0 8 rfl rfl)
theorem dX5_wrong_9 : decode cX5_wrong 9 = .ok (.aload_n 0, 1) := dk_42 (dk_at dksX5_wrong_0 9 rfl rfl)
theorem dX5_wrong_10 : decode cX5_wrong 10 = .ok (.getfield 55, 3) := dk_180 0 55 (dk_at dksX5_wrong_0 10 rfl rfl)
theorem dX5_wrong_13 : decode cX5_wrong 13 = .ok (.iconst 3, 1) := dk_6 (dk_at dksX5_wrong_0 13 rfl rfl)
theorem dX5_wrong_14 : decode cX5_wrong 14 = .ok (.if_icmp .ne 7, 3) := dk_160 0 7 (dk_at dksX5_wrong_0 14 rfl rfl)
theorem dX5_wrong_17 : decode cX5_wrong 17 = .ok (.iconst 1, 1) := dk_4 (dk_at dksX5_wrong_0 17 rfl rfl)
theorem dX5_wrong_18 : decode cX5_wrong 18 = .ok (.goto 4, 3) := dk_167 0 4 (dk_at dksX5_wrong_0 18 rfl rfl)
theorem dX5_wrong_21 : decode cX5_wrong 21 = .ok (.iload_n 1, 1) := dk_27 (dk_at dksX5_wrong_0 21 rfl rfl)
theorem dX5_wrong_22 : decode cX5_wrong 22 = .ok (.putfield 75, 3) := dk_181 0 75 (dk_at dksX5_wrong_1 0 rfl rfl)
theorem dX5_wrong_25 : decode cX5_wrong 25 = .ok (.aload_n 0, 1) := dk_42 (dk_at dksX5_wrong_1 3 rfl rfl)
theorem dX5_wrong_26 : decode cX5_wrong 26 = .ok (.aload_n 0, 1) := dk_42 (dk_at dksX5_wrong_1 4 rfl rfl)
theorem dX5_wrong_27 : decode cX5_wrong 27 = .ok (.getfield 52, 3) := dk_180 0 52 (dk_at dksX5_wrong_1 5 rfl rfl)
theorem dX5_wrong_30 : decode cX5_wrong 30 = .ok (.putfield 22, 3) := dk_181 0 22 (dk_at dksX5_wrong_1 8 rfl rfl)
theorem dX5_wrong_33 : decode cX5_wrong 33 = .ok (.return_, 1) := dk_177 (dk_at dksX5_wrong_1 11 rfl rfl)
abbrev cX5_number : ByteArray := prog_11_method_12_code
def yX5_number : MethodName := ⟨RX5, "number", "(II)I"⟩
def dkwX5_number_2 : List UInt8 := [180, 0, 75, 153, 0, 5, 27, 172, 42, 180, 0, 65, 62, 42, 182, 0, 90, 29, 172]
abbrev dktX5_number_2 : List UInt8 := dkwX5_number_2 ++ []
def dkwX5_number_1 : List UInt8 := [154, 0, 23, 42, 180, 0, 65, 133, 27, 133, 28, 133, 184, 0, 41, 154, 0, 8, 42, 6, 182, 0, 93, 42]
abbrev dktX5_number_1 : List UInt8 := dkwX5_number_1 ++ dktX5_number_2
def dkwX5_number_0 : List UInt8 := [42, 180, 0, 75, 154, 0, 16, 42, 180, 0, 55, 5, 159, 0, 8, 42, 5, 182, 0, 93, 42, 180, 0, 75]
abbrev dktX5_number_0 : List UInt8 := dkwX5_number_0 ++ dktX5_number_1
theorem dksX5_number_0 : cX5_number.data.toList.drop 0 = dktX5_number_0 := by decide +kernel
theorem dksX5_number_1 : cX5_number.data.toList.drop 24 = dktX5_number_1 := dk_seg dksX5_number_0 24 rfl rfl
theorem dksX5_number_2 : cX5_number.data.toList.drop 48 = dktX5_number_2 := dk_seg dksX5_number_1 24 rfl rfl
theorem dX5_number_0 : decode cX5_number 0 = .ok (.aload_n 0, 1) := dk_42 (dk_at dksX5_number_0 0 rfl rfl)
theorem dX5_number_1 : decode cX5_number 1 = .ok (.getfield 75, 3) := dk_180 0 75 (dk_at dksX5_number_0 1 rfl rfl)
theorem dX5_number_4 : decode cX5_number 4 = .ok (.ifCond .ne 16, 3) := dk_154 0 16 (dk_at dksX5_number_0 4 rfl rfl)
theorem dX5_number_7 : decode cX5_number 7 = .ok (.aload_n 0, 1) := dk_42 (dk_at dksX5_number_0 7 rfl rfl)
theorem dX5_number_8 : decode cX5_number 8 = .ok (.getfield 55, 3) := dk_180 0 55 (dk_at dksX5_number_0 8 rfl rfl)
theorem dX5_number_11 : decode cX5_number 11 = .ok (.iconst 2, 1) := dk_5 (dk_at dksX5_number_0 11 rfl rfl)
theorem dX5_number_12 : decode cX5_number 12 = .ok (.if_icmp .eq 8, 3) := dk_159 0 8 (dk_at dksX5_number_0 12 rfl rfl)
theorem dX5_number_15 : decode cX5_number 15 = .ok (.aload_n 0, 1) := dk_42 (dk_at dksX5_number_0 15 rfl rfl)
theorem dX5_number_16 : decode cX5_number 16 = .ok (.iconst 2, 1) := dk_5 (dk_at dksX5_number_0 16 rfl rfl)
theorem dX5_number_17 : decode cX5_number 17 = .ok (.invokevirtual 93, 3) := dk_182 0 93 (dk_at dksX5_number_0 17 rfl rfl)
theorem dX5_number_20 : decode cX5_number 20 = .ok (.aload_n 0, 1) := dk_42 (dk_at dksX5_number_0 20 rfl rfl)
theorem dX5_number_21 : decode cX5_number 21 = .ok (.getfield 75, 3) := dk_180 0 75 (dk_at dksX5_number_0 21 rfl rfl)
theorem dX5_number_24 : decode cX5_number 24 = .ok (.ifCond .ne 23, 3) := dk_154 0 23 (dk_at dksX5_number_1 0 rfl rfl)
theorem dX5_number_27 : decode cX5_number 27 = .ok (.aload_n 0, 1) := dk_42 (dk_at dksX5_number_1 3 rfl rfl)
theorem dX5_number_28 : decode cX5_number 28 = .ok (.getfield 65, 3) := dk_180 0 65 (dk_at dksX5_number_1 4 rfl rfl)
theorem dX5_number_31 : decode cX5_number 31 = .ok (.i2l, 1) := dk_133 (dk_at dksX5_number_1 7 rfl rfl)
theorem dX5_number_32 : decode cX5_number 32 = .ok (.iload_n 1, 1) := dk_27 (dk_at dksX5_number_1 8 rfl rfl)
theorem dX5_number_33 : decode cX5_number 33 = .ok (.i2l, 1) := dk_133 (dk_at dksX5_number_1 9 rfl rfl)
theorem dX5_number_34 : decode cX5_number 34 = .ok (.iload_n 2, 1) := dk_28 (dk_at dksX5_number_1 10 rfl rfl)
theorem dX5_number_35 : decode cX5_number 35 = .ok (.i2l, 1) := dk_133 (dk_at dksX5_number_1 11 rfl rfl)
theorem dX5_number_36 : decode cX5_number 36 = .ok (.invokestatic 41, 3) := dk_184 0 41 (dk_at dksX5_number_1 12 rfl rfl)
theorem dX5_number_39 : decode cX5_number 39 = .ok (.ifCond .ne 8, 3) := dk_154 0 8 (dk_at dksX5_number_1 15 rfl rfl)
theorem dX5_number_42 : decode cX5_number 42 = .ok (.aload_n 0, 1) := dk_42 (dk_at dksX5_number_1 18 rfl rfl)
theorem dX5_number_43 : decode cX5_number 43 = .ok (.iconst 3, 1) := dk_6 (dk_at dksX5_number_1 19 rfl rfl)
theorem dX5_number_44 : decode cX5_number 44 = .ok (.invokevirtual 93, 3) := dk_182 0 93 (dk_at dksX5_number_1 20 rfl rfl)
theorem dX5_number_47 : decode cX5_number 47 = .ok (.aload_n 0, 1) := dk_42 (dk_at dksX5_number_1 23 rfl rfl)
theorem dX5_number_48 : decode cX5_number 48 = .ok (.getfield 75, 3) := dk_180 0 75 (dk_at dksX5_number_2 0 rfl rfl)
theorem dX5_number_51 : decode cX5_number 51 = .ok (.ifCond .eq 5, 3) := dk_153 0 5 (dk_at dksX5_number_2 3 rfl rfl)
theorem dX5_number_54 : decode cX5_number 54 = .ok (.iload_n 1, 1) := dk_27 (dk_at dksX5_number_2 6 rfl rfl)
theorem dX5_number_55 : decode cX5_number 55 = .ok (.ireturn, 1) := dk_172 (dk_at dksX5_number_2 7 rfl rfl)
theorem dX5_number_56 : decode cX5_number 56 = .ok (.aload_n 0, 1) := dk_42 (dk_at dksX5_number_2 8 rfl rfl)
theorem dX5_number_57 : decode cX5_number 57 = .ok (.getfield 65, 3) := dk_180 0 65 (dk_at dksX5_number_2 9 rfl rfl)
theorem dX5_number_60 : decode cX5_number 60 = .ok (.istore_n 3, 1) := dk_62 (dk_at dksX5_number_2 12 rfl rfl)
theorem dX5_number_61 : decode cX5_number 61 = .ok (.aload_n 0, 1) := dk_42 (dk_at dksX5_number_2 13 rfl rfl)
theorem dX5_number_62 : decode cX5_number 62 = .ok (.invokevirtual 90, 3) := dk_182 0 90 (dk_at dksX5_number_2 14 rfl rfl)
theorem dX5_number_65 : decode cX5_number 65 = .ok (.iload_n 3, 1) := dk_29 (dk_at dksX5_number_2 17 rfl rfl)
theorem dX5_number_66 : decode cX5_number 66 = .ok (.ireturn, 1) := dk_172 (dk_at dksX5_number_2 18 rfl rfl)
abbrev cX5_ends : ByteArray := prog_11_method_14_code
def yX5_ends : MethodName := ⟨RX5, "ends", "()V"⟩
def dkwX5_ends_0 : List UInt8 := [42, 16, 59, 182, 0, 120, 42, 180, 0, 18, 89, 180, 0, 123, 4, 96, 181, 0, 123, 177]
abbrev dktX5_ends_0 : List UInt8 := dkwX5_ends_0 ++ []
theorem dksX5_ends_0 : cX5_ends.data.toList.drop 0 = dktX5_ends_0 := by decide +kernel
theorem dX5_ends_0 : decode cX5_ends 0 = .ok (.aload_n 0, 1) := dk_42 (dk_at dksX5_ends_0 0 rfl rfl)
theorem dX5_ends_1 : decode cX5_ends 1 = .ok (.bipush 59, 2) := dk_16 59 (dk_at dksX5_ends_0 1 rfl rfl)
theorem dX5_ends_3 : decode cX5_ends 3 = .ok (.invokevirtual 120, 3) := dk_182 0 120 (dk_at dksX5_ends_0 3 rfl rfl)
theorem dX5_ends_6 : decode cX5_ends 6 = .ok (.aload_n 0, 1) := dk_42 (dk_at dksX5_ends_0 6 rfl rfl)
theorem dX5_ends_7 : decode cX5_ends 7 = .ok (.getfield 18, 3) := dk_180 0 18 (dk_at dksX5_ends_0 7 rfl rfl)
theorem dX5_ends_10 : decode cX5_ends 10 = .ok (.dup, 1) := dk_89 (dk_at dksX5_ends_0 10 rfl rfl)
theorem dX5_ends_11 : decode cX5_ends 11 = .ok (.getfield 123, 3) := dk_180 0 123 (dk_at dksX5_ends_0 11 rfl rfl)
theorem dX5_ends_14 : decode cX5_ends 14 = .ok (.iconst 1, 1) := dk_4 (dk_at dksX5_ends_0 14 rfl rfl)
theorem dX5_ends_15 : decode cX5_ends 15 = .ok (.iadd, 1) := dk_96 (dk_at dksX5_ends_0 15 rfl rfl)
theorem dX5_ends_16 : decode cX5_ends 16 = .ok (.putfield 123, 3) := dk_181 0 123 (dk_at dksX5_ends_0 16 rfl rfl)
theorem dX5_ends_19 : decode cX5_ends 19 = .ok (.return_, 1) := dk_177 (dk_at dksX5_ends_0 19 rfl rfl)
abbrev cX5_must : ByteArray := prog_11_method_10_code
def yX5_must : MethodName := ⟨RX5, "must", "(I)V"⟩
def dkwX5_must_1 : List UInt8 := [154, 0, 7, 42, 182, 0, 90, 177]
abbrev dktX5_must_1 : List UInt8 := dkwX5_must_1 ++ []
def dkwX5_must_0 : List UInt8 := [42, 180, 0, 75, 154, 0, 16, 42, 180, 0, 55, 27, 159, 0, 8, 42, 5, 182, 0, 93, 42, 180, 0, 75]
abbrev dktX5_must_0 : List UInt8 := dkwX5_must_0 ++ dktX5_must_1
theorem dksX5_must_0 : cX5_must.data.toList.drop 0 = dktX5_must_0 := by decide +kernel
theorem dksX5_must_1 : cX5_must.data.toList.drop 24 = dktX5_must_1 := dk_seg dksX5_must_0 24 rfl rfl
theorem dX5_must_0 : decode cX5_must 0 = .ok (.aload_n 0, 1) := dk_42 (dk_at dksX5_must_0 0 rfl rfl)
theorem dX5_must_1 : decode cX5_must 1 = .ok (.getfield 75, 3) := dk_180 0 75 (dk_at dksX5_must_0 1 rfl rfl)
theorem dX5_must_4 : decode cX5_must 4 = .ok (.ifCond .ne 16, 3) := dk_154 0 16 (dk_at dksX5_must_0 4 rfl rfl)
theorem dX5_must_7 : decode cX5_must 7 = .ok (.aload_n 0, 1) := dk_42 (dk_at dksX5_must_0 7 rfl rfl)
theorem dX5_must_8 : decode cX5_must 8 = .ok (.getfield 55, 3) := dk_180 0 55 (dk_at dksX5_must_0 8 rfl rfl)
theorem dX5_must_11 : decode cX5_must 11 = .ok (.iload_n 1, 1) := dk_27 (dk_at dksX5_must_0 11 rfl rfl)
theorem dX5_must_12 : decode cX5_must 12 = .ok (.if_icmp .eq 8, 3) := dk_159 0 8 (dk_at dksX5_must_0 12 rfl rfl)
theorem dX5_must_15 : decode cX5_must 15 = .ok (.aload_n 0, 1) := dk_42 (dk_at dksX5_must_0 15 rfl rfl)
theorem dX5_must_16 : decode cX5_must 16 = .ok (.iconst 2, 1) := dk_5 (dk_at dksX5_must_0 16 rfl rfl)
theorem dX5_must_17 : decode cX5_must 17 = .ok (.invokevirtual 93, 3) := dk_182 0 93 (dk_at dksX5_must_0 17 rfl rfl)
theorem dX5_must_20 : decode cX5_must 20 = .ok (.aload_n 0, 1) := dk_42 (dk_at dksX5_must_0 20 rfl rfl)
theorem dX5_must_21 : decode cX5_must 21 = .ok (.getfield 75, 3) := dk_180 0 75 (dk_at dksX5_must_0 21 rfl rfl)
theorem dX5_must_24 : decode cX5_must 24 = .ok (.ifCond .ne 7, 3) := dk_154 0 7 (dk_at dksX5_must_1 0 rfl rfl)
theorem dX5_must_27 : decode cX5_must 27 = .ok (.aload_n 0, 1) := dk_42 (dk_at dksX5_must_1 3 rfl rfl)
theorem dX5_must_28 : decode cX5_must 28 = .ok (.invokevirtual 90, 3) := dk_182 0 90 (dk_at dksX5_must_1 4 rfl rfl)
theorem dX5_must_31 : decode cX5_must 31 = .ok (.return_, 1) := dk_177 (dk_at dksX5_must_1 7 rfl rfl)
abbrev cX5_line : ByteArray := prog_11_method_15_code
def yX5_line : MethodName := ⟨RX5, "line", "()V"⟩
def dkwX5_line_5 : List UInt8 := [167, 0, 8, 42, 5, 182, 0, 93, 177]
abbrev dktX5_line_5 : List UInt8 := dkwX5_line_5 ++ []
def dkwX5_line_4 : List UInt8 := [153, 0, 10, 42, 182, 0, 144, 167, 0, 24, 42, 18, 146, 182, 0, 97, 153, 0, 10, 42, 182, 0, 148]
abbrev dktX5_line_4 : List UInt8 := dkwX5_line_4 ++ dktX5_line_5
def dkwX5_line_3 : List UInt8 := [180, 0, 18, 42, 3, 16, 10, 182, 0, 108, 181, 0, 140, 167, 0, 40, 42, 18, 142, 182, 0, 97]
abbrev dktX5_line_3 : List UInt8 := dkwX5_line_3 ++ dktX5_line_4
def dkwX5_line_2 : List UInt8 := [3, 16, 9, 182, 0, 108, 181, 0, 136, 167, 0, 66, 42, 18, 138, 182, 0, 97, 153, 0, 20, 42]
abbrev dktX5_line_2 : List UInt8 := dkwX5_line_2 ++ dktX5_line_3
def dkwX5_line_1 : List UInt8 := [153, 0, 10, 42, 182, 0, 132, 167, 0, 92, 42, 18, 134, 182, 0, 97, 153, 0, 20, 42, 180, 0, 18, 42]
abbrev dktX5_line_1 : List UInt8 := dkwX5_line_1 ++ dktX5_line_2
def dkwX5_line_0 : List UInt8 := [42, 18, 126, 182, 0, 86, 153, 0, 10, 42, 182, 0, 128, 167, 0, 108, 42, 18, 130, 182, 0, 97]
abbrev dktX5_line_0 : List UInt8 := dkwX5_line_0 ++ dktX5_line_1
theorem dksX5_line_0 : cX5_line.data.toList.drop 0 = dktX5_line_0 := by decide +kernel
theorem dksX5_line_1 : cX5_line.data.toList.drop 22 = dktX5_line_1 := dk_seg dksX5_line_0 22 rfl rfl
theorem dksX5_line_2 : cX5_line.data.toList.drop 46 = dktX5_line_2 := dk_seg dksX5_line_1 24 rfl rfl
theorem dksX5_line_3 : cX5_line.data.toList.drop 68 = dktX5_line_3 := dk_seg dksX5_line_2 22 rfl rfl
theorem dksX5_line_4 : cX5_line.data.toList.drop 90 = dktX5_line_4 := dk_seg dksX5_line_3 22 rfl rfl
theorem dksX5_line_5 : cX5_line.data.toList.drop 113 = dktX5_line_5 := dk_seg dksX5_line_4 23 rfl rfl
theorem dX5_line_0 : decode cX5_line 0 = .ok (.aload_n 0, 1) := dk_42 (dk_at dksX5_line_0 0 rfl rfl)
theorem dX5_line_1 : decode cX5_line 1 = .ok (.ldc 126, 2) := dk_18 126 (dk_at dksX5_line_0 1 rfl rfl)
theorem dX5_line_3 : decode cX5_line 3 = .ok (.invokevirtual 86, 3) := dk_182 0 86 (dk_at dksX5_line_0 3 rfl rfl)
theorem dX5_line_6 : decode cX5_line 6 = .ok (.ifCond .eq 10, 3) := dk_153 0 10 (dk_at dksX5_line_0 6 rfl rfl)
theorem dX5_line_9 : decode cX5_line 9 = .ok (.aload_n 0, 1) := dk_42 (dk_at dksX5_line_0 9 rfl rfl)
theorem dX5_line_10 : decode cX5_line 10 = .ok (.invokevirtual 128, 3) := dk_182 0 128 (dk_at dksX5_line_0 10 rfl rfl)
theorem dX5_line_13 : decode cX5_line 13 = .ok (.goto 108, 3) := dk_167 0 108 (dk_at dksX5_line_0 13 rfl rfl)
theorem dX5_line_16 : decode cX5_line 16 = .ok (.aload_n 0, 1) := dk_42 (dk_at dksX5_line_0 16 rfl rfl)
theorem dX5_line_17 : decode cX5_line 17 = .ok (.ldc 130, 2) := dk_18 130 (dk_at dksX5_line_0 17 rfl rfl)
theorem dX5_line_19 : decode cX5_line 19 = .ok (.invokevirtual 97, 3) := dk_182 0 97 (dk_at dksX5_line_0 19 rfl rfl)
theorem dX5_line_22 : decode cX5_line 22 = .ok (.ifCond .eq 10, 3) := dk_153 0 10 (dk_at dksX5_line_1 0 rfl rfl)
theorem dX5_line_25 : decode cX5_line 25 = .ok (.aload_n 0, 1) := dk_42 (dk_at dksX5_line_1 3 rfl rfl)
theorem dX5_line_26 : decode cX5_line 26 = .ok (.invokevirtual 132, 3) := dk_182 0 132 (dk_at dksX5_line_1 4 rfl rfl)
theorem dX5_line_29 : decode cX5_line 29 = .ok (.goto 92, 3) := dk_167 0 92 (dk_at dksX5_line_1 7 rfl rfl)
theorem dX5_line_32 : decode cX5_line 32 = .ok (.aload_n 0, 1) := dk_42 (dk_at dksX5_line_1 10 rfl rfl)
theorem dX5_line_33 : decode cX5_line 33 = .ok (.ldc 134, 2) := dk_18 134 (dk_at dksX5_line_1 11 rfl rfl)
theorem dX5_line_35 : decode cX5_line 35 = .ok (.invokevirtual 97, 3) := dk_182 0 97 (dk_at dksX5_line_1 13 rfl rfl)
theorem dX5_line_38 : decode cX5_line 38 = .ok (.ifCond .eq 20, 3) := dk_153 0 20 (dk_at dksX5_line_1 16 rfl rfl)
theorem dX5_line_41 : decode cX5_line 41 = .ok (.aload_n 0, 1) := dk_42 (dk_at dksX5_line_1 19 rfl rfl)
theorem dX5_line_42 : decode cX5_line 42 = .ok (.getfield 18, 3) := dk_180 0 18 (dk_at dksX5_line_1 20 rfl rfl)
theorem dX5_line_45 : decode cX5_line 45 = .ok (.aload_n 0, 1) := dk_42 (dk_at dksX5_line_1 23 rfl rfl)
theorem dX5_line_46 : decode cX5_line 46 = .ok (.iconst 0, 1) := dk_3 (dk_at dksX5_line_2 0 rfl rfl)
theorem dX5_line_47 : decode cX5_line 47 = .ok (.bipush 9, 2) := dk_16 9 (dk_at dksX5_line_2 1 rfl rfl)
theorem dX5_line_49 : decode cX5_line 49 = .ok (.invokevirtual 108, 3) := dk_182 0 108 (dk_at dksX5_line_2 3 rfl rfl)
theorem dX5_line_52 : decode cX5_line 52 = .ok (.putfield 136, 3) := dk_181 0 136 (dk_at dksX5_line_2 6 rfl rfl)
theorem dX5_line_55 : decode cX5_line 55 = .ok (.goto 66, 3) := dk_167 0 66 (dk_at dksX5_line_2 9 rfl rfl)
theorem dX5_line_58 : decode cX5_line 58 = .ok (.aload_n 0, 1) := dk_42 (dk_at dksX5_line_2 12 rfl rfl)
theorem dX5_line_59 : decode cX5_line 59 = .ok (.ldc 138, 2) := dk_18 138 (dk_at dksX5_line_2 13 rfl rfl)
theorem dX5_line_61 : decode cX5_line 61 = .ok (.invokevirtual 97, 3) := dk_182 0 97 (dk_at dksX5_line_2 15 rfl rfl)
theorem dX5_line_64 : decode cX5_line 64 = .ok (.ifCond .eq 20, 3) := dk_153 0 20 (dk_at dksX5_line_2 18 rfl rfl)
theorem dX5_line_67 : decode cX5_line 67 = .ok (.aload_n 0, 1) := dk_42 (dk_at dksX5_line_2 21 rfl rfl)
theorem dX5_line_68 : decode cX5_line 68 = .ok (.getfield 18, 3) := dk_180 0 18 (dk_at dksX5_line_3 0 rfl rfl)
theorem dX5_line_71 : decode cX5_line 71 = .ok (.aload_n 0, 1) := dk_42 (dk_at dksX5_line_3 3 rfl rfl)
theorem dX5_line_72 : decode cX5_line 72 = .ok (.iconst 0, 1) := dk_3 (dk_at dksX5_line_3 4 rfl rfl)
theorem dX5_line_73 : decode cX5_line 73 = .ok (.bipush 10, 2) := dk_16 10 (dk_at dksX5_line_3 5 rfl rfl)
theorem dX5_line_75 : decode cX5_line 75 = .ok (.invokevirtual 108, 3) := dk_182 0 108 (dk_at dksX5_line_3 7 rfl rfl)
theorem dX5_line_78 : decode cX5_line 78 = .ok (.putfield 140, 3) := dk_181 0 140 (dk_at dksX5_line_3 10 rfl rfl)
theorem dX5_line_81 : decode cX5_line 81 = .ok (.goto 40, 3) := dk_167 0 40 (dk_at dksX5_line_3 13 rfl rfl)
theorem dX5_line_84 : decode cX5_line 84 = .ok (.aload_n 0, 1) := dk_42 (dk_at dksX5_line_3 16 rfl rfl)
theorem dX5_line_85 : decode cX5_line 85 = .ok (.ldc 142, 2) := dk_18 142 (dk_at dksX5_line_3 17 rfl rfl)
theorem dX5_line_87 : decode cX5_line 87 = .ok (.invokevirtual 97, 3) := dk_182 0 97 (dk_at dksX5_line_3 19 rfl rfl)
theorem dX5_line_90 : decode cX5_line 90 = .ok (.ifCond .eq 10, 3) := dk_153 0 10 (dk_at dksX5_line_4 0 rfl rfl)
theorem dX5_line_93 : decode cX5_line 93 = .ok (.aload_n 0, 1) := dk_42 (dk_at dksX5_line_4 3 rfl rfl)
theorem dX5_line_94 : decode cX5_line 94 = .ok (.invokevirtual 144, 3) := dk_182 0 144 (dk_at dksX5_line_4 4 rfl rfl)
theorem dX5_line_97 : decode cX5_line 97 = .ok (.goto 24, 3) := dk_167 0 24 (dk_at dksX5_line_4 7 rfl rfl)
theorem dX5_line_100 : decode cX5_line 100 = .ok (.aload_n 0, 1) := dk_42 (dk_at dksX5_line_4 10 rfl rfl)
theorem dX5_line_101 : decode cX5_line 101 = .ok (.ldc 146, 2) := dk_18 146 (dk_at dksX5_line_4 11 rfl rfl)
theorem dX5_line_103 : decode cX5_line 103 = .ok (.invokevirtual 97, 3) := dk_182 0 97 (dk_at dksX5_line_4 13 rfl rfl)
theorem dX5_line_106 : decode cX5_line 106 = .ok (.ifCond .eq 10, 3) := dk_153 0 10 (dk_at dksX5_line_4 16 rfl rfl)
theorem dX5_line_109 : decode cX5_line 109 = .ok (.aload_n 0, 1) := dk_42 (dk_at dksX5_line_4 19 rfl rfl)
theorem dX5_line_110 : decode cX5_line 110 = .ok (.invokevirtual 148, 3) := dk_182 0 148 (dk_at dksX5_line_4 20 rfl rfl)
theorem dX5_line_113 : decode cX5_line 113 = .ok (.goto 8, 3) := dk_167 0 8 (dk_at dksX5_line_5 0 rfl rfl)
theorem dX5_line_116 : decode cX5_line 116 = .ok (.aload_n 0, 1) := dk_42 (dk_at dksX5_line_5 3 rfl rfl)
theorem dX5_line_117 : decode cX5_line 117 = .ok (.iconst 2, 1) := dk_5 (dk_at dksX5_line_5 4 rfl rfl)
theorem dX5_line_118 : decode cX5_line 118 = .ok (.invokevirtual 93, 3) := dk_182 0 93 (dk_at dksX5_line_5 5 rfl rfl)
theorem dX5_line_121 : decode cX5_line 121 = .ok (.return_, 1) := dk_177 (dk_at dksX5_line_5 8 rfl rfl)
abbrev cX5_passage : ByteArray := prog_11_method_17_code
def yX5_passage : MethodName := ⟨RX5, "passage", "()V"⟩
def dkwX5_passage_5 : List UInt8 := [180, 0, 18, 180, 0, 162, 27, 29, 79, 42, 180, 0, 18, 89, 180, 0, 150, 4, 96, 181, 0, 150, 177]
abbrev dktX5_passage_5 : List UInt8 := dkwX5_passage_5 ++ []
def dkwX5_passage_4 : List UInt8 := [153, 255, 244, 177, 42, 180, 0, 75, 153, 0, 4, 177, 42, 180, 0, 18, 180, 0, 159, 27, 28, 79, 42]
abbrev dktX5_passage_4 : List UInt8 := dkwX5_passage_4 ++ dktX5_passage_5
def dkwX5_passage_3 : List UInt8 := [42, 6, 182, 0, 93, 42, 182, 0, 153, 62, 42, 27, 182, 0, 156, 153, 0, 11, 42, 180, 0, 75]
abbrev dktX5_passage_3 : List UInt8 := dkwX5_passage_3 ++ dktX5_passage_4
def dkwX5_passage_2 : List UInt8 := [61, 42, 180, 0, 75, 154, 0, 24, 42, 180, 0, 55, 5, 160, 0, 16, 42, 180, 0, 65, 28, 160, 0, 8]
abbrev dktX5_passage_2 : List UInt8 := dkwX5_passage_2 ++ dktX5_passage_3
def dkwX5_passage_1 : List UInt8 := [42, 182, 0, 90, 42, 180, 0, 75, 153, 0, 4, 177, 42, 180, 0, 18, 180, 0, 150, 60, 42, 182, 0, 153]
abbrev dktX5_passage_1 : List UInt8 := dkwX5_passage_1 ++ dktX5_passage_2
def dkwX5_passage_0 : List UInt8 := [42, 180, 0, 18, 180, 0, 150, 16, 8, 160, 0, 8, 42, 7, 182, 0, 93, 42, 180, 0, 75, 154, 0, 7]
abbrev dktX5_passage_0 : List UInt8 := dkwX5_passage_0 ++ dktX5_passage_1
theorem dksX5_passage_0 : cX5_passage.data.toList.drop 0 = dktX5_passage_0 := by decide +kernel
theorem dksX5_passage_1 : cX5_passage.data.toList.drop 24 = dktX5_passage_1 := dk_seg dksX5_passage_0 24 rfl rfl
theorem dksX5_passage_2 : cX5_passage.data.toList.drop 48 = dktX5_passage_2 := dk_seg dksX5_passage_1 24 rfl rfl
theorem dksX5_passage_3 : cX5_passage.data.toList.drop 72 = dktX5_passage_3 := dk_seg dksX5_passage_2 24 rfl rfl
theorem dksX5_passage_4 : cX5_passage.data.toList.drop 94 = dktX5_passage_4 := dk_seg dksX5_passage_3 22 rfl rfl
theorem dksX5_passage_5 : cX5_passage.data.toList.drop 117 = dktX5_passage_5 := dk_seg dksX5_passage_4 23 rfl rfl
theorem dX5_passage_0 : decode cX5_passage 0 = .ok (.aload_n 0, 1) := dk_42 (dk_at dksX5_passage_0 0 rfl rfl)
theorem dX5_passage_1 : decode cX5_passage 1 = .ok (.getfield 18, 3) := dk_180 0 18 (dk_at dksX5_passage_0 1 rfl rfl)
theorem dX5_passage_4 : decode cX5_passage 4 = .ok (.getfield 150, 3) := dk_180 0 150 (dk_at dksX5_passage_0 4 rfl rfl)
theorem dX5_passage_7 : decode cX5_passage 7 = .ok (.bipush 8, 2) := dk_16 8 (dk_at dksX5_passage_0 7 rfl rfl)
theorem dX5_passage_9 : decode cX5_passage 9 = .ok (.if_icmp .ne 8, 3) := dk_160 0 8 (dk_at dksX5_passage_0 9 rfl rfl)
theorem dX5_passage_12 : decode cX5_passage 12 = .ok (.aload_n 0, 1) := dk_42 (dk_at dksX5_passage_0 12 rfl rfl)
theorem dX5_passage_13 : decode cX5_passage 13 = .ok (.iconst 4, 1) := dk_7 (dk_at dksX5_passage_0 13 rfl rfl)
theorem dX5_passage_14 : decode cX5_passage 14 = .ok (.invokevirtual 93, 3) := dk_182 0 93 (dk_at dksX5_passage_0 14 rfl rfl)
theorem dX5_passage_17 : decode cX5_passage 17 = .ok (.aload_n 0, 1) := dk_42 (dk_at dksX5_passage_0 17 rfl rfl)
theorem dX5_passage_18 : decode cX5_passage 18 = .ok (.getfield 75, 3) := dk_180 0 75 (dk_at dksX5_passage_0 18 rfl rfl)
theorem dX5_passage_21 : decode cX5_passage 21 = .ok (.ifCond .ne 7, 3) := dk_154 0 7 (dk_at dksX5_passage_0 21 rfl rfl)
theorem dX5_passage_24 : decode cX5_passage 24 = .ok (.aload_n 0, 1) := dk_42 (dk_at dksX5_passage_1 0 rfl rfl)
theorem dX5_passage_25 : decode cX5_passage 25 = .ok (.invokevirtual 90, 3) := dk_182 0 90 (dk_at dksX5_passage_1 1 rfl rfl)
theorem dX5_passage_28 : decode cX5_passage 28 = .ok (.aload_n 0, 1) := dk_42 (dk_at dksX5_passage_1 4 rfl rfl)
theorem dX5_passage_29 : decode cX5_passage 29 = .ok (.getfield 75, 3) := dk_180 0 75 (dk_at dksX5_passage_1 5 rfl rfl)
theorem dX5_passage_32 : decode cX5_passage 32 = .ok (.ifCond .eq 4, 3) := dk_153 0 4 (dk_at dksX5_passage_1 8 rfl rfl)
theorem dX5_passage_35 : decode cX5_passage 35 = .ok (.return_, 1) := dk_177 (dk_at dksX5_passage_1 11 rfl rfl)
theorem dX5_passage_36 : decode cX5_passage 36 = .ok (.aload_n 0, 1) := dk_42 (dk_at dksX5_passage_1 12 rfl rfl)
theorem dX5_passage_37 : decode cX5_passage 37 = .ok (.getfield 18, 3) := dk_180 0 18 (dk_at dksX5_passage_1 13 rfl rfl)
theorem dX5_passage_40 : decode cX5_passage 40 = .ok (.getfield 150, 3) := dk_180 0 150 (dk_at dksX5_passage_1 16 rfl rfl)
theorem dX5_passage_43 : decode cX5_passage 43 = .ok (.istore_n 1, 1) := dk_60 (dk_at dksX5_passage_1 19 rfl rfl)
theorem dX5_passage_44 : decode cX5_passage 44 = .ok (.aload_n 0, 1) := dk_42 (dk_at dksX5_passage_1 20 rfl rfl)
theorem dX5_passage_45 : decode cX5_passage 45 = .ok (.invokevirtual 153, 3) := dk_182 0 153 (dk_at dksX5_passage_1 21 rfl rfl)
theorem dX5_passage_48 : decode cX5_passage 48 = .ok (.istore_n 2, 1) := dk_61 (dk_at dksX5_passage_2 0 rfl rfl)
theorem dX5_passage_49 : decode cX5_passage 49 = .ok (.aload_n 0, 1) := dk_42 (dk_at dksX5_passage_2 1 rfl rfl)
theorem dX5_passage_50 : decode cX5_passage 50 = .ok (.getfield 75, 3) := dk_180 0 75 (dk_at dksX5_passage_2 2 rfl rfl)
theorem dX5_passage_53 : decode cX5_passage 53 = .ok (.ifCond .ne 24, 3) := dk_154 0 24 (dk_at dksX5_passage_2 5 rfl rfl)
theorem dX5_passage_56 : decode cX5_passage 56 = .ok (.aload_n 0, 1) := dk_42 (dk_at dksX5_passage_2 8 rfl rfl)
theorem dX5_passage_57 : decode cX5_passage 57 = .ok (.getfield 55, 3) := dk_180 0 55 (dk_at dksX5_passage_2 9 rfl rfl)
theorem dX5_passage_60 : decode cX5_passage 60 = .ok (.iconst 2, 1) := dk_5 (dk_at dksX5_passage_2 12 rfl rfl)
theorem dX5_passage_61 : decode cX5_passage 61 = .ok (.if_icmp .ne 16, 3) := dk_160 0 16 (dk_at dksX5_passage_2 13 rfl rfl)
theorem dX5_passage_64 : decode cX5_passage 64 = .ok (.aload_n 0, 1) := dk_42 (dk_at dksX5_passage_2 16 rfl rfl)
theorem dX5_passage_65 : decode cX5_passage 65 = .ok (.getfield 65, 3) := dk_180 0 65 (dk_at dksX5_passage_2 17 rfl rfl)
theorem dX5_passage_68 : decode cX5_passage 68 = .ok (.iload_n 2, 1) := dk_28 (dk_at dksX5_passage_2 20 rfl rfl)
theorem dX5_passage_69 : decode cX5_passage 69 = .ok (.if_icmp .ne 8, 3) := dk_160 0 8 (dk_at dksX5_passage_2 21 rfl rfl)
theorem dX5_passage_72 : decode cX5_passage 72 = .ok (.aload_n 0, 1) := dk_42 (dk_at dksX5_passage_3 0 rfl rfl)
theorem dX5_passage_73 : decode cX5_passage 73 = .ok (.iconst 3, 1) := dk_6 (dk_at dksX5_passage_3 1 rfl rfl)
theorem dX5_passage_74 : decode cX5_passage 74 = .ok (.invokevirtual 93, 3) := dk_182 0 93 (dk_at dksX5_passage_3 2 rfl rfl)
theorem dX5_passage_77 : decode cX5_passage 77 = .ok (.aload_n 0, 1) := dk_42 (dk_at dksX5_passage_3 5 rfl rfl)
theorem dX5_passage_78 : decode cX5_passage 78 = .ok (.invokevirtual 153, 3) := dk_182 0 153 (dk_at dksX5_passage_3 6 rfl rfl)
theorem dX5_passage_81 : decode cX5_passage 81 = .ok (.istore_n 3, 1) := dk_62 (dk_at dksX5_passage_3 9 rfl rfl)
theorem dX5_passage_82 : decode cX5_passage 82 = .ok (.aload_n 0, 1) := dk_42 (dk_at dksX5_passage_3 10 rfl rfl)
theorem dX5_passage_83 : decode cX5_passage 83 = .ok (.iload_n 1, 1) := dk_27 (dk_at dksX5_passage_3 11 rfl rfl)
theorem dX5_passage_84 : decode cX5_passage 84 = .ok (.invokevirtual 156, 3) := dk_182 0 156 (dk_at dksX5_passage_3 12 rfl rfl)
theorem dX5_passage_87 : decode cX5_passage 87 = .ok (.ifCond .eq 11, 3) := dk_153 0 11 (dk_at dksX5_passage_3 15 rfl rfl)
theorem dX5_passage_90 : decode cX5_passage 90 = .ok (.aload_n 0, 1) := dk_42 (dk_at dksX5_passage_3 18 rfl rfl)
theorem dX5_passage_91 : decode cX5_passage 91 = .ok (.getfield 75, 3) := dk_180 0 75 (dk_at dksX5_passage_3 19 rfl rfl)
theorem dX5_passage_94 : decode cX5_passage 94 = .ok (.ifCond .eq (-12), 3) := dk_153 255 244 (dk_at dksX5_passage_4 0 rfl rfl)
theorem dX5_passage_97 : decode cX5_passage 97 = .ok (.return_, 1) := dk_177 (dk_at dksX5_passage_4 3 rfl rfl)
theorem dX5_passage_98 : decode cX5_passage 98 = .ok (.aload_n 0, 1) := dk_42 (dk_at dksX5_passage_4 4 rfl rfl)
theorem dX5_passage_99 : decode cX5_passage 99 = .ok (.getfield 75, 3) := dk_180 0 75 (dk_at dksX5_passage_4 5 rfl rfl)
theorem dX5_passage_102 : decode cX5_passage 102 = .ok (.ifCond .eq 4, 3) := dk_153 0 4 (dk_at dksX5_passage_4 8 rfl rfl)
theorem dX5_passage_105 : decode cX5_passage 105 = .ok (.return_, 1) := dk_177 (dk_at dksX5_passage_4 11 rfl rfl)
theorem dX5_passage_106 : decode cX5_passage 106 = .ok (.aload_n 0, 1) := dk_42 (dk_at dksX5_passage_4 12 rfl rfl)
theorem dX5_passage_107 : decode cX5_passage 107 = .ok (.getfield 18, 3) := dk_180 0 18 (dk_at dksX5_passage_4 13 rfl rfl)
theorem dX5_passage_110 : decode cX5_passage 110 = .ok (.getfield 159, 3) := dk_180 0 159 (dk_at dksX5_passage_4 16 rfl rfl)
theorem dX5_passage_113 : decode cX5_passage 113 = .ok (.iload_n 1, 1) := dk_27 (dk_at dksX5_passage_4 19 rfl rfl)
theorem dX5_passage_114 : decode cX5_passage 114 = .ok (.iload_n 2, 1) := dk_28 (dk_at dksX5_passage_4 20 rfl rfl)
theorem dX5_passage_115 : decode cX5_passage 115 = .ok (.iastore, 1) := dk_79 (dk_at dksX5_passage_4 21 rfl rfl)
theorem dX5_passage_116 : decode cX5_passage 116 = .ok (.aload_n 0, 1) := dk_42 (dk_at dksX5_passage_4 22 rfl rfl)
theorem dX5_passage_117 : decode cX5_passage 117 = .ok (.getfield 18, 3) := dk_180 0 18 (dk_at dksX5_passage_5 0 rfl rfl)
theorem dX5_passage_120 : decode cX5_passage 120 = .ok (.getfield 162, 3) := dk_180 0 162 (dk_at dksX5_passage_5 3 rfl rfl)
theorem dX5_passage_123 : decode cX5_passage 123 = .ok (.iload_n 1, 1) := dk_27 (dk_at dksX5_passage_5 6 rfl rfl)
theorem dX5_passage_124 : decode cX5_passage 124 = .ok (.iload_n 3, 1) := dk_29 (dk_at dksX5_passage_5 7 rfl rfl)
theorem dX5_passage_125 : decode cX5_passage 125 = .ok (.iastore, 1) := dk_79 (dk_at dksX5_passage_5 8 rfl rfl)
theorem dX5_passage_126 : decode cX5_passage 126 = .ok (.aload_n 0, 1) := dk_42 (dk_at dksX5_passage_5 9 rfl rfl)
theorem dX5_passage_127 : decode cX5_passage 127 = .ok (.getfield 18, 3) := dk_180 0 18 (dk_at dksX5_passage_5 10 rfl rfl)
theorem dX5_passage_130 : decode cX5_passage 130 = .ok (.dup, 1) := dk_89 (dk_at dksX5_passage_5 13 rfl rfl)
theorem dX5_passage_131 : decode cX5_passage 131 = .ok (.getfield 150, 3) := dk_180 0 150 (dk_at dksX5_passage_5 14 rfl rfl)
theorem dX5_passage_134 : decode cX5_passage 134 = .ok (.iconst 1, 1) := dk_4 (dk_at dksX5_passage_5 17 rfl rfl)
theorem dX5_passage_135 : decode cX5_passage 135 = .ok (.iadd, 1) := dk_96 (dk_at dksX5_passage_5 18 rfl rfl)
theorem dX5_passage_136 : decode cX5_passage 136 = .ok (.putfield 150, 3) := dk_181 0 150 (dk_at dksX5_passage_5 19 rfl rfl)
theorem dX5_passage_139 : decode cX5_passage 139 = .ok (.return_, 1) := dk_177 (dk_at dksX5_passage_5 22 rfl rfl)
abbrev cX5_room : ByteArray := prog_11_method_16_code
def yX5_room : MethodName := ⟨RX5, "room", "()I"⟩
def dkwX5_room_0 : List UInt8 := [42, 3, 42, 180, 0, 18, 180, 0, 112, 4, 100, 182, 0, 108, 172]
abbrev dktX5_room_0 : List UInt8 := dkwX5_room_0 ++ []
theorem dksX5_room_0 : cX5_room.data.toList.drop 0 = dktX5_room_0 := by decide +kernel
theorem dX5_room_0 : decode cX5_room 0 = .ok (.aload_n 0, 1) := dk_42 (dk_at dksX5_room_0 0 rfl rfl)
theorem dX5_room_1 : decode cX5_room 1 = .ok (.iconst 0, 1) := dk_3 (dk_at dksX5_room_0 1 rfl rfl)
theorem dX5_room_2 : decode cX5_room 2 = .ok (.aload_n 0, 1) := dk_42 (dk_at dksX5_room_0 2 rfl rfl)
theorem dX5_room_3 : decode cX5_room 3 = .ok (.getfield 18, 3) := dk_180 0 18 (dk_at dksX5_room_0 3 rfl rfl)
theorem dX5_room_6 : decode cX5_room 6 = .ok (.getfield 112, 3) := dk_180 0 112 (dk_at dksX5_room_0 6 rfl rfl)
theorem dX5_room_9 : decode cX5_room 9 = .ok (.iconst 1, 1) := dk_4 (dk_at dksX5_room_0 9 rfl rfl)
theorem dX5_room_10 : decode cX5_room 10 = .ok (.isub, 1) := dk_100 (dk_at dksX5_room_0 10 rfl rfl)
theorem dX5_room_11 : decode cX5_room 11 = .ok (.invokevirtual 108, 3) := dk_182 0 108 (dk_at dksX5_room_0 11 rfl rfl)
theorem dX5_room_14 : decode cX5_room 14 = .ok (.ireturn, 1) := dk_172 (dk_at dksX5_room_0 14 rfl rfl)
abbrev cX5_part : ByteArray := prog_11_method_18_code
def yX5_part : MethodName := ⟨RX5, "part", "(I)Z"⟩
def dkwX5_part_3 : List UInt8 := [4, 27, 120, 128, 181, 0, 176, 167, 0, 5, 3, 172, 4, 172]
abbrev dktX5_part_3 : List UInt8 := dkwX5_part_3 ++ []
def dkwX5_part_2 : List UInt8 := [128, 181, 0, 171, 167, 0, 32, 42, 18, 174, 182, 0, 97, 153, 0, 21, 42, 180, 0, 18, 89, 180, 0, 176]
abbrev dktX5_part_2 : List UInt8 := dkwX5_part_2 ++ dktX5_part_3
def dkwX5_part_1 : List UInt8 := [79, 167, 0, 59, 42, 18, 169, 182, 0, 97, 153, 0, 21, 42, 180, 0, 18, 89, 180, 0, 171, 4, 27, 120]
abbrev dktX5_part_1 : List UInt8 := dkwX5_part_1 ++ dktX5_part_2
def dkwX5_part_0 : List UInt8 := [42, 18, 165, 182, 0, 97, 153, 0, 22, 42, 180, 0, 18, 180, 0, 167, 27, 42, 3, 16, 9, 182, 0, 108]
abbrev dktX5_part_0 : List UInt8 := dkwX5_part_0 ++ dktX5_part_1
theorem dksX5_part_0 : cX5_part.data.toList.drop 0 = dktX5_part_0 := by decide +kernel
theorem dksX5_part_1 : cX5_part.data.toList.drop 24 = dktX5_part_1 := dk_seg dksX5_part_0 24 rfl rfl
theorem dksX5_part_2 : cX5_part.data.toList.drop 48 = dktX5_part_2 := dk_seg dksX5_part_1 24 rfl rfl
theorem dksX5_part_3 : cX5_part.data.toList.drop 72 = dktX5_part_3 := dk_seg dksX5_part_2 24 rfl rfl
theorem dX5_part_0 : decode cX5_part 0 = .ok (.aload_n 0, 1) := dk_42 (dk_at dksX5_part_0 0 rfl rfl)
theorem dX5_part_1 : decode cX5_part 1 = .ok (.ldc 165, 2) := dk_18 165 (dk_at dksX5_part_0 1 rfl rfl)
theorem dX5_part_3 : decode cX5_part 3 = .ok (.invokevirtual 97, 3) := dk_182 0 97 (dk_at dksX5_part_0 3 rfl rfl)
theorem dX5_part_6 : decode cX5_part 6 = .ok (.ifCond .eq 22, 3) := dk_153 0 22 (dk_at dksX5_part_0 6 rfl rfl)
theorem dX5_part_9 : decode cX5_part 9 = .ok (.aload_n 0, 1) := dk_42 (dk_at dksX5_part_0 9 rfl rfl)
theorem dX5_part_10 : decode cX5_part 10 = .ok (.getfield 18, 3) := dk_180 0 18 (dk_at dksX5_part_0 10 rfl rfl)
theorem dX5_part_13 : decode cX5_part 13 = .ok (.getfield 167, 3) := dk_180 0 167 (dk_at dksX5_part_0 13 rfl rfl)
theorem dX5_part_16 : decode cX5_part 16 = .ok (.iload_n 1, 1) := dk_27 (dk_at dksX5_part_0 16 rfl rfl)
theorem dX5_part_17 : decode cX5_part 17 = .ok (.aload_n 0, 1) := dk_42 (dk_at dksX5_part_0 17 rfl rfl)
theorem dX5_part_18 : decode cX5_part 18 = .ok (.iconst 0, 1) := dk_3 (dk_at dksX5_part_0 18 rfl rfl)
theorem dX5_part_19 : decode cX5_part 19 = .ok (.bipush 9, 2) := dk_16 9 (dk_at dksX5_part_0 19 rfl rfl)
theorem dX5_part_21 : decode cX5_part 21 = .ok (.invokevirtual 108, 3) := dk_182 0 108 (dk_at dksX5_part_0 21 rfl rfl)
theorem dX5_part_24 : decode cX5_part 24 = .ok (.iastore, 1) := dk_79 (dk_at dksX5_part_1 0 rfl rfl)
theorem dX5_part_25 : decode cX5_part 25 = .ok (.goto 59, 3) := dk_167 0 59 (dk_at dksX5_part_1 1 rfl rfl)
theorem dX5_part_28 : decode cX5_part 28 = .ok (.aload_n 0, 1) := dk_42 (dk_at dksX5_part_1 4 rfl rfl)
theorem dX5_part_29 : decode cX5_part 29 = .ok (.ldc 169, 2) := dk_18 169 (dk_at dksX5_part_1 5 rfl rfl)
theorem dX5_part_31 : decode cX5_part 31 = .ok (.invokevirtual 97, 3) := dk_182 0 97 (dk_at dksX5_part_1 7 rfl rfl)
theorem dX5_part_34 : decode cX5_part 34 = .ok (.ifCond .eq 21, 3) := dk_153 0 21 (dk_at dksX5_part_1 10 rfl rfl)
theorem dX5_part_37 : decode cX5_part 37 = .ok (.aload_n 0, 1) := dk_42 (dk_at dksX5_part_1 13 rfl rfl)
theorem dX5_part_38 : decode cX5_part 38 = .ok (.getfield 18, 3) := dk_180 0 18 (dk_at dksX5_part_1 14 rfl rfl)
theorem dX5_part_41 : decode cX5_part 41 = .ok (.dup, 1) := dk_89 (dk_at dksX5_part_1 17 rfl rfl)
theorem dX5_part_42 : decode cX5_part 42 = .ok (.getfield 171, 3) := dk_180 0 171 (dk_at dksX5_part_1 18 rfl rfl)
theorem dX5_part_45 : decode cX5_part 45 = .ok (.iconst 1, 1) := dk_4 (dk_at dksX5_part_1 21 rfl rfl)
theorem dX5_part_46 : decode cX5_part 46 = .ok (.iload_n 1, 1) := dk_27 (dk_at dksX5_part_1 22 rfl rfl)
theorem dX5_part_47 : decode cX5_part 47 = .ok (.ishl, 1) := dk_120 (dk_at dksX5_part_1 23 rfl rfl)
theorem dX5_part_48 : decode cX5_part 48 = .ok (.ior, 1) := dk_128 (dk_at dksX5_part_2 0 rfl rfl)
theorem dX5_part_49 : decode cX5_part 49 = .ok (.putfield 171, 3) := dk_181 0 171 (dk_at dksX5_part_2 1 rfl rfl)
theorem dX5_part_52 : decode cX5_part 52 = .ok (.goto 32, 3) := dk_167 0 32 (dk_at dksX5_part_2 4 rfl rfl)
theorem dX5_part_55 : decode cX5_part 55 = .ok (.aload_n 0, 1) := dk_42 (dk_at dksX5_part_2 7 rfl rfl)
theorem dX5_part_56 : decode cX5_part 56 = .ok (.ldc 174, 2) := dk_18 174 (dk_at dksX5_part_2 8 rfl rfl)
theorem dX5_part_58 : decode cX5_part 58 = .ok (.invokevirtual 97, 3) := dk_182 0 97 (dk_at dksX5_part_2 10 rfl rfl)
theorem dX5_part_61 : decode cX5_part 61 = .ok (.ifCond .eq 21, 3) := dk_153 0 21 (dk_at dksX5_part_2 13 rfl rfl)
theorem dX5_part_64 : decode cX5_part 64 = .ok (.aload_n 0, 1) := dk_42 (dk_at dksX5_part_2 16 rfl rfl)
theorem dX5_part_65 : decode cX5_part 65 = .ok (.getfield 18, 3) := dk_180 0 18 (dk_at dksX5_part_2 17 rfl rfl)
theorem dX5_part_68 : decode cX5_part 68 = .ok (.dup, 1) := dk_89 (dk_at dksX5_part_2 20 rfl rfl)
theorem dX5_part_69 : decode cX5_part 69 = .ok (.getfield 176, 3) := dk_180 0 176 (dk_at dksX5_part_2 21 rfl rfl)
theorem dX5_part_72 : decode cX5_part 72 = .ok (.iconst 1, 1) := dk_4 (dk_at dksX5_part_3 0 rfl rfl)
theorem dX5_part_73 : decode cX5_part 73 = .ok (.iload_n 1, 1) := dk_27 (dk_at dksX5_part_3 1 rfl rfl)
theorem dX5_part_74 : decode cX5_part 74 = .ok (.ishl, 1) := dk_120 (dk_at dksX5_part_3 2 rfl rfl)
theorem dX5_part_75 : decode cX5_part 75 = .ok (.ior, 1) := dk_128 (dk_at dksX5_part_3 3 rfl rfl)
theorem dX5_part_76 : decode cX5_part 76 = .ok (.putfield 176, 3) := dk_181 0 176 (dk_at dksX5_part_3 4 rfl rfl)
theorem dX5_part_79 : decode cX5_part 79 = .ok (.goto 5, 3) := dk_167 0 5 (dk_at dksX5_part_3 7 rfl rfl)
theorem dX5_part_82 : decode cX5_part 82 = .ok (.iconst 0, 1) := dk_3 (dk_at dksX5_part_3 10 rfl rfl)
theorem dX5_part_83 : decode cX5_part 83 = .ok (.ireturn, 1) := dk_172 (dk_at dksX5_part_3 11 rfl rfl)
theorem dX5_part_84 : decode cX5_part 84 = .ok (.iconst 1, 1) := dk_4 (dk_at dksX5_part_3 12 rfl rfl)
theorem dX5_part_85 : decode cX5_part 85 = .ok (.ireturn, 1) := dk_172 (dk_at dksX5_part_3 13 rfl rfl)
abbrev cX5_lost : ByteArray := prog_11_method_19_code
def yX5_lost : MethodName := ⟨RX5, "lost", "()V"⟩
def dkwX5_lost_1 : List UInt8 := [153, 0, 4, 177, 42, 180, 0, 18, 27, 181, 0, 180, 42, 180, 0, 18, 28, 181, 0, 182, 177]
abbrev dktX5_lost_1 : List UInt8 := dkwX5_lost_1 ++ []
def dkwX5_lost_0 : List UInt8 := [42, 182, 0, 153, 60, 42, 18, 178, 182, 0, 102, 42, 3, 7, 182, 0, 108, 61, 42, 180, 0, 75]
abbrev dktX5_lost_0 : List UInt8 := dkwX5_lost_0 ++ dktX5_lost_1
theorem dksX5_lost_0 : cX5_lost.data.toList.drop 0 = dktX5_lost_0 := by decide +kernel
theorem dksX5_lost_1 : cX5_lost.data.toList.drop 22 = dktX5_lost_1 := dk_seg dksX5_lost_0 22 rfl rfl
theorem dX5_lost_0 : decode cX5_lost 0 = .ok (.aload_n 0, 1) := dk_42 (dk_at dksX5_lost_0 0 rfl rfl)
theorem dX5_lost_1 : decode cX5_lost 1 = .ok (.invokevirtual 153, 3) := dk_182 0 153 (dk_at dksX5_lost_0 1 rfl rfl)
theorem dX5_lost_4 : decode cX5_lost 4 = .ok (.istore_n 1, 1) := dk_60 (dk_at dksX5_lost_0 4 rfl rfl)
theorem dX5_lost_5 : decode cX5_lost 5 = .ok (.aload_n 0, 1) := dk_42 (dk_at dksX5_lost_0 5 rfl rfl)
theorem dX5_lost_6 : decode cX5_lost 6 = .ok (.ldc 178, 2) := dk_18 178 (dk_at dksX5_lost_0 6 rfl rfl)
theorem dX5_lost_8 : decode cX5_lost 8 = .ok (.invokevirtual 102, 3) := dk_182 0 102 (dk_at dksX5_lost_0 8 rfl rfl)
theorem dX5_lost_11 : decode cX5_lost 11 = .ok (.aload_n 0, 1) := dk_42 (dk_at dksX5_lost_0 11 rfl rfl)
theorem dX5_lost_12 : decode cX5_lost 12 = .ok (.iconst 0, 1) := dk_3 (dk_at dksX5_lost_0 12 rfl rfl)
theorem dX5_lost_13 : decode cX5_lost 13 = .ok (.iconst 4, 1) := dk_7 (dk_at dksX5_lost_0 13 rfl rfl)
theorem dX5_lost_14 : decode cX5_lost 14 = .ok (.invokevirtual 108, 3) := dk_182 0 108 (dk_at dksX5_lost_0 14 rfl rfl)
theorem dX5_lost_17 : decode cX5_lost 17 = .ok (.istore_n 2, 1) := dk_61 (dk_at dksX5_lost_0 17 rfl rfl)
theorem dX5_lost_18 : decode cX5_lost 18 = .ok (.aload_n 0, 1) := dk_42 (dk_at dksX5_lost_0 18 rfl rfl)
theorem dX5_lost_19 : decode cX5_lost 19 = .ok (.getfield 75, 3) := dk_180 0 75 (dk_at dksX5_lost_0 19 rfl rfl)
theorem dX5_lost_22 : decode cX5_lost 22 = .ok (.ifCond .eq 4, 3) := dk_153 0 4 (dk_at dksX5_lost_1 0 rfl rfl)
theorem dX5_lost_25 : decode cX5_lost 25 = .ok (.return_, 1) := dk_177 (dk_at dksX5_lost_1 3 rfl rfl)
theorem dX5_lost_26 : decode cX5_lost 26 = .ok (.aload_n 0, 1) := dk_42 (dk_at dksX5_lost_1 4 rfl rfl)
theorem dX5_lost_27 : decode cX5_lost 27 = .ok (.getfield 18, 3) := dk_180 0 18 (dk_at dksX5_lost_1 5 rfl rfl)
theorem dX5_lost_30 : decode cX5_lost 30 = .ok (.iload_n 1, 1) := dk_27 (dk_at dksX5_lost_1 8 rfl rfl)
theorem dX5_lost_31 : decode cX5_lost 31 = .ok (.putfield 180, 3) := dk_181 0 180 (dk_at dksX5_lost_1 9 rfl rfl)
theorem dX5_lost_34 : decode cX5_lost 34 = .ok (.aload_n 0, 1) := dk_42 (dk_at dksX5_lost_1 12 rfl rfl)
theorem dX5_lost_35 : decode cX5_lost 35 = .ok (.getfield 18, 3) := dk_180 0 18 (dk_at dksX5_lost_1 13 rfl rfl)
theorem dX5_lost_38 : decode cX5_lost 38 = .ok (.iload_n 2, 1) := dk_28 (dk_at dksX5_lost_1 16 rfl rfl)
theorem dX5_lost_39 : decode cX5_lost 39 = .ok (.putfield 182, 3) := dk_181 0 182 (dk_at dksX5_lost_1 17 rfl rfl)
theorem dX5_lost_42 : decode cX5_lost 42 = .ok (.return_, 1) := dk_177 (dk_at dksX5_lost_1 20 rfl rfl)
abbrev cX5_hurts : ByteArray := prog_11_method_20_code
def yX5_hurts : MethodName := ⟨RX5, "hurts", "()V"⟩
def dkwX5_hurts_1 : List UInt8 := [180, 0, 18, 43, 181, 0, 192, 177]
abbrev dktX5_hurts_1 : List UInt8 := dkwX5_hurts_1 ++ []
def dkwX5_hurts_0 : List UInt8 := [42, 3, 181, 0, 184, 42, 16, 58, 182, 0, 120, 42, 182, 0, 188, 76, 42, 180, 0, 75, 154, 0, 11, 42]
abbrev dktX5_hurts_0 : List UInt8 := dkwX5_hurts_0 ++ dktX5_hurts_1
theorem dksX5_hurts_0 : cX5_hurts.data.toList.drop 0 = dktX5_hurts_0 := by decide +kernel
theorem dksX5_hurts_1 : cX5_hurts.data.toList.drop 24 = dktX5_hurts_1 := dk_seg dksX5_hurts_0 24 rfl rfl
theorem dX5_hurts_0 : decode cX5_hurts 0 = .ok (.aload_n 0, 1) := dk_42 (dk_at dksX5_hurts_0 0 rfl rfl)
theorem dX5_hurts_1 : decode cX5_hurts 1 = .ok (.iconst 0, 1) := dk_3 (dk_at dksX5_hurts_0 1 rfl rfl)
theorem dX5_hurts_2 : decode cX5_hurts 2 = .ok (.putfield 184, 3) := dk_181 0 184 (dk_at dksX5_hurts_0 2 rfl rfl)
theorem dX5_hurts_5 : decode cX5_hurts 5 = .ok (.aload_n 0, 1) := dk_42 (dk_at dksX5_hurts_0 5 rfl rfl)
theorem dX5_hurts_6 : decode cX5_hurts 6 = .ok (.bipush 58, 2) := dk_16 58 (dk_at dksX5_hurts_0 6 rfl rfl)
theorem dX5_hurts_8 : decode cX5_hurts 8 = .ok (.invokevirtual 120, 3) := dk_182 0 120 (dk_at dksX5_hurts_0 8 rfl rfl)
theorem dX5_hurts_11 : decode cX5_hurts 11 = .ok (.aload_n 0, 1) := dk_42 (dk_at dksX5_hurts_0 11 rfl rfl)
theorem dX5_hurts_12 : decode cX5_hurts 12 = .ok (.invokevirtual 188, 3) := dk_182 0 188 (dk_at dksX5_hurts_0 12 rfl rfl)
theorem dX5_hurts_15 : decode cX5_hurts 15 = .ok (.astore_n 1, 1) := dk_76 (dk_at dksX5_hurts_0 15 rfl rfl)
theorem dX5_hurts_16 : decode cX5_hurts 16 = .ok (.aload_n 0, 1) := dk_42 (dk_at dksX5_hurts_0 16 rfl rfl)
theorem dX5_hurts_17 : decode cX5_hurts 17 = .ok (.getfield 75, 3) := dk_180 0 75 (dk_at dksX5_hurts_0 17 rfl rfl)
theorem dX5_hurts_20 : decode cX5_hurts 20 = .ok (.ifCond .ne 11, 3) := dk_154 0 11 (dk_at dksX5_hurts_0 20 rfl rfl)
theorem dX5_hurts_23 : decode cX5_hurts 23 = .ok (.aload_n 0, 1) := dk_42 (dk_at dksX5_hurts_0 23 rfl rfl)
theorem dX5_hurts_24 : decode cX5_hurts 24 = .ok (.getfield 18, 3) := dk_180 0 18 (dk_at dksX5_hurts_1 0 rfl rfl)
theorem dX5_hurts_27 : decode cX5_hurts 27 = .ok (.aload_n 1, 1) := dk_43 (dk_at dksX5_hurts_1 3 rfl rfl)
theorem dX5_hurts_28 : decode cX5_hurts 28 = .ok (.putfield 192, 3) := dk_181 0 192 (dk_at dksX5_hurts_1 4 rfl rfl)
theorem dX5_hurts_31 : decode cX5_hurts 31 = .ok (.return_, 1) := dk_177 (dk_at dksX5_hurts_1 7 rfl rfl)
abbrev cX5_sum : ByteArray := prog_11_method_26_code
def yX5_sum : MethodName := ⟨RX5, "sum", "()LBackRescue$Sum;"⟩
def dkwX5_sum_2 : List UInt8 := [167, 255, 215, 43, 176]
abbrev dktX5_sum_2 : List UInt8 := dkwX5_sum_2 ++ []
def dkwX5_sum_1 : List UInt8 := [180, 0, 55, 61, 42, 182, 0, 90, 187, 0, 240, 89, 43, 28, 42, 182, 0, 237, 183, 0, 242, 76]
abbrev dktX5_sum_1 : List UInt8 := dkwX5_sum_1 ++ dktX5_sum_2
def dkwX5_sum_0 : List UInt8 := [42, 182, 0, 237, 76, 42, 16, 43, 182, 0, 229, 154, 0, 12, 42, 16, 45, 182, 0, 229, 153, 0, 29, 42]
abbrev dktX5_sum_0 : List UInt8 := dkwX5_sum_0 ++ dktX5_sum_1
theorem dksX5_sum_0 : cX5_sum.data.toList.drop 0 = dktX5_sum_0 := by decide +kernel
theorem dksX5_sum_1 : cX5_sum.data.toList.drop 24 = dktX5_sum_1 := dk_seg dksX5_sum_0 24 rfl rfl
theorem dksX5_sum_2 : cX5_sum.data.toList.drop 46 = dktX5_sum_2 := dk_seg dksX5_sum_1 22 rfl rfl
theorem dX5_sum_0 : decode cX5_sum 0 = .ok (.aload_n 0, 1) := dk_42 (dk_at dksX5_sum_0 0 rfl rfl)
theorem dX5_sum_1 : decode cX5_sum 1 = .ok (.invokevirtual 237, 3) := dk_182 0 237 (dk_at dksX5_sum_0 1 rfl rfl)
theorem dX5_sum_4 : decode cX5_sum 4 = .ok (.astore_n 1, 1) := dk_76 (dk_at dksX5_sum_0 4 rfl rfl)
theorem dX5_sum_5 : decode cX5_sum 5 = .ok (.aload_n 0, 1) := dk_42 (dk_at dksX5_sum_0 5 rfl rfl)
theorem dX5_sum_6 : decode cX5_sum 6 = .ok (.bipush 43, 2) := dk_16 43 (dk_at dksX5_sum_0 6 rfl rfl)
theorem dX5_sum_8 : decode cX5_sum 8 = .ok (.invokevirtual 229, 3) := dk_182 0 229 (dk_at dksX5_sum_0 8 rfl rfl)
theorem dX5_sum_11 : decode cX5_sum 11 = .ok (.ifCond .ne 12, 3) := dk_154 0 12 (dk_at dksX5_sum_0 11 rfl rfl)
theorem dX5_sum_14 : decode cX5_sum 14 = .ok (.aload_n 0, 1) := dk_42 (dk_at dksX5_sum_0 14 rfl rfl)
theorem dX5_sum_15 : decode cX5_sum 15 = .ok (.bipush 45, 2) := dk_16 45 (dk_at dksX5_sum_0 15 rfl rfl)
theorem dX5_sum_17 : decode cX5_sum 17 = .ok (.invokevirtual 229, 3) := dk_182 0 229 (dk_at dksX5_sum_0 17 rfl rfl)
theorem dX5_sum_20 : decode cX5_sum 20 = .ok (.ifCond .eq 29, 3) := dk_153 0 29 (dk_at dksX5_sum_0 20 rfl rfl)
theorem dX5_sum_23 : decode cX5_sum 23 = .ok (.aload_n 0, 1) := dk_42 (dk_at dksX5_sum_0 23 rfl rfl)
theorem dX5_sum_24 : decode cX5_sum 24 = .ok (.getfield 55, 3) := dk_180 0 55 (dk_at dksX5_sum_1 0 rfl rfl)
theorem dX5_sum_27 : decode cX5_sum 27 = .ok (.istore_n 2, 1) := dk_61 (dk_at dksX5_sum_1 3 rfl rfl)
theorem dX5_sum_28 : decode cX5_sum 28 = .ok (.aload_n 0, 1) := dk_42 (dk_at dksX5_sum_1 4 rfl rfl)
theorem dX5_sum_29 : decode cX5_sum 29 = .ok (.invokevirtual 90, 3) := dk_182 0 90 (dk_at dksX5_sum_1 5 rfl rfl)
theorem dX5_sum_32 : decode cX5_sum 32 = .ok (.new 240, 3) := dk_187 0 240 (dk_at dksX5_sum_1 8 rfl rfl)
theorem dX5_sum_35 : decode cX5_sum 35 = .ok (.dup, 1) := dk_89 (dk_at dksX5_sum_1 11 rfl rfl)
theorem dX5_sum_36 : decode cX5_sum 36 = .ok (.aload_n 1, 1) := dk_43 (dk_at dksX5_sum_1 12 rfl rfl)
theorem dX5_sum_37 : decode cX5_sum 37 = .ok (.iload_n 2, 1) := dk_28 (dk_at dksX5_sum_1 13 rfl rfl)
theorem dX5_sum_38 : decode cX5_sum 38 = .ok (.aload_n 0, 1) := dk_42 (dk_at dksX5_sum_1 14 rfl rfl)
theorem dX5_sum_39 : decode cX5_sum 39 = .ok (.invokevirtual 237, 3) := dk_182 0 237 (dk_at dksX5_sum_1 15 rfl rfl)
theorem dX5_sum_42 : decode cX5_sum 42 = .ok (.invokespecial 242, 3) := dk_183 0 242 (dk_at dksX5_sum_1 18 rfl rfl)
theorem dX5_sum_45 : decode cX5_sum 45 = .ok (.astore_n 1, 1) := dk_76 (dk_at dksX5_sum_1 21 rfl rfl)
theorem dX5_sum_46 : decode cX5_sum 46 = .ok (.goto (-41), 3) := dk_167 255 215 (dk_at dksX5_sum_2 0 rfl rfl)
theorem dX5_sum_49 : decode cX5_sum 49 = .ok (.aload_n 1, 1) := dk_43 (dk_at dksX5_sum_2 3 rfl rfl)
theorem dX5_sum_50 : decode cX5_sum 50 = .ok (.areturn, 1) := dk_176 (dk_at dksX5_sum_2 4 rfl rfl)
abbrev cX5_term : ByteArray := prog_11_method_27_code
def yX5_term : MethodName := ⟨RX5, "term", "()LBackRescue$Sum;"⟩
def dkwX5_term_1 : List UInt8 := [16, 42, 42, 182, 0, 243, 183, 0, 242, 76, 167, 255, 228, 43, 176]
abbrev dktX5_term_1 : List UInt8 := dkwX5_term_1 ++ []
def dkwX5_term_0 : List UInt8 := [42, 182, 0, 243, 76, 42, 16, 42, 182, 0, 229, 153, 0, 25, 42, 182, 0, 90, 187, 0, 240, 89, 43]
abbrev dktX5_term_0 : List UInt8 := dkwX5_term_0 ++ dktX5_term_1
theorem dksX5_term_0 : cX5_term.data.toList.drop 0 = dktX5_term_0 := by decide +kernel
theorem dksX5_term_1 : cX5_term.data.toList.drop 23 = dktX5_term_1 := dk_seg dksX5_term_0 23 rfl rfl
theorem dX5_term_0 : decode cX5_term 0 = .ok (.aload_n 0, 1) := dk_42 (dk_at dksX5_term_0 0 rfl rfl)
theorem dX5_term_1 : decode cX5_term 1 = .ok (.invokevirtual 243, 3) := dk_182 0 243 (dk_at dksX5_term_0 1 rfl rfl)
theorem dX5_term_4 : decode cX5_term 4 = .ok (.astore_n 1, 1) := dk_76 (dk_at dksX5_term_0 4 rfl rfl)
theorem dX5_term_5 : decode cX5_term 5 = .ok (.aload_n 0, 1) := dk_42 (dk_at dksX5_term_0 5 rfl rfl)
theorem dX5_term_6 : decode cX5_term 6 = .ok (.bipush 42, 2) := dk_16 42 (dk_at dksX5_term_0 6 rfl rfl)
theorem dX5_term_8 : decode cX5_term 8 = .ok (.invokevirtual 229, 3) := dk_182 0 229 (dk_at dksX5_term_0 8 rfl rfl)
theorem dX5_term_11 : decode cX5_term 11 = .ok (.ifCond .eq 25, 3) := dk_153 0 25 (dk_at dksX5_term_0 11 rfl rfl)
theorem dX5_term_14 : decode cX5_term 14 = .ok (.aload_n 0, 1) := dk_42 (dk_at dksX5_term_0 14 rfl rfl)
theorem dX5_term_15 : decode cX5_term 15 = .ok (.invokevirtual 90, 3) := dk_182 0 90 (dk_at dksX5_term_0 15 rfl rfl)
theorem dX5_term_18 : decode cX5_term 18 = .ok (.new 240, 3) := dk_187 0 240 (dk_at dksX5_term_0 18 rfl rfl)
theorem dX5_term_21 : decode cX5_term 21 = .ok (.dup, 1) := dk_89 (dk_at dksX5_term_0 21 rfl rfl)
theorem dX5_term_22 : decode cX5_term 22 = .ok (.aload_n 1, 1) := dk_43 (dk_at dksX5_term_0 22 rfl rfl)
theorem dX5_term_23 : decode cX5_term 23 = .ok (.bipush 42, 2) := dk_16 42 (dk_at dksX5_term_1 0 rfl rfl)
theorem dX5_term_25 : decode cX5_term 25 = .ok (.aload_n 0, 1) := dk_42 (dk_at dksX5_term_1 2 rfl rfl)
theorem dX5_term_26 : decode cX5_term 26 = .ok (.invokevirtual 243, 3) := dk_182 0 243 (dk_at dksX5_term_1 3 rfl rfl)
theorem dX5_term_29 : decode cX5_term 29 = .ok (.invokespecial 242, 3) := dk_183 0 242 (dk_at dksX5_term_1 6 rfl rfl)
theorem dX5_term_32 : decode cX5_term 32 = .ok (.astore_n 1, 1) := dk_76 (dk_at dksX5_term_1 9 rfl rfl)
theorem dX5_term_33 : decode cX5_term 33 = .ok (.goto (-28), 3) := dk_167 255 228 (dk_at dksX5_term_1 10 rfl rfl)
theorem dX5_term_36 : decode cX5_term 36 = .ok (.aload_n 1, 1) := dk_43 (dk_at dksX5_term_1 13 rfl rfl)
theorem dX5_term_37 : decode cX5_term 37 = .ok (.areturn, 1) := dk_176 (dk_at dksX5_term_1 14 rfl rfl)
abbrev cX5_atom : ByteArray := prog_11_method_29_code
def yX5_atom : MethodName := ⟨RX5, "atom", "()LBackRescue$Sum;"⟩
def dkwX5_atom_4 : List UInt8 := [44, 176]
abbrev dktX5_atom_4 : List UInt8 := dkwX5_atom_4 ++ []
def dkwX5_atom_3 : List UInt8 := [182, 0, 188, 167, 0, 4, 1, 77, 42, 16, 41, 182, 0, 120, 42, 89, 180, 0, 202, 4, 100, 181, 0, 202]
abbrev dktX5_atom_3 : List UInt8 := dkwX5_atom_3 ++ dktX5_atom_4
def dkwX5_atom_2 : List UInt8 := [17, 3, 231, 182, 0, 108, 183, 1, 7, 176, 42, 182, 0, 221, 42, 180, 0, 75, 154, 0, 10, 42]
abbrev dktX5_atom_2 : List UInt8 := dkwX5_atom_2 ++ dktX5_atom_3
def dkwX5_atom_1 : List UInt8 := [187, 1, 1, 89, 27, 183, 1, 3, 176, 42, 16, 40, 182, 0, 229, 154, 0, 19, 187, 1, 5, 89, 42, 3]
abbrev dktX5_atom_1 : List UInt8 := dkwX5_atom_1 ++ dktX5_atom_2
def dkwX5_atom_0 : List UInt8 := [42, 18, 249, 182, 0, 86, 153, 0, 8, 42, 182, 0, 251, 176, 42, 182, 0, 254, 60, 27, 2, 159, 0, 12]
abbrev dktX5_atom_0 : List UInt8 := dkwX5_atom_0 ++ dktX5_atom_1
theorem dksX5_atom_0 : cX5_atom.data.toList.drop 0 = dktX5_atom_0 := by decide +kernel
theorem dksX5_atom_1 : cX5_atom.data.toList.drop 24 = dktX5_atom_1 := dk_seg dksX5_atom_0 24 rfl rfl
theorem dksX5_atom_2 : cX5_atom.data.toList.drop 48 = dktX5_atom_2 := dk_seg dksX5_atom_1 24 rfl rfl
theorem dksX5_atom_3 : cX5_atom.data.toList.drop 70 = dktX5_atom_3 := dk_seg dksX5_atom_2 22 rfl rfl
theorem dksX5_atom_4 : cX5_atom.data.toList.drop 94 = dktX5_atom_4 := dk_seg dksX5_atom_3 24 rfl rfl
theorem dX5_atom_0 : decode cX5_atom 0 = .ok (.aload_n 0, 1) := dk_42 (dk_at dksX5_atom_0 0 rfl rfl)
theorem dX5_atom_1 : decode cX5_atom 1 = .ok (.ldc 249, 2) := dk_18 249 (dk_at dksX5_atom_0 1 rfl rfl)
theorem dX5_atom_3 : decode cX5_atom 3 = .ok (.invokevirtual 86, 3) := dk_182 0 86 (dk_at dksX5_atom_0 3 rfl rfl)
theorem dX5_atom_6 : decode cX5_atom 6 = .ok (.ifCond .eq 8, 3) := dk_153 0 8 (dk_at dksX5_atom_0 6 rfl rfl)
theorem dX5_atom_9 : decode cX5_atom 9 = .ok (.aload_n 0, 1) := dk_42 (dk_at dksX5_atom_0 9 rfl rfl)
theorem dX5_atom_10 : decode cX5_atom 10 = .ok (.invokevirtual 251, 3) := dk_182 0 251 (dk_at dksX5_atom_0 10 rfl rfl)
theorem dX5_atom_13 : decode cX5_atom 13 = .ok (.areturn, 1) := dk_176 (dk_at dksX5_atom_0 13 rfl rfl)
theorem dX5_atom_14 : decode cX5_atom 14 = .ok (.aload_n 0, 1) := dk_42 (dk_at dksX5_atom_0 14 rfl rfl)
theorem dX5_atom_15 : decode cX5_atom 15 = .ok (.invokevirtual 254, 3) := dk_182 0 254 (dk_at dksX5_atom_0 15 rfl rfl)
theorem dX5_atom_18 : decode cX5_atom 18 = .ok (.istore_n 1, 1) := dk_60 (dk_at dksX5_atom_0 18 rfl rfl)
theorem dX5_atom_19 : decode cX5_atom 19 = .ok (.iload_n 1, 1) := dk_27 (dk_at dksX5_atom_0 19 rfl rfl)
theorem dX5_atom_20 : decode cX5_atom 20 = .ok (.iconst (-1), 1) := dk_2 (dk_at dksX5_atom_0 20 rfl rfl)
theorem dX5_atom_21 : decode cX5_atom 21 = .ok (.if_icmp .eq 12, 3) := dk_159 0 12 (dk_at dksX5_atom_0 21 rfl rfl)
theorem dX5_atom_24 : decode cX5_atom 24 = .ok (.new 257, 3) := dk_187 1 1 (dk_at dksX5_atom_1 0 rfl rfl)
theorem dX5_atom_27 : decode cX5_atom 27 = .ok (.dup, 1) := dk_89 (dk_at dksX5_atom_1 3 rfl rfl)
theorem dX5_atom_28 : decode cX5_atom 28 = .ok (.iload_n 1, 1) := dk_27 (dk_at dksX5_atom_1 4 rfl rfl)
theorem dX5_atom_29 : decode cX5_atom 29 = .ok (.invokespecial 259, 3) := dk_183 1 3 (dk_at dksX5_atom_1 5 rfl rfl)
theorem dX5_atom_32 : decode cX5_atom 32 = .ok (.areturn, 1) := dk_176 (dk_at dksX5_atom_1 8 rfl rfl)
theorem dX5_atom_33 : decode cX5_atom 33 = .ok (.aload_n 0, 1) := dk_42 (dk_at dksX5_atom_1 9 rfl rfl)
theorem dX5_atom_34 : decode cX5_atom 34 = .ok (.bipush 40, 2) := dk_16 40 (dk_at dksX5_atom_1 10 rfl rfl)
theorem dX5_atom_36 : decode cX5_atom 36 = .ok (.invokevirtual 229, 3) := dk_182 0 229 (dk_at dksX5_atom_1 12 rfl rfl)
theorem dX5_atom_39 : decode cX5_atom 39 = .ok (.ifCond .ne 19, 3) := dk_154 0 19 (dk_at dksX5_atom_1 15 rfl rfl)
theorem dX5_atom_42 : decode cX5_atom 42 = .ok (.new 261, 3) := dk_187 1 5 (dk_at dksX5_atom_1 18 rfl rfl)
theorem dX5_atom_45 : decode cX5_atom 45 = .ok (.dup, 1) := dk_89 (dk_at dksX5_atom_1 21 rfl rfl)
theorem dX5_atom_46 : decode cX5_atom 46 = .ok (.aload_n 0, 1) := dk_42 (dk_at dksX5_atom_1 22 rfl rfl)
theorem dX5_atom_47 : decode cX5_atom 47 = .ok (.iconst 0, 1) := dk_3 (dk_at dksX5_atom_1 23 rfl rfl)
theorem dX5_atom_48 : decode cX5_atom 48 = .ok (.sipush 999, 3) := dk_17 3 231 (dk_at dksX5_atom_2 0 rfl rfl)
theorem dX5_atom_51 : decode cX5_atom 51 = .ok (.invokevirtual 108, 3) := dk_182 0 108 (dk_at dksX5_atom_2 3 rfl rfl)
theorem dX5_atom_54 : decode cX5_atom 54 = .ok (.invokespecial 263, 3) := dk_183 1 7 (dk_at dksX5_atom_2 6 rfl rfl)
theorem dX5_atom_57 : decode cX5_atom 57 = .ok (.areturn, 1) := dk_176 (dk_at dksX5_atom_2 9 rfl rfl)
theorem dX5_atom_58 : decode cX5_atom 58 = .ok (.aload_n 0, 1) := dk_42 (dk_at dksX5_atom_2 10 rfl rfl)
theorem dX5_atom_59 : decode cX5_atom 59 = .ok (.invokevirtual 221, 3) := dk_182 0 221 (dk_at dksX5_atom_2 11 rfl rfl)
theorem dX5_atom_62 : decode cX5_atom 62 = .ok (.aload_n 0, 1) := dk_42 (dk_at dksX5_atom_2 14 rfl rfl)
theorem dX5_atom_63 : decode cX5_atom 63 = .ok (.getfield 75, 3) := dk_180 0 75 (dk_at dksX5_atom_2 15 rfl rfl)
theorem dX5_atom_66 : decode cX5_atom 66 = .ok (.ifCond .ne 10, 3) := dk_154 0 10 (dk_at dksX5_atom_2 18 rfl rfl)
theorem dX5_atom_69 : decode cX5_atom 69 = .ok (.aload_n 0, 1) := dk_42 (dk_at dksX5_atom_2 21 rfl rfl)
theorem dX5_atom_70 : decode cX5_atom 70 = .ok (.invokevirtual 188, 3) := dk_182 0 188 (dk_at dksX5_atom_3 0 rfl rfl)
theorem dX5_atom_73 : decode cX5_atom 73 = .ok (.goto 4, 3) := dk_167 0 4 (dk_at dksX5_atom_3 3 rfl rfl)
theorem dX5_atom_76 : decode cX5_atom 76 = .ok (.aconst_null, 1) := dk_1 (dk_at dksX5_atom_3 6 rfl rfl)
theorem dX5_atom_77 : decode cX5_atom 77 = .ok (.astore_n 2, 1) := dk_77 (dk_at dksX5_atom_3 7 rfl rfl)
theorem dX5_atom_78 : decode cX5_atom 78 = .ok (.aload_n 0, 1) := dk_42 (dk_at dksX5_atom_3 8 rfl rfl)
theorem dX5_atom_79 : decode cX5_atom 79 = .ok (.bipush 41, 2) := dk_16 41 (dk_at dksX5_atom_3 9 rfl rfl)
theorem dX5_atom_81 : decode cX5_atom 81 = .ok (.invokevirtual 120, 3) := dk_182 0 120 (dk_at dksX5_atom_3 11 rfl rfl)
theorem dX5_atom_84 : decode cX5_atom 84 = .ok (.aload_n 0, 1) := dk_42 (dk_at dksX5_atom_3 14 rfl rfl)
theorem dX5_atom_85 : decode cX5_atom 85 = .ok (.dup, 1) := dk_89 (dk_at dksX5_atom_3 15 rfl rfl)
theorem dX5_atom_86 : decode cX5_atom 86 = .ok (.getfield 202, 3) := dk_180 0 202 (dk_at dksX5_atom_3 16 rfl rfl)
theorem dX5_atom_89 : decode cX5_atom 89 = .ok (.iconst 1, 1) := dk_4 (dk_at dksX5_atom_3 19 rfl rfl)
theorem dX5_atom_90 : decode cX5_atom 90 = .ok (.isub, 1) := dk_100 (dk_at dksX5_atom_3 20 rfl rfl)
theorem dX5_atom_91 : decode cX5_atom 91 = .ok (.putfield 202, 3) := dk_181 0 202 (dk_at dksX5_atom_3 21 rfl rfl)
theorem dX5_atom_94 : decode cX5_atom 94 = .ok (.aload_n 2, 1) := dk_44 (dk_at dksX5_atom_4 0 rfl rfl)
theorem dX5_atom_95 : decode cX5_atom 95 = .ok (.areturn, 1) := dk_176 (dk_at dksX5_atom_4 1 rfl rfl)
abbrev cX5_asks : ByteArray := prog_11_method_30_code
def yX5_asks : MethodName := ⟨RX5, "asks", "()LBackRescue$Sum;"⟩
def dkwX5_asks_3 : List UInt8 := [182, 0, 102, 42, 89, 180, 0, 202, 4, 100, 181, 0, 202, 187, 1, 13, 89, 43, 44, 45, 183, 1, 15, 176]
abbrev dktX5_asks_3 : List UInt8 := dkwX5_asks_3 ++ []
def dkwX5_asks_2 : List UInt8 := [182, 0, 102, 42, 180, 0, 75, 154, 0, 10, 42, 182, 0, 188, 167, 0, 4, 1, 78, 42, 19, 1, 12]
abbrev dktX5_asks_2 : List UInt8 := dkwX5_asks_2 ++ dktX5_asks_3
def dkwX5_asks_1 : List UInt8 := [182, 0, 102, 42, 180, 0, 75, 154, 0, 10, 42, 182, 0, 188, 167, 0, 4, 1, 77, 42, 19, 1, 10]
abbrev dktX5_asks_1 : List UInt8 := dkwX5_asks_1 ++ dktX5_asks_2
def dkwX5_asks_0 : List UInt8 := [42, 182, 0, 221, 42, 180, 0, 75, 154, 0, 10, 42, 182, 0, 195, 167, 0, 4, 1, 76, 42, 19, 1, 8]
abbrev dktX5_asks_0 : List UInt8 := dkwX5_asks_0 ++ dktX5_asks_1
theorem dksX5_asks_0 : cX5_asks.data.toList.drop 0 = dktX5_asks_0 := by decide +kernel
theorem dksX5_asks_1 : cX5_asks.data.toList.drop 24 = dktX5_asks_1 := dk_seg dksX5_asks_0 24 rfl rfl
theorem dksX5_asks_2 : cX5_asks.data.toList.drop 47 = dktX5_asks_2 := dk_seg dksX5_asks_1 23 rfl rfl
theorem dksX5_asks_3 : cX5_asks.data.toList.drop 70 = dktX5_asks_3 := dk_seg dksX5_asks_2 23 rfl rfl
theorem dX5_asks_0 : decode cX5_asks 0 = .ok (.aload_n 0, 1) := dk_42 (dk_at dksX5_asks_0 0 rfl rfl)
theorem dX5_asks_1 : decode cX5_asks 1 = .ok (.invokevirtual 221, 3) := dk_182 0 221 (dk_at dksX5_asks_0 1 rfl rfl)
theorem dX5_asks_4 : decode cX5_asks 4 = .ok (.aload_n 0, 1) := dk_42 (dk_at dksX5_asks_0 4 rfl rfl)
theorem dX5_asks_5 : decode cX5_asks 5 = .ok (.getfield 75, 3) := dk_180 0 75 (dk_at dksX5_asks_0 5 rfl rfl)
theorem dX5_asks_8 : decode cX5_asks 8 = .ok (.ifCond .ne 10, 3) := dk_154 0 10 (dk_at dksX5_asks_0 8 rfl rfl)
theorem dX5_asks_11 : decode cX5_asks 11 = .ok (.aload_n 0, 1) := dk_42 (dk_at dksX5_asks_0 11 rfl rfl)
theorem dX5_asks_12 : decode cX5_asks 12 = .ok (.invokevirtual 195, 3) := dk_182 0 195 (dk_at dksX5_asks_0 12 rfl rfl)
theorem dX5_asks_15 : decode cX5_asks 15 = .ok (.goto 4, 3) := dk_167 0 4 (dk_at dksX5_asks_0 15 rfl rfl)
theorem dX5_asks_18 : decode cX5_asks 18 = .ok (.aconst_null, 1) := dk_1 (dk_at dksX5_asks_0 18 rfl rfl)
theorem dX5_asks_19 : decode cX5_asks 19 = .ok (.astore_n 1, 1) := dk_76 (dk_at dksX5_asks_0 19 rfl rfl)
theorem dX5_asks_20 : decode cX5_asks 20 = .ok (.aload_n 0, 1) := dk_42 (dk_at dksX5_asks_0 20 rfl rfl)
theorem dX5_asks_21 : decode cX5_asks 21 = .ok (.ldc_w 264, 3) := dk_19 1 8 (dk_at dksX5_asks_0 21 rfl rfl)
theorem dX5_asks_24 : decode cX5_asks 24 = .ok (.invokevirtual 102, 3) := dk_182 0 102 (dk_at dksX5_asks_1 0 rfl rfl)
theorem dX5_asks_27 : decode cX5_asks 27 = .ok (.aload_n 0, 1) := dk_42 (dk_at dksX5_asks_1 3 rfl rfl)
theorem dX5_asks_28 : decode cX5_asks 28 = .ok (.getfield 75, 3) := dk_180 0 75 (dk_at dksX5_asks_1 4 rfl rfl)
theorem dX5_asks_31 : decode cX5_asks 31 = .ok (.ifCond .ne 10, 3) := dk_154 0 10 (dk_at dksX5_asks_1 7 rfl rfl)
theorem dX5_asks_34 : decode cX5_asks 34 = .ok (.aload_n 0, 1) := dk_42 (dk_at dksX5_asks_1 10 rfl rfl)
theorem dX5_asks_35 : decode cX5_asks 35 = .ok (.invokevirtual 188, 3) := dk_182 0 188 (dk_at dksX5_asks_1 11 rfl rfl)
theorem dX5_asks_38 : decode cX5_asks 38 = .ok (.goto 4, 3) := dk_167 0 4 (dk_at dksX5_asks_1 14 rfl rfl)
theorem dX5_asks_41 : decode cX5_asks 41 = .ok (.aconst_null, 1) := dk_1 (dk_at dksX5_asks_1 17 rfl rfl)
theorem dX5_asks_42 : decode cX5_asks 42 = .ok (.astore_n 2, 1) := dk_77 (dk_at dksX5_asks_1 18 rfl rfl)
theorem dX5_asks_43 : decode cX5_asks 43 = .ok (.aload_n 0, 1) := dk_42 (dk_at dksX5_asks_1 19 rfl rfl)
theorem dX5_asks_44 : decode cX5_asks 44 = .ok (.ldc_w 266, 3) := dk_19 1 10 (dk_at dksX5_asks_1 20 rfl rfl)
theorem dX5_asks_47 : decode cX5_asks 47 = .ok (.invokevirtual 102, 3) := dk_182 0 102 (dk_at dksX5_asks_2 0 rfl rfl)
theorem dX5_asks_50 : decode cX5_asks 50 = .ok (.aload_n 0, 1) := dk_42 (dk_at dksX5_asks_2 3 rfl rfl)
theorem dX5_asks_51 : decode cX5_asks 51 = .ok (.getfield 75, 3) := dk_180 0 75 (dk_at dksX5_asks_2 4 rfl rfl)
theorem dX5_asks_54 : decode cX5_asks 54 = .ok (.ifCond .ne 10, 3) := dk_154 0 10 (dk_at dksX5_asks_2 7 rfl rfl)
theorem dX5_asks_57 : decode cX5_asks 57 = .ok (.aload_n 0, 1) := dk_42 (dk_at dksX5_asks_2 10 rfl rfl)
theorem dX5_asks_58 : decode cX5_asks 58 = .ok (.invokevirtual 188, 3) := dk_182 0 188 (dk_at dksX5_asks_2 11 rfl rfl)
theorem dX5_asks_61 : decode cX5_asks 61 = .ok (.goto 4, 3) := dk_167 0 4 (dk_at dksX5_asks_2 14 rfl rfl)
theorem dX5_asks_64 : decode cX5_asks 64 = .ok (.aconst_null, 1) := dk_1 (dk_at dksX5_asks_2 17 rfl rfl)
theorem dX5_asks_65 : decode cX5_asks 65 = .ok (.astore_n 3, 1) := dk_78 (dk_at dksX5_asks_2 18 rfl rfl)
theorem dX5_asks_66 : decode cX5_asks 66 = .ok (.aload_n 0, 1) := dk_42 (dk_at dksX5_asks_2 19 rfl rfl)
theorem dX5_asks_67 : decode cX5_asks 67 = .ok (.ldc_w 268, 3) := dk_19 1 12 (dk_at dksX5_asks_2 20 rfl rfl)
theorem dX5_asks_70 : decode cX5_asks 70 = .ok (.invokevirtual 102, 3) := dk_182 0 102 (dk_at dksX5_asks_3 0 rfl rfl)
theorem dX5_asks_73 : decode cX5_asks 73 = .ok (.aload_n 0, 1) := dk_42 (dk_at dksX5_asks_3 3 rfl rfl)
theorem dX5_asks_74 : decode cX5_asks 74 = .ok (.dup, 1) := dk_89 (dk_at dksX5_asks_3 4 rfl rfl)
theorem dX5_asks_75 : decode cX5_asks 75 = .ok (.getfield 202, 3) := dk_180 0 202 (dk_at dksX5_asks_3 5 rfl rfl)
theorem dX5_asks_78 : decode cX5_asks 78 = .ok (.iconst 1, 1) := dk_4 (dk_at dksX5_asks_3 8 rfl rfl)
theorem dX5_asks_79 : decode cX5_asks 79 = .ok (.isub, 1) := dk_100 (dk_at dksX5_asks_3 9 rfl rfl)
theorem dX5_asks_80 : decode cX5_asks 80 = .ok (.putfield 202, 3) := dk_181 0 202 (dk_at dksX5_asks_3 10 rfl rfl)
theorem dX5_asks_83 : decode cX5_asks 83 = .ok (.new 269, 3) := dk_187 1 13 (dk_at dksX5_asks_3 13 rfl rfl)
theorem dX5_asks_86 : decode cX5_asks 86 = .ok (.dup, 1) := dk_89 (dk_at dksX5_asks_3 16 rfl rfl)
theorem dX5_asks_87 : decode cX5_asks 87 = .ok (.aload_n 1, 1) := dk_43 (dk_at dksX5_asks_3 17 rfl rfl)
theorem dX5_asks_88 : decode cX5_asks 88 = .ok (.aload_n 2, 1) := dk_44 (dk_at dksX5_asks_3 18 rfl rfl)
theorem dX5_asks_89 : decode cX5_asks 89 = .ok (.aload_n 3, 1) := dk_45 (dk_at dksX5_asks_3 19 rfl rfl)
theorem dX5_asks_90 : decode cX5_asks 90 = .ok (.invokespecial 271, 3) := dk_183 1 15 (dk_at dksX5_asks_3 20 rfl rfl)
theorem dX5_asks_93 : decode cX5_asks 93 = .ok (.areturn, 1) := dk_176 (dk_at dksX5_asks_3 23 rfl rfl)
abbrev cX5_goesIn : ByteArray := prog_11_method_22_code
def yX5_goesIn : MethodName := ⟨RX5, "goesIn", "()V"⟩
def dkwX5_goesIn_1 : List UInt8 := [42, 180, 0, 75, 154, 0, 7, 42, 182, 0, 90, 177]
abbrev dktX5_goesIn_1 : List UInt8 := dkwX5_goesIn_1 ++ []
def dkwX5_goesIn_0 : List UInt8 := [42, 180, 0, 202, 16, 6, 160, 0, 8, 42, 7, 182, 0, 93, 42, 89, 180, 0, 202, 4, 96, 181, 0, 202]
abbrev dktX5_goesIn_0 : List UInt8 := dkwX5_goesIn_0 ++ dktX5_goesIn_1
theorem dksX5_goesIn_0 : cX5_goesIn.data.toList.drop 0 = dktX5_goesIn_0 := by decide +kernel
theorem dksX5_goesIn_1 : cX5_goesIn.data.toList.drop 24 = dktX5_goesIn_1 := dk_seg dksX5_goesIn_0 24 rfl rfl
theorem dX5_goesIn_0 : decode cX5_goesIn 0 = .ok (.aload_n 0, 1) := dk_42 (dk_at dksX5_goesIn_0 0 rfl rfl)
theorem dX5_goesIn_1 : decode cX5_goesIn 1 = .ok (.getfield 202, 3) := dk_180 0 202 (dk_at dksX5_goesIn_0 1 rfl rfl)
theorem dX5_goesIn_4 : decode cX5_goesIn 4 = .ok (.bipush 6, 2) := dk_16 6 (dk_at dksX5_goesIn_0 4 rfl rfl)
theorem dX5_goesIn_6 : decode cX5_goesIn 6 = .ok (.if_icmp .ne 8, 3) := dk_160 0 8 (dk_at dksX5_goesIn_0 6 rfl rfl)
theorem dX5_goesIn_9 : decode cX5_goesIn 9 = .ok (.aload_n 0, 1) := dk_42 (dk_at dksX5_goesIn_0 9 rfl rfl)
theorem dX5_goesIn_10 : decode cX5_goesIn 10 = .ok (.iconst 4, 1) := dk_7 (dk_at dksX5_goesIn_0 10 rfl rfl)
theorem dX5_goesIn_11 : decode cX5_goesIn 11 = .ok (.invokevirtual 93, 3) := dk_182 0 93 (dk_at dksX5_goesIn_0 11 rfl rfl)
theorem dX5_goesIn_14 : decode cX5_goesIn 14 = .ok (.aload_n 0, 1) := dk_42 (dk_at dksX5_goesIn_0 14 rfl rfl)
theorem dX5_goesIn_15 : decode cX5_goesIn 15 = .ok (.dup, 1) := dk_89 (dk_at dksX5_goesIn_0 15 rfl rfl)
theorem dX5_goesIn_16 : decode cX5_goesIn 16 = .ok (.getfield 202, 3) := dk_180 0 202 (dk_at dksX5_goesIn_0 16 rfl rfl)
theorem dX5_goesIn_19 : decode cX5_goesIn 19 = .ok (.iconst 1, 1) := dk_4 (dk_at dksX5_goesIn_0 19 rfl rfl)
theorem dX5_goesIn_20 : decode cX5_goesIn 20 = .ok (.iadd, 1) := dk_96 (dk_at dksX5_goesIn_0 20 rfl rfl)
theorem dX5_goesIn_21 : decode cX5_goesIn 21 = .ok (.putfield 202, 3) := dk_181 0 202 (dk_at dksX5_goesIn_0 21 rfl rfl)
theorem dX5_goesIn_24 : decode cX5_goesIn 24 = .ok (.aload_n 0, 1) := dk_42 (dk_at dksX5_goesIn_1 0 rfl rfl)
theorem dX5_goesIn_25 : decode cX5_goesIn 25 = .ok (.getfield 75, 3) := dk_180 0 75 (dk_at dksX5_goesIn_1 1 rfl rfl)
theorem dX5_goesIn_28 : decode cX5_goesIn 28 = .ok (.ifCond .ne 7, 3) := dk_154 0 7 (dk_at dksX5_goesIn_1 4 rfl rfl)
theorem dX5_goesIn_31 : decode cX5_goesIn 31 = .ok (.aload_n 0, 1) := dk_42 (dk_at dksX5_goesIn_1 7 rfl rfl)
theorem dX5_goesIn_32 : decode cX5_goesIn 32 = .ok (.invokevirtual 90, 3) := dk_182 0 90 (dk_at dksX5_goesIn_1 8 rfl rfl)
theorem dX5_goesIn_35 : decode cX5_goesIn 35 = .ok (.return_, 1) := dk_177 (dk_at dksX5_goesIn_1 11 rfl rfl)
abbrev cX5_truth : ByteArray := prog_11_method_23_code
def yX5_truth : MethodName := ⟨RX5, "truth", "()LBackRescue$Truth;"⟩
def dkwX5_truth_1 : List UInt8 := [183, 0, 211, 76, 167, 255, 233, 43, 176]
abbrev dktX5_truth_1 : List UInt8 := dkwX5_truth_1 ++ []
def dkwX5_truth_0 : List UInt8 := [42, 182, 0, 205, 76, 42, 18, 207, 182, 0, 97, 153, 0, 20, 187, 0, 209, 89, 43, 3, 42, 182, 0, 205]
abbrev dktX5_truth_0 : List UInt8 := dkwX5_truth_0 ++ dktX5_truth_1
theorem dksX5_truth_0 : cX5_truth.data.toList.drop 0 = dktX5_truth_0 := by decide +kernel
theorem dksX5_truth_1 : cX5_truth.data.toList.drop 24 = dktX5_truth_1 := dk_seg dksX5_truth_0 24 rfl rfl
theorem dX5_truth_0 : decode cX5_truth 0 = .ok (.aload_n 0, 1) := dk_42 (dk_at dksX5_truth_0 0 rfl rfl)
theorem dX5_truth_1 : decode cX5_truth 1 = .ok (.invokevirtual 205, 3) := dk_182 0 205 (dk_at dksX5_truth_0 1 rfl rfl)
theorem dX5_truth_4 : decode cX5_truth 4 = .ok (.astore_n 1, 1) := dk_76 (dk_at dksX5_truth_0 4 rfl rfl)
theorem dX5_truth_5 : decode cX5_truth 5 = .ok (.aload_n 0, 1) := dk_42 (dk_at dksX5_truth_0 5 rfl rfl)
theorem dX5_truth_6 : decode cX5_truth 6 = .ok (.ldc 207, 2) := dk_18 207 (dk_at dksX5_truth_0 6 rfl rfl)
theorem dX5_truth_8 : decode cX5_truth 8 = .ok (.invokevirtual 97, 3) := dk_182 0 97 (dk_at dksX5_truth_0 8 rfl rfl)
theorem dX5_truth_11 : decode cX5_truth 11 = .ok (.ifCond .eq 20, 3) := dk_153 0 20 (dk_at dksX5_truth_0 11 rfl rfl)
theorem dX5_truth_14 : decode cX5_truth 14 = .ok (.new 209, 3) := dk_187 0 209 (dk_at dksX5_truth_0 14 rfl rfl)
theorem dX5_truth_17 : decode cX5_truth 17 = .ok (.dup, 1) := dk_89 (dk_at dksX5_truth_0 17 rfl rfl)
theorem dX5_truth_18 : decode cX5_truth 18 = .ok (.aload_n 1, 1) := dk_43 (dk_at dksX5_truth_0 18 rfl rfl)
theorem dX5_truth_19 : decode cX5_truth 19 = .ok (.iconst 0, 1) := dk_3 (dk_at dksX5_truth_0 19 rfl rfl)
theorem dX5_truth_20 : decode cX5_truth 20 = .ok (.aload_n 0, 1) := dk_42 (dk_at dksX5_truth_0 20 rfl rfl)
theorem dX5_truth_21 : decode cX5_truth 21 = .ok (.invokevirtual 205, 3) := dk_182 0 205 (dk_at dksX5_truth_0 21 rfl rfl)
theorem dX5_truth_24 : decode cX5_truth 24 = .ok (.invokespecial 211, 3) := dk_183 0 211 (dk_at dksX5_truth_1 0 rfl rfl)
theorem dX5_truth_27 : decode cX5_truth 27 = .ok (.astore_n 1, 1) := dk_76 (dk_at dksX5_truth_1 3 rfl rfl)
theorem dX5_truth_28 : decode cX5_truth 28 = .ok (.goto (-23), 3) := dk_167 255 233 (dk_at dksX5_truth_1 4 rfl rfl)
theorem dX5_truth_31 : decode cX5_truth 31 = .ok (.aload_n 1, 1) := dk_43 (dk_at dksX5_truth_1 7 rfl rfl)
theorem dX5_truth_32 : decode cX5_truth 32 = .ok (.areturn, 1) := dk_176 (dk_at dksX5_truth_1 8 rfl rfl)
abbrev cX5_both : ByteArray := prog_11_method_24_code
def yX5_both : MethodName := ⟨RX5, "both", "()LBackRescue$Truth;"⟩
def dkwX5_both_1 : List UInt8 := [183, 0, 211, 76, 167, 255, 233, 43, 176]
abbrev dktX5_both_1 : List UInt8 := dkwX5_both_1 ++ []
def dkwX5_both_0 : List UInt8 := [42, 182, 0, 214, 76, 42, 18, 217, 182, 0, 97, 153, 0, 20, 187, 0, 209, 89, 43, 4, 42, 182, 0, 214]
abbrev dktX5_both_0 : List UInt8 := dkwX5_both_0 ++ dktX5_both_1
theorem dksX5_both_0 : cX5_both.data.toList.drop 0 = dktX5_both_0 := by decide +kernel
theorem dksX5_both_1 : cX5_both.data.toList.drop 24 = dktX5_both_1 := dk_seg dksX5_both_0 24 rfl rfl
theorem dX5_both_0 : decode cX5_both 0 = .ok (.aload_n 0, 1) := dk_42 (dk_at dksX5_both_0 0 rfl rfl)
theorem dX5_both_1 : decode cX5_both 1 = .ok (.invokevirtual 214, 3) := dk_182 0 214 (dk_at dksX5_both_0 1 rfl rfl)
theorem dX5_both_4 : decode cX5_both 4 = .ok (.astore_n 1, 1) := dk_76 (dk_at dksX5_both_0 4 rfl rfl)
theorem dX5_both_5 : decode cX5_both 5 = .ok (.aload_n 0, 1) := dk_42 (dk_at dksX5_both_0 5 rfl rfl)
theorem dX5_both_6 : decode cX5_both 6 = .ok (.ldc 217, 2) := dk_18 217 (dk_at dksX5_both_0 6 rfl rfl)
theorem dX5_both_8 : decode cX5_both 8 = .ok (.invokevirtual 97, 3) := dk_182 0 97 (dk_at dksX5_both_0 8 rfl rfl)
theorem dX5_both_11 : decode cX5_both 11 = .ok (.ifCond .eq 20, 3) := dk_153 0 20 (dk_at dksX5_both_0 11 rfl rfl)
theorem dX5_both_14 : decode cX5_both 14 = .ok (.new 209, 3) := dk_187 0 209 (dk_at dksX5_both_0 14 rfl rfl)
theorem dX5_both_17 : decode cX5_both 17 = .ok (.dup, 1) := dk_89 (dk_at dksX5_both_0 17 rfl rfl)
theorem dX5_both_18 : decode cX5_both 18 = .ok (.aload_n 1, 1) := dk_43 (dk_at dksX5_both_0 18 rfl rfl)
theorem dX5_both_19 : decode cX5_both 19 = .ok (.iconst 1, 1) := dk_4 (dk_at dksX5_both_0 19 rfl rfl)
theorem dX5_both_20 : decode cX5_both 20 = .ok (.aload_n 0, 1) := dk_42 (dk_at dksX5_both_0 20 rfl rfl)
theorem dX5_both_21 : decode cX5_both 21 = .ok (.invokevirtual 214, 3) := dk_182 0 214 (dk_at dksX5_both_0 21 rfl rfl)
theorem dX5_both_24 : decode cX5_both 24 = .ok (.invokespecial 211, 3) := dk_183 0 211 (dk_at dksX5_both_1 0 rfl rfl)
theorem dX5_both_27 : decode cX5_both 27 = .ok (.astore_n 1, 1) := dk_76 (dk_at dksX5_both_1 3 rfl rfl)
theorem dX5_both_28 : decode cX5_both 28 = .ok (.goto (-23), 3) := dk_167 255 233 (dk_at dksX5_both_1 4 rfl rfl)
theorem dX5_both_31 : decode cX5_both 31 = .ok (.aload_n 1, 1) := dk_43 (dk_at dksX5_both_1 7 rfl rfl)
theorem dX5_both_32 : decode cX5_both 32 = .ok (.areturn, 1) := dk_176 (dk_at dksX5_both_1 8 rfl rfl)
abbrev cX5_unit : ByteArray := prog_11_method_25_code
def yX5_unit : MethodName := ⟨RX5, "unit", "()LBackRescue$Truth;"⟩
def dkwX5_unit_6 : List UInt8 := [182, 0, 90, 187, 0, 232, 89, 43, 28, 42, 182, 0, 188, 183, 0, 234, 176]
abbrev dktX5_unit_6 : List UInt8 := dkwX5_unit_6 ++ []
def dkwX5_unit_5 : List UInt8 := [16, 60, 159, 0, 14, 28, 16, 62, 159, 0, 8, 42, 5, 182, 0, 93, 42, 180, 0, 75, 154, 0, 7, 42]
abbrev dktX5_unit_5 : List UInt8 := dkwX5_unit_5 ++ dktX5_unit_6
def dkwX5_unit_4 : List UInt8 := [182, 0, 188, 76, 42, 180, 0, 55, 61, 42, 180, 0, 75, 154, 0, 26, 28, 16, 61, 159, 0, 20, 28]
abbrev dktX5_unit_4 : List UInt8 := dkwX5_unit_4 ++ dktX5_unit_5
def dkwX5_unit_3 : List UInt8 := [167, 0, 4, 1, 76, 42, 16, 93, 182, 0, 120, 42, 89, 180, 0, 202, 4, 100, 181, 0, 202, 43, 176, 42]
abbrev dktX5_unit_3 : List UInt8 := dkwX5_unit_3 ++ dktX5_unit_4
def dkwX5_unit_2 : List UInt8 := [42, 16, 91, 182, 0, 229, 153, 0, 41, 42, 182, 0, 221, 42, 180, 0, 75, 154, 0, 10, 42, 182, 0, 195]
abbrev dktX5_unit_2 : List UInt8 := dkwX5_unit_2 ++ dktX5_unit_3
def dkwX5_unit_1 : List UInt8 := [42, 182, 0, 214, 183, 0, 226, 167, 0, 4, 1, 76, 42, 89, 180, 0, 202, 4, 100, 181, 0, 202, 43, 176]
abbrev dktX5_unit_1 : List UInt8 := dkwX5_unit_1 ++ dktX5_unit_2
def dkwX5_unit_0 : List UInt8 := [42, 18, 219, 182, 0, 86, 153, 0, 42, 42, 182, 0, 221, 42, 180, 0, 75, 154, 0, 17, 187, 0, 224, 89]
abbrev dktX5_unit_0 : List UInt8 := dkwX5_unit_0 ++ dktX5_unit_1
theorem dksX5_unit_0 : cX5_unit.data.toList.drop 0 = dktX5_unit_0 := by decide +kernel
theorem dksX5_unit_1 : cX5_unit.data.toList.drop 24 = dktX5_unit_1 := dk_seg dksX5_unit_0 24 rfl rfl
theorem dksX5_unit_2 : cX5_unit.data.toList.drop 48 = dktX5_unit_2 := dk_seg dksX5_unit_1 24 rfl rfl
theorem dksX5_unit_3 : cX5_unit.data.toList.drop 72 = dktX5_unit_3 := dk_seg dksX5_unit_2 24 rfl rfl
theorem dksX5_unit_4 : cX5_unit.data.toList.drop 96 = dktX5_unit_4 := dk_seg dksX5_unit_3 24 rfl rfl
theorem dksX5_unit_5 : cX5_unit.data.toList.drop 119 = dktX5_unit_5 := dk_seg dksX5_unit_4 23 rfl rfl
theorem dksX5_unit_6 : cX5_unit.data.toList.drop 143 = dktX5_unit_6 := dk_seg dksX5_unit_5 24 rfl rfl
theorem dX5_unit_0 : decode cX5_unit 0 = .ok (.aload_n 0, 1) := dk_42 (dk_at dksX5_unit_0 0 rfl rfl)
theorem dX5_unit_1 : decode cX5_unit 1 = .ok (.ldc 219, 2) := dk_18 219 (dk_at dksX5_unit_0 1 rfl rfl)
theorem dX5_unit_3 : decode cX5_unit 3 = .ok (.invokevirtual 86, 3) := dk_182 0 86 (dk_at dksX5_unit_0 3 rfl rfl)
theorem dX5_unit_6 : decode cX5_unit 6 = .ok (.ifCond .eq 42, 3) := dk_153 0 42 (dk_at dksX5_unit_0 6 rfl rfl)
theorem dX5_unit_9 : decode cX5_unit 9 = .ok (.aload_n 0, 1) := dk_42 (dk_at dksX5_unit_0 9 rfl rfl)
theorem dX5_unit_10 : decode cX5_unit 10 = .ok (.invokevirtual 221, 3) := dk_182 0 221 (dk_at dksX5_unit_0 10 rfl rfl)
theorem dX5_unit_13 : decode cX5_unit 13 = .ok (.aload_n 0, 1) := dk_42 (dk_at dksX5_unit_0 13 rfl rfl)
theorem dX5_unit_14 : decode cX5_unit 14 = .ok (.getfield 75, 3) := dk_180 0 75 (dk_at dksX5_unit_0 14 rfl rfl)
theorem dX5_unit_17 : decode cX5_unit 17 = .ok (.ifCond .ne 17, 3) := dk_154 0 17 (dk_at dksX5_unit_0 17 rfl rfl)
theorem dX5_unit_20 : decode cX5_unit 20 = .ok (.new 224, 3) := dk_187 0 224 (dk_at dksX5_unit_0 20 rfl rfl)
theorem dX5_unit_23 : decode cX5_unit 23 = .ok (.dup, 1) := dk_89 (dk_at dksX5_unit_0 23 rfl rfl)
theorem dX5_unit_24 : decode cX5_unit 24 = .ok (.aload_n 0, 1) := dk_42 (dk_at dksX5_unit_1 0 rfl rfl)
theorem dX5_unit_25 : decode cX5_unit 25 = .ok (.invokevirtual 214, 3) := dk_182 0 214 (dk_at dksX5_unit_1 1 rfl rfl)
theorem dX5_unit_28 : decode cX5_unit 28 = .ok (.invokespecial 226, 3) := dk_183 0 226 (dk_at dksX5_unit_1 4 rfl rfl)
theorem dX5_unit_31 : decode cX5_unit 31 = .ok (.goto 4, 3) := dk_167 0 4 (dk_at dksX5_unit_1 7 rfl rfl)
theorem dX5_unit_34 : decode cX5_unit 34 = .ok (.aconst_null, 1) := dk_1 (dk_at dksX5_unit_1 10 rfl rfl)
theorem dX5_unit_35 : decode cX5_unit 35 = .ok (.astore_n 1, 1) := dk_76 (dk_at dksX5_unit_1 11 rfl rfl)
theorem dX5_unit_36 : decode cX5_unit 36 = .ok (.aload_n 0, 1) := dk_42 (dk_at dksX5_unit_1 12 rfl rfl)
theorem dX5_unit_37 : decode cX5_unit 37 = .ok (.dup, 1) := dk_89 (dk_at dksX5_unit_1 13 rfl rfl)
theorem dX5_unit_38 : decode cX5_unit 38 = .ok (.getfield 202, 3) := dk_180 0 202 (dk_at dksX5_unit_1 14 rfl rfl)
theorem dX5_unit_41 : decode cX5_unit 41 = .ok (.iconst 1, 1) := dk_4 (dk_at dksX5_unit_1 17 rfl rfl)
theorem dX5_unit_42 : decode cX5_unit 42 = .ok (.isub, 1) := dk_100 (dk_at dksX5_unit_1 18 rfl rfl)
theorem dX5_unit_43 : decode cX5_unit 43 = .ok (.putfield 202, 3) := dk_181 0 202 (dk_at dksX5_unit_1 19 rfl rfl)
theorem dX5_unit_46 : decode cX5_unit 46 = .ok (.aload_n 1, 1) := dk_43 (dk_at dksX5_unit_1 22 rfl rfl)
theorem dX5_unit_47 : decode cX5_unit 47 = .ok (.areturn, 1) := dk_176 (dk_at dksX5_unit_1 23 rfl rfl)
theorem dX5_unit_48 : decode cX5_unit 48 = .ok (.aload_n 0, 1) := dk_42 (dk_at dksX5_unit_2 0 rfl rfl)
theorem dX5_unit_49 : decode cX5_unit 49 = .ok (.bipush 91, 2) := dk_16 91 (dk_at dksX5_unit_2 1 rfl rfl)
theorem dX5_unit_51 : decode cX5_unit 51 = .ok (.invokevirtual 229, 3) := dk_182 0 229 (dk_at dksX5_unit_2 3 rfl rfl)
theorem dX5_unit_54 : decode cX5_unit 54 = .ok (.ifCond .eq 41, 3) := dk_153 0 41 (dk_at dksX5_unit_2 6 rfl rfl)
theorem dX5_unit_57 : decode cX5_unit 57 = .ok (.aload_n 0, 1) := dk_42 (dk_at dksX5_unit_2 9 rfl rfl)
theorem dX5_unit_58 : decode cX5_unit 58 = .ok (.invokevirtual 221, 3) := dk_182 0 221 (dk_at dksX5_unit_2 10 rfl rfl)
theorem dX5_unit_61 : decode cX5_unit 61 = .ok (.aload_n 0, 1) := dk_42 (dk_at dksX5_unit_2 13 rfl rfl)
theorem dX5_unit_62 : decode cX5_unit 62 = .ok (.getfield 75, 3) := dk_180 0 75 (dk_at dksX5_unit_2 14 rfl rfl)
theorem dX5_unit_65 : decode cX5_unit 65 = .ok (.ifCond .ne 10, 3) := dk_154 0 10 (dk_at dksX5_unit_2 17 rfl rfl)
theorem dX5_unit_68 : decode cX5_unit 68 = .ok (.aload_n 0, 1) := dk_42 (dk_at dksX5_unit_2 20 rfl rfl)
theorem dX5_unit_69 : decode cX5_unit 69 = .ok (.invokevirtual 195, 3) := dk_182 0 195 (dk_at dksX5_unit_2 21 rfl rfl)
theorem dX5_unit_72 : decode cX5_unit 72 = .ok (.goto 4, 3) := dk_167 0 4 (dk_at dksX5_unit_3 0 rfl rfl)
theorem dX5_unit_75 : decode cX5_unit 75 = .ok (.aconst_null, 1) := dk_1 (dk_at dksX5_unit_3 3 rfl rfl)
theorem dX5_unit_76 : decode cX5_unit 76 = .ok (.astore_n 1, 1) := dk_76 (dk_at dksX5_unit_3 4 rfl rfl)
theorem dX5_unit_77 : decode cX5_unit 77 = .ok (.aload_n 0, 1) := dk_42 (dk_at dksX5_unit_3 5 rfl rfl)
theorem dX5_unit_78 : decode cX5_unit 78 = .ok (.bipush 93, 2) := dk_16 93 (dk_at dksX5_unit_3 6 rfl rfl)
theorem dX5_unit_80 : decode cX5_unit 80 = .ok (.invokevirtual 120, 3) := dk_182 0 120 (dk_at dksX5_unit_3 8 rfl rfl)
theorem dX5_unit_83 : decode cX5_unit 83 = .ok (.aload_n 0, 1) := dk_42 (dk_at dksX5_unit_3 11 rfl rfl)
theorem dX5_unit_84 : decode cX5_unit 84 = .ok (.dup, 1) := dk_89 (dk_at dksX5_unit_3 12 rfl rfl)
theorem dX5_unit_85 : decode cX5_unit 85 = .ok (.getfield 202, 3) := dk_180 0 202 (dk_at dksX5_unit_3 13 rfl rfl)
theorem dX5_unit_88 : decode cX5_unit 88 = .ok (.iconst 1, 1) := dk_4 (dk_at dksX5_unit_3 16 rfl rfl)
theorem dX5_unit_89 : decode cX5_unit 89 = .ok (.isub, 1) := dk_100 (dk_at dksX5_unit_3 17 rfl rfl)
theorem dX5_unit_90 : decode cX5_unit 90 = .ok (.putfield 202, 3) := dk_181 0 202 (dk_at dksX5_unit_3 18 rfl rfl)
theorem dX5_unit_93 : decode cX5_unit 93 = .ok (.aload_n 1, 1) := dk_43 (dk_at dksX5_unit_3 21 rfl rfl)
theorem dX5_unit_94 : decode cX5_unit 94 = .ok (.areturn, 1) := dk_176 (dk_at dksX5_unit_3 22 rfl rfl)
theorem dX5_unit_95 : decode cX5_unit 95 = .ok (.aload_n 0, 1) := dk_42 (dk_at dksX5_unit_3 23 rfl rfl)
theorem dX5_unit_96 : decode cX5_unit 96 = .ok (.invokevirtual 188, 3) := dk_182 0 188 (dk_at dksX5_unit_4 0 rfl rfl)
theorem dX5_unit_99 : decode cX5_unit 99 = .ok (.astore_n 1, 1) := dk_76 (dk_at dksX5_unit_4 3 rfl rfl)
theorem dX5_unit_100 : decode cX5_unit 100 = .ok (.aload_n 0, 1) := dk_42 (dk_at dksX5_unit_4 4 rfl rfl)
theorem dX5_unit_101 : decode cX5_unit 101 = .ok (.getfield 55, 3) := dk_180 0 55 (dk_at dksX5_unit_4 5 rfl rfl)
theorem dX5_unit_104 : decode cX5_unit 104 = .ok (.istore_n 2, 1) := dk_61 (dk_at dksX5_unit_4 8 rfl rfl)
theorem dX5_unit_105 : decode cX5_unit 105 = .ok (.aload_n 0, 1) := dk_42 (dk_at dksX5_unit_4 9 rfl rfl)
theorem dX5_unit_106 : decode cX5_unit 106 = .ok (.getfield 75, 3) := dk_180 0 75 (dk_at dksX5_unit_4 10 rfl rfl)
theorem dX5_unit_109 : decode cX5_unit 109 = .ok (.ifCond .ne 26, 3) := dk_154 0 26 (dk_at dksX5_unit_4 13 rfl rfl)
theorem dX5_unit_112 : decode cX5_unit 112 = .ok (.iload_n 2, 1) := dk_28 (dk_at dksX5_unit_4 16 rfl rfl)
theorem dX5_unit_113 : decode cX5_unit 113 = .ok (.bipush 61, 2) := dk_16 61 (dk_at dksX5_unit_4 17 rfl rfl)
theorem dX5_unit_115 : decode cX5_unit 115 = .ok (.if_icmp .eq 20, 3) := dk_159 0 20 (dk_at dksX5_unit_4 19 rfl rfl)
theorem dX5_unit_118 : decode cX5_unit 118 = .ok (.iload_n 2, 1) := dk_28 (dk_at dksX5_unit_4 22 rfl rfl)
theorem dX5_unit_119 : decode cX5_unit 119 = .ok (.bipush 60, 2) := dk_16 60 (dk_at dksX5_unit_5 0 rfl rfl)
theorem dX5_unit_121 : decode cX5_unit 121 = .ok (.if_icmp .eq 14, 3) := dk_159 0 14 (dk_at dksX5_unit_5 2 rfl rfl)
theorem dX5_unit_124 : decode cX5_unit 124 = .ok (.iload_n 2, 1) := dk_28 (dk_at dksX5_unit_5 5 rfl rfl)
theorem dX5_unit_125 : decode cX5_unit 125 = .ok (.bipush 62, 2) := dk_16 62 (dk_at dksX5_unit_5 6 rfl rfl)
theorem dX5_unit_127 : decode cX5_unit 127 = .ok (.if_icmp .eq 8, 3) := dk_159 0 8 (dk_at dksX5_unit_5 8 rfl rfl)
theorem dX5_unit_130 : decode cX5_unit 130 = .ok (.aload_n 0, 1) := dk_42 (dk_at dksX5_unit_5 11 rfl rfl)
theorem dX5_unit_131 : decode cX5_unit 131 = .ok (.iconst 2, 1) := dk_5 (dk_at dksX5_unit_5 12 rfl rfl)
theorem dX5_unit_132 : decode cX5_unit 132 = .ok (.invokevirtual 93, 3) := dk_182 0 93 (dk_at dksX5_unit_5 13 rfl rfl)
theorem dX5_unit_135 : decode cX5_unit 135 = .ok (.aload_n 0, 1) := dk_42 (dk_at dksX5_unit_5 16 rfl rfl)
theorem dX5_unit_136 : decode cX5_unit 136 = .ok (.getfield 75, 3) := dk_180 0 75 (dk_at dksX5_unit_5 17 rfl rfl)
theorem dX5_unit_139 : decode cX5_unit 139 = .ok (.ifCond .ne 7, 3) := dk_154 0 7 (dk_at dksX5_unit_5 20 rfl rfl)
theorem dX5_unit_142 : decode cX5_unit 142 = .ok (.aload_n 0, 1) := dk_42 (dk_at dksX5_unit_5 23 rfl rfl)
theorem dX5_unit_143 : decode cX5_unit 143 = .ok (.invokevirtual 90, 3) := dk_182 0 90 (dk_at dksX5_unit_6 0 rfl rfl)
theorem dX5_unit_146 : decode cX5_unit 146 = .ok (.new 232, 3) := dk_187 0 232 (dk_at dksX5_unit_6 3 rfl rfl)
theorem dX5_unit_149 : decode cX5_unit 149 = .ok (.dup, 1) := dk_89 (dk_at dksX5_unit_6 6 rfl rfl)
theorem dX5_unit_150 : decode cX5_unit 150 = .ok (.aload_n 1, 1) := dk_43 (dk_at dksX5_unit_6 7 rfl rfl)
theorem dX5_unit_151 : decode cX5_unit 151 = .ok (.iload_n 2, 1) := dk_28 (dk_at dksX5_unit_6 8 rfl rfl)
theorem dX5_unit_152 : decode cX5_unit 152 = .ok (.aload_n 0, 1) := dk_42 (dk_at dksX5_unit_6 9 rfl rfl)
theorem dX5_unit_153 : decode cX5_unit 153 = .ok (.invokevirtual 188, 3) := dk_182 0 188 (dk_at dksX5_unit_6 10 rfl rfl)
theorem dX5_unit_156 : decode cX5_unit 156 = .ok (.invokespecial 234, 3) := dk_183 0 234 (dk_at dksX5_unit_6 13 rfl rfl)
theorem dX5_unit_159 : decode cX5_unit 159 = .ok (.areturn, 1) := dk_176 (dk_at dksX5_unit_6 16 rfl rfl)
abbrev cX5_isSign : ByteArray := prog_11_method_9_code
def yX5_isSign : MethodName := ⟨RX5, "isSign", "(I)Z"⟩
def dkwX5_isSign_0 : List UInt8 := [42, 180, 0, 75, 154, 0, 15, 42, 180, 0, 55, 27, 160, 0, 7, 4, 167, 0, 4, 3, 172]
abbrev dktX5_isSign_0 : List UInt8 := dkwX5_isSign_0 ++ []
theorem dksX5_isSign_0 : cX5_isSign.data.toList.drop 0 = dktX5_isSign_0 := by decide +kernel
theorem dX5_isSign_0 : decode cX5_isSign 0 = .ok (.aload_n 0, 1) := dk_42 (dk_at dksX5_isSign_0 0 rfl rfl)
theorem dX5_isSign_1 : decode cX5_isSign 1 = .ok (.getfield 75, 3) := dk_180 0 75 (dk_at dksX5_isSign_0 1 rfl rfl)
theorem dX5_isSign_4 : decode cX5_isSign 4 = .ok (.ifCond .ne 15, 3) := dk_154 0 15 (dk_at dksX5_isSign_0 4 rfl rfl)
theorem dX5_isSign_7 : decode cX5_isSign 7 = .ok (.aload_n 0, 1) := dk_42 (dk_at dksX5_isSign_0 7 rfl rfl)
theorem dX5_isSign_8 : decode cX5_isSign 8 = .ok (.getfield 55, 3) := dk_180 0 55 (dk_at dksX5_isSign_0 8 rfl rfl)
theorem dX5_isSign_11 : decode cX5_isSign 11 = .ok (.iload_n 1, 1) := dk_27 (dk_at dksX5_isSign_0 11 rfl rfl)
theorem dX5_isSign_12 : decode cX5_isSign 12 = .ok (.if_icmp .ne 7, 3) := dk_160 0 7 (dk_at dksX5_isSign_0 12 rfl rfl)
theorem dX5_isSign_15 : decode cX5_isSign 15 = .ok (.iconst 1, 1) := dk_4 (dk_at dksX5_isSign_0 15 rfl rfl)
theorem dX5_isSign_16 : decode cX5_isSign 16 = .ok (.goto 4, 3) := dk_167 0 4 (dk_at dksX5_isSign_0 16 rfl rfl)
theorem dX5_isSign_19 : decode cX5_isSign 19 = .ok (.iconst 0, 1) := dk_3 (dk_at dksX5_isSign_0 19 rfl rfl)
theorem dX5_isSign_20 : decode cX5_isSign 20 = .ok (.ireturn, 1) := dk_172 (dk_at dksX5_isSign_0 20 rfl rfl)
abbrev cX5_word : ByteArray := prog_11_method_28_code
def yX5_word : MethodName := ⟨RX5, "word", "()I"⟩
def dkwX5_word_3 : List UInt8 := [153, 0, 17, 42, 18, 248, 182, 0, 97, 153, 0, 8, 16, 6, 167, 0, 4, 2, 172]
abbrev dktX5_word_3 : List UInt8 := dkwX5_word_3 ++ []
def dkwX5_word_2 : List UInt8 := [182, 0, 97, 153, 0, 5, 7, 172, 42, 18, 246, 182, 0, 97, 153, 0, 5, 8, 172, 42, 180, 0, 184]
abbrev dktX5_word_2 : List UInt8 := dkwX5_word_2 ++ dktX5_word_3
def dkwX5_word_1 : List UInt8 := [18, 178, 182, 0, 97, 153, 0, 5, 5, 172, 42, 18, 174, 182, 0, 97, 153, 0, 5, 6, 172, 42, 18, 134]
abbrev dktX5_word_1 : List UInt8 := dkwX5_word_1 ++ dktX5_word_2
def dkwX5_word_0 : List UInt8 := [42, 18, 126, 182, 0, 97, 153, 0, 5, 3, 172, 42, 18, 165, 182, 0, 97, 153, 0, 5, 4, 172, 42]
abbrev dktX5_word_0 : List UInt8 := dkwX5_word_0 ++ dktX5_word_1
theorem dksX5_word_0 : cX5_word.data.toList.drop 0 = dktX5_word_0 := by decide +kernel
theorem dksX5_word_1 : cX5_word.data.toList.drop 23 = dktX5_word_1 := dk_seg dksX5_word_0 23 rfl rfl
theorem dksX5_word_2 : cX5_word.data.toList.drop 47 = dktX5_word_2 := dk_seg dksX5_word_1 24 rfl rfl
theorem dksX5_word_3 : cX5_word.data.toList.drop 70 = dktX5_word_3 := dk_seg dksX5_word_2 23 rfl rfl
theorem dX5_word_0 : decode cX5_word 0 = .ok (.aload_n 0, 1) := dk_42 (dk_at dksX5_word_0 0 rfl rfl)
theorem dX5_word_1 : decode cX5_word 1 = .ok (.ldc 126, 2) := dk_18 126 (dk_at dksX5_word_0 1 rfl rfl)
theorem dX5_word_3 : decode cX5_word 3 = .ok (.invokevirtual 97, 3) := dk_182 0 97 (dk_at dksX5_word_0 3 rfl rfl)
theorem dX5_word_6 : decode cX5_word 6 = .ok (.ifCond .eq 5, 3) := dk_153 0 5 (dk_at dksX5_word_0 6 rfl rfl)
theorem dX5_word_9 : decode cX5_word 9 = .ok (.iconst 0, 1) := dk_3 (dk_at dksX5_word_0 9 rfl rfl)
theorem dX5_word_10 : decode cX5_word 10 = .ok (.ireturn, 1) := dk_172 (dk_at dksX5_word_0 10 rfl rfl)
theorem dX5_word_11 : decode cX5_word 11 = .ok (.aload_n 0, 1) := dk_42 (dk_at dksX5_word_0 11 rfl rfl)
theorem dX5_word_12 : decode cX5_word 12 = .ok (.ldc 165, 2) := dk_18 165 (dk_at dksX5_word_0 12 rfl rfl)
theorem dX5_word_14 : decode cX5_word 14 = .ok (.invokevirtual 97, 3) := dk_182 0 97 (dk_at dksX5_word_0 14 rfl rfl)
theorem dX5_word_17 : decode cX5_word 17 = .ok (.ifCond .eq 5, 3) := dk_153 0 5 (dk_at dksX5_word_0 17 rfl rfl)
theorem dX5_word_20 : decode cX5_word 20 = .ok (.iconst 1, 1) := dk_4 (dk_at dksX5_word_0 20 rfl rfl)
theorem dX5_word_21 : decode cX5_word 21 = .ok (.ireturn, 1) := dk_172 (dk_at dksX5_word_0 21 rfl rfl)
theorem dX5_word_22 : decode cX5_word 22 = .ok (.aload_n 0, 1) := dk_42 (dk_at dksX5_word_0 22 rfl rfl)
theorem dX5_word_23 : decode cX5_word 23 = .ok (.ldc 178, 2) := dk_18 178 (dk_at dksX5_word_1 0 rfl rfl)
theorem dX5_word_25 : decode cX5_word 25 = .ok (.invokevirtual 97, 3) := dk_182 0 97 (dk_at dksX5_word_1 2 rfl rfl)
theorem dX5_word_28 : decode cX5_word 28 = .ok (.ifCond .eq 5, 3) := dk_153 0 5 (dk_at dksX5_word_1 5 rfl rfl)
theorem dX5_word_31 : decode cX5_word 31 = .ok (.iconst 2, 1) := dk_5 (dk_at dksX5_word_1 8 rfl rfl)
theorem dX5_word_32 : decode cX5_word 32 = .ok (.ireturn, 1) := dk_172 (dk_at dksX5_word_1 9 rfl rfl)
theorem dX5_word_33 : decode cX5_word 33 = .ok (.aload_n 0, 1) := dk_42 (dk_at dksX5_word_1 10 rfl rfl)
theorem dX5_word_34 : decode cX5_word 34 = .ok (.ldc 174, 2) := dk_18 174 (dk_at dksX5_word_1 11 rfl rfl)
theorem dX5_word_36 : decode cX5_word 36 = .ok (.invokevirtual 97, 3) := dk_182 0 97 (dk_at dksX5_word_1 13 rfl rfl)
theorem dX5_word_39 : decode cX5_word 39 = .ok (.ifCond .eq 5, 3) := dk_153 0 5 (dk_at dksX5_word_1 16 rfl rfl)
theorem dX5_word_42 : decode cX5_word 42 = .ok (.iconst 3, 1) := dk_6 (dk_at dksX5_word_1 19 rfl rfl)
theorem dX5_word_43 : decode cX5_word 43 = .ok (.ireturn, 1) := dk_172 (dk_at dksX5_word_1 20 rfl rfl)
theorem dX5_word_44 : decode cX5_word 44 = .ok (.aload_n 0, 1) := dk_42 (dk_at dksX5_word_1 21 rfl rfl)
theorem dX5_word_45 : decode cX5_word 45 = .ok (.ldc 134, 2) := dk_18 134 (dk_at dksX5_word_1 22 rfl rfl)
theorem dX5_word_47 : decode cX5_word 47 = .ok (.invokevirtual 97, 3) := dk_182 0 97 (dk_at dksX5_word_2 0 rfl rfl)
theorem dX5_word_50 : decode cX5_word 50 = .ok (.ifCond .eq 5, 3) := dk_153 0 5 (dk_at dksX5_word_2 3 rfl rfl)
theorem dX5_word_53 : decode cX5_word 53 = .ok (.iconst 4, 1) := dk_7 (dk_at dksX5_word_2 6 rfl rfl)
theorem dX5_word_54 : decode cX5_word 54 = .ok (.ireturn, 1) := dk_172 (dk_at dksX5_word_2 7 rfl rfl)
theorem dX5_word_55 : decode cX5_word 55 = .ok (.aload_n 0, 1) := dk_42 (dk_at dksX5_word_2 8 rfl rfl)
theorem dX5_word_56 : decode cX5_word 56 = .ok (.ldc 246, 2) := dk_18 246 (dk_at dksX5_word_2 9 rfl rfl)
theorem dX5_word_58 : decode cX5_word 58 = .ok (.invokevirtual 97, 3) := dk_182 0 97 (dk_at dksX5_word_2 11 rfl rfl)
theorem dX5_word_61 : decode cX5_word 61 = .ok (.ifCond .eq 5, 3) := dk_153 0 5 (dk_at dksX5_word_2 14 rfl rfl)
theorem dX5_word_64 : decode cX5_word 64 = .ok (.iconst 5, 1) := dk_8 (dk_at dksX5_word_2 17 rfl rfl)
theorem dX5_word_65 : decode cX5_word 65 = .ok (.ireturn, 1) := dk_172 (dk_at dksX5_word_2 18 rfl rfl)
theorem dX5_word_66 : decode cX5_word 66 = .ok (.aload_n 0, 1) := dk_42 (dk_at dksX5_word_2 19 rfl rfl)
theorem dX5_word_67 : decode cX5_word 67 = .ok (.getfield 184, 3) := dk_180 0 184 (dk_at dksX5_word_2 20 rfl rfl)
theorem dX5_word_70 : decode cX5_word 70 = .ok (.ifCond .eq 17, 3) := dk_153 0 17 (dk_at dksX5_word_3 0 rfl rfl)
theorem dX5_word_73 : decode cX5_word 73 = .ok (.aload_n 0, 1) := dk_42 (dk_at dksX5_word_3 3 rfl rfl)
theorem dX5_word_74 : decode cX5_word 74 = .ok (.ldc 248, 2) := dk_18 248 (dk_at dksX5_word_3 4 rfl rfl)
theorem dX5_word_76 : decode cX5_word 76 = .ok (.invokevirtual 97, 3) := dk_182 0 97 (dk_at dksX5_word_3 6 rfl rfl)
theorem dX5_word_79 : decode cX5_word 79 = .ok (.ifCond .eq 8, 3) := dk_153 0 8 (dk_at dksX5_word_3 9 rfl rfl)
theorem dX5_word_82 : decode cX5_word 82 = .ok (.bipush 6, 2) := dk_16 6 (dk_at dksX5_word_3 12 rfl rfl)
theorem dX5_word_84 : decode cX5_word 84 = .ok (.goto 4, 3) := dk_167 0 4 (dk_at dksX5_word_3 14 rfl rfl)
theorem dX5_word_87 : decode cX5_word 87 = .ok (.iconst (-1), 1) := dk_2 (dk_at dksX5_word_3 17 rfl rfl)
theorem dX5_word_88 : decode cX5_word 88 = .ok (.ireturn, 1) := dk_172 (dk_at dksX5_word_3 18 rfl rfl)
abbrev cX5_may : ByteArray := prog_11_method_21_code
def yX5_may : MethodName := ⟨RX5, "may", "()V"⟩
def dkwX5_may_1 : List UInt8 := [180, 0, 18, 43, 181, 0, 199, 177]
abbrev dktX5_may_1 : List UInt8 := dkwX5_may_1 ++ []
def dkwX5_may_0 : List UInt8 := [42, 4, 181, 0, 184, 42, 16, 58, 182, 0, 120, 42, 182, 0, 195, 76, 42, 180, 0, 75, 154, 0, 11, 42]
abbrev dktX5_may_0 : List UInt8 := dkwX5_may_0 ++ dktX5_may_1
theorem dksX5_may_0 : cX5_may.data.toList.drop 0 = dktX5_may_0 := by decide +kernel
theorem dksX5_may_1 : cX5_may.data.toList.drop 24 = dktX5_may_1 := dk_seg dksX5_may_0 24 rfl rfl
theorem dX5_may_0 : decode cX5_may 0 = .ok (.aload_n 0, 1) := dk_42 (dk_at dksX5_may_0 0 rfl rfl)
theorem dX5_may_1 : decode cX5_may 1 = .ok (.iconst 1, 1) := dk_4 (dk_at dksX5_may_0 1 rfl rfl)
theorem dX5_may_2 : decode cX5_may 2 = .ok (.putfield 184, 3) := dk_181 0 184 (dk_at dksX5_may_0 2 rfl rfl)
theorem dX5_may_5 : decode cX5_may 5 = .ok (.aload_n 0, 1) := dk_42 (dk_at dksX5_may_0 5 rfl rfl)
theorem dX5_may_6 : decode cX5_may 6 = .ok (.bipush 58, 2) := dk_16 58 (dk_at dksX5_may_0 6 rfl rfl)
theorem dX5_may_8 : decode cX5_may 8 = .ok (.invokevirtual 120, 3) := dk_182 0 120 (dk_at dksX5_may_0 8 rfl rfl)
theorem dX5_may_11 : decode cX5_may 11 = .ok (.aload_n 0, 1) := dk_42 (dk_at dksX5_may_0 11 rfl rfl)
theorem dX5_may_12 : decode cX5_may 12 = .ok (.invokevirtual 195, 3) := dk_182 0 195 (dk_at dksX5_may_0 12 rfl rfl)
theorem dX5_may_15 : decode cX5_may 15 = .ok (.astore_n 1, 1) := dk_76 (dk_at dksX5_may_0 15 rfl rfl)
theorem dX5_may_16 : decode cX5_may 16 = .ok (.aload_n 0, 1) := dk_42 (dk_at dksX5_may_0 16 rfl rfl)
theorem dX5_may_17 : decode cX5_may 17 = .ok (.getfield 75, 3) := dk_180 0 75 (dk_at dksX5_may_0 17 rfl rfl)
theorem dX5_may_20 : decode cX5_may 20 = .ok (.ifCond .ne 11, 3) := dk_154 0 11 (dk_at dksX5_may_0 20 rfl rfl)
theorem dX5_may_23 : decode cX5_may 23 = .ok (.aload_n 0, 1) := dk_42 (dk_at dksX5_may_0 23 rfl rfl)
theorem dX5_may_24 : decode cX5_may 24 = .ok (.getfield 18, 3) := dk_180 0 18 (dk_at dksX5_may_1 0 rfl rfl)
theorem dX5_may_27 : decode cX5_may 27 = .ok (.aload_n 1, 1) := dk_43 (dk_at dksX5_may_1 3 rfl rfl)
theorem dX5_may_28 : decode cX5_may 28 = .ok (.putfield 199, 3) := dk_181 0 199 (dk_at dksX5_may_1 4 rfl rfl)
theorem dX5_may_31 : decode cX5_may 31 = .ok (.return_, 1) := dk_177 (dk_at dksX5_may_1 7 rfl rfl)
theorem q139 : (Jvm.Cond.initialized "BackRescue$Reader") ∈ lw_all := lw_g (lw_at lw_m1 6 rfl) rfl
theorem q180 : (Jvm.Cond.fieldLinkNest "BackRescue$Reader" (159 : Nat) "BackRescue$Cave" "begin" "[I" "BackRescue") ∈ lw_tbl := lw_at lw_m1 47 rfl
theorem q184 : (Jvm.Cond.fieldLinkNest "BackRescue$Reader" (162 : Nat) "BackRescue$Cave" "end" "[I" "BackRescue") ∈ lw_tbl := lw_at lw_m1 51 rfl
theorem q187 : (Jvm.Cond.fieldLinkNest "BackRescue$Reader" (167 : Nat) "BackRescue$Cave" "drop" "[I" "BackRescue") ∈ lw_tbl := lw_at lw_m1 54 rfl
theorem q191 : (Jvm.Cond.fieldLinkNest "BackRescue$Reader" (112 : Nat) "BackRescue$Cave" "rooms" "I" "BackRescue") ∈ lw_tbl := lw_at lw_m1 58 rfl
theorem q195 : (Jvm.Cond.fieldLinkNest "BackRescue$Reader" (150 : Nat) "BackRescue$Cave" "passages" "I" "BackRescue") ∈ lw_tbl := lw_at lw_m1 62 rfl
theorem q198 : (Jvm.Cond.fieldLinkNest "BackRescue$Reader" (171 : Nat) "BackRescue$Cave" "twoWays" "I" "BackRescue") ∈ lw_tbl := lw_at lw_m1 65 rfl
theorem q200 : (Jvm.Cond.fieldLinkNest "BackRescue$Reader" (176 : Nat) "BackRescue$Cave" "roped" "I" "BackRescue") ∈ lw_tbl := lw_at lw_m1 67 rfl
theorem q202 : (Jvm.Cond.fieldLinkNest "BackRescue$Reader" (180 : Nat) "BackRescue$Cave" "room" "I" "BackRescue") ∈ lw_tbl := lw_at lw_m1 69 rfl
theorem q204 : (Jvm.Cond.fieldLinkNest "BackRescue$Reader" (182 : Nat) "BackRescue$Cave" "hurt" "I" "BackRescue") ∈ lw_tbl := lw_at lw_m1 71 rfl
theorem q206 : (Jvm.Cond.fieldLinkNest "BackRescue$Reader" (136 : Nat) "BackRescue$Cave" "slack" "I" "BackRescue") ∈ lw_tbl := lw_at lw_m1 73 rfl
theorem q207 : (Jvm.Cond.fieldLinkNest "BackRescue$Reader" (140 : Nat) "BackRescue$Cave" "falls" "I" "BackRescue") ∈ lw_tbl := lw_at lw_m1 74 rfl
theorem q210 : (Jvm.Cond.fieldLinkNest "BackRescue$Reader" (123 : Nat) "BackRescue$Cave" "lines" "I" "BackRescue") ∈ lw_tbl := lw_at lw_m1 77 rfl
theorem q212 : (Jvm.Cond.fieldLinkNest "BackRescue$Reader" (192 : Nat) "BackRescue$Cave" "hurts" "LBackRescue$Sum;" "BackRescue") ∈ lw_tbl := lw_at lw_m1 79 rfl
theorem q214 : (Jvm.Cond.fieldLinkNest "BackRescue$Reader" (199 : Nat) "BackRescue$Cave" "may" "LBackRescue$Truth;" "BackRescue") ∈ lw_tbl := lw_at lw_m1 81 rfl
theorem q301 : (Jvm.Cond.fieldLinkNest "BackRescue$Reader" (29 : Nat) "BackRescue" "tape" "[B" "BackRescue") ∈ lw_tbl := lw_at lw_m1 168 rfl
theorem q388 : (Jvm.Cond.instantiable "BackRescue$Reader" (11 : Nat)) ∈ lw_all := lw_g (lw_at lw_m2 15 rfl) rfl
theorem q390 : (Jvm.Cond.instanceMethod ({ cls := "BackRescue$Reader", name := "<init>", desc := "(LBackRescue;I)V" } : Jvm.MethodName)) ∈ lw_all := lw_g (lw_at lw_m2 17 rfl) rfl
theorem q391 : (Jvm.Cond.code ({ cls := "BackRescue$Reader", name := "<init>", desc := "(LBackRescue;I)V" } : Jvm.MethodName) prog_11_method_1_code (3 : Nat) (Option.none : Option Jvm.ClassFile.FieldType)) ∈ lw_all := lw_g (lw_at lw_m2 18 rfl) rfl
theorem q392 : (Jvm.Cond.methodLink "BackRescue$Reader" (9 : Nat) ({ cls := "java/lang/Object", name := "<init>", desc := "()V" } : Jvm.MethodName)) ∈ lw_all := lw_g (lw_at lw_m2 19 rfl) rfl
theorem q393 : (Jvm.Cond.classLink "BackRescue$Reader" (15 : Nat) "BackRescue$Cave") ∈ lw_all := lw_g (lw_at lw_m2 20 rfl) rfl
theorem q394 : (Jvm.Cond.methodLinkNest "BackRescue$Reader" (17 : Nat) ({ cls := "BackRescue$Cave", name := "<init>", desc := "()V" } : Jvm.MethodName) "BackRescue") ∈ lw_tbl := lw_at lw_m2 21 rfl
theorem q395 : (Jvm.Cond.fieldLink "BackRescue$Reader" (26 : Nat) "BackRescue$Reader" "size" "I") ∈ lw_all := lw_g (lw_at lw_m2 22 rfl) rfl
theorem q396 : (Jvm.Cond.fieldLink "BackRescue$Reader" (18 : Nat) "BackRescue$Reader" "made" "LBackRescue$Cave;") ∈ lw_all := lw_g (lw_at lw_m2 23 rfl) rfl
theorem q398 : (Jvm.Cond.fieldLink "BackRescue$Reader" (49 : Nat) "BackRescue$Reader" "at" "I") ∈ lw_all := lw_g (lw_at lw_m2 25 rfl) rfl
theorem q399 : (Jvm.Cond.fieldLink "BackRescue$Reader" (52 : Nat) "BackRescue$Reader" "begin" "I") ∈ lw_all := lw_g (lw_at lw_m2 26 rfl) rfl
theorem q400 : (Jvm.Cond.fieldLink "BackRescue$Reader" (55 : Nat) "BackRescue$Reader" "token" "I") ∈ lw_all := lw_g (lw_at lw_m2 27 rfl) rfl
theorem q401 : (Jvm.Cond.fieldLink "BackRescue$Reader" (65 : Nat) "BackRescue$Reader" "value" "I") ∈ lw_all := lw_g (lw_at lw_m2 28 rfl) rfl
theorem q402 : (Jvm.Cond.fieldLink "BackRescue$Reader" (75 : Nat) "BackRescue$Reader" "fault" "I") ∈ lw_all := lw_g (lw_at lw_m2 29 rfl) rfl
theorem q404 : (Jvm.Cond.fieldLink "BackRescue$Reader" (202 : Nat) "BackRescue$Reader" "deep" "I") ∈ lw_all := lw_g (lw_at lw_m2 31 rfl) rfl
theorem q405 : (Jvm.Cond.fieldLink "BackRescue$Reader" (22 : Nat) "BackRescue$Reader" "place" "I") ∈ lw_all := lw_g (lw_at lw_m2 32 rfl) rfl
theorem q407 : (Jvm.Cond.fieldLink "BackRescue$Reader" (184 : Nat) "BackRescue$Reader" "isMay" "Z") ∈ lw_all := lw_g (lw_at lw_m2 34 rfl) rfl
theorem q408 : (Jvm.Cond.fieldLink "BackRescue$Reader" (3 : Nat) "BackRescue$Reader" "this$0" "LBackRescue;") ∈ lw_all := lw_g (lw_at lw_m2 35 rfl) rfl
theorem q409 : (Jvm.Cond.laysFinal "BackRescue$Reader" "BackRescue$Reader" "size" "I") ∈ lw_all := lw_g (lw_at lw_m2 36 rfl) rfl
theorem q410 : (Jvm.Cond.soleField "BackRescue$Reader" "size") ∈ lw_all := lw_g (lw_at lw_m2 37 rfl) rfl
theorem q411 : (Jvm.Cond.laysFinal "BackRescue$Reader" "BackRescue$Reader" "made" "LBackRescue$Cave;") ∈ lw_all := lw_g (lw_at lw_m2 38 rfl) rfl
theorem q412 : (Jvm.Cond.soleField "BackRescue$Reader" "made") ∈ lw_all := lw_g (lw_at lw_m2 39 rfl) rfl
theorem q413 : (Jvm.Cond.lays "BackRescue$Reader" "BackRescue$Reader" "at" "I") ∈ lw_all := lw_g (lw_at lw_m2 40 rfl) rfl
theorem q414 : (Jvm.Cond.soleField "BackRescue$Reader" "at") ∈ lw_all := lw_g (lw_at lw_m2 41 rfl) rfl
theorem q415 : (Jvm.Cond.lays "BackRescue$Reader" "BackRescue$Reader" "begin" "I") ∈ lw_all := lw_g (lw_at lw_m2 42 rfl) rfl
theorem q416 : (Jvm.Cond.soleField "BackRescue$Reader" "begin") ∈ lw_all := lw_g (lw_at lw_m2 43 rfl) rfl
theorem q417 : (Jvm.Cond.lays "BackRescue$Reader" "BackRescue$Reader" "token" "I") ∈ lw_all := lw_g (lw_at lw_m2 44 rfl) rfl
theorem q418 : (Jvm.Cond.soleField "BackRescue$Reader" "token") ∈ lw_all := lw_g (lw_at lw_m2 45 rfl) rfl
theorem q419 : (Jvm.Cond.lays "BackRescue$Reader" "BackRescue$Reader" "value" "I") ∈ lw_all := lw_g (lw_at lw_m2 46 rfl) rfl
theorem q420 : (Jvm.Cond.soleField "BackRescue$Reader" "value") ∈ lw_all := lw_g (lw_at lw_m2 47 rfl) rfl
theorem q421 : (Jvm.Cond.lays "BackRescue$Reader" "BackRescue$Reader" "fault" "I") ∈ lw_all := lw_g (lw_at lw_m2 48 rfl) rfl
theorem q422 : (Jvm.Cond.soleField "BackRescue$Reader" "fault") ∈ lw_all := lw_g (lw_at lw_m2 49 rfl) rfl
theorem q423 : (Jvm.Cond.lays "BackRescue$Reader" "BackRescue$Reader" "deep" "I") ∈ lw_all := lw_g (lw_at lw_m2 50 rfl) rfl
theorem q424 : (Jvm.Cond.soleField "BackRescue$Reader" "deep") ∈ lw_all := lw_g (lw_at lw_m2 51 rfl) rfl
theorem q425 : (Jvm.Cond.lays "BackRescue$Reader" "BackRescue$Reader" "place" "I") ∈ lw_all := lw_g (lw_at lw_m2 52 rfl) rfl
theorem q426 : (Jvm.Cond.soleField "BackRescue$Reader" "place") ∈ lw_all := lw_g (lw_at lw_m2 53 rfl) rfl
theorem q427 : (Jvm.Cond.lays "BackRescue$Reader" "BackRescue$Reader" "isMay" "Z") ∈ lw_all := lw_g (lw_at lw_m2 54 rfl) rfl
theorem q428 : (Jvm.Cond.soleField "BackRescue$Reader" "isMay") ∈ lw_all := lw_g (lw_at lw_m2 55 rfl) rfl
theorem q429 : (Jvm.Cond.laysFinal "BackRescue$Reader" "BackRescue$Reader" "this$0" "LBackRescue;") ∈ lw_all := lw_g (lw_at lw_m2 56 rfl) rfl
theorem q430 : (Jvm.Cond.soleField "BackRescue$Reader" "this$0") ∈ lw_all := lw_g (lw_at lw_m2 57 rfl) rfl
theorem q431 : (Jvm.Cond.superclass "BackRescue$Reader" "java/lang/Object") ∈ lw_all := lw_g (lw_at lw_m2 58 rfl) rfl
theorem q433 : (Jvm.Cond.instanceMethod ({ cls := "BackRescue$Reader", name := "read", desc := "()V" } : Jvm.MethodName)) ∈ lw_all := lw_g (lw_at lw_m2 60 rfl) rfl
theorem q434 : (Jvm.Cond.selects "BackRescue$Reader" ({ cls := "BackRescue$Reader", name := "read", desc := "()V" } : Jvm.MethodName) ({ cls := "BackRescue$Reader", name := "read", desc := "()V" } : Jvm.MethodName)) ∈ lw_all := lw_g (lw_at lw_m2 61 rfl) rfl
theorem q435 : (Jvm.Cond.code ({ cls := "BackRescue$Reader", name := "read", desc := "()V" } : Jvm.MethodName) prog_11_method_13_code (1 : Nat) (Option.none : Option Jvm.ClassFile.FieldType)) ∈ lw_all := lw_g (lw_at lw_m2 62 rfl) rfl
theorem q436 : (Jvm.Cond.methodLink "BackRescue$Reader" (90 : Nat) ({ cls := "BackRescue$Reader", name := "next", desc := "()V" } : Jvm.MethodName)) ∈ lw_all := lw_g (lw_at lw_m2 63 rfl) rfl
theorem q437 : (Jvm.Cond.privateMethod ({ cls := "BackRescue$Reader", name := "next", desc := "()V" } : Jvm.MethodName)) ∈ lw_tbl := lw_at lw_m2 64 rfl
theorem q438 : (Jvm.Cond.instanceMethod ({ cls := "BackRescue$Reader", name := "next", desc := "()V" } : Jvm.MethodName)) ∈ lw_all := lw_g (lw_at lw_m2 65 rfl) rfl
theorem q439 : (Jvm.Cond.code ({ cls := "BackRescue$Reader", name := "next", desc := "()V" } : Jvm.MethodName) prog_11_method_5_code (1 : Nat) (Option.none : Option Jvm.ClassFile.FieldType)) ∈ lw_all := lw_g (lw_at lw_m2 66 rfl) rfl
theorem q440 : (Jvm.Cond.methodLink "BackRescue$Reader" (33 : Nat) ({ cls := "BackRescue$Reader", name := "see", desc := "(I)I" } : Jvm.MethodName)) ∈ lw_all := lw_g (lw_at lw_m2 67 rfl) rfl
theorem q441 : (Jvm.Cond.privateMethod ({ cls := "BackRescue$Reader", name := "see", desc := "(I)I" } : Jvm.MethodName)) ∈ lw_tbl := lw_at lw_m2 68 rfl
theorem q442 : (Jvm.Cond.instanceMethod ({ cls := "BackRescue$Reader", name := "see", desc := "(I)I" } : Jvm.MethodName)) ∈ lw_all := lw_g (lw_at lw_m2 69 rfl) rfl
theorem q443 : (Jvm.Cond.code ({ cls := "BackRescue$Reader", name := "see", desc := "(I)I" } : Jvm.MethodName) prog_11_method_2_code (2 : Nat) (Option.some Jvm.ClassFile.FieldType.int)) ∈ lw_all := lw_g (lw_at lw_m2 70 rfl) rfl
theorem q444 : (Jvm.Cond.methodLink "BackRescue$Reader" (58 : Nat) ({ cls := "BackRescue$Reader", name := "isSmall", desc := "(I)Z" } : Jvm.MethodName)) ∈ lw_all := lw_g (lw_at lw_m2 71 rfl) rfl
theorem q445 : (Jvm.Cond.privateMethod ({ cls := "BackRescue$Reader", name := "isSmall", desc := "(I)Z" } : Jvm.MethodName)) ∈ lw_tbl := lw_at lw_m2 72 rfl
theorem q446 : (Jvm.Cond.instanceMethod ({ cls := "BackRescue$Reader", name := "isSmall", desc := "(I)Z" } : Jvm.MethodName)) ∈ lw_all := lw_g (lw_at lw_m2 73 rfl) rfl
theorem q447 : (Jvm.Cond.code ({ cls := "BackRescue$Reader", name := "isSmall", desc := "(I)Z" } : Jvm.MethodName) prog_11_method_3_code (2 : Nat) (Option.some Jvm.ClassFile.FieldType.boolean)) ∈ lw_all := lw_g (lw_at lw_m2 74 rfl) rfl
theorem q448 : (Jvm.Cond.constantLong "BackRescue$Reader" (37 : Nat) (97 : Int64)) ∈ lw_all := lw_g (lw_at lw_m2 75 rfl) rfl
theorem q449 : (Jvm.Cond.constantLong "BackRescue$Reader" (39 : Nat) (122 : Int64)) ∈ lw_all := lw_g (lw_at lw_m2 76 rfl) rfl
theorem q450 : (Jvm.Cond.methodLinkNest "BackRescue$Reader" (41 : Nat) ({ cls := "BackRescue", name := "in", desc := "(JJJ)Z" } : Jvm.MethodName) "BackRescue") ∈ lw_tbl := lw_at lw_m2 77 rfl
theorem q451 : (Jvm.Cond.methodLink "BackRescue$Reader" (62 : Nat) ({ cls := "BackRescue$Reader", name := "isDigit", desc := "(I)Z" } : Jvm.MethodName)) ∈ lw_all := lw_g (lw_at lw_m2 78 rfl) rfl
theorem q452 : (Jvm.Cond.privateMethod ({ cls := "BackRescue$Reader", name := "isDigit", desc := "(I)Z" } : Jvm.MethodName)) ∈ lw_tbl := lw_at lw_m2 79 rfl
theorem q453 : (Jvm.Cond.instanceMethod ({ cls := "BackRescue$Reader", name := "isDigit", desc := "(I)Z" } : Jvm.MethodName)) ∈ lw_all := lw_g (lw_at lw_m2 80 rfl) rfl
theorem q454 : (Jvm.Cond.code ({ cls := "BackRescue$Reader", name := "isDigit", desc := "(I)Z" } : Jvm.MethodName) prog_11_method_4_code (2 : Nat) (Option.some Jvm.ClassFile.FieldType.boolean)) ∈ lw_all := lw_g (lw_at lw_m2 81 rfl) rfl
theorem q455 : (Jvm.Cond.constantLong "BackRescue$Reader" (45 : Nat) (48 : Int64)) ∈ lw_all := lw_g (lw_at lw_m2 82 rfl) rfl
theorem q456 : (Jvm.Cond.constantLong "BackRescue$Reader" (47 : Nat) (57 : Int64)) ∈ lw_all := lw_g (lw_at lw_m2 83 rfl) rfl
theorem q457 : (Jvm.Cond.stringRef "BackRescue$Reader" (68 : Nat) ";:+-*()[]=<>") ∈ lw_tbl := lw_at lw_m2 84 rfl
theorem q458 : (Jvm.Cond.methodLink "BackRescue$Reader" (70 : Nat) ({ cls := "java/lang/String", name := "indexOf", desc := "(I)I" } : Jvm.MethodName)) ∈ lw_all := lw_g (lw_at lw_m2 85 rfl) rfl
theorem q544 : (Jvm.Cond.stringRef "BackRescue$Reader" (100 : Nat) "cave") ∈ lw_tbl := lw_at lw_m2 171 rfl
theorem q545 : (Jvm.Cond.methodLink "BackRescue$Reader" (102 : Nat) ({ cls := "BackRescue$Reader", name := "mustWord", desc := "(Ljava/lang/String;)V" } : Jvm.MethodName)) ∈ lw_all := lw_g (lw_at lw_m2 172 rfl) rfl
theorem q546 : (Jvm.Cond.privateMethod ({ cls := "BackRescue$Reader", name := "mustWord", desc := "(Ljava/lang/String;)V" } : Jvm.MethodName)) ∈ lw_tbl := lw_at lw_m2 173 rfl
theorem q547 : (Jvm.Cond.instanceMethod ({ cls := "BackRescue$Reader", name := "mustWord", desc := "(Ljava/lang/String;)V" } : Jvm.MethodName)) ∈ lw_all := lw_g (lw_at lw_m2 174 rfl) rfl
theorem q548 : (Jvm.Cond.code ({ cls := "BackRescue$Reader", name := "mustWord", desc := "(Ljava/lang/String;)V" } : Jvm.MethodName) prog_11_method_11_code (2 : Nat) (Option.none : Option Jvm.ClassFile.FieldType)) ∈ lw_all := lw_g (lw_at lw_m2 175 rfl) rfl
theorem q549 : (Jvm.Cond.methodLink "BackRescue$Reader" (97 : Nat) ({ cls := "BackRescue$Reader", name := "takes", desc := "(Ljava/lang/String;)Z" } : Jvm.MethodName)) ∈ lw_all := lw_g (lw_at lw_m2 176 rfl) rfl
theorem q550 : (Jvm.Cond.privateMethod ({ cls := "BackRescue$Reader", name := "takes", desc := "(Ljava/lang/String;)Z" } : Jvm.MethodName)) ∈ lw_tbl := lw_at lw_m2 177 rfl
theorem q551 : (Jvm.Cond.instanceMethod ({ cls := "BackRescue$Reader", name := "takes", desc := "(Ljava/lang/String;)Z" } : Jvm.MethodName)) ∈ lw_all := lw_g (lw_at lw_m2 178 rfl) rfl
theorem q552 : (Jvm.Cond.code ({ cls := "BackRescue$Reader", name := "takes", desc := "(Ljava/lang/String;)Z" } : Jvm.MethodName) prog_11_method_8_code (2 : Nat) (Option.some Jvm.ClassFile.FieldType.boolean)) ∈ lw_all := lw_g (lw_at lw_m2 179 rfl) rfl
theorem q553 : (Jvm.Cond.methodLink "BackRescue$Reader" (86 : Nat) ({ cls := "BackRescue$Reader", name := "is", desc := "(Ljava/lang/String;)Z" } : Jvm.MethodName)) ∈ lw_all := lw_g (lw_at lw_m2 180 rfl) rfl
theorem q554 : (Jvm.Cond.privateMethod ({ cls := "BackRescue$Reader", name := "is", desc := "(Ljava/lang/String;)Z" } : Jvm.MethodName)) ∈ lw_tbl := lw_at lw_m2 181 rfl
theorem q555 : (Jvm.Cond.instanceMethod ({ cls := "BackRescue$Reader", name := "is", desc := "(Ljava/lang/String;)Z" } : Jvm.MethodName)) ∈ lw_all := lw_g (lw_at lw_m2 182 rfl) rfl
theorem q556 : (Jvm.Cond.code ({ cls := "BackRescue$Reader", name := "is", desc := "(Ljava/lang/String;)Z" } : Jvm.MethodName) prog_11_method_7_code (3 : Nat) (Option.some Jvm.ClassFile.FieldType.boolean)) ∈ lw_all := lw_g (lw_at lw_m2 183 rfl) rfl
theorem q557 : (Jvm.Cond.methodLink "BackRescue$Reader" (78 : Nat) ({ cls := "java/lang/String", name := "length", desc := "()I" } : Jvm.MethodName)) ∈ lw_all := lw_g (lw_at lw_m2 184 rfl) rfl
theorem q558 : (Jvm.Cond.methodLink "BackRescue$Reader" (82 : Nat) ({ cls := "java/lang/String", name := "charAt", desc := "(I)C" } : Jvm.MethodName)) ∈ lw_all := lw_g (lw_at lw_m2 185 rfl) rfl
theorem q578 : (Jvm.Cond.methodLink "BackRescue$Reader" (93 : Nat) ({ cls := "BackRescue$Reader", name := "wrong", desc := "(I)V" } : Jvm.MethodName)) ∈ lw_all := lw_g (lw_at lw_m2 205 rfl) rfl
theorem q579 : (Jvm.Cond.privateMethod ({ cls := "BackRescue$Reader", name := "wrong", desc := "(I)V" } : Jvm.MethodName)) ∈ lw_tbl := lw_at lw_m2 206 rfl
theorem q580 : (Jvm.Cond.instanceMethod ({ cls := "BackRescue$Reader", name := "wrong", desc := "(I)V" } : Jvm.MethodName)) ∈ lw_all := lw_g (lw_at lw_m2 207 rfl) rfl
theorem q581 : (Jvm.Cond.code ({ cls := "BackRescue$Reader", name := "wrong", desc := "(I)V" } : Jvm.MethodName) prog_11_method_6_code (2 : Nat) (Option.none : Option Jvm.ClassFile.FieldType)) ∈ lw_all := lw_g (lw_at lw_m2 208 rfl) rfl
theorem q582 : (Jvm.Cond.stringRef "BackRescue$Reader" (106 : Nat) "rooms") ∈ lw_tbl := lw_at lw_m2 209 rfl
theorem q583 : (Jvm.Cond.methodLink "BackRescue$Reader" (108 : Nat) ({ cls := "BackRescue$Reader", name := "number", desc := "(II)I" } : Jvm.MethodName)) ∈ lw_all := lw_g (lw_at lw_m2 210 rfl) rfl
theorem q584 : (Jvm.Cond.privateMethod ({ cls := "BackRescue$Reader", name := "number", desc := "(II)I" } : Jvm.MethodName)) ∈ lw_tbl := lw_at lw_m2 211 rfl
theorem q585 : (Jvm.Cond.instanceMethod ({ cls := "BackRescue$Reader", name := "number", desc := "(II)I" } : Jvm.MethodName)) ∈ lw_all := lw_g (lw_at lw_m2 212 rfl) rfl
theorem q586 : (Jvm.Cond.code ({ cls := "BackRescue$Reader", name := "number", desc := "(II)I" } : Jvm.MethodName) prog_11_method_12_code (4 : Nat) (Option.some Jvm.ClassFile.FieldType.int)) ∈ lw_all := lw_g (lw_at lw_m2 213 rfl) rfl
theorem q587 : (Jvm.Cond.methodLink "BackRescue$Reader" (114 : Nat) ({ cls := "BackRescue$Reader", name := "ends", desc := "()V" } : Jvm.MethodName)) ∈ lw_all := lw_g (lw_at lw_m2 214 rfl) rfl
theorem q588 : (Jvm.Cond.privateMethod ({ cls := "BackRescue$Reader", name := "ends", desc := "()V" } : Jvm.MethodName)) ∈ lw_tbl := lw_at lw_m2 215 rfl
theorem q589 : (Jvm.Cond.instanceMethod ({ cls := "BackRescue$Reader", name := "ends", desc := "()V" } : Jvm.MethodName)) ∈ lw_all := lw_g (lw_at lw_m2 216 rfl) rfl
theorem q590 : (Jvm.Cond.code ({ cls := "BackRescue$Reader", name := "ends", desc := "()V" } : Jvm.MethodName) prog_11_method_14_code (1 : Nat) (Option.none : Option Jvm.ClassFile.FieldType)) ∈ lw_all := lw_g (lw_at lw_m2 217 rfl) rfl
theorem q591 : (Jvm.Cond.methodLink "BackRescue$Reader" (120 : Nat) ({ cls := "BackRescue$Reader", name := "must", desc := "(I)V" } : Jvm.MethodName)) ∈ lw_all := lw_g (lw_at lw_m2 218 rfl) rfl
theorem q592 : (Jvm.Cond.privateMethod ({ cls := "BackRescue$Reader", name := "must", desc := "(I)V" } : Jvm.MethodName)) ∈ lw_tbl := lw_at lw_m2 219 rfl
theorem q593 : (Jvm.Cond.instanceMethod ({ cls := "BackRescue$Reader", name := "must", desc := "(I)V" } : Jvm.MethodName)) ∈ lw_all := lw_g (lw_at lw_m2 220 rfl) rfl
theorem q594 : (Jvm.Cond.code ({ cls := "BackRescue$Reader", name := "must", desc := "(I)V" } : Jvm.MethodName) prog_11_method_10_code (2 : Nat) (Option.none : Option Jvm.ClassFile.FieldType)) ∈ lw_all := lw_g (lw_at lw_m2 221 rfl) rfl
theorem q595 : (Jvm.Cond.methodLink "BackRescue$Reader" (117 : Nat) ({ cls := "BackRescue$Reader", name := "line", desc := "()V" } : Jvm.MethodName)) ∈ lw_all := lw_g (lw_at lw_m2 222 rfl) rfl
theorem q596 : (Jvm.Cond.privateMethod ({ cls := "BackRescue$Reader", name := "line", desc := "()V" } : Jvm.MethodName)) ∈ lw_tbl := lw_at lw_m2 223 rfl
theorem q597 : (Jvm.Cond.instanceMethod ({ cls := "BackRescue$Reader", name := "line", desc := "()V" } : Jvm.MethodName)) ∈ lw_all := lw_g (lw_at lw_m2 224 rfl) rfl
theorem q598 : (Jvm.Cond.code ({ cls := "BackRescue$Reader", name := "line", desc := "()V" } : Jvm.MethodName) prog_11_method_15_code (1 : Nat) (Option.none : Option Jvm.ClassFile.FieldType)) ∈ lw_all := lw_g (lw_at lw_m2 225 rfl) rfl
theorem q599 : (Jvm.Cond.stringRef "BackRescue$Reader" (126 : Nat) "passage") ∈ lw_tbl := lw_at lw_m2 226 rfl
theorem q600 : (Jvm.Cond.methodLink "BackRescue$Reader" (128 : Nat) ({ cls := "BackRescue$Reader", name := "passage", desc := "()V" } : Jvm.MethodName)) ∈ lw_all := lw_g (lw_at lw_m2 227 rfl) rfl
theorem q601 : (Jvm.Cond.privateMethod ({ cls := "BackRescue$Reader", name := "passage", desc := "()V" } : Jvm.MethodName)) ∈ lw_tbl := lw_at lw_m2 228 rfl
theorem q602 : (Jvm.Cond.instanceMethod ({ cls := "BackRescue$Reader", name := "passage", desc := "()V" } : Jvm.MethodName)) ∈ lw_all := lw_g (lw_at lw_m2 229 rfl) rfl
theorem q603 : (Jvm.Cond.code ({ cls := "BackRescue$Reader", name := "passage", desc := "()V" } : Jvm.MethodName) prog_11_method_17_code (4 : Nat) (Option.none : Option Jvm.ClassFile.FieldType)) ∈ lw_all := lw_g (lw_at lw_m2 230 rfl) rfl
theorem q604 : (Jvm.Cond.methodLink "BackRescue$Reader" (153 : Nat) ({ cls := "BackRescue$Reader", name := "room", desc := "()I" } : Jvm.MethodName)) ∈ lw_all := lw_g (lw_at lw_m2 231 rfl) rfl
theorem q605 : (Jvm.Cond.privateMethod ({ cls := "BackRescue$Reader", name := "room", desc := "()I" } : Jvm.MethodName)) ∈ lw_tbl := lw_at lw_m2 232 rfl
theorem q606 : (Jvm.Cond.instanceMethod ({ cls := "BackRescue$Reader", name := "room", desc := "()I" } : Jvm.MethodName)) ∈ lw_all := lw_g (lw_at lw_m2 233 rfl) rfl
theorem q607 : (Jvm.Cond.code ({ cls := "BackRescue$Reader", name := "room", desc := "()I" } : Jvm.MethodName) prog_11_method_16_code (1 : Nat) (Option.some Jvm.ClassFile.FieldType.int)) ∈ lw_all := lw_g (lw_at lw_m2 234 rfl) rfl
theorem q608 : (Jvm.Cond.methodLink "BackRescue$Reader" (156 : Nat) ({ cls := "BackRescue$Reader", name := "part", desc := "(I)Z" } : Jvm.MethodName)) ∈ lw_all := lw_g (lw_at lw_m2 235 rfl) rfl
theorem q609 : (Jvm.Cond.privateMethod ({ cls := "BackRescue$Reader", name := "part", desc := "(I)Z" } : Jvm.MethodName)) ∈ lw_tbl := lw_at lw_m2 236 rfl
theorem q610 : (Jvm.Cond.instanceMethod ({ cls := "BackRescue$Reader", name := "part", desc := "(I)Z" } : Jvm.MethodName)) ∈ lw_all := lw_g (lw_at lw_m2 237 rfl) rfl
theorem q611 : (Jvm.Cond.code ({ cls := "BackRescue$Reader", name := "part", desc := "(I)Z" } : Jvm.MethodName) prog_11_method_18_code (2 : Nat) (Option.some Jvm.ClassFile.FieldType.boolean)) ∈ lw_all := lw_g (lw_at lw_m2 238 rfl) rfl
theorem q612 : (Jvm.Cond.stringRef "BackRescue$Reader" (165 : Nat) "drop") ∈ lw_tbl := lw_at lw_m2 239 rfl
theorem q613 : (Jvm.Cond.stringRef "BackRescue$Reader" (169 : Nat) "both") ∈ lw_tbl := lw_at lw_m3 0 rfl
theorem q614 : (Jvm.Cond.stringRef "BackRescue$Reader" (174 : Nat) "roped") ∈ lw_tbl := lw_at lw_m3 1 rfl
theorem q615 : (Jvm.Cond.stringRef "BackRescue$Reader" (130 : Nat) "lost") ∈ lw_tbl := lw_at lw_m3 2 rfl
theorem q616 : (Jvm.Cond.methodLink "BackRescue$Reader" (132 : Nat) ({ cls := "BackRescue$Reader", name := "lost", desc := "()V" } : Jvm.MethodName)) ∈ lw_all := lw_g (lw_at lw_m3 3 rfl) rfl
theorem q617 : (Jvm.Cond.privateMethod ({ cls := "BackRescue$Reader", name := "lost", desc := "()V" } : Jvm.MethodName)) ∈ lw_tbl := lw_at lw_m3 4 rfl
theorem q618 : (Jvm.Cond.instanceMethod ({ cls := "BackRescue$Reader", name := "lost", desc := "()V" } : Jvm.MethodName)) ∈ lw_all := lw_g (lw_at lw_m3 5 rfl) rfl
theorem q619 : (Jvm.Cond.code ({ cls := "BackRescue$Reader", name := "lost", desc := "()V" } : Jvm.MethodName) prog_11_method_19_code (3 : Nat) (Option.none : Option Jvm.ClassFile.FieldType)) ∈ lw_all := lw_g (lw_at lw_m3 6 rfl) rfl
theorem q620 : (Jvm.Cond.stringRef "BackRescue$Reader" (178 : Nat) "hurt") ∈ lw_tbl := lw_at lw_m3 7 rfl
theorem q621 : (Jvm.Cond.stringRef "BackRescue$Reader" (134 : Nat) "slack") ∈ lw_tbl := lw_at lw_m3 8 rfl
theorem q622 : (Jvm.Cond.stringRef "BackRescue$Reader" (138 : Nat) "falls") ∈ lw_tbl := lw_at lw_m3 9 rfl
theorem q623 : (Jvm.Cond.stringRef "BackRescue$Reader" (142 : Nat) "hurts") ∈ lw_tbl := lw_at lw_m3 10 rfl
theorem q624 : (Jvm.Cond.methodLink "BackRescue$Reader" (144 : Nat) ({ cls := "BackRescue$Reader", name := "hurts", desc := "()V" } : Jvm.MethodName)) ∈ lw_all := lw_g (lw_at lw_m3 11 rfl) rfl
theorem q625 : (Jvm.Cond.privateMethod ({ cls := "BackRescue$Reader", name := "hurts", desc := "()V" } : Jvm.MethodName)) ∈ lw_tbl := lw_at lw_m3 12 rfl
theorem q626 : (Jvm.Cond.instanceMethod ({ cls := "BackRescue$Reader", name := "hurts", desc := "()V" } : Jvm.MethodName)) ∈ lw_all := lw_g (lw_at lw_m3 13 rfl) rfl
theorem q627 : (Jvm.Cond.code ({ cls := "BackRescue$Reader", name := "hurts", desc := "()V" } : Jvm.MethodName) prog_11_method_20_code (2 : Nat) (Option.none : Option Jvm.ClassFile.FieldType)) ∈ lw_all := lw_g (lw_at lw_m3 14 rfl) rfl
theorem q628 : (Jvm.Cond.methodLink "BackRescue$Reader" (188 : Nat) ({ cls := "BackRescue$Reader", name := "sum", desc := "()LBackRescue$Sum;" } : Jvm.MethodName)) ∈ lw_all := lw_g (lw_at lw_m3 15 rfl) rfl
theorem q629 : (Jvm.Cond.privateMethod ({ cls := "BackRescue$Reader", name := "sum", desc := "()LBackRescue$Sum;" } : Jvm.MethodName)) ∈ lw_tbl := lw_at lw_m3 16 rfl
theorem q630 : (Jvm.Cond.instanceMethod ({ cls := "BackRescue$Reader", name := "sum", desc := "()LBackRescue$Sum;" } : Jvm.MethodName)) ∈ lw_all := lw_g (lw_at lw_m3 17 rfl) rfl
theorem q631 : (Jvm.Cond.code ({ cls := "BackRescue$Reader", name := "sum", desc := "()LBackRescue$Sum;" } : Jvm.MethodName) prog_11_method_26_code (3 : Nat) (Option.some (Jvm.ClassFile.FieldType.object "BackRescue$Sum"))) ∈ lw_all := lw_g (lw_at lw_m3 18 rfl) rfl
theorem q632 : (Jvm.Cond.methodLink "BackRescue$Reader" (237 : Nat) ({ cls := "BackRescue$Reader", name := "term", desc := "()LBackRescue$Sum;" } : Jvm.MethodName)) ∈ lw_all := lw_g (lw_at lw_m3 19 rfl) rfl
theorem q633 : (Jvm.Cond.privateMethod ({ cls := "BackRescue$Reader", name := "term", desc := "()LBackRescue$Sum;" } : Jvm.MethodName)) ∈ lw_tbl := lw_at lw_m3 20 rfl
theorem q634 : (Jvm.Cond.instanceMethod ({ cls := "BackRescue$Reader", name := "term", desc := "()LBackRescue$Sum;" } : Jvm.MethodName)) ∈ lw_all := lw_g (lw_at lw_m3 21 rfl) rfl
theorem q635 : (Jvm.Cond.code ({ cls := "BackRescue$Reader", name := "term", desc := "()LBackRescue$Sum;" } : Jvm.MethodName) prog_11_method_27_code (2 : Nat) (Option.some (Jvm.ClassFile.FieldType.object "BackRescue$Sum"))) ∈ lw_all := lw_g (lw_at lw_m3 22 rfl) rfl
theorem q636 : (Jvm.Cond.methodLink "BackRescue$Reader" (243 : Nat) ({ cls := "BackRescue$Reader", name := "atom", desc := "()LBackRescue$Sum;" } : Jvm.MethodName)) ∈ lw_all := lw_g (lw_at lw_m3 23 rfl) rfl
theorem q637 : (Jvm.Cond.privateMethod ({ cls := "BackRescue$Reader", name := "atom", desc := "()LBackRescue$Sum;" } : Jvm.MethodName)) ∈ lw_tbl := lw_at lw_m3 24 rfl
theorem q638 : (Jvm.Cond.instanceMethod ({ cls := "BackRescue$Reader", name := "atom", desc := "()LBackRescue$Sum;" } : Jvm.MethodName)) ∈ lw_all := lw_g (lw_at lw_m3 25 rfl) rfl
theorem q639 : (Jvm.Cond.code ({ cls := "BackRescue$Reader", name := "atom", desc := "()LBackRescue$Sum;" } : Jvm.MethodName) prog_11_method_29_code (3 : Nat) (Option.some (Jvm.ClassFile.FieldType.object "BackRescue$Sum"))) ∈ lw_all := lw_g (lw_at lw_m3 26 rfl) rfl
theorem q640 : (Jvm.Cond.stringRef "BackRescue$Reader" (249 : Nat) "if") ∈ lw_tbl := lw_at lw_m3 27 rfl
theorem q641 : (Jvm.Cond.methodLink "BackRescue$Reader" (251 : Nat) ({ cls := "BackRescue$Reader", name := "asks", desc := "()LBackRescue$Sum;" } : Jvm.MethodName)) ∈ lw_all := lw_g (lw_at lw_m3 28 rfl) rfl
theorem q642 : (Jvm.Cond.privateMethod ({ cls := "BackRescue$Reader", name := "asks", desc := "()LBackRescue$Sum;" } : Jvm.MethodName)) ∈ lw_tbl := lw_at lw_m3 29 rfl
theorem q643 : (Jvm.Cond.instanceMethod ({ cls := "BackRescue$Reader", name := "asks", desc := "()LBackRescue$Sum;" } : Jvm.MethodName)) ∈ lw_all := lw_g (lw_at lw_m3 30 rfl) rfl
theorem q644 : (Jvm.Cond.code ({ cls := "BackRescue$Reader", name := "asks", desc := "()LBackRescue$Sum;" } : Jvm.MethodName) prog_11_method_30_code (4 : Nat) (Option.some (Jvm.ClassFile.FieldType.object "BackRescue$Sum"))) ∈ lw_all := lw_g (lw_at lw_m3 31 rfl) rfl
theorem q645 : (Jvm.Cond.methodLink "BackRescue$Reader" (221 : Nat) ({ cls := "BackRescue$Reader", name := "goesIn", desc := "()V" } : Jvm.MethodName)) ∈ lw_all := lw_g (lw_at lw_m3 32 rfl) rfl
theorem q646 : (Jvm.Cond.privateMethod ({ cls := "BackRescue$Reader", name := "goesIn", desc := "()V" } : Jvm.MethodName)) ∈ lw_tbl := lw_at lw_m3 33 rfl
theorem q647 : (Jvm.Cond.instanceMethod ({ cls := "BackRescue$Reader", name := "goesIn", desc := "()V" } : Jvm.MethodName)) ∈ lw_all := lw_g (lw_at lw_m3 34 rfl) rfl
theorem q648 : (Jvm.Cond.code ({ cls := "BackRescue$Reader", name := "goesIn", desc := "()V" } : Jvm.MethodName) prog_11_method_22_code (1 : Nat) (Option.none : Option Jvm.ClassFile.FieldType)) ∈ lw_all := lw_g (lw_at lw_m3 35 rfl) rfl
theorem q649 : (Jvm.Cond.methodLink "BackRescue$Reader" (195 : Nat) ({ cls := "BackRescue$Reader", name := "truth", desc := "()LBackRescue$Truth;" } : Jvm.MethodName)) ∈ lw_all := lw_g (lw_at lw_m3 36 rfl) rfl
theorem q650 : (Jvm.Cond.privateMethod ({ cls := "BackRescue$Reader", name := "truth", desc := "()LBackRescue$Truth;" } : Jvm.MethodName)) ∈ lw_tbl := lw_at lw_m3 37 rfl
theorem q651 : (Jvm.Cond.instanceMethod ({ cls := "BackRescue$Reader", name := "truth", desc := "()LBackRescue$Truth;" } : Jvm.MethodName)) ∈ lw_all := lw_g (lw_at lw_m3 38 rfl) rfl
theorem q652 : (Jvm.Cond.code ({ cls := "BackRescue$Reader", name := "truth", desc := "()LBackRescue$Truth;" } : Jvm.MethodName) prog_11_method_23_code (2 : Nat) (Option.some (Jvm.ClassFile.FieldType.object "BackRescue$Truth"))) ∈ lw_all := lw_g (lw_at lw_m3 39 rfl) rfl
theorem q653 : (Jvm.Cond.methodLink "BackRescue$Reader" (205 : Nat) ({ cls := "BackRescue$Reader", name := "both", desc := "()LBackRescue$Truth;" } : Jvm.MethodName)) ∈ lw_all := lw_g (lw_at lw_m3 40 rfl) rfl
theorem q654 : (Jvm.Cond.privateMethod ({ cls := "BackRescue$Reader", name := "both", desc := "()LBackRescue$Truth;" } : Jvm.MethodName)) ∈ lw_tbl := lw_at lw_m3 41 rfl
theorem q655 : (Jvm.Cond.instanceMethod ({ cls := "BackRescue$Reader", name := "both", desc := "()LBackRescue$Truth;" } : Jvm.MethodName)) ∈ lw_all := lw_g (lw_at lw_m3 42 rfl) rfl
theorem q656 : (Jvm.Cond.code ({ cls := "BackRescue$Reader", name := "both", desc := "()LBackRescue$Truth;" } : Jvm.MethodName) prog_11_method_24_code (2 : Nat) (Option.some (Jvm.ClassFile.FieldType.object "BackRescue$Truth"))) ∈ lw_all := lw_g (lw_at lw_m3 43 rfl) rfl
theorem q657 : (Jvm.Cond.methodLink "BackRescue$Reader" (214 : Nat) ({ cls := "BackRescue$Reader", name := "unit", desc := "()LBackRescue$Truth;" } : Jvm.MethodName)) ∈ lw_all := lw_g (lw_at lw_m3 44 rfl) rfl
theorem q658 : (Jvm.Cond.privateMethod ({ cls := "BackRescue$Reader", name := "unit", desc := "()LBackRescue$Truth;" } : Jvm.MethodName)) ∈ lw_tbl := lw_at lw_m3 45 rfl
theorem q659 : (Jvm.Cond.instanceMethod ({ cls := "BackRescue$Reader", name := "unit", desc := "()LBackRescue$Truth;" } : Jvm.MethodName)) ∈ lw_all := lw_g (lw_at lw_m3 46 rfl) rfl
theorem q660 : (Jvm.Cond.code ({ cls := "BackRescue$Reader", name := "unit", desc := "()LBackRescue$Truth;" } : Jvm.MethodName) prog_11_method_25_code (3 : Nat) (Option.some (Jvm.ClassFile.FieldType.object "BackRescue$Truth"))) ∈ lw_all := lw_g (lw_at lw_m3 47 rfl) rfl
theorem q661 : (Jvm.Cond.stringRef "BackRescue$Reader" (219 : Nat) "not") ∈ lw_tbl := lw_at lw_m3 48 rfl
theorem q662 : (Jvm.Cond.classLink "BackRescue$Reader" (224 : Nat) "BackRescue$Not") ∈ lw_all := lw_g (lw_at lw_m3 49 rfl) rfl
theorem q664 : (Jvm.Cond.methodLink "BackRescue$Reader" (226 : Nat) ({ cls := "BackRescue$Not", name := "<init>", desc := "(LBackRescue$Truth;)V" } : Jvm.MethodName)) ∈ lw_all := lw_g (lw_at lw_m3 51 rfl) rfl
theorem q675 : (Jvm.Cond.methodLink "BackRescue$Reader" (229 : Nat) ({ cls := "BackRescue$Reader", name := "isSign", desc := "(I)Z" } : Jvm.MethodName)) ∈ lw_all := lw_g (lw_at lw_m3 62 rfl) rfl
theorem q676 : (Jvm.Cond.privateMethod ({ cls := "BackRescue$Reader", name := "isSign", desc := "(I)Z" } : Jvm.MethodName)) ∈ lw_tbl := lw_at lw_m3 63 rfl
theorem q677 : (Jvm.Cond.instanceMethod ({ cls := "BackRescue$Reader", name := "isSign", desc := "(I)Z" } : Jvm.MethodName)) ∈ lw_all := lw_g (lw_at lw_m3 64 rfl) rfl
theorem q678 : (Jvm.Cond.code ({ cls := "BackRescue$Reader", name := "isSign", desc := "(I)Z" } : Jvm.MethodName) prog_11_method_9_code (2 : Nat) (Option.some Jvm.ClassFile.FieldType.boolean)) ∈ lw_all := lw_g (lw_at lw_m3 65 rfl) rfl
theorem q679 : (Jvm.Cond.classLink "BackRescue$Reader" (232 : Nat) "BackRescue$Compare") ∈ lw_all := lw_g (lw_at lw_m3 66 rfl) rfl
theorem q681 : (Jvm.Cond.methodLink "BackRescue$Reader" (234 : Nat) ({ cls := "BackRescue$Compare", name := "<init>", desc := "(LBackRescue$Sum;ILBackRescue$Sum;)V" } : Jvm.MethodName)) ∈ lw_all := lw_g (lw_at lw_m3 68 rfl) rfl
theorem q695 : (Jvm.Cond.stringRef "BackRescue$Reader" (217 : Nat) "and") ∈ lw_tbl := lw_at lw_m3 82 rfl
theorem q696 : (Jvm.Cond.classLink "BackRescue$Reader" (209 : Nat) "BackRescue$Both") ∈ lw_all := lw_g (lw_at lw_m3 83 rfl) rfl
theorem q698 : (Jvm.Cond.methodLink "BackRescue$Reader" (211 : Nat) ({ cls := "BackRescue$Both", name := "<init>", desc := "(LBackRescue$Truth;ZLBackRescue$Truth;)V" } : Jvm.MethodName)) ∈ lw_all := lw_g (lw_at lw_m3 85 rfl) rfl
theorem q712 : (Jvm.Cond.stringRef "BackRescue$Reader" (207 : Nat) "or") ∈ lw_tbl := lw_at lw_m3 99 rfl
theorem q713 : (Jvm.Cond.stringRef "BackRescue$Reader" (264 : Nat) "then") ∈ lw_tbl := lw_at lw_m3 100 rfl
theorem q714 : (Jvm.Cond.stringRef "BackRescue$Reader" (266 : Nat) "else") ∈ lw_tbl := lw_at lw_m3 101 rfl
theorem q715 : (Jvm.Cond.stringRef "BackRescue$Reader" (268 : Nat) "end") ∈ lw_tbl := lw_at lw_m3 102 rfl
theorem q716 : (Jvm.Cond.classLink "BackRescue$Reader" (269 : Nat) "BackRescue$If") ∈ lw_all := lw_g (lw_at lw_m3 103 rfl) rfl
theorem q718 : (Jvm.Cond.methodLink "BackRescue$Reader" (271 : Nat) ({ cls := "BackRescue$If", name := "<init>", desc := "(LBackRescue$Truth;LBackRescue$Sum;LBackRescue$Sum;)V" } : Jvm.MethodName)) ∈ lw_all := lw_g (lw_at lw_m3 105 rfl) rfl
theorem q735 : (Jvm.Cond.methodLink "BackRescue$Reader" (254 : Nat) ({ cls := "BackRescue$Reader", name := "word", desc := "()I" } : Jvm.MethodName)) ∈ lw_all := lw_g (lw_at lw_m3 122 rfl) rfl
theorem q736 : (Jvm.Cond.privateMethod ({ cls := "BackRescue$Reader", name := "word", desc := "()I" } : Jvm.MethodName)) ∈ lw_tbl := lw_at lw_m3 123 rfl
theorem q737 : (Jvm.Cond.instanceMethod ({ cls := "BackRescue$Reader", name := "word", desc := "()I" } : Jvm.MethodName)) ∈ lw_all := lw_g (lw_at lw_m3 124 rfl) rfl
theorem q738 : (Jvm.Cond.code ({ cls := "BackRescue$Reader", name := "word", desc := "()I" } : Jvm.MethodName) prog_11_method_28_code (1 : Nat) (Option.some Jvm.ClassFile.FieldType.int)) ∈ lw_all := lw_g (lw_at lw_m3 125 rfl) rfl
theorem q739 : (Jvm.Cond.stringRef "BackRescue$Reader" (246 : Nat) "back") ∈ lw_tbl := lw_at lw_m3 126 rfl
theorem q740 : (Jvm.Cond.stringRef "BackRescue$Reader" (248 : Nat) "room") ∈ lw_tbl := lw_at lw_m3 127 rfl
theorem q741 : (Jvm.Cond.classLink "BackRescue$Reader" (257 : Nat) "BackRescue$Known") ∈ lw_all := lw_g (lw_at lw_m3 128 rfl) rfl
theorem q743 : (Jvm.Cond.methodLink "BackRescue$Reader" (259 : Nat) ({ cls := "BackRescue$Known", name := "<init>", desc := "(I)V" } : Jvm.MethodName)) ∈ lw_all := lw_g (lw_at lw_m3 130 rfl) rfl
theorem q751 : (Jvm.Cond.classLink "BackRescue$Reader" (261 : Nat) "BackRescue$Plain") ∈ lw_all := lw_g (lw_at lw_m3 138 rfl) rfl
theorem q753 : (Jvm.Cond.methodLink "BackRescue$Reader" (263 : Nat) ({ cls := "BackRescue$Plain", name := "<init>", desc := "(I)V" } : Jvm.MethodName)) ∈ lw_all := lw_g (lw_at lw_m3 140 rfl) rfl
theorem q761 : (Jvm.Cond.classLink "BackRescue$Reader" (240 : Nat) "BackRescue$Pair") ∈ lw_all := lw_g (lw_at lw_m3 148 rfl) rfl
theorem q763 : (Jvm.Cond.methodLink "BackRescue$Reader" (242 : Nat) ({ cls := "BackRescue$Pair", name := "<init>", desc := "(LBackRescue$Sum;ILBackRescue$Sum;)V" } : Jvm.MethodName)) ∈ lw_all := lw_g (lw_at lw_m3 150 rfl) rfl
theorem q777 : (Jvm.Cond.stringRef "BackRescue$Reader" (146 : Nat) "may") ∈ lw_tbl := lw_at lw_m3 164 rfl
theorem q778 : (Jvm.Cond.methodLink "BackRescue$Reader" (148 : Nat) ({ cls := "BackRescue$Reader", name := "may", desc := "()V" } : Jvm.MethodName)) ∈ lw_all := lw_g (lw_at lw_m3 165 rfl) rfl
theorem q779 : (Jvm.Cond.privateMethod ({ cls := "BackRescue$Reader", name := "may", desc := "()V" } : Jvm.MethodName)) ∈ lw_tbl := lw_at lw_m3 166 rfl
theorem q780 : (Jvm.Cond.instanceMethod ({ cls := "BackRescue$Reader", name := "may", desc := "()V" } : Jvm.MethodName)) ∈ lw_all := lw_g (lw_at lw_m3 167 rfl) rfl
theorem q781 : (Jvm.Cond.code ({ cls := "BackRescue$Reader", name := "may", desc := "()V" } : Jvm.MethodName) prog_11_method_21_code (2 : Nat) (Option.none : Option Jvm.ClassFile.FieldType)) ∈ lw_all := lw_g (lw_at lw_m3 168 rfl) rfl
theorem in_X5 : ∀ w ∈ wsX50, w ∈ lw_all := lw_in wsX50 [409, 411, 413, 415, 417, 419, 421, 423, 425, 427, 429] (by decide +kernel) (by decide +kernel)
/-! BackRescue$Truth -/
set_option maxRecDepth 100000
def RX6 : String := "BackRescue$Truth"
abbrev cX6_init : ByteArray := prog_14_method_1_code
def yX6_init : MethodName := ⟨RX6, "<init>", "()V"⟩
theorem dX6_init_0 : decode cX6_init 0 = .ok (.aload_n 0, 1) := by decide +kernel
theorem dX6_init_1 : decode cX6_init 1 = .ok (.invokespecial 1, 3) := by decide +kernel
theorem dX6_init_4 : decode cX6_init 4 = .ok (.return_, 1) := by decide +kernel
theorem q146 : (Jvm.Cond.initialized "BackRescue$Truth") ∈ lw_all := lw_g (lw_at lw_m1 13 rfl) rfl
theorem q668 : (Jvm.Cond.instanceMethod ({ cls := "BackRescue$Truth", name := "<init>", desc := "()V" } : Jvm.MethodName)) ∈ lw_all := lw_g (lw_at lw_m3 55 rfl) rfl
theorem q669 : (Jvm.Cond.code ({ cls := "BackRescue$Truth", name := "<init>", desc := "()V" } : Jvm.MethodName) prog_14_method_1_code (1 : Nat) (Option.none : Option Jvm.ClassFile.FieldType)) ∈ lw_all := lw_g (lw_at lw_m3 56 rfl) rfl
theorem q670 : (Jvm.Cond.methodLink "BackRescue$Truth" (1 : Nat) ({ cls := "java/lang/Object", name := "<init>", desc := "()V" } : Jvm.MethodName)) ∈ lw_all := lw_g (lw_at lw_m3 57 rfl) rfl
theorem q846 : (Jvm.Cond.declares ({ cls := "BackRescue$Truth", name := "holds", desc := "([I)Z" } : Jvm.MethodName)) ∈ lw_tbl := lw_at lw_m3 233 rfl
theorem q847 : (Jvm.Cond.sameMethod "BackRescue$Truth" "BackRescue$Truth" "holds" "([I)Z") ∈ lw_all := lw_g (lw_at lw_m3 234 rfl) rfl
/-! BackRescue$Not -/
set_option maxRecDepth 100000
def RX7 : String := "BackRescue$Not"
def TX7 : u_T := fun k => match k with
  | _ => ("BackRescue$Not", "one", "LBackRescue$Truth;", true)
def tyX7 : Nat → FieldType := fun k => match k with
  | _ => .object "BackRescue$Truth"
abbrev wsX70 : List Cond := u_ws RX7 TX7 1
theorem nmX7 : ∀ a, a < 1 → ∀ b, b < 1 → a ≠ b → (TX7 a).2.1 ≠ (TX7 b).2.1 := by decide +kernel
theorem tyX7_ok : ∀ k, k < 1 → parseFieldDescriptor (TX7 k).2.2.1 = some (tyX7 k) := by decide +kernel
abbrev cX7_init : ByteArray := prog_7_method_1_code
def yX7_init : MethodName := ⟨RX7, "<init>", "(LBackRescue$Truth;)V"⟩
def dkwX7_init_0 : List UInt8 := [42, 183, 0, 1, 42, 43, 181, 0, 7, 177]
abbrev dktX7_init_0 : List UInt8 := dkwX7_init_0 ++ []
theorem dksX7_init_0 : cX7_init.data.toList.drop 0 = dktX7_init_0 := by decide +kernel
theorem dX7_init_0 : decode cX7_init 0 = .ok (.aload_n 0, 1) := dk_42 (dk_at dksX7_init_0 0 rfl rfl)
theorem dX7_init_1 : decode cX7_init 1 = .ok (.invokespecial 1, 3) := dk_183 0 1 (dk_at dksX7_init_0 1 rfl rfl)
theorem dX7_init_4 : decode cX7_init 4 = .ok (.aload_n 0, 1) := dk_42 (dk_at dksX7_init_0 4 rfl rfl)
theorem dX7_init_5 : decode cX7_init 5 = .ok (.aload_n 1, 1) := dk_43 (dk_at dksX7_init_0 5 rfl rfl)
theorem dX7_init_6 : decode cX7_init 6 = .ok (.putfield 7, 3) := dk_181 0 7 (dk_at dksX7_init_0 6 rfl rfl)
theorem dX7_init_9 : decode cX7_init 9 = .ok (.return_, 1) := dk_177 (dk_at dksX7_init_0 9 rfl rfl)
abbrev cX7_holds : ByteArray := prog_7_method_2_code
def yX7_holds : MethodName := ⟨RX7, "holds", "([I)Z"⟩
def dkwX7_holds_0 : List UInt8 := [42, 180, 0, 7, 43, 182, 0, 13, 154, 0, 7, 4, 167, 0, 4, 3, 172]
abbrev dktX7_holds_0 : List UInt8 := dkwX7_holds_0 ++ []
theorem dksX7_holds_0 : cX7_holds.data.toList.drop 0 = dktX7_holds_0 := by decide +kernel
theorem dX7_holds_0 : decode cX7_holds 0 = .ok (.aload_n 0, 1) := dk_42 (dk_at dksX7_holds_0 0 rfl rfl)
theorem dX7_holds_1 : decode cX7_holds 1 = .ok (.getfield 7, 3) := dk_180 0 7 (dk_at dksX7_holds_0 1 rfl rfl)
theorem dX7_holds_4 : decode cX7_holds 4 = .ok (.aload_n 1, 1) := dk_43 (dk_at dksX7_holds_0 4 rfl rfl)
theorem dX7_holds_5 : decode cX7_holds 5 = .ok (.invokevirtual 13, 3) := dk_182 0 13 (dk_at dksX7_holds_0 5 rfl rfl)
theorem dX7_holds_8 : decode cX7_holds 8 = .ok (.ifCond .ne 7, 3) := dk_154 0 7 (dk_at dksX7_holds_0 8 rfl rfl)
theorem dX7_holds_11 : decode cX7_holds 11 = .ok (.iconst 1, 1) := dk_4 (dk_at dksX7_holds_0 11 rfl rfl)
theorem dX7_holds_12 : decode cX7_holds 12 = .ok (.goto 4, 3) := dk_167 0 4 (dk_at dksX7_holds_0 12 rfl rfl)
theorem dX7_holds_15 : decode cX7_holds 15 = .ok (.iconst 0, 1) := dk_3 (dk_at dksX7_holds_0 15 rfl rfl)
theorem dX7_holds_16 : decode cX7_holds 16 = .ok (.ireturn, 1) := dk_172 (dk_at dksX7_holds_0 16 rfl rfl)
theorem q147 : (Jvm.Cond.initialized "BackRescue$Not") ∈ lw_all := lw_g (lw_at lw_m1 14 rfl) rfl
theorem q663 : (Jvm.Cond.instantiable "BackRescue$Not" (1 : Nat)) ∈ lw_all := lw_g (lw_at lw_m3 50 rfl) rfl
theorem q665 : (Jvm.Cond.instanceMethod ({ cls := "BackRescue$Not", name := "<init>", desc := "(LBackRescue$Truth;)V" } : Jvm.MethodName)) ∈ lw_all := lw_g (lw_at lw_m3 52 rfl) rfl
theorem q666 : (Jvm.Cond.code ({ cls := "BackRescue$Not", name := "<init>", desc := "(LBackRescue$Truth;)V" } : Jvm.MethodName) prog_7_method_1_code (2 : Nat) (Option.none : Option Jvm.ClassFile.FieldType)) ∈ lw_all := lw_g (lw_at lw_m3 53 rfl) rfl
theorem q667 : (Jvm.Cond.methodLinkNest "BackRescue$Not" (1 : Nat) ({ cls := "BackRescue$Truth", name := "<init>", desc := "()V" } : Jvm.MethodName) "BackRescue") ∈ lw_tbl := lw_at lw_m3 54 rfl
theorem q671 : (Jvm.Cond.fieldLink "BackRescue$Not" (7 : Nat) "BackRescue$Not" "one" "LBackRescue$Truth;") ∈ lw_all := lw_g (lw_at lw_m3 58 rfl) rfl
theorem q672 : (Jvm.Cond.laysFinal "BackRescue$Not" "BackRescue$Not" "one" "LBackRescue$Truth;") ∈ lw_all := lw_g (lw_at lw_m3 59 rfl) rfl
theorem q673 : (Jvm.Cond.soleField "BackRescue$Not" "one") ∈ lw_all := lw_g (lw_at lw_m3 60 rfl) rfl
theorem q674 : (Jvm.Cond.superclass "BackRescue$Not" "BackRescue$Truth") ∈ lw_all := lw_g (lw_at lw_m3 61 rfl) rfl
theorem q861 : (Jvm.Cond.instanceMethod ({ cls := "BackRescue$Not", name := "holds", desc := "([I)Z" } : Jvm.MethodName)) ∈ lw_all := lw_g (lw_at lw_m4 8 rfl) rfl
theorem q862 : (Jvm.Cond.code ({ cls := "BackRescue$Not", name := "holds", desc := "([I)Z" } : Jvm.MethodName) prog_7_method_2_code (2 : Nat) (Option.some Jvm.ClassFile.FieldType.boolean)) ∈ lw_all := lw_g (lw_at lw_m4 9 rfl) rfl
theorem q863 : (Jvm.Cond.methodLink "BackRescue$Not" (13 : Nat) ({ cls := "BackRescue$Truth", name := "holds", desc := "([I)Z" } : Jvm.MethodName)) ∈ lw_all := lw_g (lw_at lw_m4 10 rfl) rfl
theorem q884 : (Jvm.Cond.selects "BackRescue$Not" ({ cls := "BackRescue$Truth", name := "holds", desc := "([I)Z" } : Jvm.MethodName) ({ cls := "BackRescue$Not", name := "holds", desc := "([I)Z" } : Jvm.MethodName)) ∈ lw_all := lw_g (lw_at lw_m4 31 rfl) rfl
theorem in_X7 : ∀ w ∈ wsX70, w ∈ lw_all := lw_in wsX70 [672] (by decide +kernel) (by decide +kernel)
/-! BackRescue$Compare -/
set_option maxRecDepth 100000
def RX8 : String := "BackRescue$Compare"
def TX8 : u_T := fun k => match k with
  | 0 => ("BackRescue$Compare", "one", "LBackRescue$Sum;", true)
  | 1 => ("BackRescue$Compare", "two", "LBackRescue$Sum;", true)
  | _ => ("BackRescue$Compare", "sign", "I", true)
def tyX8 : Nat → FieldType := fun k => match k with
  | 0 => .object "BackRescue$Sum"
  | 1 => .object "BackRescue$Sum"
  | _ => .int
abbrev wsX80 : List Cond := u_ws RX8 TX8 3
theorem nmX8 : ∀ a, a < 3 → ∀ b, b < 3 → a ≠ b → (TX8 a).2.1 ≠ (TX8 b).2.1 := by decide +kernel
theorem tyX8_ok : ∀ k, k < 3 → parseFieldDescriptor (TX8 k).2.2.1 = some (tyX8 k) := by decide +kernel
abbrev cX8_init : ByteArray := prog_4_method_1_code
def yX8_init : MethodName := ⟨RX8, "<init>", "(LBackRescue$Sum;ILBackRescue$Sum;)V"⟩
def dkwX8_init_0 : List UInt8 := [42, 183, 0, 1, 42, 43, 181, 0, 7, 42, 28, 181, 0, 13, 42, 45, 181, 0, 17, 177]
abbrev dktX8_init_0 : List UInt8 := dkwX8_init_0 ++ []
theorem dksX8_init_0 : cX8_init.data.toList.drop 0 = dktX8_init_0 := by decide +kernel
theorem dX8_init_0 : decode cX8_init 0 = .ok (.aload_n 0, 1) := dk_42 (dk_at dksX8_init_0 0 rfl rfl)
theorem dX8_init_1 : decode cX8_init 1 = .ok (.invokespecial 1, 3) := dk_183 0 1 (dk_at dksX8_init_0 1 rfl rfl)
theorem dX8_init_4 : decode cX8_init 4 = .ok (.aload_n 0, 1) := dk_42 (dk_at dksX8_init_0 4 rfl rfl)
theorem dX8_init_5 : decode cX8_init 5 = .ok (.aload_n 1, 1) := dk_43 (dk_at dksX8_init_0 5 rfl rfl)
theorem dX8_init_6 : decode cX8_init 6 = .ok (.putfield 7, 3) := dk_181 0 7 (dk_at dksX8_init_0 6 rfl rfl)
theorem dX8_init_9 : decode cX8_init 9 = .ok (.aload_n 0, 1) := dk_42 (dk_at dksX8_init_0 9 rfl rfl)
theorem dX8_init_10 : decode cX8_init 10 = .ok (.iload_n 2, 1) := dk_28 (dk_at dksX8_init_0 10 rfl rfl)
theorem dX8_init_11 : decode cX8_init 11 = .ok (.putfield 13, 3) := dk_181 0 13 (dk_at dksX8_init_0 11 rfl rfl)
theorem dX8_init_14 : decode cX8_init 14 = .ok (.aload_n 0, 1) := dk_42 (dk_at dksX8_init_0 14 rfl rfl)
theorem dX8_init_15 : decode cX8_init 15 = .ok (.aload_n 3, 1) := dk_45 (dk_at dksX8_init_0 15 rfl rfl)
theorem dX8_init_16 : decode cX8_init 16 = .ok (.putfield 17, 3) := dk_181 0 17 (dk_at dksX8_init_0 16 rfl rfl)
theorem dX8_init_19 : decode cX8_init 19 = .ok (.return_, 1) := dk_177 (dk_at dksX8_init_0 19 rfl rfl)
abbrev cX8_holds : ByteArray := prog_4_method_2_code
def yX8_holds : MethodName := ⟨RX8, "holds", "([I)Z"⟩
def dkwX8_holds_3 : List UInt8 := [167, 0, 4, 3, 172]
abbrev dktX8_holds_3 : List UInt8 := dkwX8_holds_3 ++ []
def dkwX8_holds_2 : List UInt8 := [160, 0, 16, 28, 29, 162, 0, 7, 4, 167, 0, 17, 3, 167, 0, 13, 28, 29, 164, 0, 7, 4]
abbrev dktX8_holds_2 : List UInt8 := dkwX8_holds_2 ++ dktX8_holds_3
def dkwX8_holds_1 : List UInt8 := [160, 0, 16, 28, 29, 160, 0, 7, 4, 167, 0, 39, 3, 167, 0, 35, 42, 180, 0, 13, 16, 60]
abbrev dktX8_holds_1 : List UInt8 := dkwX8_holds_1 ++ dktX8_holds_2
def dkwX8_holds_0 : List UInt8 := [42, 180, 0, 7, 43, 182, 0, 20, 61, 42, 180, 0, 17, 43, 182, 0, 20, 62, 42, 180, 0, 13, 16, 61]
abbrev dktX8_holds_0 : List UInt8 := dkwX8_holds_0 ++ dktX8_holds_1
theorem dksX8_holds_0 : cX8_holds.data.toList.drop 0 = dktX8_holds_0 := by decide +kernel
theorem dksX8_holds_1 : cX8_holds.data.toList.drop 24 = dktX8_holds_1 := dk_seg dksX8_holds_0 24 rfl rfl
theorem dksX8_holds_2 : cX8_holds.data.toList.drop 46 = dktX8_holds_2 := dk_seg dksX8_holds_1 22 rfl rfl
theorem dksX8_holds_3 : cX8_holds.data.toList.drop 68 = dktX8_holds_3 := dk_seg dksX8_holds_2 22 rfl rfl
theorem dX8_holds_0 : decode cX8_holds 0 = .ok (.aload_n 0, 1) := dk_42 (dk_at dksX8_holds_0 0 rfl rfl)
theorem dX8_holds_1 : decode cX8_holds 1 = .ok (.getfield 7, 3) := dk_180 0 7 (dk_at dksX8_holds_0 1 rfl rfl)
theorem dX8_holds_4 : decode cX8_holds 4 = .ok (.aload_n 1, 1) := dk_43 (dk_at dksX8_holds_0 4 rfl rfl)
theorem dX8_holds_5 : decode cX8_holds 5 = .ok (.invokevirtual 20, 3) := dk_182 0 20 (dk_at dksX8_holds_0 5 rfl rfl)
theorem dX8_holds_8 : decode cX8_holds 8 = .ok (.istore_n 2, 1) := dk_61 (dk_at dksX8_holds_0 8 rfl rfl)
theorem dX8_holds_9 : decode cX8_holds 9 = .ok (.aload_n 0, 1) := dk_42 (dk_at dksX8_holds_0 9 rfl rfl)
theorem dX8_holds_10 : decode cX8_holds 10 = .ok (.getfield 17, 3) := dk_180 0 17 (dk_at dksX8_holds_0 10 rfl rfl)
theorem dX8_holds_13 : decode cX8_holds 13 = .ok (.aload_n 1, 1) := dk_43 (dk_at dksX8_holds_0 13 rfl rfl)
theorem dX8_holds_14 : decode cX8_holds 14 = .ok (.invokevirtual 20, 3) := dk_182 0 20 (dk_at dksX8_holds_0 14 rfl rfl)
theorem dX8_holds_17 : decode cX8_holds 17 = .ok (.istore_n 3, 1) := dk_62 (dk_at dksX8_holds_0 17 rfl rfl)
theorem dX8_holds_18 : decode cX8_holds 18 = .ok (.aload_n 0, 1) := dk_42 (dk_at dksX8_holds_0 18 rfl rfl)
theorem dX8_holds_19 : decode cX8_holds 19 = .ok (.getfield 13, 3) := dk_180 0 13 (dk_at dksX8_holds_0 19 rfl rfl)
theorem dX8_holds_22 : decode cX8_holds 22 = .ok (.bipush 61, 2) := dk_16 61 (dk_at dksX8_holds_0 22 rfl rfl)
theorem dX8_holds_24 : decode cX8_holds 24 = .ok (.if_icmp .ne 16, 3) := dk_160 0 16 (dk_at dksX8_holds_1 0 rfl rfl)
theorem dX8_holds_27 : decode cX8_holds 27 = .ok (.iload_n 2, 1) := dk_28 (dk_at dksX8_holds_1 3 rfl rfl)
theorem dX8_holds_28 : decode cX8_holds 28 = .ok (.iload_n 3, 1) := dk_29 (dk_at dksX8_holds_1 4 rfl rfl)
theorem dX8_holds_29 : decode cX8_holds 29 = .ok (.if_icmp .ne 7, 3) := dk_160 0 7 (dk_at dksX8_holds_1 5 rfl rfl)
theorem dX8_holds_32 : decode cX8_holds 32 = .ok (.iconst 1, 1) := dk_4 (dk_at dksX8_holds_1 8 rfl rfl)
theorem dX8_holds_33 : decode cX8_holds 33 = .ok (.goto 39, 3) := dk_167 0 39 (dk_at dksX8_holds_1 9 rfl rfl)
theorem dX8_holds_36 : decode cX8_holds 36 = .ok (.iconst 0, 1) := dk_3 (dk_at dksX8_holds_1 12 rfl rfl)
theorem dX8_holds_37 : decode cX8_holds 37 = .ok (.goto 35, 3) := dk_167 0 35 (dk_at dksX8_holds_1 13 rfl rfl)
theorem dX8_holds_40 : decode cX8_holds 40 = .ok (.aload_n 0, 1) := dk_42 (dk_at dksX8_holds_1 16 rfl rfl)
theorem dX8_holds_41 : decode cX8_holds 41 = .ok (.getfield 13, 3) := dk_180 0 13 (dk_at dksX8_holds_1 17 rfl rfl)
theorem dX8_holds_44 : decode cX8_holds 44 = .ok (.bipush 60, 2) := dk_16 60 (dk_at dksX8_holds_1 20 rfl rfl)
theorem dX8_holds_46 : decode cX8_holds 46 = .ok (.if_icmp .ne 16, 3) := dk_160 0 16 (dk_at dksX8_holds_2 0 rfl rfl)
theorem dX8_holds_49 : decode cX8_holds 49 = .ok (.iload_n 2, 1) := dk_28 (dk_at dksX8_holds_2 3 rfl rfl)
theorem dX8_holds_50 : decode cX8_holds 50 = .ok (.iload_n 3, 1) := dk_29 (dk_at dksX8_holds_2 4 rfl rfl)
theorem dX8_holds_51 : decode cX8_holds 51 = .ok (.if_icmp .ge 7, 3) := dk_162 0 7 (dk_at dksX8_holds_2 5 rfl rfl)
theorem dX8_holds_54 : decode cX8_holds 54 = .ok (.iconst 1, 1) := dk_4 (dk_at dksX8_holds_2 8 rfl rfl)
theorem dX8_holds_55 : decode cX8_holds 55 = .ok (.goto 17, 3) := dk_167 0 17 (dk_at dksX8_holds_2 9 rfl rfl)
theorem dX8_holds_58 : decode cX8_holds 58 = .ok (.iconst 0, 1) := dk_3 (dk_at dksX8_holds_2 12 rfl rfl)
theorem dX8_holds_59 : decode cX8_holds 59 = .ok (.goto 13, 3) := dk_167 0 13 (dk_at dksX8_holds_2 13 rfl rfl)
theorem dX8_holds_62 : decode cX8_holds 62 = .ok (.iload_n 2, 1) := dk_28 (dk_at dksX8_holds_2 16 rfl rfl)
theorem dX8_holds_63 : decode cX8_holds 63 = .ok (.iload_n 3, 1) := dk_29 (dk_at dksX8_holds_2 17 rfl rfl)
theorem dX8_holds_64 : decode cX8_holds 64 = .ok (.if_icmp .le 7, 3) := dk_164 0 7 (dk_at dksX8_holds_2 18 rfl rfl)
theorem dX8_holds_67 : decode cX8_holds 67 = .ok (.iconst 1, 1) := dk_4 (dk_at dksX8_holds_2 21 rfl rfl)
theorem dX8_holds_68 : decode cX8_holds 68 = .ok (.goto 4, 3) := dk_167 0 4 (dk_at dksX8_holds_3 0 rfl rfl)
theorem dX8_holds_71 : decode cX8_holds 71 = .ok (.iconst 0, 1) := dk_3 (dk_at dksX8_holds_3 3 rfl rfl)
theorem dX8_holds_72 : decode cX8_holds 72 = .ok (.ireturn, 1) := dk_172 (dk_at dksX8_holds_3 4 rfl rfl)
theorem q148 : (Jvm.Cond.initialized "BackRescue$Compare") ∈ lw_all := lw_g (lw_at lw_m1 15 rfl) rfl
theorem q680 : (Jvm.Cond.instantiable "BackRescue$Compare" (3 : Nat)) ∈ lw_all := lw_g (lw_at lw_m3 67 rfl) rfl
theorem q682 : (Jvm.Cond.instanceMethod ({ cls := "BackRescue$Compare", name := "<init>", desc := "(LBackRescue$Sum;ILBackRescue$Sum;)V" } : Jvm.MethodName)) ∈ lw_all := lw_g (lw_at lw_m3 69 rfl) rfl
theorem q683 : (Jvm.Cond.code ({ cls := "BackRescue$Compare", name := "<init>", desc := "(LBackRescue$Sum;ILBackRescue$Sum;)V" } : Jvm.MethodName) prog_4_method_1_code (4 : Nat) (Option.none : Option Jvm.ClassFile.FieldType)) ∈ lw_all := lw_g (lw_at lw_m3 70 rfl) rfl
theorem q684 : (Jvm.Cond.methodLinkNest "BackRescue$Compare" (1 : Nat) ({ cls := "BackRescue$Truth", name := "<init>", desc := "()V" } : Jvm.MethodName) "BackRescue") ∈ lw_tbl := lw_at lw_m3 71 rfl
theorem q685 : (Jvm.Cond.fieldLink "BackRescue$Compare" (7 : Nat) "BackRescue$Compare" "one" "LBackRescue$Sum;") ∈ lw_all := lw_g (lw_at lw_m3 72 rfl) rfl
theorem q686 : (Jvm.Cond.fieldLink "BackRescue$Compare" (17 : Nat) "BackRescue$Compare" "two" "LBackRescue$Sum;") ∈ lw_all := lw_g (lw_at lw_m3 73 rfl) rfl
theorem q687 : (Jvm.Cond.fieldLink "BackRescue$Compare" (13 : Nat) "BackRescue$Compare" "sign" "I") ∈ lw_all := lw_g (lw_at lw_m3 74 rfl) rfl
theorem q688 : (Jvm.Cond.laysFinal "BackRescue$Compare" "BackRescue$Compare" "one" "LBackRescue$Sum;") ∈ lw_all := lw_g (lw_at lw_m3 75 rfl) rfl
theorem q689 : (Jvm.Cond.soleField "BackRescue$Compare" "one") ∈ lw_all := lw_g (lw_at lw_m3 76 rfl) rfl
theorem q690 : (Jvm.Cond.laysFinal "BackRescue$Compare" "BackRescue$Compare" "two" "LBackRescue$Sum;") ∈ lw_all := lw_g (lw_at lw_m3 77 rfl) rfl
theorem q691 : (Jvm.Cond.soleField "BackRescue$Compare" "two") ∈ lw_all := lw_g (lw_at lw_m3 78 rfl) rfl
theorem q692 : (Jvm.Cond.laysFinal "BackRescue$Compare" "BackRescue$Compare" "sign" "I") ∈ lw_all := lw_g (lw_at lw_m3 79 rfl) rfl
theorem q693 : (Jvm.Cond.soleField "BackRescue$Compare" "sign") ∈ lw_all := lw_g (lw_at lw_m3 80 rfl) rfl
theorem q694 : (Jvm.Cond.superclass "BackRescue$Compare" "BackRescue$Truth") ∈ lw_all := lw_g (lw_at lw_m3 81 rfl) rfl
theorem q852 : (Jvm.Cond.instanceMethod ({ cls := "BackRescue$Compare", name := "holds", desc := "([I)Z" } : Jvm.MethodName)) ∈ lw_all := lw_g (lw_at lw_m3 239 rfl) rfl
theorem q853 : (Jvm.Cond.code ({ cls := "BackRescue$Compare", name := "holds", desc := "([I)Z" } : Jvm.MethodName) prog_4_method_2_code (4 : Nat) (Option.some Jvm.ClassFile.FieldType.boolean)) ∈ lw_all := lw_g (lw_at lw_m4 0 rfl) rfl
theorem q854 : (Jvm.Cond.methodLink "BackRescue$Compare" (20 : Nat) ({ cls := "BackRescue$Sum", name := "value", desc := "([I)I" } : Jvm.MethodName)) ∈ lw_all := lw_g (lw_at lw_m4 1 rfl) rfl
theorem q883 : (Jvm.Cond.selects "BackRescue$Compare" ({ cls := "BackRescue$Truth", name := "holds", desc := "([I)Z" } : Jvm.MethodName) ({ cls := "BackRescue$Compare", name := "holds", desc := "([I)Z" } : Jvm.MethodName)) ∈ lw_all := lw_g (lw_at lw_m4 30 rfl) rfl
theorem in_X8 : ∀ w ∈ wsX80, w ∈ lw_all := lw_in wsX80 [688, 690, 692] (by decide +kernel) (by decide +kernel)
/-! BackRescue$Both -/
set_option maxRecDepth 100000
def RX9 : String := "BackRescue$Both"
def TX9 : u_T := fun k => match k with
  | 0 => ("BackRescue$Both", "one", "LBackRescue$Truth;", true)
  | 1 => ("BackRescue$Both", "two", "LBackRescue$Truth;", true)
  | _ => ("BackRescue$Both", "isAnd", "Z", true)
def tyX9 : Nat → FieldType := fun k => match k with
  | 0 => .object "BackRescue$Truth"
  | 1 => .object "BackRescue$Truth"
  | _ => .boolean
abbrev wsX90 : List Cond := u_ws RX9 TX9 3
theorem nmX9 : ∀ a, a < 3 → ∀ b, b < 3 → a ≠ b → (TX9 a).2.1 ≠ (TX9 b).2.1 := by decide +kernel
theorem tyX9_ok : ∀ k, k < 3 → parseFieldDescriptor (TX9 k).2.2.1 = some (tyX9 k) := by decide +kernel
abbrev cX9_init : ByteArray := prog_2_method_1_code
def yX9_init : MethodName := ⟨RX9, "<init>", "(LBackRescue$Truth;ZLBackRescue$Truth;)V"⟩
def dkwX9_init_0 : List UInt8 := [42, 183, 0, 1, 42, 43, 181, 0, 7, 42, 28, 181, 0, 13, 42, 45, 181, 0, 17, 177]
abbrev dktX9_init_0 : List UInt8 := dkwX9_init_0 ++ []
theorem dksX9_init_0 : cX9_init.data.toList.drop 0 = dktX9_init_0 := by decide +kernel
theorem dX9_init_0 : decode cX9_init 0 = .ok (.aload_n 0, 1) := dk_42 (dk_at dksX9_init_0 0 rfl rfl)
theorem dX9_init_1 : decode cX9_init 1 = .ok (.invokespecial 1, 3) := dk_183 0 1 (dk_at dksX9_init_0 1 rfl rfl)
theorem dX9_init_4 : decode cX9_init 4 = .ok (.aload_n 0, 1) := dk_42 (dk_at dksX9_init_0 4 rfl rfl)
theorem dX9_init_5 : decode cX9_init 5 = .ok (.aload_n 1, 1) := dk_43 (dk_at dksX9_init_0 5 rfl rfl)
theorem dX9_init_6 : decode cX9_init 6 = .ok (.putfield 7, 3) := dk_181 0 7 (dk_at dksX9_init_0 6 rfl rfl)
theorem dX9_init_9 : decode cX9_init 9 = .ok (.aload_n 0, 1) := dk_42 (dk_at dksX9_init_0 9 rfl rfl)
theorem dX9_init_10 : decode cX9_init 10 = .ok (.iload_n 2, 1) := dk_28 (dk_at dksX9_init_0 10 rfl rfl)
theorem dX9_init_11 : decode cX9_init 11 = .ok (.putfield 13, 3) := dk_181 0 13 (dk_at dksX9_init_0 11 rfl rfl)
theorem dX9_init_14 : decode cX9_init 14 = .ok (.aload_n 0, 1) := dk_42 (dk_at dksX9_init_0 14 rfl rfl)
theorem dX9_init_15 : decode cX9_init 15 = .ok (.aload_n 3, 1) := dk_45 (dk_at dksX9_init_0 15 rfl rfl)
theorem dX9_init_16 : decode cX9_init 16 = .ok (.putfield 17, 3) := dk_181 0 17 (dk_at dksX9_init_0 16 rfl rfl)
theorem dX9_init_19 : decode cX9_init 19 = .ok (.return_, 1) := dk_177 (dk_at dksX9_init_0 19 rfl rfl)
abbrev cX9_holds : ByteArray := prog_2_method_2_code
def yX9_holds : MethodName := ⟨RX9, "holds", "([I)Z"⟩
def dkwX9_holds_2 : List UInt8 := [154, 0, 14, 42, 180, 0, 17, 43, 182, 0, 20, 153, 0, 7, 4, 167, 0, 4, 3, 172]
abbrev dktX9_holds_2 : List UInt8 := dkwX9_holds_2 ++ []
def dkwX9_holds_1 : List UInt8 := [182, 0, 20, 153, 0, 7, 4, 167, 0, 34, 3, 167, 0, 30, 42, 180, 0, 7, 43, 182, 0, 20]
abbrev dktX9_holds_1 : List UInt8 := dkwX9_holds_1 ++ dktX9_holds_2
def dkwX9_holds_0 : List UInt8 := [42, 180, 0, 13, 153, 0, 33, 42, 180, 0, 7, 43, 182, 0, 20, 153, 0, 18, 42, 180, 0, 17, 43]
abbrev dktX9_holds_0 : List UInt8 := dkwX9_holds_0 ++ dktX9_holds_1
theorem dksX9_holds_0 : cX9_holds.data.toList.drop 0 = dktX9_holds_0 := by decide +kernel
theorem dksX9_holds_1 : cX9_holds.data.toList.drop 23 = dktX9_holds_1 := dk_seg dksX9_holds_0 23 rfl rfl
theorem dksX9_holds_2 : cX9_holds.data.toList.drop 45 = dktX9_holds_2 := dk_seg dksX9_holds_1 22 rfl rfl
theorem dX9_holds_0 : decode cX9_holds 0 = .ok (.aload_n 0, 1) := dk_42 (dk_at dksX9_holds_0 0 rfl rfl)
theorem dX9_holds_1 : decode cX9_holds 1 = .ok (.getfield 13, 3) := dk_180 0 13 (dk_at dksX9_holds_0 1 rfl rfl)
theorem dX9_holds_4 : decode cX9_holds 4 = .ok (.ifCond .eq 33, 3) := dk_153 0 33 (dk_at dksX9_holds_0 4 rfl rfl)
theorem dX9_holds_7 : decode cX9_holds 7 = .ok (.aload_n 0, 1) := dk_42 (dk_at dksX9_holds_0 7 rfl rfl)
theorem dX9_holds_8 : decode cX9_holds 8 = .ok (.getfield 7, 3) := dk_180 0 7 (dk_at dksX9_holds_0 8 rfl rfl)
theorem dX9_holds_11 : decode cX9_holds 11 = .ok (.aload_n 1, 1) := dk_43 (dk_at dksX9_holds_0 11 rfl rfl)
theorem dX9_holds_12 : decode cX9_holds 12 = .ok (.invokevirtual 20, 3) := dk_182 0 20 (dk_at dksX9_holds_0 12 rfl rfl)
theorem dX9_holds_15 : decode cX9_holds 15 = .ok (.ifCond .eq 18, 3) := dk_153 0 18 (dk_at dksX9_holds_0 15 rfl rfl)
theorem dX9_holds_18 : decode cX9_holds 18 = .ok (.aload_n 0, 1) := dk_42 (dk_at dksX9_holds_0 18 rfl rfl)
theorem dX9_holds_19 : decode cX9_holds 19 = .ok (.getfield 17, 3) := dk_180 0 17 (dk_at dksX9_holds_0 19 rfl rfl)
theorem dX9_holds_22 : decode cX9_holds 22 = .ok (.aload_n 1, 1) := dk_43 (dk_at dksX9_holds_0 22 rfl rfl)
theorem dX9_holds_23 : decode cX9_holds 23 = .ok (.invokevirtual 20, 3) := dk_182 0 20 (dk_at dksX9_holds_1 0 rfl rfl)
theorem dX9_holds_26 : decode cX9_holds 26 = .ok (.ifCond .eq 7, 3) := dk_153 0 7 (dk_at dksX9_holds_1 3 rfl rfl)
theorem dX9_holds_29 : decode cX9_holds 29 = .ok (.iconst 1, 1) := dk_4 (dk_at dksX9_holds_1 6 rfl rfl)
theorem dX9_holds_30 : decode cX9_holds 30 = .ok (.goto 34, 3) := dk_167 0 34 (dk_at dksX9_holds_1 7 rfl rfl)
theorem dX9_holds_33 : decode cX9_holds 33 = .ok (.iconst 0, 1) := dk_3 (dk_at dksX9_holds_1 10 rfl rfl)
theorem dX9_holds_34 : decode cX9_holds 34 = .ok (.goto 30, 3) := dk_167 0 30 (dk_at dksX9_holds_1 11 rfl rfl)
theorem dX9_holds_37 : decode cX9_holds 37 = .ok (.aload_n 0, 1) := dk_42 (dk_at dksX9_holds_1 14 rfl rfl)
theorem dX9_holds_38 : decode cX9_holds 38 = .ok (.getfield 7, 3) := dk_180 0 7 (dk_at dksX9_holds_1 15 rfl rfl)
theorem dX9_holds_41 : decode cX9_holds 41 = .ok (.aload_n 1, 1) := dk_43 (dk_at dksX9_holds_1 18 rfl rfl)
theorem dX9_holds_42 : decode cX9_holds 42 = .ok (.invokevirtual 20, 3) := dk_182 0 20 (dk_at dksX9_holds_1 19 rfl rfl)
theorem dX9_holds_45 : decode cX9_holds 45 = .ok (.ifCond .ne 14, 3) := dk_154 0 14 (dk_at dksX9_holds_2 0 rfl rfl)
theorem dX9_holds_48 : decode cX9_holds 48 = .ok (.aload_n 0, 1) := dk_42 (dk_at dksX9_holds_2 3 rfl rfl)
theorem dX9_holds_49 : decode cX9_holds 49 = .ok (.getfield 17, 3) := dk_180 0 17 (dk_at dksX9_holds_2 4 rfl rfl)
theorem dX9_holds_52 : decode cX9_holds 52 = .ok (.aload_n 1, 1) := dk_43 (dk_at dksX9_holds_2 7 rfl rfl)
theorem dX9_holds_53 : decode cX9_holds 53 = .ok (.invokevirtual 20, 3) := dk_182 0 20 (dk_at dksX9_holds_2 8 rfl rfl)
theorem dX9_holds_56 : decode cX9_holds 56 = .ok (.ifCond .eq 7, 3) := dk_153 0 7 (dk_at dksX9_holds_2 11 rfl rfl)
theorem dX9_holds_59 : decode cX9_holds 59 = .ok (.iconst 1, 1) := dk_4 (dk_at dksX9_holds_2 14 rfl rfl)
theorem dX9_holds_60 : decode cX9_holds 60 = .ok (.goto 4, 3) := dk_167 0 4 (dk_at dksX9_holds_2 15 rfl rfl)
theorem dX9_holds_63 : decode cX9_holds 63 = .ok (.iconst 0, 1) := dk_3 (dk_at dksX9_holds_2 18 rfl rfl)
theorem dX9_holds_64 : decode cX9_holds 64 = .ok (.ireturn, 1) := dk_172 (dk_at dksX9_holds_2 19 rfl rfl)
theorem q149 : (Jvm.Cond.initialized "BackRescue$Both") ∈ lw_all := lw_g (lw_at lw_m1 16 rfl) rfl
theorem q697 : (Jvm.Cond.instantiable "BackRescue$Both" (3 : Nat)) ∈ lw_all := lw_g (lw_at lw_m3 84 rfl) rfl
theorem q699 : (Jvm.Cond.instanceMethod ({ cls := "BackRescue$Both", name := "<init>", desc := "(LBackRescue$Truth;ZLBackRescue$Truth;)V" } : Jvm.MethodName)) ∈ lw_all := lw_g (lw_at lw_m3 86 rfl) rfl
theorem q700 : (Jvm.Cond.code ({ cls := "BackRescue$Both", name := "<init>", desc := "(LBackRescue$Truth;ZLBackRescue$Truth;)V" } : Jvm.MethodName) prog_2_method_1_code (4 : Nat) (Option.none : Option Jvm.ClassFile.FieldType)) ∈ lw_all := lw_g (lw_at lw_m3 87 rfl) rfl
theorem q701 : (Jvm.Cond.methodLinkNest "BackRescue$Both" (1 : Nat) ({ cls := "BackRescue$Truth", name := "<init>", desc := "()V" } : Jvm.MethodName) "BackRescue") ∈ lw_tbl := lw_at lw_m3 88 rfl
theorem q702 : (Jvm.Cond.fieldLink "BackRescue$Both" (7 : Nat) "BackRescue$Both" "one" "LBackRescue$Truth;") ∈ lw_all := lw_g (lw_at lw_m3 89 rfl) rfl
theorem q703 : (Jvm.Cond.fieldLink "BackRescue$Both" (17 : Nat) "BackRescue$Both" "two" "LBackRescue$Truth;") ∈ lw_all := lw_g (lw_at lw_m3 90 rfl) rfl
theorem q704 : (Jvm.Cond.fieldLink "BackRescue$Both" (13 : Nat) "BackRescue$Both" "isAnd" "Z") ∈ lw_all := lw_g (lw_at lw_m3 91 rfl) rfl
theorem q705 : (Jvm.Cond.laysFinal "BackRescue$Both" "BackRescue$Both" "one" "LBackRescue$Truth;") ∈ lw_all := lw_g (lw_at lw_m3 92 rfl) rfl
theorem q706 : (Jvm.Cond.soleField "BackRescue$Both" "one") ∈ lw_all := lw_g (lw_at lw_m3 93 rfl) rfl
theorem q707 : (Jvm.Cond.laysFinal "BackRescue$Both" "BackRescue$Both" "two" "LBackRescue$Truth;") ∈ lw_all := lw_g (lw_at lw_m3 94 rfl) rfl
theorem q708 : (Jvm.Cond.soleField "BackRescue$Both" "two") ∈ lw_all := lw_g (lw_at lw_m3 95 rfl) rfl
theorem q709 : (Jvm.Cond.laysFinal "BackRescue$Both" "BackRescue$Both" "isAnd" "Z") ∈ lw_all := lw_g (lw_at lw_m3 96 rfl) rfl
theorem q710 : (Jvm.Cond.soleField "BackRescue$Both" "isAnd") ∈ lw_all := lw_g (lw_at lw_m3 97 rfl) rfl
theorem q711 : (Jvm.Cond.superclass "BackRescue$Both" "BackRescue$Truth") ∈ lw_all := lw_g (lw_at lw_m3 98 rfl) rfl
theorem q848 : (Jvm.Cond.selects "BackRescue$Both" ({ cls := "BackRescue$Truth", name := "holds", desc := "([I)Z" } : Jvm.MethodName) ({ cls := "BackRescue$Both", name := "holds", desc := "([I)Z" } : Jvm.MethodName)) ∈ lw_all := lw_g (lw_at lw_m3 235 rfl) rfl
theorem q849 : (Jvm.Cond.instanceMethod ({ cls := "BackRescue$Both", name := "holds", desc := "([I)Z" } : Jvm.MethodName)) ∈ lw_all := lw_g (lw_at lw_m3 236 rfl) rfl
theorem q850 : (Jvm.Cond.code ({ cls := "BackRescue$Both", name := "holds", desc := "([I)Z" } : Jvm.MethodName) prog_2_method_2_code (2 : Nat) (Option.some Jvm.ClassFile.FieldType.boolean)) ∈ lw_all := lw_g (lw_at lw_m3 237 rfl) rfl
theorem q851 : (Jvm.Cond.methodLink "BackRescue$Both" (20 : Nat) ({ cls := "BackRescue$Truth", name := "holds", desc := "([I)Z" } : Jvm.MethodName)) ∈ lw_all := lw_g (lw_at lw_m3 238 rfl) rfl
theorem in_X9 : ∀ w ∈ wsX90, w ∈ lw_all := lw_in wsX90 [705, 707, 709] (by decide +kernel) (by decide +kernel)
/-! BackRescue$Sum -/
set_option maxRecDepth 100000
def RX10 : String := "BackRescue$Sum"
abbrev cX10_init : ByteArray := prog_13_method_1_code
def yX10_init : MethodName := ⟨RX10, "<init>", "()V"⟩
theorem dX10_init_0 : decode cX10_init 0 = .ok (.aload_n 0, 1) := by decide +kernel
theorem dX10_init_1 : decode cX10_init 1 = .ok (.invokespecial 1, 3) := by decide +kernel
theorem dX10_init_4 : decode cX10_init 4 = .ok (.return_, 1) := by decide +kernel
theorem q150 : (Jvm.Cond.initialized "BackRescue$Sum") ∈ lw_all := lw_g (lw_at lw_m1 17 rfl) rfl
theorem q722 : (Jvm.Cond.instanceMethod ({ cls := "BackRescue$Sum", name := "<init>", desc := "()V" } : Jvm.MethodName)) ∈ lw_all := lw_g (lw_at lw_m3 109 rfl) rfl
theorem q723 : (Jvm.Cond.code ({ cls := "BackRescue$Sum", name := "<init>", desc := "()V" } : Jvm.MethodName) prog_13_method_1_code (1 : Nat) (Option.none : Option Jvm.ClassFile.FieldType)) ∈ lw_all := lw_g (lw_at lw_m3 110 rfl) rfl
theorem q724 : (Jvm.Cond.methodLink "BackRescue$Sum" (1 : Nat) ({ cls := "java/lang/Object", name := "<init>", desc := "()V" } : Jvm.MethodName)) ∈ lw_all := lw_g (lw_at lw_m3 111 rfl) rfl
theorem q855 : (Jvm.Cond.declares ({ cls := "BackRescue$Sum", name := "value", desc := "([I)I" } : Jvm.MethodName)) ∈ lw_tbl := lw_at lw_m4 2 rfl
theorem q856 : (Jvm.Cond.sameMethod "BackRescue$Sum" "BackRescue$Sum" "value" "([I)I") ∈ lw_all := lw_g (lw_at lw_m4 3 rfl) rfl
/-! BackRescue$If -/
set_option maxRecDepth 100000
def RX11 : String := "BackRescue$If"
def TX11 : u_T := fun k => match k with
  | 0 => ("BackRescue$If", "asked", "LBackRescue$Truth;", true)
  | 1 => ("BackRescue$If", "so", "LBackRescue$Sum;", true)
  | _ => ("BackRescue$If", "otherwise", "LBackRescue$Sum;", true)
def tyX11 : Nat → FieldType := fun k => match k with
  | 0 => .object "BackRescue$Truth"
  | 1 => .object "BackRescue$Sum"
  | _ => .object "BackRescue$Sum"
abbrev wsX110 : List Cond := u_ws RX11 TX11 3
theorem nmX11 : ∀ a, a < 3 → ∀ b, b < 3 → a ≠ b → (TX11 a).2.1 ≠ (TX11 b).2.1 := by decide +kernel
theorem tyX11_ok : ∀ k, k < 3 → parseFieldDescriptor (TX11 k).2.2.1 = some (tyX11 k) := by decide +kernel
abbrev cX11_init : ByteArray := prog_5_method_1_code
def yX11_init : MethodName := ⟨RX11, "<init>", "(LBackRescue$Truth;LBackRescue$Sum;LBackRescue$Sum;)V"⟩
def dkwX11_init_0 : List UInt8 := [42, 183, 0, 1, 42, 43, 181, 0, 7, 42, 44, 181, 0, 13, 42, 45, 181, 0, 17, 177]
abbrev dktX11_init_0 : List UInt8 := dkwX11_init_0 ++ []
theorem dksX11_init_0 : cX11_init.data.toList.drop 0 = dktX11_init_0 := by decide +kernel
theorem dX11_init_0 : decode cX11_init 0 = .ok (.aload_n 0, 1) := dk_42 (dk_at dksX11_init_0 0 rfl rfl)
theorem dX11_init_1 : decode cX11_init 1 = .ok (.invokespecial 1, 3) := dk_183 0 1 (dk_at dksX11_init_0 1 rfl rfl)
theorem dX11_init_4 : decode cX11_init 4 = .ok (.aload_n 0, 1) := dk_42 (dk_at dksX11_init_0 4 rfl rfl)
theorem dX11_init_5 : decode cX11_init 5 = .ok (.aload_n 1, 1) := dk_43 (dk_at dksX11_init_0 5 rfl rfl)
theorem dX11_init_6 : decode cX11_init 6 = .ok (.putfield 7, 3) := dk_181 0 7 (dk_at dksX11_init_0 6 rfl rfl)
theorem dX11_init_9 : decode cX11_init 9 = .ok (.aload_n 0, 1) := dk_42 (dk_at dksX11_init_0 9 rfl rfl)
theorem dX11_init_10 : decode cX11_init 10 = .ok (.aload_n 2, 1) := dk_44 (dk_at dksX11_init_0 10 rfl rfl)
theorem dX11_init_11 : decode cX11_init 11 = .ok (.putfield 13, 3) := dk_181 0 13 (dk_at dksX11_init_0 11 rfl rfl)
theorem dX11_init_14 : decode cX11_init 14 = .ok (.aload_n 0, 1) := dk_42 (dk_at dksX11_init_0 14 rfl rfl)
theorem dX11_init_15 : decode cX11_init 15 = .ok (.aload_n 3, 1) := dk_45 (dk_at dksX11_init_0 15 rfl rfl)
theorem dX11_init_16 : decode cX11_init 16 = .ok (.putfield 17, 3) := dk_181 0 17 (dk_at dksX11_init_0 16 rfl rfl)
theorem dX11_init_19 : decode cX11_init 19 = .ok (.return_, 1) := dk_177 (dk_at dksX11_init_0 19 rfl rfl)
abbrev cX11_value : ByteArray := prog_5_method_2_code
def yX11_value : MethodName := ⟨RX11, "value", "([I)I"⟩
def dkwX11_value_1 : List UInt8 := [180, 0, 17, 43, 182, 0, 26, 172]
abbrev dktX11_value_1 : List UInt8 := dkwX11_value_1 ++ []
def dkwX11_value_0 : List UInt8 := [42, 180, 0, 7, 43, 182, 0, 20, 153, 0, 14, 42, 180, 0, 13, 43, 182, 0, 26, 167, 0, 11, 42]
abbrev dktX11_value_0 : List UInt8 := dkwX11_value_0 ++ dktX11_value_1
theorem dksX11_value_0 : cX11_value.data.toList.drop 0 = dktX11_value_0 := by decide +kernel
theorem dksX11_value_1 : cX11_value.data.toList.drop 23 = dktX11_value_1 := dk_seg dksX11_value_0 23 rfl rfl
theorem dX11_value_0 : decode cX11_value 0 = .ok (.aload_n 0, 1) := dk_42 (dk_at dksX11_value_0 0 rfl rfl)
theorem dX11_value_1 : decode cX11_value 1 = .ok (.getfield 7, 3) := dk_180 0 7 (dk_at dksX11_value_0 1 rfl rfl)
theorem dX11_value_4 : decode cX11_value 4 = .ok (.aload_n 1, 1) := dk_43 (dk_at dksX11_value_0 4 rfl rfl)
theorem dX11_value_5 : decode cX11_value 5 = .ok (.invokevirtual 20, 3) := dk_182 0 20 (dk_at dksX11_value_0 5 rfl rfl)
theorem dX11_value_8 : decode cX11_value 8 = .ok (.ifCond .eq 14, 3) := dk_153 0 14 (dk_at dksX11_value_0 8 rfl rfl)
theorem dX11_value_11 : decode cX11_value 11 = .ok (.aload_n 0, 1) := dk_42 (dk_at dksX11_value_0 11 rfl rfl)
theorem dX11_value_12 : decode cX11_value 12 = .ok (.getfield 13, 3) := dk_180 0 13 (dk_at dksX11_value_0 12 rfl rfl)
theorem dX11_value_15 : decode cX11_value 15 = .ok (.aload_n 1, 1) := dk_43 (dk_at dksX11_value_0 15 rfl rfl)
theorem dX11_value_16 : decode cX11_value 16 = .ok (.invokevirtual 26, 3) := dk_182 0 26 (dk_at dksX11_value_0 16 rfl rfl)
theorem dX11_value_19 : decode cX11_value 19 = .ok (.goto 11, 3) := dk_167 0 11 (dk_at dksX11_value_0 19 rfl rfl)
theorem dX11_value_22 : decode cX11_value 22 = .ok (.aload_n 0, 1) := dk_42 (dk_at dksX11_value_0 22 rfl rfl)
theorem dX11_value_23 : decode cX11_value 23 = .ok (.getfield 17, 3) := dk_180 0 17 (dk_at dksX11_value_1 0 rfl rfl)
theorem dX11_value_26 : decode cX11_value 26 = .ok (.aload_n 1, 1) := dk_43 (dk_at dksX11_value_1 3 rfl rfl)
theorem dX11_value_27 : decode cX11_value 27 = .ok (.invokevirtual 26, 3) := dk_182 0 26 (dk_at dksX11_value_1 4 rfl rfl)
theorem dX11_value_30 : decode cX11_value 30 = .ok (.ireturn, 1) := dk_172 (dk_at dksX11_value_1 7 rfl rfl)
theorem q151 : (Jvm.Cond.initialized "BackRescue$If") ∈ lw_all := lw_g (lw_at lw_m1 18 rfl) rfl
theorem q717 : (Jvm.Cond.instantiable "BackRescue$If" (3 : Nat)) ∈ lw_all := lw_g (lw_at lw_m3 104 rfl) rfl
theorem q719 : (Jvm.Cond.instanceMethod ({ cls := "BackRescue$If", name := "<init>", desc := "(LBackRescue$Truth;LBackRescue$Sum;LBackRescue$Sum;)V" } : Jvm.MethodName)) ∈ lw_all := lw_g (lw_at lw_m3 106 rfl) rfl
theorem q720 : (Jvm.Cond.code ({ cls := "BackRescue$If", name := "<init>", desc := "(LBackRescue$Truth;LBackRescue$Sum;LBackRescue$Sum;)V" } : Jvm.MethodName) prog_5_method_1_code (4 : Nat) (Option.none : Option Jvm.ClassFile.FieldType)) ∈ lw_all := lw_g (lw_at lw_m3 107 rfl) rfl
theorem q721 : (Jvm.Cond.methodLinkNest "BackRescue$If" (1 : Nat) ({ cls := "BackRescue$Sum", name := "<init>", desc := "()V" } : Jvm.MethodName) "BackRescue") ∈ lw_tbl := lw_at lw_m3 108 rfl
theorem q725 : (Jvm.Cond.fieldLink "BackRescue$If" (7 : Nat) "BackRescue$If" "asked" "LBackRescue$Truth;") ∈ lw_all := lw_g (lw_at lw_m3 112 rfl) rfl
theorem q726 : (Jvm.Cond.fieldLink "BackRescue$If" (13 : Nat) "BackRescue$If" "so" "LBackRescue$Sum;") ∈ lw_all := lw_g (lw_at lw_m3 113 rfl) rfl
theorem q727 : (Jvm.Cond.fieldLink "BackRescue$If" (17 : Nat) "BackRescue$If" "otherwise" "LBackRescue$Sum;") ∈ lw_all := lw_g (lw_at lw_m3 114 rfl) rfl
theorem q728 : (Jvm.Cond.laysFinal "BackRescue$If" "BackRescue$If" "asked" "LBackRescue$Truth;") ∈ lw_all := lw_g (lw_at lw_m3 115 rfl) rfl
theorem q729 : (Jvm.Cond.soleField "BackRescue$If" "asked") ∈ lw_all := lw_g (lw_at lw_m3 116 rfl) rfl
theorem q730 : (Jvm.Cond.laysFinal "BackRescue$If" "BackRescue$If" "so" "LBackRescue$Sum;") ∈ lw_all := lw_g (lw_at lw_m3 117 rfl) rfl
theorem q731 : (Jvm.Cond.soleField "BackRescue$If" "so") ∈ lw_all := lw_g (lw_at lw_m3 118 rfl) rfl
theorem q732 : (Jvm.Cond.laysFinal "BackRescue$If" "BackRescue$If" "otherwise" "LBackRescue$Sum;") ∈ lw_all := lw_g (lw_at lw_m3 119 rfl) rfl
theorem q733 : (Jvm.Cond.soleField "BackRescue$If" "otherwise") ∈ lw_all := lw_g (lw_at lw_m3 120 rfl) rfl
theorem q734 : (Jvm.Cond.superclass "BackRescue$If" "BackRescue$Sum") ∈ lw_all := lw_g (lw_at lw_m3 121 rfl) rfl
theorem q857 : (Jvm.Cond.selects "BackRescue$If" ({ cls := "BackRescue$Sum", name := "value", desc := "([I)I" } : Jvm.MethodName) ({ cls := "BackRescue$If", name := "value", desc := "([I)I" } : Jvm.MethodName)) ∈ lw_all := lw_g (lw_at lw_m4 4 rfl) rfl
theorem q858 : (Jvm.Cond.instanceMethod ({ cls := "BackRescue$If", name := "value", desc := "([I)I" } : Jvm.MethodName)) ∈ lw_all := lw_g (lw_at lw_m4 5 rfl) rfl
theorem q859 : (Jvm.Cond.code ({ cls := "BackRescue$If", name := "value", desc := "([I)I" } : Jvm.MethodName) prog_5_method_2_code (2 : Nat) (Option.some Jvm.ClassFile.FieldType.int)) ∈ lw_all := lw_g (lw_at lw_m4 6 rfl) rfl
theorem q860 : (Jvm.Cond.methodLink "BackRescue$If" (20 : Nat) ({ cls := "BackRescue$Truth", name := "holds", desc := "([I)Z" } : Jvm.MethodName)) ∈ lw_all := lw_g (lw_at lw_m4 7 rfl) rfl
theorem q864 : (Jvm.Cond.methodLink "BackRescue$If" (26 : Nat) ({ cls := "BackRescue$Sum", name := "value", desc := "([I)I" } : Jvm.MethodName)) ∈ lw_all := lw_g (lw_at lw_m4 11 rfl) rfl
theorem in_X11 : ∀ w ∈ wsX110, w ∈ lw_all := lw_in wsX110 [728, 730, 732] (by decide +kernel) (by decide +kernel)
/-! BackRescue$Known -/
set_option maxRecDepth 100000
def RX12 : String := "BackRescue$Known"
def TX12 : u_T := fun k => match k with
  | _ => ("BackRescue$Known", "word", "I", true)
def tyX12 : Nat → FieldType := fun k => match k with
  | _ => .int
abbrev wsX120 : List Cond := u_ws RX12 TX12 1
theorem nmX12 : ∀ a, a < 1 → ∀ b, b < 1 → a ≠ b → (TX12 a).2.1 ≠ (TX12 b).2.1 := by decide +kernel
theorem tyX12_ok : ∀ k, k < 1 → parseFieldDescriptor (TX12 k).2.2.1 = some (tyX12 k) := by decide +kernel
abbrev cX12_init : ByteArray := prog_6_method_1_code
def yX12_init : MethodName := ⟨RX12, "<init>", "(I)V"⟩
def dkwX12_init_0 : List UInt8 := [42, 183, 0, 1, 42, 27, 181, 0, 7, 177]
abbrev dktX12_init_0 : List UInt8 := dkwX12_init_0 ++ []
theorem dksX12_init_0 : cX12_init.data.toList.drop 0 = dktX12_init_0 := by decide +kernel
theorem dX12_init_0 : decode cX12_init 0 = .ok (.aload_n 0, 1) := dk_42 (dk_at dksX12_init_0 0 rfl rfl)
theorem dX12_init_1 : decode cX12_init 1 = .ok (.invokespecial 1, 3) := dk_183 0 1 (dk_at dksX12_init_0 1 rfl rfl)
theorem dX12_init_4 : decode cX12_init 4 = .ok (.aload_n 0, 1) := dk_42 (dk_at dksX12_init_0 4 rfl rfl)
theorem dX12_init_5 : decode cX12_init 5 = .ok (.iload_n 1, 1) := dk_27 (dk_at dksX12_init_0 5 rfl rfl)
theorem dX12_init_6 : decode cX12_init 6 = .ok (.putfield 7, 3) := dk_181 0 7 (dk_at dksX12_init_0 6 rfl rfl)
theorem dX12_init_9 : decode cX12_init 9 = .ok (.return_, 1) := dk_177 (dk_at dksX12_init_0 9 rfl rfl)
abbrev cX12_value : ByteArray := prog_6_method_2_code
def yX12_value : MethodName := ⟨RX12, "value", "([I)I"⟩
def dkwX12_value_0 : List UInt8 := [43, 42, 180, 0, 7, 46, 172]
abbrev dktX12_value_0 : List UInt8 := dkwX12_value_0 ++ []
theorem dksX12_value_0 : cX12_value.data.toList.drop 0 = dktX12_value_0 := by decide +kernel
theorem dX12_value_0 : decode cX12_value 0 = .ok (.aload_n 1, 1) := dk_43 (dk_at dksX12_value_0 0 rfl rfl)
theorem dX12_value_1 : decode cX12_value 1 = .ok (.aload_n 0, 1) := dk_42 (dk_at dksX12_value_0 1 rfl rfl)
theorem dX12_value_2 : decode cX12_value 2 = .ok (.getfield 7, 3) := dk_180 0 7 (dk_at dksX12_value_0 2 rfl rfl)
theorem dX12_value_5 : decode cX12_value 5 = .ok (.iaload, 1) := dk_46 (dk_at dksX12_value_0 5 rfl rfl)
theorem dX12_value_6 : decode cX12_value 6 = .ok (.ireturn, 1) := dk_172 (dk_at dksX12_value_0 6 rfl rfl)
theorem q152 : (Jvm.Cond.initialized "BackRescue$Known") ∈ lw_all := lw_g (lw_at lw_m1 19 rfl) rfl
theorem q742 : (Jvm.Cond.instantiable "BackRescue$Known" (1 : Nat)) ∈ lw_all := lw_g (lw_at lw_m3 129 rfl) rfl
theorem q744 : (Jvm.Cond.instanceMethod ({ cls := "BackRescue$Known", name := "<init>", desc := "(I)V" } : Jvm.MethodName)) ∈ lw_all := lw_g (lw_at lw_m3 131 rfl) rfl
theorem q745 : (Jvm.Cond.code ({ cls := "BackRescue$Known", name := "<init>", desc := "(I)V" } : Jvm.MethodName) prog_6_method_1_code (2 : Nat) (Option.none : Option Jvm.ClassFile.FieldType)) ∈ lw_all := lw_g (lw_at lw_m3 132 rfl) rfl
theorem q746 : (Jvm.Cond.methodLinkNest "BackRescue$Known" (1 : Nat) ({ cls := "BackRescue$Sum", name := "<init>", desc := "()V" } : Jvm.MethodName) "BackRescue") ∈ lw_tbl := lw_at lw_m3 133 rfl
theorem q747 : (Jvm.Cond.fieldLink "BackRescue$Known" (7 : Nat) "BackRescue$Known" "word" "I") ∈ lw_all := lw_g (lw_at lw_m3 134 rfl) rfl
theorem q748 : (Jvm.Cond.laysFinal "BackRescue$Known" "BackRescue$Known" "word" "I") ∈ lw_all := lw_g (lw_at lw_m3 135 rfl) rfl
theorem q749 : (Jvm.Cond.soleField "BackRescue$Known" "word") ∈ lw_all := lw_g (lw_at lw_m3 136 rfl) rfl
theorem q750 : (Jvm.Cond.superclass "BackRescue$Known" "BackRescue$Sum") ∈ lw_all := lw_g (lw_at lw_m3 137 rfl) rfl
theorem q865 : (Jvm.Cond.instanceMethod ({ cls := "BackRescue$Known", name := "value", desc := "([I)I" } : Jvm.MethodName)) ∈ lw_all := lw_g (lw_at lw_m4 12 rfl) rfl
theorem q866 : (Jvm.Cond.code ({ cls := "BackRescue$Known", name := "value", desc := "([I)I" } : Jvm.MethodName) prog_6_method_2_code (2 : Nat) (Option.some Jvm.ClassFile.FieldType.int)) ∈ lw_all := lw_g (lw_at lw_m4 13 rfl) rfl
theorem q880 : (Jvm.Cond.selects "BackRescue$Known" ({ cls := "BackRescue$Sum", name := "value", desc := "([I)I" } : Jvm.MethodName) ({ cls := "BackRescue$Known", name := "value", desc := "([I)I" } : Jvm.MethodName)) ∈ lw_all := lw_g (lw_at lw_m4 27 rfl) rfl
theorem in_X12 : ∀ w ∈ wsX120, w ∈ lw_all := lw_in wsX120 [748] (by decide +kernel) (by decide +kernel)
/-! BackRescue$Plain -/
set_option maxRecDepth 100000
def RX13 : String := "BackRescue$Plain"
def TX13 : u_T := fun k => match k with
  | _ => ("BackRescue$Plain", "n", "I", true)
def tyX13 : Nat → FieldType := fun k => match k with
  | _ => .int
abbrev wsX130 : List Cond := u_ws RX13 TX13 1
theorem nmX13 : ∀ a, a < 1 → ∀ b, b < 1 → a ≠ b → (TX13 a).2.1 ≠ (TX13 b).2.1 := by decide +kernel
theorem tyX13_ok : ∀ k, k < 1 → parseFieldDescriptor (TX13 k).2.2.1 = some (tyX13 k) := by decide +kernel
abbrev cX13_init : ByteArray := prog_10_method_1_code
def yX13_init : MethodName := ⟨RX13, "<init>", "(I)V"⟩
def dkwX13_init_0 : List UInt8 := [42, 183, 0, 1, 42, 27, 181, 0, 7, 177]
abbrev dktX13_init_0 : List UInt8 := dkwX13_init_0 ++ []
theorem dksX13_init_0 : cX13_init.data.toList.drop 0 = dktX13_init_0 := by decide +kernel
theorem dX13_init_0 : decode cX13_init 0 = .ok (.aload_n 0, 1) := dk_42 (dk_at dksX13_init_0 0 rfl rfl)
theorem dX13_init_1 : decode cX13_init 1 = .ok (.invokespecial 1, 3) := dk_183 0 1 (dk_at dksX13_init_0 1 rfl rfl)
theorem dX13_init_4 : decode cX13_init 4 = .ok (.aload_n 0, 1) := dk_42 (dk_at dksX13_init_0 4 rfl rfl)
theorem dX13_init_5 : decode cX13_init 5 = .ok (.iload_n 1, 1) := dk_27 (dk_at dksX13_init_0 5 rfl rfl)
theorem dX13_init_6 : decode cX13_init 6 = .ok (.putfield 7, 3) := dk_181 0 7 (dk_at dksX13_init_0 6 rfl rfl)
theorem dX13_init_9 : decode cX13_init 9 = .ok (.return_, 1) := dk_177 (dk_at dksX13_init_0 9 rfl rfl)
abbrev cX13_value : ByteArray := prog_10_method_2_code
def yX13_value : MethodName := ⟨RX13, "value", "([I)I"⟩
theorem dX13_value_0 : decode cX13_value 0 = .ok (.aload_n 0, 1) := by decide +kernel
theorem dX13_value_1 : decode cX13_value 1 = .ok (.getfield 7, 3) := by decide +kernel
theorem dX13_value_4 : decode cX13_value 4 = .ok (.ireturn, 1) := by decide +kernel
theorem q153 : (Jvm.Cond.initialized "BackRescue$Plain") ∈ lw_all := lw_g (lw_at lw_m1 20 rfl) rfl
theorem q752 : (Jvm.Cond.instantiable "BackRescue$Plain" (1 : Nat)) ∈ lw_all := lw_g (lw_at lw_m3 139 rfl) rfl
theorem q754 : (Jvm.Cond.instanceMethod ({ cls := "BackRescue$Plain", name := "<init>", desc := "(I)V" } : Jvm.MethodName)) ∈ lw_all := lw_g (lw_at lw_m3 141 rfl) rfl
theorem q755 : (Jvm.Cond.code ({ cls := "BackRescue$Plain", name := "<init>", desc := "(I)V" } : Jvm.MethodName) prog_10_method_1_code (2 : Nat) (Option.none : Option Jvm.ClassFile.FieldType)) ∈ lw_all := lw_g (lw_at lw_m3 142 rfl) rfl
theorem q756 : (Jvm.Cond.methodLinkNest "BackRescue$Plain" (1 : Nat) ({ cls := "BackRescue$Sum", name := "<init>", desc := "()V" } : Jvm.MethodName) "BackRescue") ∈ lw_tbl := lw_at lw_m3 143 rfl
theorem q757 : (Jvm.Cond.fieldLink "BackRescue$Plain" (7 : Nat) "BackRescue$Plain" "n" "I") ∈ lw_all := lw_g (lw_at lw_m3 144 rfl) rfl
theorem q758 : (Jvm.Cond.laysFinal "BackRescue$Plain" "BackRescue$Plain" "n" "I") ∈ lw_all := lw_g (lw_at lw_m3 145 rfl) rfl
theorem q759 : (Jvm.Cond.soleField "BackRescue$Plain" "n") ∈ lw_all := lw_g (lw_at lw_m3 146 rfl) rfl
theorem q760 : (Jvm.Cond.superclass "BackRescue$Plain" "BackRescue$Sum") ∈ lw_all := lw_g (lw_at lw_m3 147 rfl) rfl
theorem q870 : (Jvm.Cond.instanceMethod ({ cls := "BackRescue$Plain", name := "value", desc := "([I)I" } : Jvm.MethodName)) ∈ lw_all := lw_g (lw_at lw_m4 17 rfl) rfl
theorem q871 : (Jvm.Cond.code ({ cls := "BackRescue$Plain", name := "value", desc := "([I)I" } : Jvm.MethodName) prog_10_method_2_code (2 : Nat) (Option.some Jvm.ClassFile.FieldType.int)) ∈ lw_all := lw_g (lw_at lw_m4 18 rfl) rfl
theorem q882 : (Jvm.Cond.selects "BackRescue$Plain" ({ cls := "BackRescue$Sum", name := "value", desc := "([I)I" } : Jvm.MethodName) ({ cls := "BackRescue$Plain", name := "value", desc := "([I)I" } : Jvm.MethodName)) ∈ lw_all := lw_g (lw_at lw_m4 29 rfl) rfl
theorem in_X13 : ∀ w ∈ wsX130, w ∈ lw_all := lw_in wsX130 [758] (by decide +kernel) (by decide +kernel)
/-! BackRescue$Pair -/
set_option maxRecDepth 100000
def RX14 : String := "BackRescue$Pair"
def TX14 : u_T := fun k => match k with
  | 0 => ("BackRescue$Pair", "one", "LBackRescue$Sum;", true)
  | 1 => ("BackRescue$Pair", "two", "LBackRescue$Sum;", true)
  | _ => ("BackRescue$Pair", "sign", "I", true)
def tyX14 : Nat → FieldType := fun k => match k with
  | 0 => .object "BackRescue$Sum"
  | 1 => .object "BackRescue$Sum"
  | _ => .int
abbrev wsX140 : List Cond := u_ws RX14 TX14 3
theorem nmX14 : ∀ a, a < 3 → ∀ b, b < 3 → a ≠ b → (TX14 a).2.1 ≠ (TX14 b).2.1 := by decide +kernel
theorem tyX14_ok : ∀ k, k < 3 → parseFieldDescriptor (TX14 k).2.2.1 = some (tyX14 k) := by decide +kernel
abbrev cX14_init : ByteArray := prog_9_method_1_code
def yX14_init : MethodName := ⟨RX14, "<init>", "(LBackRescue$Sum;ILBackRescue$Sum;)V"⟩
def dkwX14_init_0 : List UInt8 := [42, 183, 0, 3, 42, 43, 181, 0, 9, 42, 28, 181, 0, 15, 42, 45, 181, 0, 19, 177]
abbrev dktX14_init_0 : List UInt8 := dkwX14_init_0 ++ []
theorem dksX14_init_0 : cX14_init.data.toList.drop 0 = dktX14_init_0 := by decide +kernel
theorem dX14_init_0 : decode cX14_init 0 = .ok (.aload_n 0, 1) := dk_42 (dk_at dksX14_init_0 0 rfl rfl)
theorem dX14_init_1 : decode cX14_init 1 = .ok (.invokespecial 3, 3) := dk_183 0 3 (dk_at dksX14_init_0 1 rfl rfl)
theorem dX14_init_4 : decode cX14_init 4 = .ok (.aload_n 0, 1) := dk_42 (dk_at dksX14_init_0 4 rfl rfl)
theorem dX14_init_5 : decode cX14_init 5 = .ok (.aload_n 1, 1) := dk_43 (dk_at dksX14_init_0 5 rfl rfl)
theorem dX14_init_6 : decode cX14_init 6 = .ok (.putfield 9, 3) := dk_181 0 9 (dk_at dksX14_init_0 6 rfl rfl)
theorem dX14_init_9 : decode cX14_init 9 = .ok (.aload_n 0, 1) := dk_42 (dk_at dksX14_init_0 9 rfl rfl)
theorem dX14_init_10 : decode cX14_init 10 = .ok (.iload_n 2, 1) := dk_28 (dk_at dksX14_init_0 10 rfl rfl)
theorem dX14_init_11 : decode cX14_init 11 = .ok (.putfield 15, 3) := dk_181 0 15 (dk_at dksX14_init_0 11 rfl rfl)
theorem dX14_init_14 : decode cX14_init 14 = .ok (.aload_n 0, 1) := dk_42 (dk_at dksX14_init_0 14 rfl rfl)
theorem dX14_init_15 : decode cX14_init 15 = .ok (.aload_n 3, 1) := dk_45 (dk_at dksX14_init_0 15 rfl rfl)
theorem dX14_init_16 : decode cX14_init 16 = .ok (.putfield 19, 3) := dk_181 0 19 (dk_at dksX14_init_0 16 rfl rfl)
theorem dX14_init_19 : decode cX14_init 19 = .ok (.return_, 1) := dk_177 (dk_at dksX14_init_0 19 rfl rfl)
abbrev cX14_value : ByteArray := prog_9_method_2_code
def yX14_value : MethodName := ⟨RX14, "value", "([I)I"⟩
def dkwX14_value_3 : List UInt8 := [184, 0, 36, 136, 172]
abbrev dktX14_value_3 : List UInt8 := dkwX14_value_3 ++ []
def dkwX14_value_2 : List UInt8 := [32, 22, 4, 101, 167, 0, 7, 32, 22, 4, 105, 55, 6, 20, 0, 26, 20, 0, 28, 22, 6, 184, 0, 30]
abbrev dktX14_value_2 : List UInt8 := dkwX14_value_2 ++ dktX14_value_3
def dkwX14_value_1 : List UInt8 := [180, 0, 15, 16, 43, 160, 0, 10, 32, 22, 4, 97, 167, 0, 23, 42, 180, 0, 15, 16, 45, 160, 0, 10]
abbrev dktX14_value_1 : List UInt8 := dkwX14_value_1 ++ dktX14_value_2
def dkwX14_value_0 : List UInt8 := [42, 180, 0, 9, 43, 182, 0, 22, 133, 65, 42, 180, 0, 19, 43, 182, 0, 22, 133, 55, 4, 42]
abbrev dktX14_value_0 : List UInt8 := dkwX14_value_0 ++ dktX14_value_1
theorem dksX14_value_0 : cX14_value.data.toList.drop 0 = dktX14_value_0 := by decide +kernel
theorem dksX14_value_1 : cX14_value.data.toList.drop 22 = dktX14_value_1 := dk_seg dksX14_value_0 22 rfl rfl
theorem dksX14_value_2 : cX14_value.data.toList.drop 46 = dktX14_value_2 := dk_seg dksX14_value_1 24 rfl rfl
theorem dksX14_value_3 : cX14_value.data.toList.drop 70 = dktX14_value_3 := dk_seg dksX14_value_2 24 rfl rfl
theorem dX14_value_0 : decode cX14_value 0 = .ok (.aload_n 0, 1) := dk_42 (dk_at dksX14_value_0 0 rfl rfl)
theorem dX14_value_1 : decode cX14_value 1 = .ok (.getfield 9, 3) := dk_180 0 9 (dk_at dksX14_value_0 1 rfl rfl)
theorem dX14_value_4 : decode cX14_value 4 = .ok (.aload_n 1, 1) := dk_43 (dk_at dksX14_value_0 4 rfl rfl)
theorem dX14_value_5 : decode cX14_value 5 = .ok (.invokevirtual 22, 3) := dk_182 0 22 (dk_at dksX14_value_0 5 rfl rfl)
theorem dX14_value_8 : decode cX14_value 8 = .ok (.i2l, 1) := dk_133 (dk_at dksX14_value_0 8 rfl rfl)
theorem dX14_value_9 : decode cX14_value 9 = .ok (.lstore_n 2, 1) := dk_65 (dk_at dksX14_value_0 9 rfl rfl)
theorem dX14_value_10 : decode cX14_value 10 = .ok (.aload_n 0, 1) := dk_42 (dk_at dksX14_value_0 10 rfl rfl)
theorem dX14_value_11 : decode cX14_value 11 = .ok (.getfield 19, 3) := dk_180 0 19 (dk_at dksX14_value_0 11 rfl rfl)
theorem dX14_value_14 : decode cX14_value 14 = .ok (.aload_n 1, 1) := dk_43 (dk_at dksX14_value_0 14 rfl rfl)
theorem dX14_value_15 : decode cX14_value 15 = .ok (.invokevirtual 22, 3) := dk_182 0 22 (dk_at dksX14_value_0 15 rfl rfl)
theorem dX14_value_18 : decode cX14_value 18 = .ok (.i2l, 1) := dk_133 (dk_at dksX14_value_0 18 rfl rfl)
theorem dX14_value_19 : decode cX14_value 19 = .ok (.lstore 4, 2) := dk_55 4 (dk_at dksX14_value_0 19 rfl rfl)
theorem dX14_value_21 : decode cX14_value 21 = .ok (.aload_n 0, 1) := dk_42 (dk_at dksX14_value_0 21 rfl rfl)
theorem dX14_value_22 : decode cX14_value 22 = .ok (.getfield 15, 3) := dk_180 0 15 (dk_at dksX14_value_1 0 rfl rfl)
theorem dX14_value_25 : decode cX14_value 25 = .ok (.bipush 43, 2) := dk_16 43 (dk_at dksX14_value_1 3 rfl rfl)
theorem dX14_value_27 : decode cX14_value 27 = .ok (.if_icmp .ne 10, 3) := dk_160 0 10 (dk_at dksX14_value_1 5 rfl rfl)
theorem dX14_value_30 : decode cX14_value 30 = .ok (.lload_n 2, 1) := dk_32 (dk_at dksX14_value_1 8 rfl rfl)
theorem dX14_value_31 : decode cX14_value 31 = .ok (.lload 4, 2) := dk_22 4 (dk_at dksX14_value_1 9 rfl rfl)
theorem dX14_value_33 : decode cX14_value 33 = .ok (.ladd, 1) := dk_97 (dk_at dksX14_value_1 11 rfl rfl)
theorem dX14_value_34 : decode cX14_value 34 = .ok (.goto 23, 3) := dk_167 0 23 (dk_at dksX14_value_1 12 rfl rfl)
theorem dX14_value_37 : decode cX14_value 37 = .ok (.aload_n 0, 1) := dk_42 (dk_at dksX14_value_1 15 rfl rfl)
theorem dX14_value_38 : decode cX14_value 38 = .ok (.getfield 15, 3) := dk_180 0 15 (dk_at dksX14_value_1 16 rfl rfl)
theorem dX14_value_41 : decode cX14_value 41 = .ok (.bipush 45, 2) := dk_16 45 (dk_at dksX14_value_1 19 rfl rfl)
theorem dX14_value_43 : decode cX14_value 43 = .ok (.if_icmp .ne 10, 3) := dk_160 0 10 (dk_at dksX14_value_1 21 rfl rfl)
theorem dX14_value_46 : decode cX14_value 46 = .ok (.lload_n 2, 1) := dk_32 (dk_at dksX14_value_2 0 rfl rfl)
theorem dX14_value_47 : decode cX14_value 47 = .ok (.lload 4, 2) := dk_22 4 (dk_at dksX14_value_2 1 rfl rfl)
theorem dX14_value_49 : decode cX14_value 49 = .ok (.lsub, 1) := dk_101 (dk_at dksX14_value_2 3 rfl rfl)
theorem dX14_value_50 : decode cX14_value 50 = .ok (.goto 7, 3) := dk_167 0 7 (dk_at dksX14_value_2 4 rfl rfl)
theorem dX14_value_53 : decode cX14_value 53 = .ok (.lload_n 2, 1) := dk_32 (dk_at dksX14_value_2 7 rfl rfl)
theorem dX14_value_54 : decode cX14_value 54 = .ok (.lload 4, 2) := dk_22 4 (dk_at dksX14_value_2 8 rfl rfl)
theorem dX14_value_56 : decode cX14_value 56 = .ok (.lmul, 1) := dk_105 (dk_at dksX14_value_2 10 rfl rfl)
theorem dX14_value_57 : decode cX14_value 57 = .ok (.lstore 6, 2) := dk_55 6 (dk_at dksX14_value_2 11 rfl rfl)
theorem dX14_value_59 : decode cX14_value 59 = .ok (.ldc2_w 26, 3) := dk_20 0 26 (dk_at dksX14_value_2 13 rfl rfl)
theorem dX14_value_62 : decode cX14_value 62 = .ok (.ldc2_w 28, 3) := dk_20 0 28 (dk_at dksX14_value_2 16 rfl rfl)
theorem dX14_value_65 : decode cX14_value 65 = .ok (.lload 6, 2) := dk_22 6 (dk_at dksX14_value_2 19 rfl rfl)
theorem dX14_value_67 : decode cX14_value 67 = .ok (.invokestatic 30, 3) := dk_184 0 30 (dk_at dksX14_value_2 21 rfl rfl)
theorem dX14_value_70 : decode cX14_value 70 = .ok (.invokestatic 36, 3) := dk_184 0 36 (dk_at dksX14_value_3 0 rfl rfl)
theorem dX14_value_73 : decode cX14_value 73 = .ok (.l2i, 1) := dk_136 (dk_at dksX14_value_3 3 rfl rfl)
theorem dX14_value_74 : decode cX14_value 74 = .ok (.ireturn, 1) := dk_172 (dk_at dksX14_value_3 4 rfl rfl)
theorem q154 : (Jvm.Cond.initialized "BackRescue$Pair") ∈ lw_all := lw_g (lw_at lw_m1 21 rfl) rfl
theorem q762 : (Jvm.Cond.instantiable "BackRescue$Pair" (3 : Nat)) ∈ lw_all := lw_g (lw_at lw_m3 149 rfl) rfl
theorem q764 : (Jvm.Cond.instanceMethod ({ cls := "BackRescue$Pair", name := "<init>", desc := "(LBackRescue$Sum;ILBackRescue$Sum;)V" } : Jvm.MethodName)) ∈ lw_all := lw_g (lw_at lw_m3 151 rfl) rfl
theorem q765 : (Jvm.Cond.code ({ cls := "BackRescue$Pair", name := "<init>", desc := "(LBackRescue$Sum;ILBackRescue$Sum;)V" } : Jvm.MethodName) prog_9_method_1_code (4 : Nat) (Option.none : Option Jvm.ClassFile.FieldType)) ∈ lw_all := lw_g (lw_at lw_m3 152 rfl) rfl
theorem q766 : (Jvm.Cond.methodLinkNest "BackRescue$Pair" (3 : Nat) ({ cls := "BackRescue$Sum", name := "<init>", desc := "()V" } : Jvm.MethodName) "BackRescue") ∈ lw_tbl := lw_at lw_m3 153 rfl
theorem q767 : (Jvm.Cond.fieldLink "BackRescue$Pair" (9 : Nat) "BackRescue$Pair" "one" "LBackRescue$Sum;") ∈ lw_all := lw_g (lw_at lw_m3 154 rfl) rfl
theorem q768 : (Jvm.Cond.fieldLink "BackRescue$Pair" (19 : Nat) "BackRescue$Pair" "two" "LBackRescue$Sum;") ∈ lw_all := lw_g (lw_at lw_m3 155 rfl) rfl
theorem q769 : (Jvm.Cond.fieldLink "BackRescue$Pair" (15 : Nat) "BackRescue$Pair" "sign" "I") ∈ lw_all := lw_g (lw_at lw_m3 156 rfl) rfl
theorem q770 : (Jvm.Cond.laysFinal "BackRescue$Pair" "BackRescue$Pair" "one" "LBackRescue$Sum;") ∈ lw_all := lw_g (lw_at lw_m3 157 rfl) rfl
theorem q771 : (Jvm.Cond.soleField "BackRescue$Pair" "one") ∈ lw_all := lw_g (lw_at lw_m3 158 rfl) rfl
theorem q772 : (Jvm.Cond.laysFinal "BackRescue$Pair" "BackRescue$Pair" "two" "LBackRescue$Sum;") ∈ lw_all := lw_g (lw_at lw_m3 159 rfl) rfl
theorem q773 : (Jvm.Cond.soleField "BackRescue$Pair" "two") ∈ lw_all := lw_g (lw_at lw_m3 160 rfl) rfl
theorem q774 : (Jvm.Cond.laysFinal "BackRescue$Pair" "BackRescue$Pair" "sign" "I") ∈ lw_all := lw_g (lw_at lw_m3 161 rfl) rfl
theorem q775 : (Jvm.Cond.soleField "BackRescue$Pair" "sign") ∈ lw_all := lw_g (lw_at lw_m3 162 rfl) rfl
theorem q776 : (Jvm.Cond.superclass "BackRescue$Pair" "BackRescue$Sum") ∈ lw_all := lw_g (lw_at lw_m3 163 rfl) rfl
theorem q867 : (Jvm.Cond.instanceMethod ({ cls := "BackRescue$Pair", name := "value", desc := "([I)I" } : Jvm.MethodName)) ∈ lw_all := lw_g (lw_at lw_m4 14 rfl) rfl
theorem q868 : (Jvm.Cond.code ({ cls := "BackRescue$Pair", name := "value", desc := "([I)I" } : Jvm.MethodName) prog_9_method_2_code (8 : Nat) (Option.some Jvm.ClassFile.FieldType.int)) ∈ lw_all := lw_g (lw_at lw_m4 15 rfl) rfl
theorem q869 : (Jvm.Cond.methodLink "BackRescue$Pair" (22 : Nat) ({ cls := "BackRescue$Sum", name := "value", desc := "([I)I" } : Jvm.MethodName)) ∈ lw_all := lw_g (lw_at lw_m4 16 rfl) rfl
theorem q872 : (Jvm.Cond.constantLong "BackRescue$Pair" (26 : Nat) (-1000000 : Int64)) ∈ lw_all := lw_g (lw_at lw_m4 19 rfl) rfl
theorem q873 : (Jvm.Cond.constantLong "BackRescue$Pair" (28 : Nat) (1000000 : Int64)) ∈ lw_all := lw_g (lw_at lw_m4 20 rfl) rfl
theorem q874 : (Jvm.Cond.methodLink "BackRescue$Pair" (30 : Nat) ({ cls := "java/lang/Math", name := "min", desc := "(JJ)J" } : Jvm.MethodName)) ∈ lw_all := lw_g (lw_at lw_m4 21 rfl) rfl
theorem q877 : (Jvm.Cond.methodLink "BackRescue$Pair" (36 : Nat) ({ cls := "java/lang/Math", name := "max", desc := "(JJ)J" } : Jvm.MethodName)) ∈ lw_all := lw_g (lw_at lw_m4 24 rfl) rfl
theorem q881 : (Jvm.Cond.selects "BackRescue$Pair" ({ cls := "BackRescue$Sum", name := "value", desc := "([I)I" } : Jvm.MethodName) ({ cls := "BackRescue$Pair", name := "value", desc := "([I)I" } : Jvm.MethodName)) ∈ lw_all := lw_g (lw_at lw_m4 28 rfl) rfl
theorem in_X14 : ∀ w ∈ wsX140, w ∈ lw_all := lw_in wsX140 [770, 772, 774] (by decide +kernel) (by decide +kernel)
