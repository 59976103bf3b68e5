/-! SaturdayKeep$World -/
set_option maxRecDepth 100000
def RX2 : String := "SaturdayKeep$World"
def TX2 : u_T := fun k => match k with
  | 0 => ("SaturdayKeep$World", "texts", "I", false)
  | 1 => ("SaturdayKeep$World", "guests", "I", false)
  | 2 => ("SaturdayKeep$World", "day", "I", false)
  | 3 => ("SaturdayKeep$World", "bath", "I", false)
  | 4 => ("SaturdayKeep$World", "kept", "I", false)
  | 5 => ("SaturdayKeep$World", "masons", "I", false)
  | 6 => ("SaturdayKeep$World", "stones", "I", false)
  | 7 => ("SaturdayKeep$World", "towers", "I", false)
  | 8 => ("SaturdayKeep$World", "bore", "I", false)
  | 9 => ("SaturdayKeep$World", "seen", "I", false)
  | 10 => ("SaturdayKeep$World", "logged", "I", false)
  | 11 => ("SaturdayKeep$World", "seed", "I", false)
  | 12 => ("SaturdayKeep$World", "shift", "[I", true)
  | 13 => ("SaturdayKeep$World", "room", "[I", true)
  | 14 => ("SaturdayKeep$World", "wish", "[I", true)
  | 15 => ("SaturdayKeep$World", "doubt", "[I", true)
  | 16 => ("SaturdayKeep$World", "key", "[Z", true)
  | 17 => ("SaturdayKeep$World", "here", "[Z", true)
  | 18 => ("SaturdayKeep$World", "holes", "[I", true)
  | 19 => ("SaturdayKeep$World", "log", "[I", true)
  | _ => ("SaturdayKeep$World", "law", "LSaturdayKeep$Law;", false)
def tyX2 : Nat → FieldType := fun k => match k with
  | 0 => .int
  | 1 => .int
  | 2 => .int
  | 3 => .int
  | 4 => .int
  | 5 => .int
  | 6 => .int
  | 7 => .int
  | 8 => .int
  | 9 => .int
  | 10 => .int
  | 11 => .int
  | 12 => .array .int
  | 13 => .array .int
  | 14 => .array .int
  | 15 => .array .int
  | 16 => .array .boolean
  | 17 => .array .boolean
  | 18 => .array .int
  | 19 => .array .int
  | _ => .object "SaturdayKeep$Law"
abbrev wsX20 : List Cond := u_ws RX2 TX2 21
set_option maxRecDepth 100000 in
theorem nmX2 : ∀ a, a < 21 → ∀ b, b < 21 → a ≠ b → (TX2 a).2.1 ≠ (TX2 b).2.1 := by decide +kernel
set_option maxRecDepth 100000 in
theorem tyX2_ok : ∀ k, k < 21 → parseFieldDescriptor (TX2 k).2.2.1 = some (tyX2 k) := by decide +kernel
abbrev cX2_init : ByteArray := prog_15_method_1_code
def yX2_init : MethodName := ⟨RX2, "<init>", "()V"⟩
def dkwX2_init_3 : List UInt8 := [181, 0, 38, 42, 16, 8, 188, 10, 181, 0, 41, 42, 17, 0, 240, 188, 10, 181, 0, 44, 177]
abbrev dktX2_init_3 : List UInt8 := dkwX2_init_3 ++ []
def dkwX2_init_2 : List UInt8 := [181, 0, 28, 42, 16, 8, 188, 10, 181, 0, 31, 42, 16, 8, 188, 4, 181, 0, 34, 42, 16, 8, 188, 4]
abbrev dktX2_init_2 : List UInt8 := dkwX2_init_2 ++ dktX2_init_3
def dkwX2_init_1 : List UInt8 := [89, 3, 3, 79, 89, 4, 6, 79, 181, 0, 21, 42, 16, 8, 188, 10, 181, 0, 25, 42, 16, 8, 188, 10]
abbrev dktX2_init_1 : List UInt8 := dkwX2_init_1 ++ dktX2_init_2
def dkwX2_init_0 : List UInt8 := [42, 183, 0, 3, 42, 4, 181, 0, 9, 42, 16, 100, 181, 0, 15, 42, 4, 181, 0, 18, 42, 5, 188, 10]
abbrev dktX2_init_0 : List UInt8 := dkwX2_init_0 ++ dktX2_init_1
theorem dksX2_init_0 : cX2_init.data.toList.drop 0 = dktX2_init_0 := by decide +kernel
theorem dksX2_init_1 : cX2_init.data.toList.drop 24 = dktX2_init_1 := dk_seg dksX2_init_0 24 rfl rfl
theorem dksX2_init_2 : cX2_init.data.toList.drop 48 = dktX2_init_2 := dk_seg dksX2_init_1 24 rfl rfl
theorem dksX2_init_3 : cX2_init.data.toList.drop 72 = dktX2_init_3 := dk_seg dksX2_init_2 24 rfl rfl
theorem dX2_init_0 : decode cX2_init 0 = .ok (.aload_n 0, 1) := dk_42 (dk_at dksX2_init_0 0 rfl rfl)
theorem dX2_init_1 : decode cX2_init 1 = .ok (.invokespecial 3, 3) := dk_183 0 3 (dk_at dksX2_init_0 1 rfl rfl)
theorem dX2_init_4 : decode cX2_init 4 = .ok (.aload_n 0, 1) := dk_42 (dk_at dksX2_init_0 4 rfl rfl)
theorem dX2_init_5 : decode cX2_init 5 = .ok (.iconst 1, 1) := dk_4 (dk_at dksX2_init_0 5 rfl rfl)
theorem dX2_init_6 : decode cX2_init 6 = .ok (.putfield 9, 3) := dk_181 0 9 (dk_at dksX2_init_0 6 rfl rfl)
theorem dX2_init_9 : decode cX2_init 9 = .ok (.aload_n 0, 1) := dk_42 (dk_at dksX2_init_0 9 rfl rfl)
theorem dX2_init_10 : decode cX2_init 10 = .ok (.bipush 100, 2) := dk_16 100 (dk_at dksX2_init_0 10 rfl rfl)
theorem dX2_init_12 : decode cX2_init 12 = .ok (.putfield 15, 3) := dk_181 0 15 (dk_at dksX2_init_0 12 rfl rfl)
theorem dX2_init_15 : decode cX2_init 15 = .ok (.aload_n 0, 1) := dk_42 (dk_at dksX2_init_0 15 rfl rfl)
theorem dX2_init_16 : decode cX2_init 16 = .ok (.iconst 1, 1) := dk_4 (dk_at dksX2_init_0 16 rfl rfl)
theorem dX2_init_17 : decode cX2_init 17 = .ok (.putfield 18, 3) := dk_181 0 18 (dk_at dksX2_init_0 17 rfl rfl)
theorem dX2_init_20 : decode cX2_init 20 = .ok (.aload_n 0, 1) := dk_42 (dk_at dksX2_init_0 20 rfl rfl)
theorem dX2_init_21 : decode cX2_init 21 = .ok (.iconst 2, 1) := dk_5 (dk_at dksX2_init_0 21 rfl rfl)
theorem dX2_init_22 : decode cX2_init 22 = .ok (.newarray .int, 2) := dk_188_10 (dk_at dksX2_init_0 22 rfl rfl)
theorem dX2_init_24 : decode cX2_init 24 = .ok (.dup, 1) := dk_89 (dk_at dksX2_init_1 0 rfl rfl)
theorem dX2_init_25 : decode cX2_init 25 = .ok (.iconst 0, 1) := dk_3 (dk_at dksX2_init_1 1 rfl rfl)
theorem dX2_init_26 : decode cX2_init 26 = .ok (.iconst 0, 1) := dk_3 (dk_at dksX2_init_1 2 rfl rfl)
theorem dX2_init_27 : decode cX2_init 27 = .ok (.iastore, 1) := dk_79 (dk_at dksX2_init_1 3 rfl rfl)
theorem dX2_init_28 : decode cX2_init 28 = .ok (.dup, 1) := dk_89 (dk_at dksX2_init_1 4 rfl rfl)
theorem dX2_init_29 : decode cX2_init 29 = .ok (.iconst 1, 1) := dk_4 (dk_at dksX2_init_1 5 rfl rfl)
theorem dX2_init_30 : decode cX2_init 30 = .ok (.iconst 3, 1) := dk_6 (dk_at dksX2_init_1 6 rfl rfl)
theorem dX2_init_31 : decode cX2_init 31 = .ok (.iastore, 1) := dk_79 (dk_at dksX2_init_1 7 rfl rfl)
theorem dX2_init_32 : decode cX2_init 32 = .ok (.putfield 21, 3) := dk_181 0 21 (dk_at dksX2_init_1 8 rfl rfl)
theorem dX2_init_35 : decode cX2_init 35 = .ok (.aload_n 0, 1) := dk_42 (dk_at dksX2_init_1 11 rfl rfl)
theorem dX2_init_36 : decode cX2_init 36 = .ok (.bipush 8, 2) := dk_16 8 (dk_at dksX2_init_1 12 rfl rfl)
theorem dX2_init_38 : decode cX2_init 38 = .ok (.newarray .int, 2) := dk_188_10 (dk_at dksX2_init_1 14 rfl rfl)
theorem dX2_init_40 : decode cX2_init 40 = .ok (.putfield 25, 3) := dk_181 0 25 (dk_at dksX2_init_1 16 rfl rfl)
theorem dX2_init_43 : decode cX2_init 43 = .ok (.aload_n 0, 1) := dk_42 (dk_at dksX2_init_1 19 rfl rfl)
theorem dX2_init_44 : decode cX2_init 44 = .ok (.bipush 8, 2) := dk_16 8 (dk_at dksX2_init_1 20 rfl rfl)
theorem dX2_init_46 : decode cX2_init 46 = .ok (.newarray .int, 2) := dk_188_10 (dk_at dksX2_init_1 22 rfl rfl)
theorem dX2_init_48 : decode cX2_init 48 = .ok (.putfield 28, 3) := dk_181 0 28 (dk_at dksX2_init_2 0 rfl rfl)
theorem dX2_init_51 : decode cX2_init 51 = .ok (.aload_n 0, 1) := dk_42 (dk_at dksX2_init_2 3 rfl rfl)
theorem dX2_init_52 : decode cX2_init 52 = .ok (.bipush 8, 2) := dk_16 8 (dk_at dksX2_init_2 4 rfl rfl)
theorem dX2_init_54 : decode cX2_init 54 = .ok (.newarray .int, 2) := dk_188_10 (dk_at dksX2_init_2 6 rfl rfl)
theorem dX2_init_56 : decode cX2_init 56 = .ok (.putfield 31, 3) := dk_181 0 31 (dk_at dksX2_init_2 8 rfl rfl)
theorem dX2_init_59 : decode cX2_init 59 = .ok (.aload_n 0, 1) := dk_42 (dk_at dksX2_init_2 11 rfl rfl)
theorem dX2_init_60 : decode cX2_init 60 = .ok (.bipush 8, 2) := dk_16 8 (dk_at dksX2_init_2 12 rfl rfl)
theorem dX2_init_62 : decode cX2_init 62 = .ok (.newarray .boolean, 2) := dk_188_4 (dk_at dksX2_init_2 14 rfl rfl)
theorem dX2_init_64 : decode cX2_init 64 = .ok (.putfield 34, 3) := dk_181 0 34 (dk_at dksX2_init_2 16 rfl rfl)
theorem dX2_init_67 : decode cX2_init 67 = .ok (.aload_n 0, 1) := dk_42 (dk_at dksX2_init_2 19 rfl rfl)
theorem dX2_init_68 : decode cX2_init 68 = .ok (.bipush 8, 2) := dk_16 8 (dk_at dksX2_init_2 20 rfl rfl)
theorem dX2_init_70 : decode cX2_init 70 = .ok (.newarray .boolean, 2) := dk_188_4 (dk_at dksX2_init_2 22 rfl rfl)
theorem dX2_init_72 : decode cX2_init 72 = .ok (.putfield 38, 3) := dk_181 0 38 (dk_at dksX2_init_3 0 rfl rfl)
theorem dX2_init_75 : decode cX2_init 75 = .ok (.aload_n 0, 1) := dk_42 (dk_at dksX2_init_3 3 rfl rfl)
theorem dX2_init_76 : decode cX2_init 76 = .ok (.bipush 8, 2) := dk_16 8 (dk_at dksX2_init_3 4 rfl rfl)
theorem dX2_init_78 : decode cX2_init 78 = .ok (.newarray .int, 2) := dk_188_10 (dk_at dksX2_init_3 6 rfl rfl)
theorem dX2_init_80 : decode cX2_init 80 = .ok (.putfield 41, 3) := dk_181 0 41 (dk_at dksX2_init_3 8 rfl rfl)
theorem dX2_init_83 : decode cX2_init 83 = .ok (.aload_n 0, 1) := dk_42 (dk_at dksX2_init_3 11 rfl rfl)
theorem dX2_init_84 : decode cX2_init 84 = .ok (.sipush 240, 3) := dk_17 0 240 (dk_at dksX2_init_3 12 rfl rfl)
theorem dX2_init_87 : decode cX2_init 87 = .ok (.newarray .int, 2) := dk_188_10 (dk_at dksX2_init_3 15 rfl rfl)
theorem dX2_init_89 : decode cX2_init 89 = .ok (.putfield 44, 3) := dk_181 0 44 (dk_at dksX2_init_3 17 rfl rfl)
theorem dX2_init_92 : decode cX2_init 92 = .ok (.return_, 1) := dk_177 (dk_at dksX2_init_3 20 rfl rfl)
abbrev cX2_isSaturday : ByteArray := prog_15_method_5_code
def yX2_isSaturday : MethodName := ⟨RX2, "isSaturday", "(II)Z"⟩
def dkwX2_isSaturday_0 : List UInt8 := [28, 42, 180, 0, 21, 27, 46, 96, 16, 7, 112, 16, 6, 160, 0, 7, 4, 167, 0, 4, 3, 172]
abbrev dktX2_isSaturday_0 : List UInt8 := dkwX2_isSaturday_0 ++ []
theorem dksX2_isSaturday_0 : cX2_isSaturday.data.toList.drop 0 = dktX2_isSaturday_0 := by decide +kernel
theorem dX2_isSaturday_0 : decode cX2_isSaturday 0 = .ok (.iload_n 2, 1) := dk_28 (dk_at dksX2_isSaturday_0 0 rfl rfl)
theorem dX2_isSaturday_1 : decode cX2_isSaturday 1 = .ok (.aload_n 0, 1) := dk_42 (dk_at dksX2_isSaturday_0 1 rfl rfl)
theorem dX2_isSaturday_2 : decode cX2_isSaturday 2 = .ok (.getfield 21, 3) := dk_180 0 21 (dk_at dksX2_isSaturday_0 2 rfl rfl)
theorem dX2_isSaturday_5 : decode cX2_isSaturday 5 = .ok (.iload_n 1, 1) := dk_27 (dk_at dksX2_isSaturday_0 5 rfl rfl)
theorem dX2_isSaturday_6 : decode cX2_isSaturday 6 = .ok (.iaload, 1) := dk_46 (dk_at dksX2_isSaturday_0 6 rfl rfl)
theorem dX2_isSaturday_7 : decode cX2_isSaturday 7 = .ok (.iadd, 1) := dk_96 (dk_at dksX2_isSaturday_0 7 rfl rfl)
theorem dX2_isSaturday_8 : decode cX2_isSaturday 8 = .ok (.bipush 7, 2) := dk_16 7 (dk_at dksX2_isSaturday_0 8 rfl rfl)
theorem dX2_isSaturday_10 : decode cX2_isSaturday 10 = .ok (.irem, 1) := dk_112 (dk_at dksX2_isSaturday_0 10 rfl rfl)
theorem dX2_isSaturday_11 : decode cX2_isSaturday 11 = .ok (.bipush 6, 2) := dk_16 6 (dk_at dksX2_isSaturday_0 11 rfl rfl)
theorem dX2_isSaturday_13 : decode cX2_isSaturday 13 = .ok (.if_icmp .ne 7, 3) := dk_160 0 7 (dk_at dksX2_isSaturday_0 13 rfl rfl)
theorem dX2_isSaturday_16 : decode cX2_isSaturday 16 = .ok (.iconst 1, 1) := dk_4 (dk_at dksX2_isSaturday_0 16 rfl rfl)
theorem dX2_isSaturday_17 : decode cX2_isSaturday 17 = .ok (.goto 4, 3) := dk_167 0 4 (dk_at dksX2_isSaturday_0 17 rfl rfl)
theorem dX2_isSaturday_20 : decode cX2_isSaturday 20 = .ok (.iconst 0, 1) := dk_3 (dk_at dksX2_isSaturday_0 20 rfl rfl)
theorem dX2_isSaturday_21 : decode cX2_isSaturday 21 = .ok (.ireturn, 1) := dk_172 (dk_at dksX2_isSaturday_0 21 rfl rfl)
abbrev cX2_likens : ByteArray := prog_15_method_2_code
def yX2_likens : MethodName := ⟨RX2, "likens", "(LSaturdayKeep$World;)LSaturdayKeep$World;"⟩
def dkwX2_likens_8 : List UInt8 := [184, 0, 78, 43, 180, 0, 44, 42, 180, 0, 44, 184, 0, 78, 42, 176]
abbrev dktX2_likens_8 : List UInt8 := dkwX2_likens_8 ++ []
def dkwX2_likens_7 : List UInt8 := [180, 0, 38, 3, 42, 180, 0, 38, 3, 16, 8, 184, 0, 82, 43, 180, 0, 41, 42, 180, 0, 41]
abbrev dktX2_likens_7 : List UInt8 := dkwX2_likens_7 ++ dktX2_likens_8
def dkwX2_likens_6 : List UInt8 := [180, 0, 31, 184, 0, 78, 43, 180, 0, 34, 3, 42, 180, 0, 34, 3, 16, 8, 184, 0, 82, 43]
abbrev dktX2_likens_6 : List UInt8 := dkwX2_likens_6 ++ dktX2_likens_7
def dkwX2_likens_5 : List UInt8 := [180, 0, 25, 184, 0, 78, 43, 180, 0, 28, 42, 180, 0, 28, 184, 0, 78, 43, 180, 0, 31, 42]
abbrev dktX2_likens_5 : List UInt8 := dkwX2_likens_5 ++ dktX2_likens_6
def dkwX2_likens_4 : List UInt8 := [42, 43, 180, 0, 74, 181, 0, 74, 43, 180, 0, 21, 42, 180, 0, 21, 184, 0, 78, 43, 180, 0, 25, 42]
abbrev dktX2_likens_4 : List UInt8 := dkwX2_likens_4 ++ dktX2_likens_5
def dkwX2_likens_3 : List UInt8 := [42, 43, 180, 0, 68, 181, 0, 68, 42, 43, 180, 0, 71, 181, 0, 71, 42, 43, 180, 0, 18, 181, 0, 18]
abbrev dktX2_likens_3 : List UInt8 := dkwX2_likens_3 ++ dktX2_likens_4
def dkwX2_likens_2 : List UInt8 := [42, 43, 180, 0, 15, 181, 0, 15, 42, 43, 180, 0, 62, 181, 0, 62, 42, 43, 180, 0, 65, 181, 0, 65]
abbrev dktX2_likens_2 : List UInt8 := dkwX2_likens_2 ++ dktX2_likens_3
def dkwX2_likens_1 : List UInt8 := [42, 43, 180, 0, 56, 181, 0, 56, 42, 43, 180, 0, 59, 181, 0, 59, 42, 43, 180, 0, 9, 181, 0, 9]
abbrev dktX2_likens_1 : List UInt8 := dkwX2_likens_1 ++ dktX2_likens_2
def dkwX2_likens_0 : List UInt8 := [42, 43, 180, 0, 47, 181, 0, 47, 42, 43, 180, 0, 50, 181, 0, 50, 42, 43, 180, 0, 53, 181, 0, 53]
abbrev dktX2_likens_0 : List UInt8 := dkwX2_likens_0 ++ dktX2_likens_1
theorem dksX2_likens_0 : cX2_likens.data.toList.drop 0 = dktX2_likens_0 := by decide +kernel
theorem dksX2_likens_1 : cX2_likens.data.toList.drop 24 = dktX2_likens_1 := dk_seg dksX2_likens_0 24 rfl rfl
theorem dksX2_likens_2 : cX2_likens.data.toList.drop 48 = dktX2_likens_2 := dk_seg dksX2_likens_1 24 rfl rfl
theorem dksX2_likens_3 : cX2_likens.data.toList.drop 72 = dktX2_likens_3 := dk_seg dksX2_likens_2 24 rfl rfl
theorem dksX2_likens_4 : cX2_likens.data.toList.drop 96 = dktX2_likens_4 := dk_seg dksX2_likens_3 24 rfl rfl
theorem dksX2_likens_5 : cX2_likens.data.toList.drop 120 = dktX2_likens_5 := dk_seg dksX2_likens_4 24 rfl rfl
theorem dksX2_likens_6 : cX2_likens.data.toList.drop 142 = dktX2_likens_6 := dk_seg dksX2_likens_5 22 rfl rfl
theorem dksX2_likens_7 : cX2_likens.data.toList.drop 164 = dktX2_likens_7 := dk_seg dksX2_likens_6 22 rfl rfl
theorem dksX2_likens_8 : cX2_likens.data.toList.drop 186 = dktX2_likens_8 := dk_seg dksX2_likens_7 22 rfl rfl
theorem dX2_likens_0 : decode cX2_likens 0 = .ok (.aload_n 0, 1) := dk_42 (dk_at dksX2_likens_0 0 rfl rfl)
theorem dX2_likens_1 : decode cX2_likens 1 = .ok (.aload_n 1, 1) := dk_43 (dk_at dksX2_likens_0 1 rfl rfl)
theorem dX2_likens_2 : decode cX2_likens 2 = .ok (.getfield 47, 3) := dk_180 0 47 (dk_at dksX2_likens_0 2 rfl rfl)
theorem dX2_likens_5 : decode cX2_likens 5 = .ok (.putfield 47, 3) := dk_181 0 47 (dk_at dksX2_likens_0 5 rfl rfl)
theorem dX2_likens_8 : decode cX2_likens 8 = .ok (.aload_n 0, 1) := dk_42 (dk_at dksX2_likens_0 8 rfl rfl)
theorem dX2_likens_9 : decode cX2_likens 9 = .ok (.aload_n 1, 1) := dk_43 (dk_at dksX2_likens_0 9 rfl rfl)
theorem dX2_likens_10 : decode cX2_likens 10 = .ok (.getfield 50, 3) := dk_180 0 50 (dk_at dksX2_likens_0 10 rfl rfl)
theorem dX2_likens_13 : decode cX2_likens 13 = .ok (.putfield 50, 3) := dk_181 0 50 (dk_at dksX2_likens_0 13 rfl rfl)
theorem dX2_likens_16 : decode cX2_likens 16 = .ok (.aload_n 0, 1) := dk_42 (dk_at dksX2_likens_0 16 rfl rfl)
theorem dX2_likens_17 : decode cX2_likens 17 = .ok (.aload_n 1, 1) := dk_43 (dk_at dksX2_likens_0 17 rfl rfl)
theorem dX2_likens_18 : decode cX2_likens 18 = .ok (.getfield 53, 3) := dk_180 0 53 (dk_at dksX2_likens_0 18 rfl rfl)
theorem dX2_likens_21 : decode cX2_likens 21 = .ok (.putfield 53, 3) := dk_181 0 53 (dk_at dksX2_likens_0 21 rfl rfl)
theorem dX2_likens_24 : decode cX2_likens 24 = .ok (.aload_n 0, 1) := dk_42 (dk_at dksX2_likens_1 0 rfl rfl)
theorem dX2_likens_25 : decode cX2_likens 25 = .ok (.aload_n 1, 1) := dk_43 (dk_at dksX2_likens_1 1 rfl rfl)
theorem dX2_likens_26 : decode cX2_likens 26 = .ok (.getfield 56, 3) := dk_180 0 56 (dk_at dksX2_likens_1 2 rfl rfl)
theorem dX2_likens_29 : decode cX2_likens 29 = .ok (.putfield 56, 3) := dk_181 0 56 (dk_at dksX2_likens_1 5 rfl rfl)
theorem dX2_likens_32 : decode cX2_likens 32 = .ok (.aload_n 0, 1) := dk_42 (dk_at dksX2_likens_1 8 rfl rfl)
theorem dX2_likens_33 : decode cX2_likens 33 = .ok (.aload_n 1, 1) := dk_43 (dk_at dksX2_likens_1 9 rfl rfl)
theorem dX2_likens_34 : decode cX2_likens 34 = .ok (.getfield 59, 3) := dk_180 0 59 (dk_at dksX2_likens_1 10 rfl rfl)
theorem dX2_likens_37 : decode cX2_likens 37 = .ok (.putfield 59, 3) := dk_181 0 59 (dk_at dksX2_likens_1 13 rfl rfl)
theorem dX2_likens_40 : decode cX2_likens 40 = .ok (.aload_n 0, 1) := dk_42 (dk_at dksX2_likens_1 16 rfl rfl)
theorem dX2_likens_41 : decode cX2_likens 41 = .ok (.aload_n 1, 1) := dk_43 (dk_at dksX2_likens_1 17 rfl rfl)
theorem dX2_likens_42 : decode cX2_likens 42 = .ok (.getfield 9, 3) := dk_180 0 9 (dk_at dksX2_likens_1 18 rfl rfl)
theorem dX2_likens_45 : decode cX2_likens 45 = .ok (.putfield 9, 3) := dk_181 0 9 (dk_at dksX2_likens_1 21 rfl rfl)
theorem dX2_likens_48 : decode cX2_likens 48 = .ok (.aload_n 0, 1) := dk_42 (dk_at dksX2_likens_2 0 rfl rfl)
theorem dX2_likens_49 : decode cX2_likens 49 = .ok (.aload_n 1, 1) := dk_43 (dk_at dksX2_likens_2 1 rfl rfl)
theorem dX2_likens_50 : decode cX2_likens 50 = .ok (.getfield 15, 3) := dk_180 0 15 (dk_at dksX2_likens_2 2 rfl rfl)
theorem dX2_likens_53 : decode cX2_likens 53 = .ok (.putfield 15, 3) := dk_181 0 15 (dk_at dksX2_likens_2 5 rfl rfl)
theorem dX2_likens_56 : decode cX2_likens 56 = .ok (.aload_n 0, 1) := dk_42 (dk_at dksX2_likens_2 8 rfl rfl)
theorem dX2_likens_57 : decode cX2_likens 57 = .ok (.aload_n 1, 1) := dk_43 (dk_at dksX2_likens_2 9 rfl rfl)
theorem dX2_likens_58 : decode cX2_likens 58 = .ok (.getfield 62, 3) := dk_180 0 62 (dk_at dksX2_likens_2 10 rfl rfl)
theorem dX2_likens_61 : decode cX2_likens 61 = .ok (.putfield 62, 3) := dk_181 0 62 (dk_at dksX2_likens_2 13 rfl rfl)
theorem dX2_likens_64 : decode cX2_likens 64 = .ok (.aload_n 0, 1) := dk_42 (dk_at dksX2_likens_2 16 rfl rfl)
theorem dX2_likens_65 : decode cX2_likens 65 = .ok (.aload_n 1, 1) := dk_43 (dk_at dksX2_likens_2 17 rfl rfl)
theorem dX2_likens_66 : decode cX2_likens 66 = .ok (.getfield 65, 3) := dk_180 0 65 (dk_at dksX2_likens_2 18 rfl rfl)
theorem dX2_likens_69 : decode cX2_likens 69 = .ok (.putfield 65, 3) := dk_181 0 65 (dk_at dksX2_likens_2 21 rfl rfl)
theorem dX2_likens_72 : decode cX2_likens 72 = .ok (.aload_n 0, 1) := dk_42 (dk_at dksX2_likens_3 0 rfl rfl)
theorem dX2_likens_73 : decode cX2_likens 73 = .ok (.aload_n 1, 1) := dk_43 (dk_at dksX2_likens_3 1 rfl rfl)
theorem dX2_likens_74 : decode cX2_likens 74 = .ok (.getfield 68, 3) := dk_180 0 68 (dk_at dksX2_likens_3 2 rfl rfl)
theorem dX2_likens_77 : decode cX2_likens 77 = .ok (.putfield 68, 3) := dk_181 0 68 (dk_at dksX2_likens_3 5 rfl rfl)
theorem dX2_likens_80 : decode cX2_likens 80 = .ok (.aload_n 0, 1) := dk_42 (dk_at dksX2_likens_3 8 rfl rfl)
theorem dX2_likens_81 : decode cX2_likens 81 = .ok (.aload_n 1, 1) := dk_43 (dk_at dksX2_likens_3 9 rfl rfl)
theorem dX2_likens_82 : decode cX2_likens 82 = .ok (.getfield 71, 3) := dk_180 0 71 (dk_at dksX2_likens_3 10 rfl rfl)
theorem dX2_likens_85 : decode cX2_likens 85 = .ok (.putfield 71, 3) := dk_181 0 71 (dk_at dksX2_likens_3 13 rfl rfl)
theorem dX2_likens_88 : decode cX2_likens 88 = .ok (.aload_n 0, 1) := dk_42 (dk_at dksX2_likens_3 16 rfl rfl)
theorem dX2_likens_89 : decode cX2_likens 89 = .ok (.aload_n 1, 1) := dk_43 (dk_at dksX2_likens_3 17 rfl rfl)
theorem dX2_likens_90 : decode cX2_likens 90 = .ok (.getfield 18, 3) := dk_180 0 18 (dk_at dksX2_likens_3 18 rfl rfl)
theorem dX2_likens_93 : decode cX2_likens 93 = .ok (.putfield 18, 3) := dk_181 0 18 (dk_at dksX2_likens_3 21 rfl rfl)
theorem dX2_likens_96 : decode cX2_likens 96 = .ok (.aload_n 0, 1) := dk_42 (dk_at dksX2_likens_4 0 rfl rfl)
theorem dX2_likens_97 : decode cX2_likens 97 = .ok (.aload_n 1, 1) := dk_43 (dk_at dksX2_likens_4 1 rfl rfl)
theorem dX2_likens_98 : decode cX2_likens 98 = .ok (.getfield 74, 3) := dk_180 0 74 (dk_at dksX2_likens_4 2 rfl rfl)
theorem dX2_likens_101 : decode cX2_likens 101 = .ok (.putfield 74, 3) := dk_181 0 74 (dk_at dksX2_likens_4 5 rfl rfl)
theorem dX2_likens_104 : decode cX2_likens 104 = .ok (.aload_n 1, 1) := dk_43 (dk_at dksX2_likens_4 8 rfl rfl)
theorem dX2_likens_105 : decode cX2_likens 105 = .ok (.getfield 21, 3) := dk_180 0 21 (dk_at dksX2_likens_4 9 rfl rfl)
theorem dX2_likens_108 : decode cX2_likens 108 = .ok (.aload_n 0, 1) := dk_42 (dk_at dksX2_likens_4 12 rfl rfl)
theorem dX2_likens_109 : decode cX2_likens 109 = .ok (.getfield 21, 3) := dk_180 0 21 (dk_at dksX2_likens_4 13 rfl rfl)
theorem dX2_likens_112 : decode cX2_likens 112 = .ok (.invokestatic 78, 3) := dk_184 0 78 (dk_at dksX2_likens_4 16 rfl rfl)
theorem dX2_likens_115 : decode cX2_likens 115 = .ok (.aload_n 1, 1) := dk_43 (dk_at dksX2_likens_4 19 rfl rfl)
theorem dX2_likens_116 : decode cX2_likens 116 = .ok (.getfield 25, 3) := dk_180 0 25 (dk_at dksX2_likens_4 20 rfl rfl)
theorem dX2_likens_119 : decode cX2_likens 119 = .ok (.aload_n 0, 1) := dk_42 (dk_at dksX2_likens_4 23 rfl rfl)
theorem dX2_likens_120 : decode cX2_likens 120 = .ok (.getfield 25, 3) := dk_180 0 25 (dk_at dksX2_likens_5 0 rfl rfl)
theorem dX2_likens_123 : decode cX2_likens 123 = .ok (.invokestatic 78, 3) := dk_184 0 78 (dk_at dksX2_likens_5 3 rfl rfl)
theorem dX2_likens_126 : decode cX2_likens 126 = .ok (.aload_n 1, 1) := dk_43 (dk_at dksX2_likens_5 6 rfl rfl)
theorem dX2_likens_127 : decode cX2_likens 127 = .ok (.getfield 28, 3) := dk_180 0 28 (dk_at dksX2_likens_5 7 rfl rfl)
theorem dX2_likens_130 : decode cX2_likens 130 = .ok (.aload_n 0, 1) := dk_42 (dk_at dksX2_likens_5 10 rfl rfl)
theorem dX2_likens_131 : decode cX2_likens 131 = .ok (.getfield 28, 3) := dk_180 0 28 (dk_at dksX2_likens_5 11 rfl rfl)
theorem dX2_likens_134 : decode cX2_likens 134 = .ok (.invokestatic 78, 3) := dk_184 0 78 (dk_at dksX2_likens_5 14 rfl rfl)
theorem dX2_likens_137 : decode cX2_likens 137 = .ok (.aload_n 1, 1) := dk_43 (dk_at dksX2_likens_5 17 rfl rfl)
theorem dX2_likens_138 : decode cX2_likens 138 = .ok (.getfield 31, 3) := dk_180 0 31 (dk_at dksX2_likens_5 18 rfl rfl)
theorem dX2_likens_141 : decode cX2_likens 141 = .ok (.aload_n 0, 1) := dk_42 (dk_at dksX2_likens_5 21 rfl rfl)
theorem dX2_likens_142 : decode cX2_likens 142 = .ok (.getfield 31, 3) := dk_180 0 31 (dk_at dksX2_likens_6 0 rfl rfl)
theorem dX2_likens_145 : decode cX2_likens 145 = .ok (.invokestatic 78, 3) := dk_184 0 78 (dk_at dksX2_likens_6 3 rfl rfl)
theorem dX2_likens_148 : decode cX2_likens 148 = .ok (.aload_n 1, 1) := dk_43 (dk_at dksX2_likens_6 6 rfl rfl)
theorem dX2_likens_149 : decode cX2_likens 149 = .ok (.getfield 34, 3) := dk_180 0 34 (dk_at dksX2_likens_6 7 rfl rfl)
theorem dX2_likens_152 : decode cX2_likens 152 = .ok (.iconst 0, 1) := dk_3 (dk_at dksX2_likens_6 10 rfl rfl)
theorem dX2_likens_153 : decode cX2_likens 153 = .ok (.aload_n 0, 1) := dk_42 (dk_at dksX2_likens_6 11 rfl rfl)
theorem dX2_likens_154 : decode cX2_likens 154 = .ok (.getfield 34, 3) := dk_180 0 34 (dk_at dksX2_likens_6 12 rfl rfl)
theorem dX2_likens_157 : decode cX2_likens 157 = .ok (.iconst 0, 1) := dk_3 (dk_at dksX2_likens_6 15 rfl rfl)
theorem dX2_likens_158 : decode cX2_likens 158 = .ok (.bipush 8, 2) := dk_16 8 (dk_at dksX2_likens_6 16 rfl rfl)
theorem dX2_likens_160 : decode cX2_likens 160 = .ok (.invokestatic 82, 3) := dk_184 0 82 (dk_at dksX2_likens_6 18 rfl rfl)
theorem dX2_likens_163 : decode cX2_likens 163 = .ok (.aload_n 1, 1) := dk_43 (dk_at dksX2_likens_6 21 rfl rfl)
theorem dX2_likens_164 : decode cX2_likens 164 = .ok (.getfield 38, 3) := dk_180 0 38 (dk_at dksX2_likens_7 0 rfl rfl)
theorem dX2_likens_167 : decode cX2_likens 167 = .ok (.iconst 0, 1) := dk_3 (dk_at dksX2_likens_7 3 rfl rfl)
theorem dX2_likens_168 : decode cX2_likens 168 = .ok (.aload_n 0, 1) := dk_42 (dk_at dksX2_likens_7 4 rfl rfl)
theorem dX2_likens_169 : decode cX2_likens 169 = .ok (.getfield 38, 3) := dk_180 0 38 (dk_at dksX2_likens_7 5 rfl rfl)
theorem dX2_likens_172 : decode cX2_likens 172 = .ok (.iconst 0, 1) := dk_3 (dk_at dksX2_likens_7 8 rfl rfl)
theorem dX2_likens_173 : decode cX2_likens 173 = .ok (.bipush 8, 2) := dk_16 8 (dk_at dksX2_likens_7 9 rfl rfl)
theorem dX2_likens_175 : decode cX2_likens 175 = .ok (.invokestatic 82, 3) := dk_184 0 82 (dk_at dksX2_likens_7 11 rfl rfl)
theorem dX2_likens_178 : decode cX2_likens 178 = .ok (.aload_n 1, 1) := dk_43 (dk_at dksX2_likens_7 14 rfl rfl)
theorem dX2_likens_179 : decode cX2_likens 179 = .ok (.getfield 41, 3) := dk_180 0 41 (dk_at dksX2_likens_7 15 rfl rfl)
theorem dX2_likens_182 : decode cX2_likens 182 = .ok (.aload_n 0, 1) := dk_42 (dk_at dksX2_likens_7 18 rfl rfl)
theorem dX2_likens_183 : decode cX2_likens 183 = .ok (.getfield 41, 3) := dk_180 0 41 (dk_at dksX2_likens_7 19 rfl rfl)
theorem dX2_likens_186 : decode cX2_likens 186 = .ok (.invokestatic 78, 3) := dk_184 0 78 (dk_at dksX2_likens_8 0 rfl rfl)
theorem dX2_likens_189 : decode cX2_likens 189 = .ok (.aload_n 1, 1) := dk_43 (dk_at dksX2_likens_8 3 rfl rfl)
theorem dX2_likens_190 : decode cX2_likens 190 = .ok (.getfield 44, 3) := dk_180 0 44 (dk_at dksX2_likens_8 4 rfl rfl)
theorem dX2_likens_193 : decode cX2_likens 193 = .ok (.aload_n 0, 1) := dk_42 (dk_at dksX2_likens_8 7 rfl rfl)
theorem dX2_likens_194 : decode cX2_likens 194 = .ok (.getfield 44, 3) := dk_180 0 44 (dk_at dksX2_likens_8 8 rfl rfl)
theorem dX2_likens_197 : decode cX2_likens 197 = .ok (.invokestatic 78, 3) := dk_184 0 78 (dk_at dksX2_likens_8 11 rfl rfl)
theorem dX2_likens_200 : decode cX2_likens 200 = .ok (.aload_n 0, 1) := dk_42 (dk_at dksX2_likens_8 14 rfl rfl)
theorem dX2_likens_201 : decode cX2_likens 201 = .ok (.areturn, 1) := dk_176 (dk_at dksX2_likens_8 15 rfl rfl)
abbrev cX2_row : ByteArray := prog_15_method_3_code
def yX2_row : MethodName := ⟨RX2, "row", "([I[I)V"⟩
def dkwX2_row_0 : List UInt8 := [42, 3, 43, 3, 43, 190, 184, 0, 82, 177]
abbrev dktX2_row_0 : List UInt8 := dkwX2_row_0 ++ []
theorem dksX2_row_0 : cX2_row.data.toList.drop 0 = dktX2_row_0 := by decide +kernel
theorem dX2_row_0 : decode cX2_row 0 = .ok (.aload_n 0, 1) := dk_42 (dk_at dksX2_row_0 0 rfl rfl)
theorem dX2_row_1 : decode cX2_row 1 = .ok (.iconst 0, 1) := dk_3 (dk_at dksX2_row_0 1 rfl rfl)
theorem dX2_row_2 : decode cX2_row 2 = .ok (.aload_n 1, 1) := dk_43 (dk_at dksX2_row_0 2 rfl rfl)
theorem dX2_row_3 : decode cX2_row 3 = .ok (.iconst 0, 1) := dk_3 (dk_at dksX2_row_0 3 rfl rfl)
theorem dX2_row_4 : decode cX2_row 4 = .ok (.aload_n 1, 1) := dk_43 (dk_at dksX2_row_0 4 rfl rfl)
theorem dX2_row_5 : decode cX2_row 5 = .ok (.arraylength, 1) := dk_190 (dk_at dksX2_row_0 5 rfl rfl)
theorem dX2_row_6 : decode cX2_row 6 = .ok (.invokestatic 82, 3) := dk_184 0 82 (dk_at dksX2_row_0 6 rfl rfl)
theorem dX2_row_9 : decode cX2_row 9 = .ok (.return_, 1) := dk_177 (dk_at dksX2_row_0 9 rfl rfl)
abbrev cX2_doubts : ByteArray := prog_15_method_15_code
def yX2_doubts : MethodName := ⟨RX2, "doubts", "(II)V"⟩
def dkwX2_doubts_0 : List UInt8 := [42, 180, 0, 31, 27, 3, 16, 99, 28, 184, 0, 106, 184, 0, 112, 79, 177]
abbrev dktX2_doubts_0 : List UInt8 := dkwX2_doubts_0 ++ []
theorem dksX2_doubts_0 : cX2_doubts.data.toList.drop 0 = dktX2_doubts_0 := by decide +kernel
theorem dX2_doubts_0 : decode cX2_doubts 0 = .ok (.aload_n 0, 1) := dk_42 (dk_at dksX2_doubts_0 0 rfl rfl)
theorem dX2_doubts_1 : decode cX2_doubts 1 = .ok (.getfield 31, 3) := dk_180 0 31 (dk_at dksX2_doubts_0 1 rfl rfl)
theorem dX2_doubts_4 : decode cX2_doubts 4 = .ok (.iload_n 1, 1) := dk_27 (dk_at dksX2_doubts_0 4 rfl rfl)
theorem dX2_doubts_5 : decode cX2_doubts 5 = .ok (.iconst 0, 1) := dk_3 (dk_at dksX2_doubts_0 5 rfl rfl)
theorem dX2_doubts_6 : decode cX2_doubts 6 = .ok (.bipush 99, 2) := dk_16 99 (dk_at dksX2_doubts_0 6 rfl rfl)
theorem dX2_doubts_8 : decode cX2_doubts 8 = .ok (.iload_n 2, 1) := dk_28 (dk_at dksX2_doubts_0 8 rfl rfl)
theorem dX2_doubts_9 : decode cX2_doubts 9 = .ok (.invokestatic 106, 3) := dk_184 0 106 (dk_at dksX2_doubts_0 9 rfl rfl)
theorem dX2_doubts_12 : decode cX2_doubts 12 = .ok (.invokestatic 112, 3) := dk_184 0 112 (dk_at dksX2_doubts_0 12 rfl rfl)
theorem dX2_doubts_15 : decode cX2_doubts 15 = .ok (.iastore, 1) := dk_79 (dk_at dksX2_doubts_0 15 rfl rfl)
theorem dX2_doubts_16 : decode cX2_doubts 16 = .ok (.return_, 1) := dk_177 (dk_at dksX2_doubts_0 16 rfl rfl)
abbrev cX2_builds : ByteArray := prog_15_method_16_code
def yX2_builds : MethodName := ⟨RX2, "builds", "()V"⟩
def dkwX2_builds_1 : List UInt8 := [184, 0, 106, 181, 0, 62, 42, 89, 180, 0, 15, 27, 100, 181, 0, 15, 177]
abbrev dktX2_builds_1 : List UInt8 := dkwX2_builds_1 ++ []
def dkwX2_builds_0 : List UInt8 := [42, 180, 0, 9, 42, 180, 0, 15, 184, 0, 106, 60, 42, 17, 39, 15, 42, 180, 0, 62, 27, 96]
abbrev dktX2_builds_0 : List UInt8 := dkwX2_builds_0 ++ dktX2_builds_1
theorem dksX2_builds_0 : cX2_builds.data.toList.drop 0 = dktX2_builds_0 := by decide +kernel
theorem dksX2_builds_1 : cX2_builds.data.toList.drop 22 = dktX2_builds_1 := dk_seg dksX2_builds_0 22 rfl rfl
theorem dX2_builds_0 : decode cX2_builds 0 = .ok (.aload_n 0, 1) := dk_42 (dk_at dksX2_builds_0 0 rfl rfl)
theorem dX2_builds_1 : decode cX2_builds 1 = .ok (.getfield 9, 3) := dk_180 0 9 (dk_at dksX2_builds_0 1 rfl rfl)
theorem dX2_builds_4 : decode cX2_builds 4 = .ok (.aload_n 0, 1) := dk_42 (dk_at dksX2_builds_0 4 rfl rfl)
theorem dX2_builds_5 : decode cX2_builds 5 = .ok (.getfield 15, 3) := dk_180 0 15 (dk_at dksX2_builds_0 5 rfl rfl)
theorem dX2_builds_8 : decode cX2_builds 8 = .ok (.invokestatic 106, 3) := dk_184 0 106 (dk_at dksX2_builds_0 8 rfl rfl)
theorem dX2_builds_11 : decode cX2_builds 11 = .ok (.istore_n 1, 1) := dk_60 (dk_at dksX2_builds_0 11 rfl rfl)
theorem dX2_builds_12 : decode cX2_builds 12 = .ok (.aload_n 0, 1) := dk_42 (dk_at dksX2_builds_0 12 rfl rfl)
theorem dX2_builds_13 : decode cX2_builds 13 = .ok (.sipush 9999, 3) := dk_17 39 15 (dk_at dksX2_builds_0 13 rfl rfl)
theorem dX2_builds_16 : decode cX2_builds 16 = .ok (.aload_n 0, 1) := dk_42 (dk_at dksX2_builds_0 16 rfl rfl)
theorem dX2_builds_17 : decode cX2_builds 17 = .ok (.getfield 62, 3) := dk_180 0 62 (dk_at dksX2_builds_0 17 rfl rfl)
theorem dX2_builds_20 : decode cX2_builds 20 = .ok (.iload_n 1, 1) := dk_27 (dk_at dksX2_builds_0 20 rfl rfl)
theorem dX2_builds_21 : decode cX2_builds 21 = .ok (.iadd, 1) := dk_96 (dk_at dksX2_builds_0 21 rfl rfl)
theorem dX2_builds_22 : decode cX2_builds 22 = .ok (.invokestatic 106, 3) := dk_184 0 106 (dk_at dksX2_builds_1 0 rfl rfl)
theorem dX2_builds_25 : decode cX2_builds 25 = .ok (.putfield 62, 3) := dk_181 0 62 (dk_at dksX2_builds_1 3 rfl rfl)
theorem dX2_builds_28 : decode cX2_builds 28 = .ok (.aload_n 0, 1) := dk_42 (dk_at dksX2_builds_1 6 rfl rfl)
theorem dX2_builds_29 : decode cX2_builds 29 = .ok (.dup, 1) := dk_89 (dk_at dksX2_builds_1 7 rfl rfl)
theorem dX2_builds_30 : decode cX2_builds 30 = .ok (.getfield 15, 3) := dk_180 0 15 (dk_at dksX2_builds_1 8 rfl rfl)
theorem dX2_builds_33 : decode cX2_builds 33 = .ok (.iload_n 1, 1) := dk_27 (dk_at dksX2_builds_1 11 rfl rfl)
theorem dX2_builds_34 : decode cX2_builds 34 = .ok (.isub, 1) := dk_100 (dk_at dksX2_builds_1 12 rfl rfl)
theorem dX2_builds_35 : decode cX2_builds 35 = .ok (.putfield 15, 3) := dk_181 0 15 (dk_at dksX2_builds_1 13 rfl rfl)
theorem dX2_builds_38 : decode cX2_builds 38 = .ok (.return_, 1) := dk_177 (dk_at dksX2_builds_1 16 rfl rfl)
abbrev cX2_ends : ByteArray := prog_15_method_18_code
def yX2_ends : MethodName := ⟨RX2, "ends", "()V"⟩
def dkwX2_ends_0 : List UInt8 := [42, 17, 39, 15, 42, 180, 0, 53, 4, 96, 184, 0, 106, 181, 0, 53, 177]
abbrev dktX2_ends_0 : List UInt8 := dkwX2_ends_0 ++ []
theorem dksX2_ends_0 : cX2_ends.data.toList.drop 0 = dktX2_ends_0 := by decide +kernel
theorem dX2_ends_0 : decode cX2_ends 0 = .ok (.aload_n 0, 1) := dk_42 (dk_at dksX2_ends_0 0 rfl rfl)
theorem dX2_ends_1 : decode cX2_ends 1 = .ok (.sipush 9999, 3) := dk_17 39 15 (dk_at dksX2_ends_0 1 rfl rfl)
theorem dX2_ends_4 : decode cX2_ends 4 = .ok (.aload_n 0, 1) := dk_42 (dk_at dksX2_ends_0 4 rfl rfl)
theorem dX2_ends_5 : decode cX2_ends 5 = .ok (.getfield 53, 3) := dk_180 0 53 (dk_at dksX2_ends_0 5 rfl rfl)
theorem dX2_ends_8 : decode cX2_ends 8 = .ok (.iconst 1, 1) := dk_4 (dk_at dksX2_ends_0 8 rfl rfl)
theorem dX2_ends_9 : decode cX2_ends 9 = .ok (.iadd, 1) := dk_96 (dk_at dksX2_ends_0 9 rfl rfl)
theorem dX2_ends_10 : decode cX2_ends 10 = .ok (.invokestatic 106, 3) := dk_184 0 106 (dk_at dksX2_ends_0 10 rfl rfl)
theorem dX2_ends_13 : decode cX2_ends 13 = .ok (.putfield 53, 3) := dk_181 0 53 (dk_at dksX2_ends_0 13 rfl rfl)
theorem dX2_ends_16 : decode cX2_ends 16 = .ok (.return_, 1) := dk_177 (dk_at dksX2_ends_0 16 rfl rfl)
abbrev cX2_watchers : ByteArray := prog_15_method_8_code
def yX2_watchers : MethodName := ⟨RX2, "watchers", "(I)I"⟩
def dkwX2_watchers_1 : List UInt8 := [27, 182, 0, 97, 153, 0, 9, 4, 29, 120, 167, 0, 4, 3, 128, 61, 132, 3, 1, 167, 255, 217, 28, 172]
abbrev dktX2_watchers_1 : List UInt8 := dkwX2_watchers_1 ++ []
def dkwX2_watchers_0 : List UInt8 := [3, 61, 3, 62, 29, 42, 180, 0, 50, 162, 0, 37, 28, 42, 180, 0, 38, 29, 51, 153, 0, 18, 42, 29]
abbrev dktX2_watchers_0 : List UInt8 := dkwX2_watchers_0 ++ dktX2_watchers_1
theorem dksX2_watchers_0 : cX2_watchers.data.toList.drop 0 = dktX2_watchers_0 := by decide +kernel
theorem dksX2_watchers_1 : cX2_watchers.data.toList.drop 24 = dktX2_watchers_1 := dk_seg dksX2_watchers_0 24 rfl rfl
theorem dX2_watchers_0 : decode cX2_watchers 0 = .ok (.iconst 0, 1) := dk_3 (dk_at dksX2_watchers_0 0 rfl rfl)
theorem dX2_watchers_1 : decode cX2_watchers 1 = .ok (.istore_n 2, 1) := dk_61 (dk_at dksX2_watchers_0 1 rfl rfl)
theorem dX2_watchers_2 : decode cX2_watchers 2 = .ok (.iconst 0, 1) := dk_3 (dk_at dksX2_watchers_0 2 rfl rfl)
theorem dX2_watchers_3 : decode cX2_watchers 3 = .ok (.istore_n 3, 1) := dk_62 (dk_at dksX2_watchers_0 3 rfl rfl)
theorem dX2_watchers_4 : decode cX2_watchers 4 = .ok (.iload_n 3, 1) := dk_29 (dk_at dksX2_watchers_0 4 rfl rfl)
theorem dX2_watchers_5 : decode cX2_watchers 5 = .ok (.aload_n 0, 1) := dk_42 (dk_at dksX2_watchers_0 5 rfl rfl)
theorem dX2_watchers_6 : decode cX2_watchers 6 = .ok (.getfield 50, 3) := dk_180 0 50 (dk_at dksX2_watchers_0 6 rfl rfl)
theorem dX2_watchers_9 : decode cX2_watchers 9 = .ok (.if_icmp .ge 37, 3) := dk_162 0 37 (dk_at dksX2_watchers_0 9 rfl rfl)
theorem dX2_watchers_12 : decode cX2_watchers 12 = .ok (.iload_n 2, 1) := dk_28 (dk_at dksX2_watchers_0 12 rfl rfl)
theorem dX2_watchers_13 : decode cX2_watchers 13 = .ok (.aload_n 0, 1) := dk_42 (dk_at dksX2_watchers_0 13 rfl rfl)
theorem dX2_watchers_14 : decode cX2_watchers 14 = .ok (.getfield 38, 3) := dk_180 0 38 (dk_at dksX2_watchers_0 14 rfl rfl)
theorem dX2_watchers_17 : decode cX2_watchers 17 = .ok (.iload_n 3, 1) := dk_29 (dk_at dksX2_watchers_0 17 rfl rfl)
theorem dX2_watchers_18 : decode cX2_watchers 18 = .ok (.baload, 1) := dk_51 (dk_at dksX2_watchers_0 18 rfl rfl)
theorem dX2_watchers_19 : decode cX2_watchers 19 = .ok (.ifCond .eq 18, 3) := dk_153 0 18 (dk_at dksX2_watchers_0 19 rfl rfl)
theorem dX2_watchers_22 : decode cX2_watchers 22 = .ok (.aload_n 0, 1) := dk_42 (dk_at dksX2_watchers_0 22 rfl rfl)
theorem dX2_watchers_23 : decode cX2_watchers 23 = .ok (.iload_n 3, 1) := dk_29 (dk_at dksX2_watchers_0 23 rfl rfl)
theorem dX2_watchers_24 : decode cX2_watchers 24 = .ok (.iload_n 1, 1) := dk_27 (dk_at dksX2_watchers_1 0 rfl rfl)
theorem dX2_watchers_25 : decode cX2_watchers 25 = .ok (.invokevirtual 97, 3) := dk_182 0 97 (dk_at dksX2_watchers_1 1 rfl rfl)
theorem dX2_watchers_28 : decode cX2_watchers 28 = .ok (.ifCond .eq 9, 3) := dk_153 0 9 (dk_at dksX2_watchers_1 4 rfl rfl)
theorem dX2_watchers_31 : decode cX2_watchers 31 = .ok (.iconst 1, 1) := dk_4 (dk_at dksX2_watchers_1 7 rfl rfl)
theorem dX2_watchers_32 : decode cX2_watchers 32 = .ok (.iload_n 3, 1) := dk_29 (dk_at dksX2_watchers_1 8 rfl rfl)
theorem dX2_watchers_33 : decode cX2_watchers 33 = .ok (.ishl, 1) := dk_120 (dk_at dksX2_watchers_1 9 rfl rfl)
theorem dX2_watchers_34 : decode cX2_watchers 34 = .ok (.goto 4, 3) := dk_167 0 4 (dk_at dksX2_watchers_1 10 rfl rfl)
theorem dX2_watchers_37 : decode cX2_watchers 37 = .ok (.iconst 0, 1) := dk_3 (dk_at dksX2_watchers_1 13 rfl rfl)
theorem dX2_watchers_38 : decode cX2_watchers 38 = .ok (.ior, 1) := dk_128 (dk_at dksX2_watchers_1 14 rfl rfl)
theorem dX2_watchers_39 : decode cX2_watchers 39 = .ok (.istore_n 2, 1) := dk_61 (dk_at dksX2_watchers_1 15 rfl rfl)
theorem dX2_watchers_40 : decode cX2_watchers 40 = .ok (.iinc 3 1, 3) := dk_132 3 1 (dk_at dksX2_watchers_1 16 rfl rfl)
theorem dX2_watchers_43 : decode cX2_watchers 43 = .ok (.goto (-39), 3) := dk_167 255 217 (dk_at dksX2_watchers_1 19 rfl rfl)
theorem dX2_watchers_46 : decode cX2_watchers 46 = .ok (.iload_n 2, 1) := dk_28 (dk_at dksX2_watchers_1 22 rfl rfl)
theorem dX2_watchers_47 : decode cX2_watchers 47 = .ok (.ireturn, 1) := dk_172 (dk_at dksX2_watchers_1 23 rfl rfl)
abbrev cX2_sees : ByteArray := prog_15_method_7_code
def yX2_sees : MethodName := ⟨RX2, "sees", "(II)Z"⟩
def dkwX2_sees_0 : List UInt8 := [42, 42, 180, 0, 25, 27, 46, 42, 180, 0, 34, 27, 51, 182, 0, 89, 28, 184, 0, 93, 172]
abbrev dktX2_sees_0 : List UInt8 := dkwX2_sees_0 ++ []
theorem dksX2_sees_0 : cX2_sees.data.toList.drop 0 = dktX2_sees_0 := by decide +kernel
theorem dX2_sees_0 : decode cX2_sees 0 = .ok (.aload_n 0, 1) := dk_42 (dk_at dksX2_sees_0 0 rfl rfl)
theorem dX2_sees_1 : decode cX2_sees 1 = .ok (.aload_n 0, 1) := dk_42 (dk_at dksX2_sees_0 1 rfl rfl)
theorem dX2_sees_2 : decode cX2_sees 2 = .ok (.getfield 25, 3) := dk_180 0 25 (dk_at dksX2_sees_0 2 rfl rfl)
theorem dX2_sees_5 : decode cX2_sees 5 = .ok (.iload_n 1, 1) := dk_27 (dk_at dksX2_sees_0 5 rfl rfl)
theorem dX2_sees_6 : decode cX2_sees 6 = .ok (.iaload, 1) := dk_46 (dk_at dksX2_sees_0 6 rfl rfl)
theorem dX2_sees_7 : decode cX2_sees 7 = .ok (.aload_n 0, 1) := dk_42 (dk_at dksX2_sees_0 7 rfl rfl)
theorem dX2_sees_8 : decode cX2_sees 8 = .ok (.getfield 34, 3) := dk_180 0 34 (dk_at dksX2_sees_0 8 rfl rfl)
theorem dX2_sees_11 : decode cX2_sees 11 = .ok (.iload_n 1, 1) := dk_27 (dk_at dksX2_sees_0 11 rfl rfl)
theorem dX2_sees_12 : decode cX2_sees 12 = .ok (.baload, 1) := dk_51 (dk_at dksX2_sees_0 12 rfl rfl)
theorem dX2_sees_13 : decode cX2_sees 13 = .ok (.invokevirtual 89, 3) := dk_182 0 89 (dk_at dksX2_sees_0 13 rfl rfl)
theorem dX2_sees_16 : decode cX2_sees 16 = .ok (.iload_n 2, 1) := dk_28 (dk_at dksX2_sees_0 16 rfl rfl)
theorem dX2_sees_17 : decode cX2_sees 17 = .ok (.invokestatic 93, 3) := dk_184 0 93 (dk_at dksX2_sees_0 17 rfl rfl)
theorem dX2_sees_20 : decode cX2_sees 20 = .ok (.ireturn, 1) := dk_172 (dk_at dksX2_sees_0 20 rfl rfl)
abbrev cX2_spies : ByteArray := prog_15_method_6_code
def yX2_spies : MethodName := ⟨RX2, "spies", "(IZ)I"⟩
def dkwX2_spies_1 : List UInt8 := [16, 8, 96, 4, 100, 16, 8, 112, 120, 128, 167, 0, 4, 3, 128, 172]
abbrev dktX2_spies_1 : List UInt8 := dkwX2_spies_1 ++ []
def dkwX2_spies_0 : List UInt8 := [4, 27, 120, 42, 180, 0, 41, 27, 46, 128, 28, 153, 0, 26, 4, 27, 4, 96, 16, 8, 112, 120, 4, 27]
abbrev dktX2_spies_0 : List UInt8 := dkwX2_spies_0 ++ dktX2_spies_1
theorem dksX2_spies_0 : cX2_spies.data.toList.drop 0 = dktX2_spies_0 := by decide +kernel
theorem dksX2_spies_1 : cX2_spies.data.toList.drop 24 = dktX2_spies_1 := dk_seg dksX2_spies_0 24 rfl rfl
theorem dX2_spies_0 : decode cX2_spies 0 = .ok (.iconst 1, 1) := dk_4 (dk_at dksX2_spies_0 0 rfl rfl)
theorem dX2_spies_1 : decode cX2_spies 1 = .ok (.iload_n 1, 1) := dk_27 (dk_at dksX2_spies_0 1 rfl rfl)
theorem dX2_spies_2 : decode cX2_spies 2 = .ok (.ishl, 1) := dk_120 (dk_at dksX2_spies_0 2 rfl rfl)
theorem dX2_spies_3 : decode cX2_spies 3 = .ok (.aload_n 0, 1) := dk_42 (dk_at dksX2_spies_0 3 rfl rfl)
theorem dX2_spies_4 : decode cX2_spies 4 = .ok (.getfield 41, 3) := dk_180 0 41 (dk_at dksX2_spies_0 4 rfl rfl)
theorem dX2_spies_7 : decode cX2_spies 7 = .ok (.iload_n 1, 1) := dk_27 (dk_at dksX2_spies_0 7 rfl rfl)
theorem dX2_spies_8 : decode cX2_spies 8 = .ok (.iaload, 1) := dk_46 (dk_at dksX2_spies_0 8 rfl rfl)
theorem dX2_spies_9 : decode cX2_spies 9 = .ok (.ior, 1) := dk_128 (dk_at dksX2_spies_0 9 rfl rfl)
theorem dX2_spies_10 : decode cX2_spies 10 = .ok (.iload_n 2, 1) := dk_28 (dk_at dksX2_spies_0 10 rfl rfl)
theorem dX2_spies_11 : decode cX2_spies 11 = .ok (.ifCond .eq 26, 3) := dk_153 0 26 (dk_at dksX2_spies_0 11 rfl rfl)
theorem dX2_spies_14 : decode cX2_spies 14 = .ok (.iconst 1, 1) := dk_4 (dk_at dksX2_spies_0 14 rfl rfl)
theorem dX2_spies_15 : decode cX2_spies 15 = .ok (.iload_n 1, 1) := dk_27 (dk_at dksX2_spies_0 15 rfl rfl)
theorem dX2_spies_16 : decode cX2_spies 16 = .ok (.iconst 1, 1) := dk_4 (dk_at dksX2_spies_0 16 rfl rfl)
theorem dX2_spies_17 : decode cX2_spies 17 = .ok (.iadd, 1) := dk_96 (dk_at dksX2_spies_0 17 rfl rfl)
theorem dX2_spies_18 : decode cX2_spies 18 = .ok (.bipush 8, 2) := dk_16 8 (dk_at dksX2_spies_0 18 rfl rfl)
theorem dX2_spies_20 : decode cX2_spies 20 = .ok (.irem, 1) := dk_112 (dk_at dksX2_spies_0 20 rfl rfl)
theorem dX2_spies_21 : decode cX2_spies 21 = .ok (.ishl, 1) := dk_120 (dk_at dksX2_spies_0 21 rfl rfl)
theorem dX2_spies_22 : decode cX2_spies 22 = .ok (.iconst 1, 1) := dk_4 (dk_at dksX2_spies_0 22 rfl rfl)
theorem dX2_spies_23 : decode cX2_spies 23 = .ok (.iload_n 1, 1) := dk_27 (dk_at dksX2_spies_0 23 rfl rfl)
theorem dX2_spies_24 : decode cX2_spies 24 = .ok (.bipush 8, 2) := dk_16 8 (dk_at dksX2_spies_1 0 rfl rfl)
theorem dX2_spies_26 : decode cX2_spies 26 = .ok (.iadd, 1) := dk_96 (dk_at dksX2_spies_1 2 rfl rfl)
theorem dX2_spies_27 : decode cX2_spies 27 = .ok (.iconst 1, 1) := dk_4 (dk_at dksX2_spies_1 3 rfl rfl)
theorem dX2_spies_28 : decode cX2_spies 28 = .ok (.isub, 1) := dk_100 (dk_at dksX2_spies_1 4 rfl rfl)
theorem dX2_spies_29 : decode cX2_spies 29 = .ok (.bipush 8, 2) := dk_16 8 (dk_at dksX2_spies_1 5 rfl rfl)
theorem dX2_spies_31 : decode cX2_spies 31 = .ok (.irem, 1) := dk_112 (dk_at dksX2_spies_1 7 rfl rfl)
theorem dX2_spies_32 : decode cX2_spies 32 = .ok (.ishl, 1) := dk_120 (dk_at dksX2_spies_1 8 rfl rfl)
theorem dX2_spies_33 : decode cX2_spies 33 = .ok (.ior, 1) := dk_128 (dk_at dksX2_spies_1 9 rfl rfl)
theorem dX2_spies_34 : decode cX2_spies 34 = .ok (.goto 4, 3) := dk_167 0 4 (dk_at dksX2_spies_1 10 rfl rfl)
theorem dX2_spies_37 : decode cX2_spies 37 = .ok (.iconst 0, 1) := dk_3 (dk_at dksX2_spies_1 13 rfl rfl)
theorem dX2_spies_38 : decode cX2_spies 38 = .ok (.ior, 1) := dk_128 (dk_at dksX2_spies_1 14 rfl rfl)
theorem dX2_spies_39 : decode cX2_spies 39 = .ok (.ireturn, 1) := dk_172 (dk_at dksX2_spies_1 15 rfl rfl)
abbrev cX2_risk : ByteArray := prog_15_method_9_code
def yX2_risk : MethodName := ⟨RX2, "risk", "(I)I"⟩
def dkwX2_risk_1 : List UInt8 := [27, 46, 5, 108, 172]
abbrev dktX2_risk_1 : List UInt8 := dkwX2_risk_1 ++ []
def dkwX2_risk_0 : List UInt8 := [42, 180, 0, 31, 27, 46, 16, 50, 161, 0, 12, 42, 180, 0, 28, 27, 46, 167, 0, 11, 42, 180, 0, 28]
abbrev dktX2_risk_0 : List UInt8 := dkwX2_risk_0 ++ dktX2_risk_1
theorem dksX2_risk_0 : cX2_risk.data.toList.drop 0 = dktX2_risk_0 := by decide +kernel
theorem dksX2_risk_1 : cX2_risk.data.toList.drop 24 = dktX2_risk_1 := dk_seg dksX2_risk_0 24 rfl rfl
theorem dX2_risk_0 : decode cX2_risk 0 = .ok (.aload_n 0, 1) := dk_42 (dk_at dksX2_risk_0 0 rfl rfl)
theorem dX2_risk_1 : decode cX2_risk 1 = .ok (.getfield 31, 3) := dk_180 0 31 (dk_at dksX2_risk_0 1 rfl rfl)
theorem dX2_risk_4 : decode cX2_risk 4 = .ok (.iload_n 1, 1) := dk_27 (dk_at dksX2_risk_0 4 rfl rfl)
theorem dX2_risk_5 : decode cX2_risk 5 = .ok (.iaload, 1) := dk_46 (dk_at dksX2_risk_0 5 rfl rfl)
theorem dX2_risk_6 : decode cX2_risk 6 = .ok (.bipush 50, 2) := dk_16 50 (dk_at dksX2_risk_0 6 rfl rfl)
theorem dX2_risk_8 : decode cX2_risk 8 = .ok (.if_icmp .lt 12, 3) := dk_161 0 12 (dk_at dksX2_risk_0 8 rfl rfl)
theorem dX2_risk_11 : decode cX2_risk 11 = .ok (.aload_n 0, 1) := dk_42 (dk_at dksX2_risk_0 11 rfl rfl)
theorem dX2_risk_12 : decode cX2_risk 12 = .ok (.getfield 28, 3) := dk_180 0 28 (dk_at dksX2_risk_0 12 rfl rfl)
theorem dX2_risk_15 : decode cX2_risk 15 = .ok (.iload_n 1, 1) := dk_27 (dk_at dksX2_risk_0 15 rfl rfl)
theorem dX2_risk_16 : decode cX2_risk 16 = .ok (.iaload, 1) := dk_46 (dk_at dksX2_risk_0 16 rfl rfl)
theorem dX2_risk_17 : decode cX2_risk 17 = .ok (.goto 11, 3) := dk_167 0 11 (dk_at dksX2_risk_0 17 rfl rfl)
theorem dX2_risk_20 : decode cX2_risk 20 = .ok (.aload_n 0, 1) := dk_42 (dk_at dksX2_risk_0 20 rfl rfl)
theorem dX2_risk_21 : decode cX2_risk 21 = .ok (.getfield 28, 3) := dk_180 0 28 (dk_at dksX2_risk_0 21 rfl rfl)
theorem dX2_risk_24 : decode cX2_risk 24 = .ok (.iload_n 1, 1) := dk_27 (dk_at dksX2_risk_1 0 rfl rfl)
theorem dX2_risk_25 : decode cX2_risk 25 = .ok (.iaload, 1) := dk_46 (dk_at dksX2_risk_1 1 rfl rfl)
theorem dX2_risk_26 : decode cX2_risk 26 = .ok (.iconst 2, 1) := dk_5 (dk_at dksX2_risk_1 2 rfl rfl)
theorem dX2_risk_27 : decode cX2_risk 27 = .ok (.idiv, 1) := dk_108 (dk_at dksX2_risk_1 3 rfl rfl)
theorem dX2_risk_28 : decode cX2_risk 28 = .ok (.ireturn, 1) := dk_172 (dk_at dksX2_risk_1 4 rfl rfl)
abbrev cX2_inside : ByteArray := prog_15_method_10_code
def yX2_inside : MethodName := ⟨RX2, "inside", "(I)I"⟩
def dkwX2_inside_2 : List UInt8 := [28, 172]
abbrev dktX2_inside_2 : List UInt8 := dkwX2_inside_2 ++ []
def dkwX2_inside_1 : List UInt8 := [180, 0, 25, 29, 46, 27, 160, 0, 9, 4, 29, 120, 167, 0, 4, 3, 128, 61, 132, 3, 1, 167, 255, 216]
abbrev dktX2_inside_1 : List UInt8 := dkwX2_inside_1 ++ dktX2_inside_2
def dkwX2_inside_0 : List UInt8 := [3, 61, 3, 62, 29, 42, 180, 0, 50, 162, 0, 38, 28, 42, 180, 0, 38, 29, 51, 153, 0, 19, 42]
abbrev dktX2_inside_0 : List UInt8 := dkwX2_inside_0 ++ dktX2_inside_1
theorem dksX2_inside_0 : cX2_inside.data.toList.drop 0 = dktX2_inside_0 := by decide +kernel
theorem dksX2_inside_1 : cX2_inside.data.toList.drop 23 = dktX2_inside_1 := dk_seg dksX2_inside_0 23 rfl rfl
theorem dksX2_inside_2 : cX2_inside.data.toList.drop 47 = dktX2_inside_2 := dk_seg dksX2_inside_1 24 rfl rfl
theorem dX2_inside_0 : decode cX2_inside 0 = .ok (.iconst 0, 1) := dk_3 (dk_at dksX2_inside_0 0 rfl rfl)
theorem dX2_inside_1 : decode cX2_inside 1 = .ok (.istore_n 2, 1) := dk_61 (dk_at dksX2_inside_0 1 rfl rfl)
theorem dX2_inside_2 : decode cX2_inside 2 = .ok (.iconst 0, 1) := dk_3 (dk_at dksX2_inside_0 2 rfl rfl)
theorem dX2_inside_3 : decode cX2_inside 3 = .ok (.istore_n 3, 1) := dk_62 (dk_at dksX2_inside_0 3 rfl rfl)
theorem dX2_inside_4 : decode cX2_inside 4 = .ok (.iload_n 3, 1) := dk_29 (dk_at dksX2_inside_0 4 rfl rfl)
theorem dX2_inside_5 : decode cX2_inside 5 = .ok (.aload_n 0, 1) := dk_42 (dk_at dksX2_inside_0 5 rfl rfl)
theorem dX2_inside_6 : decode cX2_inside 6 = .ok (.getfield 50, 3) := dk_180 0 50 (dk_at dksX2_inside_0 6 rfl rfl)
theorem dX2_inside_9 : decode cX2_inside 9 = .ok (.if_icmp .ge 38, 3) := dk_162 0 38 (dk_at dksX2_inside_0 9 rfl rfl)
theorem dX2_inside_12 : decode cX2_inside 12 = .ok (.iload_n 2, 1) := dk_28 (dk_at dksX2_inside_0 12 rfl rfl)
theorem dX2_inside_13 : decode cX2_inside 13 = .ok (.aload_n 0, 1) := dk_42 (dk_at dksX2_inside_0 13 rfl rfl)
theorem dX2_inside_14 : decode cX2_inside 14 = .ok (.getfield 38, 3) := dk_180 0 38 (dk_at dksX2_inside_0 14 rfl rfl)
theorem dX2_inside_17 : decode cX2_inside 17 = .ok (.iload_n 3, 1) := dk_29 (dk_at dksX2_inside_0 17 rfl rfl)
theorem dX2_inside_18 : decode cX2_inside 18 = .ok (.baload, 1) := dk_51 (dk_at dksX2_inside_0 18 rfl rfl)
theorem dX2_inside_19 : decode cX2_inside 19 = .ok (.ifCond .eq 19, 3) := dk_153 0 19 (dk_at dksX2_inside_0 19 rfl rfl)
theorem dX2_inside_22 : decode cX2_inside 22 = .ok (.aload_n 0, 1) := dk_42 (dk_at dksX2_inside_0 22 rfl rfl)
theorem dX2_inside_23 : decode cX2_inside 23 = .ok (.getfield 25, 3) := dk_180 0 25 (dk_at dksX2_inside_1 0 rfl rfl)
theorem dX2_inside_26 : decode cX2_inside 26 = .ok (.iload_n 3, 1) := dk_29 (dk_at dksX2_inside_1 3 rfl rfl)
theorem dX2_inside_27 : decode cX2_inside 27 = .ok (.iaload, 1) := dk_46 (dk_at dksX2_inside_1 4 rfl rfl)
theorem dX2_inside_28 : decode cX2_inside 28 = .ok (.iload_n 1, 1) := dk_27 (dk_at dksX2_inside_1 5 rfl rfl)
theorem dX2_inside_29 : decode cX2_inside 29 = .ok (.if_icmp .ne 9, 3) := dk_160 0 9 (dk_at dksX2_inside_1 6 rfl rfl)
theorem dX2_inside_32 : decode cX2_inside 32 = .ok (.iconst 1, 1) := dk_4 (dk_at dksX2_inside_1 9 rfl rfl)
theorem dX2_inside_33 : decode cX2_inside 33 = .ok (.iload_n 3, 1) := dk_29 (dk_at dksX2_inside_1 10 rfl rfl)
theorem dX2_inside_34 : decode cX2_inside 34 = .ok (.ishl, 1) := dk_120 (dk_at dksX2_inside_1 11 rfl rfl)
theorem dX2_inside_35 : decode cX2_inside 35 = .ok (.goto 4, 3) := dk_167 0 4 (dk_at dksX2_inside_1 12 rfl rfl)
theorem dX2_inside_38 : decode cX2_inside 38 = .ok (.iconst 0, 1) := dk_3 (dk_at dksX2_inside_1 15 rfl rfl)
theorem dX2_inside_39 : decode cX2_inside 39 = .ok (.ior, 1) := dk_128 (dk_at dksX2_inside_1 16 rfl rfl)
theorem dX2_inside_40 : decode cX2_inside 40 = .ok (.istore_n 2, 1) := dk_61 (dk_at dksX2_inside_1 17 rfl rfl)
theorem dX2_inside_41 : decode cX2_inside 41 = .ok (.iinc 3 1, 3) := dk_132 3 1 (dk_at dksX2_inside_1 18 rfl rfl)
theorem dX2_inside_44 : decode cX2_inside 44 = .ok (.goto (-40), 3) := dk_167 255 216 (dk_at dksX2_inside_1 21 rfl rfl)
theorem dX2_inside_47 : decode cX2_inside 47 = .ok (.iload_n 2, 1) := dk_28 (dk_at dksX2_inside_2 0 rfl rfl)
theorem dX2_inside_48 : decode cX2_inside 48 = .ok (.ireturn, 1) := dk_172 (dk_at dksX2_inside_2 1 rfl rfl)
abbrev cX2_hereOnes : ByteArray := prog_15_method_11_code
def yX2_hereOnes : MethodName := ⟨RX2, "hereOnes", "()I"⟩
def dkwX2_hereOnes_1 : List UInt8 := [120, 167, 0, 4, 3, 128, 60, 132, 2, 1, 167, 255, 226, 27, 172]
abbrev dktX2_hereOnes_1 : List UInt8 := dkwX2_hereOnes_1 ++ []
def dkwX2_hereOnes_0 : List UInt8 := [3, 60, 3, 61, 28, 42, 180, 0, 50, 162, 0, 28, 27, 42, 180, 0, 38, 28, 51, 153, 0, 9, 4, 28]
abbrev dktX2_hereOnes_0 : List UInt8 := dkwX2_hereOnes_0 ++ dktX2_hereOnes_1
theorem dksX2_hereOnes_0 : cX2_hereOnes.data.toList.drop 0 = dktX2_hereOnes_0 := by decide +kernel
theorem dksX2_hereOnes_1 : cX2_hereOnes.data.toList.drop 24 = dktX2_hereOnes_1 := dk_seg dksX2_hereOnes_0 24 rfl rfl
theorem dX2_hereOnes_0 : decode cX2_hereOnes 0 = .ok (.iconst 0, 1) := dk_3 (dk_at dksX2_hereOnes_0 0 rfl rfl)
theorem dX2_hereOnes_1 : decode cX2_hereOnes 1 = .ok (.istore_n 1, 1) := dk_60 (dk_at dksX2_hereOnes_0 1 rfl rfl)
theorem dX2_hereOnes_2 : decode cX2_hereOnes 2 = .ok (.iconst 0, 1) := dk_3 (dk_at dksX2_hereOnes_0 2 rfl rfl)
theorem dX2_hereOnes_3 : decode cX2_hereOnes 3 = .ok (.istore_n 2, 1) := dk_61 (dk_at dksX2_hereOnes_0 3 rfl rfl)
theorem dX2_hereOnes_4 : decode cX2_hereOnes 4 = .ok (.iload_n 2, 1) := dk_28 (dk_at dksX2_hereOnes_0 4 rfl rfl)
theorem dX2_hereOnes_5 : decode cX2_hereOnes 5 = .ok (.aload_n 0, 1) := dk_42 (dk_at dksX2_hereOnes_0 5 rfl rfl)
theorem dX2_hereOnes_6 : decode cX2_hereOnes 6 = .ok (.getfield 50, 3) := dk_180 0 50 (dk_at dksX2_hereOnes_0 6 rfl rfl)
theorem dX2_hereOnes_9 : decode cX2_hereOnes 9 = .ok (.if_icmp .ge 28, 3) := dk_162 0 28 (dk_at dksX2_hereOnes_0 9 rfl rfl)
theorem dX2_hereOnes_12 : decode cX2_hereOnes 12 = .ok (.iload_n 1, 1) := dk_27 (dk_at dksX2_hereOnes_0 12 rfl rfl)
theorem dX2_hereOnes_13 : decode cX2_hereOnes 13 = .ok (.aload_n 0, 1) := dk_42 (dk_at dksX2_hereOnes_0 13 rfl rfl)
theorem dX2_hereOnes_14 : decode cX2_hereOnes 14 = .ok (.getfield 38, 3) := dk_180 0 38 (dk_at dksX2_hereOnes_0 14 rfl rfl)
theorem dX2_hereOnes_17 : decode cX2_hereOnes 17 = .ok (.iload_n 2, 1) := dk_28 (dk_at dksX2_hereOnes_0 17 rfl rfl)
theorem dX2_hereOnes_18 : decode cX2_hereOnes 18 = .ok (.baload, 1) := dk_51 (dk_at dksX2_hereOnes_0 18 rfl rfl)
theorem dX2_hereOnes_19 : decode cX2_hereOnes 19 = .ok (.ifCond .eq 9, 3) := dk_153 0 9 (dk_at dksX2_hereOnes_0 19 rfl rfl)
theorem dX2_hereOnes_22 : decode cX2_hereOnes 22 = .ok (.iconst 1, 1) := dk_4 (dk_at dksX2_hereOnes_0 22 rfl rfl)
theorem dX2_hereOnes_23 : decode cX2_hereOnes 23 = .ok (.iload_n 2, 1) := dk_28 (dk_at dksX2_hereOnes_0 23 rfl rfl)
theorem dX2_hereOnes_24 : decode cX2_hereOnes 24 = .ok (.ishl, 1) := dk_120 (dk_at dksX2_hereOnes_1 0 rfl rfl)
theorem dX2_hereOnes_25 : decode cX2_hereOnes 25 = .ok (.goto 4, 3) := dk_167 0 4 (dk_at dksX2_hereOnes_1 1 rfl rfl)
theorem dX2_hereOnes_28 : decode cX2_hereOnes 28 = .ok (.iconst 0, 1) := dk_3 (dk_at dksX2_hereOnes_1 4 rfl rfl)
theorem dX2_hereOnes_29 : decode cX2_hereOnes 29 = .ok (.ior, 1) := dk_128 (dk_at dksX2_hereOnes_1 5 rfl rfl)
theorem dX2_hereOnes_30 : decode cX2_hereOnes 30 = .ok (.istore_n 1, 1) := dk_60 (dk_at dksX2_hereOnes_1 6 rfl rfl)
theorem dX2_hereOnes_31 : decode cX2_hereOnes 31 = .ok (.iinc 2 1, 3) := dk_132 2 1 (dk_at dksX2_hereOnes_1 7 rfl rfl)
theorem dX2_hereOnes_34 : decode cX2_hereOnes 34 = .ok (.goto (-30), 3) := dk_167 255 226 (dk_at dksX2_hereOnes_1 10 rfl rfl)
theorem dX2_hereOnes_37 : decode cX2_hereOnes 37 = .ok (.iload_n 1, 1) := dk_27 (dk_at dksX2_hereOnes_1 13 rfl rfl)
theorem dX2_hereOnes_38 : decode cX2_hereOnes 38 = .ok (.ireturn, 1) := dk_172 (dk_at dksX2_hereOnes_1 14 rfl rfl)
abbrev cX2_into : ByteArray := prog_15_method_12_code
def yX2_into : MethodName := ⟨RX2, "into", "(I)I"⟩
def dkwX2_into_1 : List UInt8 := [4, 29, 120, 167, 0, 4, 3, 128, 61, 132, 3, 1, 167, 255, 224, 28, 172]
abbrev dktX2_into_1 : List UInt8 := dkwX2_into_1 ++ []
def dkwX2_into_0 : List UInt8 := [3, 61, 3, 62, 29, 16, 8, 162, 0, 32, 28, 42, 180, 0, 41, 29, 46, 27, 184, 0, 93, 153, 0, 9]
abbrev dktX2_into_0 : List UInt8 := dkwX2_into_0 ++ dktX2_into_1
theorem dksX2_into_0 : cX2_into.data.toList.drop 0 = dktX2_into_0 := by decide +kernel
theorem dksX2_into_1 : cX2_into.data.toList.drop 24 = dktX2_into_1 := dk_seg dksX2_into_0 24 rfl rfl
theorem dX2_into_0 : decode cX2_into 0 = .ok (.iconst 0, 1) := dk_3 (dk_at dksX2_into_0 0 rfl rfl)
theorem dX2_into_1 : decode cX2_into 1 = .ok (.istore_n 2, 1) := dk_61 (dk_at dksX2_into_0 1 rfl rfl)
theorem dX2_into_2 : decode cX2_into 2 = .ok (.iconst 0, 1) := dk_3 (dk_at dksX2_into_0 2 rfl rfl)
theorem dX2_into_3 : decode cX2_into 3 = .ok (.istore_n 3, 1) := dk_62 (dk_at dksX2_into_0 3 rfl rfl)
theorem dX2_into_4 : decode cX2_into 4 = .ok (.iload_n 3, 1) := dk_29 (dk_at dksX2_into_0 4 rfl rfl)
theorem dX2_into_5 : decode cX2_into 5 = .ok (.bipush 8, 2) := dk_16 8 (dk_at dksX2_into_0 5 rfl rfl)
theorem dX2_into_7 : decode cX2_into 7 = .ok (.if_icmp .ge 32, 3) := dk_162 0 32 (dk_at dksX2_into_0 7 rfl rfl)
theorem dX2_into_10 : decode cX2_into 10 = .ok (.iload_n 2, 1) := dk_28 (dk_at dksX2_into_0 10 rfl rfl)
theorem dX2_into_11 : decode cX2_into 11 = .ok (.aload_n 0, 1) := dk_42 (dk_at dksX2_into_0 11 rfl rfl)
theorem dX2_into_12 : decode cX2_into 12 = .ok (.getfield 41, 3) := dk_180 0 41 (dk_at dksX2_into_0 12 rfl rfl)
theorem dX2_into_15 : decode cX2_into 15 = .ok (.iload_n 3, 1) := dk_29 (dk_at dksX2_into_0 15 rfl rfl)
theorem dX2_into_16 : decode cX2_into 16 = .ok (.iaload, 1) := dk_46 (dk_at dksX2_into_0 16 rfl rfl)
theorem dX2_into_17 : decode cX2_into 17 = .ok (.iload_n 1, 1) := dk_27 (dk_at dksX2_into_0 17 rfl rfl)
theorem dX2_into_18 : decode cX2_into 18 = .ok (.invokestatic 93, 3) := dk_184 0 93 (dk_at dksX2_into_0 18 rfl rfl)
theorem dX2_into_21 : decode cX2_into 21 = .ok (.ifCond .eq 9, 3) := dk_153 0 9 (dk_at dksX2_into_0 21 rfl rfl)
theorem dX2_into_24 : decode cX2_into 24 = .ok (.iconst 1, 1) := dk_4 (dk_at dksX2_into_1 0 rfl rfl)
theorem dX2_into_25 : decode cX2_into 25 = .ok (.iload_n 3, 1) := dk_29 (dk_at dksX2_into_1 1 rfl rfl)
theorem dX2_into_26 : decode cX2_into 26 = .ok (.ishl, 1) := dk_120 (dk_at dksX2_into_1 2 rfl rfl)
theorem dX2_into_27 : decode cX2_into 27 = .ok (.goto 4, 3) := dk_167 0 4 (dk_at dksX2_into_1 3 rfl rfl)
theorem dX2_into_30 : decode cX2_into 30 = .ok (.iconst 0, 1) := dk_3 (dk_at dksX2_into_1 6 rfl rfl)
theorem dX2_into_31 : decode cX2_into 31 = .ok (.ior, 1) := dk_128 (dk_at dksX2_into_1 7 rfl rfl)
theorem dX2_into_32 : decode cX2_into 32 = .ok (.istore_n 2, 1) := dk_61 (dk_at dksX2_into_1 8 rfl rfl)
theorem dX2_into_33 : decode cX2_into 33 = .ok (.iinc 3 1, 3) := dk_132 3 1 (dk_at dksX2_into_1 9 rfl rfl)
theorem dX2_into_36 : decode cX2_into 36 = .ok (.goto (-32), 3) := dk_167 255 224 (dk_at dksX2_into_1 12 rfl rfl)
theorem dX2_into_39 : decode cX2_into 39 = .ok (.iload_n 2, 1) := dk_28 (dk_at dksX2_into_1 15 rfl rfl)
theorem dX2_into_40 : decode cX2_into 40 = .ok (.ireturn, 1) := dk_172 (dk_at dksX2_into_1 16 rfl rfl)
abbrev cX2_allHoles : ByteArray := prog_15_method_13_code
def yX2_allHoles : MethodName := ⟨RX2, "allHoles", "()I"⟩
def dkwX2_allHoles_1 : List UInt8 := [132, 2, 1, 167, 255, 235, 27, 172]
abbrev dktX2_allHoles_1 : List UInt8 := dkwX2_allHoles_1 ++ []
def dkwX2_allHoles_0 : List UInt8 := [3, 60, 3, 61, 28, 16, 8, 162, 0, 21, 27, 42, 180, 0, 41, 28, 46, 184, 0, 100, 96, 60]
abbrev dktX2_allHoles_0 : List UInt8 := dkwX2_allHoles_0 ++ dktX2_allHoles_1
theorem dksX2_allHoles_0 : cX2_allHoles.data.toList.drop 0 = dktX2_allHoles_0 := by decide +kernel
theorem dksX2_allHoles_1 : cX2_allHoles.data.toList.drop 22 = dktX2_allHoles_1 := dk_seg dksX2_allHoles_0 22 rfl rfl
theorem dX2_allHoles_0 : decode cX2_allHoles 0 = .ok (.iconst 0, 1) := dk_3 (dk_at dksX2_allHoles_0 0 rfl rfl)
theorem dX2_allHoles_1 : decode cX2_allHoles 1 = .ok (.istore_n 1, 1) := dk_60 (dk_at dksX2_allHoles_0 1 rfl rfl)
theorem dX2_allHoles_2 : decode cX2_allHoles 2 = .ok (.iconst 0, 1) := dk_3 (dk_at dksX2_allHoles_0 2 rfl rfl)
theorem dX2_allHoles_3 : decode cX2_allHoles 3 = .ok (.istore_n 2, 1) := dk_61 (dk_at dksX2_allHoles_0 3 rfl rfl)
theorem dX2_allHoles_4 : decode cX2_allHoles 4 = .ok (.iload_n 2, 1) := dk_28 (dk_at dksX2_allHoles_0 4 rfl rfl)
theorem dX2_allHoles_5 : decode cX2_allHoles 5 = .ok (.bipush 8, 2) := dk_16 8 (dk_at dksX2_allHoles_0 5 rfl rfl)
theorem dX2_allHoles_7 : decode cX2_allHoles 7 = .ok (.if_icmp .ge 21, 3) := dk_162 0 21 (dk_at dksX2_allHoles_0 7 rfl rfl)
theorem dX2_allHoles_10 : decode cX2_allHoles 10 = .ok (.iload_n 1, 1) := dk_27 (dk_at dksX2_allHoles_0 10 rfl rfl)
theorem dX2_allHoles_11 : decode cX2_allHoles 11 = .ok (.aload_n 0, 1) := dk_42 (dk_at dksX2_allHoles_0 11 rfl rfl)
theorem dX2_allHoles_12 : decode cX2_allHoles 12 = .ok (.getfield 41, 3) := dk_180 0 41 (dk_at dksX2_allHoles_0 12 rfl rfl)
theorem dX2_allHoles_15 : decode cX2_allHoles 15 = .ok (.iload_n 2, 1) := dk_28 (dk_at dksX2_allHoles_0 15 rfl rfl)
theorem dX2_allHoles_16 : decode cX2_allHoles 16 = .ok (.iaload, 1) := dk_46 (dk_at dksX2_allHoles_0 16 rfl rfl)
theorem dX2_allHoles_17 : decode cX2_allHoles 17 = .ok (.invokestatic 100, 3) := dk_184 0 100 (dk_at dksX2_allHoles_0 17 rfl rfl)
theorem dX2_allHoles_20 : decode cX2_allHoles 20 = .ok (.iadd, 1) := dk_96 (dk_at dksX2_allHoles_0 20 rfl rfl)
theorem dX2_allHoles_21 : decode cX2_allHoles 21 = .ok (.istore_n 1, 1) := dk_60 (dk_at dksX2_allHoles_0 21 rfl rfl)
theorem dX2_allHoles_22 : decode cX2_allHoles 22 = .ok (.iinc 2 1, 3) := dk_132 2 1 (dk_at dksX2_allHoles_1 0 rfl rfl)
theorem dX2_allHoles_25 : decode cX2_allHoles 25 = .ok (.goto (-21), 3) := dk_167 255 235 (dk_at dksX2_allHoles_1 3 rfl rfl)
theorem dX2_allHoles_28 : decode cX2_allHoles 28 = .ok (.iload_n 1, 1) := dk_27 (dk_at dksX2_allHoles_1 6 rfl rfl)
theorem dX2_allHoles_29 : decode cX2_allHoles 29 = .ok (.ireturn, 1) := dk_172 (dk_at dksX2_allHoles_1 7 rfl rfl)
abbrev cX2_doubtOfAll : ByteArray := prog_15_method_14_code
def yX2_doubtOfAll : MethodName := ⟨RX2, "doubtOfAll", "()I"⟩
def dkwX2_doubtOfAll_1 : List UInt8 := [180, 0, 31, 28, 46, 167, 0, 4, 3, 96, 60, 132, 2, 1, 167, 255, 223, 27, 172]
abbrev dktX2_doubtOfAll_1 : List UInt8 := dkwX2_doubtOfAll_1 ++ []
def dkwX2_doubtOfAll_0 : List UInt8 := [3, 60, 3, 61, 28, 42, 180, 0, 50, 162, 0, 31, 27, 42, 180, 0, 38, 28, 51, 153, 0, 12, 42]
abbrev dktX2_doubtOfAll_0 : List UInt8 := dkwX2_doubtOfAll_0 ++ dktX2_doubtOfAll_1
theorem dksX2_doubtOfAll_0 : cX2_doubtOfAll.data.toList.drop 0 = dktX2_doubtOfAll_0 := by decide +kernel
theorem dksX2_doubtOfAll_1 : cX2_doubtOfAll.data.toList.drop 23 = dktX2_doubtOfAll_1 := dk_seg dksX2_doubtOfAll_0 23 rfl rfl
theorem dX2_doubtOfAll_0 : decode cX2_doubtOfAll 0 = .ok (.iconst 0, 1) := dk_3 (dk_at dksX2_doubtOfAll_0 0 rfl rfl)
theorem dX2_doubtOfAll_1 : decode cX2_doubtOfAll 1 = .ok (.istore_n 1, 1) := dk_60 (dk_at dksX2_doubtOfAll_0 1 rfl rfl)
theorem dX2_doubtOfAll_2 : decode cX2_doubtOfAll 2 = .ok (.iconst 0, 1) := dk_3 (dk_at dksX2_doubtOfAll_0 2 rfl rfl)
theorem dX2_doubtOfAll_3 : decode cX2_doubtOfAll 3 = .ok (.istore_n 2, 1) := dk_61 (dk_at dksX2_doubtOfAll_0 3 rfl rfl)
theorem dX2_doubtOfAll_4 : decode cX2_doubtOfAll 4 = .ok (.iload_n 2, 1) := dk_28 (dk_at dksX2_doubtOfAll_0 4 rfl rfl)
theorem dX2_doubtOfAll_5 : decode cX2_doubtOfAll 5 = .ok (.aload_n 0, 1) := dk_42 (dk_at dksX2_doubtOfAll_0 5 rfl rfl)
theorem dX2_doubtOfAll_6 : decode cX2_doubtOfAll 6 = .ok (.getfield 50, 3) := dk_180 0 50 (dk_at dksX2_doubtOfAll_0 6 rfl rfl)
theorem dX2_doubtOfAll_9 : decode cX2_doubtOfAll 9 = .ok (.if_icmp .ge 31, 3) := dk_162 0 31 (dk_at dksX2_doubtOfAll_0 9 rfl rfl)
theorem dX2_doubtOfAll_12 : decode cX2_doubtOfAll 12 = .ok (.iload_n 1, 1) := dk_27 (dk_at dksX2_doubtOfAll_0 12 rfl rfl)
theorem dX2_doubtOfAll_13 : decode cX2_doubtOfAll 13 = .ok (.aload_n 0, 1) := dk_42 (dk_at dksX2_doubtOfAll_0 13 rfl rfl)
theorem dX2_doubtOfAll_14 : decode cX2_doubtOfAll 14 = .ok (.getfield 38, 3) := dk_180 0 38 (dk_at dksX2_doubtOfAll_0 14 rfl rfl)
theorem dX2_doubtOfAll_17 : decode cX2_doubtOfAll 17 = .ok (.iload_n 2, 1) := dk_28 (dk_at dksX2_doubtOfAll_0 17 rfl rfl)
theorem dX2_doubtOfAll_18 : decode cX2_doubtOfAll 18 = .ok (.baload, 1) := dk_51 (dk_at dksX2_doubtOfAll_0 18 rfl rfl)
theorem dX2_doubtOfAll_19 : decode cX2_doubtOfAll 19 = .ok (.ifCond .eq 12, 3) := dk_153 0 12 (dk_at dksX2_doubtOfAll_0 19 rfl rfl)
theorem dX2_doubtOfAll_22 : decode cX2_doubtOfAll 22 = .ok (.aload_n 0, 1) := dk_42 (dk_at dksX2_doubtOfAll_0 22 rfl rfl)
theorem dX2_doubtOfAll_23 : decode cX2_doubtOfAll 23 = .ok (.getfield 31, 3) := dk_180 0 31 (dk_at dksX2_doubtOfAll_1 0 rfl rfl)
theorem dX2_doubtOfAll_26 : decode cX2_doubtOfAll 26 = .ok (.iload_n 2, 1) := dk_28 (dk_at dksX2_doubtOfAll_1 3 rfl rfl)
theorem dX2_doubtOfAll_27 : decode cX2_doubtOfAll 27 = .ok (.iaload, 1) := dk_46 (dk_at dksX2_doubtOfAll_1 4 rfl rfl)
theorem dX2_doubtOfAll_28 : decode cX2_doubtOfAll 28 = .ok (.goto 4, 3) := dk_167 0 4 (dk_at dksX2_doubtOfAll_1 5 rfl rfl)
theorem dX2_doubtOfAll_31 : decode cX2_doubtOfAll 31 = .ok (.iconst 0, 1) := dk_3 (dk_at dksX2_doubtOfAll_1 8 rfl rfl)
theorem dX2_doubtOfAll_32 : decode cX2_doubtOfAll 32 = .ok (.iadd, 1) := dk_96 (dk_at dksX2_doubtOfAll_1 9 rfl rfl)
theorem dX2_doubtOfAll_33 : decode cX2_doubtOfAll 33 = .ok (.istore_n 1, 1) := dk_60 (dk_at dksX2_doubtOfAll_1 10 rfl rfl)
theorem dX2_doubtOfAll_34 : decode cX2_doubtOfAll 34 = .ok (.iinc 2 1, 3) := dk_132 2 1 (dk_at dksX2_doubtOfAll_1 11 rfl rfl)
theorem dX2_doubtOfAll_37 : decode cX2_doubtOfAll 37 = .ok (.goto (-33), 3) := dk_167 255 223 (dk_at dksX2_doubtOfAll_1 14 rfl rfl)
theorem dX2_doubtOfAll_40 : decode cX2_doubtOfAll 40 = .ok (.iload_n 1, 1) := dk_27 (dk_at dksX2_doubtOfAll_1 17 rfl rfl)
theorem dX2_doubtOfAll_41 : decode cX2_doubtOfAll 41 = .ok (.ireturn, 1) := dk_172 (dk_at dksX2_doubtOfAll_1 18 rfl rfl)
abbrev cX2_draw : ByteArray := prog_15_method_4_code
def yX2_draw : MethodName := ⟨RX2, "draw", "(I)I"⟩
def dkwX2_draw_1 : List UInt8 := [17, 127, 255, 126, 27, 112, 172]
abbrev dktX2_draw_1 : List UInt8 := dkwX2_draw_1 ++ []
def dkwX2_draw_0 : List UInt8 := [42, 18, 88, 42, 180, 0, 18, 104, 17, 48, 57, 96, 181, 0, 18, 42, 180, 0, 18, 16, 16, 124]
abbrev dktX2_draw_0 : List UInt8 := dkwX2_draw_0 ++ dktX2_draw_1
theorem dksX2_draw_0 : cX2_draw.data.toList.drop 0 = dktX2_draw_0 := by decide +kernel
theorem dksX2_draw_1 : cX2_draw.data.toList.drop 22 = dktX2_draw_1 := dk_seg dksX2_draw_0 22 rfl rfl
theorem dX2_draw_0 : decode cX2_draw 0 = .ok (.aload_n 0, 1) := dk_42 (dk_at dksX2_draw_0 0 rfl rfl)
theorem dX2_draw_1 : decode cX2_draw 1 = .ok (.ldc 88, 2) := dk_18 88 (dk_at dksX2_draw_0 1 rfl rfl)
theorem dX2_draw_3 : decode cX2_draw 3 = .ok (.aload_n 0, 1) := dk_42 (dk_at dksX2_draw_0 3 rfl rfl)
theorem dX2_draw_4 : decode cX2_draw 4 = .ok (.getfield 18, 3) := dk_180 0 18 (dk_at dksX2_draw_0 4 rfl rfl)
theorem dX2_draw_7 : decode cX2_draw 7 = .ok (.imul, 1) := dk_104 (dk_at dksX2_draw_0 7 rfl rfl)
theorem dX2_draw_8 : decode cX2_draw 8 = .ok (.sipush 12345, 3) := dk_17 48 57 (dk_at dksX2_draw_0 8 rfl rfl)
theorem dX2_draw_11 : decode cX2_draw 11 = .ok (.iadd, 1) := dk_96 (dk_at dksX2_draw_0 11 rfl rfl)
theorem dX2_draw_12 : decode cX2_draw 12 = .ok (.putfield 18, 3) := dk_181 0 18 (dk_at dksX2_draw_0 12 rfl rfl)
theorem dX2_draw_15 : decode cX2_draw 15 = .ok (.aload_n 0, 1) := dk_42 (dk_at dksX2_draw_0 15 rfl rfl)
theorem dX2_draw_16 : decode cX2_draw 16 = .ok (.getfield 18, 3) := dk_180 0 18 (dk_at dksX2_draw_0 16 rfl rfl)
theorem dX2_draw_19 : decode cX2_draw 19 = .ok (.bipush 16, 2) := dk_16 16 (dk_at dksX2_draw_0 19 rfl rfl)
theorem dX2_draw_21 : decode cX2_draw 21 = .ok (.iushr, 1) := dk_124 (dk_at dksX2_draw_0 21 rfl rfl)
theorem dX2_draw_22 : decode cX2_draw 22 = .ok (.sipush 32767, 3) := dk_17 127 255 (dk_at dksX2_draw_1 0 rfl rfl)
theorem dX2_draw_25 : decode cX2_draw 25 = .ok (.iand, 1) := dk_126 (dk_at dksX2_draw_1 3 rfl rfl)
theorem dX2_draw_26 : decode cX2_draw 26 = .ok (.iload_n 1, 1) := dk_27 (dk_at dksX2_draw_1 4 rfl rfl)
theorem dX2_draw_27 : decode cX2_draw 27 = .ok (.irem, 1) := dk_112 (dk_at dksX2_draw_1 5 rfl rfl)
theorem dX2_draw_28 : decode cX2_draw 28 = .ok (.ireturn, 1) := dk_172 (dk_at dksX2_draw_1 6 rfl rfl)
abbrev cX2_looks : ByteArray := prog_15_method_17_code
def yX2_looks : MethodName := ⟨RX2, "looks", "(I)V"⟩
def dkwX2_looks_3 : List UInt8 := [42, 180, 0, 56, 79, 42, 16, 60, 42, 180, 0, 71, 4, 96, 184, 0, 106, 181, 0, 71, 177]
abbrev dktX2_looks_3 : List UInt8 := dkwX2_looks_3 ++ []
def dkwX2_looks_2 : List UInt8 := [42, 180, 0, 44, 4, 27, 79, 42, 180, 0, 44, 5, 42, 180, 0, 25, 27, 46, 79, 42, 180, 0, 44, 6]
abbrev dktX2_looks_2 : List UInt8 := dkwX2_looks_2 ++ dktX2_looks_3
def dkwX2_looks_1 : List UInt8 := [180, 0, 44, 7, 42, 180, 0, 44, 190, 7, 100, 184, 0, 82, 42, 180, 0, 44, 3, 42, 180, 0, 53, 79]
abbrev dktX2_looks_1 : List UInt8 := dkwX2_looks_1 ++ dktX2_looks_2
def dkwX2_looks_0 : List UInt8 := [42, 89, 180, 0, 68, 4, 96, 181, 0, 68, 42, 180, 0, 31, 27, 16, 99, 79, 42, 180, 0, 44, 3, 42]
abbrev dktX2_looks_0 : List UInt8 := dkwX2_looks_0 ++ dktX2_looks_1
theorem dksX2_looks_0 : cX2_looks.data.toList.drop 0 = dktX2_looks_0 := by decide +kernel
theorem dksX2_looks_1 : cX2_looks.data.toList.drop 24 = dktX2_looks_1 := dk_seg dksX2_looks_0 24 rfl rfl
theorem dksX2_looks_2 : cX2_looks.data.toList.drop 48 = dktX2_looks_2 := dk_seg dksX2_looks_1 24 rfl rfl
theorem dksX2_looks_3 : cX2_looks.data.toList.drop 72 = dktX2_looks_3 := dk_seg dksX2_looks_2 24 rfl rfl
theorem dX2_looks_0 : decode cX2_looks 0 = .ok (.aload_n 0, 1) := dk_42 (dk_at dksX2_looks_0 0 rfl rfl)
theorem dX2_looks_1 : decode cX2_looks 1 = .ok (.dup, 1) := dk_89 (dk_at dksX2_looks_0 1 rfl rfl)
theorem dX2_looks_2 : decode cX2_looks 2 = .ok (.getfield 68, 3) := dk_180 0 68 (dk_at dksX2_looks_0 2 rfl rfl)
theorem dX2_looks_5 : decode cX2_looks 5 = .ok (.iconst 1, 1) := dk_4 (dk_at dksX2_looks_0 5 rfl rfl)
theorem dX2_looks_6 : decode cX2_looks 6 = .ok (.iadd, 1) := dk_96 (dk_at dksX2_looks_0 6 rfl rfl)
theorem dX2_looks_7 : decode cX2_looks 7 = .ok (.putfield 68, 3) := dk_181 0 68 (dk_at dksX2_looks_0 7 rfl rfl)
theorem dX2_looks_10 : decode cX2_looks 10 = .ok (.aload_n 0, 1) := dk_42 (dk_at dksX2_looks_0 10 rfl rfl)
theorem dX2_looks_11 : decode cX2_looks 11 = .ok (.getfield 31, 3) := dk_180 0 31 (dk_at dksX2_looks_0 11 rfl rfl)
theorem dX2_looks_14 : decode cX2_looks 14 = .ok (.iload_n 1, 1) := dk_27 (dk_at dksX2_looks_0 14 rfl rfl)
theorem dX2_looks_15 : decode cX2_looks 15 = .ok (.bipush 99, 2) := dk_16 99 (dk_at dksX2_looks_0 15 rfl rfl)
theorem dX2_looks_17 : decode cX2_looks 17 = .ok (.iastore, 1) := dk_79 (dk_at dksX2_looks_0 17 rfl rfl)
theorem dX2_looks_18 : decode cX2_looks 18 = .ok (.aload_n 0, 1) := dk_42 (dk_at dksX2_looks_0 18 rfl rfl)
theorem dX2_looks_19 : decode cX2_looks 19 = .ok (.getfield 44, 3) := dk_180 0 44 (dk_at dksX2_looks_0 19 rfl rfl)
theorem dX2_looks_22 : decode cX2_looks 22 = .ok (.iconst 0, 1) := dk_3 (dk_at dksX2_looks_0 22 rfl rfl)
theorem dX2_looks_23 : decode cX2_looks 23 = .ok (.aload_n 0, 1) := dk_42 (dk_at dksX2_looks_0 23 rfl rfl)
theorem dX2_looks_24 : decode cX2_looks 24 = .ok (.getfield 44, 3) := dk_180 0 44 (dk_at dksX2_looks_1 0 rfl rfl)
theorem dX2_looks_27 : decode cX2_looks 27 = .ok (.iconst 4, 1) := dk_7 (dk_at dksX2_looks_1 3 rfl rfl)
theorem dX2_looks_28 : decode cX2_looks 28 = .ok (.aload_n 0, 1) := dk_42 (dk_at dksX2_looks_1 4 rfl rfl)
theorem dX2_looks_29 : decode cX2_looks 29 = .ok (.getfield 44, 3) := dk_180 0 44 (dk_at dksX2_looks_1 5 rfl rfl)
theorem dX2_looks_32 : decode cX2_looks 32 = .ok (.arraylength, 1) := dk_190 (dk_at dksX2_looks_1 8 rfl rfl)
theorem dX2_looks_33 : decode cX2_looks 33 = .ok (.iconst 4, 1) := dk_7 (dk_at dksX2_looks_1 9 rfl rfl)
theorem dX2_looks_34 : decode cX2_looks 34 = .ok (.isub, 1) := dk_100 (dk_at dksX2_looks_1 10 rfl rfl)
theorem dX2_looks_35 : decode cX2_looks 35 = .ok (.invokestatic 82, 3) := dk_184 0 82 (dk_at dksX2_looks_1 11 rfl rfl)
theorem dX2_looks_38 : decode cX2_looks 38 = .ok (.aload_n 0, 1) := dk_42 (dk_at dksX2_looks_1 14 rfl rfl)
theorem dX2_looks_39 : decode cX2_looks 39 = .ok (.getfield 44, 3) := dk_180 0 44 (dk_at dksX2_looks_1 15 rfl rfl)
theorem dX2_looks_42 : decode cX2_looks 42 = .ok (.iconst 0, 1) := dk_3 (dk_at dksX2_looks_1 18 rfl rfl)
theorem dX2_looks_43 : decode cX2_looks 43 = .ok (.aload_n 0, 1) := dk_42 (dk_at dksX2_looks_1 19 rfl rfl)
theorem dX2_looks_44 : decode cX2_looks 44 = .ok (.getfield 53, 3) := dk_180 0 53 (dk_at dksX2_looks_1 20 rfl rfl)
theorem dX2_looks_47 : decode cX2_looks 47 = .ok (.iastore, 1) := dk_79 (dk_at dksX2_looks_1 23 rfl rfl)
theorem dX2_looks_48 : decode cX2_looks 48 = .ok (.aload_n 0, 1) := dk_42 (dk_at dksX2_looks_2 0 rfl rfl)
theorem dX2_looks_49 : decode cX2_looks 49 = .ok (.getfield 44, 3) := dk_180 0 44 (dk_at dksX2_looks_2 1 rfl rfl)
theorem dX2_looks_52 : decode cX2_looks 52 = .ok (.iconst 1, 1) := dk_4 (dk_at dksX2_looks_2 4 rfl rfl)
theorem dX2_looks_53 : decode cX2_looks 53 = .ok (.iload_n 1, 1) := dk_27 (dk_at dksX2_looks_2 5 rfl rfl)
theorem dX2_looks_54 : decode cX2_looks 54 = .ok (.iastore, 1) := dk_79 (dk_at dksX2_looks_2 6 rfl rfl)
theorem dX2_looks_55 : decode cX2_looks 55 = .ok (.aload_n 0, 1) := dk_42 (dk_at dksX2_looks_2 7 rfl rfl)
theorem dX2_looks_56 : decode cX2_looks 56 = .ok (.getfield 44, 3) := dk_180 0 44 (dk_at dksX2_looks_2 8 rfl rfl)
theorem dX2_looks_59 : decode cX2_looks 59 = .ok (.iconst 2, 1) := dk_5 (dk_at dksX2_looks_2 11 rfl rfl)
theorem dX2_looks_60 : decode cX2_looks 60 = .ok (.aload_n 0, 1) := dk_42 (dk_at dksX2_looks_2 12 rfl rfl)
theorem dX2_looks_61 : decode cX2_looks 61 = .ok (.getfield 25, 3) := dk_180 0 25 (dk_at dksX2_looks_2 13 rfl rfl)
theorem dX2_looks_64 : decode cX2_looks 64 = .ok (.iload_n 1, 1) := dk_27 (dk_at dksX2_looks_2 16 rfl rfl)
theorem dX2_looks_65 : decode cX2_looks 65 = .ok (.iaload, 1) := dk_46 (dk_at dksX2_looks_2 17 rfl rfl)
theorem dX2_looks_66 : decode cX2_looks 66 = .ok (.iastore, 1) := dk_79 (dk_at dksX2_looks_2 18 rfl rfl)
theorem dX2_looks_67 : decode cX2_looks 67 = .ok (.aload_n 0, 1) := dk_42 (dk_at dksX2_looks_2 19 rfl rfl)
theorem dX2_looks_68 : decode cX2_looks 68 = .ok (.getfield 44, 3) := dk_180 0 44 (dk_at dksX2_looks_2 20 rfl rfl)
theorem dX2_looks_71 : decode cX2_looks 71 = .ok (.iconst 3, 1) := dk_6 (dk_at dksX2_looks_2 23 rfl rfl)
theorem dX2_looks_72 : decode cX2_looks 72 = .ok (.aload_n 0, 1) := dk_42 (dk_at dksX2_looks_3 0 rfl rfl)
theorem dX2_looks_73 : decode cX2_looks 73 = .ok (.getfield 56, 3) := dk_180 0 56 (dk_at dksX2_looks_3 1 rfl rfl)
theorem dX2_looks_76 : decode cX2_looks 76 = .ok (.iastore, 1) := dk_79 (dk_at dksX2_looks_3 4 rfl rfl)
theorem dX2_looks_77 : decode cX2_looks 77 = .ok (.aload_n 0, 1) := dk_42 (dk_at dksX2_looks_3 5 rfl rfl)
theorem dX2_looks_78 : decode cX2_looks 78 = .ok (.bipush 60, 2) := dk_16 60 (dk_at dksX2_looks_3 6 rfl rfl)
theorem dX2_looks_80 : decode cX2_looks 80 = .ok (.aload_n 0, 1) := dk_42 (dk_at dksX2_looks_3 8 rfl rfl)
theorem dX2_looks_81 : decode cX2_looks 81 = .ok (.getfield 71, 3) := dk_180 0 71 (dk_at dksX2_looks_3 9 rfl rfl)
theorem dX2_looks_84 : decode cX2_looks 84 = .ok (.iconst 1, 1) := dk_4 (dk_at dksX2_looks_3 12 rfl rfl)
theorem dX2_looks_85 : decode cX2_looks 85 = .ok (.iadd, 1) := dk_96 (dk_at dksX2_looks_3 13 rfl rfl)
theorem dX2_looks_86 : decode cX2_looks 86 = .ok (.invokestatic 106, 3) := dk_184 0 106 (dk_at dksX2_looks_3 14 rfl rfl)
theorem dX2_looks_89 : decode cX2_looks 89 = .ok (.putfield 71, 3) := dk_181 0 71 (dk_at dksX2_looks_3 17 rfl rfl)
theorem dX2_looks_92 : decode cX2_looks 92 = .ok (.return_, 1) := dk_177 (dk_at dksX2_looks_3 20 rfl rfl)
theorem q108 : (Jvm.Cond.initialized "SaturdayKeep$World") ∈ lw_all := lw_g (lw_at lw_m1 2 rfl) rfl
theorem q157 : (Jvm.Cond.instantiable "SaturdayKeep$World" (21 : Nat)) ∈ lw_all := lw_g (lw_at lw_m1 51 rfl) rfl
theorem q159 : (Jvm.Cond.instanceMethod ({ cls := "SaturdayKeep$World", name := "<init>", desc := "()V" } : Jvm.MethodName)) ∈ lw_all := lw_g (lw_at lw_m1 53 rfl) rfl
theorem q160 : (Jvm.Cond.code ({ cls := "SaturdayKeep$World", name := "<init>", desc := "()V" } : Jvm.MethodName) prog_15_method_1_code (1 : Nat) (Option.none : Option Jvm.ClassFile.FieldType)) ∈ lw_all := lw_g (lw_at lw_m1 54 rfl) rfl
theorem q161 : (Jvm.Cond.methodLink "SaturdayKeep$World" (3 : Nat) ({ cls := "java/lang/Object", name := "<init>", desc := "()V" } : Jvm.MethodName)) ∈ lw_all := lw_g (lw_at lw_m1 55 rfl) rfl
theorem q162 : (Jvm.Cond.fieldLink "SaturdayKeep$World" (47 : Nat) "SaturdayKeep$World" "texts" "I") ∈ lw_all := lw_g (lw_at lw_m1 56 rfl) rfl
theorem q164 : (Jvm.Cond.fieldLink "SaturdayKeep$World" (50 : Nat) "SaturdayKeep$World" "guests" "I") ∈ lw_all := lw_g (lw_at lw_m1 58 rfl) rfl
theorem q167 : (Jvm.Cond.fieldLink "SaturdayKeep$World" (53 : Nat) "SaturdayKeep$World" "day" "I") ∈ lw_all := lw_g (lw_at lw_m1 61 rfl) rfl
theorem q169 : (Jvm.Cond.fieldLink "SaturdayKeep$World" (56 : Nat) "SaturdayKeep$World" "bath" "I") ∈ lw_all := lw_g (lw_at lw_m1 63 rfl) rfl
theorem q172 : (Jvm.Cond.fieldLink "SaturdayKeep$World" (59 : Nat) "SaturdayKeep$World" "kept" "I") ∈ lw_all := lw_g (lw_at lw_m1 66 rfl) rfl
theorem q174 : (Jvm.Cond.fieldLink "SaturdayKeep$World" (9 : Nat) "SaturdayKeep$World" "masons" "I") ∈ lw_all := lw_g (lw_at lw_m1 68 rfl) rfl
theorem q176 : (Jvm.Cond.fieldLink "SaturdayKeep$World" (15 : Nat) "SaturdayKeep$World" "stones" "I") ∈ lw_all := lw_g (lw_at lw_m1 70 rfl) rfl
theorem q178 : (Jvm.Cond.fieldLink "SaturdayKeep$World" (62 : Nat) "SaturdayKeep$World" "towers" "I") ∈ lw_all := lw_g (lw_at lw_m1 72 rfl) rfl
theorem q180 : (Jvm.Cond.fieldLink "SaturdayKeep$World" (65 : Nat) "SaturdayKeep$World" "bore" "I") ∈ lw_all := lw_g (lw_at lw_m1 74 rfl) rfl
theorem q182 : (Jvm.Cond.fieldLink "SaturdayKeep$World" (68 : Nat) "SaturdayKeep$World" "seen" "I") ∈ lw_all := lw_g (lw_at lw_m1 76 rfl) rfl
theorem q184 : (Jvm.Cond.fieldLink "SaturdayKeep$World" (71 : Nat) "SaturdayKeep$World" "logged" "I") ∈ lw_all := lw_g (lw_at lw_m1 78 rfl) rfl
theorem q186 : (Jvm.Cond.fieldLink "SaturdayKeep$World" (18 : Nat) "SaturdayKeep$World" "seed" "I") ∈ lw_all := lw_g (lw_at lw_m1 80 rfl) rfl
theorem q188 : (Jvm.Cond.fieldLink "SaturdayKeep$World" (21 : Nat) "SaturdayKeep$World" "shift" "[I") ∈ lw_all := lw_g (lw_at lw_m1 82 rfl) rfl
theorem q190 : (Jvm.Cond.fieldLink "SaturdayKeep$World" (25 : Nat) "SaturdayKeep$World" "room" "[I") ∈ lw_all := lw_g (lw_at lw_m1 84 rfl) rfl
theorem q193 : (Jvm.Cond.fieldLink "SaturdayKeep$World" (28 : Nat) "SaturdayKeep$World" "wish" "[I") ∈ lw_all := lw_g (lw_at lw_m1 87 rfl) rfl
theorem q195 : (Jvm.Cond.fieldLink "SaturdayKeep$World" (31 : Nat) "SaturdayKeep$World" "doubt" "[I") ∈ lw_all := lw_g (lw_at lw_m1 89 rfl) rfl
theorem q197 : (Jvm.Cond.fieldLink "SaturdayKeep$World" (34 : Nat) "SaturdayKeep$World" "key" "[Z") ∈ lw_all := lw_g (lw_at lw_m1 91 rfl) rfl
theorem q200 : (Jvm.Cond.fieldLink "SaturdayKeep$World" (38 : Nat) "SaturdayKeep$World" "here" "[Z") ∈ lw_all := lw_g (lw_at lw_m1 94 rfl) rfl
theorem q203 : (Jvm.Cond.fieldLink "SaturdayKeep$World" (41 : Nat) "SaturdayKeep$World" "holes" "[I") ∈ lw_all := lw_g (lw_at lw_m1 97 rfl) rfl
theorem q205 : (Jvm.Cond.fieldLink "SaturdayKeep$World" (44 : Nat) "SaturdayKeep$World" "log" "[I") ∈ lw_all := lw_g (lw_at lw_m1 99 rfl) rfl
theorem q207 : (Jvm.Cond.fieldLink "SaturdayKeep$World" (74 : Nat) "SaturdayKeep$World" "law" "LSaturdayKeep$Law;") ∈ lw_all := lw_g (lw_at lw_m1 101 rfl) rfl
theorem q209 : (Jvm.Cond.lays "SaturdayKeep$World" "SaturdayKeep$World" "texts" "I") ∈ lw_all := lw_g (lw_at lw_m1 103 rfl) rfl
theorem q210 : (Jvm.Cond.soleField "SaturdayKeep$World" "texts") ∈ lw_all := lw_g (lw_at lw_m1 104 rfl) rfl
theorem q211 : (Jvm.Cond.lays "SaturdayKeep$World" "SaturdayKeep$World" "guests" "I") ∈ lw_all := lw_g (lw_at lw_m1 105 rfl) rfl
theorem q212 : (Jvm.Cond.soleField "SaturdayKeep$World" "guests") ∈ lw_all := lw_g (lw_at lw_m1 106 rfl) rfl
theorem q213 : (Jvm.Cond.lays "SaturdayKeep$World" "SaturdayKeep$World" "day" "I") ∈ lw_all := lw_g (lw_at lw_m1 107 rfl) rfl
theorem q214 : (Jvm.Cond.soleField "SaturdayKeep$World" "day") ∈ lw_all := lw_g (lw_at lw_m1 108 rfl) rfl
theorem q215 : (Jvm.Cond.lays "SaturdayKeep$World" "SaturdayKeep$World" "bath" "I") ∈ lw_all := lw_g (lw_at lw_m1 109 rfl) rfl
theorem q216 : (Jvm.Cond.soleField "SaturdayKeep$World" "bath") ∈ lw_all := lw_g (lw_at lw_m1 110 rfl) rfl
theorem q217 : (Jvm.Cond.lays "SaturdayKeep$World" "SaturdayKeep$World" "kept" "I") ∈ lw_all := lw_g (lw_at lw_m1 111 rfl) rfl
theorem q218 : (Jvm.Cond.soleField "SaturdayKeep$World" "kept") ∈ lw_all := lw_g (lw_at lw_m1 112 rfl) rfl
theorem q219 : (Jvm.Cond.lays "SaturdayKeep$World" "SaturdayKeep$World" "masons" "I") ∈ lw_all := lw_g (lw_at lw_m1 113 rfl) rfl
theorem q220 : (Jvm.Cond.soleField "SaturdayKeep$World" "masons") ∈ lw_all := lw_g (lw_at lw_m1 114 rfl) rfl
theorem q221 : (Jvm.Cond.lays "SaturdayKeep$World" "SaturdayKeep$World" "stones" "I") ∈ lw_all := lw_g (lw_at lw_m1 115 rfl) rfl
theorem q222 : (Jvm.Cond.soleField "SaturdayKeep$World" "stones") ∈ lw_all := lw_g (lw_at lw_m1 116 rfl) rfl
theorem q223 : (Jvm.Cond.lays "SaturdayKeep$World" "SaturdayKeep$World" "towers" "I") ∈ lw_all := lw_g (lw_at lw_m1 117 rfl) rfl
theorem q224 : (Jvm.Cond.soleField "SaturdayKeep$World" "towers") ∈ lw_all := lw_g (lw_at lw_m1 118 rfl) rfl
theorem q225 : (Jvm.Cond.lays "SaturdayKeep$World" "SaturdayKeep$World" "bore" "I") ∈ lw_all := lw_g (lw_at lw_m1 119 rfl) rfl
theorem q226 : (Jvm.Cond.soleField "SaturdayKeep$World" "bore") ∈ lw_all := lw_g (lw_at lw_m1 120 rfl) rfl
theorem q227 : (Jvm.Cond.lays "SaturdayKeep$World" "SaturdayKeep$World" "seen" "I") ∈ lw_all := lw_g (lw_at lw_m1 121 rfl) rfl
theorem q228 : (Jvm.Cond.soleField "SaturdayKeep$World" "seen") ∈ lw_all := lw_g (lw_at lw_m1 122 rfl) rfl
theorem q229 : (Jvm.Cond.lays "SaturdayKeep$World" "SaturdayKeep$World" "logged" "I") ∈ lw_all := lw_g (lw_at lw_m1 123 rfl) rfl
theorem q230 : (Jvm.Cond.soleField "SaturdayKeep$World" "logged") ∈ lw_all := lw_g (lw_at lw_m1 124 rfl) rfl
theorem q231 : (Jvm.Cond.lays "SaturdayKeep$World" "SaturdayKeep$World" "seed" "I") ∈ lw_all := lw_g (lw_at lw_m1 125 rfl) rfl
theorem q232 : (Jvm.Cond.soleField "SaturdayKeep$World" "seed") ∈ lw_all := lw_g (lw_at lw_m1 126 rfl) rfl
theorem q233 : (Jvm.Cond.laysFinal "SaturdayKeep$World" "SaturdayKeep$World" "shift" "[I") ∈ lw_all := lw_g (lw_at lw_m1 127 rfl) rfl
theorem q234 : (Jvm.Cond.soleField "SaturdayKeep$World" "shift") ∈ lw_all := lw_g (lw_at lw_m1 128 rfl) rfl
theorem q235 : (Jvm.Cond.laysFinal "SaturdayKeep$World" "SaturdayKeep$World" "room" "[I") ∈ lw_all := lw_g (lw_at lw_m1 129 rfl) rfl
theorem q236 : (Jvm.Cond.soleField "SaturdayKeep$World" "room") ∈ lw_all := lw_g (lw_at lw_m1 130 rfl) rfl
theorem q237 : (Jvm.Cond.laysFinal "SaturdayKeep$World" "SaturdayKeep$World" "wish" "[I") ∈ lw_all := lw_g (lw_at lw_m1 131 rfl) rfl
theorem q238 : (Jvm.Cond.soleField "SaturdayKeep$World" "wish") ∈ lw_all := lw_g (lw_at lw_m1 132 rfl) rfl
theorem q239 : (Jvm.Cond.laysFinal "SaturdayKeep$World" "SaturdayKeep$World" "doubt" "[I") ∈ lw_all := lw_g (lw_at lw_m1 133 rfl) rfl
theorem q240 : (Jvm.Cond.soleField "SaturdayKeep$World" "doubt") ∈ lw_all := lw_g (lw_at lw_m1 134 rfl) rfl
theorem q241 : (Jvm.Cond.laysFinal "SaturdayKeep$World" "SaturdayKeep$World" "key" "[Z") ∈ lw_all := lw_g (lw_at lw_m1 135 rfl) rfl
theorem q242 : (Jvm.Cond.soleField "SaturdayKeep$World" "key") ∈ lw_all := lw_g (lw_at lw_m1 136 rfl) rfl
theorem q243 : (Jvm.Cond.laysFinal "SaturdayKeep$World" "SaturdayKeep$World" "here" "[Z") ∈ lw_all := lw_g (lw_at lw_m1 137 rfl) rfl
theorem q244 : (Jvm.Cond.soleField "SaturdayKeep$World" "here") ∈ lw_all := lw_g (lw_at lw_m1 138 rfl) rfl
theorem q245 : (Jvm.Cond.laysFinal "SaturdayKeep$World" "SaturdayKeep$World" "holes" "[I") ∈ lw_all := lw_g (lw_at lw_m1 139 rfl) rfl
theorem q246 : (Jvm.Cond.soleField "SaturdayKeep$World" "holes") ∈ lw_all := lw_g (lw_at lw_m1 140 rfl) rfl
theorem q247 : (Jvm.Cond.laysFinal "SaturdayKeep$World" "SaturdayKeep$World" "log" "[I") ∈ lw_all := lw_g (lw_at lw_m1 141 rfl) rfl
theorem q248 : (Jvm.Cond.soleField "SaturdayKeep$World" "log") ∈ lw_all := lw_g (lw_at lw_m1 142 rfl) rfl
theorem q249 : (Jvm.Cond.lays "SaturdayKeep$World" "SaturdayKeep$World" "law" "LSaturdayKeep$Law;") ∈ lw_all := lw_g (lw_at lw_m1 143 rfl) rfl
theorem q250 : (Jvm.Cond.soleField "SaturdayKeep$World" "law") ∈ lw_all := lw_g (lw_at lw_m1 144 rfl) rfl
theorem q251 : (Jvm.Cond.superclass "SaturdayKeep$World" "java/lang/Object") ∈ lw_all := lw_g (lw_at lw_m1 145 rfl) rfl
theorem q427 : (Jvm.Cond.instanceMethod ({ cls := "SaturdayKeep$World", name := "isSaturday", desc := "(II)Z" } : Jvm.MethodName)) ∈ lw_all := lw_g (lw_at lw_m2 81 rfl) rfl
theorem q428 : (Jvm.Cond.selects "SaturdayKeep$World" ({ cls := "SaturdayKeep$World", name := "isSaturday", desc := "(II)Z" } : Jvm.MethodName) ({ cls := "SaturdayKeep$World", name := "isSaturday", desc := "(II)Z" } : Jvm.MethodName)) ∈ lw_all := lw_g (lw_at lw_m2 82 rfl) rfl
theorem q429 : (Jvm.Cond.code ({ cls := "SaturdayKeep$World", name := "isSaturday", desc := "(II)Z" } : Jvm.MethodName) prog_15_method_5_code (3 : Nat) (Option.some Jvm.ClassFile.FieldType.boolean)) ∈ lw_all := lw_g (lw_at lw_m2 83 rfl) rfl
theorem q435 : (Jvm.Cond.instanceMethod ({ cls := "SaturdayKeep$World", name := "likens", desc := "(LSaturdayKeep$World;)LSaturdayKeep$World;" } : Jvm.MethodName)) ∈ lw_all := lw_g (lw_at lw_m2 89 rfl) rfl
theorem q436 : (Jvm.Cond.selects "SaturdayKeep$World" ({ cls := "SaturdayKeep$World", name := "likens", desc := "(LSaturdayKeep$World;)LSaturdayKeep$World;" } : Jvm.MethodName) ({ cls := "SaturdayKeep$World", name := "likens", desc := "(LSaturdayKeep$World;)LSaturdayKeep$World;" } : Jvm.MethodName)) ∈ lw_all := lw_g (lw_at lw_m2 90 rfl) rfl
theorem q437 : (Jvm.Cond.code ({ cls := "SaturdayKeep$World", name := "likens", desc := "(LSaturdayKeep$World;)LSaturdayKeep$World;" } : Jvm.MethodName) prog_15_method_2_code (2 : Nat) (Option.some (Jvm.ClassFile.FieldType.object "SaturdayKeep$World"))) ∈ lw_all := lw_g (lw_at lw_m2 91 rfl) rfl
theorem q438 : (Jvm.Cond.methodLink "SaturdayKeep$World" (78 : Nat) ({ cls := "SaturdayKeep$World", name := "row", desc := "([I[I)V" } : Jvm.MethodName)) ∈ lw_all := lw_g (lw_at lw_m2 92 rfl) rfl
theorem q439 : (Jvm.Cond.static ({ cls := "SaturdayKeep$World", name := "row", desc := "([I[I)V" } : Jvm.MethodName)) ∈ lw_all := lw_g (lw_at lw_m2 93 rfl) rfl
theorem q440 : (Jvm.Cond.code ({ cls := "SaturdayKeep$World", name := "row", desc := "([I[I)V" } : Jvm.MethodName) prog_15_method_3_code (2 : Nat) (Option.none : Option Jvm.ClassFile.FieldType)) ∈ lw_all := lw_g (lw_at lw_m2 94 rfl) rfl
theorem q441 : (Jvm.Cond.methodLink "SaturdayKeep$World" (82 : Nat) ({ cls := "java/lang/System", name := "arraycopy", desc := "(Ljava/lang/Object;ILjava/lang/Object;II)V" } : Jvm.MethodName)) ∈ lw_all := lw_g (lw_at lw_m2 95 rfl) rfl
theorem q546 : (Jvm.Cond.instanceMethod ({ cls := "SaturdayKeep$World", name := "doubts", desc := "(II)V" } : Jvm.MethodName)) ∈ lw_all := lw_g (lw_at lw_m2 200 rfl) rfl
theorem q547 : (Jvm.Cond.selects "SaturdayKeep$World" ({ cls := "SaturdayKeep$World", name := "doubts", desc := "(II)V" } : Jvm.MethodName) ({ cls := "SaturdayKeep$World", name := "doubts", desc := "(II)V" } : Jvm.MethodName)) ∈ lw_all := lw_g (lw_at lw_m2 201 rfl) rfl
theorem q548 : (Jvm.Cond.code ({ cls := "SaturdayKeep$World", name := "doubts", desc := "(II)V" } : Jvm.MethodName) prog_15_method_15_code (3 : Nat) (Option.none : Option Jvm.ClassFile.FieldType)) ∈ lw_all := lw_g (lw_at lw_m2 202 rfl) rfl
theorem q549 : (Jvm.Cond.methodLink "SaturdayKeep$World" (106 : Nat) ({ cls := "java/lang/Math", name := "min", desc := "(II)I" } : Jvm.MethodName)) ∈ lw_all := lw_g (lw_at lw_m2 203 rfl) rfl
theorem q552 : (Jvm.Cond.methodLink "SaturdayKeep$World" (112 : Nat) ({ cls := "java/lang/Math", name := "max", desc := "(II)I" } : Jvm.MethodName)) ∈ lw_all := lw_g (lw_at lw_m2 206 rfl) rfl
theorem q556 : (Jvm.Cond.instanceMethod ({ cls := "SaturdayKeep$World", name := "builds", desc := "()V" } : Jvm.MethodName)) ∈ lw_all := lw_g (lw_at lw_m2 210 rfl) rfl
theorem q557 : (Jvm.Cond.selects "SaturdayKeep$World" ({ cls := "SaturdayKeep$World", name := "builds", desc := "()V" } : Jvm.MethodName) ({ cls := "SaturdayKeep$World", name := "builds", desc := "()V" } : Jvm.MethodName)) ∈ lw_all := lw_g (lw_at lw_m2 211 rfl) rfl
theorem q558 : (Jvm.Cond.code ({ cls := "SaturdayKeep$World", name := "builds", desc := "()V" } : Jvm.MethodName) prog_15_method_16_code (2 : Nat) (Option.none : Option Jvm.ClassFile.FieldType)) ∈ lw_all := lw_g (lw_at lw_m2 212 rfl) rfl
theorem q560 : (Jvm.Cond.instanceMethod ({ cls := "SaturdayKeep$World", name := "ends", desc := "()V" } : Jvm.MethodName)) ∈ lw_all := lw_g (lw_at lw_m2 214 rfl) rfl
theorem q561 : (Jvm.Cond.selects "SaturdayKeep$World" ({ cls := "SaturdayKeep$World", name := "ends", desc := "()V" } : Jvm.MethodName) ({ cls := "SaturdayKeep$World", name := "ends", desc := "()V" } : Jvm.MethodName)) ∈ lw_all := lw_g (lw_at lw_m2 215 rfl) rfl
theorem q562 : (Jvm.Cond.code ({ cls := "SaturdayKeep$World", name := "ends", desc := "()V" } : Jvm.MethodName) prog_15_method_18_code (1 : Nat) (Option.none : Option Jvm.ClassFile.FieldType)) ∈ lw_all := lw_g (lw_at lw_m2 216 rfl) rfl
theorem q568 : (Jvm.Cond.instanceMethod ({ cls := "SaturdayKeep$World", name := "watchers", desc := "(I)I" } : Jvm.MethodName)) ∈ lw_all := lw_g (lw_at lw_m2 222 rfl) rfl
theorem q569 : (Jvm.Cond.selects "SaturdayKeep$World" ({ cls := "SaturdayKeep$World", name := "watchers", desc := "(I)I" } : Jvm.MethodName) ({ cls := "SaturdayKeep$World", name := "watchers", desc := "(I)I" } : Jvm.MethodName)) ∈ lw_all := lw_g (lw_at lw_m2 223 rfl) rfl
theorem q570 : (Jvm.Cond.code ({ cls := "SaturdayKeep$World", name := "watchers", desc := "(I)I" } : Jvm.MethodName) prog_15_method_8_code (4 : Nat) (Option.some Jvm.ClassFile.FieldType.int)) ∈ lw_all := lw_g (lw_at lw_m2 224 rfl) rfl
theorem q571 : (Jvm.Cond.methodLink "SaturdayKeep$World" (97 : Nat) ({ cls := "SaturdayKeep$World", name := "sees", desc := "(II)Z" } : Jvm.MethodName)) ∈ lw_all := lw_g (lw_at lw_m2 225 rfl) rfl
theorem q572 : (Jvm.Cond.instanceMethod ({ cls := "SaturdayKeep$World", name := "sees", desc := "(II)Z" } : Jvm.MethodName)) ∈ lw_all := lw_g (lw_at lw_m2 226 rfl) rfl
theorem q573 : (Jvm.Cond.selects "SaturdayKeep$World" ({ cls := "SaturdayKeep$World", name := "sees", desc := "(II)Z" } : Jvm.MethodName) ({ cls := "SaturdayKeep$World", name := "sees", desc := "(II)Z" } : Jvm.MethodName)) ∈ lw_all := lw_g (lw_at lw_m2 227 rfl) rfl
theorem q574 : (Jvm.Cond.code ({ cls := "SaturdayKeep$World", name := "sees", desc := "(II)Z" } : Jvm.MethodName) prog_15_method_7_code (3 : Nat) (Option.some Jvm.ClassFile.FieldType.boolean)) ∈ lw_all := lw_g (lw_at lw_m2 228 rfl) rfl
theorem q575 : (Jvm.Cond.methodLink "SaturdayKeep$World" (89 : Nat) ({ cls := "SaturdayKeep$World", name := "spies", desc := "(IZ)I" } : Jvm.MethodName)) ∈ lw_all := lw_g (lw_at lw_m2 229 rfl) rfl
theorem q576 : (Jvm.Cond.instanceMethod ({ cls := "SaturdayKeep$World", name := "spies", desc := "(IZ)I" } : Jvm.MethodName)) ∈ lw_all := lw_g (lw_at lw_m2 230 rfl) rfl
theorem q577 : (Jvm.Cond.selects "SaturdayKeep$World" ({ cls := "SaturdayKeep$World", name := "spies", desc := "(IZ)I" } : Jvm.MethodName) ({ cls := "SaturdayKeep$World", name := "spies", desc := "(IZ)I" } : Jvm.MethodName)) ∈ lw_all := lw_g (lw_at lw_m2 231 rfl) rfl
theorem q578 : (Jvm.Cond.code ({ cls := "SaturdayKeep$World", name := "spies", desc := "(IZ)I" } : Jvm.MethodName) prog_15_method_6_code (3 : Nat) (Option.some Jvm.ClassFile.FieldType.int)) ∈ lw_all := lw_g (lw_at lw_m2 232 rfl) rfl
theorem q579 : (Jvm.Cond.methodLinkNest "SaturdayKeep$World" (93 : Nat) ({ cls := "SaturdayKeep", name := "has", desc := "(II)Z" } : Jvm.MethodName) "SaturdayKeep") ∈ lw_tbl := lw_at lw_m2 233 rfl
theorem q588 : (Jvm.Cond.instanceMethod ({ cls := "SaturdayKeep$World", name := "risk", desc := "(I)I" } : Jvm.MethodName)) ∈ lw_all := lw_g (lw_at lw_m3 2 rfl) rfl
theorem q589 : (Jvm.Cond.selects "SaturdayKeep$World" ({ cls := "SaturdayKeep$World", name := "risk", desc := "(I)I" } : Jvm.MethodName) ({ cls := "SaturdayKeep$World", name := "risk", desc := "(I)I" } : Jvm.MethodName)) ∈ lw_all := lw_g (lw_at lw_m3 3 rfl) rfl
theorem q590 : (Jvm.Cond.code ({ cls := "SaturdayKeep$World", name := "risk", desc := "(I)I" } : Jvm.MethodName) prog_15_method_9_code (2 : Nat) (Option.some Jvm.ClassFile.FieldType.int)) ∈ lw_all := lw_g (lw_at lw_m3 4 rfl) rfl
theorem q602 : (Jvm.Cond.instanceMethod ({ cls := "SaturdayKeep$World", name := "inside", desc := "(I)I" } : Jvm.MethodName)) ∈ lw_all := lw_g (lw_at lw_m3 16 rfl) rfl
theorem q603 : (Jvm.Cond.selects "SaturdayKeep$World" ({ cls := "SaturdayKeep$World", name := "inside", desc := "(I)I" } : Jvm.MethodName) ({ cls := "SaturdayKeep$World", name := "inside", desc := "(I)I" } : Jvm.MethodName)) ∈ lw_all := lw_g (lw_at lw_m3 17 rfl) rfl
theorem q604 : (Jvm.Cond.code ({ cls := "SaturdayKeep$World", name := "inside", desc := "(I)I" } : Jvm.MethodName) prog_15_method_10_code (4 : Nat) (Option.some Jvm.ClassFile.FieldType.int)) ∈ lw_all := lw_g (lw_at lw_m3 18 rfl) rfl
theorem q644 : (Jvm.Cond.instanceMethod ({ cls := "SaturdayKeep$World", name := "hereOnes", desc := "()I" } : Jvm.MethodName)) ∈ lw_all := lw_g (lw_at lw_m3 58 rfl) rfl
theorem q645 : (Jvm.Cond.selects "SaturdayKeep$World" ({ cls := "SaturdayKeep$World", name := "hereOnes", desc := "()I" } : Jvm.MethodName) ({ cls := "SaturdayKeep$World", name := "hereOnes", desc := "()I" } : Jvm.MethodName)) ∈ lw_all := lw_g (lw_at lw_m3 59 rfl) rfl
theorem q646 : (Jvm.Cond.code ({ cls := "SaturdayKeep$World", name := "hereOnes", desc := "()I" } : Jvm.MethodName) prog_15_method_11_code (3 : Nat) (Option.some Jvm.ClassFile.FieldType.int)) ∈ lw_all := lw_g (lw_at lw_m3 60 rfl) rfl
theorem q695 : (Jvm.Cond.instanceMethod ({ cls := "SaturdayKeep$World", name := "into", desc := "(I)I" } : Jvm.MethodName)) ∈ lw_all := lw_g (lw_at lw_m3 109 rfl) rfl
theorem q696 : (Jvm.Cond.selects "SaturdayKeep$World" ({ cls := "SaturdayKeep$World", name := "into", desc := "(I)I" } : Jvm.MethodName) ({ cls := "SaturdayKeep$World", name := "into", desc := "(I)I" } : Jvm.MethodName)) ∈ lw_all := lw_g (lw_at lw_m3 110 rfl) rfl
theorem q697 : (Jvm.Cond.code ({ cls := "SaturdayKeep$World", name := "into", desc := "(I)I" } : Jvm.MethodName) prog_15_method_12_code (4 : Nat) (Option.some Jvm.ClassFile.FieldType.int)) ∈ lw_all := lw_g (lw_at lw_m3 111 rfl) rfl
theorem q741 : (Jvm.Cond.instanceMethod ({ cls := "SaturdayKeep$World", name := "allHoles", desc := "()I" } : Jvm.MethodName)) ∈ lw_all := lw_g (lw_at lw_m3 155 rfl) rfl
theorem q742 : (Jvm.Cond.selects "SaturdayKeep$World" ({ cls := "SaturdayKeep$World", name := "allHoles", desc := "()I" } : Jvm.MethodName) ({ cls := "SaturdayKeep$World", name := "allHoles", desc := "()I" } : Jvm.MethodName)) ∈ lw_all := lw_g (lw_at lw_m3 156 rfl) rfl
theorem q743 : (Jvm.Cond.code ({ cls := "SaturdayKeep$World", name := "allHoles", desc := "()I" } : Jvm.MethodName) prog_15_method_13_code (3 : Nat) (Option.some Jvm.ClassFile.FieldType.int)) ∈ lw_all := lw_g (lw_at lw_m3 157 rfl) rfl
theorem q744 : (Jvm.Cond.methodLink "SaturdayKeep$World" (100 : Nat) ({ cls := "java/lang/Integer", name := "bitCount", desc := "(I)I" } : Jvm.MethodName)) ∈ lw_all := lw_g (lw_at lw_m3 158 rfl) rfl
theorem q746 : (Jvm.Cond.instanceMethod ({ cls := "SaturdayKeep$World", name := "doubtOfAll", desc := "()I" } : Jvm.MethodName)) ∈ lw_all := lw_g (lw_at lw_m3 160 rfl) rfl
theorem q747 : (Jvm.Cond.selects "SaturdayKeep$World" ({ cls := "SaturdayKeep$World", name := "doubtOfAll", desc := "()I" } : Jvm.MethodName) ({ cls := "SaturdayKeep$World", name := "doubtOfAll", desc := "()I" } : Jvm.MethodName)) ∈ lw_all := lw_g (lw_at lw_m3 161 rfl) rfl
theorem q748 : (Jvm.Cond.code ({ cls := "SaturdayKeep$World", name := "doubtOfAll", desc := "()I" } : Jvm.MethodName) prog_15_method_14_code (3 : Nat) (Option.some Jvm.ClassFile.FieldType.int)) ∈ lw_all := lw_g (lw_at lw_m3 162 rfl) rfl
theorem q1475 : (Jvm.Cond.selects "SaturdayKeep$World" ({ cls := "java/lang/Object", name := "getClass", desc := "()Ljava/lang/Class;" } : Jvm.MethodName) ({ cls := "java/lang/Object", name := "getClass", desc := "()Ljava/lang/Class;" } : Jvm.MethodName)) ∈ lw_all := lw_g (lw_at lw_m6 169 rfl) rfl
theorem q1713 : (Jvm.Cond.instanceMethod ({ cls := "SaturdayKeep$World", name := "draw", desc := "(I)I" } : Jvm.MethodName)) ∈ lw_all := lw_g (lw_at lw_m7 167 rfl) rfl
theorem q1714 : (Jvm.Cond.selects "SaturdayKeep$World" ({ cls := "SaturdayKeep$World", name := "draw", desc := "(I)I" } : Jvm.MethodName) ({ cls := "SaturdayKeep$World", name := "draw", desc := "(I)I" } : Jvm.MethodName)) ∈ lw_all := lw_g (lw_at lw_m7 168 rfl) rfl
theorem q1715 : (Jvm.Cond.code ({ cls := "SaturdayKeep$World", name := "draw", desc := "(I)I" } : Jvm.MethodName) prog_15_method_4_code (2 : Nat) (Option.some Jvm.ClassFile.FieldType.int)) ∈ lw_all := lw_g (lw_at lw_m7 169 rfl) rfl
theorem q1716 : (Jvm.Cond.constant "SaturdayKeep$World" (88 : Nat) (1103515245 : Int32)) ∈ lw_all := lw_g (lw_at lw_m7 170 rfl) rfl
theorem q1718 : (Jvm.Cond.instanceMethod ({ cls := "SaturdayKeep$World", name := "looks", desc := "(I)V" } : Jvm.MethodName)) ∈ lw_all := lw_g (lw_at lw_m7 172 rfl) rfl
theorem q1719 : (Jvm.Cond.selects "SaturdayKeep$World" ({ cls := "SaturdayKeep$World", name := "looks", desc := "(I)V" } : Jvm.MethodName) ({ cls := "SaturdayKeep$World", name := "looks", desc := "(I)V" } : Jvm.MethodName)) ∈ lw_all := lw_g (lw_at lw_m7 173 rfl) rfl
theorem q1720 : (Jvm.Cond.code ({ cls := "SaturdayKeep$World", name := "looks", desc := "(I)V" } : Jvm.MethodName) prog_15_method_17_code (2 : Nat) (Option.none : Option Jvm.ClassFile.FieldType)) ∈ lw_all := lw_g (lw_at lw_m7 174 rfl) rfl
theorem q2506 : (Jvm.Cond.castable "SaturdayKeep$World" "java/lang/Object") ∈ lw_tbl := lw_at lw_m11 0 rfl
theorem in_X2 : ∀ w ∈ wsX20, w ∈ lw_all := lw_in wsX20 [209, 211, 213, 215, 217, 219, 221, 223, 225, 227, 229, 231, 233, 235, 237, 239, 241, 243, 245, 247, 249] (by decide +kernel) (by decide +kernel)
/-! SaturdayKeep$Reader -/
set_option maxRecDepth 100000
def RX3 : String := "SaturdayKeep$Reader"
def TX3 : u_T := fun k => match k with
  | 0 => ("SaturdayKeep$Reader", "tape", "[B", true)
  | 1 => ("SaturdayKeep$Reader", "length", "I", false)
  | 2 => ("SaturdayKeep$Reader", "end", "I", false)
  | 3 => ("SaturdayKeep$Reader", "at", "I", false)
  | 4 => ("SaturdayKeep$Reader", "begin", "I", false)
  | 5 => ("SaturdayKeep$Reader", "fault", "I", false)
  | _ => ("SaturdayKeep$Reader", "deep", "I", false)
def tyX3 : Nat → FieldType := fun k => match k with
  | 0 => .array .byte
  | 1 => .int
  | 2 => .int
  | 3 => .int
  | 4 => .int
  | 5 => .int
  | _ => .int
abbrev wsX30 : List Cond := u_ws RX3 TX3 7
theorem nmX3 : ∀ a, a < 7 → ∀ b, b < 7 → a ≠ b → (TX3 a).2.1 ≠ (TX3 b).2.1 := by decide +kernel
theorem tyX3_ok : ∀ k, k < 7 → parseFieldDescriptor (TX3 k).2.2.1 = some (tyX3 k) := by decide +kernel
abbrev cX3_init : ByteArray := prog_10_method_1_code
def yX3_init : MethodName := ⟨RX3, "<init>", "()V"⟩
def dkwX3_init_0 : List UInt8 := [42, 183, 0, 3, 42, 17, 1, 144, 188, 8, 181, 0, 9, 42, 2, 181, 0, 15, 177]
abbrev dktX3_init_0 : List UInt8 := dkwX3_init_0 ++ []
theorem dksX3_init_0 : cX3_init.data.toList.drop 0 = dktX3_init_0 := by decide +kernel
theorem dX3_init_0 : decode cX3_init 0 = .ok (.aload_n 0, 1) := dk_42 (dk_at dksX3_init_0 0 rfl rfl)
theorem dX3_init_1 : decode cX3_init 1 = .ok (.invokespecial 3, 3) := dk_183 0 3 (dk_at dksX3_init_0 1 rfl rfl)
theorem dX3_init_4 : decode cX3_init 4 = .ok (.aload_n 0, 1) := dk_42 (dk_at dksX3_init_0 4 rfl rfl)
theorem dX3_init_5 : decode cX3_init 5 = .ok (.sipush 400, 3) := dk_17 1 144 (dk_at dksX3_init_0 5 rfl rfl)
theorem dX3_init_8 : decode cX3_init 8 = .ok (.newarray .byte, 2) := dk_188_8 (dk_at dksX3_init_0 8 rfl rfl)
theorem dX3_init_10 : decode cX3_init 10 = .ok (.putfield 9, 3) := dk_181 0 9 (dk_at dksX3_init_0 10 rfl rfl)
theorem dX3_init_13 : decode cX3_init 13 = .ok (.aload_n 0, 1) := dk_42 (dk_at dksX3_init_0 13 rfl rfl)
theorem dX3_init_14 : decode cX3_init 14 = .ok (.iconst (-1), 1) := dk_2 (dk_at dksX3_init_0 14 rfl rfl)
theorem dX3_init_15 : decode cX3_init 15 = .ok (.putfield 15, 3) := dk_181 0 15 (dk_at dksX3_init_0 15 rfl rfl)
theorem dX3_init_18 : decode cX3_init 18 = .ok (.return_, 1) := dk_177 (dk_at dksX3_init_0 18 rfl rfl)
abbrev cX3_add : ByteArray := prog_10_method_2_code
def yX3_add : MethodName := ⟨RX3, "add", "([I)I"⟩
def dkwX3_add_3 : List UInt8 := [132, 6, 248, 167, 255, 223, 132, 4, 1, 167, 255, 201, 42, 180, 0, 19, 172]
abbrev dktX3_add_3 : List UInt8 := dkwX3_add_3 ++ []
def dkwX3_add_2 : List UInt8 := [180, 0, 9, 42, 180, 0, 19, 21, 5, 21, 6, 122, 145, 84, 42, 89, 180, 0, 19, 4, 96, 181, 0, 19]
abbrev dktX3_add_2 : List UInt8 := dkwX3_add_2 ++ dktX3_add_3
def dkwX3_add_1 : List UInt8 := [21, 4, 29, 162, 0, 55, 44, 21, 4, 46, 54, 5, 16, 24, 54, 6, 21, 6, 155, 0, 34, 42]
abbrev dktX3_add_1 : List UInt8 := dkwX3_add_1 ++ dktX3_add_2
def dkwX3_add_0 : List UInt8 := [42, 180, 0, 19, 16, 20, 96, 17, 1, 144, 164, 0, 5, 2, 172, 43, 77, 44, 190, 62, 3, 54, 4]
abbrev dktX3_add_0 : List UInt8 := dkwX3_add_0 ++ dktX3_add_1
theorem dksX3_add_0 : cX3_add.data.toList.drop 0 = dktX3_add_0 := by decide +kernel
theorem dksX3_add_1 : cX3_add.data.toList.drop 23 = dktX3_add_1 := dk_seg dksX3_add_0 23 rfl rfl
theorem dksX3_add_2 : cX3_add.data.toList.drop 45 = dktX3_add_2 := dk_seg dksX3_add_1 22 rfl rfl
theorem dksX3_add_3 : cX3_add.data.toList.drop 69 = dktX3_add_3 := dk_seg dksX3_add_2 24 rfl rfl
theorem dX3_add_0 : decode cX3_add 0 = .ok (.aload_n 0, 1) := dk_42 (dk_at dksX3_add_0 0 rfl rfl)
theorem dX3_add_1 : decode cX3_add 1 = .ok (.getfield 19, 3) := dk_180 0 19 (dk_at dksX3_add_0 1 rfl rfl)
theorem dX3_add_4 : decode cX3_add 4 = .ok (.bipush 20, 2) := dk_16 20 (dk_at dksX3_add_0 4 rfl rfl)
theorem dX3_add_6 : decode cX3_add 6 = .ok (.iadd, 1) := dk_96 (dk_at dksX3_add_0 6 rfl rfl)
theorem dX3_add_7 : decode cX3_add 7 = .ok (.sipush 400, 3) := dk_17 1 144 (dk_at dksX3_add_0 7 rfl rfl)
theorem dX3_add_10 : decode cX3_add 10 = .ok (.if_icmp .le 5, 3) := dk_164 0 5 (dk_at dksX3_add_0 10 rfl rfl)
theorem dX3_add_13 : decode cX3_add 13 = .ok (.iconst (-1), 1) := dk_2 (dk_at dksX3_add_0 13 rfl rfl)
theorem dX3_add_14 : decode cX3_add 14 = .ok (.ireturn, 1) := dk_172 (dk_at dksX3_add_0 14 rfl rfl)
theorem dX3_add_15 : decode cX3_add 15 = .ok (.aload_n 1, 1) := dk_43 (dk_at dksX3_add_0 15 rfl rfl)
theorem dX3_add_16 : decode cX3_add 16 = .ok (.astore_n 2, 1) := dk_77 (dk_at dksX3_add_0 16 rfl rfl)
theorem dX3_add_17 : decode cX3_add 17 = .ok (.aload_n 2, 1) := dk_44 (dk_at dksX3_add_0 17 rfl rfl)
theorem dX3_add_18 : decode cX3_add 18 = .ok (.arraylength, 1) := dk_190 (dk_at dksX3_add_0 18 rfl rfl)
theorem dX3_add_19 : decode cX3_add 19 = .ok (.istore_n 3, 1) := dk_62 (dk_at dksX3_add_0 19 rfl rfl)
theorem dX3_add_20 : decode cX3_add 20 = .ok (.iconst 0, 1) := dk_3 (dk_at dksX3_add_0 20 rfl rfl)
theorem dX3_add_21 : decode cX3_add 21 = .ok (.istore 4, 2) := dk_54 4 (dk_at dksX3_add_0 21 rfl rfl)
theorem dX3_add_23 : decode cX3_add 23 = .ok (.iload 4, 2) := dk_21 4 (dk_at dksX3_add_1 0 rfl rfl)
theorem dX3_add_25 : decode cX3_add 25 = .ok (.iload_n 3, 1) := dk_29 (dk_at dksX3_add_1 2 rfl rfl)
theorem dX3_add_26 : decode cX3_add 26 = .ok (.if_icmp .ge 55, 3) := dk_162 0 55 (dk_at dksX3_add_1 3 rfl rfl)
theorem dX3_add_29 : decode cX3_add 29 = .ok (.aload_n 2, 1) := dk_44 (dk_at dksX3_add_1 6 rfl rfl)
theorem dX3_add_30 : decode cX3_add 30 = .ok (.iload 4, 2) := dk_21 4 (dk_at dksX3_add_1 7 rfl rfl)
theorem dX3_add_32 : decode cX3_add 32 = .ok (.iaload, 1) := dk_46 (dk_at dksX3_add_1 9 rfl rfl)
theorem dX3_add_33 : decode cX3_add 33 = .ok (.istore 5, 2) := dk_54 5 (dk_at dksX3_add_1 10 rfl rfl)
theorem dX3_add_35 : decode cX3_add 35 = .ok (.bipush 24, 2) := dk_16 24 (dk_at dksX3_add_1 12 rfl rfl)
theorem dX3_add_37 : decode cX3_add 37 = .ok (.istore 6, 2) := dk_54 6 (dk_at dksX3_add_1 14 rfl rfl)
theorem dX3_add_39 : decode cX3_add 39 = .ok (.iload 6, 2) := dk_21 6 (dk_at dksX3_add_1 16 rfl rfl)
theorem dX3_add_41 : decode cX3_add 41 = .ok (.ifCond .lt 34, 3) := dk_155 0 34 (dk_at dksX3_add_1 18 rfl rfl)
theorem dX3_add_44 : decode cX3_add 44 = .ok (.aload_n 0, 1) := dk_42 (dk_at dksX3_add_1 21 rfl rfl)
theorem dX3_add_45 : decode cX3_add 45 = .ok (.getfield 9, 3) := dk_180 0 9 (dk_at dksX3_add_2 0 rfl rfl)
theorem dX3_add_48 : decode cX3_add 48 = .ok (.aload_n 0, 1) := dk_42 (dk_at dksX3_add_2 3 rfl rfl)
theorem dX3_add_49 : decode cX3_add 49 = .ok (.getfield 19, 3) := dk_180 0 19 (dk_at dksX3_add_2 4 rfl rfl)
theorem dX3_add_52 : decode cX3_add 52 = .ok (.iload 5, 2) := dk_21 5 (dk_at dksX3_add_2 7 rfl rfl)
theorem dX3_add_54 : decode cX3_add 54 = .ok (.iload 6, 2) := dk_21 6 (dk_at dksX3_add_2 9 rfl rfl)
theorem dX3_add_56 : decode cX3_add 56 = .ok (.ishr, 1) := dk_122 (dk_at dksX3_add_2 11 rfl rfl)
theorem dX3_add_57 : decode cX3_add 57 = .ok (.i2b, 1) := dk_145 (dk_at dksX3_add_2 12 rfl rfl)
theorem dX3_add_58 : decode cX3_add 58 = .ok (.bastore, 1) := dk_84 (dk_at dksX3_add_2 13 rfl rfl)
theorem dX3_add_59 : decode cX3_add 59 = .ok (.aload_n 0, 1) := dk_42 (dk_at dksX3_add_2 14 rfl rfl)
theorem dX3_add_60 : decode cX3_add 60 = .ok (.dup, 1) := dk_89 (dk_at dksX3_add_2 15 rfl rfl)
theorem dX3_add_61 : decode cX3_add 61 = .ok (.getfield 19, 3) := dk_180 0 19 (dk_at dksX3_add_2 16 rfl rfl)
theorem dX3_add_64 : decode cX3_add 64 = .ok (.iconst 1, 1) := dk_4 (dk_at dksX3_add_2 19 rfl rfl)
theorem dX3_add_65 : decode cX3_add 65 = .ok (.iadd, 1) := dk_96 (dk_at dksX3_add_2 20 rfl rfl)
theorem dX3_add_66 : decode cX3_add 66 = .ok (.putfield 19, 3) := dk_181 0 19 (dk_at dksX3_add_2 21 rfl rfl)
theorem dX3_add_69 : decode cX3_add 69 = .ok (.iinc 6 (-8), 3) := dk_132 6 248 (dk_at dksX3_add_3 0 rfl rfl)
theorem dX3_add_72 : decode cX3_add 72 = .ok (.goto (-33), 3) := dk_167 255 223 (dk_at dksX3_add_3 3 rfl rfl)
theorem dX3_add_75 : decode cX3_add 75 = .ok (.iinc 4 1, 3) := dk_132 4 1 (dk_at dksX3_add_3 6 rfl rfl)
theorem dX3_add_78 : decode cX3_add 78 = .ok (.goto (-55), 3) := dk_167 255 201 (dk_at dksX3_add_3 9 rfl rfl)
theorem dX3_add_81 : decode cX3_add 81 = .ok (.aload_n 0, 1) := dk_42 (dk_at dksX3_add_3 12 rfl rfl)
theorem dX3_add_82 : decode cX3_add 82 = .ok (.getfield 19, 3) := dk_180 0 19 (dk_at dksX3_add_3 13 rfl rfl)
theorem dX3_add_85 : decode cX3_add 85 = .ok (.ireturn, 1) := dk_172 (dk_at dksX3_add_3 16 rfl rfl)
abbrev cX3_cut : ByteArray := prog_10_method_3_code
def yX3_cut : MethodName := ⟨RX3, "cut", "(I)Z"⟩
def dkwX3_cut_0 : List UInt8 := [27, 155, 0, 11, 27, 42, 180, 0, 19, 164, 0, 5, 3, 172, 42, 27, 181, 0, 19, 4, 172]
abbrev dktX3_cut_0 : List UInt8 := dkwX3_cut_0 ++ []
theorem dksX3_cut_0 : cX3_cut.data.toList.drop 0 = dktX3_cut_0 := by decide +kernel
theorem dX3_cut_0 : decode cX3_cut 0 = .ok (.iload_n 1, 1) := dk_27 (dk_at dksX3_cut_0 0 rfl rfl)
theorem dX3_cut_1 : decode cX3_cut 1 = .ok (.ifCond .lt 11, 3) := dk_155 0 11 (dk_at dksX3_cut_0 1 rfl rfl)
theorem dX3_cut_4 : decode cX3_cut 4 = .ok (.iload_n 1, 1) := dk_27 (dk_at dksX3_cut_0 4 rfl rfl)
theorem dX3_cut_5 : decode cX3_cut 5 = .ok (.aload_n 0, 1) := dk_42 (dk_at dksX3_cut_0 5 rfl rfl)
theorem dX3_cut_6 : decode cX3_cut 6 = .ok (.getfield 19, 3) := dk_180 0 19 (dk_at dksX3_cut_0 6 rfl rfl)
theorem dX3_cut_9 : decode cX3_cut 9 = .ok (.if_icmp .le 5, 3) := dk_164 0 5 (dk_at dksX3_cut_0 9 rfl rfl)
theorem dX3_cut_12 : decode cX3_cut 12 = .ok (.iconst 0, 1) := dk_3 (dk_at dksX3_cut_0 12 rfl rfl)
theorem dX3_cut_13 : decode cX3_cut 13 = .ok (.ireturn, 1) := dk_172 (dk_at dksX3_cut_0 13 rfl rfl)
theorem dX3_cut_14 : decode cX3_cut 14 = .ok (.aload_n 0, 1) := dk_42 (dk_at dksX3_cut_0 14 rfl rfl)
theorem dX3_cut_15 : decode cX3_cut 15 = .ok (.iload_n 1, 1) := dk_27 (dk_at dksX3_cut_0 15 rfl rfl)
theorem dX3_cut_16 : decode cX3_cut 16 = .ok (.putfield 19, 3) := dk_181 0 19 (dk_at dksX3_cut_0 16 rfl rfl)
theorem dX3_cut_19 : decode cX3_cut 19 = .ok (.iconst 1, 1) := dk_4 (dk_at dksX3_cut_0 19 rfl rfl)
theorem dX3_cut_20 : decode cX3_cut 20 = .ok (.ireturn, 1) := dk_172 (dk_at dksX3_cut_0 20 rfl rfl)
abbrev cX3_begins : ByteArray := prog_10_method_4_code
def yX3_begins : MethodName := ⟨RX3, "begins", "()V"⟩
def dkwX3_begins_0 : List UInt8 := [42, 42, 180, 0, 19, 181, 0, 22, 42, 3, 181, 0, 19, 42, 3, 181, 0, 25, 42, 3, 181, 0, 28, 177]
abbrev dktX3_begins_0 : List UInt8 := dkwX3_begins_0 ++ []
theorem dksX3_begins_0 : cX3_begins.data.toList.drop 0 = dktX3_begins_0 := by decide +kernel
theorem dX3_begins_0 : decode cX3_begins 0 = .ok (.aload_n 0, 1) := dk_42 (dk_at dksX3_begins_0 0 rfl rfl)
theorem dX3_begins_1 : decode cX3_begins 1 = .ok (.aload_n 0, 1) := dk_42 (dk_at dksX3_begins_0 1 rfl rfl)
theorem dX3_begins_2 : decode cX3_begins 2 = .ok (.getfield 19, 3) := dk_180 0 19 (dk_at dksX3_begins_0 2 rfl rfl)
theorem dX3_begins_5 : decode cX3_begins 5 = .ok (.putfield 22, 3) := dk_181 0 22 (dk_at dksX3_begins_0 5 rfl rfl)
theorem dX3_begins_8 : decode cX3_begins 8 = .ok (.aload_n 0, 1) := dk_42 (dk_at dksX3_begins_0 8 rfl rfl)
theorem dX3_begins_9 : decode cX3_begins 9 = .ok (.iconst 0, 1) := dk_3 (dk_at dksX3_begins_0 9 rfl rfl)
theorem dX3_begins_10 : decode cX3_begins 10 = .ok (.putfield 19, 3) := dk_181 0 19 (dk_at dksX3_begins_0 10 rfl rfl)
theorem dX3_begins_13 : decode cX3_begins 13 = .ok (.aload_n 0, 1) := dk_42 (dk_at dksX3_begins_0 13 rfl rfl)
theorem dX3_begins_14 : decode cX3_begins 14 = .ok (.iconst 0, 1) := dk_3 (dk_at dksX3_begins_0 14 rfl rfl)
theorem dX3_begins_15 : decode cX3_begins 15 = .ok (.putfield 25, 3) := dk_181 0 25 (dk_at dksX3_begins_0 15 rfl rfl)
theorem dX3_begins_18 : decode cX3_begins 18 = .ok (.aload_n 0, 1) := dk_42 (dk_at dksX3_begins_0 18 rfl rfl)
theorem dX3_begins_19 : decode cX3_begins 19 = .ok (.iconst 0, 1) := dk_3 (dk_at dksX3_begins_0 19 rfl rfl)
theorem dX3_begins_20 : decode cX3_begins 20 = .ok (.putfield 28, 3) := dk_181 0 28 (dk_at dksX3_begins_0 20 rfl rfl)
theorem dX3_begins_23 : decode cX3_begins 23 = .ok (.return_, 1) := dk_177 (dk_at dksX3_begins_0 23 rfl rfl)
abbrev cX3_isOver : ByteArray := prog_10_method_7_code
def yX3_isOver : MethodName := ⟨RX3, "isOver", "()Z"⟩
def dkwX3_isOver_0 : List UInt8 := [42, 182, 0, 38, 42, 180, 0, 25, 42, 180, 0, 22, 160, 0, 7, 4, 167, 0, 4, 3, 172]
abbrev dktX3_isOver_0 : List UInt8 := dkwX3_isOver_0 ++ []
theorem dksX3_isOver_0 : cX3_isOver.data.toList.drop 0 = dktX3_isOver_0 := by decide +kernel
theorem dX3_isOver_0 : decode cX3_isOver 0 = .ok (.aload_n 0, 1) := dk_42 (dk_at dksX3_isOver_0 0 rfl rfl)
theorem dX3_isOver_1 : decode cX3_isOver 1 = .ok (.invokevirtual 38, 3) := dk_182 0 38 (dk_at dksX3_isOver_0 1 rfl rfl)
theorem dX3_isOver_4 : decode cX3_isOver 4 = .ok (.aload_n 0, 1) := dk_42 (dk_at dksX3_isOver_0 4 rfl rfl)
theorem dX3_isOver_5 : decode cX3_isOver 5 = .ok (.getfield 25, 3) := dk_180 0 25 (dk_at dksX3_isOver_0 5 rfl rfl)
theorem dX3_isOver_8 : decode cX3_isOver 8 = .ok (.aload_n 0, 1) := dk_42 (dk_at dksX3_isOver_0 8 rfl rfl)
theorem dX3_isOver_9 : decode cX3_isOver 9 = .ok (.getfield 22, 3) := dk_180 0 22 (dk_at dksX3_isOver_0 9 rfl rfl)
theorem dX3_isOver_12 : decode cX3_isOver 12 = .ok (.if_icmp .ne 7, 3) := dk_160 0 7 (dk_at dksX3_isOver_0 12 rfl rfl)
theorem dX3_isOver_15 : decode cX3_isOver 15 = .ok (.iconst 1, 1) := dk_4 (dk_at dksX3_isOver_0 15 rfl rfl)
theorem dX3_isOver_16 : decode cX3_isOver 16 = .ok (.goto 4, 3) := dk_167 0 4 (dk_at dksX3_isOver_0 16 rfl rfl)
theorem dX3_isOver_19 : decode cX3_isOver 19 = .ok (.iconst 0, 1) := dk_3 (dk_at dksX3_isOver_0 19 rfl rfl)
theorem dX3_isOver_20 : decode cX3_isOver 20 = .ok (.ireturn, 1) := dk_172 (dk_at dksX3_isOver_0 20 rfl rfl)
abbrev cX3_blanks : ByteArray := prog_10_method_6_code
def yX3_blanks : MethodName := ⟨RX3, "blanks", "()V"⟩
def dkwX3_blanks_1 : List UInt8 := [167, 255, 233, 42, 42, 180, 0, 25, 181, 0, 35, 177]
abbrev dktX3_blanks_1 : List UInt8 := dkwX3_blanks_1 ++ []
def dkwX3_blanks_0 : List UInt8 := [42, 42, 180, 0, 25, 182, 0, 31, 16, 32, 160, 0, 16, 42, 89, 180, 0, 25, 4, 96, 181, 0, 25]
abbrev dktX3_blanks_0 : List UInt8 := dkwX3_blanks_0 ++ dktX3_blanks_1
theorem dksX3_blanks_0 : cX3_blanks.data.toList.drop 0 = dktX3_blanks_0 := by decide +kernel
theorem dksX3_blanks_1 : cX3_blanks.data.toList.drop 23 = dktX3_blanks_1 := dk_seg dksX3_blanks_0 23 rfl rfl
theorem dX3_blanks_0 : decode cX3_blanks 0 = .ok (.aload_n 0, 1) := dk_42 (dk_at dksX3_blanks_0 0 rfl rfl)
theorem dX3_blanks_1 : decode cX3_blanks 1 = .ok (.aload_n 0, 1) := dk_42 (dk_at dksX3_blanks_0 1 rfl rfl)
theorem dX3_blanks_2 : decode cX3_blanks 2 = .ok (.getfield 25, 3) := dk_180 0 25 (dk_at dksX3_blanks_0 2 rfl rfl)
theorem dX3_blanks_5 : decode cX3_blanks 5 = .ok (.invokevirtual 31, 3) := dk_182 0 31 (dk_at dksX3_blanks_0 5 rfl rfl)
theorem dX3_blanks_8 : decode cX3_blanks 8 = .ok (.bipush 32, 2) := dk_16 32 (dk_at dksX3_blanks_0 8 rfl rfl)
theorem dX3_blanks_10 : decode cX3_blanks 10 = .ok (.if_icmp .ne 16, 3) := dk_160 0 16 (dk_at dksX3_blanks_0 10 rfl rfl)
theorem dX3_blanks_13 : decode cX3_blanks 13 = .ok (.aload_n 0, 1) := dk_42 (dk_at dksX3_blanks_0 13 rfl rfl)
theorem dX3_blanks_14 : decode cX3_blanks 14 = .ok (.dup, 1) := dk_89 (dk_at dksX3_blanks_0 14 rfl rfl)
theorem dX3_blanks_15 : decode cX3_blanks 15 = .ok (.getfield 25, 3) := dk_180 0 25 (dk_at dksX3_blanks_0 15 rfl rfl)
theorem dX3_blanks_18 : decode cX3_blanks 18 = .ok (.iconst 1, 1) := dk_4 (dk_at dksX3_blanks_0 18 rfl rfl)
theorem dX3_blanks_19 : decode cX3_blanks 19 = .ok (.iadd, 1) := dk_96 (dk_at dksX3_blanks_0 19 rfl rfl)
theorem dX3_blanks_20 : decode cX3_blanks 20 = .ok (.putfield 25, 3) := dk_181 0 25 (dk_at dksX3_blanks_0 20 rfl rfl)
theorem dX3_blanks_23 : decode cX3_blanks 23 = .ok (.goto (-23), 3) := dk_167 255 233 (dk_at dksX3_blanks_1 0 rfl rfl)
theorem dX3_blanks_26 : decode cX3_blanks 26 = .ok (.aload_n 0, 1) := dk_42 (dk_at dksX3_blanks_1 3 rfl rfl)
theorem dX3_blanks_27 : decode cX3_blanks 27 = .ok (.aload_n 0, 1) := dk_42 (dk_at dksX3_blanks_1 4 rfl rfl)
theorem dX3_blanks_28 : decode cX3_blanks 28 = .ok (.getfield 25, 3) := dk_180 0 25 (dk_at dksX3_blanks_1 5 rfl rfl)
theorem dX3_blanks_31 : decode cX3_blanks 31 = .ok (.putfield 35, 3) := dk_181 0 35 (dk_at dksX3_blanks_1 8 rfl rfl)
theorem dX3_blanks_34 : decode cX3_blanks 34 = .ok (.return_, 1) := dk_177 (dk_at dksX3_blanks_1 11 rfl rfl)
abbrev cX3_byteAt : ByteArray := prog_10_method_5_code
def yX3_byteAt : MethodName := ⟨RX3, "byteAt", "(I)I"⟩
def dkwX3_byteAt_0 : List UInt8 := [27, 42, 180, 0, 22, 162, 0, 12, 42, 180, 0, 9, 27, 51, 167, 0, 4, 2, 172]
abbrev dktX3_byteAt_0 : List UInt8 := dkwX3_byteAt_0 ++ []
theorem dksX3_byteAt_0 : cX3_byteAt.data.toList.drop 0 = dktX3_byteAt_0 := by decide +kernel
theorem dX3_byteAt_0 : decode cX3_byteAt 0 = .ok (.iload_n 1, 1) := dk_27 (dk_at dksX3_byteAt_0 0 rfl rfl)
theorem dX3_byteAt_1 : decode cX3_byteAt 1 = .ok (.aload_n 0, 1) := dk_42 (dk_at dksX3_byteAt_0 1 rfl rfl)
theorem dX3_byteAt_2 : decode cX3_byteAt 2 = .ok (.getfield 22, 3) := dk_180 0 22 (dk_at dksX3_byteAt_0 2 rfl rfl)
theorem dX3_byteAt_5 : decode cX3_byteAt 5 = .ok (.if_icmp .ge 12, 3) := dk_162 0 12 (dk_at dksX3_byteAt_0 5 rfl rfl)
theorem dX3_byteAt_8 : decode cX3_byteAt 8 = .ok (.aload_n 0, 1) := dk_42 (dk_at dksX3_byteAt_0 8 rfl rfl)
theorem dX3_byteAt_9 : decode cX3_byteAt 9 = .ok (.getfield 9, 3) := dk_180 0 9 (dk_at dksX3_byteAt_0 9 rfl rfl)
theorem dX3_byteAt_12 : decode cX3_byteAt 12 = .ok (.iload_n 1, 1) := dk_27 (dk_at dksX3_byteAt_0 12 rfl rfl)
theorem dX3_byteAt_13 : decode cX3_byteAt 13 = .ok (.baload, 1) := dk_51 (dk_at dksX3_byteAt_0 13 rfl rfl)
theorem dX3_byteAt_14 : decode cX3_byteAt 14 = .ok (.goto 4, 3) := dk_167 0 4 (dk_at dksX3_byteAt_0 14 rfl rfl)
theorem dX3_byteAt_17 : decode cX3_byteAt 17 = .ok (.iconst (-1), 1) := dk_2 (dk_at dksX3_byteAt_0 17 rfl rfl)
theorem dX3_byteAt_18 : decode cX3_byteAt 18 = .ok (.ireturn, 1) := dk_172 (dk_at dksX3_byteAt_0 18 rfl rfl)
abbrev cX3_word : ByteArray := prog_10_method_8_code
def yX3_word : MethodName := ⟨RX3, "word", "()Ljava/lang/String;"⟩
def dkwX3_word_3 : List UInt8 := [167, 255, 233, 43, 182, 0, 52, 176]
abbrev dktX3_word_3 : List UInt8 := dkwX3_word_3 ++ []
def dkwX3_word_2 : List UInt8 := [28, 42, 180, 0, 25, 162, 0, 21, 43, 42, 180, 0, 9, 28, 51, 146, 182, 0, 48, 87, 132, 2, 1]
abbrev dktX3_word_2 : List UInt8 := dkwX3_word_2 ++ dktX3_word_3
def dkwX3_word_1 : List UInt8 := [180, 0, 25, 4, 96, 181, 0, 25, 167, 255, 228, 187, 0, 45, 89, 183, 0, 47, 76, 42, 180, 0, 35, 61]
abbrev dktX3_word_1 : List UInt8 := dkwX3_word_1 ++ dktX3_word_2
def dkwX3_word_0 : List UInt8 := [42, 182, 0, 38, 42, 42, 180, 0, 25, 182, 0, 31, 16, 97, 16, 122, 184, 0, 41, 153, 0, 16, 42, 89]
abbrev dktX3_word_0 : List UInt8 := dkwX3_word_0 ++ dktX3_word_1
theorem dksX3_word_0 : cX3_word.data.toList.drop 0 = dktX3_word_0 := by decide +kernel
theorem dksX3_word_1 : cX3_word.data.toList.drop 24 = dktX3_word_1 := dk_seg dksX3_word_0 24 rfl rfl
theorem dksX3_word_2 : cX3_word.data.toList.drop 48 = dktX3_word_2 := dk_seg dksX3_word_1 24 rfl rfl
theorem dksX3_word_3 : cX3_word.data.toList.drop 71 = dktX3_word_3 := dk_seg dksX3_word_2 23 rfl rfl
theorem dX3_word_0 : decode cX3_word 0 = .ok (.aload_n 0, 1) := dk_42 (dk_at dksX3_word_0 0 rfl rfl)
theorem dX3_word_1 : decode cX3_word 1 = .ok (.invokevirtual 38, 3) := dk_182 0 38 (dk_at dksX3_word_0 1 rfl rfl)
theorem dX3_word_4 : decode cX3_word 4 = .ok (.aload_n 0, 1) := dk_42 (dk_at dksX3_word_0 4 rfl rfl)
theorem dX3_word_5 : decode cX3_word 5 = .ok (.aload_n 0, 1) := dk_42 (dk_at dksX3_word_0 5 rfl rfl)
theorem dX3_word_6 : decode cX3_word 6 = .ok (.getfield 25, 3) := dk_180 0 25 (dk_at dksX3_word_0 6 rfl rfl)
theorem dX3_word_9 : decode cX3_word 9 = .ok (.invokevirtual 31, 3) := dk_182 0 31 (dk_at dksX3_word_0 9 rfl rfl)
theorem dX3_word_12 : decode cX3_word 12 = .ok (.bipush 97, 2) := dk_16 97 (dk_at dksX3_word_0 12 rfl rfl)
theorem dX3_word_14 : decode cX3_word 14 = .ok (.bipush 122, 2) := dk_16 122 (dk_at dksX3_word_0 14 rfl rfl)
theorem dX3_word_16 : decode cX3_word 16 = .ok (.invokestatic 41, 3) := dk_184 0 41 (dk_at dksX3_word_0 16 rfl rfl)
theorem dX3_word_19 : decode cX3_word 19 = .ok (.ifCond .eq 16, 3) := dk_153 0 16 (dk_at dksX3_word_0 19 rfl rfl)
theorem dX3_word_22 : decode cX3_word 22 = .ok (.aload_n 0, 1) := dk_42 (dk_at dksX3_word_0 22 rfl rfl)
theorem dX3_word_23 : decode cX3_word 23 = .ok (.dup, 1) := dk_89 (dk_at dksX3_word_0 23 rfl rfl)
theorem dX3_word_24 : decode cX3_word 24 = .ok (.getfield 25, 3) := dk_180 0 25 (dk_at dksX3_word_1 0 rfl rfl)
theorem dX3_word_27 : decode cX3_word 27 = .ok (.iconst 1, 1) := dk_4 (dk_at dksX3_word_1 3 rfl rfl)
theorem dX3_word_28 : decode cX3_word 28 = .ok (.iadd, 1) := dk_96 (dk_at dksX3_word_1 4 rfl rfl)
theorem dX3_word_29 : decode cX3_word 29 = .ok (.putfield 25, 3) := dk_181 0 25 (dk_at dksX3_word_1 5 rfl rfl)
theorem dX3_word_32 : decode cX3_word 32 = .ok (.goto (-28), 3) := dk_167 255 228 (dk_at dksX3_word_1 8 rfl rfl)
theorem dX3_word_35 : decode cX3_word 35 = .ok (.new 45, 3) := dk_187 0 45 (dk_at dksX3_word_1 11 rfl rfl)
theorem dX3_word_38 : decode cX3_word 38 = .ok (.dup, 1) := dk_89 (dk_at dksX3_word_1 14 rfl rfl)
theorem dX3_word_39 : decode cX3_word 39 = .ok (.invokespecial 47, 3) := dk_183 0 47 (dk_at dksX3_word_1 15 rfl rfl)
theorem dX3_word_42 : decode cX3_word 42 = .ok (.astore_n 1, 1) := dk_76 (dk_at dksX3_word_1 18 rfl rfl)
theorem dX3_word_43 : decode cX3_word 43 = .ok (.aload_n 0, 1) := dk_42 (dk_at dksX3_word_1 19 rfl rfl)
theorem dX3_word_44 : decode cX3_word 44 = .ok (.getfield 35, 3) := dk_180 0 35 (dk_at dksX3_word_1 20 rfl rfl)
theorem dX3_word_47 : decode cX3_word 47 = .ok (.istore_n 2, 1) := dk_61 (dk_at dksX3_word_1 23 rfl rfl)
theorem dX3_word_48 : decode cX3_word 48 = .ok (.iload_n 2, 1) := dk_28 (dk_at dksX3_word_2 0 rfl rfl)
theorem dX3_word_49 : decode cX3_word 49 = .ok (.aload_n 0, 1) := dk_42 (dk_at dksX3_word_2 1 rfl rfl)
theorem dX3_word_50 : decode cX3_word 50 = .ok (.getfield 25, 3) := dk_180 0 25 (dk_at dksX3_word_2 2 rfl rfl)
theorem dX3_word_53 : decode cX3_word 53 = .ok (.if_icmp .ge 21, 3) := dk_162 0 21 (dk_at dksX3_word_2 5 rfl rfl)
theorem dX3_word_56 : decode cX3_word 56 = .ok (.aload_n 1, 1) := dk_43 (dk_at dksX3_word_2 8 rfl rfl)
theorem dX3_word_57 : decode cX3_word 57 = .ok (.aload_n 0, 1) := dk_42 (dk_at dksX3_word_2 9 rfl rfl)
theorem dX3_word_58 : decode cX3_word 58 = .ok (.getfield 9, 3) := dk_180 0 9 (dk_at dksX3_word_2 10 rfl rfl)
theorem dX3_word_61 : decode cX3_word 61 = .ok (.iload_n 2, 1) := dk_28 (dk_at dksX3_word_2 13 rfl rfl)
theorem dX3_word_62 : decode cX3_word 62 = .ok (.baload, 1) := dk_51 (dk_at dksX3_word_2 14 rfl rfl)
theorem dX3_word_63 : decode cX3_word 63 = .ok (.i2c, 1) := dk_146 (dk_at dksX3_word_2 15 rfl rfl)
theorem dX3_word_64 : decode cX3_word 64 = .ok (.invokevirtual 48, 3) := dk_182 0 48 (dk_at dksX3_word_2 16 rfl rfl)
theorem dX3_word_67 : decode cX3_word 67 = .ok (.pop, 1) := dk_87 (dk_at dksX3_word_2 19 rfl rfl)
theorem dX3_word_68 : decode cX3_word 68 = .ok (.iinc 2 1, 3) := dk_132 2 1 (dk_at dksX3_word_2 20 rfl rfl)
theorem dX3_word_71 : decode cX3_word 71 = .ok (.goto (-23), 3) := dk_167 255 233 (dk_at dksX3_word_3 0 rfl rfl)
theorem dX3_word_74 : decode cX3_word 74 = .ok (.aload_n 1, 1) := dk_43 (dk_at dksX3_word_3 3 rfl rfl)
theorem dX3_word_75 : decode cX3_word 75 = .ok (.invokevirtual 52, 3) := dk_182 0 52 (dk_at dksX3_word_3 4 rfl rfl)
theorem dX3_word_78 : decode cX3_word 78 = .ok (.areturn, 1) := dk_176 (dk_at dksX3_word_3 7 rfl rfl)
abbrev cX3_wrong : ByteArray := prog_10_method_14_code
def yX3_wrong : MethodName := ⟨RX3, "wrong", "()LSaturdayKeep$Wrong;"⟩
def dkwX3_wrong_0 : List UInt8 := [187, 0, 73, 89, 183, 0, 75, 176]
abbrev dktX3_wrong_0 : List UInt8 := dkwX3_wrong_0 ++ []
theorem dksX3_wrong_0 : cX3_wrong.data.toList.drop 0 = dktX3_wrong_0 := by decide +kernel
theorem dX3_wrong_0 : decode cX3_wrong 0 = .ok (.new 73, 3) := dk_187 0 73 (dk_at dksX3_wrong_0 0 rfl rfl)
theorem dX3_wrong_3 : decode cX3_wrong 3 = .ok (.dup, 1) := dk_89 (dk_at dksX3_wrong_0 3 rfl rfl)
theorem dX3_wrong_4 : decode cX3_wrong 4 = .ok (.invokespecial 75, 3) := dk_183 0 75 (dk_at dksX3_wrong_0 4 rfl rfl)
theorem dX3_wrong_7 : decode cX3_wrong 7 = .ok (.areturn, 1) := dk_176 (dk_at dksX3_wrong_0 7 rfl rfl)
abbrev cX3_number : ByteArray := prog_10_method_12_code
def yX3_number : MethodName := ⟨RX3, "number", "(II)I"⟩
def dkwX3_number_0 : List UInt8 := [42, 27, 28, 6, 182, 0, 65, 172]
abbrev dktX3_number_0 : List UInt8 := dkwX3_number_0 ++ []
theorem dksX3_number_0 : cX3_number.data.toList.drop 0 = dktX3_number_0 := by decide +kernel
theorem dX3_number_0 : decode cX3_number 0 = .ok (.aload_n 0, 1) := dk_42 (dk_at dksX3_number_0 0 rfl rfl)
theorem dX3_number_1 : decode cX3_number 1 = .ok (.iload_n 1, 1) := dk_27 (dk_at dksX3_number_0 1 rfl rfl)
theorem dX3_number_2 : decode cX3_number 2 = .ok (.iload_n 2, 1) := dk_28 (dk_at dksX3_number_0 2 rfl rfl)
theorem dX3_number_3 : decode cX3_number 3 = .ok (.iconst 3, 1) := dk_6 (dk_at dksX3_number_0 3 rfl rfl)
theorem dX3_number_4 : decode cX3_number 4 = .ok (.invokevirtual 65, 3) := dk_182 0 65 (dk_at dksX3_number_0 4 rfl rfl)
theorem dX3_number_7 : decode cX3_number 7 = .ok (.ireturn, 1) := dk_172 (dk_at dksX3_number_0 7 rfl rfl)
abbrev cX3_figures : ByteArray := prog_10_method_13_code
def yX3_figures : MethodName := ⟨RX3, "figures", "(III)I"⟩
def dkwX3_figures_5 : List UInt8 := [21, 4, 172]
abbrev dktX3_figures_5 : List UInt8 := dkwX3_figures_5 ++ []
def dkwX3_figures_4 : List UInt8 := [180, 0, 35, 100, 29, 163, 0, 13, 21, 4, 27, 28, 184, 0, 41, 154, 0, 8, 42, 182, 0, 69, 191]
abbrev dktX3_figures_4 : List UInt8 := dkwX3_figures_4 ++ dktX3_figures_5
def dkwX3_figures_3 : List UInt8 := [181, 0, 25, 167, 255, 191, 42, 180, 0, 25, 42, 180, 0, 35, 159, 0, 26, 42, 180, 0, 25, 42]
abbrev dktX3_figures_3 : List UInt8 := dkwX3_figures_3 ++ dktX3_figures_4
def dkwX3_figures_2 : List UInt8 := [180, 0, 25, 182, 0, 31, 96, 16, 48, 100, 167, 0, 5, 21, 4, 54, 4, 42, 89, 180, 0, 25, 4, 96]
abbrev dktX3_figures_2 : List UInt8 := dkwX3_figures_2 ++ dktX3_figures_3
def dkwX3_figures_1 : List UInt8 := [153, 0, 53, 42, 180, 0, 25, 42, 180, 0, 35, 100, 29, 162, 0, 23, 16, 10, 21, 4, 104, 42, 42]
abbrev dktX3_figures_1 : List UInt8 := dkwX3_figures_1 ++ dktX3_figures_2
def dkwX3_figures_0 : List UInt8 := [42, 182, 0, 38, 3, 54, 4, 42, 42, 180, 0, 25, 182, 0, 31, 16, 48, 16, 57, 184, 0, 41]
abbrev dktX3_figures_0 : List UInt8 := dkwX3_figures_0 ++ dktX3_figures_1
theorem dksX3_figures_0 : cX3_figures.data.toList.drop 0 = dktX3_figures_0 := by decide +kernel
theorem dksX3_figures_1 : cX3_figures.data.toList.drop 22 = dktX3_figures_1 := dk_seg dksX3_figures_0 22 rfl rfl
theorem dksX3_figures_2 : cX3_figures.data.toList.drop 45 = dktX3_figures_2 := dk_seg dksX3_figures_1 23 rfl rfl
theorem dksX3_figures_3 : cX3_figures.data.toList.drop 69 = dktX3_figures_3 := dk_seg dksX3_figures_2 24 rfl rfl
theorem dksX3_figures_4 : cX3_figures.data.toList.drop 91 = dktX3_figures_4 := dk_seg dksX3_figures_3 22 rfl rfl
theorem dksX3_figures_5 : cX3_figures.data.toList.drop 114 = dktX3_figures_5 := dk_seg dksX3_figures_4 23 rfl rfl
theorem dX3_figures_0 : decode cX3_figures 0 = .ok (.aload_n 0, 1) := dk_42 (dk_at dksX3_figures_0 0 rfl rfl)
theorem dX3_figures_1 : decode cX3_figures 1 = .ok (.invokevirtual 38, 3) := dk_182 0 38 (dk_at dksX3_figures_0 1 rfl rfl)
theorem dX3_figures_4 : decode cX3_figures 4 = .ok (.iconst 0, 1) := dk_3 (dk_at dksX3_figures_0 4 rfl rfl)
theorem dX3_figures_5 : decode cX3_figures 5 = .ok (.istore 4, 2) := dk_54 4 (dk_at dksX3_figures_0 5 rfl rfl)
theorem dX3_figures_7 : decode cX3_figures 7 = .ok (.aload_n 0, 1) := dk_42 (dk_at dksX3_figures_0 7 rfl rfl)
theorem dX3_figures_8 : decode cX3_figures 8 = .ok (.aload_n 0, 1) := dk_42 (dk_at dksX3_figures_0 8 rfl rfl)
theorem dX3_figures_9 : decode cX3_figures 9 = .ok (.getfield 25, 3) := dk_180 0 25 (dk_at dksX3_figures_0 9 rfl rfl)
theorem dX3_figures_12 : decode cX3_figures 12 = .ok (.invokevirtual 31, 3) := dk_182 0 31 (dk_at dksX3_figures_0 12 rfl rfl)
theorem dX3_figures_15 : decode cX3_figures 15 = .ok (.bipush 48, 2) := dk_16 48 (dk_at dksX3_figures_0 15 rfl rfl)
theorem dX3_figures_17 : decode cX3_figures 17 = .ok (.bipush 57, 2) := dk_16 57 (dk_at dksX3_figures_0 17 rfl rfl)
theorem dX3_figures_19 : decode cX3_figures 19 = .ok (.invokestatic 41, 3) := dk_184 0 41 (dk_at dksX3_figures_0 19 rfl rfl)
theorem dX3_figures_22 : decode cX3_figures 22 = .ok (.ifCond .eq 53, 3) := dk_153 0 53 (dk_at dksX3_figures_1 0 rfl rfl)
theorem dX3_figures_25 : decode cX3_figures 25 = .ok (.aload_n 0, 1) := dk_42 (dk_at dksX3_figures_1 3 rfl rfl)
theorem dX3_figures_26 : decode cX3_figures 26 = .ok (.getfield 25, 3) := dk_180 0 25 (dk_at dksX3_figures_1 4 rfl rfl)
theorem dX3_figures_29 : decode cX3_figures 29 = .ok (.aload_n 0, 1) := dk_42 (dk_at dksX3_figures_1 7 rfl rfl)
theorem dX3_figures_30 : decode cX3_figures 30 = .ok (.getfield 35, 3) := dk_180 0 35 (dk_at dksX3_figures_1 8 rfl rfl)
theorem dX3_figures_33 : decode cX3_figures 33 = .ok (.isub, 1) := dk_100 (dk_at dksX3_figures_1 11 rfl rfl)
theorem dX3_figures_34 : decode cX3_figures 34 = .ok (.iload_n 3, 1) := dk_29 (dk_at dksX3_figures_1 12 rfl rfl)
theorem dX3_figures_35 : decode cX3_figures 35 = .ok (.if_icmp .ge 23, 3) := dk_162 0 23 (dk_at dksX3_figures_1 13 rfl rfl)
theorem dX3_figures_38 : decode cX3_figures 38 = .ok (.bipush 10, 2) := dk_16 10 (dk_at dksX3_figures_1 16 rfl rfl)
theorem dX3_figures_40 : decode cX3_figures 40 = .ok (.iload 4, 2) := dk_21 4 (dk_at dksX3_figures_1 18 rfl rfl)
theorem dX3_figures_42 : decode cX3_figures 42 = .ok (.imul, 1) := dk_104 (dk_at dksX3_figures_1 20 rfl rfl)
theorem dX3_figures_43 : decode cX3_figures 43 = .ok (.aload_n 0, 1) := dk_42 (dk_at dksX3_figures_1 21 rfl rfl)
theorem dX3_figures_44 : decode cX3_figures 44 = .ok (.aload_n 0, 1) := dk_42 (dk_at dksX3_figures_1 22 rfl rfl)
theorem dX3_figures_45 : decode cX3_figures 45 = .ok (.getfield 25, 3) := dk_180 0 25 (dk_at dksX3_figures_2 0 rfl rfl)
theorem dX3_figures_48 : decode cX3_figures 48 = .ok (.invokevirtual 31, 3) := dk_182 0 31 (dk_at dksX3_figures_2 3 rfl rfl)
theorem dX3_figures_51 : decode cX3_figures 51 = .ok (.iadd, 1) := dk_96 (dk_at dksX3_figures_2 6 rfl rfl)
theorem dX3_figures_52 : decode cX3_figures 52 = .ok (.bipush 48, 2) := dk_16 48 (dk_at dksX3_figures_2 7 rfl rfl)
theorem dX3_figures_54 : decode cX3_figures 54 = .ok (.isub, 1) := dk_100 (dk_at dksX3_figures_2 9 rfl rfl)
theorem dX3_figures_55 : decode cX3_figures 55 = .ok (.goto 5, 3) := dk_167 0 5 (dk_at dksX3_figures_2 10 rfl rfl)
theorem dX3_figures_58 : decode cX3_figures 58 = .ok (.iload 4, 2) := dk_21 4 (dk_at dksX3_figures_2 13 rfl rfl)
theorem dX3_figures_60 : decode cX3_figures 60 = .ok (.istore 4, 2) := dk_54 4 (dk_at dksX3_figures_2 15 rfl rfl)
theorem dX3_figures_62 : decode cX3_figures 62 = .ok (.aload_n 0, 1) := dk_42 (dk_at dksX3_figures_2 17 rfl rfl)
theorem dX3_figures_63 : decode cX3_figures 63 = .ok (.dup, 1) := dk_89 (dk_at dksX3_figures_2 18 rfl rfl)
theorem dX3_figures_64 : decode cX3_figures 64 = .ok (.getfield 25, 3) := dk_180 0 25 (dk_at dksX3_figures_2 19 rfl rfl)
theorem dX3_figures_67 : decode cX3_figures 67 = .ok (.iconst 1, 1) := dk_4 (dk_at dksX3_figures_2 22 rfl rfl)
theorem dX3_figures_68 : decode cX3_figures 68 = .ok (.iadd, 1) := dk_96 (dk_at dksX3_figures_2 23 rfl rfl)
theorem dX3_figures_69 : decode cX3_figures 69 = .ok (.putfield 25, 3) := dk_181 0 25 (dk_at dksX3_figures_3 0 rfl rfl)
theorem dX3_figures_72 : decode cX3_figures 72 = .ok (.goto (-65), 3) := dk_167 255 191 (dk_at dksX3_figures_3 3 rfl rfl)
theorem dX3_figures_75 : decode cX3_figures 75 = .ok (.aload_n 0, 1) := dk_42 (dk_at dksX3_figures_3 6 rfl rfl)
theorem dX3_figures_76 : decode cX3_figures 76 = .ok (.getfield 25, 3) := dk_180 0 25 (dk_at dksX3_figures_3 7 rfl rfl)
theorem dX3_figures_79 : decode cX3_figures 79 = .ok (.aload_n 0, 1) := dk_42 (dk_at dksX3_figures_3 10 rfl rfl)
theorem dX3_figures_80 : decode cX3_figures 80 = .ok (.getfield 35, 3) := dk_180 0 35 (dk_at dksX3_figures_3 11 rfl rfl)
theorem dX3_figures_83 : decode cX3_figures 83 = .ok (.if_icmp .eq 26, 3) := dk_159 0 26 (dk_at dksX3_figures_3 14 rfl rfl)
theorem dX3_figures_86 : decode cX3_figures 86 = .ok (.aload_n 0, 1) := dk_42 (dk_at dksX3_figures_3 17 rfl rfl)
theorem dX3_figures_87 : decode cX3_figures 87 = .ok (.getfield 25, 3) := dk_180 0 25 (dk_at dksX3_figures_3 18 rfl rfl)
theorem dX3_figures_90 : decode cX3_figures 90 = .ok (.aload_n 0, 1) := dk_42 (dk_at dksX3_figures_3 21 rfl rfl)
theorem dX3_figures_91 : decode cX3_figures 91 = .ok (.getfield 35, 3) := dk_180 0 35 (dk_at dksX3_figures_4 0 rfl rfl)
theorem dX3_figures_94 : decode cX3_figures 94 = .ok (.isub, 1) := dk_100 (dk_at dksX3_figures_4 3 rfl rfl)
theorem dX3_figures_95 : decode cX3_figures 95 = .ok (.iload_n 3, 1) := dk_29 (dk_at dksX3_figures_4 4 rfl rfl)
theorem dX3_figures_96 : decode cX3_figures 96 = .ok (.if_icmp .gt 13, 3) := dk_163 0 13 (dk_at dksX3_figures_4 5 rfl rfl)
theorem dX3_figures_99 : decode cX3_figures 99 = .ok (.iload 4, 2) := dk_21 4 (dk_at dksX3_figures_4 8 rfl rfl)
theorem dX3_figures_101 : decode cX3_figures 101 = .ok (.iload_n 1, 1) := dk_27 (dk_at dksX3_figures_4 10 rfl rfl)
theorem dX3_figures_102 : decode cX3_figures 102 = .ok (.iload_n 2, 1) := dk_28 (dk_at dksX3_figures_4 11 rfl rfl)
theorem dX3_figures_103 : decode cX3_figures 103 = .ok (.invokestatic 41, 3) := dk_184 0 41 (dk_at dksX3_figures_4 12 rfl rfl)
theorem dX3_figures_106 : decode cX3_figures 106 = .ok (.ifCond .ne 8, 3) := dk_154 0 8 (dk_at dksX3_figures_4 15 rfl rfl)
theorem dX3_figures_109 : decode cX3_figures 109 = .ok (.aload_n 0, 1) := dk_42 (dk_at dksX3_figures_4 18 rfl rfl)
theorem dX3_figures_110 : decode cX3_figures 110 = .ok (.invokevirtual 69, 3) := dk_182 0 69 (dk_at dksX3_figures_4 19 rfl rfl)
theorem dX3_figures_113 : decode cX3_figures 113 = .ok (.athrow, 1) := dk_191 (dk_at dksX3_figures_4 22 rfl rfl)
theorem dX3_figures_114 : decode cX3_figures 114 = .ok (.iload 4, 2) := dk_21 4 (dk_at dksX3_figures_5 0 rfl rfl)
theorem dX3_figures_116 : decode cX3_figures 116 = .ok (.ireturn, 1) := dk_172 (dk_at dksX3_figures_5 2 rfl rfl)
abbrev cX3_passes : ByteArray := prog_10_method_9_code
def yX3_passes : MethodName := ⟨RX3, "passes", "(Ljava/lang/String;)Z"⟩
def dkwX3_passes_0 : List UInt8 := [42, 182, 0, 56, 43, 182, 0, 59, 153, 0, 5, 4, 172, 42, 42, 180, 0, 35, 181, 0, 25, 3, 172]
abbrev dktX3_passes_0 : List UInt8 := dkwX3_passes_0 ++ []
theorem dksX3_passes_0 : cX3_passes.data.toList.drop 0 = dktX3_passes_0 := by decide +kernel
theorem dX3_passes_0 : decode cX3_passes 0 = .ok (.aload_n 0, 1) := dk_42 (dk_at dksX3_passes_0 0 rfl rfl)
theorem dX3_passes_1 : decode cX3_passes 1 = .ok (.invokevirtual 56, 3) := dk_182 0 56 (dk_at dksX3_passes_0 1 rfl rfl)
theorem dX3_passes_4 : decode cX3_passes 4 = .ok (.aload_n 1, 1) := dk_43 (dk_at dksX3_passes_0 4 rfl rfl)
theorem dX3_passes_5 : decode cX3_passes 5 = .ok (.invokevirtual 59, 3) := dk_182 0 59 (dk_at dksX3_passes_0 5 rfl rfl)
theorem dX3_passes_8 : decode cX3_passes 8 = .ok (.ifCond .eq 5, 3) := dk_153 0 5 (dk_at dksX3_passes_0 8 rfl rfl)
theorem dX3_passes_11 : decode cX3_passes 11 = .ok (.iconst 1, 1) := dk_4 (dk_at dksX3_passes_0 11 rfl rfl)
theorem dX3_passes_12 : decode cX3_passes 12 = .ok (.ireturn, 1) := dk_172 (dk_at dksX3_passes_0 12 rfl rfl)
theorem dX3_passes_13 : decode cX3_passes 13 = .ok (.aload_n 0, 1) := dk_42 (dk_at dksX3_passes_0 13 rfl rfl)
theorem dX3_passes_14 : decode cX3_passes 14 = .ok (.aload_n 0, 1) := dk_42 (dk_at dksX3_passes_0 14 rfl rfl)
theorem dX3_passes_15 : decode cX3_passes 15 = .ok (.getfield 35, 3) := dk_180 0 35 (dk_at dksX3_passes_0 15 rfl rfl)
theorem dX3_passes_18 : decode cX3_passes 18 = .ok (.putfield 25, 3) := dk_181 0 25 (dk_at dksX3_passes_0 18 rfl rfl)
theorem dX3_passes_21 : decode cX3_passes 21 = .ok (.iconst 0, 1) := dk_3 (dk_at dksX3_passes_0 21 rfl rfl)
theorem dX3_passes_22 : decode cX3_passes 22 = .ok (.ireturn, 1) := dk_172 (dk_at dksX3_passes_0 22 rfl rfl)
abbrev cX3_sign : ByteArray := prog_10_method_10_code
def yX3_sign : MethodName := ⟨RX3, "sign", "(I)Z"⟩
def dkwX3_sign_1 : List UInt8 := [96, 181, 0, 25, 4, 172]
abbrev dktX3_sign_1 : List UInt8 := dkwX3_sign_1 ++ []
def dkwX3_sign_0 : List UInt8 := [42, 182, 0, 38, 42, 42, 180, 0, 25, 182, 0, 31, 27, 159, 0, 5, 3, 172, 42, 89, 180, 0, 25, 4]
abbrev dktX3_sign_0 : List UInt8 := dkwX3_sign_0 ++ dktX3_sign_1
theorem dksX3_sign_0 : cX3_sign.data.toList.drop 0 = dktX3_sign_0 := by decide +kernel
theorem dksX3_sign_1 : cX3_sign.data.toList.drop 24 = dktX3_sign_1 := dk_seg dksX3_sign_0 24 rfl rfl
theorem dX3_sign_0 : decode cX3_sign 0 = .ok (.aload_n 0, 1) := dk_42 (dk_at dksX3_sign_0 0 rfl rfl)
theorem dX3_sign_1 : decode cX3_sign 1 = .ok (.invokevirtual 38, 3) := dk_182 0 38 (dk_at dksX3_sign_0 1 rfl rfl)
theorem dX3_sign_4 : decode cX3_sign 4 = .ok (.aload_n 0, 1) := dk_42 (dk_at dksX3_sign_0 4 rfl rfl)
theorem dX3_sign_5 : decode cX3_sign 5 = .ok (.aload_n 0, 1) := dk_42 (dk_at dksX3_sign_0 5 rfl rfl)
theorem dX3_sign_6 : decode cX3_sign 6 = .ok (.getfield 25, 3) := dk_180 0 25 (dk_at dksX3_sign_0 6 rfl rfl)
theorem dX3_sign_9 : decode cX3_sign 9 = .ok (.invokevirtual 31, 3) := dk_182 0 31 (dk_at dksX3_sign_0 9 rfl rfl)
theorem dX3_sign_12 : decode cX3_sign 12 = .ok (.iload_n 1, 1) := dk_27 (dk_at dksX3_sign_0 12 rfl rfl)
theorem dX3_sign_13 : decode cX3_sign 13 = .ok (.if_icmp .eq 5, 3) := dk_159 0 5 (dk_at dksX3_sign_0 13 rfl rfl)
theorem dX3_sign_16 : decode cX3_sign 16 = .ok (.iconst 0, 1) := dk_3 (dk_at dksX3_sign_0 16 rfl rfl)
theorem dX3_sign_17 : decode cX3_sign 17 = .ok (.ireturn, 1) := dk_172 (dk_at dksX3_sign_0 17 rfl rfl)
theorem dX3_sign_18 : decode cX3_sign 18 = .ok (.aload_n 0, 1) := dk_42 (dk_at dksX3_sign_0 18 rfl rfl)
theorem dX3_sign_19 : decode cX3_sign 19 = .ok (.dup, 1) := dk_89 (dk_at dksX3_sign_0 19 rfl rfl)
theorem dX3_sign_20 : decode cX3_sign 20 = .ok (.getfield 25, 3) := dk_180 0 25 (dk_at dksX3_sign_0 20 rfl rfl)
theorem dX3_sign_23 : decode cX3_sign 23 = .ok (.iconst 1, 1) := dk_4 (dk_at dksX3_sign_0 23 rfl rfl)
theorem dX3_sign_24 : decode cX3_sign 24 = .ok (.iadd, 1) := dk_96 (dk_at dksX3_sign_1 0 rfl rfl)
theorem dX3_sign_25 : decode cX3_sign 25 = .ok (.putfield 25, 3) := dk_181 0 25 (dk_at dksX3_sign_1 1 rfl rfl)
theorem dX3_sign_28 : decode cX3_sign 28 = .ok (.iconst 1, 1) := dk_4 (dk_at dksX3_sign_1 4 rfl rfl)
theorem dX3_sign_29 : decode cX3_sign 29 = .ok (.ireturn, 1) := dk_172 (dk_at dksX3_sign_1 5 rfl rfl)
abbrev cX3_goesDeeper : ByteArray := prog_10_method_15_code
def yX3_goesDeeper : MethodName := ⟨RX3, "goesDeeper", "()V"⟩
def dkwX3_goesDeeper_1 : List UInt8 := [177]
abbrev dktX3_goesDeeper_1 : List UInt8 := dkwX3_goesDeeper_1 ++ []
def dkwX3_goesDeeper_0 : List UInt8 := [42, 180, 0, 28, 16, 6, 160, 0, 8, 42, 182, 0, 69, 191, 42, 89, 180, 0, 28, 4, 96, 181, 0, 28]
abbrev dktX3_goesDeeper_0 : List UInt8 := dkwX3_goesDeeper_0 ++ dktX3_goesDeeper_1
theorem dksX3_goesDeeper_0 : cX3_goesDeeper.data.toList.drop 0 = dktX3_goesDeeper_0 := by decide +kernel
theorem dksX3_goesDeeper_1 : cX3_goesDeeper.data.toList.drop 24 = dktX3_goesDeeper_1 := dk_seg dksX3_goesDeeper_0 24 rfl rfl
theorem dX3_goesDeeper_0 : decode cX3_goesDeeper 0 = .ok (.aload_n 0, 1) := dk_42 (dk_at dksX3_goesDeeper_0 0 rfl rfl)
theorem dX3_goesDeeper_1 : decode cX3_goesDeeper 1 = .ok (.getfield 28, 3) := dk_180 0 28 (dk_at dksX3_goesDeeper_0 1 rfl rfl)
theorem dX3_goesDeeper_4 : decode cX3_goesDeeper 4 = .ok (.bipush 6, 2) := dk_16 6 (dk_at dksX3_goesDeeper_0 4 rfl rfl)
theorem dX3_goesDeeper_6 : decode cX3_goesDeeper 6 = .ok (.if_icmp .ne 8, 3) := dk_160 0 8 (dk_at dksX3_goesDeeper_0 6 rfl rfl)
theorem dX3_goesDeeper_9 : decode cX3_goesDeeper 9 = .ok (.aload_n 0, 1) := dk_42 (dk_at dksX3_goesDeeper_0 9 rfl rfl)
theorem dX3_goesDeeper_10 : decode cX3_goesDeeper 10 = .ok (.invokevirtual 69, 3) := dk_182 0 69 (dk_at dksX3_goesDeeper_0 10 rfl rfl)
theorem dX3_goesDeeper_13 : decode cX3_goesDeeper 13 = .ok (.athrow, 1) := dk_191 (dk_at dksX3_goesDeeper_0 13 rfl rfl)
theorem dX3_goesDeeper_14 : decode cX3_goesDeeper 14 = .ok (.aload_n 0, 1) := dk_42 (dk_at dksX3_goesDeeper_0 14 rfl rfl)
theorem dX3_goesDeeper_15 : decode cX3_goesDeeper 15 = .ok (.dup, 1) := dk_89 (dk_at dksX3_goesDeeper_0 15 rfl rfl)
theorem dX3_goesDeeper_16 : decode cX3_goesDeeper 16 = .ok (.getfield 28, 3) := dk_180 0 28 (dk_at dksX3_goesDeeper_0 16 rfl rfl)
theorem dX3_goesDeeper_19 : decode cX3_goesDeeper 19 = .ok (.iconst 1, 1) := dk_4 (dk_at dksX3_goesDeeper_0 19 rfl rfl)
theorem dX3_goesDeeper_20 : decode cX3_goesDeeper 20 = .ok (.iadd, 1) := dk_96 (dk_at dksX3_goesDeeper_0 20 rfl rfl)
theorem dX3_goesDeeper_21 : decode cX3_goesDeeper 21 = .ok (.putfield 28, 3) := dk_181 0 28 (dk_at dksX3_goesDeeper_0 21 rfl rfl)
theorem dX3_goesDeeper_24 : decode cX3_goesDeeper 24 = .ok (.return_, 1) := dk_177 (dk_at dksX3_goesDeeper_1 0 rfl rfl)
abbrev cX3_comesUp : ByteArray := prog_10_method_16_code
def yX3_comesUp : MethodName := ⟨RX3, "comesUp", "()V"⟩
def dkwX3_comesUp_0 : List UInt8 := [42, 89, 180, 0, 28, 4, 100, 181, 0, 28, 177]
abbrev dktX3_comesUp_0 : List UInt8 := dkwX3_comesUp_0 ++ []
theorem dksX3_comesUp_0 : cX3_comesUp.data.toList.drop 0 = dktX3_comesUp_0 := by decide +kernel
theorem dX3_comesUp_0 : decode cX3_comesUp 0 = .ok (.aload_n 0, 1) := dk_42 (dk_at dksX3_comesUp_0 0 rfl rfl)
theorem dX3_comesUp_1 : decode cX3_comesUp 1 = .ok (.dup, 1) := dk_89 (dk_at dksX3_comesUp_0 1 rfl rfl)
theorem dX3_comesUp_2 : decode cX3_comesUp 2 = .ok (.getfield 28, 3) := dk_180 0 28 (dk_at dksX3_comesUp_0 2 rfl rfl)
theorem dX3_comesUp_5 : decode cX3_comesUp 5 = .ok (.iconst 1, 1) := dk_4 (dk_at dksX3_comesUp_0 5 rfl rfl)
theorem dX3_comesUp_6 : decode cX3_comesUp 6 = .ok (.isub, 1) := dk_100 (dk_at dksX3_comesUp_0 6 rfl rfl)
theorem dX3_comesUp_7 : decode cX3_comesUp 7 = .ok (.putfield 28, 3) := dk_181 0 28 (dk_at dksX3_comesUp_0 7 rfl rfl)
theorem dX3_comesUp_10 : decode cX3_comesUp 10 = .ok (.return_, 1) := dk_177 (dk_at dksX3_comesUp_0 10 rfl rfl)
abbrev cX3_isFigure : ByteArray := prog_10_method_11_code
def yX3_isFigure : MethodName := ⟨RX3, "isFigure", "()Z"⟩
def dkwX3_isFigure_0 : List UInt8 := [42, 182, 0, 38, 42, 42, 180, 0, 25, 182, 0, 31, 16, 48, 16, 57, 184, 0, 41, 172]
abbrev dktX3_isFigure_0 : List UInt8 := dkwX3_isFigure_0 ++ []
theorem dksX3_isFigure_0 : cX3_isFigure.data.toList.drop 0 = dktX3_isFigure_0 := by decide +kernel
theorem dX3_isFigure_0 : decode cX3_isFigure 0 = .ok (.aload_n 0, 1) := dk_42 (dk_at dksX3_isFigure_0 0 rfl rfl)
theorem dX3_isFigure_1 : decode cX3_isFigure 1 = .ok (.invokevirtual 38, 3) := dk_182 0 38 (dk_at dksX3_isFigure_0 1 rfl rfl)
theorem dX3_isFigure_4 : decode cX3_isFigure 4 = .ok (.aload_n 0, 1) := dk_42 (dk_at dksX3_isFigure_0 4 rfl rfl)
theorem dX3_isFigure_5 : decode cX3_isFigure 5 = .ok (.aload_n 0, 1) := dk_42 (dk_at dksX3_isFigure_0 5 rfl rfl)
theorem dX3_isFigure_6 : decode cX3_isFigure 6 = .ok (.getfield 25, 3) := dk_180 0 25 (dk_at dksX3_isFigure_0 6 rfl rfl)
theorem dX3_isFigure_9 : decode cX3_isFigure 9 = .ok (.invokevirtual 31, 3) := dk_182 0 31 (dk_at dksX3_isFigure_0 9 rfl rfl)
theorem dX3_isFigure_12 : decode cX3_isFigure 12 = .ok (.bipush 48, 2) := dk_16 48 (dk_at dksX3_isFigure_0 12 rfl rfl)
theorem dX3_isFigure_14 : decode cX3_isFigure 14 = .ok (.bipush 57, 2) := dk_16 57 (dk_at dksX3_isFigure_0 14 rfl rfl)
theorem dX3_isFigure_16 : decode cX3_isFigure 16 = .ok (.invokestatic 41, 3) := dk_184 0 41 (dk_at dksX3_isFigure_0 16 rfl rfl)
theorem dX3_isFigure_19 : decode cX3_isFigure 19 = .ok (.ireturn, 1) := dk_172 (dk_at dksX3_isFigure_0 19 rfl rfl)
theorem q109 : (Jvm.Cond.initialized "SaturdayKeep$Reader") ∈ lw_all := lw_g (lw_at lw_m1 3 rfl) rfl
theorem q255 : (Jvm.Cond.instantiable "SaturdayKeep$Reader" (7 : Nat)) ∈ lw_all := lw_g (lw_at lw_m1 149 rfl) rfl
theorem q257 : (Jvm.Cond.instanceMethod ({ cls := "SaturdayKeep$Reader", name := "<init>", desc := "()V" } : Jvm.MethodName)) ∈ lw_all := lw_g (lw_at lw_m1 151 rfl) rfl
theorem q258 : (Jvm.Cond.code ({ cls := "SaturdayKeep$Reader", name := "<init>", desc := "()V" } : Jvm.MethodName) prog_10_method_1_code (1 : Nat) (Option.none : Option Jvm.ClassFile.FieldType)) ∈ lw_all := lw_g (lw_at lw_m1 152 rfl) rfl
theorem q259 : (Jvm.Cond.methodLink "SaturdayKeep$Reader" (3 : Nat) ({ cls := "java/lang/Object", name := "<init>", desc := "()V" } : Jvm.MethodName)) ∈ lw_all := lw_g (lw_at lw_m1 153 rfl) rfl
theorem q260 : (Jvm.Cond.fieldLink "SaturdayKeep$Reader" (9 : Nat) "SaturdayKeep$Reader" "tape" "[B") ∈ lw_all := lw_g (lw_at lw_m1 154 rfl) rfl
theorem q262 : (Jvm.Cond.fieldLink "SaturdayKeep$Reader" (19 : Nat) "SaturdayKeep$Reader" "length" "I") ∈ lw_all := lw_g (lw_at lw_m1 156 rfl) rfl
theorem q263 : (Jvm.Cond.fieldLink "SaturdayKeep$Reader" (22 : Nat) "SaturdayKeep$Reader" "end" "I") ∈ lw_all := lw_g (lw_at lw_m1 157 rfl) rfl
theorem q265 : (Jvm.Cond.fieldLink "SaturdayKeep$Reader" (25 : Nat) "SaturdayKeep$Reader" "at" "I") ∈ lw_all := lw_g (lw_at lw_m1 159 rfl) rfl
theorem q266 : (Jvm.Cond.fieldLink "SaturdayKeep$Reader" (35 : Nat) "SaturdayKeep$Reader" "begin" "I") ∈ lw_all := lw_g (lw_at lw_m1 160 rfl) rfl
theorem q268 : (Jvm.Cond.fieldLink "SaturdayKeep$Reader" (15 : Nat) "SaturdayKeep$Reader" "fault" "I") ∈ lw_all := lw_g (lw_at lw_m1 162 rfl) rfl
theorem q270 : (Jvm.Cond.fieldLink "SaturdayKeep$Reader" (28 : Nat) "SaturdayKeep$Reader" "deep" "I") ∈ lw_all := lw_g (lw_at lw_m1 164 rfl) rfl
theorem q271 : (Jvm.Cond.laysFinal "SaturdayKeep$Reader" "SaturdayKeep$Reader" "tape" "[B") ∈ lw_all := lw_g (lw_at lw_m1 165 rfl) rfl
theorem q272 : (Jvm.Cond.soleField "SaturdayKeep$Reader" "tape") ∈ lw_all := lw_g (lw_at lw_m1 166 rfl) rfl
theorem q273 : (Jvm.Cond.lays "SaturdayKeep$Reader" "SaturdayKeep$Reader" "length" "I") ∈ lw_all := lw_g (lw_at lw_m1 167 rfl) rfl
theorem q274 : (Jvm.Cond.soleField "SaturdayKeep$Reader" "length") ∈ lw_all := lw_g (lw_at lw_m1 168 rfl) rfl
theorem q275 : (Jvm.Cond.lays "SaturdayKeep$Reader" "SaturdayKeep$Reader" "end" "I") ∈ lw_all := lw_g (lw_at lw_m1 169 rfl) rfl
theorem q276 : (Jvm.Cond.soleField "SaturdayKeep$Reader" "end") ∈ lw_all := lw_g (lw_at lw_m1 170 rfl) rfl
theorem q277 : (Jvm.Cond.lays "SaturdayKeep$Reader" "SaturdayKeep$Reader" "at" "I") ∈ lw_all := lw_g (lw_at lw_m1 171 rfl) rfl
theorem q278 : (Jvm.Cond.soleField "SaturdayKeep$Reader" "at") ∈ lw_all := lw_g (lw_at lw_m1 172 rfl) rfl
theorem q279 : (Jvm.Cond.lays "SaturdayKeep$Reader" "SaturdayKeep$Reader" "begin" "I") ∈ lw_all := lw_g (lw_at lw_m1 173 rfl) rfl
theorem q280 : (Jvm.Cond.soleField "SaturdayKeep$Reader" "begin") ∈ lw_all := lw_g (lw_at lw_m1 174 rfl) rfl
theorem q281 : (Jvm.Cond.lays "SaturdayKeep$Reader" "SaturdayKeep$Reader" "fault" "I") ∈ lw_all := lw_g (lw_at lw_m1 175 rfl) rfl
theorem q282 : (Jvm.Cond.soleField "SaturdayKeep$Reader" "fault") ∈ lw_all := lw_g (lw_at lw_m1 176 rfl) rfl
theorem q283 : (Jvm.Cond.lays "SaturdayKeep$Reader" "SaturdayKeep$Reader" "deep" "I") ∈ lw_all := lw_g (lw_at lw_m1 177 rfl) rfl
theorem q284 : (Jvm.Cond.soleField "SaturdayKeep$Reader" "deep") ∈ lw_all := lw_g (lw_at lw_m1 178 rfl) rfl
theorem q285 : (Jvm.Cond.superclass "SaturdayKeep$Reader" "java/lang/Object") ∈ lw_all := lw_g (lw_at lw_m1 179 rfl) rfl
theorem q407 : (Jvm.Cond.instanceMethod ({ cls := "SaturdayKeep$Reader", name := "add", desc := "([I)I" } : Jvm.MethodName)) ∈ lw_all := lw_g (lw_at lw_m2 61 rfl) rfl
theorem q408 : (Jvm.Cond.selects "SaturdayKeep$Reader" ({ cls := "SaturdayKeep$Reader", name := "add", desc := "([I)I" } : Jvm.MethodName) ({ cls := "SaturdayKeep$Reader", name := "add", desc := "([I)I" } : Jvm.MethodName)) ∈ lw_all := lw_g (lw_at lw_m2 62 rfl) rfl
theorem q409 : (Jvm.Cond.code ({ cls := "SaturdayKeep$Reader", name := "add", desc := "([I)I" } : Jvm.MethodName) prog_10_method_2_code (7 : Nat) (Option.some Jvm.ClassFile.FieldType.int)) ∈ lw_all := lw_g (lw_at lw_m2 63 rfl) rfl
theorem q415 : (Jvm.Cond.instanceMethod ({ cls := "SaturdayKeep$Reader", name := "cut", desc := "(I)Z" } : Jvm.MethodName)) ∈ lw_all := lw_g (lw_at lw_m2 69 rfl) rfl
theorem q416 : (Jvm.Cond.selects "SaturdayKeep$Reader" ({ cls := "SaturdayKeep$Reader", name := "cut", desc := "(I)Z" } : Jvm.MethodName) ({ cls := "SaturdayKeep$Reader", name := "cut", desc := "(I)Z" } : Jvm.MethodName)) ∈ lw_all := lw_g (lw_at lw_m2 70 rfl) rfl
theorem q417 : (Jvm.Cond.code ({ cls := "SaturdayKeep$Reader", name := "cut", desc := "(I)Z" } : Jvm.MethodName) prog_10_method_3_code (2 : Nat) (Option.some Jvm.ClassFile.FieldType.boolean)) ∈ lw_all := lw_g (lw_at lw_m2 71 rfl) rfl
theorem q760 : (Jvm.Cond.instanceMethod ({ cls := "SaturdayKeep$Reader", name := "begins", desc := "()V" } : Jvm.MethodName)) ∈ lw_all := lw_g (lw_at lw_m3 174 rfl) rfl
theorem q761 : (Jvm.Cond.selects "SaturdayKeep$Reader" ({ cls := "SaturdayKeep$Reader", name := "begins", desc := "()V" } : Jvm.MethodName) ({ cls := "SaturdayKeep$Reader", name := "begins", desc := "()V" } : Jvm.MethodName)) ∈ lw_all := lw_g (lw_at lw_m3 175 rfl) rfl
theorem q762 : (Jvm.Cond.code ({ cls := "SaturdayKeep$Reader", name := "begins", desc := "()V" } : Jvm.MethodName) prog_10_method_4_code (1 : Nat) (Option.none : Option Jvm.ClassFile.FieldType)) ∈ lw_all := lw_g (lw_at lw_m3 176 rfl) rfl
theorem q768 : (Jvm.Cond.instanceMethod ({ cls := "SaturdayKeep$Reader", name := "isOver", desc := "()Z" } : Jvm.MethodName)) ∈ lw_all := lw_g (lw_at lw_m3 182 rfl) rfl
theorem q769 : (Jvm.Cond.selects "SaturdayKeep$Reader" ({ cls := "SaturdayKeep$Reader", name := "isOver", desc := "()Z" } : Jvm.MethodName) ({ cls := "SaturdayKeep$Reader", name := "isOver", desc := "()Z" } : Jvm.MethodName)) ∈ lw_all := lw_g (lw_at lw_m3 183 rfl) rfl
theorem q770 : (Jvm.Cond.code ({ cls := "SaturdayKeep$Reader", name := "isOver", desc := "()Z" } : Jvm.MethodName) prog_10_method_7_code (1 : Nat) (Option.some Jvm.ClassFile.FieldType.boolean)) ∈ lw_all := lw_g (lw_at lw_m3 184 rfl) rfl
theorem q771 : (Jvm.Cond.methodLink "SaturdayKeep$Reader" (38 : Nat) ({ cls := "SaturdayKeep$Reader", name := "blanks", desc := "()V" } : Jvm.MethodName)) ∈ lw_all := lw_g (lw_at lw_m3 185 rfl) rfl
theorem q772 : (Jvm.Cond.instanceMethod ({ cls := "SaturdayKeep$Reader", name := "blanks", desc := "()V" } : Jvm.MethodName)) ∈ lw_all := lw_g (lw_at lw_m3 186 rfl) rfl
theorem q773 : (Jvm.Cond.selects "SaturdayKeep$Reader" ({ cls := "SaturdayKeep$Reader", name := "blanks", desc := "()V" } : Jvm.MethodName) ({ cls := "SaturdayKeep$Reader", name := "blanks", desc := "()V" } : Jvm.MethodName)) ∈ lw_all := lw_g (lw_at lw_m3 187 rfl) rfl
theorem q774 : (Jvm.Cond.code ({ cls := "SaturdayKeep$Reader", name := "blanks", desc := "()V" } : Jvm.MethodName) prog_10_method_6_code (1 : Nat) (Option.none : Option Jvm.ClassFile.FieldType)) ∈ lw_all := lw_g (lw_at lw_m3 188 rfl) rfl
theorem q775 : (Jvm.Cond.methodLink "SaturdayKeep$Reader" (31 : Nat) ({ cls := "SaturdayKeep$Reader", name := "byteAt", desc := "(I)I" } : Jvm.MethodName)) ∈ lw_all := lw_g (lw_at lw_m3 189 rfl) rfl
theorem q776 : (Jvm.Cond.privateMethod ({ cls := "SaturdayKeep$Reader", name := "byteAt", desc := "(I)I" } : Jvm.MethodName)) ∈ lw_tbl := lw_at lw_m3 190 rfl
theorem q777 : (Jvm.Cond.instanceMethod ({ cls := "SaturdayKeep$Reader", name := "byteAt", desc := "(I)I" } : Jvm.MethodName)) ∈ lw_all := lw_g (lw_at lw_m3 191 rfl) rfl
theorem q778 : (Jvm.Cond.code ({ cls := "SaturdayKeep$Reader", name := "byteAt", desc := "(I)I" } : Jvm.MethodName) prog_10_method_5_code (2 : Nat) (Option.some Jvm.ClassFile.FieldType.int)) ∈ lw_all := lw_g (lw_at lw_m3 192 rfl) rfl
theorem q784 : (Jvm.Cond.instanceMethod ({ cls := "SaturdayKeep$Reader", name := "word", desc := "()Ljava/lang/String;" } : Jvm.MethodName)) ∈ lw_all := lw_g (lw_at lw_m3 198 rfl) rfl
theorem q785 : (Jvm.Cond.selects "SaturdayKeep$Reader" ({ cls := "SaturdayKeep$Reader", name := "word", desc := "()Ljava/lang/String;" } : Jvm.MethodName) ({ cls := "SaturdayKeep$Reader", name := "word", desc := "()Ljava/lang/String;" } : Jvm.MethodName)) ∈ lw_all := lw_g (lw_at lw_m3 199 rfl) rfl
theorem q786 : (Jvm.Cond.code ({ cls := "SaturdayKeep$Reader", name := "word", desc := "()Ljava/lang/String;" } : Jvm.MethodName) prog_10_method_8_code (3 : Nat) (Option.some (Jvm.ClassFile.FieldType.object "java/lang/String"))) ∈ lw_all := lw_g (lw_at lw_m3 200 rfl) rfl
theorem q787 : (Jvm.Cond.methodLinkNest "SaturdayKeep$Reader" (41 : Nat) ({ cls := "SaturdayKeep", name := "in", desc := "(III)Z" } : Jvm.MethodName) "SaturdayKeep") ∈ lw_tbl := lw_at lw_m3 201 rfl
theorem q788 : (Jvm.Cond.classLink "SaturdayKeep$Reader" (45 : Nat) "java/lang/StringBuilder") ∈ lw_all := lw_g (lw_at lw_m3 202 rfl) rfl
theorem q790 : (Jvm.Cond.methodLink "SaturdayKeep$Reader" (47 : Nat) ({ cls := "java/lang/StringBuilder", name := "<init>", desc := "()V" } : Jvm.MethodName)) ∈ lw_all := lw_g (lw_at lw_m3 204 rfl) rfl
theorem q819 : (Jvm.Cond.methodLink "SaturdayKeep$Reader" (48 : Nat) ({ cls := "java/lang/StringBuilder", name := "append", desc := "(C)Ljava/lang/StringBuilder;" } : Jvm.MethodName)) ∈ lw_all := lw_g (lw_at lw_m3 233 rfl) rfl
theorem q906 : (Jvm.Cond.methodLink "SaturdayKeep$Reader" (52 : Nat) ({ cls := "java/lang/StringBuilder", name := "toString", desc := "()Ljava/lang/String;" } : Jvm.MethodName)) ∈ lw_all := lw_g (lw_at lw_m4 80 rfl) rfl
theorem q1114 : (Jvm.Cond.instanceMethod ({ cls := "SaturdayKeep$Reader", name := "wrong", desc := "()LSaturdayKeep$Wrong;" } : Jvm.MethodName)) ∈ lw_all := lw_g (lw_at lw_m5 48 rfl) rfl
theorem q1115 : (Jvm.Cond.selects "SaturdayKeep$Reader" ({ cls := "SaturdayKeep$Reader", name := "wrong", desc := "()LSaturdayKeep$Wrong;" } : Jvm.MethodName) ({ cls := "SaturdayKeep$Reader", name := "wrong", desc := "()LSaturdayKeep$Wrong;" } : Jvm.MethodName)) ∈ lw_all := lw_g (lw_at lw_m5 49 rfl) rfl
theorem q1116 : (Jvm.Cond.code ({ cls := "SaturdayKeep$Reader", name := "wrong", desc := "()LSaturdayKeep$Wrong;" } : Jvm.MethodName) prog_10_method_14_code (1 : Nat) (Option.some (Jvm.ClassFile.FieldType.object "SaturdayKeep$Wrong"))) ∈ lw_all := lw_g (lw_at lw_m5 50 rfl) rfl
theorem q1117 : (Jvm.Cond.classLink "SaturdayKeep$Reader" (73 : Nat) "SaturdayKeep$Wrong") ∈ lw_all := lw_g (lw_at lw_m5 51 rfl) rfl
theorem q1126 : (Jvm.Cond.methodLink "SaturdayKeep$Reader" (75 : Nat) ({ cls := "SaturdayKeep$Wrong", name := "<init>", desc := "()V" } : Jvm.MethodName)) ∈ lw_all := lw_g (lw_at lw_m5 60 rfl) rfl
theorem q1233 : (Jvm.Cond.instanceMethod ({ cls := "SaturdayKeep$Reader", name := "number", desc := "(II)I" } : Jvm.MethodName)) ∈ lw_all := lw_g (lw_at lw_m5 167 rfl) rfl
theorem q1234 : (Jvm.Cond.selects "SaturdayKeep$Reader" ({ cls := "SaturdayKeep$Reader", name := "number", desc := "(II)I" } : Jvm.MethodName) ({ cls := "SaturdayKeep$Reader", name := "number", desc := "(II)I" } : Jvm.MethodName)) ∈ lw_all := lw_g (lw_at lw_m5 168 rfl) rfl
theorem q1235 : (Jvm.Cond.code ({ cls := "SaturdayKeep$Reader", name := "number", desc := "(II)I" } : Jvm.MethodName) prog_10_method_12_code (3 : Nat) (Option.some Jvm.ClassFile.FieldType.int)) ∈ lw_all := lw_g (lw_at lw_m5 169 rfl) rfl
theorem q1236 : (Jvm.Cond.methodLink "SaturdayKeep$Reader" (65 : Nat) ({ cls := "SaturdayKeep$Reader", name := "figures", desc := "(III)I" } : Jvm.MethodName)) ∈ lw_all := lw_g (lw_at lw_m5 170 rfl) rfl
theorem q1237 : (Jvm.Cond.instanceMethod ({ cls := "SaturdayKeep$Reader", name := "figures", desc := "(III)I" } : Jvm.MethodName)) ∈ lw_all := lw_g (lw_at lw_m5 171 rfl) rfl
theorem q1238 : (Jvm.Cond.selects "SaturdayKeep$Reader" ({ cls := "SaturdayKeep$Reader", name := "figures", desc := "(III)I" } : Jvm.MethodName) ({ cls := "SaturdayKeep$Reader", name := "figures", desc := "(III)I" } : Jvm.MethodName)) ∈ lw_all := lw_g (lw_at lw_m5 172 rfl) rfl
theorem q1239 : (Jvm.Cond.code ({ cls := "SaturdayKeep$Reader", name := "figures", desc := "(III)I" } : Jvm.MethodName) prog_10_method_13_code (5 : Nat) (Option.some Jvm.ClassFile.FieldType.int)) ∈ lw_all := lw_g (lw_at lw_m5 173 rfl) rfl
theorem q1240 : (Jvm.Cond.methodLink "SaturdayKeep$Reader" (69 : Nat) ({ cls := "SaturdayKeep$Reader", name := "wrong", desc := "()LSaturdayKeep$Wrong;" } : Jvm.MethodName)) ∈ lw_all := lw_g (lw_at lw_m5 174 rfl) rfl
theorem q1244 : (Jvm.Cond.instanceMethod ({ cls := "SaturdayKeep$Reader", name := "passes", desc := "(Ljava/lang/String;)Z" } : Jvm.MethodName)) ∈ lw_all := lw_g (lw_at lw_m5 178 rfl) rfl
theorem q1245 : (Jvm.Cond.selects "SaturdayKeep$Reader" ({ cls := "SaturdayKeep$Reader", name := "passes", desc := "(Ljava/lang/String;)Z" } : Jvm.MethodName) ({ cls := "SaturdayKeep$Reader", name := "passes", desc := "(Ljava/lang/String;)Z" } : Jvm.MethodName)) ∈ lw_all := lw_g (lw_at lw_m5 179 rfl) rfl
theorem q1246 : (Jvm.Cond.code ({ cls := "SaturdayKeep$Reader", name := "passes", desc := "(Ljava/lang/String;)Z" } : Jvm.MethodName) prog_10_method_9_code (2 : Nat) (Option.some Jvm.ClassFile.FieldType.boolean)) ∈ lw_all := lw_g (lw_at lw_m5 180 rfl) rfl
theorem q1247 : (Jvm.Cond.methodLink "SaturdayKeep$Reader" (56 : Nat) ({ cls := "SaturdayKeep$Reader", name := "word", desc := "()Ljava/lang/String;" } : Jvm.MethodName)) ∈ lw_all := lw_g (lw_at lw_m5 181 rfl) rfl
theorem q1248 : (Jvm.Cond.methodLink "SaturdayKeep$Reader" (59 : Nat) ({ cls := "java/lang/String", name := "equals", desc := "(Ljava/lang/Object;)Z" } : Jvm.MethodName)) ∈ lw_all := lw_g (lw_at lw_m5 182 rfl) rfl
theorem q1263 : (Jvm.Cond.instanceMethod ({ cls := "SaturdayKeep$Reader", name := "sign", desc := "(I)Z" } : Jvm.MethodName)) ∈ lw_all := lw_g (lw_at lw_m5 197 rfl) rfl
theorem q1264 : (Jvm.Cond.selects "SaturdayKeep$Reader" ({ cls := "SaturdayKeep$Reader", name := "sign", desc := "(I)Z" } : Jvm.MethodName) ({ cls := "SaturdayKeep$Reader", name := "sign", desc := "(I)Z" } : Jvm.MethodName)) ∈ lw_all := lw_g (lw_at lw_m5 198 rfl) rfl
theorem q1265 : (Jvm.Cond.code ({ cls := "SaturdayKeep$Reader", name := "sign", desc := "(I)Z" } : Jvm.MethodName) prog_10_method_10_code (2 : Nat) (Option.some Jvm.ClassFile.FieldType.boolean)) ∈ lw_all := lw_g (lw_at lw_m5 199 rfl) rfl
theorem q1357 : (Jvm.Cond.instanceMethod ({ cls := "SaturdayKeep$Reader", name := "goesDeeper", desc := "()V" } : Jvm.MethodName)) ∈ lw_all := lw_g (lw_at lw_m6 51 rfl) rfl
theorem q1358 : (Jvm.Cond.selects "SaturdayKeep$Reader" ({ cls := "SaturdayKeep$Reader", name := "goesDeeper", desc := "()V" } : Jvm.MethodName) ({ cls := "SaturdayKeep$Reader", name := "goesDeeper", desc := "()V" } : Jvm.MethodName)) ∈ lw_all := lw_g (lw_at lw_m6 52 rfl) rfl
theorem q1359 : (Jvm.Cond.code ({ cls := "SaturdayKeep$Reader", name := "goesDeeper", desc := "()V" } : Jvm.MethodName) prog_10_method_15_code (1 : Nat) (Option.none : Option Jvm.ClassFile.FieldType)) ∈ lw_all := lw_g (lw_at lw_m6 53 rfl) rfl
theorem q1361 : (Jvm.Cond.instanceMethod ({ cls := "SaturdayKeep$Reader", name := "comesUp", desc := "()V" } : Jvm.MethodName)) ∈ lw_all := lw_g (lw_at lw_m6 55 rfl) rfl
theorem q1362 : (Jvm.Cond.selects "SaturdayKeep$Reader" ({ cls := "SaturdayKeep$Reader", name := "comesUp", desc := "()V" } : Jvm.MethodName) ({ cls := "SaturdayKeep$Reader", name := "comesUp", desc := "()V" } : Jvm.MethodName)) ∈ lw_all := lw_g (lw_at lw_m6 56 rfl) rfl
theorem q1363 : (Jvm.Cond.code ({ cls := "SaturdayKeep$Reader", name := "comesUp", desc := "()V" } : Jvm.MethodName) prog_10_method_16_code (1 : Nat) (Option.none : Option Jvm.ClassFile.FieldType)) ∈ lw_all := lw_g (lw_at lw_m6 57 rfl) rfl
theorem q1408 : (Jvm.Cond.instanceMethod ({ cls := "SaturdayKeep$Reader", name := "isFigure", desc := "()Z" } : Jvm.MethodName)) ∈ lw_all := lw_g (lw_at lw_m6 102 rfl) rfl
theorem q1409 : (Jvm.Cond.selects "SaturdayKeep$Reader" ({ cls := "SaturdayKeep$Reader", name := "isFigure", desc := "()Z" } : Jvm.MethodName) ({ cls := "SaturdayKeep$Reader", name := "isFigure", desc := "()Z" } : Jvm.MethodName)) ∈ lw_all := lw_g (lw_at lw_m6 103 rfl) rfl
theorem q1410 : (Jvm.Cond.code ({ cls := "SaturdayKeep$Reader", name := "isFigure", desc := "()Z" } : Jvm.MethodName) prog_10_method_11_code (1 : Nat) (Option.some Jvm.ClassFile.FieldType.boolean)) ∈ lw_all := lw_g (lw_at lw_m6 104 rfl) rfl
theorem q1470 : (Jvm.Cond.selects "SaturdayKeep$Reader" ({ cls := "java/lang/Object", name := "getClass", desc := "()Ljava/lang/Class;" } : Jvm.MethodName) ({ cls := "java/lang/Object", name := "getClass", desc := "()Ljava/lang/Class;" } : Jvm.MethodName)) ∈ lw_all := lw_g (lw_at lw_m6 164 rfl) rfl
theorem q2507 : (Jvm.Cond.castable "SaturdayKeep$Reader" "java/lang/Object") ∈ lw_tbl := lw_at lw_m11 1 rfl
theorem in_X3 : ∀ w ∈ wsX30, w ∈ lw_all := lw_in wsX30 [271, 273, 275, 277, 279, 281, 283] (by decide +kernel) (by decide +kernel)
/-! SaturdayKeep$Scene -/
set_option maxRecDepth 100000
def RX4 : String := "SaturdayKeep$Scene"
def TX4 : u_T := fun k => match k with
  | 0 => ("SaturdayKeep$Scene", "guest", "I", false)
  | 1 => ("SaturdayKeep$Scene", "room", "I", false)
  | 2 => ("SaturdayKeep$Scene", "wish", "I", false)
  | 3 => ("SaturdayKeep$Scene", "doubted", "I", false)
  | 4 => ("SaturdayKeep$Scene", "towers", "I", false)
  | 5 => ("SaturdayKeep$Scene", "holes", "I", false)
  | 6 => ("SaturdayKeep$Scene", "week", "I", false)
  | 7 => ("SaturdayKeep$Scene", "key", "Z", false)
  | _ => ("SaturdayKeep$Scene", "eve", "Z", false)
def tyX4 : Nat → FieldType := fun k => match k with
  | 0 => .int
  | 1 => .int
  | 2 => .int
  | 3 => .int
  | 4 => .int
  | 5 => .int
  | 6 => .int
  | 7 => .boolean
  | _ => .boolean
abbrev wsX40 : List Cond := u_ws RX4 TX4 9
theorem nmX4 : ∀ a, a < 9 → ∀ b, b < 9 → a ≠ b → (TX4 a).2.1 ≠ (TX4 b).2.1 := by decide +kernel
theorem tyX4_ok : ∀ k, k < 9 → parseFieldDescriptor (TX4 k).2.2.1 = some (tyX4 k) := by decide +kernel
abbrev cX4_init : ByteArray := prog_12_method_1_code
def yX4_init : MethodName := ⟨RX4, "<init>", "()V"⟩
theorem dX4_init_0 : decode cX4_init 0 = .ok (.aload_n 0, 1) := by decide +kernel
theorem dX4_init_1 : decode cX4_init 1 = .ok (.invokespecial 1, 3) := by decide +kernel
theorem dX4_init_4 : decode cX4_init 4 = .ok (.return_, 1) := by decide +kernel
abbrev cX4_of : ByteArray := prog_12_method_2_code
def yX4_of : MethodName := ⟨RX4, "of", "(LSaturdayKeep$Fact;)I"⟩
def dkwX4_of_3 : List UInt8 := [172, 42, 180, 0, 31, 172, 42, 180, 0, 34, 172]
abbrev dktX4_of_3 : List UInt8 := dkwX4_of_3 ++ []
def dkwX4_of_2 : List UInt8 := [42, 180, 0, 13, 172, 42, 180, 0, 19, 172, 42, 180, 0, 22, 172, 42, 180, 0, 25, 172, 42, 180, 0, 28]
abbrev dktX4_of_2 : List UInt8 := dkwX4_of_2 ++ dktX4_of_3
def dkwX4_of_1 : List UInt8 := [170, 0, 0, 0, 0, 0, 0, 70, 0, 0, 0, 0, 0, 0, 0, 5, 0, 0, 0, 40, 0, 0, 0, 45, 0, 0, 0, 50, 0, 0, 0, 55, 0, 0, 0, 60, 0, 0, 0, 65]
abbrev dktX4_of_1 : List UInt8 := dkwX4_of_1 ++ dktX4_of_2
def dkwX4_of_0 : List UInt8 := [43, 182, 0, 7]
abbrev dktX4_of_0 : List UInt8 := dkwX4_of_0 ++ dktX4_of_1
theorem dksX4_of_0 : cX4_of.data.toList.drop 0 = dktX4_of_0 := by decide +kernel
theorem dksX4_of_1 : cX4_of.data.toList.drop 4 = dktX4_of_1 := dk_seg dksX4_of_0 4 rfl rfl
theorem dksX4_of_2 : cX4_of.data.toList.drop 44 = dktX4_of_2 := dk_seg dksX4_of_1 40 rfl rfl
theorem dksX4_of_3 : cX4_of.data.toList.drop 68 = dktX4_of_3 := dk_seg dksX4_of_2 24 rfl rfl
theorem dX4_of_0 : decode cX4_of 0 = .ok (.aload_n 1, 1) := dk_43 (dk_at dksX4_of_0 0 rfl rfl)
theorem dX4_of_1 : decode cX4_of 1 = .ok (.invokevirtual 7, 3) := dk_182 0 7 (dk_at dksX4_of_0 1 rfl rfl)
theorem dX4_of_4 : decode cX4_of 4 = .ok (.tableswitch 70 0 5 #[40, 45, 50, 55, 60, 65], 40) := by decide +kernel
theorem dX4_of_44 : decode cX4_of 44 = .ok (.aload_n 0, 1) := dk_42 (dk_at dksX4_of_2 0 rfl rfl)
theorem dX4_of_45 : decode cX4_of 45 = .ok (.getfield 13, 3) := dk_180 0 13 (dk_at dksX4_of_2 1 rfl rfl)
theorem dX4_of_48 : decode cX4_of 48 = .ok (.ireturn, 1) := dk_172 (dk_at dksX4_of_2 4 rfl rfl)
theorem dX4_of_49 : decode cX4_of 49 = .ok (.aload_n 0, 1) := dk_42 (dk_at dksX4_of_2 5 rfl rfl)
theorem dX4_of_50 : decode cX4_of 50 = .ok (.getfield 19, 3) := dk_180 0 19 (dk_at dksX4_of_2 6 rfl rfl)
theorem dX4_of_53 : decode cX4_of 53 = .ok (.ireturn, 1) := dk_172 (dk_at dksX4_of_2 9 rfl rfl)
theorem dX4_of_54 : decode cX4_of 54 = .ok (.aload_n 0, 1) := dk_42 (dk_at dksX4_of_2 10 rfl rfl)
theorem dX4_of_55 : decode cX4_of 55 = .ok (.getfield 22, 3) := dk_180 0 22 (dk_at dksX4_of_2 11 rfl rfl)
theorem dX4_of_58 : decode cX4_of 58 = .ok (.ireturn, 1) := dk_172 (dk_at dksX4_of_2 14 rfl rfl)
theorem dX4_of_59 : decode cX4_of 59 = .ok (.aload_n 0, 1) := dk_42 (dk_at dksX4_of_2 15 rfl rfl)
theorem dX4_of_60 : decode cX4_of 60 = .ok (.getfield 25, 3) := dk_180 0 25 (dk_at dksX4_of_2 16 rfl rfl)
theorem dX4_of_63 : decode cX4_of 63 = .ok (.ireturn, 1) := dk_172 (dk_at dksX4_of_2 19 rfl rfl)
theorem dX4_of_64 : decode cX4_of 64 = .ok (.aload_n 0, 1) := dk_42 (dk_at dksX4_of_2 20 rfl rfl)
theorem dX4_of_65 : decode cX4_of 65 = .ok (.getfield 28, 3) := dk_180 0 28 (dk_at dksX4_of_2 21 rfl rfl)
theorem dX4_of_68 : decode cX4_of 68 = .ok (.ireturn, 1) := dk_172 (dk_at dksX4_of_3 0 rfl rfl)
theorem dX4_of_69 : decode cX4_of 69 = .ok (.aload_n 0, 1) := dk_42 (dk_at dksX4_of_3 1 rfl rfl)
theorem dX4_of_70 : decode cX4_of 70 = .ok (.getfield 31, 3) := dk_180 0 31 (dk_at dksX4_of_3 2 rfl rfl)
theorem dX4_of_73 : decode cX4_of 73 = .ok (.ireturn, 1) := dk_172 (dk_at dksX4_of_3 5 rfl rfl)
theorem dX4_of_74 : decode cX4_of 74 = .ok (.aload_n 0, 1) := dk_42 (dk_at dksX4_of_3 6 rfl rfl)
theorem dX4_of_75 : decode cX4_of 75 = .ok (.getfield 34, 3) := dk_180 0 34 (dk_at dksX4_of_3 7 rfl rfl)
theorem dX4_of_78 : decode cX4_of 78 = .ok (.ireturn, 1) := dk_172 (dk_at dksX4_of_3 10 rfl rfl)
theorem q110 : (Jvm.Cond.initialized "SaturdayKeep$Scene") ∈ lw_all := lw_g (lw_at lw_m1 4 rfl) rfl
theorem q288 : (Jvm.Cond.instantiable "SaturdayKeep$Scene" (9 : Nat)) ∈ lw_all := lw_g (lw_at lw_m1 182 rfl) rfl
theorem q290 : (Jvm.Cond.instanceMethod ({ cls := "SaturdayKeep$Scene", name := "<init>", desc := "()V" } : Jvm.MethodName)) ∈ lw_all := lw_g (lw_at lw_m1 184 rfl) rfl
theorem q291 : (Jvm.Cond.code ({ cls := "SaturdayKeep$Scene", name := "<init>", desc := "()V" } : Jvm.MethodName) prog_12_method_1_code (1 : Nat) (Option.none : Option Jvm.ClassFile.FieldType)) ∈ lw_all := lw_g (lw_at lw_m1 185 rfl) rfl
theorem q292 : (Jvm.Cond.methodLink "SaturdayKeep$Scene" (1 : Nat) ({ cls := "java/lang/Object", name := "<init>", desc := "()V" } : Jvm.MethodName)) ∈ lw_all := lw_g (lw_at lw_m1 186 rfl) rfl
theorem q293 : (Jvm.Cond.fieldLink "SaturdayKeep$Scene" (13 : Nat) "SaturdayKeep$Scene" "guest" "I") ∈ lw_all := lw_g (lw_at lw_m1 187 rfl) rfl
theorem q295 : (Jvm.Cond.fieldLink "SaturdayKeep$Scene" (19 : Nat) "SaturdayKeep$Scene" "room" "I") ∈ lw_all := lw_g (lw_at lw_m1 189 rfl) rfl
theorem q297 : (Jvm.Cond.fieldLink "SaturdayKeep$Scene" (22 : Nat) "SaturdayKeep$Scene" "wish" "I") ∈ lw_all := lw_g (lw_at lw_m1 191 rfl) rfl
theorem q299 : (Jvm.Cond.fieldLink "SaturdayKeep$Scene" (25 : Nat) "SaturdayKeep$Scene" "doubted" "I") ∈ lw_all := lw_g (lw_at lw_m1 193 rfl) rfl
theorem q301 : (Jvm.Cond.fieldLink "SaturdayKeep$Scene" (28 : Nat) "SaturdayKeep$Scene" "towers" "I") ∈ lw_all := lw_g (lw_at lw_m1 195 rfl) rfl
theorem q303 : (Jvm.Cond.fieldLink "SaturdayKeep$Scene" (31 : Nat) "SaturdayKeep$Scene" "holes" "I") ∈ lw_all := lw_g (lw_at lw_m1 197 rfl) rfl
theorem q305 : (Jvm.Cond.fieldLink "SaturdayKeep$Scene" (34 : Nat) "SaturdayKeep$Scene" "week" "I") ∈ lw_all := lw_g (lw_at lw_m1 199 rfl) rfl
theorem q311 : (Jvm.Cond.lays "SaturdayKeep$Scene" "SaturdayKeep$Scene" "guest" "I") ∈ lw_all := lw_g (lw_at lw_m1 205 rfl) rfl
theorem q312 : (Jvm.Cond.soleField "SaturdayKeep$Scene" "guest") ∈ lw_all := lw_g (lw_at lw_m1 206 rfl) rfl
theorem q313 : (Jvm.Cond.lays "SaturdayKeep$Scene" "SaturdayKeep$Scene" "room" "I") ∈ lw_all := lw_g (lw_at lw_m1 207 rfl) rfl
theorem q314 : (Jvm.Cond.soleField "SaturdayKeep$Scene" "room") ∈ lw_all := lw_g (lw_at lw_m1 208 rfl) rfl
theorem q315 : (Jvm.Cond.lays "SaturdayKeep$Scene" "SaturdayKeep$Scene" "wish" "I") ∈ lw_all := lw_g (lw_at lw_m1 209 rfl) rfl
theorem q316 : (Jvm.Cond.soleField "SaturdayKeep$Scene" "wish") ∈ lw_all := lw_g (lw_at lw_m1 210 rfl) rfl
theorem q317 : (Jvm.Cond.lays "SaturdayKeep$Scene" "SaturdayKeep$Scene" "doubted" "I") ∈ lw_all := lw_g (lw_at lw_m1 211 rfl) rfl
theorem q318 : (Jvm.Cond.soleField "SaturdayKeep$Scene" "doubted") ∈ lw_all := lw_g (lw_at lw_m1 212 rfl) rfl
theorem q319 : (Jvm.Cond.lays "SaturdayKeep$Scene" "SaturdayKeep$Scene" "towers" "I") ∈ lw_all := lw_g (lw_at lw_m1 213 rfl) rfl
theorem q320 : (Jvm.Cond.soleField "SaturdayKeep$Scene" "towers") ∈ lw_all := lw_g (lw_at lw_m1 214 rfl) rfl
theorem q321 : (Jvm.Cond.lays "SaturdayKeep$Scene" "SaturdayKeep$Scene" "holes" "I") ∈ lw_all := lw_g (lw_at lw_m1 215 rfl) rfl
theorem q322 : (Jvm.Cond.soleField "SaturdayKeep$Scene" "holes") ∈ lw_all := lw_g (lw_at lw_m1 216 rfl) rfl
theorem q323 : (Jvm.Cond.lays "SaturdayKeep$Scene" "SaturdayKeep$Scene" "week" "I") ∈ lw_all := lw_g (lw_at lw_m1 217 rfl) rfl
theorem q324 : (Jvm.Cond.soleField "SaturdayKeep$Scene" "week") ∈ lw_all := lw_g (lw_at lw_m1 218 rfl) rfl
theorem q325 : (Jvm.Cond.lays "SaturdayKeep$Scene" "SaturdayKeep$Scene" "key" "Z") ∈ lw_all := lw_g (lw_at lw_m1 219 rfl) rfl
theorem q326 : (Jvm.Cond.soleField "SaturdayKeep$Scene" "key") ∈ lw_all := lw_g (lw_at lw_m1 220 rfl) rfl
theorem q327 : (Jvm.Cond.lays "SaturdayKeep$Scene" "SaturdayKeep$Scene" "eve" "Z") ∈ lw_all := lw_g (lw_at lw_m1 221 rfl) rfl
theorem q328 : (Jvm.Cond.soleField "SaturdayKeep$Scene" "eve") ∈ lw_all := lw_g (lw_at lw_m1 222 rfl) rfl
theorem q329 : (Jvm.Cond.superclass "SaturdayKeep$Scene" "java/lang/Object") ∈ lw_all := lw_g (lw_at lw_m1 223 rfl) rfl
theorem q511 : (Jvm.Cond.instanceMethod ({ cls := "SaturdayKeep$Scene", name := "of", desc := "(LSaturdayKeep$Fact;)I" } : Jvm.MethodName)) ∈ lw_all := lw_g (lw_at lw_m2 165 rfl) rfl
theorem q512 : (Jvm.Cond.selects "SaturdayKeep$Scene" ({ cls := "SaturdayKeep$Scene", name := "of", desc := "(LSaturdayKeep$Fact;)I" } : Jvm.MethodName) ({ cls := "SaturdayKeep$Scene", name := "of", desc := "(LSaturdayKeep$Fact;)I" } : Jvm.MethodName)) ∈ lw_all := lw_g (lw_at lw_m2 166 rfl) rfl
theorem q513 : (Jvm.Cond.code ({ cls := "SaturdayKeep$Scene", name := "of", desc := "(LSaturdayKeep$Fact;)I" } : Jvm.MethodName) prog_12_method_2_code (2 : Nat) (Option.some Jvm.ClassFile.FieldType.int)) ∈ lw_all := lw_g (lw_at lw_m2 167 rfl) rfl
theorem q514 : (Jvm.Cond.methodLink "SaturdayKeep$Scene" (7 : Nat) ({ cls := "SaturdayKeep$Fact", name := "ordinal", desc := "()I" } : Jvm.MethodName)) ∈ lw_all := lw_g (lw_at lw_m2 168 rfl) rfl
theorem q1472 : (Jvm.Cond.selects "SaturdayKeep$Scene" ({ cls := "java/lang/Object", name := "getClass", desc := "()Ljava/lang/Class;" } : Jvm.MethodName) ({ cls := "java/lang/Object", name := "getClass", desc := "()Ljava/lang/Class;" } : Jvm.MethodName)) ∈ lw_all := lw_g (lw_at lw_m6 166 rfl) rfl
theorem q2508 : (Jvm.Cond.castable "SaturdayKeep$Scene" "java/lang/Object") ∈ lw_tbl := lw_at lw_m11 2 rfl
theorem in_X4 : ∀ w ∈ wsX40, w ∈ lw_all := lw_in wsX40 [311, 313, 315, 317, 319, 321, 323, 325, 327] (by decide +kernel) (by decide +kernel)
/-! SaturdayKeep$Lodge -/
set_option maxRecDepth 100000
def RX5 : String := "SaturdayKeep$Lodge"
def TX5 : u_T := fun k => match k with
  | 0 => ("SaturdayKeep$Lodge", "least", "[I", true)
  | _ => ("SaturdayKeep$Lodge", "this$0", "LSaturdayKeep;", true)
def tyX5 : Nat → FieldType := fun k => match k with
  | 0 => .array .int
  | _ => .object "SaturdayKeep"
abbrev wsX50 : List Cond := u_ws RX5 TX5 2
theorem nmX5 : ∀ a, a < 2 → ∀ b, b < 2 → a ≠ b → (TX5 a).2.1 ≠ (TX5 b).2.1 := by decide +kernel
theorem tyX5_ok : ∀ k, k < 2 → parseFieldDescriptor (TX5 k).2.2.1 = some (tyX5 k) := by decide +kernel
abbrev cX5_init : ByteArray := prog_7_method_1_code
def yX5_init : MethodName := ⟨RX5, "<init>", "(LSaturdayKeep;)V"⟩
def dkwX5_init_0 : List UInt8 := [42, 43, 181, 0, 3, 42, 183, 0, 9, 42, 17, 9, 0, 188, 10, 181, 0, 15, 177]
abbrev dktX5_init_0 : List UInt8 := dkwX5_init_0 ++ []
theorem dksX5_init_0 : cX5_init.data.toList.drop 0 = dktX5_init_0 := by decide +kernel
theorem dX5_init_0 : decode cX5_init 0 = .ok (.aload_n 0, 1) := dk_42 (dk_at dksX5_init_0 0 rfl rfl)
theorem dX5_init_1 : decode cX5_init 1 = .ok (.aload_n 1, 1) := dk_43 (dk_at dksX5_init_0 1 rfl rfl)
theorem dX5_init_2 : decode cX5_init 2 = .ok (.putfield 3, 3) := dk_181 0 3 (dk_at dksX5_init_0 2 rfl rfl)
theorem dX5_init_5 : decode cX5_init 5 = .ok (.aload_n 0, 1) := dk_42 (dk_at dksX5_init_0 5 rfl rfl)
theorem dX5_init_6 : decode cX5_init 6 = .ok (.invokespecial 9, 3) := dk_183 0 9 (dk_at dksX5_init_0 6 rfl rfl)
theorem dX5_init_9 : decode cX5_init 9 = .ok (.aload_n 0, 1) := dk_42 (dk_at dksX5_init_0 9 rfl rfl)
theorem dX5_init_10 : decode cX5_init 10 = .ok (.sipush 2304, 3) := dk_17 9 0 (dk_at dksX5_init_0 10 rfl rfl)
theorem dX5_init_13 : decode cX5_init 13 = .ok (.newarray .int, 2) := dk_188_10 (dk_at dksX5_init_0 13 rfl rfl)
theorem dX5_init_15 : decode cX5_init 15 = .ok (.putfield 15, 3) := dk_181 0 15 (dk_at dksX5_init_0 15 rfl rfl)
theorem dX5_init_18 : decode cX5_init 18 = .ok (.return_, 1) := dk_177 (dk_at dksX5_init_0 18 rfl rfl)
abbrev cX5_is : ByteArray := prog_7_method_6_code
def yX5_is : MethodName := ⟨RX5, "is", "()LSaturdayKeep$Lodge;"⟩
def dkwX5_is_3 : List UInt8 := [42, 27, 28, 182, 0, 68, 79, 132, 2, 1, 167, 255, 229, 132, 1, 255, 167, 255, 217, 42, 176]
abbrev dktX5_is_3 : List UInt8 := dkwX5_is_3 ++ []
def dkwX5_is_2 : List UInt8 := [60, 27, 155, 0, 41, 3, 61, 28, 17, 0, 255, 163, 0, 26, 42, 180, 0, 15, 42, 27, 28, 182, 0, 41]
abbrev dktX5_is_2 : List UInt8 := dkwX5_is_2 ++ dktX5_is_3
def dkwX5_is_1 : List UInt8 := [27, 182, 0, 41, 3, 79, 132, 1, 1, 167, 255, 225, 42, 180, 0, 3, 180, 0, 23, 180, 0, 65, 4, 100]
abbrev dktX5_is_1 : List UInt8 := dkwX5_is_1 ++ dktX5_is_2
def dkwX5_is_0 : List UInt8 := [3, 60, 27, 17, 0, 255, 163, 0, 30, 42, 180, 0, 15, 42, 42, 180, 0, 3, 180, 0, 23, 180, 0, 65]
abbrev dktX5_is_0 : List UInt8 := dkwX5_is_0 ++ dktX5_is_1
theorem dksX5_is_0 : cX5_is.data.toList.drop 0 = dktX5_is_0 := by decide +kernel
theorem dksX5_is_1 : cX5_is.data.toList.drop 24 = dktX5_is_1 := dk_seg dksX5_is_0 24 rfl rfl
theorem dksX5_is_2 : cX5_is.data.toList.drop 48 = dktX5_is_2 := dk_seg dksX5_is_1 24 rfl rfl
theorem dksX5_is_3 : cX5_is.data.toList.drop 72 = dktX5_is_3 := dk_seg dksX5_is_2 24 rfl rfl
theorem dX5_is_0 : decode cX5_is 0 = .ok (.iconst 0, 1) := dk_3 (dk_at dksX5_is_0 0 rfl rfl)
theorem dX5_is_1 : decode cX5_is 1 = .ok (.istore_n 1, 1) := dk_60 (dk_at dksX5_is_0 1 rfl rfl)
theorem dX5_is_2 : decode cX5_is 2 = .ok (.iload_n 1, 1) := dk_27 (dk_at dksX5_is_0 2 rfl rfl)
theorem dX5_is_3 : decode cX5_is 3 = .ok (.sipush 255, 3) := dk_17 0 255 (dk_at dksX5_is_0 3 rfl rfl)
theorem dX5_is_6 : decode cX5_is 6 = .ok (.if_icmp .gt 30, 3) := dk_163 0 30 (dk_at dksX5_is_0 6 rfl rfl)
theorem dX5_is_9 : decode cX5_is 9 = .ok (.aload_n 0, 1) := dk_42 (dk_at dksX5_is_0 9 rfl rfl)
theorem dX5_is_10 : decode cX5_is 10 = .ok (.getfield 15, 3) := dk_180 0 15 (dk_at dksX5_is_0 10 rfl rfl)
theorem dX5_is_13 : decode cX5_is 13 = .ok (.aload_n 0, 1) := dk_42 (dk_at dksX5_is_0 13 rfl rfl)
theorem dX5_is_14 : decode cX5_is 14 = .ok (.aload_n 0, 1) := dk_42 (dk_at dksX5_is_0 14 rfl rfl)
theorem dX5_is_15 : decode cX5_is 15 = .ok (.getfield 3, 3) := dk_180 0 3 (dk_at dksX5_is_0 15 rfl rfl)
theorem dX5_is_18 : decode cX5_is 18 = .ok (.getfield 23, 3) := dk_180 0 23 (dk_at dksX5_is_0 18 rfl rfl)
theorem dX5_is_21 : decode cX5_is 21 = .ok (.getfield 65, 3) := dk_180 0 65 (dk_at dksX5_is_0 21 rfl rfl)
theorem dX5_is_24 : decode cX5_is 24 = .ok (.iload_n 1, 1) := dk_27 (dk_at dksX5_is_1 0 rfl rfl)
theorem dX5_is_25 : decode cX5_is 25 = .ok (.invokevirtual 41, 3) := dk_182 0 41 (dk_at dksX5_is_1 1 rfl rfl)
theorem dX5_is_28 : decode cX5_is 28 = .ok (.iconst 0, 1) := dk_3 (dk_at dksX5_is_1 4 rfl rfl)
theorem dX5_is_29 : decode cX5_is 29 = .ok (.iastore, 1) := dk_79 (dk_at dksX5_is_1 5 rfl rfl)
theorem dX5_is_30 : decode cX5_is 30 = .ok (.iinc 1 1, 3) := dk_132 1 1 (dk_at dksX5_is_1 6 rfl rfl)
theorem dX5_is_33 : decode cX5_is 33 = .ok (.goto (-31), 3) := dk_167 255 225 (dk_at dksX5_is_1 9 rfl rfl)
theorem dX5_is_36 : decode cX5_is 36 = .ok (.aload_n 0, 1) := dk_42 (dk_at dksX5_is_1 12 rfl rfl)
theorem dX5_is_37 : decode cX5_is 37 = .ok (.getfield 3, 3) := dk_180 0 3 (dk_at dksX5_is_1 13 rfl rfl)
theorem dX5_is_40 : decode cX5_is 40 = .ok (.getfield 23, 3) := dk_180 0 23 (dk_at dksX5_is_1 16 rfl rfl)
theorem dX5_is_43 : decode cX5_is 43 = .ok (.getfield 65, 3) := dk_180 0 65 (dk_at dksX5_is_1 19 rfl rfl)
theorem dX5_is_46 : decode cX5_is 46 = .ok (.iconst 1, 1) := dk_4 (dk_at dksX5_is_1 22 rfl rfl)
theorem dX5_is_47 : decode cX5_is 47 = .ok (.isub, 1) := dk_100 (dk_at dksX5_is_1 23 rfl rfl)
theorem dX5_is_48 : decode cX5_is 48 = .ok (.istore_n 1, 1) := dk_60 (dk_at dksX5_is_2 0 rfl rfl)
theorem dX5_is_49 : decode cX5_is 49 = .ok (.iload_n 1, 1) := dk_27 (dk_at dksX5_is_2 1 rfl rfl)
theorem dX5_is_50 : decode cX5_is 50 = .ok (.ifCond .lt 41, 3) := dk_155 0 41 (dk_at dksX5_is_2 2 rfl rfl)
theorem dX5_is_53 : decode cX5_is 53 = .ok (.iconst 0, 1) := dk_3 (dk_at dksX5_is_2 5 rfl rfl)
theorem dX5_is_54 : decode cX5_is 54 = .ok (.istore_n 2, 1) := dk_61 (dk_at dksX5_is_2 6 rfl rfl)
theorem dX5_is_55 : decode cX5_is 55 = .ok (.iload_n 2, 1) := dk_28 (dk_at dksX5_is_2 7 rfl rfl)
theorem dX5_is_56 : decode cX5_is 56 = .ok (.sipush 255, 3) := dk_17 0 255 (dk_at dksX5_is_2 8 rfl rfl)
theorem dX5_is_59 : decode cX5_is 59 = .ok (.if_icmp .gt 26, 3) := dk_163 0 26 (dk_at dksX5_is_2 11 rfl rfl)
theorem dX5_is_62 : decode cX5_is 62 = .ok (.aload_n 0, 1) := dk_42 (dk_at dksX5_is_2 14 rfl rfl)
theorem dX5_is_63 : decode cX5_is 63 = .ok (.getfield 15, 3) := dk_180 0 15 (dk_at dksX5_is_2 15 rfl rfl)
theorem dX5_is_66 : decode cX5_is 66 = .ok (.aload_n 0, 1) := dk_42 (dk_at dksX5_is_2 18 rfl rfl)
theorem dX5_is_67 : decode cX5_is 67 = .ok (.iload_n 1, 1) := dk_27 (dk_at dksX5_is_2 19 rfl rfl)
theorem dX5_is_68 : decode cX5_is 68 = .ok (.iload_n 2, 1) := dk_28 (dk_at dksX5_is_2 20 rfl rfl)
theorem dX5_is_69 : decode cX5_is 69 = .ok (.invokevirtual 41, 3) := dk_182 0 41 (dk_at dksX5_is_2 21 rfl rfl)
theorem dX5_is_72 : decode cX5_is 72 = .ok (.aload_n 0, 1) := dk_42 (dk_at dksX5_is_3 0 rfl rfl)
theorem dX5_is_73 : decode cX5_is 73 = .ok (.iload_n 1, 1) := dk_27 (dk_at dksX5_is_3 1 rfl rfl)
theorem dX5_is_74 : decode cX5_is 74 = .ok (.iload_n 2, 1) := dk_28 (dk_at dksX5_is_3 2 rfl rfl)
theorem dX5_is_75 : decode cX5_is 75 = .ok (.invokevirtual 68, 3) := dk_182 0 68 (dk_at dksX5_is_3 3 rfl rfl)
theorem dX5_is_78 : decode cX5_is 78 = .ok (.iastore, 1) := dk_79 (dk_at dksX5_is_3 6 rfl rfl)
theorem dX5_is_79 : decode cX5_is 79 = .ok (.iinc 2 1, 3) := dk_132 2 1 (dk_at dksX5_is_3 7 rfl rfl)
theorem dX5_is_82 : decode cX5_is 82 = .ok (.goto (-27), 3) := dk_167 255 229 (dk_at dksX5_is_3 10 rfl rfl)
theorem dX5_is_85 : decode cX5_is 85 = .ok (.iinc 1 (-1), 3) := dk_132 1 255 (dk_at dksX5_is_3 13 rfl rfl)
theorem dX5_is_88 : decode cX5_is 88 = .ok (.goto (-39), 3) := dk_167 255 217 (dk_at dksX5_is_3 16 rfl rfl)
theorem dX5_is_91 : decode cX5_is 91 = .ok (.aload_n 0, 1) := dk_42 (dk_at dksX5_is_3 19 rfl rfl)
theorem dX5_is_92 : decode cX5_is 92 = .ok (.areturn, 1) := dk_176 (dk_at dksX5_is_3 20 rfl rfl)
abbrev cX5_at : ByteArray := prog_7_method_2_code
def yX5_at : MethodName := ⟨RX5, "at", "(II)I"⟩
def dkwX5_at_0 : List UInt8 := [27, 16, 8, 120, 28, 96, 172]
abbrev dktX5_at_0 : List UInt8 := dkwX5_at_0 ++ []
theorem dksX5_at_0 : cX5_at.data.toList.drop 0 = dktX5_at_0 := by decide +kernel
theorem dX5_at_0 : decode cX5_at 0 = .ok (.iload_n 1, 1) := dk_27 (dk_at dksX5_at_0 0 rfl rfl)
theorem dX5_at_1 : decode cX5_at 1 = .ok (.bipush 8, 2) := dk_16 8 (dk_at dksX5_at_0 1 rfl rfl)
theorem dX5_at_3 : decode cX5_at 3 = .ok (.ishl, 1) := dk_120 (dk_at dksX5_at_0 3 rfl rfl)
theorem dX5_at_4 : decode cX5_at 4 = .ok (.iload_n 2, 1) := dk_28 (dk_at dksX5_at_0 4 rfl rfl)
theorem dX5_at_5 : decode cX5_at 5 = .ok (.iadd, 1) := dk_96 (dk_at dksX5_at_0 5 rfl rfl)
theorem dX5_at_6 : decode cX5_at 6 = .ok (.ireturn, 1) := dk_172 (dk_at dksX5_at_0 6 rfl rfl)
abbrev cX5_best : ByteArray := prog_7_method_5_code
def yX5_best : MethodName := ⟨RX5, "best", "(II)I"⟩
def dkwX5_best_3 : List UInt8 := [167, 255, 222, 18, 51, 29, 184, 0, 60, 172]
abbrev dktX5_best_3 : List UInt8 := dkwX5_best_3 ++ []
def dkwX5_best_2 : List UInt8 := [182, 0, 52, 153, 0, 16, 29, 42, 27, 28, 21, 4, 182, 0, 56, 184, 0, 60, 62, 132, 4, 1]
abbrev dktX5_best_2 : List UInt8 := dkwX5_best_2 ++ dktX5_best_3
def dkwX5_best_1 : List UInt8 := [182, 0, 41, 46, 172, 18, 51, 62, 3, 54, 4, 21, 4, 16, 8, 162, 0, 33, 42, 27, 28, 21, 4]
abbrev dktX5_best_1 : List UInt8 := dkwX5_best_1 ++ dktX5_best_2
def dkwX5_best_0 : List UInt8 := [42, 180, 0, 3, 180, 0, 23, 180, 0, 48, 27, 51, 154, 0, 17, 42, 180, 0, 15, 42, 27, 4, 96, 28]
abbrev dktX5_best_0 : List UInt8 := dkwX5_best_0 ++ dktX5_best_1
theorem dksX5_best_0 : cX5_best.data.toList.drop 0 = dktX5_best_0 := by decide +kernel
theorem dksX5_best_1 : cX5_best.data.toList.drop 24 = dktX5_best_1 := dk_seg dksX5_best_0 24 rfl rfl
theorem dksX5_best_2 : cX5_best.data.toList.drop 47 = dktX5_best_2 := dk_seg dksX5_best_1 23 rfl rfl
theorem dksX5_best_3 : cX5_best.data.toList.drop 69 = dktX5_best_3 := dk_seg dksX5_best_2 22 rfl rfl
theorem dX5_best_0 : decode cX5_best 0 = .ok (.aload_n 0, 1) := dk_42 (dk_at dksX5_best_0 0 rfl rfl)
theorem dX5_best_1 : decode cX5_best 1 = .ok (.getfield 3, 3) := dk_180 0 3 (dk_at dksX5_best_0 1 rfl rfl)
theorem dX5_best_4 : decode cX5_best 4 = .ok (.getfield 23, 3) := dk_180 0 23 (dk_at dksX5_best_0 4 rfl rfl)
theorem dX5_best_7 : decode cX5_best 7 = .ok (.getfield 48, 3) := dk_180 0 48 (dk_at dksX5_best_0 7 rfl rfl)
theorem dX5_best_10 : decode cX5_best 10 = .ok (.iload_n 1, 1) := dk_27 (dk_at dksX5_best_0 10 rfl rfl)
theorem dX5_best_11 : decode cX5_best 11 = .ok (.baload, 1) := dk_51 (dk_at dksX5_best_0 11 rfl rfl)
theorem dX5_best_12 : decode cX5_best 12 = .ok (.ifCond .ne 17, 3) := dk_154 0 17 (dk_at dksX5_best_0 12 rfl rfl)
theorem dX5_best_15 : decode cX5_best 15 = .ok (.aload_n 0, 1) := dk_42 (dk_at dksX5_best_0 15 rfl rfl)
theorem dX5_best_16 : decode cX5_best 16 = .ok (.getfield 15, 3) := dk_180 0 15 (dk_at dksX5_best_0 16 rfl rfl)
theorem dX5_best_19 : decode cX5_best 19 = .ok (.aload_n 0, 1) := dk_42 (dk_at dksX5_best_0 19 rfl rfl)
theorem dX5_best_20 : decode cX5_best 20 = .ok (.iload_n 1, 1) := dk_27 (dk_at dksX5_best_0 20 rfl rfl)
theorem dX5_best_21 : decode cX5_best 21 = .ok (.iconst 1, 1) := dk_4 (dk_at dksX5_best_0 21 rfl rfl)
theorem dX5_best_22 : decode cX5_best 22 = .ok (.iadd, 1) := dk_96 (dk_at dksX5_best_0 22 rfl rfl)
theorem dX5_best_23 : decode cX5_best 23 = .ok (.iload_n 2, 1) := dk_28 (dk_at dksX5_best_0 23 rfl rfl)
theorem dX5_best_24 : decode cX5_best 24 = .ok (.invokevirtual 41, 3) := dk_182 0 41 (dk_at dksX5_best_1 0 rfl rfl)
theorem dX5_best_27 : decode cX5_best 27 = .ok (.iaload, 1) := dk_46 (dk_at dksX5_best_1 3 rfl rfl)
theorem dX5_best_28 : decode cX5_best 28 = .ok (.ireturn, 1) := dk_172 (dk_at dksX5_best_1 4 rfl rfl)
theorem dX5_best_29 : decode cX5_best 29 = .ok (.ldc 51, 2) := dk_18 51 (dk_at dksX5_best_1 5 rfl rfl)
theorem dX5_best_31 : decode cX5_best 31 = .ok (.istore_n 3, 1) := dk_62 (dk_at dksX5_best_1 7 rfl rfl)
theorem dX5_best_32 : decode cX5_best 32 = .ok (.iconst 0, 1) := dk_3 (dk_at dksX5_best_1 8 rfl rfl)
theorem dX5_best_33 : decode cX5_best 33 = .ok (.istore 4, 2) := dk_54 4 (dk_at dksX5_best_1 9 rfl rfl)
theorem dX5_best_35 : decode cX5_best 35 = .ok (.iload 4, 2) := dk_21 4 (dk_at dksX5_best_1 11 rfl rfl)
theorem dX5_best_37 : decode cX5_best 37 = .ok (.bipush 8, 2) := dk_16 8 (dk_at dksX5_best_1 13 rfl rfl)
theorem dX5_best_39 : decode cX5_best 39 = .ok (.if_icmp .ge 33, 3) := dk_162 0 33 (dk_at dksX5_best_1 15 rfl rfl)
theorem dX5_best_42 : decode cX5_best 42 = .ok (.aload_n 0, 1) := dk_42 (dk_at dksX5_best_1 18 rfl rfl)
theorem dX5_best_43 : decode cX5_best 43 = .ok (.iload_n 1, 1) := dk_27 (dk_at dksX5_best_1 19 rfl rfl)
theorem dX5_best_44 : decode cX5_best 44 = .ok (.iload_n 2, 1) := dk_28 (dk_at dksX5_best_1 20 rfl rfl)
theorem dX5_best_45 : decode cX5_best 45 = .ok (.iload 4, 2) := dk_21 4 (dk_at dksX5_best_1 21 rfl rfl)
theorem dX5_best_47 : decode cX5_best 47 = .ok (.invokevirtual 52, 3) := dk_182 0 52 (dk_at dksX5_best_2 0 rfl rfl)
theorem dX5_best_50 : decode cX5_best 50 = .ok (.ifCond .eq 16, 3) := dk_153 0 16 (dk_at dksX5_best_2 3 rfl rfl)
theorem dX5_best_53 : decode cX5_best 53 = .ok (.iload_n 3, 1) := dk_29 (dk_at dksX5_best_2 6 rfl rfl)
theorem dX5_best_54 : decode cX5_best 54 = .ok (.aload_n 0, 1) := dk_42 (dk_at dksX5_best_2 7 rfl rfl)
theorem dX5_best_55 : decode cX5_best 55 = .ok (.iload_n 1, 1) := dk_27 (dk_at dksX5_best_2 8 rfl rfl)
theorem dX5_best_56 : decode cX5_best 56 = .ok (.iload_n 2, 1) := dk_28 (dk_at dksX5_best_2 9 rfl rfl)
theorem dX5_best_57 : decode cX5_best 57 = .ok (.iload 4, 2) := dk_21 4 (dk_at dksX5_best_2 10 rfl rfl)
theorem dX5_best_59 : decode cX5_best 59 = .ok (.invokevirtual 56, 3) := dk_182 0 56 (dk_at dksX5_best_2 12 rfl rfl)
theorem dX5_best_62 : decode cX5_best 62 = .ok (.invokestatic 60, 3) := dk_184 0 60 (dk_at dksX5_best_2 15 rfl rfl)
theorem dX5_best_65 : decode cX5_best 65 = .ok (.istore_n 3, 1) := dk_62 (dk_at dksX5_best_2 18 rfl rfl)
theorem dX5_best_66 : decode cX5_best 66 = .ok (.iinc 4 1, 3) := dk_132 4 1 (dk_at dksX5_best_2 19 rfl rfl)
theorem dX5_best_69 : decode cX5_best 69 = .ok (.goto (-34), 3) := dk_167 255 222 (dk_at dksX5_best_3 0 rfl rfl)
theorem dX5_best_72 : decode cX5_best 72 = .ok (.ldc 51, 2) := dk_18 51 (dk_at dksX5_best_3 3 rfl rfl)
theorem dX5_best_74 : decode cX5_best 74 = .ok (.iload_n 3, 1) := dk_29 (dk_at dksX5_best_3 5 rfl rfl)
theorem dX5_best_75 : decode cX5_best 75 = .ok (.invokestatic 60, 3) := dk_184 0 60 (dk_at dksX5_best_3 6 rfl rfl)
theorem dX5_best_78 : decode cX5_best 78 = .ok (.ireturn, 1) := dk_172 (dk_at dksX5_best_3 9 rfl rfl)
abbrev cX5_can : ByteArray := prog_7_method_3_code
def yX5_can : MethodName := ⟨RX5, "can", "(III)Z"⟩
def dkwX5_can_2 : List UInt8 := [4, 167, 0, 4, 3, 172]
abbrev dktX5_can_2 : List UInt8 := dkwX5_can_2 ++ []
def dkwX5_can_1 : List UInt8 := [180, 0, 27, 27, 51, 182, 0, 33, 42, 180, 0, 3, 180, 0, 23, 180, 0, 37, 184, 0, 19, 154, 0, 7]
abbrev dktX5_can_1 : List UInt8 := dkwX5_can_1 ++ dktX5_can_2
def dkwX5_can_0 : List UInt8 := [28, 29, 184, 0, 19, 154, 0, 46, 42, 180, 0, 3, 180, 0, 23, 29, 42, 180, 0, 3, 180, 0, 23]
abbrev dktX5_can_0 : List UInt8 := dkwX5_can_0 ++ dktX5_can_1
theorem dksX5_can_0 : cX5_can.data.toList.drop 0 = dktX5_can_0 := by decide +kernel
theorem dksX5_can_1 : cX5_can.data.toList.drop 23 = dktX5_can_1 := dk_seg dksX5_can_0 23 rfl rfl
theorem dksX5_can_2 : cX5_can.data.toList.drop 47 = dktX5_can_2 := dk_seg dksX5_can_1 24 rfl rfl
theorem dX5_can_0 : decode cX5_can 0 = .ok (.iload_n 2, 1) := dk_28 (dk_at dksX5_can_0 0 rfl rfl)
theorem dX5_can_1 : decode cX5_can 1 = .ok (.iload_n 3, 1) := dk_29 (dk_at dksX5_can_0 1 rfl rfl)
theorem dX5_can_2 : decode cX5_can 2 = .ok (.invokestatic 19, 3) := dk_184 0 19 (dk_at dksX5_can_0 2 rfl rfl)
theorem dX5_can_5 : decode cX5_can 5 = .ok (.ifCond .ne 46, 3) := dk_154 0 46 (dk_at dksX5_can_0 5 rfl rfl)
theorem dX5_can_8 : decode cX5_can 8 = .ok (.aload_n 0, 1) := dk_42 (dk_at dksX5_can_0 8 rfl rfl)
theorem dX5_can_9 : decode cX5_can 9 = .ok (.getfield 3, 3) := dk_180 0 3 (dk_at dksX5_can_0 9 rfl rfl)
theorem dX5_can_12 : decode cX5_can 12 = .ok (.getfield 23, 3) := dk_180 0 23 (dk_at dksX5_can_0 12 rfl rfl)
theorem dX5_can_15 : decode cX5_can 15 = .ok (.iload_n 3, 1) := dk_29 (dk_at dksX5_can_0 15 rfl rfl)
theorem dX5_can_16 : decode cX5_can 16 = .ok (.aload_n 0, 1) := dk_42 (dk_at dksX5_can_0 16 rfl rfl)
theorem dX5_can_17 : decode cX5_can 17 = .ok (.getfield 3, 3) := dk_180 0 3 (dk_at dksX5_can_0 17 rfl rfl)
theorem dX5_can_20 : decode cX5_can 20 = .ok (.getfield 23, 3) := dk_180 0 23 (dk_at dksX5_can_0 20 rfl rfl)
theorem dX5_can_23 : decode cX5_can 23 = .ok (.getfield 27, 3) := dk_180 0 27 (dk_at dksX5_can_1 0 rfl rfl)
theorem dX5_can_26 : decode cX5_can 26 = .ok (.iload_n 1, 1) := dk_27 (dk_at dksX5_can_1 3 rfl rfl)
theorem dX5_can_27 : decode cX5_can 27 = .ok (.baload, 1) := dk_51 (dk_at dksX5_can_1 4 rfl rfl)
theorem dX5_can_28 : decode cX5_can 28 = .ok (.invokevirtual 33, 3) := dk_182 0 33 (dk_at dksX5_can_1 5 rfl rfl)
theorem dX5_can_31 : decode cX5_can 31 = .ok (.aload_n 0, 1) := dk_42 (dk_at dksX5_can_1 8 rfl rfl)
theorem dX5_can_32 : decode cX5_can 32 = .ok (.getfield 3, 3) := dk_180 0 3 (dk_at dksX5_can_1 9 rfl rfl)
theorem dX5_can_35 : decode cX5_can 35 = .ok (.getfield 23, 3) := dk_180 0 23 (dk_at dksX5_can_1 12 rfl rfl)
theorem dX5_can_38 : decode cX5_can 38 = .ok (.getfield 37, 3) := dk_180 0 37 (dk_at dksX5_can_1 15 rfl rfl)
theorem dX5_can_41 : decode cX5_can 41 = .ok (.invokestatic 19, 3) := dk_184 0 19 (dk_at dksX5_can_1 18 rfl rfl)
theorem dX5_can_44 : decode cX5_can 44 = .ok (.ifCond .ne 7, 3) := dk_154 0 7 (dk_at dksX5_can_1 21 rfl rfl)
theorem dX5_can_47 : decode cX5_can 47 = .ok (.iconst 1, 1) := dk_4 (dk_at dksX5_can_2 0 rfl rfl)
theorem dX5_can_48 : decode cX5_can 48 = .ok (.goto 4, 3) := dk_167 0 4 (dk_at dksX5_can_2 1 rfl rfl)
theorem dX5_can_51 : decode cX5_can 51 = .ok (.iconst 0, 1) := dk_3 (dk_at dksX5_can_2 4 rfl rfl)
theorem dX5_can_52 : decode cX5_can 52 = .ok (.ireturn, 1) := dk_172 (dk_at dksX5_can_2 5 rfl rfl)
abbrev cX5_by : ByteArray := prog_7_method_4_code
def yX5_by : MethodName := ⟨RX5, "by", "(III)I"⟩
def dkwX5_by_1 : List UInt8 := [180, 0, 45, 27, 46, 29, 160, 0, 7, 3, 167, 0, 4, 4, 96, 172]
abbrev dktX5_by_1 : List UInt8 := dkwX5_by_1 ++ []
def dkwX5_by_0 : List UInt8 := [42, 180, 0, 15, 42, 27, 4, 96, 28, 4, 29, 120, 128, 182, 0, 41, 46, 42, 180, 0, 3, 180, 0, 23]
abbrev dktX5_by_0 : List UInt8 := dkwX5_by_0 ++ dktX5_by_1
theorem dksX5_by_0 : cX5_by.data.toList.drop 0 = dktX5_by_0 := by decide +kernel
theorem dksX5_by_1 : cX5_by.data.toList.drop 24 = dktX5_by_1 := dk_seg dksX5_by_0 24 rfl rfl
theorem dX5_by_0 : decode cX5_by 0 = .ok (.aload_n 0, 1) := dk_42 (dk_at dksX5_by_0 0 rfl rfl)
theorem dX5_by_1 : decode cX5_by 1 = .ok (.getfield 15, 3) := dk_180 0 15 (dk_at dksX5_by_0 1 rfl rfl)
theorem dX5_by_4 : decode cX5_by 4 = .ok (.aload_n 0, 1) := dk_42 (dk_at dksX5_by_0 4 rfl rfl)
theorem dX5_by_5 : decode cX5_by 5 = .ok (.iload_n 1, 1) := dk_27 (dk_at dksX5_by_0 5 rfl rfl)
theorem dX5_by_6 : decode cX5_by 6 = .ok (.iconst 1, 1) := dk_4 (dk_at dksX5_by_0 6 rfl rfl)
theorem dX5_by_7 : decode cX5_by 7 = .ok (.iadd, 1) := dk_96 (dk_at dksX5_by_0 7 rfl rfl)
theorem dX5_by_8 : decode cX5_by 8 = .ok (.iload_n 2, 1) := dk_28 (dk_at dksX5_by_0 8 rfl rfl)
theorem dX5_by_9 : decode cX5_by 9 = .ok (.iconst 1, 1) := dk_4 (dk_at dksX5_by_0 9 rfl rfl)
theorem dX5_by_10 : decode cX5_by 10 = .ok (.iload_n 3, 1) := dk_29 (dk_at dksX5_by_0 10 rfl rfl)
theorem dX5_by_11 : decode cX5_by 11 = .ok (.ishl, 1) := dk_120 (dk_at dksX5_by_0 11 rfl rfl)
theorem dX5_by_12 : decode cX5_by 12 = .ok (.ior, 1) := dk_128 (dk_at dksX5_by_0 12 rfl rfl)
theorem dX5_by_13 : decode cX5_by 13 = .ok (.invokevirtual 41, 3) := dk_182 0 41 (dk_at dksX5_by_0 13 rfl rfl)
theorem dX5_by_16 : decode cX5_by 16 = .ok (.iaload, 1) := dk_46 (dk_at dksX5_by_0 16 rfl rfl)
theorem dX5_by_17 : decode cX5_by 17 = .ok (.aload_n 0, 1) := dk_42 (dk_at dksX5_by_0 17 rfl rfl)
theorem dX5_by_18 : decode cX5_by 18 = .ok (.getfield 3, 3) := dk_180 0 3 (dk_at dksX5_by_0 18 rfl rfl)
theorem dX5_by_21 : decode cX5_by 21 = .ok (.getfield 23, 3) := dk_180 0 23 (dk_at dksX5_by_0 21 rfl rfl)
theorem dX5_by_24 : decode cX5_by 24 = .ok (.getfield 45, 3) := dk_180 0 45 (dk_at dksX5_by_1 0 rfl rfl)
theorem dX5_by_27 : decode cX5_by 27 = .ok (.iload_n 1, 1) := dk_27 (dk_at dksX5_by_1 3 rfl rfl)
theorem dX5_by_28 : decode cX5_by 28 = .ok (.iaload, 1) := dk_46 (dk_at dksX5_by_1 4 rfl rfl)
theorem dX5_by_29 : decode cX5_by 29 = .ok (.iload_n 3, 1) := dk_29 (dk_at dksX5_by_1 5 rfl rfl)
theorem dX5_by_30 : decode cX5_by 30 = .ok (.if_icmp .ne 7, 3) := dk_160 0 7 (dk_at dksX5_by_1 6 rfl rfl)
theorem dX5_by_33 : decode cX5_by 33 = .ok (.iconst 0, 1) := dk_3 (dk_at dksX5_by_1 9 rfl rfl)
theorem dX5_by_34 : decode cX5_by 34 = .ok (.goto 4, 3) := dk_167 0 4 (dk_at dksX5_by_1 10 rfl rfl)
theorem dX5_by_37 : decode cX5_by 37 = .ok (.iconst 1, 1) := dk_4 (dk_at dksX5_by_1 13 rfl rfl)
theorem dX5_by_38 : decode cX5_by 38 = .ok (.iadd, 1) := dk_96 (dk_at dksX5_by_1 14 rfl rfl)
theorem dX5_by_39 : decode cX5_by 39 = .ok (.ireturn, 1) := dk_172 (dk_at dksX5_by_1 15 rfl rfl)
abbrev cX5_isNone : ByteArray := prog_7_method_7_code
def yX5_isNone : MethodName := ⟨RX5, "isNone", "()Z"⟩
def dkwX5_isNone_0 : List UInt8 := [42, 180, 0, 15, 3, 46, 18, 51, 161, 0, 7, 4, 167, 0, 4, 3, 172]
abbrev dktX5_isNone_0 : List UInt8 := dkwX5_isNone_0 ++ []
theorem dksX5_isNone_0 : cX5_isNone.data.toList.drop 0 = dktX5_isNone_0 := by decide +kernel
theorem dX5_isNone_0 : decode cX5_isNone 0 = .ok (.aload_n 0, 1) := dk_42 (dk_at dksX5_isNone_0 0 rfl rfl)
theorem dX5_isNone_1 : decode cX5_isNone 1 = .ok (.getfield 15, 3) := dk_180 0 15 (dk_at dksX5_isNone_0 1 rfl rfl)
theorem dX5_isNone_4 : decode cX5_isNone 4 = .ok (.iconst 0, 1) := dk_3 (dk_at dksX5_isNone_0 4 rfl rfl)
theorem dX5_isNone_5 : decode cX5_isNone 5 = .ok (.iaload, 1) := dk_46 (dk_at dksX5_isNone_0 5 rfl rfl)
theorem dX5_isNone_6 : decode cX5_isNone 6 = .ok (.ldc 51, 2) := dk_18 51 (dk_at dksX5_isNone_0 6 rfl rfl)
theorem dX5_isNone_8 : decode cX5_isNone 8 = .ok (.if_icmp .lt 7, 3) := dk_161 0 7 (dk_at dksX5_isNone_0 8 rfl rfl)
theorem dX5_isNone_11 : decode cX5_isNone 11 = .ok (.iconst 1, 1) := dk_4 (dk_at dksX5_isNone_0 11 rfl rfl)
theorem dX5_isNone_12 : decode cX5_isNone 12 = .ok (.goto 4, 3) := dk_167 0 4 (dk_at dksX5_isNone_0 12 rfl rfl)
theorem dX5_isNone_15 : decode cX5_isNone 15 = .ok (.iconst 0, 1) := dk_3 (dk_at dksX5_isNone_0 15 rfl rfl)
theorem dX5_isNone_16 : decode cX5_isNone 16 = .ok (.ireturn, 1) := dk_172 (dk_at dksX5_isNone_0 16 rfl rfl)
abbrev cX5_roomOf : ByteArray := prog_7_method_8_code
def yX5_roomOf : MethodName := ⟨RX5, "roomOf", "(I)I"⟩
def dkwX5_roomOf_4 : List UInt8 := [4, 21, 5, 120, 128, 61, 132, 3, 255, 132, 4, 1, 167, 255, 157, 2, 172]
abbrev dktX5_roomOf_4 : List UInt8 := dkwX5_roomOf_4 ++ []
def dkwX5_roomOf_3 : List UInt8 := [21, 4, 28, 182, 0, 41, 46, 159, 0, 9, 132, 5, 1, 167, 255, 217, 29, 154, 0, 6, 21, 5, 172, 28]
abbrev dktX5_roomOf_3 : List UInt8 := dkwX5_roomOf_3 ++ dktX5_roomOf_4
def dkwX5_roomOf_2 : List UInt8 := [28, 21, 5, 182, 0, 52, 153, 0, 27, 42, 21, 4, 28, 21, 5, 182, 0, 56, 42, 180, 0, 15, 42]
abbrev dktX5_roomOf_2 : List UInt8 := dkwX5_roomOf_2 ++ dktX5_roomOf_3
def dkwX5_roomOf_1 : List UInt8 := [180, 0, 3, 180, 0, 23, 180, 0, 48, 21, 4, 51, 154, 0, 6, 167, 0, 65, 3, 54, 5, 42, 21, 4]
abbrev dktX5_roomOf_1 : List UInt8 := dkwX5_roomOf_1 ++ dktX5_roomOf_2
def dkwX5_roomOf_0 : List UInt8 := [3, 61, 27, 62, 3, 54, 4, 21, 4, 42, 180, 0, 3, 180, 0, 23, 180, 0, 65, 162, 0, 90, 42]
abbrev dktX5_roomOf_0 : List UInt8 := dkwX5_roomOf_0 ++ dktX5_roomOf_1
theorem dksX5_roomOf_0 : cX5_roomOf.data.toList.drop 0 = dktX5_roomOf_0 := by decide +kernel
theorem dksX5_roomOf_1 : cX5_roomOf.data.toList.drop 23 = dktX5_roomOf_1 := dk_seg dksX5_roomOf_0 23 rfl rfl
theorem dksX5_roomOf_2 : cX5_roomOf.data.toList.drop 47 = dktX5_roomOf_2 := dk_seg dksX5_roomOf_1 24 rfl rfl
theorem dksX5_roomOf_3 : cX5_roomOf.data.toList.drop 70 = dktX5_roomOf_3 := dk_seg dksX5_roomOf_2 23 rfl rfl
theorem dksX5_roomOf_4 : cX5_roomOf.data.toList.drop 94 = dktX5_roomOf_4 := dk_seg dksX5_roomOf_3 24 rfl rfl
theorem dX5_roomOf_0 : decode cX5_roomOf 0 = .ok (.iconst 0, 1) := dk_3 (dk_at dksX5_roomOf_0 0 rfl rfl)
theorem dX5_roomOf_1 : decode cX5_roomOf 1 = .ok (.istore_n 2, 1) := dk_61 (dk_at dksX5_roomOf_0 1 rfl rfl)
theorem dX5_roomOf_2 : decode cX5_roomOf 2 = .ok (.iload_n 1, 1) := dk_27 (dk_at dksX5_roomOf_0 2 rfl rfl)
theorem dX5_roomOf_3 : decode cX5_roomOf 3 = .ok (.istore_n 3, 1) := dk_62 (dk_at dksX5_roomOf_0 3 rfl rfl)
theorem dX5_roomOf_4 : decode cX5_roomOf 4 = .ok (.iconst 0, 1) := dk_3 (dk_at dksX5_roomOf_0 4 rfl rfl)
theorem dX5_roomOf_5 : decode cX5_roomOf 5 = .ok (.istore 4, 2) := dk_54 4 (dk_at dksX5_roomOf_0 5 rfl rfl)
theorem dX5_roomOf_7 : decode cX5_roomOf 7 = .ok (.iload 4, 2) := dk_21 4 (dk_at dksX5_roomOf_0 7 rfl rfl)
theorem dX5_roomOf_9 : decode cX5_roomOf 9 = .ok (.aload_n 0, 1) := dk_42 (dk_at dksX5_roomOf_0 9 rfl rfl)
theorem dX5_roomOf_10 : decode cX5_roomOf 10 = .ok (.getfield 3, 3) := dk_180 0 3 (dk_at dksX5_roomOf_0 10 rfl rfl)
theorem dX5_roomOf_13 : decode cX5_roomOf 13 = .ok (.getfield 23, 3) := dk_180 0 23 (dk_at dksX5_roomOf_0 13 rfl rfl)
theorem dX5_roomOf_16 : decode cX5_roomOf 16 = .ok (.getfield 65, 3) := dk_180 0 65 (dk_at dksX5_roomOf_0 16 rfl rfl)
theorem dX5_roomOf_19 : decode cX5_roomOf 19 = .ok (.if_icmp .ge 90, 3) := dk_162 0 90 (dk_at dksX5_roomOf_0 19 rfl rfl)
theorem dX5_roomOf_22 : decode cX5_roomOf 22 = .ok (.aload_n 0, 1) := dk_42 (dk_at dksX5_roomOf_0 22 rfl rfl)
theorem dX5_roomOf_23 : decode cX5_roomOf 23 = .ok (.getfield 3, 3) := dk_180 0 3 (dk_at dksX5_roomOf_1 0 rfl rfl)
theorem dX5_roomOf_26 : decode cX5_roomOf 26 = .ok (.getfield 23, 3) := dk_180 0 23 (dk_at dksX5_roomOf_1 3 rfl rfl)
theorem dX5_roomOf_29 : decode cX5_roomOf 29 = .ok (.getfield 48, 3) := dk_180 0 48 (dk_at dksX5_roomOf_1 6 rfl rfl)
theorem dX5_roomOf_32 : decode cX5_roomOf 32 = .ok (.iload 4, 2) := dk_21 4 (dk_at dksX5_roomOf_1 9 rfl rfl)
theorem dX5_roomOf_34 : decode cX5_roomOf 34 = .ok (.baload, 1) := dk_51 (dk_at dksX5_roomOf_1 11 rfl rfl)
theorem dX5_roomOf_35 : decode cX5_roomOf 35 = .ok (.ifCond .ne 6, 3) := dk_154 0 6 (dk_at dksX5_roomOf_1 12 rfl rfl)
theorem dX5_roomOf_38 : decode cX5_roomOf 38 = .ok (.goto 65, 3) := dk_167 0 65 (dk_at dksX5_roomOf_1 15 rfl rfl)
theorem dX5_roomOf_41 : decode cX5_roomOf 41 = .ok (.iconst 0, 1) := dk_3 (dk_at dksX5_roomOf_1 18 rfl rfl)
theorem dX5_roomOf_42 : decode cX5_roomOf 42 = .ok (.istore 5, 2) := dk_54 5 (dk_at dksX5_roomOf_1 19 rfl rfl)
theorem dX5_roomOf_44 : decode cX5_roomOf 44 = .ok (.aload_n 0, 1) := dk_42 (dk_at dksX5_roomOf_1 21 rfl rfl)
theorem dX5_roomOf_45 : decode cX5_roomOf 45 = .ok (.iload 4, 2) := dk_21 4 (dk_at dksX5_roomOf_1 22 rfl rfl)
theorem dX5_roomOf_47 : decode cX5_roomOf 47 = .ok (.iload_n 2, 1) := dk_28 (dk_at dksX5_roomOf_2 0 rfl rfl)
theorem dX5_roomOf_48 : decode cX5_roomOf 48 = .ok (.iload 5, 2) := dk_21 5 (dk_at dksX5_roomOf_2 1 rfl rfl)
theorem dX5_roomOf_50 : decode cX5_roomOf 50 = .ok (.invokevirtual 52, 3) := dk_182 0 52 (dk_at dksX5_roomOf_2 3 rfl rfl)
theorem dX5_roomOf_53 : decode cX5_roomOf 53 = .ok (.ifCond .eq 27, 3) := dk_153 0 27 (dk_at dksX5_roomOf_2 6 rfl rfl)
theorem dX5_roomOf_56 : decode cX5_roomOf 56 = .ok (.aload_n 0, 1) := dk_42 (dk_at dksX5_roomOf_2 9 rfl rfl)
theorem dX5_roomOf_57 : decode cX5_roomOf 57 = .ok (.iload 4, 2) := dk_21 4 (dk_at dksX5_roomOf_2 10 rfl rfl)
theorem dX5_roomOf_59 : decode cX5_roomOf 59 = .ok (.iload_n 2, 1) := dk_28 (dk_at dksX5_roomOf_2 12 rfl rfl)
theorem dX5_roomOf_60 : decode cX5_roomOf 60 = .ok (.iload 5, 2) := dk_21 5 (dk_at dksX5_roomOf_2 13 rfl rfl)
theorem dX5_roomOf_62 : decode cX5_roomOf 62 = .ok (.invokevirtual 56, 3) := dk_182 0 56 (dk_at dksX5_roomOf_2 15 rfl rfl)
theorem dX5_roomOf_65 : decode cX5_roomOf 65 = .ok (.aload_n 0, 1) := dk_42 (dk_at dksX5_roomOf_2 18 rfl rfl)
theorem dX5_roomOf_66 : decode cX5_roomOf 66 = .ok (.getfield 15, 3) := dk_180 0 15 (dk_at dksX5_roomOf_2 19 rfl rfl)
theorem dX5_roomOf_69 : decode cX5_roomOf 69 = .ok (.aload_n 0, 1) := dk_42 (dk_at dksX5_roomOf_2 22 rfl rfl)
theorem dX5_roomOf_70 : decode cX5_roomOf 70 = .ok (.iload 4, 2) := dk_21 4 (dk_at dksX5_roomOf_3 0 rfl rfl)
theorem dX5_roomOf_72 : decode cX5_roomOf 72 = .ok (.iload_n 2, 1) := dk_28 (dk_at dksX5_roomOf_3 2 rfl rfl)
theorem dX5_roomOf_73 : decode cX5_roomOf 73 = .ok (.invokevirtual 41, 3) := dk_182 0 41 (dk_at dksX5_roomOf_3 3 rfl rfl)
theorem dX5_roomOf_76 : decode cX5_roomOf 76 = .ok (.iaload, 1) := dk_46 (dk_at dksX5_roomOf_3 6 rfl rfl)
theorem dX5_roomOf_77 : decode cX5_roomOf 77 = .ok (.if_icmp .eq 9, 3) := dk_159 0 9 (dk_at dksX5_roomOf_3 7 rfl rfl)
theorem dX5_roomOf_80 : decode cX5_roomOf 80 = .ok (.iinc 5 1, 3) := dk_132 5 1 (dk_at dksX5_roomOf_3 10 rfl rfl)
theorem dX5_roomOf_83 : decode cX5_roomOf 83 = .ok (.goto (-39), 3) := dk_167 255 217 (dk_at dksX5_roomOf_3 13 rfl rfl)
theorem dX5_roomOf_86 : decode cX5_roomOf 86 = .ok (.iload_n 3, 1) := dk_29 (dk_at dksX5_roomOf_3 16 rfl rfl)
theorem dX5_roomOf_87 : decode cX5_roomOf 87 = .ok (.ifCond .ne 6, 3) := dk_154 0 6 (dk_at dksX5_roomOf_3 17 rfl rfl)
theorem dX5_roomOf_90 : decode cX5_roomOf 90 = .ok (.iload 5, 2) := dk_21 5 (dk_at dksX5_roomOf_3 20 rfl rfl)
theorem dX5_roomOf_92 : decode cX5_roomOf 92 = .ok (.ireturn, 1) := dk_172 (dk_at dksX5_roomOf_3 22 rfl rfl)
theorem dX5_roomOf_93 : decode cX5_roomOf 93 = .ok (.iload_n 2, 1) := dk_28 (dk_at dksX5_roomOf_3 23 rfl rfl)
theorem dX5_roomOf_94 : decode cX5_roomOf 94 = .ok (.iconst 1, 1) := dk_4 (dk_at dksX5_roomOf_4 0 rfl rfl)
theorem dX5_roomOf_95 : decode cX5_roomOf 95 = .ok (.iload 5, 2) := dk_21 5 (dk_at dksX5_roomOf_4 1 rfl rfl)
theorem dX5_roomOf_97 : decode cX5_roomOf 97 = .ok (.ishl, 1) := dk_120 (dk_at dksX5_roomOf_4 3 rfl rfl)
theorem dX5_roomOf_98 : decode cX5_roomOf 98 = .ok (.ior, 1) := dk_128 (dk_at dksX5_roomOf_4 4 rfl rfl)
theorem dX5_roomOf_99 : decode cX5_roomOf 99 = .ok (.istore_n 2, 1) := dk_61 (dk_at dksX5_roomOf_4 5 rfl rfl)
theorem dX5_roomOf_100 : decode cX5_roomOf 100 = .ok (.iinc 3 (-1), 3) := dk_132 3 255 (dk_at dksX5_roomOf_4 6 rfl rfl)
theorem dX5_roomOf_103 : decode cX5_roomOf 103 = .ok (.iinc 4 1, 3) := dk_132 4 1 (dk_at dksX5_roomOf_4 9 rfl rfl)
theorem dX5_roomOf_106 : decode cX5_roomOf 106 = .ok (.goto (-99), 3) := dk_167 255 157 (dk_at dksX5_roomOf_4 12 rfl rfl)
theorem dX5_roomOf_109 : decode cX5_roomOf 109 = .ok (.iconst (-1), 1) := dk_2 (dk_at dksX5_roomOf_4 15 rfl rfl)
theorem dX5_roomOf_110 : decode cX5_roomOf 110 = .ok (.ireturn, 1) := dk_172 (dk_at dksX5_roomOf_4 16 rfl rfl)
theorem q114 : (Jvm.Cond.initialized "SaturdayKeep$Lodge") ∈ lw_all := lw_g (lw_at lw_m1 8 rfl) rfl
theorem q165 : (Jvm.Cond.fieldLinkNest "SaturdayKeep$Lodge" (65 : Nat) "SaturdayKeep$World" "guests" "I" "SaturdayKeep") ∈ lw_tbl := lw_at lw_m1 59 rfl
theorem q170 : (Jvm.Cond.fieldLinkNest "SaturdayKeep$Lodge" (37 : Nat) "SaturdayKeep$World" "bath" "I" "SaturdayKeep") ∈ lw_tbl := lw_at lw_m1 64 rfl
theorem q191 : (Jvm.Cond.fieldLinkNest "SaturdayKeep$Lodge" (45 : Nat) "SaturdayKeep$World" "room" "[I" "SaturdayKeep") ∈ lw_tbl := lw_at lw_m1 85 rfl
theorem q198 : (Jvm.Cond.fieldLinkNest "SaturdayKeep$Lodge" (27 : Nat) "SaturdayKeep$World" "key" "[Z" "SaturdayKeep") ∈ lw_tbl := lw_at lw_m1 92 rfl
theorem q201 : (Jvm.Cond.fieldLinkNest "SaturdayKeep$Lodge" (48 : Nat) "SaturdayKeep$World" "here" "[Z" "SaturdayKeep") ∈ lw_tbl := lw_at lw_m1 95 rfl
theorem q357 : (Jvm.Cond.instantiable "SaturdayKeep$Lodge" (2 : Nat)) ∈ lw_all := lw_g (lw_at lw_m2 11 rfl) rfl
theorem q359 : (Jvm.Cond.instanceMethod ({ cls := "SaturdayKeep$Lodge", name := "<init>", desc := "(LSaturdayKeep;)V" } : Jvm.MethodName)) ∈ lw_all := lw_g (lw_at lw_m2 13 rfl) rfl
theorem q360 : (Jvm.Cond.code ({ cls := "SaturdayKeep$Lodge", name := "<init>", desc := "(LSaturdayKeep;)V" } : Jvm.MethodName) prog_7_method_1_code (2 : Nat) (Option.none : Option Jvm.ClassFile.FieldType)) ∈ lw_all := lw_g (lw_at lw_m2 14 rfl) rfl
theorem q361 : (Jvm.Cond.methodLink "SaturdayKeep$Lodge" (9 : Nat) ({ cls := "java/lang/Object", name := "<init>", desc := "()V" } : Jvm.MethodName)) ∈ lw_all := lw_g (lw_at lw_m2 15 rfl) rfl
theorem q362 : (Jvm.Cond.fieldLink "SaturdayKeep$Lodge" (15 : Nat) "SaturdayKeep$Lodge" "least" "[I") ∈ lw_all := lw_g (lw_at lw_m2 16 rfl) rfl
theorem q364 : (Jvm.Cond.fieldLink "SaturdayKeep$Lodge" (3 : Nat) "SaturdayKeep$Lodge" "this$0" "LSaturdayKeep;") ∈ lw_all := lw_g (lw_at lw_m2 18 rfl) rfl
theorem q365 : (Jvm.Cond.laysFinal "SaturdayKeep$Lodge" "SaturdayKeep$Lodge" "least" "[I") ∈ lw_all := lw_g (lw_at lw_m2 19 rfl) rfl
theorem q366 : (Jvm.Cond.soleField "SaturdayKeep$Lodge" "least") ∈ lw_all := lw_g (lw_at lw_m2 20 rfl) rfl
theorem q367 : (Jvm.Cond.laysFinal "SaturdayKeep$Lodge" "SaturdayKeep$Lodge" "this$0" "LSaturdayKeep;") ∈ lw_all := lw_g (lw_at lw_m2 21 rfl) rfl
theorem q368 : (Jvm.Cond.soleField "SaturdayKeep$Lodge" "this$0") ∈ lw_all := lw_g (lw_at lw_m2 22 rfl) rfl
theorem q369 : (Jvm.Cond.superclass "SaturdayKeep$Lodge" "java/lang/Object") ∈ lw_all := lw_g (lw_at lw_m2 23 rfl) rfl
theorem q371 : (Jvm.Cond.fieldLinkNest "SaturdayKeep$Lodge" (23 : Nat) "SaturdayKeep" "world" "LSaturdayKeep$World;" "SaturdayKeep") ∈ lw_tbl := lw_at lw_m2 25 rfl
theorem q651 : (Jvm.Cond.instanceMethod ({ cls := "SaturdayKeep$Lodge", name := "is", desc := "()LSaturdayKeep$Lodge;" } : Jvm.MethodName)) ∈ lw_all := lw_g (lw_at lw_m3 65 rfl) rfl
theorem q652 : (Jvm.Cond.selects "SaturdayKeep$Lodge" ({ cls := "SaturdayKeep$Lodge", name := "is", desc := "()LSaturdayKeep$Lodge;" } : Jvm.MethodName) ({ cls := "SaturdayKeep$Lodge", name := "is", desc := "()LSaturdayKeep$Lodge;" } : Jvm.MethodName)) ∈ lw_all := lw_g (lw_at lw_m3 66 rfl) rfl
theorem q653 : (Jvm.Cond.code ({ cls := "SaturdayKeep$Lodge", name := "is", desc := "()LSaturdayKeep$Lodge;" } : Jvm.MethodName) prog_7_method_6_code (3 : Nat) (Option.some (Jvm.ClassFile.FieldType.object "SaturdayKeep$Lodge"))) ∈ lw_all := lw_g (lw_at lw_m3 67 rfl) rfl
theorem q654 : (Jvm.Cond.methodLink "SaturdayKeep$Lodge" (41 : Nat) ({ cls := "SaturdayKeep$Lodge", name := "at", desc := "(II)I" } : Jvm.MethodName)) ∈ lw_all := lw_g (lw_at lw_m3 68 rfl) rfl
theorem q655 : (Jvm.Cond.privateMethod ({ cls := "SaturdayKeep$Lodge", name := "at", desc := "(II)I" } : Jvm.MethodName)) ∈ lw_tbl := lw_at lw_m3 69 rfl
theorem q656 : (Jvm.Cond.instanceMethod ({ cls := "SaturdayKeep$Lodge", name := "at", desc := "(II)I" } : Jvm.MethodName)) ∈ lw_all := lw_g (lw_at lw_m3 70 rfl) rfl
theorem q657 : (Jvm.Cond.code ({ cls := "SaturdayKeep$Lodge", name := "at", desc := "(II)I" } : Jvm.MethodName) prog_7_method_2_code (3 : Nat) (Option.some Jvm.ClassFile.FieldType.int)) ∈ lw_all := lw_g (lw_at lw_m3 71 rfl) rfl
theorem q658 : (Jvm.Cond.methodLink "SaturdayKeep$Lodge" (68 : Nat) ({ cls := "SaturdayKeep$Lodge", name := "best", desc := "(II)I" } : Jvm.MethodName)) ∈ lw_all := lw_g (lw_at lw_m3 72 rfl) rfl
theorem q659 : (Jvm.Cond.privateMethod ({ cls := "SaturdayKeep$Lodge", name := "best", desc := "(II)I" } : Jvm.MethodName)) ∈ lw_tbl := lw_at lw_m3 73 rfl
theorem q660 : (Jvm.Cond.instanceMethod ({ cls := "SaturdayKeep$Lodge", name := "best", desc := "(II)I" } : Jvm.MethodName)) ∈ lw_all := lw_g (lw_at lw_m3 74 rfl) rfl
theorem q661 : (Jvm.Cond.code ({ cls := "SaturdayKeep$Lodge", name := "best", desc := "(II)I" } : Jvm.MethodName) prog_7_method_5_code (5 : Nat) (Option.some Jvm.ClassFile.FieldType.int)) ∈ lw_all := lw_g (lw_at lw_m3 75 rfl) rfl
theorem q662 : (Jvm.Cond.constant "SaturdayKeep$Lodge" (51 : Nat) (1000000 : Int32)) ∈ lw_all := lw_g (lw_at lw_m3 76 rfl) rfl
theorem q663 : (Jvm.Cond.methodLink "SaturdayKeep$Lodge" (52 : Nat) ({ cls := "SaturdayKeep$Lodge", name := "can", desc := "(III)Z" } : Jvm.MethodName)) ∈ lw_all := lw_g (lw_at lw_m3 77 rfl) rfl
theorem q664 : (Jvm.Cond.privateMethod ({ cls := "SaturdayKeep$Lodge", name := "can", desc := "(III)Z" } : Jvm.MethodName)) ∈ lw_tbl := lw_at lw_m3 78 rfl
theorem q665 : (Jvm.Cond.instanceMethod ({ cls := "SaturdayKeep$Lodge", name := "can", desc := "(III)Z" } : Jvm.MethodName)) ∈ lw_all := lw_g (lw_at lw_m3 79 rfl) rfl
theorem q666 : (Jvm.Cond.code ({ cls := "SaturdayKeep$Lodge", name := "can", desc := "(III)Z" } : Jvm.MethodName) prog_7_method_3_code (4 : Nat) (Option.some Jvm.ClassFile.FieldType.boolean)) ∈ lw_all := lw_g (lw_at lw_m3 80 rfl) rfl
theorem q667 : (Jvm.Cond.methodLinkNest "SaturdayKeep$Lodge" (19 : Nat) ({ cls := "SaturdayKeep", name := "has", desc := "(II)Z" } : Jvm.MethodName) "SaturdayKeep") ∈ lw_tbl := lw_at lw_m3 81 rfl
theorem q668 : (Jvm.Cond.methodLink "SaturdayKeep$Lodge" (33 : Nat) ({ cls := "SaturdayKeep$World", name := "spies", desc := "(IZ)I" } : Jvm.MethodName)) ∈ lw_all := lw_g (lw_at lw_m3 82 rfl) rfl
theorem q669 : (Jvm.Cond.methodLink "SaturdayKeep$Lodge" (56 : Nat) ({ cls := "SaturdayKeep$Lodge", name := "by", desc := "(III)I" } : Jvm.MethodName)) ∈ lw_all := lw_g (lw_at lw_m3 83 rfl) rfl
theorem q670 : (Jvm.Cond.privateMethod ({ cls := "SaturdayKeep$Lodge", name := "by", desc := "(III)I" } : Jvm.MethodName)) ∈ lw_tbl := lw_at lw_m3 84 rfl
theorem q671 : (Jvm.Cond.instanceMethod ({ cls := "SaturdayKeep$Lodge", name := "by", desc := "(III)I" } : Jvm.MethodName)) ∈ lw_all := lw_g (lw_at lw_m3 85 rfl) rfl
theorem q672 : (Jvm.Cond.code ({ cls := "SaturdayKeep$Lodge", name := "by", desc := "(III)I" } : Jvm.MethodName) prog_7_method_4_code (4 : Nat) (Option.some Jvm.ClassFile.FieldType.int)) ∈ lw_all := lw_g (lw_at lw_m3 86 rfl) rfl
theorem q673 : (Jvm.Cond.methodLink "SaturdayKeep$Lodge" (60 : Nat) ({ cls := "java/lang/Math", name := "min", desc := "(II)I" } : Jvm.MethodName)) ∈ lw_all := lw_g (lw_at lw_m3 87 rfl) rfl
theorem q675 : (Jvm.Cond.instanceMethod ({ cls := "SaturdayKeep$Lodge", name := "isNone", desc := "()Z" } : Jvm.MethodName)) ∈ lw_all := lw_g (lw_at lw_m3 89 rfl) rfl
theorem q676 : (Jvm.Cond.selects "SaturdayKeep$Lodge" ({ cls := "SaturdayKeep$Lodge", name := "isNone", desc := "()Z" } : Jvm.MethodName) ({ cls := "SaturdayKeep$Lodge", name := "isNone", desc := "()Z" } : Jvm.MethodName)) ∈ lw_all := lw_g (lw_at lw_m3 90 rfl) rfl
theorem q677 : (Jvm.Cond.code ({ cls := "SaturdayKeep$Lodge", name := "isNone", desc := "()Z" } : Jvm.MethodName) prog_7_method_7_code (1 : Nat) (Option.some Jvm.ClassFile.FieldType.boolean)) ∈ lw_all := lw_g (lw_at lw_m3 91 rfl) rfl
theorem q679 : (Jvm.Cond.instanceMethod ({ cls := "SaturdayKeep$Lodge", name := "roomOf", desc := "(I)I" } : Jvm.MethodName)) ∈ lw_all := lw_g (lw_at lw_m3 93 rfl) rfl
theorem q680 : (Jvm.Cond.selects "SaturdayKeep$Lodge" ({ cls := "SaturdayKeep$Lodge", name := "roomOf", desc := "(I)I" } : Jvm.MethodName) ({ cls := "SaturdayKeep$Lodge", name := "roomOf", desc := "(I)I" } : Jvm.MethodName)) ∈ lw_all := lw_g (lw_at lw_m3 94 rfl) rfl
theorem q681 : (Jvm.Cond.code ({ cls := "SaturdayKeep$Lodge", name := "roomOf", desc := "(I)I" } : Jvm.MethodName) prog_7_method_8_code (6 : Nat) (Option.some Jvm.ClassFile.FieldType.int)) ∈ lw_all := lw_g (lw_at lw_m3 95 rfl) rfl
theorem q1467 : (Jvm.Cond.selects "SaturdayKeep$Lodge" ({ cls := "java/lang/Object", name := "getClass", desc := "()Ljava/lang/Class;" } : Jvm.MethodName) ({ cls := "java/lang/Object", name := "getClass", desc := "()Ljava/lang/Class;" } : Jvm.MethodName)) ∈ lw_all := lw_g (lw_at lw_m6 161 rfl) rfl
theorem q2510 : (Jvm.Cond.castable "SaturdayKeep$Lodge" "java/lang/Object") ∈ lw_tbl := lw_at lw_m11 4 rfl
theorem in_X5 : ∀ w ∈ wsX50, w ∈ lw_all := lw_in wsX50 [365, 367] (by decide +kernel) (by decide +kernel)
/-! SaturdayKeep$Wrong -/
set_option maxRecDepth 100000
def RX7 : String := "SaturdayKeep$Wrong"
def TX7 : u_T := fun k => match k with
  | 0 => ("java/lang/Throwable", "cause", "Ljava/lang/Throwable;", false)
  | 1 => ("java/lang/Throwable", "stackTrace", "[Ljava/lang/StackTraceElement;", false)
  | 2 => ("java/lang/Throwable", "suppressedExceptions", "Ljava/util/List;", false)
  | 3 => ("java/lang/Throwable", "detailMessage", "Ljava/lang/String;", false)
  | 4 => ("java/lang/Throwable", "backtrace", "Ljava/lang/Object;", false)
  | _ => ("java/lang/Throwable", "depth", "I", false)
def tyX7 : Nat → FieldType := fun k => match k with
  | 0 => .object "java/lang/Throwable"
  | 1 => .array (.object "java/lang/StackTraceElement")
  | 2 => .object "java/util/List"
  | 3 => .object "java/lang/String"
  | 4 => .object "java/lang/Object"
  | _ => .int
abbrev wsX70 : List Cond := u_ws RX7 TX7 6
theorem nmX7 : ∀ a, a < 6 → ∀ b, b < 6 → a ≠ b → (TX7 a).2.1 ≠ (TX7 b).2.1 := by decide +kernel
theorem tyX7_ok : ∀ k, k < 6 → parseFieldDescriptor (TX7 k).2.2.1 = some (tyX7 k) := by decide +kernel
abbrev cX7_init : ByteArray := prog_16_method_1_code
def yX7_init : MethodName := ⟨RX7, "<init>", "()V"⟩
def dkwX7_init_0 : List UInt8 := [42, 1, 1, 3, 3, 183, 0, 1, 177]
abbrev dktX7_init_0 : List UInt8 := dkwX7_init_0 ++ []
theorem dksX7_init_0 : cX7_init.data.toList.drop 0 = dktX7_init_0 := by decide +kernel
theorem dX7_init_0 : decode cX7_init 0 = .ok (.aload_n 0, 1) := dk_42 (dk_at dksX7_init_0 0 rfl rfl)
theorem dX7_init_1 : decode cX7_init 1 = .ok (.aconst_null, 1) := dk_1 (dk_at dksX7_init_0 1 rfl rfl)
theorem dX7_init_2 : decode cX7_init 2 = .ok (.aconst_null, 1) := dk_1 (dk_at dksX7_init_0 2 rfl rfl)
theorem dX7_init_3 : decode cX7_init 3 = .ok (.iconst 0, 1) := dk_3 (dk_at dksX7_init_0 3 rfl rfl)
theorem dX7_init_4 : decode cX7_init 4 = .ok (.iconst 0, 1) := dk_3 (dk_at dksX7_init_0 4 rfl rfl)
theorem dX7_init_5 : decode cX7_init 5 = .ok (.invokespecial 1, 3) := dk_183 0 1 (dk_at dksX7_init_0 5 rfl rfl)
theorem dX7_init_8 : decode cX7_init 8 = .ok (.return_, 1) := dk_177 (dk_at dksX7_init_0 8 rfl rfl)
theorem q132 : (Jvm.Cond.initialized "SaturdayKeep$Wrong") ∈ lw_all := lw_g (lw_at lw_m1 26 rfl) rfl
theorem q975 : (Jvm.Cond.selects "SaturdayKeep$Wrong" ({ cls := "java/lang/Throwable", name := "fillInStackTrace", desc := "()Ljava/lang/Throwable;" } : Jvm.MethodName) ({ cls := "java/lang/Throwable", name := "fillInStackTrace", desc := "()Ljava/lang/Throwable;" } : Jvm.MethodName)) ∈ lw_all := lw_g (lw_at lw_m4 149 rfl) rfl
theorem q1118 : (Jvm.Cond.instantiable "SaturdayKeep$Wrong" (6 : Nat)) ∈ lw_all := lw_g (lw_at lw_m5 52 rfl) rfl
theorem q1119 : (Jvm.Cond.castable "SaturdayKeep$Wrong" "SaturdayKeep$Wrong") ∈ lw_tbl := lw_at lw_m5 53 rfl
theorem q1120 : (Jvm.Cond.selects "SaturdayKeep$Wrong" ({ cls := "java/lang/Throwable", name := "fillInStackTrace", desc := "(I)Ljava/lang/Throwable;" } : Jvm.MethodName) ({ cls := "java/lang/Throwable", name := "fillInStackTrace", desc := "(I)Ljava/lang/Throwable;" } : Jvm.MethodName)) ∈ lw_all := lw_g (lw_at lw_m5 54 rfl) rfl
theorem q1121 : (Jvm.Cond.lays "SaturdayKeep$Wrong" "java/lang/Throwable" "cause" "Ljava/lang/Throwable;") ∈ lw_all := lw_g (lw_at lw_m5 55 rfl) rfl
theorem q1122 : (Jvm.Cond.lays "SaturdayKeep$Wrong" "java/lang/Throwable" "stackTrace" "[Ljava/lang/StackTraceElement;") ∈ lw_all := lw_g (lw_at lw_m5 56 rfl) rfl
theorem q1123 : (Jvm.Cond.lays "SaturdayKeep$Wrong" "java/lang/Throwable" "suppressedExceptions" "Ljava/util/List;") ∈ lw_all := lw_g (lw_at lw_m5 57 rfl) rfl
theorem q1124 : (Jvm.Cond.lays "SaturdayKeep$Wrong" "java/lang/Throwable" "detailMessage" "Ljava/lang/String;") ∈ lw_all := lw_g (lw_at lw_m5 58 rfl) rfl
theorem q1125 : (Jvm.Cond.lays "SaturdayKeep$Wrong" "java/lang/Throwable" "backtrace" "Ljava/lang/Object;") ∈ lw_all := lw_g (lw_at lw_m5 59 rfl) rfl
theorem q1127 : (Jvm.Cond.instanceMethod ({ cls := "SaturdayKeep$Wrong", name := "<init>", desc := "()V" } : Jvm.MethodName)) ∈ lw_all := lw_g (lw_at lw_m5 61 rfl) rfl
theorem q1128 : (Jvm.Cond.code ({ cls := "SaturdayKeep$Wrong", name := "<init>", desc := "()V" } : Jvm.MethodName) prog_16_method_1_code (1 : Nat) (Option.none : Option Jvm.ClassFile.FieldType)) ∈ lw_all := lw_g (lw_at lw_m5 62 rfl) rfl
theorem q1129 : (Jvm.Cond.methodLink "SaturdayKeep$Wrong" (1 : Nat) ({ cls := "java/lang/Exception", name := "<init>", desc := "(Ljava/lang/String;Ljava/lang/Throwable;ZZ)V" } : Jvm.MethodName)) ∈ lw_all := lw_g (lw_at lw_m5 63 rfl) rfl
theorem q1135 : (Jvm.Cond.lays "SaturdayKeep$Wrong" "java/lang/Throwable" "depth" "I") ∈ lw_all := lw_g (lw_at lw_m5 69 rfl) rfl
theorem q1136 : (Jvm.Cond.superclass "SaturdayKeep$Wrong" "java/lang/Exception") ∈ lw_all := lw_g (lw_at lw_m5 70 rfl) rfl
theorem q1476 : (Jvm.Cond.selects "SaturdayKeep$Wrong" ({ cls := "java/lang/Object", name := "getClass", desc := "()Ljava/lang/Class;" } : Jvm.MethodName) ({ cls := "java/lang/Object", name := "getClass", desc := "()Ljava/lang/Class;" } : Jvm.MethodName)) ∈ lw_all := lw_g (lw_at lw_m6 170 rfl) rfl
theorem q2515 : (Jvm.Cond.castable "SaturdayKeep$Wrong" "java/lang/Object") ∈ lw_tbl := lw_at lw_m11 9 rfl
theorem in_X7 : ∀ w ∈ wsX70, w ∈ lw_all := lw_in wsX70 [1121, 1122, 1123, 1124, 1125, 1135] (by decide +kernel) (by decide +kernel)
/-! SaturdayKeep$Law -/
set_option maxRecDepth 100000
def RX8 : String := "SaturdayKeep$Law"
def TX8 : u_T := fun k => match k with
  | _ => ("SaturdayKeep$Law", "lines", "Ljava/util/ArrayList;", true)
def tyX8 : Nat → FieldType := fun k => match k with
  | _ => .object "java/util/ArrayList"
abbrev wsX80 : List Cond := u_ws RX8 TX8 1
theorem nmX8 : ∀ a, a < 1 → ∀ b, b < 1 → a ≠ b → (TX8 a).2.1 ≠ (TX8 b).2.1 := by decide +kernel
theorem tyX8_ok : ∀ k, k < 1 → parseFieldDescriptor (TX8 k).2.2.1 = some (tyX8 k) := by decide +kernel
abbrev cX8_turns : ByteArray := prog_4_method_2_code
def yX8_turns : MethodName := ⟨RX8, "turns", "(LSaturdayKeep$Scene;)I"⟩
def dkwX8_turns_1 : List UInt8 := [192, 0, 24, 43, 182, 0, 26, 96, 61, 132, 3, 1, 167, 255, 224, 28, 172]
abbrev dktX8_turns_1 : List UInt8 := dkwX8_turns_1 ++ []
def dkwX8_turns_0 : List UInt8 := [3, 61, 3, 62, 29, 42, 180, 0, 10, 182, 0, 16, 162, 0, 27, 28, 42, 180, 0, 10, 29, 182, 0, 20]
abbrev dktX8_turns_0 : List UInt8 := dkwX8_turns_0 ++ dktX8_turns_1
theorem dksX8_turns_0 : cX8_turns.data.toList.drop 0 = dktX8_turns_0 := by decide +kernel
theorem dksX8_turns_1 : cX8_turns.data.toList.drop 24 = dktX8_turns_1 := dk_seg dksX8_turns_0 24 rfl rfl
theorem dX8_turns_0 : decode cX8_turns 0 = .ok (.iconst 0, 1) := dk_3 (dk_at dksX8_turns_0 0 rfl rfl)
theorem dX8_turns_1 : decode cX8_turns 1 = .ok (.istore_n 2, 1) := dk_61 (dk_at dksX8_turns_0 1 rfl rfl)
theorem dX8_turns_2 : decode cX8_turns 2 = .ok (.iconst 0, 1) := dk_3 (dk_at dksX8_turns_0 2 rfl rfl)
theorem dX8_turns_3 : decode cX8_turns 3 = .ok (.istore_n 3, 1) := dk_62 (dk_at dksX8_turns_0 3 rfl rfl)
theorem dX8_turns_4 : decode cX8_turns 4 = .ok (.iload_n 3, 1) := dk_29 (dk_at dksX8_turns_0 4 rfl rfl)
theorem dX8_turns_5 : decode cX8_turns 5 = .ok (.aload_n 0, 1) := dk_42 (dk_at dksX8_turns_0 5 rfl rfl)
theorem dX8_turns_6 : decode cX8_turns 6 = .ok (.getfield 10, 3) := dk_180 0 10 (dk_at dksX8_turns_0 6 rfl rfl)
theorem dX8_turns_9 : decode cX8_turns 9 = .ok (.invokevirtual 16, 3) := dk_182 0 16 (dk_at dksX8_turns_0 9 rfl rfl)
theorem dX8_turns_12 : decode cX8_turns 12 = .ok (.if_icmp .ge 27, 3) := dk_162 0 27 (dk_at dksX8_turns_0 12 rfl rfl)
theorem dX8_turns_15 : decode cX8_turns 15 = .ok (.iload_n 2, 1) := dk_28 (dk_at dksX8_turns_0 15 rfl rfl)
theorem dX8_turns_16 : decode cX8_turns 16 = .ok (.aload_n 0, 1) := dk_42 (dk_at dksX8_turns_0 16 rfl rfl)
theorem dX8_turns_17 : decode cX8_turns 17 = .ok (.getfield 10, 3) := dk_180 0 10 (dk_at dksX8_turns_0 17 rfl rfl)
theorem dX8_turns_20 : decode cX8_turns 20 = .ok (.iload_n 3, 1) := dk_29 (dk_at dksX8_turns_0 20 rfl rfl)
theorem dX8_turns_21 : decode cX8_turns 21 = .ok (.invokevirtual 20, 3) := dk_182 0 20 (dk_at dksX8_turns_0 21 rfl rfl)
theorem dX8_turns_24 : decode cX8_turns 24 = .ok (.checkcast 24, 3) := dk_192 0 24 (dk_at dksX8_turns_1 0 rfl rfl)
theorem dX8_turns_27 : decode cX8_turns 27 = .ok (.aload_n 1, 1) := dk_43 (dk_at dksX8_turns_1 3 rfl rfl)
theorem dX8_turns_28 : decode cX8_turns 28 = .ok (.invokevirtual 26, 3) := dk_182 0 26 (dk_at dksX8_turns_1 4 rfl rfl)
theorem dX8_turns_31 : decode cX8_turns 31 = .ok (.iadd, 1) := dk_96 (dk_at dksX8_turns_1 7 rfl rfl)
theorem dX8_turns_32 : decode cX8_turns 32 = .ok (.istore_n 2, 1) := dk_61 (dk_at dksX8_turns_1 8 rfl rfl)
theorem dX8_turns_33 : decode cX8_turns 33 = .ok (.iinc 3 1, 3) := dk_132 3 1 (dk_at dksX8_turns_1 9 rfl rfl)
theorem dX8_turns_36 : decode cX8_turns 36 = .ok (.goto (-32), 3) := dk_167 255 224 (dk_at dksX8_turns_1 12 rfl rfl)
theorem dX8_turns_39 : decode cX8_turns 39 = .ok (.iload_n 2, 1) := dk_28 (dk_at dksX8_turns_1 15 rfl rfl)
theorem dX8_turns_40 : decode cX8_turns 40 = .ok (.ireturn, 1) := dk_172 (dk_at dksX8_turns_1 16 rfl rfl)
abbrev cX8_init : ByteArray := prog_4_method_1_code
def yX8_init : MethodName := ⟨RX8, "<init>", "()V"⟩
def dkwX8_init_0 : List UInt8 := [42, 183, 0, 1, 42, 187, 0, 7, 89, 183, 0, 9, 181, 0, 10, 177]
abbrev dktX8_init_0 : List UInt8 := dkwX8_init_0 ++ []
theorem dksX8_init_0 : cX8_init.data.toList.drop 0 = dktX8_init_0 := by decide +kernel
theorem dX8_init_0 : decode cX8_init 0 = .ok (.aload_n 0, 1) := dk_42 (dk_at dksX8_init_0 0 rfl rfl)
theorem dX8_init_1 : decode cX8_init 1 = .ok (.invokespecial 1, 3) := dk_183 0 1 (dk_at dksX8_init_0 1 rfl rfl)
theorem dX8_init_4 : decode cX8_init 4 = .ok (.aload_n 0, 1) := dk_42 (dk_at dksX8_init_0 4 rfl rfl)
theorem dX8_init_5 : decode cX8_init 5 = .ok (.new 7, 3) := dk_187 0 7 (dk_at dksX8_init_0 5 rfl rfl)
theorem dX8_init_8 : decode cX8_init 8 = .ok (.dup, 1) := dk_89 (dk_at dksX8_init_0 8 rfl rfl)
theorem dX8_init_9 : decode cX8_init 9 = .ok (.invokespecial 9, 3) := dk_183 0 9 (dk_at dksX8_init_0 9 rfl rfl)
theorem dX8_init_12 : decode cX8_init 12 = .ok (.putfield 10, 3) := dk_181 0 10 (dk_at dksX8_init_0 12 rfl rfl)
theorem dX8_init_15 : decode cX8_init 15 = .ok (.return_, 1) := dk_177 (dk_at dksX8_init_0 15 rfl rfl)
theorem q134 : (Jvm.Cond.initialized "SaturdayKeep$Law") ∈ lw_all := lw_g (lw_at lw_m1 28 rfl) rfl
theorem q463 : (Jvm.Cond.instanceMethod ({ cls := "SaturdayKeep$Law", name := "turns", desc := "(LSaturdayKeep$Scene;)I" } : Jvm.MethodName)) ∈ lw_all := lw_g (lw_at lw_m2 117 rfl) rfl
theorem q464 : (Jvm.Cond.selects "SaturdayKeep$Law" ({ cls := "SaturdayKeep$Law", name := "turns", desc := "(LSaturdayKeep$Scene;)I" } : Jvm.MethodName) ({ cls := "SaturdayKeep$Law", name := "turns", desc := "(LSaturdayKeep$Scene;)I" } : Jvm.MethodName)) ∈ lw_all := lw_g (lw_at lw_m2 118 rfl) rfl
theorem q465 : (Jvm.Cond.code ({ cls := "SaturdayKeep$Law", name := "turns", desc := "(LSaturdayKeep$Scene;)I" } : Jvm.MethodName) prog_4_method_2_code (4 : Nat) (Option.some Jvm.ClassFile.FieldType.int)) ∈ lw_all := lw_g (lw_at lw_m2 119 rfl) rfl
theorem q466 : (Jvm.Cond.methodLink "SaturdayKeep$Law" (16 : Nat) ({ cls := "java/util/ArrayList", name := "size", desc := "()I" } : Jvm.MethodName)) ∈ lw_all := lw_g (lw_at lw_m2 120 rfl) rfl
theorem q470 : (Jvm.Cond.methodLink "SaturdayKeep$Law" (20 : Nat) ({ cls := "java/util/ArrayList", name := "get", desc := "(I)Ljava/lang/Object;" } : Jvm.MethodName)) ∈ lw_all := lw_g (lw_at lw_m2 124 rfl) rfl
theorem q484 : (Jvm.Cond.classLink "SaturdayKeep$Law" (24 : Nat) "SaturdayKeep$Line") ∈ lw_all := lw_g (lw_at lw_m2 138 rfl) rfl
theorem q485 : (Jvm.Cond.methodLink "SaturdayKeep$Law" (26 : Nat) ({ cls := "SaturdayKeep$Line", name := "by", desc := "(LSaturdayKeep$Scene;)I" } : Jvm.MethodName)) ∈ lw_all := lw_g (lw_at lw_m2 139 rfl) rfl
theorem q1308 : (Jvm.Cond.instantiable "SaturdayKeep$Law" (1 : Nat)) ∈ lw_all := lw_g (lw_at lw_m6 2 rfl) rfl
theorem q1310 : (Jvm.Cond.instanceMethod ({ cls := "SaturdayKeep$Law", name := "<init>", desc := "()V" } : Jvm.MethodName)) ∈ lw_all := lw_g (lw_at lw_m6 4 rfl) rfl
theorem q1311 : (Jvm.Cond.code ({ cls := "SaturdayKeep$Law", name := "<init>", desc := "()V" } : Jvm.MethodName) prog_4_method_1_code (1 : Nat) (Option.none : Option Jvm.ClassFile.FieldType)) ∈ lw_all := lw_g (lw_at lw_m6 5 rfl) rfl
theorem q1312 : (Jvm.Cond.methodLink "SaturdayKeep$Law" (1 : Nat) ({ cls := "java/lang/Object", name := "<init>", desc := "()V" } : Jvm.MethodName)) ∈ lw_all := lw_g (lw_at lw_m6 6 rfl) rfl
theorem q1313 : (Jvm.Cond.classLink "SaturdayKeep$Law" (7 : Nat) "java/util/ArrayList") ∈ lw_all := lw_g (lw_at lw_m6 7 rfl) rfl
theorem q1314 : (Jvm.Cond.methodLink "SaturdayKeep$Law" (9 : Nat) ({ cls := "java/util/ArrayList", name := "<init>", desc := "()V" } : Jvm.MethodName)) ∈ lw_all := lw_g (lw_at lw_m6 8 rfl) rfl
theorem q1315 : (Jvm.Cond.fieldLink "SaturdayKeep$Law" (10 : Nat) "SaturdayKeep$Law" "lines" "Ljava/util/ArrayList;") ∈ lw_all := lw_g (lw_at lw_m6 9 rfl) rfl
theorem q1317 : (Jvm.Cond.laysFinal "SaturdayKeep$Law" "SaturdayKeep$Law" "lines" "Ljava/util/ArrayList;") ∈ lw_all := lw_g (lw_at lw_m6 11 rfl) rfl
theorem q1318 : (Jvm.Cond.soleField "SaturdayKeep$Law" "lines") ∈ lw_all := lw_g (lw_at lw_m6 12 rfl) rfl
theorem q1319 : (Jvm.Cond.superclass "SaturdayKeep$Law" "java/lang/Object") ∈ lw_all := lw_g (lw_at lw_m6 13 rfl) rfl
theorem q1464 : (Jvm.Cond.selects "SaturdayKeep$Law" ({ cls := "java/lang/Object", name := "getClass", desc := "()Ljava/lang/Class;" } : Jvm.MethodName) ({ cls := "java/lang/Object", name := "getClass", desc := "()Ljava/lang/Class;" } : Jvm.MethodName)) ∈ lw_all := lw_g (lw_at lw_m6 158 rfl) rfl
theorem q2518 : (Jvm.Cond.castable "SaturdayKeep$Law" "java/lang/Object") ∈ lw_tbl := lw_at lw_m11 12 rfl
theorem in_X8 : ∀ w ∈ wsX80, w ∈ lw_all := lw_in wsX80 [1317] (by decide +kernel) (by decide +kernel)
/-! SaturdayKeep$Line -/
set_option maxRecDepth 100000
def RX9 : String := "SaturdayKeep$Line"
def TX9 : u_T := fun k => match k with
  | 0 => ("SaturdayKeep$Line", "doubt", "Z", true)
  | 1 => ("SaturdayKeep$Line", "n", "I", true)
  | _ => ("SaturdayKeep$Line", "when", "LSaturdayKeep$Cond;", true)
def tyX9 : Nat → FieldType := fun k => match k with
  | 0 => .boolean
  | 1 => .int
  | _ => .object "SaturdayKeep$Cond"
abbrev wsX90 : List Cond := u_ws RX9 TX9 3
theorem nmX9 : ∀ a, a < 3 → ∀ b, b < 3 → a ≠ b → (TX9 a).2.1 ≠ (TX9 b).2.1 := by decide +kernel
theorem tyX9_ok : ∀ k, k < 3 → parseFieldDescriptor (TX9 k).2.2.1 = some (tyX9 k) := by decide +kernel
abbrev cX9_by : ByteArray := prog_6_method_2_code
def yX9_by : MethodName := ⟨RX9, "by", "(LSaturdayKeep$Scene;)I"⟩
def dkwX9_by_1 : List UInt8 := [42, 180, 0, 7, 153, 0, 10, 42, 180, 0, 13, 167, 0, 8, 42, 180, 0, 13, 116, 172]
abbrev dktX9_by_1 : List UInt8 := dkwX9_by_1 ++ []
def dkwX9_by_0 : List UInt8 := [42, 180, 0, 17, 198, 0, 20, 42, 180, 0, 17, 43, 185, 0, 21, 2, 0, 154, 0, 7, 3, 167, 0, 22]
abbrev dktX9_by_0 : List UInt8 := dkwX9_by_0 ++ dktX9_by_1
theorem dksX9_by_0 : cX9_by.data.toList.drop 0 = dktX9_by_0 := by decide +kernel
theorem dksX9_by_1 : cX9_by.data.toList.drop 24 = dktX9_by_1 := dk_seg dksX9_by_0 24 rfl rfl
theorem dX9_by_0 : decode cX9_by 0 = .ok (.aload_n 0, 1) := dk_42 (dk_at dksX9_by_0 0 rfl rfl)
theorem dX9_by_1 : decode cX9_by 1 = .ok (.getfield 17, 3) := dk_180 0 17 (dk_at dksX9_by_0 1 rfl rfl)
theorem dX9_by_4 : decode cX9_by 4 = .ok (.ifnull 20, 3) := dk_198 0 20 (dk_at dksX9_by_0 4 rfl rfl)
theorem dX9_by_7 : decode cX9_by 7 = .ok (.aload_n 0, 1) := dk_42 (dk_at dksX9_by_0 7 rfl rfl)
theorem dX9_by_8 : decode cX9_by 8 = .ok (.getfield 17, 3) := dk_180 0 17 (dk_at dksX9_by_0 8 rfl rfl)
theorem dX9_by_11 : decode cX9_by 11 = .ok (.aload_n 1, 1) := dk_43 (dk_at dksX9_by_0 11 rfl rfl)
theorem dX9_by_12 : decode cX9_by 12 = .ok (.invokeinterface 21 2, 5) := by decide +kernel
theorem dX9_by_17 : decode cX9_by 17 = .ok (.ifCond .ne 7, 3) := dk_154 0 7 (dk_at dksX9_by_0 17 rfl rfl)
theorem dX9_by_20 : decode cX9_by 20 = .ok (.iconst 0, 1) := dk_3 (dk_at dksX9_by_0 20 rfl rfl)
theorem dX9_by_21 : decode cX9_by 21 = .ok (.goto 22, 3) := dk_167 0 22 (dk_at dksX9_by_0 21 rfl rfl)
theorem dX9_by_24 : decode cX9_by 24 = .ok (.aload_n 0, 1) := dk_42 (dk_at dksX9_by_1 0 rfl rfl)
theorem dX9_by_25 : decode cX9_by 25 = .ok (.getfield 7, 3) := dk_180 0 7 (dk_at dksX9_by_1 1 rfl rfl)
theorem dX9_by_28 : decode cX9_by 28 = .ok (.ifCond .eq 10, 3) := dk_153 0 10 (dk_at dksX9_by_1 4 rfl rfl)
theorem dX9_by_31 : decode cX9_by 31 = .ok (.aload_n 0, 1) := dk_42 (dk_at dksX9_by_1 7 rfl rfl)
theorem dX9_by_32 : decode cX9_by 32 = .ok (.getfield 13, 3) := dk_180 0 13 (dk_at dksX9_by_1 8 rfl rfl)
theorem dX9_by_35 : decode cX9_by 35 = .ok (.goto 8, 3) := dk_167 0 8 (dk_at dksX9_by_1 11 rfl rfl)
theorem dX9_by_38 : decode cX9_by 38 = .ok (.aload_n 0, 1) := dk_42 (dk_at dksX9_by_1 14 rfl rfl)
theorem dX9_by_39 : decode cX9_by 39 = .ok (.getfield 13, 3) := dk_180 0 13 (dk_at dksX9_by_1 15 rfl rfl)
theorem dX9_by_42 : decode cX9_by 42 = .ok (.ineg, 1) := dk_116 (dk_at dksX9_by_1 18 rfl rfl)
theorem dX9_by_43 : decode cX9_by 43 = .ok (.ireturn, 1) := dk_172 (dk_at dksX9_by_1 19 rfl rfl)
abbrev cX9_init : ByteArray := prog_6_method_1_code
def yX9_init : MethodName := ⟨RX9, "<init>", "(ZILSaturdayKeep$Cond;)V"⟩
def dkwX9_init_0 : List UInt8 := [42, 183, 0, 1, 42, 27, 181, 0, 7, 42, 28, 181, 0, 13, 42, 45, 181, 0, 17, 177]
abbrev dktX9_init_0 : List UInt8 := dkwX9_init_0 ++ []
theorem dksX9_init_0 : cX9_init.data.toList.drop 0 = dktX9_init_0 := by decide +kernel
theorem dX9_init_0 : decode cX9_init 0 = .ok (.aload_n 0, 1) := dk_42 (dk_at dksX9_init_0 0 rfl rfl)
theorem dX9_init_1 : decode cX9_init 1 = .ok (.invokespecial 1, 3) := dk_183 0 1 (dk_at dksX9_init_0 1 rfl rfl)
theorem dX9_init_4 : decode cX9_init 4 = .ok (.aload_n 0, 1) := dk_42 (dk_at dksX9_init_0 4 rfl rfl)
theorem dX9_init_5 : decode cX9_init 5 = .ok (.iload_n 1, 1) := dk_27 (dk_at dksX9_init_0 5 rfl rfl)
theorem dX9_init_6 : decode cX9_init 6 = .ok (.putfield 7, 3) := dk_181 0 7 (dk_at dksX9_init_0 6 rfl rfl)
theorem dX9_init_9 : decode cX9_init 9 = .ok (.aload_n 0, 1) := dk_42 (dk_at dksX9_init_0 9 rfl rfl)
theorem dX9_init_10 : decode cX9_init 10 = .ok (.iload_n 2, 1) := dk_28 (dk_at dksX9_init_0 10 rfl rfl)
theorem dX9_init_11 : decode cX9_init 11 = .ok (.putfield 13, 3) := dk_181 0 13 (dk_at dksX9_init_0 11 rfl rfl)
theorem dX9_init_14 : decode cX9_init 14 = .ok (.aload_n 0, 1) := dk_42 (dk_at dksX9_init_0 14 rfl rfl)
theorem dX9_init_15 : decode cX9_init 15 = .ok (.aload_n 3, 1) := dk_45 (dk_at dksX9_init_0 15 rfl rfl)
theorem dX9_init_16 : decode cX9_init 16 = .ok (.putfield 17, 3) := dk_181 0 17 (dk_at dksX9_init_0 16 rfl rfl)
theorem dX9_init_19 : decode cX9_init 19 = .ok (.return_, 1) := dk_177 (dk_at dksX9_init_0 19 rfl rfl)
theorem q135 : (Jvm.Cond.initialized "SaturdayKeep$Line") ∈ lw_all := lw_g (lw_at lw_m1 29 rfl) rfl
theorem q486 : (Jvm.Cond.instanceMethod ({ cls := "SaturdayKeep$Line", name := "by", desc := "(LSaturdayKeep$Scene;)I" } : Jvm.MethodName)) ∈ lw_all := lw_g (lw_at lw_m2 140 rfl) rfl
theorem q487 : (Jvm.Cond.selects "SaturdayKeep$Line" ({ cls := "SaturdayKeep$Line", name := "by", desc := "(LSaturdayKeep$Scene;)I" } : Jvm.MethodName) ({ cls := "SaturdayKeep$Line", name := "by", desc := "(LSaturdayKeep$Scene;)I" } : Jvm.MethodName)) ∈ lw_all := lw_g (lw_at lw_m2 141 rfl) rfl
theorem q488 : (Jvm.Cond.code ({ cls := "SaturdayKeep$Line", name := "by", desc := "(LSaturdayKeep$Scene;)I" } : Jvm.MethodName) prog_6_method_2_code (2 : Nat) (Option.some Jvm.ClassFile.FieldType.int)) ∈ lw_all := lw_g (lw_at lw_m2 142 rfl) rfl
theorem q489 : (Jvm.Cond.interfaceEntry "SaturdayKeep$Line" (21 : Nat)) ∈ lw_tbl := lw_at lw_m2 143 rfl
theorem q490 : (Jvm.Cond.methodLink "SaturdayKeep$Line" (21 : Nat) ({ cls := "SaturdayKeep$Cond", name := "holds", desc := "(LSaturdayKeep$Scene;)Z" } : Jvm.MethodName)) ∈ lw_all := lw_g (lw_at lw_m2 144 rfl) rfl
theorem q1326 : (Jvm.Cond.instantiable "SaturdayKeep$Line" (3 : Nat)) ∈ lw_all := lw_g (lw_at lw_m6 20 rfl) rfl
theorem q1466 : (Jvm.Cond.selects "SaturdayKeep$Line" ({ cls := "java/lang/Object", name := "getClass", desc := "()Ljava/lang/Class;" } : Jvm.MethodName) ({ cls := "java/lang/Object", name := "getClass", desc := "()Ljava/lang/Class;" } : Jvm.MethodName)) ∈ lw_all := lw_g (lw_at lw_m6 160 rfl) rfl
theorem q1512 : (Jvm.Cond.instanceMethod ({ cls := "SaturdayKeep$Line", name := "<init>", desc := "(ZILSaturdayKeep$Cond;)V" } : Jvm.MethodName)) ∈ lw_all := lw_g (lw_at lw_m6 206 rfl) rfl
theorem q1513 : (Jvm.Cond.code ({ cls := "SaturdayKeep$Line", name := "<init>", desc := "(ZILSaturdayKeep$Cond;)V" } : Jvm.MethodName) prog_6_method_1_code (4 : Nat) (Option.none : Option Jvm.ClassFile.FieldType)) ∈ lw_all := lw_g (lw_at lw_m6 207 rfl) rfl
theorem q1514 : (Jvm.Cond.methodLink "SaturdayKeep$Line" (1 : Nat) ({ cls := "java/lang/Object", name := "<init>", desc := "()V" } : Jvm.MethodName)) ∈ lw_all := lw_g (lw_at lw_m6 208 rfl) rfl
theorem q1515 : (Jvm.Cond.fieldLink "SaturdayKeep$Line" (7 : Nat) "SaturdayKeep$Line" "doubt" "Z") ∈ lw_all := lw_g (lw_at lw_m6 209 rfl) rfl
theorem q1516 : (Jvm.Cond.fieldLink "SaturdayKeep$Line" (13 : Nat) "SaturdayKeep$Line" "n" "I") ∈ lw_all := lw_g (lw_at lw_m6 210 rfl) rfl
theorem q1517 : (Jvm.Cond.fieldLink "SaturdayKeep$Line" (17 : Nat) "SaturdayKeep$Line" "when" "LSaturdayKeep$Cond;") ∈ lw_all := lw_g (lw_at lw_m6 211 rfl) rfl
theorem q1518 : (Jvm.Cond.laysFinal "SaturdayKeep$Line" "SaturdayKeep$Line" "doubt" "Z") ∈ lw_all := lw_g (lw_at lw_m6 212 rfl) rfl
theorem q1519 : (Jvm.Cond.soleField "SaturdayKeep$Line" "doubt") ∈ lw_all := lw_g (lw_at lw_m6 213 rfl) rfl
theorem q1520 : (Jvm.Cond.laysFinal "SaturdayKeep$Line" "SaturdayKeep$Line" "n" "I") ∈ lw_all := lw_g (lw_at lw_m6 214 rfl) rfl
theorem q1521 : (Jvm.Cond.soleField "SaturdayKeep$Line" "n") ∈ lw_all := lw_g (lw_at lw_m6 215 rfl) rfl
theorem q1522 : (Jvm.Cond.laysFinal "SaturdayKeep$Line" "SaturdayKeep$Line" "when" "LSaturdayKeep$Cond;") ∈ lw_all := lw_g (lw_at lw_m6 216 rfl) rfl
theorem q1523 : (Jvm.Cond.soleField "SaturdayKeep$Line" "when") ∈ lw_all := lw_g (lw_at lw_m6 217 rfl) rfl
theorem q1524 : (Jvm.Cond.superclass "SaturdayKeep$Line" "java/lang/Object") ∈ lw_all := lw_g (lw_at lw_m6 218 rfl) rfl
theorem q2519 : (Jvm.Cond.castable "SaturdayKeep$Line" "java/lang/Object") ∈ lw_tbl := lw_at lw_m11 13 rfl
theorem in_X9 : ∀ w ∈ wsX90, w ∈ lw_all := lw_in wsX90 [1518, 1520, 1522] (by decide +kernel) (by decide +kernel)
/-! SaturdayKeep$Row -/
set_option maxRecDepth 100000
def RX10 : String := "SaturdayKeep$Row"
def TX10 : u_T := fun k => match k with
  | 0 => ("SaturdayKeep$Row", "all", "Z", true)
  | _ => ("SaturdayKeep$Row", "row", "Ljava/util/ArrayList;", true)
def tyX10 : Nat → FieldType := fun k => match k with
  | 0 => .boolean
  | _ => .object "java/util/ArrayList"
abbrev wsX100 : List Cond := u_ws RX10 TX10 2
theorem nmX10 : ∀ a, a < 2 → ∀ b, b < 2 → a ≠ b → (TX10 a).2.1 ≠ (TX10 b).2.1 := by decide +kernel
theorem tyX10_ok : ∀ k, k < 2 → parseFieldDescriptor (TX10 k).2.2.1 = some (tyX10 k) := by decide +kernel
abbrev cX10_holds : ByteArray := prog_11_method_2_code
def yX10_holds : MethodName := ⟨RX10, "holds", "(LSaturdayKeep$Scene;)Z"⟩
def dkwX10_holds_2 : List UInt8 := [3, 172, 132, 2, 1, 167, 255, 205, 42, 180, 0, 16, 172]
abbrev dktX10_holds_2 : List UInt8 := dkwX10_holds_2 ++ []
def dkwX10_holds_1 : List UInt8 := [43, 185, 0, 30, 2, 0, 42, 180, 0, 16, 159, 0, 16, 42, 180, 0, 16, 154, 0, 7, 4, 167, 0, 4]
abbrev dktX10_holds_1 : List UInt8 := dkwX10_holds_1 ++ dktX10_holds_2
def dkwX10_holds_0 : List UInt8 := [3, 61, 28, 42, 180, 0, 10, 182, 0, 20, 162, 0, 46, 42, 180, 0, 10, 28, 182, 0, 24, 192, 0, 28]
abbrev dktX10_holds_0 : List UInt8 := dkwX10_holds_0 ++ dktX10_holds_1
theorem dksX10_holds_0 : cX10_holds.data.toList.drop 0 = dktX10_holds_0 := by decide +kernel
theorem dksX10_holds_1 : cX10_holds.data.toList.drop 24 = dktX10_holds_1 := dk_seg dksX10_holds_0 24 rfl rfl
theorem dksX10_holds_2 : cX10_holds.data.toList.drop 48 = dktX10_holds_2 := dk_seg dksX10_holds_1 24 rfl rfl
theorem dX10_holds_0 : decode cX10_holds 0 = .ok (.iconst 0, 1) := dk_3 (dk_at dksX10_holds_0 0 rfl rfl)
theorem dX10_holds_1 : decode cX10_holds 1 = .ok (.istore_n 2, 1) := dk_61 (dk_at dksX10_holds_0 1 rfl rfl)
theorem dX10_holds_2 : decode cX10_holds 2 = .ok (.iload_n 2, 1) := dk_28 (dk_at dksX10_holds_0 2 rfl rfl)
theorem dX10_holds_3 : decode cX10_holds 3 = .ok (.aload_n 0, 1) := dk_42 (dk_at dksX10_holds_0 3 rfl rfl)
theorem dX10_holds_4 : decode cX10_holds 4 = .ok (.getfield 10, 3) := dk_180 0 10 (dk_at dksX10_holds_0 4 rfl rfl)
theorem dX10_holds_7 : decode cX10_holds 7 = .ok (.invokevirtual 20, 3) := dk_182 0 20 (dk_at dksX10_holds_0 7 rfl rfl)
theorem dX10_holds_10 : decode cX10_holds 10 = .ok (.if_icmp .ge 46, 3) := dk_162 0 46 (dk_at dksX10_holds_0 10 rfl rfl)
theorem dX10_holds_13 : decode cX10_holds 13 = .ok (.aload_n 0, 1) := dk_42 (dk_at dksX10_holds_0 13 rfl rfl)
theorem dX10_holds_14 : decode cX10_holds 14 = .ok (.getfield 10, 3) := dk_180 0 10 (dk_at dksX10_holds_0 14 rfl rfl)
theorem dX10_holds_17 : decode cX10_holds 17 = .ok (.iload_n 2, 1) := dk_28 (dk_at dksX10_holds_0 17 rfl rfl)
theorem dX10_holds_18 : decode cX10_holds 18 = .ok (.invokevirtual 24, 3) := dk_182 0 24 (dk_at dksX10_holds_0 18 rfl rfl)
theorem dX10_holds_21 : decode cX10_holds 21 = .ok (.checkcast 28, 3) := dk_192 0 28 (dk_at dksX10_holds_0 21 rfl rfl)
theorem dX10_holds_24 : decode cX10_holds 24 = .ok (.aload_n 1, 1) := dk_43 (dk_at dksX10_holds_1 0 rfl rfl)
theorem dX10_holds_25 : decode cX10_holds 25 = .ok (.invokeinterface 30 2, 5) := by decide +kernel
theorem dX10_holds_30 : decode cX10_holds 30 = .ok (.aload_n 0, 1) := dk_42 (dk_at dksX10_holds_1 6 rfl rfl)
theorem dX10_holds_31 : decode cX10_holds 31 = .ok (.getfield 16, 3) := dk_180 0 16 (dk_at dksX10_holds_1 7 rfl rfl)
theorem dX10_holds_34 : decode cX10_holds 34 = .ok (.if_icmp .eq 16, 3) := dk_159 0 16 (dk_at dksX10_holds_1 10 rfl rfl)
theorem dX10_holds_37 : decode cX10_holds 37 = .ok (.aload_n 0, 1) := dk_42 (dk_at dksX10_holds_1 13 rfl rfl)
theorem dX10_holds_38 : decode cX10_holds 38 = .ok (.getfield 16, 3) := dk_180 0 16 (dk_at dksX10_holds_1 14 rfl rfl)
theorem dX10_holds_41 : decode cX10_holds 41 = .ok (.ifCond .ne 7, 3) := dk_154 0 7 (dk_at dksX10_holds_1 17 rfl rfl)
theorem dX10_holds_44 : decode cX10_holds 44 = .ok (.iconst 1, 1) := dk_4 (dk_at dksX10_holds_1 20 rfl rfl)
theorem dX10_holds_45 : decode cX10_holds 45 = .ok (.goto 4, 3) := dk_167 0 4 (dk_at dksX10_holds_1 21 rfl rfl)
theorem dX10_holds_48 : decode cX10_holds 48 = .ok (.iconst 0, 1) := dk_3 (dk_at dksX10_holds_2 0 rfl rfl)
theorem dX10_holds_49 : decode cX10_holds 49 = .ok (.ireturn, 1) := dk_172 (dk_at dksX10_holds_2 1 rfl rfl)
theorem dX10_holds_50 : decode cX10_holds 50 = .ok (.iinc 2 1, 3) := dk_132 2 1 (dk_at dksX10_holds_2 2 rfl rfl)
theorem dX10_holds_53 : decode cX10_holds 53 = .ok (.goto (-51), 3) := dk_167 255 205 (dk_at dksX10_holds_2 5 rfl rfl)
theorem dX10_holds_56 : decode cX10_holds 56 = .ok (.aload_n 0, 1) := dk_42 (dk_at dksX10_holds_2 8 rfl rfl)
theorem dX10_holds_57 : decode cX10_holds 57 = .ok (.getfield 16, 3) := dk_180 0 16 (dk_at dksX10_holds_2 9 rfl rfl)
theorem dX10_holds_60 : decode cX10_holds 60 = .ok (.ireturn, 1) := dk_172 (dk_at dksX10_holds_2 12 rfl rfl)
abbrev cX10_init : ByteArray := prog_11_method_1_code
def yX10_init : MethodName := ⟨RX10, "<init>", "(Z)V"⟩
def dkwX10_init_0 : List UInt8 := [42, 183, 0, 1, 42, 187, 0, 7, 89, 183, 0, 9, 181, 0, 10, 42, 27, 181, 0, 16, 177]
abbrev dktX10_init_0 : List UInt8 := dkwX10_init_0 ++ []
theorem dksX10_init_0 : cX10_init.data.toList.drop 0 = dktX10_init_0 := by decide +kernel
theorem dX10_init_0 : decode cX10_init 0 = .ok (.aload_n 0, 1) := dk_42 (dk_at dksX10_init_0 0 rfl rfl)
theorem dX10_init_1 : decode cX10_init 1 = .ok (.invokespecial 1, 3) := dk_183 0 1 (dk_at dksX10_init_0 1 rfl rfl)
theorem dX10_init_4 : decode cX10_init 4 = .ok (.aload_n 0, 1) := dk_42 (dk_at dksX10_init_0 4 rfl rfl)
theorem dX10_init_5 : decode cX10_init 5 = .ok (.new 7, 3) := dk_187 0 7 (dk_at dksX10_init_0 5 rfl rfl)
theorem dX10_init_8 : decode cX10_init 8 = .ok (.dup, 1) := dk_89 (dk_at dksX10_init_0 8 rfl rfl)
theorem dX10_init_9 : decode cX10_init 9 = .ok (.invokespecial 9, 3) := dk_183 0 9 (dk_at dksX10_init_0 9 rfl rfl)
theorem dX10_init_12 : decode cX10_init 12 = .ok (.putfield 10, 3) := dk_181 0 10 (dk_at dksX10_init_0 12 rfl rfl)
theorem dX10_init_15 : decode cX10_init 15 = .ok (.aload_n 0, 1) := dk_42 (dk_at dksX10_init_0 15 rfl rfl)
theorem dX10_init_16 : decode cX10_init 16 = .ok (.iload_n 1, 1) := dk_27 (dk_at dksX10_init_0 16 rfl rfl)
theorem dX10_init_17 : decode cX10_init 17 = .ok (.putfield 16, 3) := dk_181 0 16 (dk_at dksX10_init_0 17 rfl rfl)
theorem dX10_init_20 : decode cX10_init 20 = .ok (.return_, 1) := dk_177 (dk_at dksX10_init_0 20 rfl rfl)
theorem q136 : (Jvm.Cond.initialized "SaturdayKeep$Row") ∈ lw_all := lw_g (lw_at lw_m1 30 rfl) rfl
theorem q528 : (Jvm.Cond.castable "SaturdayKeep$Row" "SaturdayKeep$Cond") ∈ lw_tbl := lw_at lw_m2 182 rfl
theorem q529 : (Jvm.Cond.selects "SaturdayKeep$Row" ({ cls := "SaturdayKeep$Cond", name := "holds", desc := "(LSaturdayKeep$Scene;)Z" } : Jvm.MethodName) ({ cls := "SaturdayKeep$Row", name := "holds", desc := "(LSaturdayKeep$Scene;)Z" } : Jvm.MethodName)) ∈ lw_all := lw_g (lw_at lw_m2 183 rfl) rfl
theorem q530 : (Jvm.Cond.unhidden "SaturdayKeep$Row" "holds" "(LSaturdayKeep$Scene;)Z") ∈ lw_tbl := lw_at lw_m2 184 rfl
theorem q531 : (Jvm.Cond.instanceMethod ({ cls := "SaturdayKeep$Row", name := "holds", desc := "(LSaturdayKeep$Scene;)Z" } : Jvm.MethodName)) ∈ lw_all := lw_g (lw_at lw_m2 185 rfl) rfl
theorem q532 : (Jvm.Cond.publicMethod ({ cls := "SaturdayKeep$Row", name := "holds", desc := "(LSaturdayKeep$Scene;)Z" } : Jvm.MethodName)) ∈ lw_tbl := lw_at lw_m2 186 rfl
theorem q533 : (Jvm.Cond.code ({ cls := "SaturdayKeep$Row", name := "holds", desc := "(LSaturdayKeep$Scene;)Z" } : Jvm.MethodName) prog_11_method_2_code (3 : Nat) (Option.some Jvm.ClassFile.FieldType.boolean)) ∈ lw_all := lw_g (lw_at lw_m2 187 rfl) rfl
theorem q534 : (Jvm.Cond.methodLink "SaturdayKeep$Row" (20 : Nat) ({ cls := "java/util/ArrayList", name := "size", desc := "()I" } : Jvm.MethodName)) ∈ lw_all := lw_g (lw_at lw_m2 188 rfl) rfl
theorem q535 : (Jvm.Cond.methodLink "SaturdayKeep$Row" (24 : Nat) ({ cls := "java/util/ArrayList", name := "get", desc := "(I)Ljava/lang/Object;" } : Jvm.MethodName)) ∈ lw_all := lw_g (lw_at lw_m2 189 rfl) rfl
theorem q536 : (Jvm.Cond.classLink "SaturdayKeep$Row" (28 : Nat) "SaturdayKeep$Cond") ∈ lw_all := lw_g (lw_at lw_m2 190 rfl) rfl
theorem q537 : (Jvm.Cond.interfaceEntry "SaturdayKeep$Row" (30 : Nat)) ∈ lw_tbl := lw_at lw_m2 191 rfl
theorem q538 : (Jvm.Cond.methodLink "SaturdayKeep$Row" (30 : Nat) ({ cls := "SaturdayKeep$Cond", name := "holds", desc := "(LSaturdayKeep$Scene;)Z" } : Jvm.MethodName)) ∈ lw_all := lw_g (lw_at lw_m2 192 rfl) rfl
theorem q1333 : (Jvm.Cond.instantiable "SaturdayKeep$Row" (2 : Nat)) ∈ lw_all := lw_g (lw_at lw_m6 27 rfl) rfl
theorem q1335 : (Jvm.Cond.instanceMethod ({ cls := "SaturdayKeep$Row", name := "<init>", desc := "(Z)V" } : Jvm.MethodName)) ∈ lw_all := lw_g (lw_at lw_m6 29 rfl) rfl
theorem q1336 : (Jvm.Cond.code ({ cls := "SaturdayKeep$Row", name := "<init>", desc := "(Z)V" } : Jvm.MethodName) prog_11_method_1_code (2 : Nat) (Option.none : Option Jvm.ClassFile.FieldType)) ∈ lw_all := lw_g (lw_at lw_m6 30 rfl) rfl
theorem q1337 : (Jvm.Cond.methodLink "SaturdayKeep$Row" (1 : Nat) ({ cls := "java/lang/Object", name := "<init>", desc := "()V" } : Jvm.MethodName)) ∈ lw_all := lw_g (lw_at lw_m6 31 rfl) rfl
theorem q1338 : (Jvm.Cond.classLink "SaturdayKeep$Row" (7 : Nat) "java/util/ArrayList") ∈ lw_all := lw_g (lw_at lw_m6 32 rfl) rfl
theorem q1339 : (Jvm.Cond.methodLink "SaturdayKeep$Row" (9 : Nat) ({ cls := "java/util/ArrayList", name := "<init>", desc := "()V" } : Jvm.MethodName)) ∈ lw_all := lw_g (lw_at lw_m6 33 rfl) rfl
theorem q1340 : (Jvm.Cond.fieldLink "SaturdayKeep$Row" (16 : Nat) "SaturdayKeep$Row" "all" "Z") ∈ lw_all := lw_g (lw_at lw_m6 34 rfl) rfl
theorem q1341 : (Jvm.Cond.fieldLink "SaturdayKeep$Row" (10 : Nat) "SaturdayKeep$Row" "row" "Ljava/util/ArrayList;") ∈ lw_all := lw_g (lw_at lw_m6 35 rfl) rfl
theorem q1343 : (Jvm.Cond.laysFinal "SaturdayKeep$Row" "SaturdayKeep$Row" "all" "Z") ∈ lw_all := lw_g (lw_at lw_m6 37 rfl) rfl
theorem q1344 : (Jvm.Cond.soleField "SaturdayKeep$Row" "all") ∈ lw_all := lw_g (lw_at lw_m6 38 rfl) rfl
theorem q1345 : (Jvm.Cond.laysFinal "SaturdayKeep$Row" "SaturdayKeep$Row" "row" "Ljava/util/ArrayList;") ∈ lw_all := lw_g (lw_at lw_m6 39 rfl) rfl
theorem q1346 : (Jvm.Cond.soleField "SaturdayKeep$Row" "row") ∈ lw_all := lw_g (lw_at lw_m6 40 rfl) rfl
theorem q1347 : (Jvm.Cond.superclass "SaturdayKeep$Row" "java/lang/Object") ∈ lw_all := lw_g (lw_at lw_m6 41 rfl) rfl
theorem q1471 : (Jvm.Cond.selects "SaturdayKeep$Row" ({ cls := "java/lang/Object", name := "getClass", desc := "()Ljava/lang/Class;" } : Jvm.MethodName) ({ cls := "java/lang/Object", name := "getClass", desc := "()Ljava/lang/Class;" } : Jvm.MethodName)) ∈ lw_all := lw_g (lw_at lw_m6 165 rfl) rfl
theorem q2520 : (Jvm.Cond.castable "SaturdayKeep$Row" "java/lang/Object") ∈ lw_tbl := lw_at lw_m11 14 rfl
theorem in_X10 : ∀ w ∈ wsX100, w ∈ lw_all := lw_in wsX100 [1343, 1345] (by decide +kernel) (by decide +kernel)
/-! SaturdayKeep$Not -/
set_option maxRecDepth 100000
def RX11 : String := "SaturdayKeep$Not"
def TX11 : u_T := fun k => match k with
  | _ => ("SaturdayKeep$Not", "a", "LSaturdayKeep$Cond;", true)
def tyX11 : Nat → FieldType := fun k => match k with
  | _ => .object "SaturdayKeep$Cond"
abbrev wsX110 : List Cond := u_ws RX11 TX11 1
theorem nmX11 : ∀ a, a < 1 → ∀ b, b < 1 → a ≠ b → (TX11 a).2.1 ≠ (TX11 b).2.1 := by decide +kernel
theorem tyX11_ok : ∀ k, k < 1 → parseFieldDescriptor (TX11 k).2.2.1 = some (tyX11 k) := by decide +kernel
abbrev cX11_holds : ByteArray := prog_8_method_2_code
def yX11_holds : MethodName := ⟨RX11, "holds", "(LSaturdayKeep$Scene;)Z"⟩
def dkwX11_holds_0 : List UInt8 := [42, 180, 0, 7, 43, 185, 0, 13, 2, 0, 154, 0, 7, 4, 167, 0, 4, 3, 172]
abbrev dktX11_holds_0 : List UInt8 := dkwX11_holds_0 ++ []
theorem dksX11_holds_0 : cX11_holds.data.toList.drop 0 = dktX11_holds_0 := by decide +kernel
theorem dX11_holds_0 : decode cX11_holds 0 = .ok (.aload_n 0, 1) := dk_42 (dk_at dksX11_holds_0 0 rfl rfl)
theorem dX11_holds_1 : decode cX11_holds 1 = .ok (.getfield 7, 3) := dk_180 0 7 (dk_at dksX11_holds_0 1 rfl rfl)
theorem dX11_holds_4 : decode cX11_holds 4 = .ok (.aload_n 1, 1) := dk_43 (dk_at dksX11_holds_0 4 rfl rfl)
theorem dX11_holds_5 : decode cX11_holds 5 = .ok (.invokeinterface 13 2, 5) := by decide +kernel
theorem dX11_holds_10 : decode cX11_holds 10 = .ok (.ifCond .ne 7, 3) := dk_154 0 7 (dk_at dksX11_holds_0 10 rfl rfl)
theorem dX11_holds_13 : decode cX11_holds 13 = .ok (.iconst 1, 1) := dk_4 (dk_at dksX11_holds_0 13 rfl rfl)
theorem dX11_holds_14 : decode cX11_holds 14 = .ok (.goto 4, 3) := dk_167 0 4 (dk_at dksX11_holds_0 14 rfl rfl)
theorem dX11_holds_17 : decode cX11_holds 17 = .ok (.iconst 0, 1) := dk_3 (dk_at dksX11_holds_0 17 rfl rfl)
theorem dX11_holds_18 : decode cX11_holds 18 = .ok (.ireturn, 1) := dk_172 (dk_at dksX11_holds_0 18 rfl rfl)
abbrev cX11_init : ByteArray := prog_8_method_1_code
def yX11_init : MethodName := ⟨RX11, "<init>", "(LSaturdayKeep$Cond;)V"⟩
def dkwX11_init_0 : List UInt8 := [42, 183, 0, 1, 42, 43, 181, 0, 7, 177]
abbrev dktX11_init_0 : List UInt8 := dkwX11_init_0 ++ []
theorem dksX11_init_0 : cX11_init.data.toList.drop 0 = dktX11_init_0 := by decide +kernel
theorem dX11_init_0 : decode cX11_init 0 = .ok (.aload_n 0, 1) := dk_42 (dk_at dksX11_init_0 0 rfl rfl)
theorem dX11_init_1 : decode cX11_init 1 = .ok (.invokespecial 1, 3) := dk_183 0 1 (dk_at dksX11_init_0 1 rfl rfl)
theorem dX11_init_4 : decode cX11_init 4 = .ok (.aload_n 0, 1) := dk_42 (dk_at dksX11_init_0 4 rfl rfl)
theorem dX11_init_5 : decode cX11_init 5 = .ok (.aload_n 1, 1) := dk_43 (dk_at dksX11_init_0 5 rfl rfl)
theorem dX11_init_6 : decode cX11_init 6 = .ok (.putfield 7, 3) := dk_181 0 7 (dk_at dksX11_init_0 6 rfl rfl)
theorem dX11_init_9 : decode cX11_init 9 = .ok (.return_, 1) := dk_177 (dk_at dksX11_init_0 9 rfl rfl)
theorem q137 : (Jvm.Cond.initialized "SaturdayKeep$Not") ∈ lw_all := lw_g (lw_at lw_m1 31 rfl) rfl
theorem q520 : (Jvm.Cond.castable "SaturdayKeep$Not" "SaturdayKeep$Cond") ∈ lw_tbl := lw_at lw_m2 174 rfl
theorem q521 : (Jvm.Cond.selects "SaturdayKeep$Not" ({ cls := "SaturdayKeep$Cond", name := "holds", desc := "(LSaturdayKeep$Scene;)Z" } : Jvm.MethodName) ({ cls := "SaturdayKeep$Not", name := "holds", desc := "(LSaturdayKeep$Scene;)Z" } : Jvm.MethodName)) ∈ lw_all := lw_g (lw_at lw_m2 175 rfl) rfl
theorem q522 : (Jvm.Cond.unhidden "SaturdayKeep$Not" "holds" "(LSaturdayKeep$Scene;)Z") ∈ lw_tbl := lw_at lw_m2 176 rfl
theorem q523 : (Jvm.Cond.instanceMethod ({ cls := "SaturdayKeep$Not", name := "holds", desc := "(LSaturdayKeep$Scene;)Z" } : Jvm.MethodName)) ∈ lw_all := lw_g (lw_at lw_m2 177 rfl) rfl
theorem q524 : (Jvm.Cond.publicMethod ({ cls := "SaturdayKeep$Not", name := "holds", desc := "(LSaturdayKeep$Scene;)Z" } : Jvm.MethodName)) ∈ lw_tbl := lw_at lw_m2 178 rfl
theorem q525 : (Jvm.Cond.code ({ cls := "SaturdayKeep$Not", name := "holds", desc := "(LSaturdayKeep$Scene;)Z" } : Jvm.MethodName) prog_8_method_2_code (2 : Nat) (Option.some Jvm.ClassFile.FieldType.boolean)) ∈ lw_all := lw_g (lw_at lw_m2 179 rfl) rfl
theorem q526 : (Jvm.Cond.interfaceEntry "SaturdayKeep$Not" (13 : Nat)) ∈ lw_tbl := lw_at lw_m2 180 rfl
theorem q527 : (Jvm.Cond.methodLink "SaturdayKeep$Not" (13 : Nat) ({ cls := "SaturdayKeep$Cond", name := "holds", desc := "(LSaturdayKeep$Scene;)Z" } : Jvm.MethodName)) ∈ lw_all := lw_g (lw_at lw_m2 181 rfl) rfl
theorem q1366 : (Jvm.Cond.instantiable "SaturdayKeep$Not" (1 : Nat)) ∈ lw_all := lw_g (lw_at lw_m6 60 rfl) rfl
theorem q1368 : (Jvm.Cond.instanceMethod ({ cls := "SaturdayKeep$Not", name := "<init>", desc := "(LSaturdayKeep$Cond;)V" } : Jvm.MethodName)) ∈ lw_all := lw_g (lw_at lw_m6 62 rfl) rfl
theorem q1369 : (Jvm.Cond.code ({ cls := "SaturdayKeep$Not", name := "<init>", desc := "(LSaturdayKeep$Cond;)V" } : Jvm.MethodName) prog_8_method_1_code (2 : Nat) (Option.none : Option Jvm.ClassFile.FieldType)) ∈ lw_all := lw_g (lw_at lw_m6 63 rfl) rfl
theorem q1370 : (Jvm.Cond.methodLink "SaturdayKeep$Not" (1 : Nat) ({ cls := "java/lang/Object", name := "<init>", desc := "()V" } : Jvm.MethodName)) ∈ lw_all := lw_g (lw_at lw_m6 64 rfl) rfl
theorem q1371 : (Jvm.Cond.fieldLink "SaturdayKeep$Not" (7 : Nat) "SaturdayKeep$Not" "a" "LSaturdayKeep$Cond;") ∈ lw_all := lw_g (lw_at lw_m6 65 rfl) rfl
theorem q1372 : (Jvm.Cond.laysFinal "SaturdayKeep$Not" "SaturdayKeep$Not" "a" "LSaturdayKeep$Cond;") ∈ lw_all := lw_g (lw_at lw_m6 66 rfl) rfl
theorem q1373 : (Jvm.Cond.soleField "SaturdayKeep$Not" "a") ∈ lw_all := lw_g (lw_at lw_m6 67 rfl) rfl
theorem q1374 : (Jvm.Cond.superclass "SaturdayKeep$Not" "java/lang/Object") ∈ lw_all := lw_g (lw_at lw_m6 68 rfl) rfl
theorem q1468 : (Jvm.Cond.selects "SaturdayKeep$Not" ({ cls := "java/lang/Object", name := "getClass", desc := "()Ljava/lang/Class;" } : Jvm.MethodName) ({ cls := "java/lang/Object", name := "getClass", desc := "()Ljava/lang/Class;" } : Jvm.MethodName)) ∈ lw_all := lw_g (lw_at lw_m6 162 rfl) rfl
theorem q2521 : (Jvm.Cond.castable "SaturdayKeep$Not" "java/lang/Object") ∈ lw_tbl := lw_at lw_m11 15 rfl
theorem in_X11 : ∀ w ∈ wsX110, w ∈ lw_all := lw_in wsX110 [1372] (by decide +kernel) (by decide +kernel)
/-! SaturdayKeep$Tag -/
set_option maxRecDepth 100000
def RX12 : String := "SaturdayKeep$Tag"
def TX12 : u_T := fun k => match k with
  | _ => ("SaturdayKeep$Tag", "key", "Z", true)
def tyX12 : Nat → FieldType := fun k => match k with
  | _ => .boolean
abbrev wsX120 : List Cond := u_ws RX12 TX12 1
theorem nmX12 : ∀ a, a < 1 → ∀ b, b < 1 → a ≠ b → (TX12 a).2.1 ≠ (TX12 b).2.1 := by decide +kernel
theorem tyX12_ok : ∀ k, k < 1 → parseFieldDescriptor (TX12 k).2.2.1 = some (tyX12 k) := by decide +kernel
abbrev cX12_holds : ByteArray := prog_14_method_2_code
def yX12_holds : MethodName := ⟨RX12, "holds", "(LSaturdayKeep$Scene;)Z"⟩
def dkwX12_holds_0 : List UInt8 := [42, 180, 0, 7, 153, 0, 10, 43, 180, 0, 13, 167, 0, 7, 43, 180, 0, 16, 172]
abbrev dktX12_holds_0 : List UInt8 := dkwX12_holds_0 ++ []
theorem dksX12_holds_0 : cX12_holds.data.toList.drop 0 = dktX12_holds_0 := by decide +kernel
theorem dX12_holds_0 : decode cX12_holds 0 = .ok (.aload_n 0, 1) := dk_42 (dk_at dksX12_holds_0 0 rfl rfl)
theorem dX12_holds_1 : decode cX12_holds 1 = .ok (.getfield 7, 3) := dk_180 0 7 (dk_at dksX12_holds_0 1 rfl rfl)
theorem dX12_holds_4 : decode cX12_holds 4 = .ok (.ifCond .eq 10, 3) := dk_153 0 10 (dk_at dksX12_holds_0 4 rfl rfl)
theorem dX12_holds_7 : decode cX12_holds 7 = .ok (.aload_n 1, 1) := dk_43 (dk_at dksX12_holds_0 7 rfl rfl)
theorem dX12_holds_8 : decode cX12_holds 8 = .ok (.getfield 13, 3) := dk_180 0 13 (dk_at dksX12_holds_0 8 rfl rfl)
theorem dX12_holds_11 : decode cX12_holds 11 = .ok (.goto 7, 3) := dk_167 0 7 (dk_at dksX12_holds_0 11 rfl rfl)
theorem dX12_holds_14 : decode cX12_holds 14 = .ok (.aload_n 1, 1) := dk_43 (dk_at dksX12_holds_0 14 rfl rfl)
theorem dX12_holds_15 : decode cX12_holds 15 = .ok (.getfield 16, 3) := dk_180 0 16 (dk_at dksX12_holds_0 15 rfl rfl)
theorem dX12_holds_18 : decode cX12_holds 18 = .ok (.ireturn, 1) := dk_172 (dk_at dksX12_holds_0 18 rfl rfl)
abbrev cX12_init : ByteArray := prog_14_method_1_code
def yX12_init : MethodName := ⟨RX12, "<init>", "(Z)V"⟩
def dkwX12_init_0 : List UInt8 := [42, 183, 0, 1, 42, 27, 181, 0, 7, 177]
abbrev dktX12_init_0 : List UInt8 := dkwX12_init_0 ++ []
theorem dksX12_init_0 : cX12_init.data.toList.drop 0 = dktX12_init_0 := by decide +kernel
theorem dX12_init_0 : decode cX12_init 0 = .ok (.aload_n 0, 1) := dk_42 (dk_at dksX12_init_0 0 rfl rfl)
theorem dX12_init_1 : decode cX12_init 1 = .ok (.invokespecial 1, 3) := dk_183 0 1 (dk_at dksX12_init_0 1 rfl rfl)
theorem dX12_init_4 : decode cX12_init 4 = .ok (.aload_n 0, 1) := dk_42 (dk_at dksX12_init_0 4 rfl rfl)
theorem dX12_init_5 : decode cX12_init 5 = .ok (.iload_n 1, 1) := dk_27 (dk_at dksX12_init_0 5 rfl rfl)
theorem dX12_init_6 : decode cX12_init 6 = .ok (.putfield 7, 3) := dk_181 0 7 (dk_at dksX12_init_0 6 rfl rfl)
theorem dX12_init_9 : decode cX12_init 9 = .ok (.return_, 1) := dk_177 (dk_at dksX12_init_0 9 rfl rfl)
theorem q138 : (Jvm.Cond.initialized "SaturdayKeep$Tag") ∈ lw_all := lw_g (lw_at lw_m1 32 rfl) rfl
theorem q307 : (Jvm.Cond.fieldLinkNest "SaturdayKeep$Tag" (13 : Nat) "SaturdayKeep$Scene" "key" "Z" "SaturdayKeep") ∈ lw_tbl := lw_at lw_m1 201 rfl
theorem q309 : (Jvm.Cond.fieldLinkNest "SaturdayKeep$Tag" (16 : Nat) "SaturdayKeep$Scene" "eve" "Z" "SaturdayKeep") ∈ lw_tbl := lw_at lw_m1 203 rfl
theorem q539 : (Jvm.Cond.castable "SaturdayKeep$Tag" "SaturdayKeep$Cond") ∈ lw_tbl := lw_at lw_m2 193 rfl
theorem q540 : (Jvm.Cond.selects "SaturdayKeep$Tag" ({ cls := "SaturdayKeep$Cond", name := "holds", desc := "(LSaturdayKeep$Scene;)Z" } : Jvm.MethodName) ({ cls := "SaturdayKeep$Tag", name := "holds", desc := "(LSaturdayKeep$Scene;)Z" } : Jvm.MethodName)) ∈ lw_all := lw_g (lw_at lw_m2 194 rfl) rfl
theorem q541 : (Jvm.Cond.unhidden "SaturdayKeep$Tag" "holds" "(LSaturdayKeep$Scene;)Z") ∈ lw_tbl := lw_at lw_m2 195 rfl
theorem q542 : (Jvm.Cond.instanceMethod ({ cls := "SaturdayKeep$Tag", name := "holds", desc := "(LSaturdayKeep$Scene;)Z" } : Jvm.MethodName)) ∈ lw_all := lw_g (lw_at lw_m2 196 rfl) rfl
theorem q543 : (Jvm.Cond.publicMethod ({ cls := "SaturdayKeep$Tag", name := "holds", desc := "(LSaturdayKeep$Scene;)Z" } : Jvm.MethodName)) ∈ lw_tbl := lw_at lw_m2 197 rfl
theorem q544 : (Jvm.Cond.code ({ cls := "SaturdayKeep$Tag", name := "holds", desc := "(LSaturdayKeep$Scene;)Z" } : Jvm.MethodName) prog_14_method_2_code (2 : Nat) (Option.some Jvm.ClassFile.FieldType.boolean)) ∈ lw_all := lw_g (lw_at lw_m2 198 rfl) rfl
theorem q1376 : (Jvm.Cond.instantiable "SaturdayKeep$Tag" (1 : Nat)) ∈ lw_all := lw_g (lw_at lw_m6 70 rfl) rfl
theorem q1378 : (Jvm.Cond.instanceMethod ({ cls := "SaturdayKeep$Tag", name := "<init>", desc := "(Z)V" } : Jvm.MethodName)) ∈ lw_all := lw_g (lw_at lw_m6 72 rfl) rfl
theorem q1379 : (Jvm.Cond.code ({ cls := "SaturdayKeep$Tag", name := "<init>", desc := "(Z)V" } : Jvm.MethodName) prog_14_method_1_code (2 : Nat) (Option.none : Option Jvm.ClassFile.FieldType)) ∈ lw_all := lw_g (lw_at lw_m6 73 rfl) rfl
theorem q1380 : (Jvm.Cond.methodLink "SaturdayKeep$Tag" (1 : Nat) ({ cls := "java/lang/Object", name := "<init>", desc := "()V" } : Jvm.MethodName)) ∈ lw_all := lw_g (lw_at lw_m6 74 rfl) rfl
theorem q1381 : (Jvm.Cond.fieldLink "SaturdayKeep$Tag" (7 : Nat) "SaturdayKeep$Tag" "key" "Z") ∈ lw_all := lw_g (lw_at lw_m6 75 rfl) rfl
theorem q1382 : (Jvm.Cond.laysFinal "SaturdayKeep$Tag" "SaturdayKeep$Tag" "key" "Z") ∈ lw_all := lw_g (lw_at lw_m6 76 rfl) rfl
theorem q1383 : (Jvm.Cond.soleField "SaturdayKeep$Tag" "key") ∈ lw_all := lw_g (lw_at lw_m6 77 rfl) rfl
theorem q1384 : (Jvm.Cond.superclass "SaturdayKeep$Tag" "java/lang/Object") ∈ lw_all := lw_g (lw_at lw_m6 78 rfl) rfl
theorem q1474 : (Jvm.Cond.selects "SaturdayKeep$Tag" ({ cls := "java/lang/Object", name := "getClass", desc := "()Ljava/lang/Class;" } : Jvm.MethodName) ({ cls := "java/lang/Object", name := "getClass", desc := "()Ljava/lang/Class;" } : Jvm.MethodName)) ∈ lw_all := lw_g (lw_at lw_m6 168 rfl) rfl
theorem q2522 : (Jvm.Cond.castable "SaturdayKeep$Tag" "java/lang/Object") ∈ lw_tbl := lw_at lw_m11 16 rfl
theorem in_X12 : ∀ w ∈ wsX120, w ∈ lw_all := lw_in wsX120 [1382] (by decide +kernel) (by decide +kernel)
/-! SaturdayKeep$Sum -/
set_option maxRecDepth 100000
def RX13 : String := "SaturdayKeep$Sum"
def TX13 : u_T := fun k => match k with
  | _ => ("SaturdayKeep$Sum", "parts", "Ljava/util/ArrayList;", true)
def tyX13 : Nat → FieldType := fun k => match k with
  | _ => .object "java/util/ArrayList"
abbrev wsX130 : List Cond := u_ws RX13 TX13 1
theorem nmX13 : ∀ a, a < 1 → ∀ b, b < 1 → a ≠ b → (TX13 a).2.1 ≠ (TX13 b).2.1 := by decide +kernel
theorem tyX13_ok : ∀ k, k < 1 → parseFieldDescriptor (TX13 k).2.2.1 = some (tyX13 k) := by decide +kernel
abbrev cX13_in : ByteArray := prog_13_method_2_code
def yX13_in : MethodName := ⟨RX13, "in", "(LSaturdayKeep$Scene;)I"⟩
def dkwX13_in_1 : List UInt8 := [192, 0, 24, 43, 182, 0, 26, 96, 61, 132, 3, 1, 167, 255, 224, 28, 172]
abbrev dktX13_in_1 : List UInt8 := dkwX13_in_1 ++ []
def dkwX13_in_0 : List UInt8 := [3, 61, 3, 62, 29, 42, 180, 0, 10, 182, 0, 16, 162, 0, 27, 28, 42, 180, 0, 10, 29, 182, 0, 20]
abbrev dktX13_in_0 : List UInt8 := dkwX13_in_0 ++ dktX13_in_1
theorem dksX13_in_0 : cX13_in.data.toList.drop 0 = dktX13_in_0 := by decide +kernel
theorem dksX13_in_1 : cX13_in.data.toList.drop 24 = dktX13_in_1 := dk_seg dksX13_in_0 24 rfl rfl
theorem dX13_in_0 : decode cX13_in 0 = .ok (.iconst 0, 1) := dk_3 (dk_at dksX13_in_0 0 rfl rfl)
theorem dX13_in_1 : decode cX13_in 1 = .ok (.istore_n 2, 1) := dk_61 (dk_at dksX13_in_0 1 rfl rfl)
theorem dX13_in_2 : decode cX13_in 2 = .ok (.iconst 0, 1) := dk_3 (dk_at dksX13_in_0 2 rfl rfl)
theorem dX13_in_3 : decode cX13_in 3 = .ok (.istore_n 3, 1) := dk_62 (dk_at dksX13_in_0 3 rfl rfl)
theorem dX13_in_4 : decode cX13_in 4 = .ok (.iload_n 3, 1) := dk_29 (dk_at dksX13_in_0 4 rfl rfl)
theorem dX13_in_5 : decode cX13_in 5 = .ok (.aload_n 0, 1) := dk_42 (dk_at dksX13_in_0 5 rfl rfl)
theorem dX13_in_6 : decode cX13_in 6 = .ok (.getfield 10, 3) := dk_180 0 10 (dk_at dksX13_in_0 6 rfl rfl)
theorem dX13_in_9 : decode cX13_in 9 = .ok (.invokevirtual 16, 3) := dk_182 0 16 (dk_at dksX13_in_0 9 rfl rfl)
theorem dX13_in_12 : decode cX13_in 12 = .ok (.if_icmp .ge 27, 3) := dk_162 0 27 (dk_at dksX13_in_0 12 rfl rfl)
theorem dX13_in_15 : decode cX13_in 15 = .ok (.iload_n 2, 1) := dk_28 (dk_at dksX13_in_0 15 rfl rfl)
theorem dX13_in_16 : decode cX13_in 16 = .ok (.aload_n 0, 1) := dk_42 (dk_at dksX13_in_0 16 rfl rfl)
theorem dX13_in_17 : decode cX13_in 17 = .ok (.getfield 10, 3) := dk_180 0 10 (dk_at dksX13_in_0 17 rfl rfl)
theorem dX13_in_20 : decode cX13_in 20 = .ok (.iload_n 3, 1) := dk_29 (dk_at dksX13_in_0 20 rfl rfl)
theorem dX13_in_21 : decode cX13_in 21 = .ok (.invokevirtual 20, 3) := dk_182 0 20 (dk_at dksX13_in_0 21 rfl rfl)
theorem dX13_in_24 : decode cX13_in 24 = .ok (.checkcast 24, 3) := dk_192 0 24 (dk_at dksX13_in_1 0 rfl rfl)
theorem dX13_in_27 : decode cX13_in 27 = .ok (.aload_n 1, 1) := dk_43 (dk_at dksX13_in_1 3 rfl rfl)
theorem dX13_in_28 : decode cX13_in 28 = .ok (.invokevirtual 26, 3) := dk_182 0 26 (dk_at dksX13_in_1 4 rfl rfl)
theorem dX13_in_31 : decode cX13_in 31 = .ok (.iadd, 1) := dk_96 (dk_at dksX13_in_1 7 rfl rfl)
theorem dX13_in_32 : decode cX13_in 32 = .ok (.istore_n 2, 1) := dk_61 (dk_at dksX13_in_1 8 rfl rfl)
theorem dX13_in_33 : decode cX13_in 33 = .ok (.iinc 3 1, 3) := dk_132 3 1 (dk_at dksX13_in_1 9 rfl rfl)
theorem dX13_in_36 : decode cX13_in 36 = .ok (.goto (-32), 3) := dk_167 255 224 (dk_at dksX13_in_1 12 rfl rfl)
theorem dX13_in_39 : decode cX13_in 39 = .ok (.iload_n 2, 1) := dk_28 (dk_at dksX13_in_1 15 rfl rfl)
theorem dX13_in_40 : decode cX13_in 40 = .ok (.ireturn, 1) := dk_172 (dk_at dksX13_in_1 16 rfl rfl)
abbrev cX13_init : ByteArray := prog_13_method_1_code
def yX13_init : MethodName := ⟨RX13, "<init>", "()V"⟩
def dkwX13_init_0 : List UInt8 := [42, 183, 0, 1, 42, 187, 0, 7, 89, 183, 0, 9, 181, 0, 10, 177]
abbrev dktX13_init_0 : List UInt8 := dkwX13_init_0 ++ []
theorem dksX13_init_0 : cX13_init.data.toList.drop 0 = dktX13_init_0 := by decide +kernel
theorem dX13_init_0 : decode cX13_init 0 = .ok (.aload_n 0, 1) := dk_42 (dk_at dksX13_init_0 0 rfl rfl)
theorem dX13_init_1 : decode cX13_init 1 = .ok (.invokespecial 1, 3) := dk_183 0 1 (dk_at dksX13_init_0 1 rfl rfl)
theorem dX13_init_4 : decode cX13_init 4 = .ok (.aload_n 0, 1) := dk_42 (dk_at dksX13_init_0 4 rfl rfl)
theorem dX13_init_5 : decode cX13_init 5 = .ok (.new 7, 3) := dk_187 0 7 (dk_at dksX13_init_0 5 rfl rfl)
theorem dX13_init_8 : decode cX13_init 8 = .ok (.dup, 1) := dk_89 (dk_at dksX13_init_0 8 rfl rfl)
theorem dX13_init_9 : decode cX13_init 9 = .ok (.invokespecial 9, 3) := dk_183 0 9 (dk_at dksX13_init_0 9 rfl rfl)
theorem dX13_init_12 : decode cX13_init 12 = .ok (.putfield 10, 3) := dk_181 0 10 (dk_at dksX13_init_0 12 rfl rfl)
theorem dX13_init_15 : decode cX13_init 15 = .ok (.return_, 1) := dk_177 (dk_at dksX13_init_0 15 rfl rfl)
theorem q139 : (Jvm.Cond.initialized "SaturdayKeep$Sum") ∈ lw_all := lw_g (lw_at lw_m1 33 rfl) rfl
theorem q500 : (Jvm.Cond.instanceMethod ({ cls := "SaturdayKeep$Sum", name := "in", desc := "(LSaturdayKeep$Scene;)I" } : Jvm.MethodName)) ∈ lw_all := lw_g (lw_at lw_m2 154 rfl) rfl
theorem q501 : (Jvm.Cond.selects "SaturdayKeep$Sum" ({ cls := "SaturdayKeep$Sum", name := "in", desc := "(LSaturdayKeep$Scene;)I" } : Jvm.MethodName) ({ cls := "SaturdayKeep$Sum", name := "in", desc := "(LSaturdayKeep$Scene;)I" } : Jvm.MethodName)) ∈ lw_all := lw_g (lw_at lw_m2 155 rfl) rfl
theorem q502 : (Jvm.Cond.code ({ cls := "SaturdayKeep$Sum", name := "in", desc := "(LSaturdayKeep$Scene;)I" } : Jvm.MethodName) prog_13_method_2_code (4 : Nat) (Option.some Jvm.ClassFile.FieldType.int)) ∈ lw_all := lw_g (lw_at lw_m2 156 rfl) rfl
theorem q503 : (Jvm.Cond.methodLink "SaturdayKeep$Sum" (16 : Nat) ({ cls := "java/util/ArrayList", name := "size", desc := "()I" } : Jvm.MethodName)) ∈ lw_all := lw_g (lw_at lw_m2 157 rfl) rfl
theorem q504 : (Jvm.Cond.methodLink "SaturdayKeep$Sum" (20 : Nat) ({ cls := "java/util/ArrayList", name := "get", desc := "(I)Ljava/lang/Object;" } : Jvm.MethodName)) ∈ lw_all := lw_g (lw_at lw_m2 158 rfl) rfl
theorem q505 : (Jvm.Cond.classLink "SaturdayKeep$Sum" (24 : Nat) "SaturdayKeep$Part") ∈ lw_all := lw_g (lw_at lw_m2 159 rfl) rfl
theorem q506 : (Jvm.Cond.methodLink "SaturdayKeep$Sum" (26 : Nat) ({ cls := "SaturdayKeep$Part", name := "in", desc := "(LSaturdayKeep$Scene;)I" } : Jvm.MethodName)) ∈ lw_all := lw_g (lw_at lw_m2 160 rfl) rfl
theorem q1391 : (Jvm.Cond.instantiable "SaturdayKeep$Sum" (1 : Nat)) ∈ lw_all := lw_g (lw_at lw_m6 85 rfl) rfl
theorem q1393 : (Jvm.Cond.instanceMethod ({ cls := "SaturdayKeep$Sum", name := "<init>", desc := "()V" } : Jvm.MethodName)) ∈ lw_all := lw_g (lw_at lw_m6 87 rfl) rfl
theorem q1394 : (Jvm.Cond.code ({ cls := "SaturdayKeep$Sum", name := "<init>", desc := "()V" } : Jvm.MethodName) prog_13_method_1_code (1 : Nat) (Option.none : Option Jvm.ClassFile.FieldType)) ∈ lw_all := lw_g (lw_at lw_m6 88 rfl) rfl
theorem q1395 : (Jvm.Cond.methodLink "SaturdayKeep$Sum" (1 : Nat) ({ cls := "java/lang/Object", name := "<init>", desc := "()V" } : Jvm.MethodName)) ∈ lw_all := lw_g (lw_at lw_m6 89 rfl) rfl
theorem q1396 : (Jvm.Cond.classLink "SaturdayKeep$Sum" (7 : Nat) "java/util/ArrayList") ∈ lw_all := lw_g (lw_at lw_m6 90 rfl) rfl
theorem q1397 : (Jvm.Cond.methodLink "SaturdayKeep$Sum" (9 : Nat) ({ cls := "java/util/ArrayList", name := "<init>", desc := "()V" } : Jvm.MethodName)) ∈ lw_all := lw_g (lw_at lw_m6 91 rfl) rfl
theorem q1398 : (Jvm.Cond.fieldLink "SaturdayKeep$Sum" (10 : Nat) "SaturdayKeep$Sum" "parts" "Ljava/util/ArrayList;") ∈ lw_all := lw_g (lw_at lw_m6 92 rfl) rfl
theorem q1400 : (Jvm.Cond.laysFinal "SaturdayKeep$Sum" "SaturdayKeep$Sum" "parts" "Ljava/util/ArrayList;") ∈ lw_all := lw_g (lw_at lw_m6 94 rfl) rfl
theorem q1401 : (Jvm.Cond.soleField "SaturdayKeep$Sum" "parts") ∈ lw_all := lw_g (lw_at lw_m6 95 rfl) rfl
theorem q1402 : (Jvm.Cond.superclass "SaturdayKeep$Sum" "java/lang/Object") ∈ lw_all := lw_g (lw_at lw_m6 96 rfl) rfl
theorem q1473 : (Jvm.Cond.selects "SaturdayKeep$Sum" ({ cls := "java/lang/Object", name := "getClass", desc := "()Ljava/lang/Class;" } : Jvm.MethodName) ({ cls := "java/lang/Object", name := "getClass", desc := "()Ljava/lang/Class;" } : Jvm.MethodName)) ∈ lw_all := lw_g (lw_at lw_m6 167 rfl) rfl
theorem q2523 : (Jvm.Cond.castable "SaturdayKeep$Sum" "java/lang/Object") ∈ lw_tbl := lw_at lw_m11 17 rfl
theorem in_X13 : ∀ w ∈ wsX130, w ∈ lw_all := lw_in wsX130 [1400] (by decide +kernel) (by decide +kernel)
/-! SaturdayKeep$Part -/
set_option maxRecDepth 100000
def RX14 : String := "SaturdayKeep$Part"
def TX14 : u_T := fun k => match k with
  | 0 => ("SaturdayKeep$Part", "n", "I", true)
  | _ => ("SaturdayKeep$Part", "fact", "LSaturdayKeep$Fact;", true)
def tyX14 : Nat → FieldType := fun k => match k with
  | 0 => .int
  | _ => .object "SaturdayKeep$Fact"
abbrev wsX140 : List Cond := u_ws RX14 TX14 2
theorem nmX14 : ∀ a, a < 2 → ∀ b, b < 2 → a ≠ b → (TX14 a).2.1 ≠ (TX14 b).2.1 := by decide +kernel
theorem tyX14_ok : ∀ k, k < 2 → parseFieldDescriptor (TX14 k).2.2.1 = some (tyX14 k) := by decide +kernel
abbrev cX14_in : ByteArray := prog_9_method_2_code
def yX14_in : MethodName := ⟨RX14, "in", "(LSaturdayKeep$Scene;)I"⟩
def dkwX14_in_0 : List UInt8 := [42, 180, 0, 13, 199, 0, 10, 42, 180, 0, 7, 167, 0, 11, 43, 42, 180, 0, 13, 182, 0, 17, 172]
abbrev dktX14_in_0 : List UInt8 := dkwX14_in_0 ++ []
theorem dksX14_in_0 : cX14_in.data.toList.drop 0 = dktX14_in_0 := by decide +kernel
theorem dX14_in_0 : decode cX14_in 0 = .ok (.aload_n 0, 1) := dk_42 (dk_at dksX14_in_0 0 rfl rfl)
theorem dX14_in_1 : decode cX14_in 1 = .ok (.getfield 13, 3) := dk_180 0 13 (dk_at dksX14_in_0 1 rfl rfl)
theorem dX14_in_4 : decode cX14_in 4 = .ok (.ifnonnull 10, 3) := dk_199 0 10 (dk_at dksX14_in_0 4 rfl rfl)
theorem dX14_in_7 : decode cX14_in 7 = .ok (.aload_n 0, 1) := dk_42 (dk_at dksX14_in_0 7 rfl rfl)
theorem dX14_in_8 : decode cX14_in 8 = .ok (.getfield 7, 3) := dk_180 0 7 (dk_at dksX14_in_0 8 rfl rfl)
theorem dX14_in_11 : decode cX14_in 11 = .ok (.goto 11, 3) := dk_167 0 11 (dk_at dksX14_in_0 11 rfl rfl)
theorem dX14_in_14 : decode cX14_in 14 = .ok (.aload_n 1, 1) := dk_43 (dk_at dksX14_in_0 14 rfl rfl)
theorem dX14_in_15 : decode cX14_in 15 = .ok (.aload_n 0, 1) := dk_42 (dk_at dksX14_in_0 15 rfl rfl)
theorem dX14_in_16 : decode cX14_in 16 = .ok (.getfield 13, 3) := dk_180 0 13 (dk_at dksX14_in_0 16 rfl rfl)
theorem dX14_in_19 : decode cX14_in 19 = .ok (.invokevirtual 17, 3) := dk_182 0 17 (dk_at dksX14_in_0 19 rfl rfl)
theorem dX14_in_22 : decode cX14_in 22 = .ok (.ireturn, 1) := dk_172 (dk_at dksX14_in_0 22 rfl rfl)
abbrev cX14_init : ByteArray := prog_9_method_1_code
def yX14_init : MethodName := ⟨RX14, "<init>", "(ILSaturdayKeep$Fact;)V"⟩
def dkwX14_init_0 : List UInt8 := [42, 183, 0, 1, 42, 27, 181, 0, 7, 42, 44, 181, 0, 13, 177]
abbrev dktX14_init_0 : List UInt8 := dkwX14_init_0 ++ []
theorem dksX14_init_0 : cX14_init.data.toList.drop 0 = dktX14_init_0 := by decide +kernel
theorem dX14_init_0 : decode cX14_init 0 = .ok (.aload_n 0, 1) := dk_42 (dk_at dksX14_init_0 0 rfl rfl)
theorem dX14_init_1 : decode cX14_init 1 = .ok (.invokespecial 1, 3) := dk_183 0 1 (dk_at dksX14_init_0 1 rfl rfl)
theorem dX14_init_4 : decode cX14_init 4 = .ok (.aload_n 0, 1) := dk_42 (dk_at dksX14_init_0 4 rfl rfl)
theorem dX14_init_5 : decode cX14_init 5 = .ok (.iload_n 1, 1) := dk_27 (dk_at dksX14_init_0 5 rfl rfl)
theorem dX14_init_6 : decode cX14_init 6 = .ok (.putfield 7, 3) := dk_181 0 7 (dk_at dksX14_init_0 6 rfl rfl)
theorem dX14_init_9 : decode cX14_init 9 = .ok (.aload_n 0, 1) := dk_42 (dk_at dksX14_init_0 9 rfl rfl)
theorem dX14_init_10 : decode cX14_init 10 = .ok (.aload_n 2, 1) := dk_44 (dk_at dksX14_init_0 10 rfl rfl)
theorem dX14_init_11 : decode cX14_init 11 = .ok (.putfield 13, 3) := dk_181 0 13 (dk_at dksX14_init_0 11 rfl rfl)
theorem dX14_init_14 : decode cX14_init 14 = .ok (.return_, 1) := dk_177 (dk_at dksX14_init_0 14 rfl rfl)
theorem q140 : (Jvm.Cond.initialized "SaturdayKeep$Part") ∈ lw_all := lw_g (lw_at lw_m1 34 rfl) rfl
theorem q507 : (Jvm.Cond.instanceMethod ({ cls := "SaturdayKeep$Part", name := "in", desc := "(LSaturdayKeep$Scene;)I" } : Jvm.MethodName)) ∈ lw_all := lw_g (lw_at lw_m2 161 rfl) rfl
theorem q508 : (Jvm.Cond.selects "SaturdayKeep$Part" ({ cls := "SaturdayKeep$Part", name := "in", desc := "(LSaturdayKeep$Scene;)I" } : Jvm.MethodName) ({ cls := "SaturdayKeep$Part", name := "in", desc := "(LSaturdayKeep$Scene;)I" } : Jvm.MethodName)) ∈ lw_all := lw_g (lw_at lw_m2 162 rfl) rfl
theorem q509 : (Jvm.Cond.code ({ cls := "SaturdayKeep$Part", name := "in", desc := "(LSaturdayKeep$Scene;)I" } : Jvm.MethodName) prog_9_method_2_code (2 : Nat) (Option.some Jvm.ClassFile.FieldType.int)) ∈ lw_all := lw_g (lw_at lw_m2 163 rfl) rfl
theorem q510 : (Jvm.Cond.methodLink "SaturdayKeep$Part" (17 : Nat) ({ cls := "SaturdayKeep$Scene", name := "of", desc := "(LSaturdayKeep$Fact;)I" } : Jvm.MethodName)) ∈ lw_all := lw_g (lw_at lw_m2 164 rfl) rfl
theorem q1412 : (Jvm.Cond.instantiable "SaturdayKeep$Part" (2 : Nat)) ∈ lw_all := lw_g (lw_at lw_m6 106 rfl) rfl
theorem q1414 : (Jvm.Cond.instanceMethod ({ cls := "SaturdayKeep$Part", name := "<init>", desc := "(ILSaturdayKeep$Fact;)V" } : Jvm.MethodName)) ∈ lw_all := lw_g (lw_at lw_m6 108 rfl) rfl
theorem q1415 : (Jvm.Cond.code ({ cls := "SaturdayKeep$Part", name := "<init>", desc := "(ILSaturdayKeep$Fact;)V" } : Jvm.MethodName) prog_9_method_1_code (3 : Nat) (Option.none : Option Jvm.ClassFile.FieldType)) ∈ lw_all := lw_g (lw_at lw_m6 109 rfl) rfl
theorem q1416 : (Jvm.Cond.methodLink "SaturdayKeep$Part" (1 : Nat) ({ cls := "java/lang/Object", name := "<init>", desc := "()V" } : Jvm.MethodName)) ∈ lw_all := lw_g (lw_at lw_m6 110 rfl) rfl
theorem q1417 : (Jvm.Cond.fieldLink "SaturdayKeep$Part" (7 : Nat) "SaturdayKeep$Part" "n" "I") ∈ lw_all := lw_g (lw_at lw_m6 111 rfl) rfl
theorem q1418 : (Jvm.Cond.fieldLink "SaturdayKeep$Part" (13 : Nat) "SaturdayKeep$Part" "fact" "LSaturdayKeep$Fact;") ∈ lw_all := lw_g (lw_at lw_m6 112 rfl) rfl
theorem q1419 : (Jvm.Cond.laysFinal "SaturdayKeep$Part" "SaturdayKeep$Part" "n" "I") ∈ lw_all := lw_g (lw_at lw_m6 113 rfl) rfl
theorem q1420 : (Jvm.Cond.soleField "SaturdayKeep$Part" "n") ∈ lw_all := lw_g (lw_at lw_m6 114 rfl) rfl
theorem q1421 : (Jvm.Cond.laysFinal "SaturdayKeep$Part" "SaturdayKeep$Part" "fact" "LSaturdayKeep$Fact;") ∈ lw_all := lw_g (lw_at lw_m6 115 rfl) rfl
theorem q1422 : (Jvm.Cond.soleField "SaturdayKeep$Part" "fact") ∈ lw_all := lw_g (lw_at lw_m6 116 rfl) rfl
theorem q1423 : (Jvm.Cond.superclass "SaturdayKeep$Part" "java/lang/Object") ∈ lw_all := lw_g (lw_at lw_m6 117 rfl) rfl
theorem q1469 : (Jvm.Cond.selects "SaturdayKeep$Part" ({ cls := "java/lang/Object", name := "getClass", desc := "()Ljava/lang/Class;" } : Jvm.MethodName) ({ cls := "java/lang/Object", name := "getClass", desc := "()Ljava/lang/Class;" } : Jvm.MethodName)) ∈ lw_all := lw_g (lw_at lw_m6 163 rfl) rfl
theorem q2524 : (Jvm.Cond.castable "SaturdayKeep$Part" "java/lang/Object") ∈ lw_tbl := lw_at lw_m11 18 rfl
theorem in_X14 : ∀ w ∈ wsX140, w ∈ lw_all := lw_in wsX140 [1419, 1421] (by decide +kernel) (by decide +kernel)
/-! SaturdayKeep$Fact -/
set_option maxRecDepth 100000
def RX15 : String := "SaturdayKeep$Fact"
abbrev cX15_of : ByteArray := prog_3_method_4_code
def yX15_of : MethodName := ⟨RX15, "of", "(Ljava/lang/String;)LSaturdayKeep$Fact;"⟩
def dkwX15_of_1 : List UInt8 := [42, 182, 0, 52, 153, 0, 6, 25, 4, 176, 132, 3, 1, 167, 255, 228, 1, 176]
abbrev dktX15_of_1 : List UInt8 := dkwX15_of_1 ++ []
def dkwX15_of_0 : List UInt8 := [184, 0, 48, 76, 43, 190, 61, 3, 62, 29, 28, 162, 0, 29, 43, 29, 50, 58, 4, 25, 4, 180, 0, 44]
abbrev dktX15_of_0 : List UInt8 := dkwX15_of_0 ++ dktX15_of_1
theorem dksX15_of_0 : cX15_of.data.toList.drop 0 = dktX15_of_0 := by decide +kernel
theorem dksX15_of_1 : cX15_of.data.toList.drop 24 = dktX15_of_1 := dk_seg dksX15_of_0 24 rfl rfl
theorem dX15_of_0 : decode cX15_of 0 = .ok (.invokestatic 48, 3) := dk_184 0 48 (dk_at dksX15_of_0 0 rfl rfl)
theorem dX15_of_3 : decode cX15_of 3 = .ok (.astore_n 1, 1) := dk_76 (dk_at dksX15_of_0 3 rfl rfl)
theorem dX15_of_4 : decode cX15_of 4 = .ok (.aload_n 1, 1) := dk_43 (dk_at dksX15_of_0 4 rfl rfl)
theorem dX15_of_5 : decode cX15_of 5 = .ok (.arraylength, 1) := dk_190 (dk_at dksX15_of_0 5 rfl rfl)
theorem dX15_of_6 : decode cX15_of 6 = .ok (.istore_n 2, 1) := dk_61 (dk_at dksX15_of_0 6 rfl rfl)
theorem dX15_of_7 : decode cX15_of 7 = .ok (.iconst 0, 1) := dk_3 (dk_at dksX15_of_0 7 rfl rfl)
theorem dX15_of_8 : decode cX15_of 8 = .ok (.istore_n 3, 1) := dk_62 (dk_at dksX15_of_0 8 rfl rfl)
theorem dX15_of_9 : decode cX15_of 9 = .ok (.iload_n 3, 1) := dk_29 (dk_at dksX15_of_0 9 rfl rfl)
theorem dX15_of_10 : decode cX15_of 10 = .ok (.iload_n 2, 1) := dk_28 (dk_at dksX15_of_0 10 rfl rfl)
theorem dX15_of_11 : decode cX15_of 11 = .ok (.if_icmp .ge 29, 3) := dk_162 0 29 (dk_at dksX15_of_0 11 rfl rfl)
theorem dX15_of_14 : decode cX15_of 14 = .ok (.aload_n 1, 1) := dk_43 (dk_at dksX15_of_0 14 rfl rfl)
theorem dX15_of_15 : decode cX15_of 15 = .ok (.iload_n 3, 1) := dk_29 (dk_at dksX15_of_0 15 rfl rfl)
theorem dX15_of_16 : decode cX15_of 16 = .ok (.aaload, 1) := dk_50 (dk_at dksX15_of_0 16 rfl rfl)
theorem dX15_of_17 : decode cX15_of 17 = .ok (.astore 4, 2) := dk_58 4 (dk_at dksX15_of_0 17 rfl rfl)
theorem dX15_of_19 : decode cX15_of 19 = .ok (.aload 4, 2) := dk_25 4 (dk_at dksX15_of_0 19 rfl rfl)
theorem dX15_of_21 : decode cX15_of 21 = .ok (.getfield 44, 3) := dk_180 0 44 (dk_at dksX15_of_0 21 rfl rfl)
theorem dX15_of_24 : decode cX15_of 24 = .ok (.aload_n 0, 1) := dk_42 (dk_at dksX15_of_1 0 rfl rfl)
theorem dX15_of_25 : decode cX15_of 25 = .ok (.invokevirtual 52, 3) := dk_182 0 52 (dk_at dksX15_of_1 1 rfl rfl)
theorem dX15_of_28 : decode cX15_of 28 = .ok (.ifCond .eq 6, 3) := dk_153 0 6 (dk_at dksX15_of_1 4 rfl rfl)
theorem dX15_of_31 : decode cX15_of 31 = .ok (.aload 4, 2) := dk_25 4 (dk_at dksX15_of_1 7 rfl rfl)
theorem dX15_of_33 : decode cX15_of 33 = .ok (.areturn, 1) := dk_176 (dk_at dksX15_of_1 9 rfl rfl)
theorem dX15_of_34 : decode cX15_of 34 = .ok (.iinc 3 1, 3) := dk_132 3 1 (dk_at dksX15_of_1 10 rfl rfl)
theorem dX15_of_37 : decode cX15_of 37 = .ok (.goto (-28), 3) := dk_167 255 228 (dk_at dksX15_of_1 13 rfl rfl)
theorem dX15_of_40 : decode cX15_of 40 = .ok (.aconst_null, 1) := dk_1 (dk_at dksX15_of_1 16 rfl rfl)
theorem dX15_of_41 : decode cX15_of 41 = .ok (.areturn, 1) := dk_176 (dk_at dksX15_of_1 17 rfl rfl)
abbrev cX15_values : ByteArray := prog_3_method_1_code
def yX15_values : MethodName := ⟨RX15, "values", "()[LSaturdayKeep$Fact;"⟩
def dkwX15_values_0 : List UInt8 := [178, 0, 25, 182, 0, 29, 192, 0, 30, 176]
abbrev dktX15_values_0 : List UInt8 := dkwX15_values_0 ++ []
theorem dksX15_values_0 : cX15_values.data.toList.drop 0 = dktX15_values_0 := by decide +kernel
theorem dX15_values_0 : decode cX15_values 0 = .ok (.getstatic 25, 3) := dk_178 0 25 (dk_at dksX15_values_0 0 rfl rfl)
theorem dX15_values_3 : decode cX15_values 3 = .ok (.invokevirtual 29, 3) := dk_182 0 29 (dk_at dksX15_values_0 3 rfl rfl)
theorem dX15_values_6 : decode cX15_values 6 = .ok (.checkcast 30, 3) := dk_192 0 30 (dk_at dksX15_values_0 6 rfl rfl)
theorem dX15_values_9 : decode cX15_values 9 = .ok (.areturn, 1) := dk_176 (dk_at dksX15_values_0 9 rfl rfl)
theorem q142 : (Jvm.Cond.initialized "SaturdayKeep$Fact") ∈ lw_all := lw_g (lw_at lw_m1 36 rfl) rfl
theorem q515 : (Jvm.Cond.sameMethod "SaturdayKeep$Fact" "java/lang/Enum" "ordinal" "()I") ∈ lw_all := lw_g (lw_at lw_m2 169 rfl) rfl
theorem q517 : (Jvm.Cond.selects "SaturdayKeep$Fact" ({ cls := "SaturdayKeep$Fact", name := "ordinal", desc := "()I" } : Jvm.MethodName) ({ cls := "java/lang/Enum", name := "ordinal", desc := "()I" } : Jvm.MethodName)) ∈ lw_all := lw_g (lw_at lw_m2 171 rfl) rfl
theorem q1425 : (Jvm.Cond.static ({ cls := "SaturdayKeep$Fact", name := "of", desc := "(Ljava/lang/String;)LSaturdayKeep$Fact;" } : Jvm.MethodName)) ∈ lw_all := lw_g (lw_at lw_m6 119 rfl) rfl
theorem q1426 : (Jvm.Cond.code ({ cls := "SaturdayKeep$Fact", name := "of", desc := "(Ljava/lang/String;)LSaturdayKeep$Fact;" } : Jvm.MethodName) prog_3_method_4_code (5 : Nat) (Option.some (Jvm.ClassFile.FieldType.object "SaturdayKeep$Fact"))) ∈ lw_all := lw_g (lw_at lw_m6 120 rfl) rfl
theorem q1427 : (Jvm.Cond.methodLink "SaturdayKeep$Fact" (48 : Nat) ({ cls := "SaturdayKeep$Fact", name := "values", desc := "()[LSaturdayKeep$Fact;" } : Jvm.MethodName)) ∈ lw_all := lw_g (lw_at lw_m6 121 rfl) rfl
theorem q1428 : (Jvm.Cond.static ({ cls := "SaturdayKeep$Fact", name := "values", desc := "()[LSaturdayKeep$Fact;" } : Jvm.MethodName)) ∈ lw_all := lw_g (lw_at lw_m6 122 rfl) rfl
theorem q1429 : (Jvm.Cond.code ({ cls := "SaturdayKeep$Fact", name := "values", desc := "()[LSaturdayKeep$Fact;" } : Jvm.MethodName) prog_3_method_1_code (0 : Nat) (Option.some (Jvm.ClassFile.FieldType.array (Jvm.ClassFile.FieldType.object "SaturdayKeep$Fact")))) ∈ lw_all := lw_g (lw_at lw_m6 123 rfl) rfl
theorem q1430 : (Jvm.Cond.fieldLink "SaturdayKeep$Fact" (25 : Nat) "SaturdayKeep$Fact" "$VALUES" "[LSaturdayKeep$Fact;") ∈ lw_all := lw_g (lw_at lw_m6 124 rfl) rfl
theorem q1431 : (Jvm.Cond.laysStatic "SaturdayKeep$Fact" "$VALUES" "[LSaturdayKeep$Fact;") ∈ lw_tbl := lw_at lw_m6 125 rfl
theorem q1432 : (Jvm.Cond.methodLink "SaturdayKeep$Fact" (29 : Nat) ({ cls := "[LSaturdayKeep$Fact;", name := "clone", desc := "()Ljava/lang/Object;" } : Jvm.MethodName)) ∈ lw_all := lw_g (lw_at lw_m6 126 rfl) rfl
theorem q1437 : (Jvm.Cond.classLink "SaturdayKeep$Fact" (30 : Nat) "[LSaturdayKeep$Fact;") ∈ lw_all := lw_g (lw_at lw_m6 131 rfl) rfl
theorem q1438 : (Jvm.Cond.methodLink "SaturdayKeep$Fact" (52 : Nat) ({ cls := "java/lang/String", name := "equals", desc := "(Ljava/lang/Object;)Z" } : Jvm.MethodName)) ∈ lw_all := lw_g (lw_at lw_m6 132 rfl) rfl
theorem q1463 : (Jvm.Cond.selects "SaturdayKeep$Fact" ({ cls := "java/lang/Object", name := "getClass", desc := "()Ljava/lang/Class;" } : Jvm.MethodName) ({ cls := "java/lang/Object", name := "getClass", desc := "()Ljava/lang/Class;" } : Jvm.MethodName)) ∈ lw_all := lw_g (lw_at lw_m6 157 rfl) rfl
theorem q2504 : (Jvm.Cond.castable "SaturdayKeep$Fact" "java/lang/Object") ∈ lw_tbl := lw_at lw_m10 238 rfl
theorem q2541 : (Jvm.Cond.fieldLink "SaturdayKeep$Fact" (44 : Nat) "SaturdayKeep$Fact" "told" "Ljava/lang/String;") ∈ lw_all := lw_g (lw_at lw_m11 35 rfl) rfl
theorem q2543 : (Jvm.Cond.laysStatic "SaturdayKeep$Fact" "GUEST" "LSaturdayKeep$Fact;") ∈ lw_tbl := lw_at lw_m11 37 rfl
theorem q2544 : (Jvm.Cond.laysStatic "SaturdayKeep$Fact" "ROOM" "LSaturdayKeep$Fact;") ∈ lw_tbl := lw_at lw_m11 38 rfl
theorem q2545 : (Jvm.Cond.laysStatic "SaturdayKeep$Fact" "WISH" "LSaturdayKeep$Fact;") ∈ lw_tbl := lw_at lw_m11 39 rfl
theorem q2546 : (Jvm.Cond.laysStatic "SaturdayKeep$Fact" "DOUBTED" "LSaturdayKeep$Fact;") ∈ lw_tbl := lw_at lw_m11 40 rfl
theorem q2547 : (Jvm.Cond.laysStatic "SaturdayKeep$Fact" "TOWERS" "LSaturdayKeep$Fact;") ∈ lw_tbl := lw_at lw_m11 41 rfl
theorem q2548 : (Jvm.Cond.laysStatic "SaturdayKeep$Fact" "HOLES" "LSaturdayKeep$Fact;") ∈ lw_tbl := lw_at lw_m11 42 rfl
theorem q2549 : (Jvm.Cond.laysStatic "SaturdayKeep$Fact" "WEEK" "LSaturdayKeep$Fact;") ∈ lw_tbl := lw_at lw_m11 43 rfl
theorem q2550 : (Jvm.Cond.stringRef "SaturdayKeep$Fact" (59 : Nat) "guest") ∈ lw_tbl := lw_at lw_m11 44 rfl
theorem q2551 : (Jvm.Cond.stringRef "SaturdayKeep$Fact" (65 : Nat) "room") ∈ lw_tbl := lw_at lw_m11 45 rfl
theorem q2552 : (Jvm.Cond.stringRef "SaturdayKeep$Fact" (68 : Nat) "wish") ∈ lw_tbl := lw_at lw_m11 46 rfl
theorem q2553 : (Jvm.Cond.stringRef "SaturdayKeep$Fact" (71 : Nat) "doubted") ∈ lw_tbl := lw_at lw_m11 47 rfl
theorem q2554 : (Jvm.Cond.stringRef "SaturdayKeep$Fact" (74 : Nat) "towers") ∈ lw_tbl := lw_at lw_m11 48 rfl
theorem q2555 : (Jvm.Cond.stringRef "SaturdayKeep$Fact" (77 : Nat) "holes") ∈ lw_tbl := lw_at lw_m11 49 rfl
theorem q2556 : (Jvm.Cond.stringRef "SaturdayKeep$Fact" (80 : Nat) "week") ∈ lw_tbl := lw_at lw_m11 50 rfl
/-! SaturdayKeep$Less -/
set_option maxRecDepth 100000
def RX16 : String := "SaturdayKeep$Less"
def TX16 : u_T := fun k => match k with
  | 0 => ("SaturdayKeep$Less", "a", "LSaturdayKeep$Sum;", true)
  | _ => ("SaturdayKeep$Less", "b", "LSaturdayKeep$Sum;", true)
def tyX16 : Nat → FieldType := fun k => match k with
  | 0 => .object "SaturdayKeep$Sum"
  | _ => .object "SaturdayKeep$Sum"
abbrev wsX160 : List Cond := u_ws RX16 TX16 2
theorem nmX16 : ∀ a, a < 2 → ∀ b, b < 2 → a ≠ b → (TX16 a).2.1 ≠ (TX16 b).2.1 := by decide +kernel
theorem tyX16_ok : ∀ k, k < 2 → parseFieldDescriptor (TX16 k).2.2.1 = some (tyX16 k) := by decide +kernel
abbrev cX16_holds : ByteArray := prog_5_method_2_code
def yX16_holds : MethodName := ⟨RX16, "holds", "(LSaturdayKeep$Scene;)Z"⟩
def dkwX16_holds_1 : List UInt8 := [172]
abbrev dktX16_holds_1 : List UInt8 := dkwX16_holds_1 ++ []
def dkwX16_holds_0 : List UInt8 := [42, 180, 0, 7, 43, 182, 0, 16, 42, 180, 0, 13, 43, 182, 0, 16, 162, 0, 7, 4, 167, 0, 4, 3]
abbrev dktX16_holds_0 : List UInt8 := dkwX16_holds_0 ++ dktX16_holds_1
theorem dksX16_holds_0 : cX16_holds.data.toList.drop 0 = dktX16_holds_0 := by decide +kernel
theorem dksX16_holds_1 : cX16_holds.data.toList.drop 24 = dktX16_holds_1 := dk_seg dksX16_holds_0 24 rfl rfl
theorem dX16_holds_0 : decode cX16_holds 0 = .ok (.aload_n 0, 1) := dk_42 (dk_at dksX16_holds_0 0 rfl rfl)
theorem dX16_holds_1 : decode cX16_holds 1 = .ok (.getfield 7, 3) := dk_180 0 7 (dk_at dksX16_holds_0 1 rfl rfl)
theorem dX16_holds_4 : decode cX16_holds 4 = .ok (.aload_n 1, 1) := dk_43 (dk_at dksX16_holds_0 4 rfl rfl)
theorem dX16_holds_5 : decode cX16_holds 5 = .ok (.invokevirtual 16, 3) := dk_182 0 16 (dk_at dksX16_holds_0 5 rfl rfl)
theorem dX16_holds_8 : decode cX16_holds 8 = .ok (.aload_n 0, 1) := dk_42 (dk_at dksX16_holds_0 8 rfl rfl)
theorem dX16_holds_9 : decode cX16_holds 9 = .ok (.getfield 13, 3) := dk_180 0 13 (dk_at dksX16_holds_0 9 rfl rfl)
theorem dX16_holds_12 : decode cX16_holds 12 = .ok (.aload_n 1, 1) := dk_43 (dk_at dksX16_holds_0 12 rfl rfl)
theorem dX16_holds_13 : decode cX16_holds 13 = .ok (.invokevirtual 16, 3) := dk_182 0 16 (dk_at dksX16_holds_0 13 rfl rfl)
theorem dX16_holds_16 : decode cX16_holds 16 = .ok (.if_icmp .ge 7, 3) := dk_162 0 7 (dk_at dksX16_holds_0 16 rfl rfl)
theorem dX16_holds_19 : decode cX16_holds 19 = .ok (.iconst 1, 1) := dk_4 (dk_at dksX16_holds_0 19 rfl rfl)
theorem dX16_holds_20 : decode cX16_holds 20 = .ok (.goto 4, 3) := dk_167 0 4 (dk_at dksX16_holds_0 20 rfl rfl)
theorem dX16_holds_23 : decode cX16_holds 23 = .ok (.iconst 0, 1) := dk_3 (dk_at dksX16_holds_0 23 rfl rfl)
theorem dX16_holds_24 : decode cX16_holds 24 = .ok (.ireturn, 1) := dk_172 (dk_at dksX16_holds_1 0 rfl rfl)
abbrev cX16_init : ByteArray := prog_5_method_1_code
def yX16_init : MethodName := ⟨RX16, "<init>", "(LSaturdayKeep$Sum;LSaturdayKeep$Sum;)V"⟩
def dkwX16_init_0 : List UInt8 := [42, 183, 0, 1, 42, 43, 181, 0, 7, 42, 44, 181, 0, 13, 177]
abbrev dktX16_init_0 : List UInt8 := dkwX16_init_0 ++ []
theorem dksX16_init_0 : cX16_init.data.toList.drop 0 = dktX16_init_0 := by decide +kernel
theorem dX16_init_0 : decode cX16_init 0 = .ok (.aload_n 0, 1) := dk_42 (dk_at dksX16_init_0 0 rfl rfl)
theorem dX16_init_1 : decode cX16_init 1 = .ok (.invokespecial 1, 3) := dk_183 0 1 (dk_at dksX16_init_0 1 rfl rfl)
theorem dX16_init_4 : decode cX16_init 4 = .ok (.aload_n 0, 1) := dk_42 (dk_at dksX16_init_0 4 rfl rfl)
theorem dX16_init_5 : decode cX16_init 5 = .ok (.aload_n 1, 1) := dk_43 (dk_at dksX16_init_0 5 rfl rfl)
theorem dX16_init_6 : decode cX16_init 6 = .ok (.putfield 7, 3) := dk_181 0 7 (dk_at dksX16_init_0 6 rfl rfl)
theorem dX16_init_9 : decode cX16_init 9 = .ok (.aload_n 0, 1) := dk_42 (dk_at dksX16_init_0 9 rfl rfl)
theorem dX16_init_10 : decode cX16_init 10 = .ok (.aload_n 2, 1) := dk_44 (dk_at dksX16_init_0 10 rfl rfl)
theorem dX16_init_11 : decode cX16_init 11 = .ok (.putfield 13, 3) := dk_181 0 13 (dk_at dksX16_init_0 11 rfl rfl)
theorem dX16_init_14 : decode cX16_init 14 = .ok (.return_, 1) := dk_177 (dk_at dksX16_init_0 14 rfl rfl)
theorem q143 : (Jvm.Cond.initialized "SaturdayKeep$Less") ∈ lw_all := lw_g (lw_at lw_m1 37 rfl) rfl
theorem q493 : (Jvm.Cond.castable "SaturdayKeep$Less" "SaturdayKeep$Cond") ∈ lw_tbl := lw_at lw_m2 147 rfl
theorem q494 : (Jvm.Cond.selects "SaturdayKeep$Less" ({ cls := "SaturdayKeep$Cond", name := "holds", desc := "(LSaturdayKeep$Scene;)Z" } : Jvm.MethodName) ({ cls := "SaturdayKeep$Less", name := "holds", desc := "(LSaturdayKeep$Scene;)Z" } : Jvm.MethodName)) ∈ lw_all := lw_g (lw_at lw_m2 148 rfl) rfl
theorem q495 : (Jvm.Cond.unhidden "SaturdayKeep$Less" "holds" "(LSaturdayKeep$Scene;)Z") ∈ lw_tbl := lw_at lw_m2 149 rfl
theorem q496 : (Jvm.Cond.instanceMethod ({ cls := "SaturdayKeep$Less", name := "holds", desc := "(LSaturdayKeep$Scene;)Z" } : Jvm.MethodName)) ∈ lw_all := lw_g (lw_at lw_m2 150 rfl) rfl
theorem q497 : (Jvm.Cond.publicMethod ({ cls := "SaturdayKeep$Less", name := "holds", desc := "(LSaturdayKeep$Scene;)Z" } : Jvm.MethodName)) ∈ lw_tbl := lw_at lw_m2 151 rfl
theorem q498 : (Jvm.Cond.code ({ cls := "SaturdayKeep$Less", name := "holds", desc := "(LSaturdayKeep$Scene;)Z" } : Jvm.MethodName) prog_5_method_2_code (2 : Nat) (Option.some Jvm.ClassFile.FieldType.boolean)) ∈ lw_all := lw_g (lw_at lw_m2 152 rfl) rfl
theorem q499 : (Jvm.Cond.methodLink "SaturdayKeep$Less" (16 : Nat) ({ cls := "SaturdayKeep$Sum", name := "in", desc := "(LSaturdayKeep$Scene;)I" } : Jvm.MethodName)) ∈ lw_all := lw_g (lw_at lw_m2 153 rfl) rfl
theorem q1465 : (Jvm.Cond.selects "SaturdayKeep$Less" ({ cls := "java/lang/Object", name := "getClass", desc := "()Ljava/lang/Class;" } : Jvm.MethodName) ({ cls := "java/lang/Object", name := "getClass", desc := "()Ljava/lang/Class;" } : Jvm.MethodName)) ∈ lw_all := lw_g (lw_at lw_m6 159 rfl) rfl
theorem q1497 : (Jvm.Cond.instantiable "SaturdayKeep$Less" (2 : Nat)) ∈ lw_all := lw_g (lw_at lw_m6 191 rfl) rfl
theorem q1499 : (Jvm.Cond.instanceMethod ({ cls := "SaturdayKeep$Less", name := "<init>", desc := "(LSaturdayKeep$Sum;LSaturdayKeep$Sum;)V" } : Jvm.MethodName)) ∈ lw_all := lw_g (lw_at lw_m6 193 rfl) rfl
theorem q1500 : (Jvm.Cond.code ({ cls := "SaturdayKeep$Less", name := "<init>", desc := "(LSaturdayKeep$Sum;LSaturdayKeep$Sum;)V" } : Jvm.MethodName) prog_5_method_1_code (3 : Nat) (Option.none : Option Jvm.ClassFile.FieldType)) ∈ lw_all := lw_g (lw_at lw_m6 194 rfl) rfl
theorem q1501 : (Jvm.Cond.methodLink "SaturdayKeep$Less" (1 : Nat) ({ cls := "java/lang/Object", name := "<init>", desc := "()V" } : Jvm.MethodName)) ∈ lw_all := lw_g (lw_at lw_m6 195 rfl) rfl
theorem q1502 : (Jvm.Cond.fieldLink "SaturdayKeep$Less" (7 : Nat) "SaturdayKeep$Less" "a" "LSaturdayKeep$Sum;") ∈ lw_all := lw_g (lw_at lw_m6 196 rfl) rfl
theorem q1503 : (Jvm.Cond.fieldLink "SaturdayKeep$Less" (13 : Nat) "SaturdayKeep$Less" "b" "LSaturdayKeep$Sum;") ∈ lw_all := lw_g (lw_at lw_m6 197 rfl) rfl
theorem q1504 : (Jvm.Cond.laysFinal "SaturdayKeep$Less" "SaturdayKeep$Less" "a" "LSaturdayKeep$Sum;") ∈ lw_all := lw_g (lw_at lw_m6 198 rfl) rfl
theorem q1505 : (Jvm.Cond.soleField "SaturdayKeep$Less" "a") ∈ lw_all := lw_g (lw_at lw_m6 199 rfl) rfl
theorem q1506 : (Jvm.Cond.laysFinal "SaturdayKeep$Less" "SaturdayKeep$Less" "b" "LSaturdayKeep$Sum;") ∈ lw_all := lw_g (lw_at lw_m6 200 rfl) rfl
theorem q1507 : (Jvm.Cond.soleField "SaturdayKeep$Less" "b") ∈ lw_all := lw_g (lw_at lw_m6 201 rfl) rfl
theorem q1508 : (Jvm.Cond.superclass "SaturdayKeep$Less" "java/lang/Object") ∈ lw_all := lw_g (lw_at lw_m6 202 rfl) rfl
theorem q2525 : (Jvm.Cond.castable "SaturdayKeep$Less" "java/lang/Object") ∈ lw_tbl := lw_at lw_m11 19 rfl
theorem in_X16 : ∀ w ∈ wsX160, w ∈ lw_all := lw_in wsX160 [1504, 1506] (by decide +kernel) (by decide +kernel)
