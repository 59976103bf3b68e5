/-! SaturdayKeepModel -/
set_option maxRecDepth 100000
def RX6 : String := "SaturdayKeepModel"
def TX6 : u_T := fun k => match k with
  | 0 => ("SaturdayKeepModel", "thrown", "I", false)
  | 1 => ("SaturdayKeepModel", "m", "[I", true)
  | 2 => ("SaturdayKeepModel", "kept", "[I", true)
  | 3 => ("SaturdayKeepModel", "hasImage", "Z", false)
  | 4 => ("SaturdayKeepModel", "aside", "[I", true)
  | 5 => ("SaturdayKeepModel", "acts", "[I", true)
  | 6 => ("SaturdayKeepModel", "acted", "I", false)
  | 7 => ("SaturdayKeepModel", "tape", "[I", true)
  | 8 => ("SaturdayKeepModel", "taped", "I", false)
  | 9 => ("SaturdayKeepModel", "base", "I", false)
  | 10 => ("SaturdayKeepModel", "end", "I", false)
  | 11 => ("SaturdayKeepModel", "at", "I", false)
  | 12 => ("SaturdayKeepModel", "fault", "I", false)
  | 13 => ("SaturdayKeepModel", "deep", "I", false)
  | 14 => ("SaturdayKeepModel", "fact", "[I", true)
  | 15 => ("SaturdayKeepModel", "hasKey", "Z", false)
  | 16 => ("SaturdayKeepModel", "isEve", "Z", false)
  | 17 => ("SaturdayKeepModel", "turns", "I", false)
  | 18 => ("SaturdayKeepModel", "here", "[I", true)
  | 19 => ("SaturdayKeepModel", "hereMany", "I", false)
  | 20 => ("SaturdayKeepModel", "fewest", "[I", true)
  | _ => ("SaturdayKeepModel", "fits", "[Z", true)
def tyX6 : Nat → FieldType := fun k => match k with
  | 0 => .int
  | 1 => .array .int
  | 2 => .array .int
  | 3 => .boolean
  | 4 => .array .int
  | 5 => .array .int
  | 6 => .int
  | 7 => .array .int
  | 8 => .int
  | 9 => .int
  | 10 => .int
  | 11 => .int
  | 12 => .int
  | 13 => .int
  | 14 => .array .int
  | 15 => .boolean
  | 16 => .boolean
  | 17 => .int
  | 18 => .array .int
  | 19 => .int
  | 20 => .array .int
  | _ => .array .boolean
abbrev wsX60 : List Cond := u_ws RX6 TX6 22
set_option maxRecDepth 100000 in
theorem nmX6 : ∀ a, a < 22 → ∀ b, b < 22 → a ≠ b → (TX6 a).2.1 ≠ (TX6 b).2.1 := by decide +kernel
set_option maxRecDepth 100000 in
theorem tyX6_ok : ∀ k, k < 22 → parseFieldDescriptor (TX6 k).2.2.1 = some (tyX6 k) := by decide +kernel
abbrev cX6_init : ByteArray := prog_18_method_1_code
def yX6_init : MethodName := ⟨RX6, "<init>", "()V"⟩
def dkwX6_init_5 : List UInt8 := [79, 42, 180, 0, 7, 16, 15, 4, 79, 177]
abbrev dktX6_init_5 : List UInt8 := dkwX6_init_5 ++ []
def dkwX6_init_4 : List UInt8 := [42, 180, 0, 7, 16, 6, 4, 79, 42, 180, 0, 7, 16, 7, 16, 100, 79, 42, 180, 0, 7, 16, 13, 6]
abbrev dktX6_init_4 : List UInt8 := dkwX6_init_4 ++ dktX6_init_5
def dkwX6_init_3 : List UInt8 := [42, 17, 9, 0, 188, 10, 181, 0, 35, 42, 16, 52, 188, 4, 181, 0, 38, 42, 180, 0, 7, 4, 2, 79]
abbrev dktX6_init_3 : List UInt8 := dkwX6_init_3 ++ dktX6_init_4
def dkwX6_init_2 : List UInt8 := [181, 0, 22, 42, 2, 181, 0, 25, 42, 16, 7, 188, 10, 181, 0, 29, 42, 16, 8, 188, 10, 181, 0, 32]
abbrev dktX6_init_2 : List UInt8 := dkwX6_init_2 ++ dktX6_init_3
def dkwX6_init_1 : List UInt8 := [17, 1, 48, 188, 10, 181, 0, 16, 42, 17, 14, 64, 188, 10, 181, 0, 19, 42, 17, 1, 144, 188, 10]
abbrev dktX6_init_1 : List UInt8 := dkwX6_init_1 ++ dktX6_init_2
def dkwX6_init_0 : List UInt8 := [42, 183, 0, 1, 42, 17, 2, 192, 188, 10, 181, 0, 7, 42, 17, 2, 192, 188, 10, 181, 0, 13, 42]
abbrev dktX6_init_0 : List UInt8 := dkwX6_init_0 ++ dktX6_init_1
theorem dksX6_init_0 : cX6_init.data.toList.drop 0 = dktX6_init_0 := by decide +kernel
theorem dksX6_init_1 : cX6_init.data.toList.drop 23 = dktX6_init_1 := dk_seg dksX6_init_0 23 rfl rfl
theorem dksX6_init_2 : cX6_init.data.toList.drop 46 = dktX6_init_2 := dk_seg dksX6_init_1 23 rfl rfl
theorem dksX6_init_3 : cX6_init.data.toList.drop 70 = dktX6_init_3 := dk_seg dksX6_init_2 24 rfl rfl
theorem dksX6_init_4 : cX6_init.data.toList.drop 94 = dktX6_init_4 := dk_seg dksX6_init_3 24 rfl rfl
theorem dksX6_init_5 : cX6_init.data.toList.drop 118 = dktX6_init_5 := dk_seg dksX6_init_4 24 rfl rfl
theorem dX6_init_0 : decode cX6_init 0 = .ok (.aload_n 0, 1) := dk_42 (dk_at dksX6_init_0 0 rfl rfl)
theorem dX6_init_1 : decode cX6_init 1 = .ok (.invokespecial 1, 3) := dk_183 0 1 (dk_at dksX6_init_0 1 rfl rfl)
theorem dX6_init_4 : decode cX6_init 4 = .ok (.aload_n 0, 1) := dk_42 (dk_at dksX6_init_0 4 rfl rfl)
theorem dX6_init_5 : decode cX6_init 5 = .ok (.sipush 704, 3) := dk_17 2 192 (dk_at dksX6_init_0 5 rfl rfl)
theorem dX6_init_8 : decode cX6_init 8 = .ok (.newarray .int, 2) := dk_188_10 (dk_at dksX6_init_0 8 rfl rfl)
theorem dX6_init_10 : decode cX6_init 10 = .ok (.putfield 7, 3) := dk_181 0 7 (dk_at dksX6_init_0 10 rfl rfl)
theorem dX6_init_13 : decode cX6_init 13 = .ok (.aload_n 0, 1) := dk_42 (dk_at dksX6_init_0 13 rfl rfl)
theorem dX6_init_14 : decode cX6_init 14 = .ok (.sipush 704, 3) := dk_17 2 192 (dk_at dksX6_init_0 14 rfl rfl)
theorem dX6_init_17 : decode cX6_init 17 = .ok (.newarray .int, 2) := dk_188_10 (dk_at dksX6_init_0 17 rfl rfl)
theorem dX6_init_19 : decode cX6_init 19 = .ok (.putfield 13, 3) := dk_181 0 13 (dk_at dksX6_init_0 19 rfl rfl)
theorem dX6_init_22 : decode cX6_init 22 = .ok (.aload_n 0, 1) := dk_42 (dk_at dksX6_init_0 22 rfl rfl)
theorem dX6_init_23 : decode cX6_init 23 = .ok (.sipush 304, 3) := dk_17 1 48 (dk_at dksX6_init_1 0 rfl rfl)
theorem dX6_init_26 : decode cX6_init 26 = .ok (.newarray .int, 2) := dk_188_10 (dk_at dksX6_init_1 3 rfl rfl)
theorem dX6_init_28 : decode cX6_init 28 = .ok (.putfield 16, 3) := dk_181 0 16 (dk_at dksX6_init_1 5 rfl rfl)
theorem dX6_init_31 : decode cX6_init 31 = .ok (.aload_n 0, 1) := dk_42 (dk_at dksX6_init_1 8 rfl rfl)
theorem dX6_init_32 : decode cX6_init 32 = .ok (.sipush 3648, 3) := dk_17 14 64 (dk_at dksX6_init_1 9 rfl rfl)
theorem dX6_init_35 : decode cX6_init 35 = .ok (.newarray .int, 2) := dk_188_10 (dk_at dksX6_init_1 12 rfl rfl)
theorem dX6_init_37 : decode cX6_init 37 = .ok (.putfield 19, 3) := dk_181 0 19 (dk_at dksX6_init_1 14 rfl rfl)
theorem dX6_init_40 : decode cX6_init 40 = .ok (.aload_n 0, 1) := dk_42 (dk_at dksX6_init_1 17 rfl rfl)
theorem dX6_init_41 : decode cX6_init 41 = .ok (.sipush 400, 3) := dk_17 1 144 (dk_at dksX6_init_1 18 rfl rfl)
theorem dX6_init_44 : decode cX6_init 44 = .ok (.newarray .int, 2) := dk_188_10 (dk_at dksX6_init_1 21 rfl rfl)
theorem dX6_init_46 : decode cX6_init 46 = .ok (.putfield 22, 3) := dk_181 0 22 (dk_at dksX6_init_2 0 rfl rfl)
theorem dX6_init_49 : decode cX6_init 49 = .ok (.aload_n 0, 1) := dk_42 (dk_at dksX6_init_2 3 rfl rfl)
theorem dX6_init_50 : decode cX6_init 50 = .ok (.iconst (-1), 1) := dk_2 (dk_at dksX6_init_2 4 rfl rfl)
theorem dX6_init_51 : decode cX6_init 51 = .ok (.putfield 25, 3) := dk_181 0 25 (dk_at dksX6_init_2 5 rfl rfl)
theorem dX6_init_54 : decode cX6_init 54 = .ok (.aload_n 0, 1) := dk_42 (dk_at dksX6_init_2 8 rfl rfl)
theorem dX6_init_55 : decode cX6_init 55 = .ok (.bipush 7, 2) := dk_16 7 (dk_at dksX6_init_2 9 rfl rfl)
theorem dX6_init_57 : decode cX6_init 57 = .ok (.newarray .int, 2) := dk_188_10 (dk_at dksX6_init_2 11 rfl rfl)
theorem dX6_init_59 : decode cX6_init 59 = .ok (.putfield 29, 3) := dk_181 0 29 (dk_at dksX6_init_2 13 rfl rfl)
theorem dX6_init_62 : decode cX6_init 62 = .ok (.aload_n 0, 1) := dk_42 (dk_at dksX6_init_2 16 rfl rfl)
theorem dX6_init_63 : decode cX6_init 63 = .ok (.bipush 8, 2) := dk_16 8 (dk_at dksX6_init_2 17 rfl rfl)
theorem dX6_init_65 : decode cX6_init 65 = .ok (.newarray .int, 2) := dk_188_10 (dk_at dksX6_init_2 19 rfl rfl)
theorem dX6_init_67 : decode cX6_init 67 = .ok (.putfield 32, 3) := dk_181 0 32 (dk_at dksX6_init_2 21 rfl rfl)
theorem dX6_init_70 : decode cX6_init 70 = .ok (.aload_n 0, 1) := dk_42 (dk_at dksX6_init_3 0 rfl rfl)
theorem dX6_init_71 : decode cX6_init 71 = .ok (.sipush 2304, 3) := dk_17 9 0 (dk_at dksX6_init_3 1 rfl rfl)
theorem dX6_init_74 : decode cX6_init 74 = .ok (.newarray .int, 2) := dk_188_10 (dk_at dksX6_init_3 4 rfl rfl)
theorem dX6_init_76 : decode cX6_init 76 = .ok (.putfield 35, 3) := dk_181 0 35 (dk_at dksX6_init_3 6 rfl rfl)
theorem dX6_init_79 : decode cX6_init 79 = .ok (.aload_n 0, 1) := dk_42 (dk_at dksX6_init_3 9 rfl rfl)
theorem dX6_init_80 : decode cX6_init 80 = .ok (.bipush 52, 2) := dk_16 52 (dk_at dksX6_init_3 10 rfl rfl)
theorem dX6_init_82 : decode cX6_init 82 = .ok (.newarray .boolean, 2) := dk_188_4 (dk_at dksX6_init_3 12 rfl rfl)
theorem dX6_init_84 : decode cX6_init 84 = .ok (.putfield 38, 3) := dk_181 0 38 (dk_at dksX6_init_3 14 rfl rfl)
theorem dX6_init_87 : decode cX6_init 87 = .ok (.aload_n 0, 1) := dk_42 (dk_at dksX6_init_3 17 rfl rfl)
theorem dX6_init_88 : decode cX6_init 88 = .ok (.getfield 7, 3) := dk_180 0 7 (dk_at dksX6_init_3 18 rfl rfl)
theorem dX6_init_91 : decode cX6_init 91 = .ok (.iconst 1, 1) := dk_4 (dk_at dksX6_init_3 21 rfl rfl)
theorem dX6_init_92 : decode cX6_init 92 = .ok (.iconst (-1), 1) := dk_2 (dk_at dksX6_init_3 22 rfl rfl)
theorem dX6_init_93 : decode cX6_init 93 = .ok (.iastore, 1) := dk_79 (dk_at dksX6_init_3 23 rfl rfl)
theorem dX6_init_94 : decode cX6_init 94 = .ok (.aload_n 0, 1) := dk_42 (dk_at dksX6_init_4 0 rfl rfl)
theorem dX6_init_95 : decode cX6_init 95 = .ok (.getfield 7, 3) := dk_180 0 7 (dk_at dksX6_init_4 1 rfl rfl)
theorem dX6_init_98 : decode cX6_init 98 = .ok (.bipush 6, 2) := dk_16 6 (dk_at dksX6_init_4 4 rfl rfl)
theorem dX6_init_100 : decode cX6_init 100 = .ok (.iconst 1, 1) := dk_4 (dk_at dksX6_init_4 6 rfl rfl)
theorem dX6_init_101 : decode cX6_init 101 = .ok (.iastore, 1) := dk_79 (dk_at dksX6_init_4 7 rfl rfl)
theorem dX6_init_102 : decode cX6_init 102 = .ok (.aload_n 0, 1) := dk_42 (dk_at dksX6_init_4 8 rfl rfl)
theorem dX6_init_103 : decode cX6_init 103 = .ok (.getfield 7, 3) := dk_180 0 7 (dk_at dksX6_init_4 9 rfl rfl)
theorem dX6_init_106 : decode cX6_init 106 = .ok (.bipush 7, 2) := dk_16 7 (dk_at dksX6_init_4 12 rfl rfl)
theorem dX6_init_108 : decode cX6_init 108 = .ok (.bipush 100, 2) := dk_16 100 (dk_at dksX6_init_4 14 rfl rfl)
theorem dX6_init_110 : decode cX6_init 110 = .ok (.iastore, 1) := dk_79 (dk_at dksX6_init_4 16 rfl rfl)
theorem dX6_init_111 : decode cX6_init 111 = .ok (.aload_n 0, 1) := dk_42 (dk_at dksX6_init_4 17 rfl rfl)
theorem dX6_init_112 : decode cX6_init 112 = .ok (.getfield 7, 3) := dk_180 0 7 (dk_at dksX6_init_4 18 rfl rfl)
theorem dX6_init_115 : decode cX6_init 115 = .ok (.bipush 13, 2) := dk_16 13 (dk_at dksX6_init_4 21 rfl rfl)
theorem dX6_init_117 : decode cX6_init 117 = .ok (.iconst 3, 1) := dk_6 (dk_at dksX6_init_4 23 rfl rfl)
theorem dX6_init_118 : decode cX6_init 118 = .ok (.iastore, 1) := dk_79 (dk_at dksX6_init_5 0 rfl rfl)
theorem dX6_init_119 : decode cX6_init 119 = .ok (.aload_n 0, 1) := dk_42 (dk_at dksX6_init_5 1 rfl rfl)
theorem dX6_init_120 : decode cX6_init 120 = .ok (.getfield 7, 3) := dk_180 0 7 (dk_at dksX6_init_5 2 rfl rfl)
theorem dX6_init_123 : decode cX6_init 123 = .ok (.bipush 15, 2) := dk_16 15 (dk_at dksX6_init_5 5 rfl rfl)
theorem dX6_init_125 : decode cX6_init 125 = .ok (.iconst 1, 1) := dk_4 (dk_at dksX6_init_5 7 rfl rfl)
theorem dX6_init_126 : decode cX6_init 126 = .ok (.iastore, 1) := dk_79 (dk_at dksX6_init_5 8 rfl rfl)
theorem dX6_init_127 : decode cX6_init 127 = .ok (.return_, 1) := dk_177 (dk_at dksX6_init_5 9 rfl rfl)
abbrev cX6_thrown : ByteArray := prog_18_method_2_code
def yX6_thrown : MethodName := ⟨RX6, "thrown", "()I"⟩
theorem dX6_thrown_0 : decode cX6_thrown 0 = .ok (.aload_n 0, 1) := by decide +kernel
theorem dX6_thrown_1 : decode cX6_thrown 1 = .ok (.getfield 42, 3) := by decide +kernel
theorem dX6_thrown_4 : decode cX6_thrown 4 = .ok (.ireturn, 1) := by decide +kernel
abbrev cX6_feed : ByteArray := prog_18_method_16_code
def yX6_feed : MethodName := ⟨RX6, "feed", "(IIIII)I"⟩
def dkwX6_feed_5 : List UInt8 := [167, 255, 162, 42, 180, 0, 61, 172]
abbrev dktX6_feed_5 : List UInt8 := dkwX6_feed_5 ++ []
def dkwX6_feed_4 : List UInt8 := [112, 104, 100, 124, 17, 0, 255, 126, 79, 42, 89, 180, 0, 61, 4, 96, 181, 0, 61, 132, 6, 1]
abbrev dktX6_feed_4 : List UInt8 := dkwX6_feed_4 ++ dktX6_feed_5
def dkwX6_feed_3 : List UInt8 := [167, 0, 5, 21, 5, 54, 7, 42, 180, 0, 22, 42, 180, 0, 61, 21, 7, 16, 24, 16, 8, 21, 6, 7]
abbrev dktX6_feed_3 : List UInt8 := dkwX6_feed_3 ++ dktX6_feed_4
def dkwX6_feed_2 : List UInt8 := [28, 167, 0, 28, 21, 6, 16, 12, 162, 0, 7, 29, 167, 0, 17, 21, 6, 16, 16, 162, 0, 8, 21, 4]
abbrev dktX6_feed_2 : List UInt8 := dkwX6_feed_2 ++ dktX6_feed_3
def dkwX6_feed_1 : List UInt8 := [21, 6, 16, 20, 162, 0, 93, 21, 6, 7, 162, 0, 7, 27, 167, 0, 39, 21, 6, 16, 8, 162, 0, 7]
abbrev dktX6_feed_1 : List UInt8 := dkwX6_feed_1 ++ dktX6_feed_2
def dkwX6_feed_0 : List UInt8 := [42, 3, 181, 0, 42, 42, 180, 0, 61, 16, 20, 96, 17, 1, 144, 164, 0, 5, 2, 172, 3, 54, 6]
abbrev dktX6_feed_0 : List UInt8 := dkwX6_feed_0 ++ dktX6_feed_1
theorem dksX6_feed_0 : cX6_feed.data.toList.drop 0 = dktX6_feed_0 := by decide +kernel
theorem dksX6_feed_1 : cX6_feed.data.toList.drop 23 = dktX6_feed_1 := dk_seg dksX6_feed_0 23 rfl rfl
theorem dksX6_feed_2 : cX6_feed.data.toList.drop 47 = dktX6_feed_2 := dk_seg dksX6_feed_1 24 rfl rfl
theorem dksX6_feed_3 : cX6_feed.data.toList.drop 71 = dktX6_feed_3 := dk_seg dksX6_feed_2 24 rfl rfl
theorem dksX6_feed_4 : cX6_feed.data.toList.drop 95 = dktX6_feed_4 := dk_seg dksX6_feed_3 24 rfl rfl
theorem dksX6_feed_5 : cX6_feed.data.toList.drop 117 = dktX6_feed_5 := dk_seg dksX6_feed_4 22 rfl rfl
theorem dX6_feed_0 : decode cX6_feed 0 = .ok (.aload_n 0, 1) := dk_42 (dk_at dksX6_feed_0 0 rfl rfl)
theorem dX6_feed_1 : decode cX6_feed 1 = .ok (.iconst 0, 1) := dk_3 (dk_at dksX6_feed_0 1 rfl rfl)
theorem dX6_feed_2 : decode cX6_feed 2 = .ok (.putfield 42, 3) := dk_181 0 42 (dk_at dksX6_feed_0 2 rfl rfl)
theorem dX6_feed_5 : decode cX6_feed 5 = .ok (.aload_n 0, 1) := dk_42 (dk_at dksX6_feed_0 5 rfl rfl)
theorem dX6_feed_6 : decode cX6_feed 6 = .ok (.getfield 61, 3) := dk_180 0 61 (dk_at dksX6_feed_0 6 rfl rfl)
theorem dX6_feed_9 : decode cX6_feed 9 = .ok (.bipush 20, 2) := dk_16 20 (dk_at dksX6_feed_0 9 rfl rfl)
theorem dX6_feed_11 : decode cX6_feed 11 = .ok (.iadd, 1) := dk_96 (dk_at dksX6_feed_0 11 rfl rfl)
theorem dX6_feed_12 : decode cX6_feed 12 = .ok (.sipush 400, 3) := dk_17 1 144 (dk_at dksX6_feed_0 12 rfl rfl)
theorem dX6_feed_15 : decode cX6_feed 15 = .ok (.if_icmp .le 5, 3) := dk_164 0 5 (dk_at dksX6_feed_0 15 rfl rfl)
theorem dX6_feed_18 : decode cX6_feed 18 = .ok (.iconst (-1), 1) := dk_2 (dk_at dksX6_feed_0 18 rfl rfl)
theorem dX6_feed_19 : decode cX6_feed 19 = .ok (.ireturn, 1) := dk_172 (dk_at dksX6_feed_0 19 rfl rfl)
theorem dX6_feed_20 : decode cX6_feed 20 = .ok (.iconst 0, 1) := dk_3 (dk_at dksX6_feed_0 20 rfl rfl)
theorem dX6_feed_21 : decode cX6_feed 21 = .ok (.istore 6, 2) := dk_54 6 (dk_at dksX6_feed_0 21 rfl rfl)
theorem dX6_feed_23 : decode cX6_feed 23 = .ok (.iload 6, 2) := dk_21 6 (dk_at dksX6_feed_1 0 rfl rfl)
theorem dX6_feed_25 : decode cX6_feed 25 = .ok (.bipush 20, 2) := dk_16 20 (dk_at dksX6_feed_1 2 rfl rfl)
theorem dX6_feed_27 : decode cX6_feed 27 = .ok (.if_icmp .ge 93, 3) := dk_162 0 93 (dk_at dksX6_feed_1 4 rfl rfl)
theorem dX6_feed_30 : decode cX6_feed 30 = .ok (.iload 6, 2) := dk_21 6 (dk_at dksX6_feed_1 7 rfl rfl)
theorem dX6_feed_32 : decode cX6_feed 32 = .ok (.iconst 4, 1) := dk_7 (dk_at dksX6_feed_1 9 rfl rfl)
theorem dX6_feed_33 : decode cX6_feed 33 = .ok (.if_icmp .ge 7, 3) := dk_162 0 7 (dk_at dksX6_feed_1 10 rfl rfl)
theorem dX6_feed_36 : decode cX6_feed 36 = .ok (.iload_n 1, 1) := dk_27 (dk_at dksX6_feed_1 13 rfl rfl)
theorem dX6_feed_37 : decode cX6_feed 37 = .ok (.goto 39, 3) := dk_167 0 39 (dk_at dksX6_feed_1 14 rfl rfl)
theorem dX6_feed_40 : decode cX6_feed 40 = .ok (.iload 6, 2) := dk_21 6 (dk_at dksX6_feed_1 17 rfl rfl)
theorem dX6_feed_42 : decode cX6_feed 42 = .ok (.bipush 8, 2) := dk_16 8 (dk_at dksX6_feed_1 19 rfl rfl)
theorem dX6_feed_44 : decode cX6_feed 44 = .ok (.if_icmp .ge 7, 3) := dk_162 0 7 (dk_at dksX6_feed_1 21 rfl rfl)
theorem dX6_feed_47 : decode cX6_feed 47 = .ok (.iload_n 2, 1) := dk_28 (dk_at dksX6_feed_2 0 rfl rfl)
theorem dX6_feed_48 : decode cX6_feed 48 = .ok (.goto 28, 3) := dk_167 0 28 (dk_at dksX6_feed_2 1 rfl rfl)
theorem dX6_feed_51 : decode cX6_feed 51 = .ok (.iload 6, 2) := dk_21 6 (dk_at dksX6_feed_2 4 rfl rfl)
theorem dX6_feed_53 : decode cX6_feed 53 = .ok (.bipush 12, 2) := dk_16 12 (dk_at dksX6_feed_2 6 rfl rfl)
theorem dX6_feed_55 : decode cX6_feed 55 = .ok (.if_icmp .ge 7, 3) := dk_162 0 7 (dk_at dksX6_feed_2 8 rfl rfl)
theorem dX6_feed_58 : decode cX6_feed 58 = .ok (.iload_n 3, 1) := dk_29 (dk_at dksX6_feed_2 11 rfl rfl)
theorem dX6_feed_59 : decode cX6_feed 59 = .ok (.goto 17, 3) := dk_167 0 17 (dk_at dksX6_feed_2 12 rfl rfl)
theorem dX6_feed_62 : decode cX6_feed 62 = .ok (.iload 6, 2) := dk_21 6 (dk_at dksX6_feed_2 15 rfl rfl)
theorem dX6_feed_64 : decode cX6_feed 64 = .ok (.bipush 16, 2) := dk_16 16 (dk_at dksX6_feed_2 17 rfl rfl)
theorem dX6_feed_66 : decode cX6_feed 66 = .ok (.if_icmp .ge 8, 3) := dk_162 0 8 (dk_at dksX6_feed_2 19 rfl rfl)
theorem dX6_feed_69 : decode cX6_feed 69 = .ok (.iload 4, 2) := dk_21 4 (dk_at dksX6_feed_2 22 rfl rfl)
theorem dX6_feed_71 : decode cX6_feed 71 = .ok (.goto 5, 3) := dk_167 0 5 (dk_at dksX6_feed_3 0 rfl rfl)
theorem dX6_feed_74 : decode cX6_feed 74 = .ok (.iload 5, 2) := dk_21 5 (dk_at dksX6_feed_3 3 rfl rfl)
theorem dX6_feed_76 : decode cX6_feed 76 = .ok (.istore 7, 2) := dk_54 7 (dk_at dksX6_feed_3 5 rfl rfl)
theorem dX6_feed_78 : decode cX6_feed 78 = .ok (.aload_n 0, 1) := dk_42 (dk_at dksX6_feed_3 7 rfl rfl)
theorem dX6_feed_79 : decode cX6_feed 79 = .ok (.getfield 22, 3) := dk_180 0 22 (dk_at dksX6_feed_3 8 rfl rfl)
theorem dX6_feed_82 : decode cX6_feed 82 = .ok (.aload_n 0, 1) := dk_42 (dk_at dksX6_feed_3 11 rfl rfl)
theorem dX6_feed_83 : decode cX6_feed 83 = .ok (.getfield 61, 3) := dk_180 0 61 (dk_at dksX6_feed_3 12 rfl rfl)
theorem dX6_feed_86 : decode cX6_feed 86 = .ok (.iload 7, 2) := dk_21 7 (dk_at dksX6_feed_3 15 rfl rfl)
theorem dX6_feed_88 : decode cX6_feed 88 = .ok (.bipush 24, 2) := dk_16 24 (dk_at dksX6_feed_3 17 rfl rfl)
theorem dX6_feed_90 : decode cX6_feed 90 = .ok (.bipush 8, 2) := dk_16 8 (dk_at dksX6_feed_3 19 rfl rfl)
theorem dX6_feed_92 : decode cX6_feed 92 = .ok (.iload 6, 2) := dk_21 6 (dk_at dksX6_feed_3 21 rfl rfl)
theorem dX6_feed_94 : decode cX6_feed 94 = .ok (.iconst 4, 1) := dk_7 (dk_at dksX6_feed_3 23 rfl rfl)
theorem dX6_feed_95 : decode cX6_feed 95 = .ok (.irem, 1) := dk_112 (dk_at dksX6_feed_4 0 rfl rfl)
theorem dX6_feed_96 : decode cX6_feed 96 = .ok (.imul, 1) := dk_104 (dk_at dksX6_feed_4 1 rfl rfl)
theorem dX6_feed_97 : decode cX6_feed 97 = .ok (.isub, 1) := dk_100 (dk_at dksX6_feed_4 2 rfl rfl)
theorem dX6_feed_98 : decode cX6_feed 98 = .ok (.iushr, 1) := dk_124 (dk_at dksX6_feed_4 3 rfl rfl)
theorem dX6_feed_99 : decode cX6_feed 99 = .ok (.sipush 255, 3) := dk_17 0 255 (dk_at dksX6_feed_4 4 rfl rfl)
theorem dX6_feed_102 : decode cX6_feed 102 = .ok (.iand, 1) := dk_126 (dk_at dksX6_feed_4 7 rfl rfl)
theorem dX6_feed_103 : decode cX6_feed 103 = .ok (.iastore, 1) := dk_79 (dk_at dksX6_feed_4 8 rfl rfl)
theorem dX6_feed_104 : decode cX6_feed 104 = .ok (.aload_n 0, 1) := dk_42 (dk_at dksX6_feed_4 9 rfl rfl)
theorem dX6_feed_105 : decode cX6_feed 105 = .ok (.dup, 1) := dk_89 (dk_at dksX6_feed_4 10 rfl rfl)
theorem dX6_feed_106 : decode cX6_feed 106 = .ok (.getfield 61, 3) := dk_180 0 61 (dk_at dksX6_feed_4 11 rfl rfl)
theorem dX6_feed_109 : decode cX6_feed 109 = .ok (.iconst 1, 1) := dk_4 (dk_at dksX6_feed_4 14 rfl rfl)
theorem dX6_feed_110 : decode cX6_feed 110 = .ok (.iadd, 1) := dk_96 (dk_at dksX6_feed_4 15 rfl rfl)
theorem dX6_feed_111 : decode cX6_feed 111 = .ok (.putfield 61, 3) := dk_181 0 61 (dk_at dksX6_feed_4 16 rfl rfl)
theorem dX6_feed_114 : decode cX6_feed 114 = .ok (.iinc 6 1, 3) := dk_132 6 1 (dk_at dksX6_feed_4 19 rfl rfl)
theorem dX6_feed_117 : decode cX6_feed 117 = .ok (.goto (-94), 3) := dk_167 255 162 (dk_at dksX6_feed_5 0 rfl rfl)
theorem dX6_feed_120 : decode cX6_feed 120 = .ok (.aload_n 0, 1) := dk_42 (dk_at dksX6_feed_5 3 rfl rfl)
theorem dX6_feed_121 : decode cX6_feed 121 = .ok (.getfield 61, 3) := dk_180 0 61 (dk_at dksX6_feed_5 4 rfl rfl)
theorem dX6_feed_124 : decode cX6_feed 124 = .ok (.ireturn, 1) := dk_172 (dk_at dksX6_feed_5 7 rfl rfl)
abbrev cX6_end : ByteArray := prog_18_method_17_code
def yX6_end : MethodName := ⟨RX6, "end", "(I)Z"⟩
def dkwX6_end_1 : List UInt8 := [4, 172]
abbrev dktX6_end_1 : List UInt8 := dkwX6_end_1 ++ []
def dkwX6_end_0 : List UInt8 := [42, 3, 181, 0, 42, 27, 3, 42, 180, 0, 61, 184, 0, 45, 154, 0, 5, 3, 172, 42, 27, 181, 0, 61]
abbrev dktX6_end_0 : List UInt8 := dkwX6_end_0 ++ dktX6_end_1
theorem dksX6_end_0 : cX6_end.data.toList.drop 0 = dktX6_end_0 := by decide +kernel
theorem dksX6_end_1 : cX6_end.data.toList.drop 24 = dktX6_end_1 := dk_seg dksX6_end_0 24 rfl rfl
theorem dX6_end_0 : decode cX6_end 0 = .ok (.aload_n 0, 1) := dk_42 (dk_at dksX6_end_0 0 rfl rfl)
theorem dX6_end_1 : decode cX6_end 1 = .ok (.iconst 0, 1) := dk_3 (dk_at dksX6_end_0 1 rfl rfl)
theorem dX6_end_2 : decode cX6_end 2 = .ok (.putfield 42, 3) := dk_181 0 42 (dk_at dksX6_end_0 2 rfl rfl)
theorem dX6_end_5 : decode cX6_end 5 = .ok (.iload_n 1, 1) := dk_27 (dk_at dksX6_end_0 5 rfl rfl)
theorem dX6_end_6 : decode cX6_end 6 = .ok (.iconst 0, 1) := dk_3 (dk_at dksX6_end_0 6 rfl rfl)
theorem dX6_end_7 : decode cX6_end 7 = .ok (.aload_n 0, 1) := dk_42 (dk_at dksX6_end_0 7 rfl rfl)
theorem dX6_end_8 : decode cX6_end 8 = .ok (.getfield 61, 3) := dk_180 0 61 (dk_at dksX6_end_0 8 rfl rfl)
theorem dX6_end_11 : decode cX6_end 11 = .ok (.invokestatic 45, 3) := dk_184 0 45 (dk_at dksX6_end_0 11 rfl rfl)
theorem dX6_end_14 : decode cX6_end 14 = .ok (.ifCond .ne 5, 3) := dk_154 0 5 (dk_at dksX6_end_0 14 rfl rfl)
theorem dX6_end_17 : decode cX6_end 17 = .ok (.iconst 0, 1) := dk_3 (dk_at dksX6_end_0 17 rfl rfl)
theorem dX6_end_18 : decode cX6_end 18 = .ok (.ireturn, 1) := dk_172 (dk_at dksX6_end_0 18 rfl rfl)
theorem dX6_end_19 : decode cX6_end 19 = .ok (.aload_n 0, 1) := dk_42 (dk_at dksX6_end_0 19 rfl rfl)
theorem dX6_end_20 : decode cX6_end 20 = .ok (.iload_n 1, 1) := dk_27 (dk_at dksX6_end_0 20 rfl rfl)
theorem dX6_end_21 : decode cX6_end 21 = .ok (.putfield 61, 3) := dk_181 0 61 (dk_at dksX6_end_0 21 rfl rfl)
theorem dX6_end_24 : decode cX6_end 24 = .ok (.iconst 1, 1) := dk_4 (dk_at dksX6_end_1 0 rfl rfl)
theorem dX6_end_25 : decode cX6_end 25 = .ok (.ireturn, 1) := dk_172 (dk_at dksX6_end_1 1 rfl rfl)
abbrev cX6_isIn : ByteArray := prog_18_method_3_code
def yX6_isIn : MethodName := ⟨RX6, "isIn", "(III)Z"⟩
def dkwX6_isIn_0 : List UInt8 := [26, 27, 161, 0, 12, 26, 28, 163, 0, 7, 4, 167, 0, 4, 3, 172]
abbrev dktX6_isIn_0 : List UInt8 := dkwX6_isIn_0 ++ []
theorem dksX6_isIn_0 : cX6_isIn.data.toList.drop 0 = dktX6_isIn_0 := by decide +kernel
theorem dX6_isIn_0 : decode cX6_isIn 0 = .ok (.iload_n 0, 1) := dk_26 (dk_at dksX6_isIn_0 0 rfl rfl)
theorem dX6_isIn_1 : decode cX6_isIn 1 = .ok (.iload_n 1, 1) := dk_27 (dk_at dksX6_isIn_0 1 rfl rfl)
theorem dX6_isIn_2 : decode cX6_isIn 2 = .ok (.if_icmp .lt 12, 3) := dk_161 0 12 (dk_at dksX6_isIn_0 2 rfl rfl)
theorem dX6_isIn_5 : decode cX6_isIn 5 = .ok (.iload_n 0, 1) := dk_26 (dk_at dksX6_isIn_0 5 rfl rfl)
theorem dX6_isIn_6 : decode cX6_isIn 6 = .ok (.iload_n 2, 1) := dk_28 (dk_at dksX6_isIn_0 6 rfl rfl)
theorem dX6_isIn_7 : decode cX6_isIn 7 = .ok (.if_icmp .gt 7, 3) := dk_163 0 7 (dk_at dksX6_isIn_0 7 rfl rfl)
theorem dX6_isIn_10 : decode cX6_isIn 10 = .ok (.iconst 1, 1) := dk_4 (dk_at dksX6_isIn_0 10 rfl rfl)
theorem dX6_isIn_11 : decode cX6_isIn 11 = .ok (.goto 4, 3) := dk_167 0 4 (dk_at dksX6_isIn_0 11 rfl rfl)
theorem dX6_isIn_14 : decode cX6_isIn 14 = .ok (.iconst 0, 1) := dk_3 (dk_at dksX6_isIn_0 14 rfl rfl)
theorem dX6_isIn_15 : decode cX6_isIn 15 = .ok (.ireturn, 1) := dk_172 (dk_at dksX6_isIn_0 15 rfl rfl)
abbrev cX6_house : ByteArray := prog_18_method_34_code
def yX6_house : MethodName := ⟨RX6, "house", "()I"⟩
def dkwX6_house_3 : List UInt8 := [181, 0, 172, 42, 180, 0, 7, 3, 46, 172]
abbrev dktX6_house_3 : List UInt8 := dkwX6_house_3 ++ []
def dkwX6_house_2 : List UInt8 := [180, 0, 42, 158, 0, 9, 42, 182, 0, 169, 3, 172, 42, 180, 0, 7, 3, 92, 46, 4, 96, 79, 42, 3]
abbrev dktX6_house_2 : List UInt8 := dkwX6_house_2 ++ dktX6_house_3
def dkwX6_house_1 : List UInt8 := [167, 0, 19, 42, 180, 0, 7, 3, 46, 16, 12, 160, 0, 7, 5, 167, 0, 4, 3, 181, 0, 42, 42]
abbrev dktX6_house_1 : List UInt8 := dkwX6_house_1 ++ dktX6_house_2
def dkwX6_house_0 : List UInt8 := [42, 182, 0, 159, 42, 182, 0, 162, 42, 3, 182, 0, 165, 60, 42, 42, 180, 0, 25, 2, 159, 0, 7, 4]
abbrev dktX6_house_0 : List UInt8 := dkwX6_house_0 ++ dktX6_house_1
theorem dksX6_house_0 : cX6_house.data.toList.drop 0 = dktX6_house_0 := by decide +kernel
theorem dksX6_house_1 : cX6_house.data.toList.drop 24 = dktX6_house_1 := dk_seg dksX6_house_0 24 rfl rfl
theorem dksX6_house_2 : cX6_house.data.toList.drop 47 = dktX6_house_2 := dk_seg dksX6_house_1 23 rfl rfl
theorem dksX6_house_3 : cX6_house.data.toList.drop 71 = dktX6_house_3 := dk_seg dksX6_house_2 24 rfl rfl
theorem dX6_house_0 : decode cX6_house 0 = .ok (.aload_n 0, 1) := dk_42 (dk_at dksX6_house_0 0 rfl rfl)
theorem dX6_house_1 : decode cX6_house 1 = .ok (.invokevirtual 159, 3) := dk_182 0 159 (dk_at dksX6_house_0 1 rfl rfl)
theorem dX6_house_4 : decode cX6_house 4 = .ok (.aload_n 0, 1) := dk_42 (dk_at dksX6_house_0 4 rfl rfl)
theorem dX6_house_5 : decode cX6_house 5 = .ok (.invokevirtual 162, 3) := dk_182 0 162 (dk_at dksX6_house_0 5 rfl rfl)
theorem dX6_house_8 : decode cX6_house 8 = .ok (.aload_n 0, 1) := dk_42 (dk_at dksX6_house_0 8 rfl rfl)
theorem dX6_house_9 : decode cX6_house 9 = .ok (.iconst 0, 1) := dk_3 (dk_at dksX6_house_0 9 rfl rfl)
theorem dX6_house_10 : decode cX6_house 10 = .ok (.invokevirtual 165, 3) := dk_182 0 165 (dk_at dksX6_house_0 10 rfl rfl)
theorem dX6_house_13 : decode cX6_house 13 = .ok (.istore_n 1, 1) := dk_60 (dk_at dksX6_house_0 13 rfl rfl)
theorem dX6_house_14 : decode cX6_house 14 = .ok (.aload_n 0, 1) := dk_42 (dk_at dksX6_house_0 14 rfl rfl)
theorem dX6_house_15 : decode cX6_house 15 = .ok (.aload_n 0, 1) := dk_42 (dk_at dksX6_house_0 15 rfl rfl)
theorem dX6_house_16 : decode cX6_house 16 = .ok (.getfield 25, 3) := dk_180 0 25 (dk_at dksX6_house_0 16 rfl rfl)
theorem dX6_house_19 : decode cX6_house 19 = .ok (.iconst (-1), 1) := dk_2 (dk_at dksX6_house_0 19 rfl rfl)
theorem dX6_house_20 : decode cX6_house 20 = .ok (.if_icmp .eq 7, 3) := dk_159 0 7 (dk_at dksX6_house_0 20 rfl rfl)
theorem dX6_house_23 : decode cX6_house 23 = .ok (.iconst 1, 1) := dk_4 (dk_at dksX6_house_0 23 rfl rfl)
theorem dX6_house_24 : decode cX6_house 24 = .ok (.goto 19, 3) := dk_167 0 19 (dk_at dksX6_house_1 0 rfl rfl)
theorem dX6_house_27 : decode cX6_house 27 = .ok (.aload_n 0, 1) := dk_42 (dk_at dksX6_house_1 3 rfl rfl)
theorem dX6_house_28 : decode cX6_house 28 = .ok (.getfield 7, 3) := dk_180 0 7 (dk_at dksX6_house_1 4 rfl rfl)
theorem dX6_house_31 : decode cX6_house 31 = .ok (.iconst 0, 1) := dk_3 (dk_at dksX6_house_1 7 rfl rfl)
theorem dX6_house_32 : decode cX6_house 32 = .ok (.iaload, 1) := dk_46 (dk_at dksX6_house_1 8 rfl rfl)
theorem dX6_house_33 : decode cX6_house 33 = .ok (.bipush 12, 2) := dk_16 12 (dk_at dksX6_house_1 9 rfl rfl)
theorem dX6_house_35 : decode cX6_house 35 = .ok (.if_icmp .ne 7, 3) := dk_160 0 7 (dk_at dksX6_house_1 11 rfl rfl)
theorem dX6_house_38 : decode cX6_house 38 = .ok (.iconst 2, 1) := dk_5 (dk_at dksX6_house_1 14 rfl rfl)
theorem dX6_house_39 : decode cX6_house 39 = .ok (.goto 4, 3) := dk_167 0 4 (dk_at dksX6_house_1 15 rfl rfl)
theorem dX6_house_42 : decode cX6_house 42 = .ok (.iconst 0, 1) := dk_3 (dk_at dksX6_house_1 18 rfl rfl)
theorem dX6_house_43 : decode cX6_house 43 = .ok (.putfield 42, 3) := dk_181 0 42 (dk_at dksX6_house_1 19 rfl rfl)
theorem dX6_house_46 : decode cX6_house 46 = .ok (.aload_n 0, 1) := dk_42 (dk_at dksX6_house_1 22 rfl rfl)
theorem dX6_house_47 : decode cX6_house 47 = .ok (.getfield 42, 3) := dk_180 0 42 (dk_at dksX6_house_2 0 rfl rfl)
theorem dX6_house_50 : decode cX6_house 50 = .ok (.ifCond .le 9, 3) := dk_158 0 9 (dk_at dksX6_house_2 3 rfl rfl)
theorem dX6_house_53 : decode cX6_house 53 = .ok (.aload_n 0, 1) := dk_42 (dk_at dksX6_house_2 6 rfl rfl)
theorem dX6_house_54 : decode cX6_house 54 = .ok (.invokevirtual 169, 3) := dk_182 0 169 (dk_at dksX6_house_2 7 rfl rfl)
theorem dX6_house_57 : decode cX6_house 57 = .ok (.iconst 0, 1) := dk_3 (dk_at dksX6_house_2 10 rfl rfl)
theorem dX6_house_58 : decode cX6_house 58 = .ok (.ireturn, 1) := dk_172 (dk_at dksX6_house_2 11 rfl rfl)
theorem dX6_house_59 : decode cX6_house 59 = .ok (.aload_n 0, 1) := dk_42 (dk_at dksX6_house_2 12 rfl rfl)
theorem dX6_house_60 : decode cX6_house 60 = .ok (.getfield 7, 3) := dk_180 0 7 (dk_at dksX6_house_2 13 rfl rfl)
theorem dX6_house_63 : decode cX6_house 63 = .ok (.iconst 0, 1) := dk_3 (dk_at dksX6_house_2 16 rfl rfl)
theorem dX6_house_64 : decode cX6_house 64 = .ok (.dup2, 1) := dk_92 (dk_at dksX6_house_2 17 rfl rfl)
theorem dX6_house_65 : decode cX6_house 65 = .ok (.iaload, 1) := dk_46 (dk_at dksX6_house_2 18 rfl rfl)
theorem dX6_house_66 : decode cX6_house 66 = .ok (.iconst 1, 1) := dk_4 (dk_at dksX6_house_2 19 rfl rfl)
theorem dX6_house_67 : decode cX6_house 67 = .ok (.iadd, 1) := dk_96 (dk_at dksX6_house_2 20 rfl rfl)
theorem dX6_house_68 : decode cX6_house 68 = .ok (.iastore, 1) := dk_79 (dk_at dksX6_house_2 21 rfl rfl)
theorem dX6_house_69 : decode cX6_house 69 = .ok (.aload_n 0, 1) := dk_42 (dk_at dksX6_house_2 22 rfl rfl)
theorem dX6_house_70 : decode cX6_house 70 = .ok (.iconst 0, 1) := dk_3 (dk_at dksX6_house_2 23 rfl rfl)
theorem dX6_house_71 : decode cX6_house 71 = .ok (.putfield 172, 3) := dk_181 0 172 (dk_at dksX6_house_3 0 rfl rfl)
theorem dX6_house_74 : decode cX6_house 74 = .ok (.aload_n 0, 1) := dk_42 (dk_at dksX6_house_3 3 rfl rfl)
theorem dX6_house_75 : decode cX6_house 75 = .ok (.getfield 7, 3) := dk_180 0 7 (dk_at dksX6_house_3 4 rfl rfl)
theorem dX6_house_78 : decode cX6_house 78 = .ok (.iconst 0, 1) := dk_3 (dk_at dksX6_house_3 7 rfl rfl)
theorem dX6_house_79 : decode cX6_house 79 = .ok (.iaload, 1) := dk_46 (dk_at dksX6_house_3 8 rfl rfl)
theorem dX6_house_80 : decode cX6_house 80 = .ok (.ireturn, 1) := dk_172 (dk_at dksX6_house_3 9 rfl rfl)
abbrev cX6_putsAside : ByteArray := prog_18_method_32_code
def yX6_putsAside : MethodName := ⟨RX6, "putsAside", "()V"⟩
def dkwX6_putsAside_1 : List UInt8 := [167, 255, 234, 177]
abbrev dktX6_putsAside_1 : List UInt8 := dkwX6_putsAside_1 ++ []
def dkwX6_putsAside_0 : List UInt8 := [3, 60, 27, 17, 1, 48, 162, 0, 21, 42, 180, 0, 16, 27, 42, 180, 0, 7, 27, 46, 79, 132, 1, 1]
abbrev dktX6_putsAside_0 : List UInt8 := dkwX6_putsAside_0 ++ dktX6_putsAside_1
theorem dksX6_putsAside_0 : cX6_putsAside.data.toList.drop 0 = dktX6_putsAside_0 := by decide +kernel
theorem dksX6_putsAside_1 : cX6_putsAside.data.toList.drop 24 = dktX6_putsAside_1 := dk_seg dksX6_putsAside_0 24 rfl rfl
theorem dX6_putsAside_0 : decode cX6_putsAside 0 = .ok (.iconst 0, 1) := dk_3 (dk_at dksX6_putsAside_0 0 rfl rfl)
theorem dX6_putsAside_1 : decode cX6_putsAside 1 = .ok (.istore_n 1, 1) := dk_60 (dk_at dksX6_putsAside_0 1 rfl rfl)
theorem dX6_putsAside_2 : decode cX6_putsAside 2 = .ok (.iload_n 1, 1) := dk_27 (dk_at dksX6_putsAside_0 2 rfl rfl)
theorem dX6_putsAside_3 : decode cX6_putsAside 3 = .ok (.sipush 304, 3) := dk_17 1 48 (dk_at dksX6_putsAside_0 3 rfl rfl)
theorem dX6_putsAside_6 : decode cX6_putsAside 6 = .ok (.if_icmp .ge 21, 3) := dk_162 0 21 (dk_at dksX6_putsAside_0 6 rfl rfl)
theorem dX6_putsAside_9 : decode cX6_putsAside 9 = .ok (.aload_n 0, 1) := dk_42 (dk_at dksX6_putsAside_0 9 rfl rfl)
theorem dX6_putsAside_10 : decode cX6_putsAside 10 = .ok (.getfield 16, 3) := dk_180 0 16 (dk_at dksX6_putsAside_0 10 rfl rfl)
theorem dX6_putsAside_13 : decode cX6_putsAside 13 = .ok (.iload_n 1, 1) := dk_27 (dk_at dksX6_putsAside_0 13 rfl rfl)
theorem dX6_putsAside_14 : decode cX6_putsAside 14 = .ok (.aload_n 0, 1) := dk_42 (dk_at dksX6_putsAside_0 14 rfl rfl)
theorem dX6_putsAside_15 : decode cX6_putsAside 15 = .ok (.getfield 7, 3) := dk_180 0 7 (dk_at dksX6_putsAside_0 15 rfl rfl)
theorem dX6_putsAside_18 : decode cX6_putsAside 18 = .ok (.iload_n 1, 1) := dk_27 (dk_at dksX6_putsAside_0 18 rfl rfl)
theorem dX6_putsAside_19 : decode cX6_putsAside 19 = .ok (.iaload, 1) := dk_46 (dk_at dksX6_putsAside_0 19 rfl rfl)
theorem dX6_putsAside_20 : decode cX6_putsAside 20 = .ok (.iastore, 1) := dk_79 (dk_at dksX6_putsAside_0 20 rfl rfl)
theorem dX6_putsAside_21 : decode cX6_putsAside 21 = .ok (.iinc 1 1, 3) := dk_132 1 1 (dk_at dksX6_putsAside_0 21 rfl rfl)
theorem dX6_putsAside_24 : decode cX6_putsAside 24 = .ok (.goto (-22), 3) := dk_167 255 234 (dk_at dksX6_putsAside_1 0 rfl rfl)
theorem dX6_putsAside_27 : decode cX6_putsAside 27 = .ok (.return_, 1) := dk_177 (dk_at dksX6_putsAside_1 3 rfl rfl)
abbrev cX6_begins : ByteArray := prog_18_method_30_code
def yX6_begins : MethodName := ⟨RX6, "begins", "()V"⟩
def dkwX6_begins_1 : List UInt8 := [3, 181, 0, 67, 42, 3, 181, 0, 146, 177]
abbrev dktX6_begins_1 : List UInt8 := dkwX6_begins_1 ++ []
def dkwX6_begins_0 : List UInt8 := [42, 2, 181, 0, 25, 42, 2, 181, 0, 64, 42, 42, 180, 0, 61, 181, 0, 70, 42, 3, 181, 0, 61, 42]
abbrev dktX6_begins_0 : List UInt8 := dkwX6_begins_0 ++ dktX6_begins_1
theorem dksX6_begins_0 : cX6_begins.data.toList.drop 0 = dktX6_begins_0 := by decide +kernel
theorem dksX6_begins_1 : cX6_begins.data.toList.drop 24 = dktX6_begins_1 := dk_seg dksX6_begins_0 24 rfl rfl
theorem dX6_begins_0 : decode cX6_begins 0 = .ok (.aload_n 0, 1) := dk_42 (dk_at dksX6_begins_0 0 rfl rfl)
theorem dX6_begins_1 : decode cX6_begins 1 = .ok (.iconst (-1), 1) := dk_2 (dk_at dksX6_begins_0 1 rfl rfl)
theorem dX6_begins_2 : decode cX6_begins 2 = .ok (.putfield 25, 3) := dk_181 0 25 (dk_at dksX6_begins_0 2 rfl rfl)
theorem dX6_begins_5 : decode cX6_begins 5 = .ok (.aload_n 0, 1) := dk_42 (dk_at dksX6_begins_0 5 rfl rfl)
theorem dX6_begins_6 : decode cX6_begins 6 = .ok (.iconst (-1), 1) := dk_2 (dk_at dksX6_begins_0 6 rfl rfl)
theorem dX6_begins_7 : decode cX6_begins 7 = .ok (.putfield 64, 3) := dk_181 0 64 (dk_at dksX6_begins_0 7 rfl rfl)
theorem dX6_begins_10 : decode cX6_begins 10 = .ok (.aload_n 0, 1) := dk_42 (dk_at dksX6_begins_0 10 rfl rfl)
theorem dX6_begins_11 : decode cX6_begins 11 = .ok (.aload_n 0, 1) := dk_42 (dk_at dksX6_begins_0 11 rfl rfl)
theorem dX6_begins_12 : decode cX6_begins 12 = .ok (.getfield 61, 3) := dk_180 0 61 (dk_at dksX6_begins_0 12 rfl rfl)
theorem dX6_begins_15 : decode cX6_begins 15 = .ok (.putfield 70, 3) := dk_181 0 70 (dk_at dksX6_begins_0 15 rfl rfl)
theorem dX6_begins_18 : decode cX6_begins 18 = .ok (.aload_n 0, 1) := dk_42 (dk_at dksX6_begins_0 18 rfl rfl)
theorem dX6_begins_19 : decode cX6_begins 19 = .ok (.iconst 0, 1) := dk_3 (dk_at dksX6_begins_0 19 rfl rfl)
theorem dX6_begins_20 : decode cX6_begins 20 = .ok (.putfield 61, 3) := dk_181 0 61 (dk_at dksX6_begins_0 20 rfl rfl)
theorem dX6_begins_23 : decode cX6_begins 23 = .ok (.aload_n 0, 1) := dk_42 (dk_at dksX6_begins_0 23 rfl rfl)
theorem dX6_begins_24 : decode cX6_begins 24 = .ok (.iconst 0, 1) := dk_3 (dk_at dksX6_begins_1 0 rfl rfl)
theorem dX6_begins_25 : decode cX6_begins 25 = .ok (.putfield 67, 3) := dk_181 0 67 (dk_at dksX6_begins_1 1 rfl rfl)
theorem dX6_begins_28 : decode cX6_begins 28 = .ok (.aload_n 0, 1) := dk_42 (dk_at dksX6_begins_1 4 rfl rfl)
theorem dX6_begins_29 : decode cX6_begins 29 = .ok (.iconst 0, 1) := dk_3 (dk_at dksX6_begins_1 5 rfl rfl)
theorem dX6_begins_30 : decode cX6_begins 30 = .ok (.putfield 146, 3) := dk_181 0 146 (dk_at dksX6_begins_1 6 rfl rfl)
theorem dX6_begins_33 : decode cX6_begins 33 = .ok (.return_, 1) := dk_177 (dk_at dksX6_begins_1 9 rfl rfl)
abbrev cX6_read : ByteArray := prog_18_method_31_code
def yX6_read : MethodName := ⟨RX6, "read", "(Z)I"⟩
def dkwX6_read_6 : List UInt8 := [182, 0, 92, 167, 255, 138, 29, 172]
abbrev dktX6_read_6 : List UInt8 := dkwX6_read_6 ++ []
def dkwX6_read_5 : List UInt8 := [182, 0, 155, 153, 0, 16, 42, 89, 180, 0, 67, 4, 96, 181, 0, 67, 167, 255, 149, 42, 42, 180, 0, 67]
abbrev dktX6_read_5 : List UInt8 := dkwX6_read_5 ++ dktX6_read_6
def dkwX6_read_4 : List UInt8 := [160, 0, 14, 42, 180, 0, 67, 42, 180, 0, 70, 160, 0, 8, 3, 61, 167, 255, 171, 42, 16, 59]
abbrev dktX6_read_4 : List UInt8 := dkwX6_read_4 ++ dktX6_read_5
def dkwX6_read_3 : List UInt8 := [182, 0, 149, 167, 0, 7, 42, 182, 0, 152, 132, 3, 1, 42, 182, 0, 76, 42, 180, 0, 25, 2]
abbrev dktX6_read_3 : List UInt8 := dkwX6_read_3 ++ dktX6_read_4
def dkwX6_read_2 : List UInt8 := [167, 0, 5, 16, 14, 160, 0, 14, 42, 42, 180, 0, 67, 182, 0, 92, 167, 0, 18, 27, 153, 0, 10, 42]
abbrev dktX6_read_2 : List UInt8 := dkwX6_read_2 ++ dktX6_read_3
def dkwX6_read_1 : List UInt8 := [153, 0, 120, 42, 180, 0, 25, 2, 160, 0, 112, 42, 182, 0, 76, 29, 27, 153, 0, 8, 16, 12]
abbrev dktX6_read_1 : List UInt8 := dkwX6_read_1 ++ dktX6_read_2
def dkwX6_read_0 : List UInt8 := [42, 182, 0, 76, 42, 180, 0, 67, 42, 180, 0, 70, 162, 0, 7, 4, 167, 0, 4, 3, 61, 3, 62, 28]
abbrev dktX6_read_0 : List UInt8 := dkwX6_read_0 ++ dktX6_read_1
theorem dksX6_read_0 : cX6_read.data.toList.drop 0 = dktX6_read_0 := by decide +kernel
theorem dksX6_read_1 : cX6_read.data.toList.drop 24 = dktX6_read_1 := dk_seg dksX6_read_0 24 rfl rfl
theorem dksX6_read_2 : cX6_read.data.toList.drop 46 = dktX6_read_2 := dk_seg dksX6_read_1 22 rfl rfl
theorem dksX6_read_3 : cX6_read.data.toList.drop 70 = dktX6_read_3 := dk_seg dksX6_read_2 24 rfl rfl
theorem dksX6_read_4 : cX6_read.data.toList.drop 92 = dktX6_read_4 := dk_seg dksX6_read_3 22 rfl rfl
theorem dksX6_read_5 : cX6_read.data.toList.drop 114 = dktX6_read_5 := dk_seg dksX6_read_4 22 rfl rfl
theorem dksX6_read_6 : cX6_read.data.toList.drop 138 = dktX6_read_6 := dk_seg dksX6_read_5 24 rfl rfl
theorem dX6_read_0 : decode cX6_read 0 = .ok (.aload_n 0, 1) := dk_42 (dk_at dksX6_read_0 0 rfl rfl)
theorem dX6_read_1 : decode cX6_read 1 = .ok (.invokevirtual 76, 3) := dk_182 0 76 (dk_at dksX6_read_0 1 rfl rfl)
theorem dX6_read_4 : decode cX6_read 4 = .ok (.aload_n 0, 1) := dk_42 (dk_at dksX6_read_0 4 rfl rfl)
theorem dX6_read_5 : decode cX6_read 5 = .ok (.getfield 67, 3) := dk_180 0 67 (dk_at dksX6_read_0 5 rfl rfl)
theorem dX6_read_8 : decode cX6_read 8 = .ok (.aload_n 0, 1) := dk_42 (dk_at dksX6_read_0 8 rfl rfl)
theorem dX6_read_9 : decode cX6_read 9 = .ok (.getfield 70, 3) := dk_180 0 70 (dk_at dksX6_read_0 9 rfl rfl)
theorem dX6_read_12 : decode cX6_read 12 = .ok (.if_icmp .ge 7, 3) := dk_162 0 7 (dk_at dksX6_read_0 12 rfl rfl)
theorem dX6_read_15 : decode cX6_read 15 = .ok (.iconst 1, 1) := dk_4 (dk_at dksX6_read_0 15 rfl rfl)
theorem dX6_read_16 : decode cX6_read 16 = .ok (.goto 4, 3) := dk_167 0 4 (dk_at dksX6_read_0 16 rfl rfl)
theorem dX6_read_19 : decode cX6_read 19 = .ok (.iconst 0, 1) := dk_3 (dk_at dksX6_read_0 19 rfl rfl)
theorem dX6_read_20 : decode cX6_read 20 = .ok (.istore_n 2, 1) := dk_61 (dk_at dksX6_read_0 20 rfl rfl)
theorem dX6_read_21 : decode cX6_read 21 = .ok (.iconst 0, 1) := dk_3 (dk_at dksX6_read_0 21 rfl rfl)
theorem dX6_read_22 : decode cX6_read 22 = .ok (.istore_n 3, 1) := dk_62 (dk_at dksX6_read_0 22 rfl rfl)
theorem dX6_read_23 : decode cX6_read 23 = .ok (.iload_n 2, 1) := dk_28 (dk_at dksX6_read_0 23 rfl rfl)
theorem dX6_read_24 : decode cX6_read 24 = .ok (.ifCond .eq 120, 3) := dk_153 0 120 (dk_at dksX6_read_1 0 rfl rfl)
theorem dX6_read_27 : decode cX6_read 27 = .ok (.aload_n 0, 1) := dk_42 (dk_at dksX6_read_1 3 rfl rfl)
theorem dX6_read_28 : decode cX6_read 28 = .ok (.getfield 25, 3) := dk_180 0 25 (dk_at dksX6_read_1 4 rfl rfl)
theorem dX6_read_31 : decode cX6_read 31 = .ok (.iconst (-1), 1) := dk_2 (dk_at dksX6_read_1 7 rfl rfl)
theorem dX6_read_32 : decode cX6_read 32 = .ok (.if_icmp .ne 112, 3) := dk_160 0 112 (dk_at dksX6_read_1 8 rfl rfl)
theorem dX6_read_35 : decode cX6_read 35 = .ok (.aload_n 0, 1) := dk_42 (dk_at dksX6_read_1 11 rfl rfl)
theorem dX6_read_36 : decode cX6_read 36 = .ok (.invokevirtual 76, 3) := dk_182 0 76 (dk_at dksX6_read_1 12 rfl rfl)
theorem dX6_read_39 : decode cX6_read 39 = .ok (.iload_n 3, 1) := dk_29 (dk_at dksX6_read_1 15 rfl rfl)
theorem dX6_read_40 : decode cX6_read 40 = .ok (.iload_n 1, 1) := dk_27 (dk_at dksX6_read_1 16 rfl rfl)
theorem dX6_read_41 : decode cX6_read 41 = .ok (.ifCond .eq 8, 3) := dk_153 0 8 (dk_at dksX6_read_1 17 rfl rfl)
theorem dX6_read_44 : decode cX6_read 44 = .ok (.bipush 12, 2) := dk_16 12 (dk_at dksX6_read_1 20 rfl rfl)
theorem dX6_read_46 : decode cX6_read 46 = .ok (.goto 5, 3) := dk_167 0 5 (dk_at dksX6_read_2 0 rfl rfl)
theorem dX6_read_49 : decode cX6_read 49 = .ok (.bipush 14, 2) := dk_16 14 (dk_at dksX6_read_2 3 rfl rfl)
theorem dX6_read_51 : decode cX6_read 51 = .ok (.if_icmp .ne 14, 3) := dk_160 0 14 (dk_at dksX6_read_2 5 rfl rfl)
theorem dX6_read_54 : decode cX6_read 54 = .ok (.aload_n 0, 1) := dk_42 (dk_at dksX6_read_2 8 rfl rfl)
theorem dX6_read_55 : decode cX6_read 55 = .ok (.aload_n 0, 1) := dk_42 (dk_at dksX6_read_2 9 rfl rfl)
theorem dX6_read_56 : decode cX6_read 56 = .ok (.getfield 67, 3) := dk_180 0 67 (dk_at dksX6_read_2 10 rfl rfl)
theorem dX6_read_59 : decode cX6_read 59 = .ok (.invokevirtual 92, 3) := dk_182 0 92 (dk_at dksX6_read_2 13 rfl rfl)
theorem dX6_read_62 : decode cX6_read 62 = .ok (.goto 18, 3) := dk_167 0 18 (dk_at dksX6_read_2 16 rfl rfl)
theorem dX6_read_65 : decode cX6_read 65 = .ok (.iload_n 1, 1) := dk_27 (dk_at dksX6_read_2 19 rfl rfl)
theorem dX6_read_66 : decode cX6_read 66 = .ok (.ifCond .eq 10, 3) := dk_153 0 10 (dk_at dksX6_read_2 20 rfl rfl)
theorem dX6_read_69 : decode cX6_read 69 = .ok (.aload_n 0, 1) := dk_42 (dk_at dksX6_read_2 23 rfl rfl)
theorem dX6_read_70 : decode cX6_read 70 = .ok (.invokevirtual 149, 3) := dk_182 0 149 (dk_at dksX6_read_3 0 rfl rfl)
theorem dX6_read_73 : decode cX6_read 73 = .ok (.goto 7, 3) := dk_167 0 7 (dk_at dksX6_read_3 3 rfl rfl)
theorem dX6_read_76 : decode cX6_read 76 = .ok (.aload_n 0, 1) := dk_42 (dk_at dksX6_read_3 6 rfl rfl)
theorem dX6_read_77 : decode cX6_read 77 = .ok (.invokevirtual 152, 3) := dk_182 0 152 (dk_at dksX6_read_3 7 rfl rfl)
theorem dX6_read_80 : decode cX6_read 80 = .ok (.iinc 3 1, 3) := dk_132 3 1 (dk_at dksX6_read_3 10 rfl rfl)
theorem dX6_read_83 : decode cX6_read 83 = .ok (.aload_n 0, 1) := dk_42 (dk_at dksX6_read_3 13 rfl rfl)
theorem dX6_read_84 : decode cX6_read 84 = .ok (.invokevirtual 76, 3) := dk_182 0 76 (dk_at dksX6_read_3 14 rfl rfl)
theorem dX6_read_87 : decode cX6_read 87 = .ok (.aload_n 0, 1) := dk_42 (dk_at dksX6_read_3 17 rfl rfl)
theorem dX6_read_88 : decode cX6_read 88 = .ok (.getfield 25, 3) := dk_180 0 25 (dk_at dksX6_read_3 18 rfl rfl)
theorem dX6_read_91 : decode cX6_read 91 = .ok (.iconst (-1), 1) := dk_2 (dk_at dksX6_read_3 21 rfl rfl)
theorem dX6_read_92 : decode cX6_read 92 = .ok (.if_icmp .ne 14, 3) := dk_160 0 14 (dk_at dksX6_read_4 0 rfl rfl)
theorem dX6_read_95 : decode cX6_read 95 = .ok (.aload_n 0, 1) := dk_42 (dk_at dksX6_read_4 3 rfl rfl)
theorem dX6_read_96 : decode cX6_read 96 = .ok (.getfield 67, 3) := dk_180 0 67 (dk_at dksX6_read_4 4 rfl rfl)
theorem dX6_read_99 : decode cX6_read 99 = .ok (.aload_n 0, 1) := dk_42 (dk_at dksX6_read_4 7 rfl rfl)
theorem dX6_read_100 : decode cX6_read 100 = .ok (.getfield 70, 3) := dk_180 0 70 (dk_at dksX6_read_4 8 rfl rfl)
theorem dX6_read_103 : decode cX6_read 103 = .ok (.if_icmp .ne 8, 3) := dk_160 0 8 (dk_at dksX6_read_4 11 rfl rfl)
theorem dX6_read_106 : decode cX6_read 106 = .ok (.iconst 0, 1) := dk_3 (dk_at dksX6_read_4 14 rfl rfl)
theorem dX6_read_107 : decode cX6_read 107 = .ok (.istore_n 2, 1) := dk_61 (dk_at dksX6_read_4 15 rfl rfl)
theorem dX6_read_108 : decode cX6_read 108 = .ok (.goto (-85), 3) := dk_167 255 171 (dk_at dksX6_read_4 16 rfl rfl)
theorem dX6_read_111 : decode cX6_read 111 = .ok (.aload_n 0, 1) := dk_42 (dk_at dksX6_read_4 19 rfl rfl)
theorem dX6_read_112 : decode cX6_read 112 = .ok (.bipush 59, 2) := dk_16 59 (dk_at dksX6_read_4 20 rfl rfl)
theorem dX6_read_114 : decode cX6_read 114 = .ok (.invokevirtual 155, 3) := dk_182 0 155 (dk_at dksX6_read_5 0 rfl rfl)
theorem dX6_read_117 : decode cX6_read 117 = .ok (.ifCond .eq 16, 3) := dk_153 0 16 (dk_at dksX6_read_5 3 rfl rfl)
theorem dX6_read_120 : decode cX6_read 120 = .ok (.aload_n 0, 1) := dk_42 (dk_at dksX6_read_5 6 rfl rfl)
theorem dX6_read_121 : decode cX6_read 121 = .ok (.dup, 1) := dk_89 (dk_at dksX6_read_5 7 rfl rfl)
theorem dX6_read_122 : decode cX6_read 122 = .ok (.getfield 67, 3) := dk_180 0 67 (dk_at dksX6_read_5 8 rfl rfl)
theorem dX6_read_125 : decode cX6_read 125 = .ok (.iconst 1, 1) := dk_4 (dk_at dksX6_read_5 11 rfl rfl)
theorem dX6_read_126 : decode cX6_read 126 = .ok (.iadd, 1) := dk_96 (dk_at dksX6_read_5 12 rfl rfl)
theorem dX6_read_127 : decode cX6_read 127 = .ok (.putfield 67, 3) := dk_181 0 67 (dk_at dksX6_read_5 13 rfl rfl)
theorem dX6_read_130 : decode cX6_read 130 = .ok (.goto (-107), 3) := dk_167 255 149 (dk_at dksX6_read_5 16 rfl rfl)
theorem dX6_read_133 : decode cX6_read 133 = .ok (.aload_n 0, 1) := dk_42 (dk_at dksX6_read_5 19 rfl rfl)
theorem dX6_read_134 : decode cX6_read 134 = .ok (.aload_n 0, 1) := dk_42 (dk_at dksX6_read_5 20 rfl rfl)
theorem dX6_read_135 : decode cX6_read 135 = .ok (.getfield 67, 3) := dk_180 0 67 (dk_at dksX6_read_5 21 rfl rfl)
theorem dX6_read_138 : decode cX6_read 138 = .ok (.invokevirtual 92, 3) := dk_182 0 92 (dk_at dksX6_read_6 0 rfl rfl)
theorem dX6_read_141 : decode cX6_read 141 = .ok (.goto (-118), 3) := dk_167 255 138 (dk_at dksX6_read_6 3 rfl rfl)
theorem dX6_read_144 : decode cX6_read 144 = .ok (.iload_n 3, 1) := dk_29 (dk_at dksX6_read_6 6 rfl rfl)
theorem dX6_read_145 : decode cX6_read 145 = .ok (.ireturn, 1) := dk_172 (dk_at dksX6_read_6 7 rfl rfl)
abbrev cX6_skip : ByteArray := prog_18_method_19_code
def yX6_skip : MethodName := ⟨RX6, "skip", "()V"⟩
def dkwX6_skip_1 : List UInt8 := [42, 89, 180, 0, 67, 4, 96, 181, 0, 67, 167, 255, 222, 177]
abbrev dktX6_skip_1 : List UInt8 := dkwX6_skip_1 ++ []
def dkwX6_skip_0 : List UInt8 := [42, 180, 0, 67, 42, 180, 0, 70, 162, 0, 29, 42, 42, 180, 0, 67, 182, 0, 73, 16, 32, 160, 0, 16]
abbrev dktX6_skip_0 : List UInt8 := dkwX6_skip_0 ++ dktX6_skip_1
theorem dksX6_skip_0 : cX6_skip.data.toList.drop 0 = dktX6_skip_0 := by decide +kernel
theorem dksX6_skip_1 : cX6_skip.data.toList.drop 24 = dktX6_skip_1 := dk_seg dksX6_skip_0 24 rfl rfl
theorem dX6_skip_0 : decode cX6_skip 0 = .ok (.aload_n 0, 1) := dk_42 (dk_at dksX6_skip_0 0 rfl rfl)
theorem dX6_skip_1 : decode cX6_skip 1 = .ok (.getfield 67, 3) := dk_180 0 67 (dk_at dksX6_skip_0 1 rfl rfl)
theorem dX6_skip_4 : decode cX6_skip 4 = .ok (.aload_n 0, 1) := dk_42 (dk_at dksX6_skip_0 4 rfl rfl)
theorem dX6_skip_5 : decode cX6_skip 5 = .ok (.getfield 70, 3) := dk_180 0 70 (dk_at dksX6_skip_0 5 rfl rfl)
theorem dX6_skip_8 : decode cX6_skip 8 = .ok (.if_icmp .ge 29, 3) := dk_162 0 29 (dk_at dksX6_skip_0 8 rfl rfl)
theorem dX6_skip_11 : decode cX6_skip 11 = .ok (.aload_n 0, 1) := dk_42 (dk_at dksX6_skip_0 11 rfl rfl)
theorem dX6_skip_12 : decode cX6_skip 12 = .ok (.aload_n 0, 1) := dk_42 (dk_at dksX6_skip_0 12 rfl rfl)
theorem dX6_skip_13 : decode cX6_skip 13 = .ok (.getfield 67, 3) := dk_180 0 67 (dk_at dksX6_skip_0 13 rfl rfl)
theorem dX6_skip_16 : decode cX6_skip 16 = .ok (.invokevirtual 73, 3) := dk_182 0 73 (dk_at dksX6_skip_0 16 rfl rfl)
theorem dX6_skip_19 : decode cX6_skip 19 = .ok (.bipush 32, 2) := dk_16 32 (dk_at dksX6_skip_0 19 rfl rfl)
theorem dX6_skip_21 : decode cX6_skip 21 = .ok (.if_icmp .ne 16, 3) := dk_160 0 16 (dk_at dksX6_skip_0 21 rfl rfl)
theorem dX6_skip_24 : decode cX6_skip 24 = .ok (.aload_n 0, 1) := dk_42 (dk_at dksX6_skip_1 0 rfl rfl)
theorem dX6_skip_25 : decode cX6_skip 25 = .ok (.dup, 1) := dk_89 (dk_at dksX6_skip_1 1 rfl rfl)
theorem dX6_skip_26 : decode cX6_skip 26 = .ok (.getfield 67, 3) := dk_180 0 67 (dk_at dksX6_skip_1 2 rfl rfl)
theorem dX6_skip_29 : decode cX6_skip 29 = .ok (.iconst 1, 1) := dk_4 (dk_at dksX6_skip_1 5 rfl rfl)
theorem dX6_skip_30 : decode cX6_skip 30 = .ok (.iadd, 1) := dk_96 (dk_at dksX6_skip_1 6 rfl rfl)
theorem dX6_skip_31 : decode cX6_skip 31 = .ok (.putfield 67, 3) := dk_181 0 67 (dk_at dksX6_skip_1 7 rfl rfl)
theorem dX6_skip_34 : decode cX6_skip 34 = .ok (.goto (-34), 3) := dk_167 255 222 (dk_at dksX6_skip_1 10 rfl rfl)
theorem dX6_skip_37 : decode cX6_skip 37 = .ok (.return_, 1) := dk_177 (dk_at dksX6_skip_1 13 rfl rfl)
abbrev cX6_letter : ByteArray := prog_18_method_18_code
def yX6_letter : MethodName := ⟨RX6, "letter", "(I)I"⟩
def dkwX6_letter_1 : List UInt8 := [180, 0, 64, 27, 96, 46, 172]
abbrev dktX6_letter_1 : List UInt8 := dkwX6_letter_1 ++ []
def dkwX6_letter_0 : List UInt8 := [42, 180, 0, 64, 2, 160, 0, 12, 42, 180, 0, 22, 27, 46, 167, 0, 14, 42, 180, 0, 7, 42]
abbrev dktX6_letter_0 : List UInt8 := dkwX6_letter_0 ++ dktX6_letter_1
theorem dksX6_letter_0 : cX6_letter.data.toList.drop 0 = dktX6_letter_0 := by decide +kernel
theorem dksX6_letter_1 : cX6_letter.data.toList.drop 22 = dktX6_letter_1 := dk_seg dksX6_letter_0 22 rfl rfl
theorem dX6_letter_0 : decode cX6_letter 0 = .ok (.aload_n 0, 1) := dk_42 (dk_at dksX6_letter_0 0 rfl rfl)
theorem dX6_letter_1 : decode cX6_letter 1 = .ok (.getfield 64, 3) := dk_180 0 64 (dk_at dksX6_letter_0 1 rfl rfl)
theorem dX6_letter_4 : decode cX6_letter 4 = .ok (.iconst (-1), 1) := dk_2 (dk_at dksX6_letter_0 4 rfl rfl)
theorem dX6_letter_5 : decode cX6_letter 5 = .ok (.if_icmp .ne 12, 3) := dk_160 0 12 (dk_at dksX6_letter_0 5 rfl rfl)
theorem dX6_letter_8 : decode cX6_letter 8 = .ok (.aload_n 0, 1) := dk_42 (dk_at dksX6_letter_0 8 rfl rfl)
theorem dX6_letter_9 : decode cX6_letter 9 = .ok (.getfield 22, 3) := dk_180 0 22 (dk_at dksX6_letter_0 9 rfl rfl)
theorem dX6_letter_12 : decode cX6_letter 12 = .ok (.iload_n 1, 1) := dk_27 (dk_at dksX6_letter_0 12 rfl rfl)
theorem dX6_letter_13 : decode cX6_letter 13 = .ok (.iaload, 1) := dk_46 (dk_at dksX6_letter_0 13 rfl rfl)
theorem dX6_letter_14 : decode cX6_letter 14 = .ok (.goto 14, 3) := dk_167 0 14 (dk_at dksX6_letter_0 14 rfl rfl)
theorem dX6_letter_17 : decode cX6_letter 17 = .ok (.aload_n 0, 1) := dk_42 (dk_at dksX6_letter_0 17 rfl rfl)
theorem dX6_letter_18 : decode cX6_letter 18 = .ok (.getfield 7, 3) := dk_180 0 7 (dk_at dksX6_letter_0 18 rfl rfl)
theorem dX6_letter_21 : decode cX6_letter 21 = .ok (.aload_n 0, 1) := dk_42 (dk_at dksX6_letter_0 21 rfl rfl)
theorem dX6_letter_22 : decode cX6_letter 22 = .ok (.getfield 64, 3) := dk_180 0 64 (dk_at dksX6_letter_1 0 rfl rfl)
theorem dX6_letter_25 : decode cX6_letter 25 = .ok (.iload_n 1, 1) := dk_27 (dk_at dksX6_letter_1 3 rfl rfl)
theorem dX6_letter_26 : decode cX6_letter 26 = .ok (.iadd, 1) := dk_96 (dk_at dksX6_letter_1 4 rfl rfl)
theorem dX6_letter_27 : decode cX6_letter 27 = .ok (.iaload, 1) := dk_46 (dk_at dksX6_letter_1 5 rfl rfl)
theorem dX6_letter_28 : decode cX6_letter 28 = .ok (.ireturn, 1) := dk_172 (dk_at dksX6_letter_1 6 rfl rfl)
abbrev cX6_wrong : ByteArray := prog_18_method_22_code
def yX6_wrong : MethodName := ⟨RX6, "wrong", "(I)V"⟩
def dkwX6_wrong_0 : List UInt8 := [42, 180, 0, 25, 2, 160, 0, 8, 42, 27, 181, 0, 25, 177]
abbrev dktX6_wrong_0 : List UInt8 := dkwX6_wrong_0 ++ []
theorem dksX6_wrong_0 : cX6_wrong.data.toList.drop 0 = dktX6_wrong_0 := by decide +kernel
theorem dX6_wrong_0 : decode cX6_wrong 0 = .ok (.aload_n 0, 1) := dk_42 (dk_at dksX6_wrong_0 0 rfl rfl)
theorem dX6_wrong_1 : decode cX6_wrong 1 = .ok (.getfield 25, 3) := dk_180 0 25 (dk_at dksX6_wrong_0 1 rfl rfl)
theorem dX6_wrong_4 : decode cX6_wrong 4 = .ok (.iconst (-1), 1) := dk_2 (dk_at dksX6_wrong_0 4 rfl rfl)
theorem dX6_wrong_5 : decode cX6_wrong 5 = .ok (.if_icmp .ne 8, 3) := dk_160 0 8 (dk_at dksX6_wrong_0 5 rfl rfl)
theorem dX6_wrong_8 : decode cX6_wrong 8 = .ok (.aload_n 0, 1) := dk_42 (dk_at dksX6_wrong_0 8 rfl rfl)
theorem dX6_wrong_9 : decode cX6_wrong 9 = .ok (.iload_n 1, 1) := dk_27 (dk_at dksX6_wrong_0 9 rfl rfl)
theorem dX6_wrong_10 : decode cX6_wrong 10 = .ok (.putfield 25, 3) := dk_181 0 25 (dk_at dksX6_wrong_0 10 rfl rfl)
theorem dX6_wrong_13 : decode cX6_wrong 13 = .ok (.return_, 1) := dk_177 (dk_at dksX6_wrong_0 13 rfl rfl)
abbrev cX6_lawLine : ByteArray := prog_18_method_41_code
def yX6_lawLine : MethodName := ⟨RX6, "lawLine", "()V"⟩
def dkwX6_lawLine_4 : List UInt8 := [28, 116, 96, 181, 0, 223, 177]
abbrev dktX6_lawLine_4 : List UInt8 := dkwX6_lawLine_4 ++ []
def dkwX6_lawLine_3 : List UInt8 := [180, 0, 25, 2, 160, 0, 26, 29, 153, 0, 22, 42, 89, 180, 0, 223, 27, 153, 0, 7, 28, 167, 0, 5]
abbrev dktX6_lawLine_3 : List UInt8 := dkwX6_lawLine_3 ++ dktX6_lawLine_4
def dkwX6_lawLine_2 : List UInt8 := [42, 18, 221, 182, 0, 96, 153, 0, 10, 42, 182, 0, 209, 153, 0, 7, 4, 167, 0, 4, 3, 62, 42]
abbrev dktX6_lawLine_2 : List UInt8 := dkwX6_lawLine_2 ++ dktX6_lawLine_3
def dkwX6_lawLine_1 : List UInt8 := [180, 0, 67, 182, 0, 92, 177, 42, 3, 16, 30, 182, 0, 100, 61, 42, 180, 0, 25, 2, 159, 0, 4, 177]
abbrev dktX6_lawLine_1 : List UInt8 := dkwX6_lawLine_1 ++ dktX6_lawLine_2
def dkwX6_lawLine_0 : List UInt8 := [42, 18, 110, 182, 0, 96, 60, 27, 154, 0, 21, 42, 18, 219, 182, 0, 96, 154, 0, 12, 42, 42]
abbrev dktX6_lawLine_0 : List UInt8 := dkwX6_lawLine_0 ++ dktX6_lawLine_1
theorem dksX6_lawLine_0 : cX6_lawLine.data.toList.drop 0 = dktX6_lawLine_0 := by decide +kernel
theorem dksX6_lawLine_1 : cX6_lawLine.data.toList.drop 22 = dktX6_lawLine_1 := dk_seg dksX6_lawLine_0 22 rfl rfl
theorem dksX6_lawLine_2 : cX6_lawLine.data.toList.drop 46 = dktX6_lawLine_2 := dk_seg dksX6_lawLine_1 24 rfl rfl
theorem dksX6_lawLine_3 : cX6_lawLine.data.toList.drop 69 = dktX6_lawLine_3 := dk_seg dksX6_lawLine_2 23 rfl rfl
theorem dksX6_lawLine_4 : cX6_lawLine.data.toList.drop 93 = dktX6_lawLine_4 := dk_seg dksX6_lawLine_3 24 rfl rfl
theorem dX6_lawLine_0 : decode cX6_lawLine 0 = .ok (.aload_n 0, 1) := dk_42 (dk_at dksX6_lawLine_0 0 rfl rfl)
theorem dX6_lawLine_1 : decode cX6_lawLine 1 = .ok (.ldc 110, 2) := dk_18 110 (dk_at dksX6_lawLine_0 1 rfl rfl)
theorem dX6_lawLine_3 : decode cX6_lawLine 3 = .ok (.invokevirtual 96, 3) := dk_182 0 96 (dk_at dksX6_lawLine_0 3 rfl rfl)
theorem dX6_lawLine_6 : decode cX6_lawLine 6 = .ok (.istore_n 1, 1) := dk_60 (dk_at dksX6_lawLine_0 6 rfl rfl)
theorem dX6_lawLine_7 : decode cX6_lawLine 7 = .ok (.iload_n 1, 1) := dk_27 (dk_at dksX6_lawLine_0 7 rfl rfl)
theorem dX6_lawLine_8 : decode cX6_lawLine 8 = .ok (.ifCond .ne 21, 3) := dk_154 0 21 (dk_at dksX6_lawLine_0 8 rfl rfl)
theorem dX6_lawLine_11 : decode cX6_lawLine 11 = .ok (.aload_n 0, 1) := dk_42 (dk_at dksX6_lawLine_0 11 rfl rfl)
theorem dX6_lawLine_12 : decode cX6_lawLine 12 = .ok (.ldc 219, 2) := dk_18 219 (dk_at dksX6_lawLine_0 12 rfl rfl)
theorem dX6_lawLine_14 : decode cX6_lawLine 14 = .ok (.invokevirtual 96, 3) := dk_182 0 96 (dk_at dksX6_lawLine_0 14 rfl rfl)
theorem dX6_lawLine_17 : decode cX6_lawLine 17 = .ok (.ifCond .ne 12, 3) := dk_154 0 12 (dk_at dksX6_lawLine_0 17 rfl rfl)
theorem dX6_lawLine_20 : decode cX6_lawLine 20 = .ok (.aload_n 0, 1) := dk_42 (dk_at dksX6_lawLine_0 20 rfl rfl)
theorem dX6_lawLine_21 : decode cX6_lawLine 21 = .ok (.aload_n 0, 1) := dk_42 (dk_at dksX6_lawLine_0 21 rfl rfl)
theorem dX6_lawLine_22 : decode cX6_lawLine 22 = .ok (.getfield 67, 3) := dk_180 0 67 (dk_at dksX6_lawLine_1 0 rfl rfl)
theorem dX6_lawLine_25 : decode cX6_lawLine 25 = .ok (.invokevirtual 92, 3) := dk_182 0 92 (dk_at dksX6_lawLine_1 3 rfl rfl)
theorem dX6_lawLine_28 : decode cX6_lawLine 28 = .ok (.return_, 1) := dk_177 (dk_at dksX6_lawLine_1 6 rfl rfl)
theorem dX6_lawLine_29 : decode cX6_lawLine 29 = .ok (.aload_n 0, 1) := dk_42 (dk_at dksX6_lawLine_1 7 rfl rfl)
theorem dX6_lawLine_30 : decode cX6_lawLine 30 = .ok (.iconst 0, 1) := dk_3 (dk_at dksX6_lawLine_1 8 rfl rfl)
theorem dX6_lawLine_31 : decode cX6_lawLine 31 = .ok (.bipush 30, 2) := dk_16 30 (dk_at dksX6_lawLine_1 9 rfl rfl)
theorem dX6_lawLine_33 : decode cX6_lawLine 33 = .ok (.invokevirtual 100, 3) := dk_182 0 100 (dk_at dksX6_lawLine_1 11 rfl rfl)
theorem dX6_lawLine_36 : decode cX6_lawLine 36 = .ok (.istore_n 2, 1) := dk_61 (dk_at dksX6_lawLine_1 14 rfl rfl)
theorem dX6_lawLine_37 : decode cX6_lawLine 37 = .ok (.aload_n 0, 1) := dk_42 (dk_at dksX6_lawLine_1 15 rfl rfl)
theorem dX6_lawLine_38 : decode cX6_lawLine 38 = .ok (.getfield 25, 3) := dk_180 0 25 (dk_at dksX6_lawLine_1 16 rfl rfl)
theorem dX6_lawLine_41 : decode cX6_lawLine 41 = .ok (.iconst (-1), 1) := dk_2 (dk_at dksX6_lawLine_1 19 rfl rfl)
theorem dX6_lawLine_42 : decode cX6_lawLine 42 = .ok (.if_icmp .eq 4, 3) := dk_159 0 4 (dk_at dksX6_lawLine_1 20 rfl rfl)
theorem dX6_lawLine_45 : decode cX6_lawLine 45 = .ok (.return_, 1) := dk_177 (dk_at dksX6_lawLine_1 23 rfl rfl)
theorem dX6_lawLine_46 : decode cX6_lawLine 46 = .ok (.aload_n 0, 1) := dk_42 (dk_at dksX6_lawLine_2 0 rfl rfl)
theorem dX6_lawLine_47 : decode cX6_lawLine 47 = .ok (.ldc 221, 2) := dk_18 221 (dk_at dksX6_lawLine_2 1 rfl rfl)
theorem dX6_lawLine_49 : decode cX6_lawLine 49 = .ok (.invokevirtual 96, 3) := dk_182 0 96 (dk_at dksX6_lawLine_2 3 rfl rfl)
theorem dX6_lawLine_52 : decode cX6_lawLine 52 = .ok (.ifCond .eq 10, 3) := dk_153 0 10 (dk_at dksX6_lawLine_2 6 rfl rfl)
theorem dX6_lawLine_55 : decode cX6_lawLine 55 = .ok (.aload_n 0, 1) := dk_42 (dk_at dksX6_lawLine_2 9 rfl rfl)
theorem dX6_lawLine_56 : decode cX6_lawLine 56 = .ok (.invokevirtual 209, 3) := dk_182 0 209 (dk_at dksX6_lawLine_2 10 rfl rfl)
theorem dX6_lawLine_59 : decode cX6_lawLine 59 = .ok (.ifCond .eq 7, 3) := dk_153 0 7 (dk_at dksX6_lawLine_2 13 rfl rfl)
theorem dX6_lawLine_62 : decode cX6_lawLine 62 = .ok (.iconst 1, 1) := dk_4 (dk_at dksX6_lawLine_2 16 rfl rfl)
theorem dX6_lawLine_63 : decode cX6_lawLine 63 = .ok (.goto 4, 3) := dk_167 0 4 (dk_at dksX6_lawLine_2 17 rfl rfl)
theorem dX6_lawLine_66 : decode cX6_lawLine 66 = .ok (.iconst 0, 1) := dk_3 (dk_at dksX6_lawLine_2 20 rfl rfl)
theorem dX6_lawLine_67 : decode cX6_lawLine 67 = .ok (.istore_n 3, 1) := dk_62 (dk_at dksX6_lawLine_2 21 rfl rfl)
theorem dX6_lawLine_68 : decode cX6_lawLine 68 = .ok (.aload_n 0, 1) := dk_42 (dk_at dksX6_lawLine_2 22 rfl rfl)
theorem dX6_lawLine_69 : decode cX6_lawLine 69 = .ok (.getfield 25, 3) := dk_180 0 25 (dk_at dksX6_lawLine_3 0 rfl rfl)
theorem dX6_lawLine_72 : decode cX6_lawLine 72 = .ok (.iconst (-1), 1) := dk_2 (dk_at dksX6_lawLine_3 3 rfl rfl)
theorem dX6_lawLine_73 : decode cX6_lawLine 73 = .ok (.if_icmp .ne 26, 3) := dk_160 0 26 (dk_at dksX6_lawLine_3 4 rfl rfl)
theorem dX6_lawLine_76 : decode cX6_lawLine 76 = .ok (.iload_n 3, 1) := dk_29 (dk_at dksX6_lawLine_3 7 rfl rfl)
theorem dX6_lawLine_77 : decode cX6_lawLine 77 = .ok (.ifCond .eq 22, 3) := dk_153 0 22 (dk_at dksX6_lawLine_3 8 rfl rfl)
theorem dX6_lawLine_80 : decode cX6_lawLine 80 = .ok (.aload_n 0, 1) := dk_42 (dk_at dksX6_lawLine_3 11 rfl rfl)
theorem dX6_lawLine_81 : decode cX6_lawLine 81 = .ok (.dup, 1) := dk_89 (dk_at dksX6_lawLine_3 12 rfl rfl)
theorem dX6_lawLine_82 : decode cX6_lawLine 82 = .ok (.getfield 223, 3) := dk_180 0 223 (dk_at dksX6_lawLine_3 13 rfl rfl)
theorem dX6_lawLine_85 : decode cX6_lawLine 85 = .ok (.iload_n 1, 1) := dk_27 (dk_at dksX6_lawLine_3 16 rfl rfl)
theorem dX6_lawLine_86 : decode cX6_lawLine 86 = .ok (.ifCond .eq 7, 3) := dk_153 0 7 (dk_at dksX6_lawLine_3 17 rfl rfl)
theorem dX6_lawLine_89 : decode cX6_lawLine 89 = .ok (.iload_n 2, 1) := dk_28 (dk_at dksX6_lawLine_3 20 rfl rfl)
theorem dX6_lawLine_90 : decode cX6_lawLine 90 = .ok (.goto 5, 3) := dk_167 0 5 (dk_at dksX6_lawLine_3 21 rfl rfl)
theorem dX6_lawLine_93 : decode cX6_lawLine 93 = .ok (.iload_n 2, 1) := dk_28 (dk_at dksX6_lawLine_4 0 rfl rfl)
theorem dX6_lawLine_94 : decode cX6_lawLine 94 = .ok (.ineg, 1) := dk_116 (dk_at dksX6_lawLine_4 1 rfl rfl)
theorem dX6_lawLine_95 : decode cX6_lawLine 95 = .ok (.iadd, 1) := dk_96 (dk_at dksX6_lawLine_4 2 rfl rfl)
theorem dX6_lawLine_96 : decode cX6_lawLine 96 = .ok (.putfield 223, 3) := dk_181 0 223 (dk_at dksX6_lawLine_4 3 rfl rfl)
theorem dX6_lawLine_99 : decode cX6_lawLine 99 = .ok (.return_, 1) := dk_177 (dk_at dksX6_lawLine_4 6 rfl rfl)
abbrev cX6_has : ByteArray := prog_18_method_21_code
def yX6_has : MethodName := ⟨RX6, "has", "(Ljava/lang/String;)Z"⟩
def dkwX6_has_4 : List UInt8 := [4, 172]
abbrev dktX6_has_4 : List UInt8 := dkwX6_has_4 ++ []
def dkwX6_has_3 : List UInt8 := [182, 0, 73, 43, 29, 182, 0, 85, 159, 0, 5, 3, 172, 132, 3, 1, 167, 255, 225, 42, 28, 181, 0, 67]
abbrev dktX6_has_3 : List UInt8 := dkwX6_has_3 ++ dktX6_has_4
def dkwX6_has_2 : List UInt8 := [159, 0, 5, 3, 172, 3, 62, 29, 43, 182, 0, 79, 162, 0, 29, 42, 42, 180, 0, 67, 29, 96]
abbrev dktX6_has_2 : List UInt8 := dkwX6_has_2 ++ dktX6_has_3
def dkwX6_has_1 : List UInt8 := [16, 122, 184, 0, 45, 153, 0, 9, 132, 2, 1, 167, 255, 230, 28, 42, 180, 0, 67, 100, 43, 182, 0, 79]
abbrev dktX6_has_1 : List UInt8 := dkwX6_has_1 ++ dktX6_has_2
def dkwX6_has_0 : List UInt8 := [42, 182, 0, 76, 42, 180, 0, 67, 61, 28, 42, 180, 0, 70, 162, 0, 24, 42, 28, 182, 0, 73, 16, 97]
abbrev dktX6_has_0 : List UInt8 := dkwX6_has_0 ++ dktX6_has_1
theorem dksX6_has_0 : cX6_has.data.toList.drop 0 = dktX6_has_0 := by decide +kernel
theorem dksX6_has_1 : cX6_has.data.toList.drop 24 = dktX6_has_1 := dk_seg dksX6_has_0 24 rfl rfl
theorem dksX6_has_2 : cX6_has.data.toList.drop 48 = dktX6_has_2 := dk_seg dksX6_has_1 24 rfl rfl
theorem dksX6_has_3 : cX6_has.data.toList.drop 70 = dktX6_has_3 := dk_seg dksX6_has_2 22 rfl rfl
theorem dksX6_has_4 : cX6_has.data.toList.drop 94 = dktX6_has_4 := dk_seg dksX6_has_3 24 rfl rfl
theorem dX6_has_0 : decode cX6_has 0 = .ok (.aload_n 0, 1) := dk_42 (dk_at dksX6_has_0 0 rfl rfl)
theorem dX6_has_1 : decode cX6_has 1 = .ok (.invokevirtual 76, 3) := dk_182 0 76 (dk_at dksX6_has_0 1 rfl rfl)
theorem dX6_has_4 : decode cX6_has 4 = .ok (.aload_n 0, 1) := dk_42 (dk_at dksX6_has_0 4 rfl rfl)
theorem dX6_has_5 : decode cX6_has 5 = .ok (.getfield 67, 3) := dk_180 0 67 (dk_at dksX6_has_0 5 rfl rfl)
theorem dX6_has_8 : decode cX6_has 8 = .ok (.istore_n 2, 1) := dk_61 (dk_at dksX6_has_0 8 rfl rfl)
theorem dX6_has_9 : decode cX6_has 9 = .ok (.iload_n 2, 1) := dk_28 (dk_at dksX6_has_0 9 rfl rfl)
theorem dX6_has_10 : decode cX6_has 10 = .ok (.aload_n 0, 1) := dk_42 (dk_at dksX6_has_0 10 rfl rfl)
theorem dX6_has_11 : decode cX6_has 11 = .ok (.getfield 70, 3) := dk_180 0 70 (dk_at dksX6_has_0 11 rfl rfl)
theorem dX6_has_14 : decode cX6_has 14 = .ok (.if_icmp .ge 24, 3) := dk_162 0 24 (dk_at dksX6_has_0 14 rfl rfl)
theorem dX6_has_17 : decode cX6_has 17 = .ok (.aload_n 0, 1) := dk_42 (dk_at dksX6_has_0 17 rfl rfl)
theorem dX6_has_18 : decode cX6_has 18 = .ok (.iload_n 2, 1) := dk_28 (dk_at dksX6_has_0 18 rfl rfl)
theorem dX6_has_19 : decode cX6_has 19 = .ok (.invokevirtual 73, 3) := dk_182 0 73 (dk_at dksX6_has_0 19 rfl rfl)
theorem dX6_has_22 : decode cX6_has 22 = .ok (.bipush 97, 2) := dk_16 97 (dk_at dksX6_has_0 22 rfl rfl)
theorem dX6_has_24 : decode cX6_has 24 = .ok (.bipush 122, 2) := dk_16 122 (dk_at dksX6_has_1 0 rfl rfl)
theorem dX6_has_26 : decode cX6_has 26 = .ok (.invokestatic 45, 3) := dk_184 0 45 (dk_at dksX6_has_1 2 rfl rfl)
theorem dX6_has_29 : decode cX6_has 29 = .ok (.ifCond .eq 9, 3) := dk_153 0 9 (dk_at dksX6_has_1 5 rfl rfl)
theorem dX6_has_32 : decode cX6_has 32 = .ok (.iinc 2 1, 3) := dk_132 2 1 (dk_at dksX6_has_1 8 rfl rfl)
theorem dX6_has_35 : decode cX6_has 35 = .ok (.goto (-26), 3) := dk_167 255 230 (dk_at dksX6_has_1 11 rfl rfl)
theorem dX6_has_38 : decode cX6_has 38 = .ok (.iload_n 2, 1) := dk_28 (dk_at dksX6_has_1 14 rfl rfl)
theorem dX6_has_39 : decode cX6_has 39 = .ok (.aload_n 0, 1) := dk_42 (dk_at dksX6_has_1 15 rfl rfl)
theorem dX6_has_40 : decode cX6_has 40 = .ok (.getfield 67, 3) := dk_180 0 67 (dk_at dksX6_has_1 16 rfl rfl)
theorem dX6_has_43 : decode cX6_has 43 = .ok (.isub, 1) := dk_100 (dk_at dksX6_has_1 19 rfl rfl)
theorem dX6_has_44 : decode cX6_has 44 = .ok (.aload_n 1, 1) := dk_43 (dk_at dksX6_has_1 20 rfl rfl)
theorem dX6_has_45 : decode cX6_has 45 = .ok (.invokevirtual 79, 3) := dk_182 0 79 (dk_at dksX6_has_1 21 rfl rfl)
theorem dX6_has_48 : decode cX6_has 48 = .ok (.if_icmp .eq 5, 3) := dk_159 0 5 (dk_at dksX6_has_2 0 rfl rfl)
theorem dX6_has_51 : decode cX6_has 51 = .ok (.iconst 0, 1) := dk_3 (dk_at dksX6_has_2 3 rfl rfl)
theorem dX6_has_52 : decode cX6_has 52 = .ok (.ireturn, 1) := dk_172 (dk_at dksX6_has_2 4 rfl rfl)
theorem dX6_has_53 : decode cX6_has 53 = .ok (.iconst 0, 1) := dk_3 (dk_at dksX6_has_2 5 rfl rfl)
theorem dX6_has_54 : decode cX6_has 54 = .ok (.istore_n 3, 1) := dk_62 (dk_at dksX6_has_2 6 rfl rfl)
theorem dX6_has_55 : decode cX6_has 55 = .ok (.iload_n 3, 1) := dk_29 (dk_at dksX6_has_2 7 rfl rfl)
theorem dX6_has_56 : decode cX6_has 56 = .ok (.aload_n 1, 1) := dk_43 (dk_at dksX6_has_2 8 rfl rfl)
theorem dX6_has_57 : decode cX6_has 57 = .ok (.invokevirtual 79, 3) := dk_182 0 79 (dk_at dksX6_has_2 9 rfl rfl)
theorem dX6_has_60 : decode cX6_has 60 = .ok (.if_icmp .ge 29, 3) := dk_162 0 29 (dk_at dksX6_has_2 12 rfl rfl)
theorem dX6_has_63 : decode cX6_has 63 = .ok (.aload_n 0, 1) := dk_42 (dk_at dksX6_has_2 15 rfl rfl)
theorem dX6_has_64 : decode cX6_has 64 = .ok (.aload_n 0, 1) := dk_42 (dk_at dksX6_has_2 16 rfl rfl)
theorem dX6_has_65 : decode cX6_has 65 = .ok (.getfield 67, 3) := dk_180 0 67 (dk_at dksX6_has_2 17 rfl rfl)
theorem dX6_has_68 : decode cX6_has 68 = .ok (.iload_n 3, 1) := dk_29 (dk_at dksX6_has_2 20 rfl rfl)
theorem dX6_has_69 : decode cX6_has 69 = .ok (.iadd, 1) := dk_96 (dk_at dksX6_has_2 21 rfl rfl)
theorem dX6_has_70 : decode cX6_has 70 = .ok (.invokevirtual 73, 3) := dk_182 0 73 (dk_at dksX6_has_3 0 rfl rfl)
theorem dX6_has_73 : decode cX6_has 73 = .ok (.aload_n 1, 1) := dk_43 (dk_at dksX6_has_3 3 rfl rfl)
theorem dX6_has_74 : decode cX6_has 74 = .ok (.iload_n 3, 1) := dk_29 (dk_at dksX6_has_3 4 rfl rfl)
theorem dX6_has_75 : decode cX6_has 75 = .ok (.invokevirtual 85, 3) := dk_182 0 85 (dk_at dksX6_has_3 5 rfl rfl)
theorem dX6_has_78 : decode cX6_has 78 = .ok (.if_icmp .eq 5, 3) := dk_159 0 5 (dk_at dksX6_has_3 8 rfl rfl)
theorem dX6_has_81 : decode cX6_has 81 = .ok (.iconst 0, 1) := dk_3 (dk_at dksX6_has_3 11 rfl rfl)
theorem dX6_has_82 : decode cX6_has 82 = .ok (.ireturn, 1) := dk_172 (dk_at dksX6_has_3 12 rfl rfl)
theorem dX6_has_83 : decode cX6_has 83 = .ok (.iinc 3 1, 3) := dk_132 3 1 (dk_at dksX6_has_3 13 rfl rfl)
theorem dX6_has_86 : decode cX6_has 86 = .ok (.goto (-31), 3) := dk_167 255 225 (dk_at dksX6_has_3 16 rfl rfl)
theorem dX6_has_89 : decode cX6_has 89 = .ok (.aload_n 0, 1) := dk_42 (dk_at dksX6_has_3 19 rfl rfl)
theorem dX6_has_90 : decode cX6_has 90 = .ok (.iload_n 2, 1) := dk_28 (dk_at dksX6_has_3 20 rfl rfl)
theorem dX6_has_91 : decode cX6_has 91 = .ok (.putfield 67, 3) := dk_181 0 67 (dk_at dksX6_has_3 21 rfl rfl)
theorem dX6_has_94 : decode cX6_has 94 = .ok (.iconst 1, 1) := dk_4 (dk_at dksX6_has_4 0 rfl rfl)
theorem dX6_has_95 : decode cX6_has 95 = .ok (.ireturn, 1) := dk_172 (dk_at dksX6_has_4 1 rfl rfl)
abbrev cX6_figures : ByteArray := prog_18_method_24_code
def yX6_figures : MethodName := ⟨RX6, "figures", "(II)I"⟩
def dkwX6_figures_5 : List UInt8 := [164, 0, 8, 42, 29, 182, 0, 92, 21, 4, 172]
abbrev dktX6_figures_5 : List UInt8 := dkwX6_figures_5 ++ []
def dkwX6_figures_4 : List UInt8 := [159, 0, 25, 42, 180, 0, 67, 29, 100, 6, 163, 0, 15, 21, 4, 27, 161, 0, 9, 21, 4, 28]
abbrev dktX6_figures_4 : List UInt8 := dkwX6_figures_4 ++ dktX6_figures_5
def dkwX6_figures_3 : List UInt8 := [16, 48, 100, 54, 4, 42, 89, 180, 0, 67, 4, 96, 181, 0, 67, 167, 255, 188, 42, 180, 0, 67, 29]
abbrev dktX6_figures_3 : List UInt8 := dkwX6_figures_3 ++ dktX6_figures_4
def dkwX6_figures_2 : List UInt8 := [42, 180, 0, 67, 29, 100, 6, 163, 0, 35, 16, 10, 21, 4, 104, 42, 42, 180, 0, 67, 182, 0, 73, 96]
abbrev dktX6_figures_2 : List UInt8 := dkwX6_figures_2 ++ dktX6_figures_3
def dkwX6_figures_1 : List UInt8 := [180, 0, 70, 162, 0, 63, 42, 42, 180, 0, 67, 182, 0, 73, 16, 48, 16, 57, 184, 0, 45, 153, 0, 45]
abbrev dktX6_figures_1 : List UInt8 := dkwX6_figures_1 ++ dktX6_figures_2
def dkwX6_figures_0 : List UInt8 := [42, 180, 0, 25, 2, 159, 0, 5, 3, 172, 42, 182, 0, 89, 62, 3, 54, 4, 42, 180, 0, 67, 42]
abbrev dktX6_figures_0 : List UInt8 := dkwX6_figures_0 ++ dktX6_figures_1
theorem dksX6_figures_0 : cX6_figures.data.toList.drop 0 = dktX6_figures_0 := by decide +kernel
theorem dksX6_figures_1 : cX6_figures.data.toList.drop 23 = dktX6_figures_1 := dk_seg dksX6_figures_0 23 rfl rfl
theorem dksX6_figures_2 : cX6_figures.data.toList.drop 47 = dktX6_figures_2 := dk_seg dksX6_figures_1 24 rfl rfl
theorem dksX6_figures_3 : cX6_figures.data.toList.drop 71 = dktX6_figures_3 := dk_seg dksX6_figures_2 24 rfl rfl
theorem dksX6_figures_4 : cX6_figures.data.toList.drop 94 = dktX6_figures_4 := dk_seg dksX6_figures_3 23 rfl rfl
theorem dksX6_figures_5 : cX6_figures.data.toList.drop 116 = dktX6_figures_5 := dk_seg dksX6_figures_4 22 rfl rfl
theorem dX6_figures_0 : decode cX6_figures 0 = .ok (.aload_n 0, 1) := dk_42 (dk_at dksX6_figures_0 0 rfl rfl)
theorem dX6_figures_1 : decode cX6_figures 1 = .ok (.getfield 25, 3) := dk_180 0 25 (dk_at dksX6_figures_0 1 rfl rfl)
theorem dX6_figures_4 : decode cX6_figures 4 = .ok (.iconst (-1), 1) := dk_2 (dk_at dksX6_figures_0 4 rfl rfl)
theorem dX6_figures_5 : decode cX6_figures 5 = .ok (.if_icmp .eq 5, 3) := dk_159 0 5 (dk_at dksX6_figures_0 5 rfl rfl)
theorem dX6_figures_8 : decode cX6_figures 8 = .ok (.iconst 0, 1) := dk_3 (dk_at dksX6_figures_0 8 rfl rfl)
theorem dX6_figures_9 : decode cX6_figures 9 = .ok (.ireturn, 1) := dk_172 (dk_at dksX6_figures_0 9 rfl rfl)
theorem dX6_figures_10 : decode cX6_figures 10 = .ok (.aload_n 0, 1) := dk_42 (dk_at dksX6_figures_0 10 rfl rfl)
theorem dX6_figures_11 : decode cX6_figures 11 = .ok (.invokevirtual 89, 3) := dk_182 0 89 (dk_at dksX6_figures_0 11 rfl rfl)
theorem dX6_figures_14 : decode cX6_figures 14 = .ok (.istore_n 3, 1) := dk_62 (dk_at dksX6_figures_0 14 rfl rfl)
theorem dX6_figures_15 : decode cX6_figures 15 = .ok (.iconst 0, 1) := dk_3 (dk_at dksX6_figures_0 15 rfl rfl)
theorem dX6_figures_16 : decode cX6_figures 16 = .ok (.istore 4, 2) := dk_54 4 (dk_at dksX6_figures_0 16 rfl rfl)
theorem dX6_figures_18 : decode cX6_figures 18 = .ok (.aload_n 0, 1) := dk_42 (dk_at dksX6_figures_0 18 rfl rfl)
theorem dX6_figures_19 : decode cX6_figures 19 = .ok (.getfield 67, 3) := dk_180 0 67 (dk_at dksX6_figures_0 19 rfl rfl)
theorem dX6_figures_22 : decode cX6_figures 22 = .ok (.aload_n 0, 1) := dk_42 (dk_at dksX6_figures_0 22 rfl rfl)
theorem dX6_figures_23 : decode cX6_figures 23 = .ok (.getfield 70, 3) := dk_180 0 70 (dk_at dksX6_figures_1 0 rfl rfl)
theorem dX6_figures_26 : decode cX6_figures 26 = .ok (.if_icmp .ge 63, 3) := dk_162 0 63 (dk_at dksX6_figures_1 3 rfl rfl)
theorem dX6_figures_29 : decode cX6_figures 29 = .ok (.aload_n 0, 1) := dk_42 (dk_at dksX6_figures_1 6 rfl rfl)
theorem dX6_figures_30 : decode cX6_figures 30 = .ok (.aload_n 0, 1) := dk_42 (dk_at dksX6_figures_1 7 rfl rfl)
theorem dX6_figures_31 : decode cX6_figures 31 = .ok (.getfield 67, 3) := dk_180 0 67 (dk_at dksX6_figures_1 8 rfl rfl)
theorem dX6_figures_34 : decode cX6_figures 34 = .ok (.invokevirtual 73, 3) := dk_182 0 73 (dk_at dksX6_figures_1 11 rfl rfl)
theorem dX6_figures_37 : decode cX6_figures 37 = .ok (.bipush 48, 2) := dk_16 48 (dk_at dksX6_figures_1 14 rfl rfl)
theorem dX6_figures_39 : decode cX6_figures 39 = .ok (.bipush 57, 2) := dk_16 57 (dk_at dksX6_figures_1 16 rfl rfl)
theorem dX6_figures_41 : decode cX6_figures 41 = .ok (.invokestatic 45, 3) := dk_184 0 45 (dk_at dksX6_figures_1 18 rfl rfl)
theorem dX6_figures_44 : decode cX6_figures 44 = .ok (.ifCond .eq 45, 3) := dk_153 0 45 (dk_at dksX6_figures_1 21 rfl rfl)
theorem dX6_figures_47 : decode cX6_figures 47 = .ok (.aload_n 0, 1) := dk_42 (dk_at dksX6_figures_2 0 rfl rfl)
theorem dX6_figures_48 : decode cX6_figures 48 = .ok (.getfield 67, 3) := dk_180 0 67 (dk_at dksX6_figures_2 1 rfl rfl)
theorem dX6_figures_51 : decode cX6_figures 51 = .ok (.iload_n 3, 1) := dk_29 (dk_at dksX6_figures_2 4 rfl rfl)
theorem dX6_figures_52 : decode cX6_figures 52 = .ok (.isub, 1) := dk_100 (dk_at dksX6_figures_2 5 rfl rfl)
theorem dX6_figures_53 : decode cX6_figures 53 = .ok (.iconst 3, 1) := dk_6 (dk_at dksX6_figures_2 6 rfl rfl)
theorem dX6_figures_54 : decode cX6_figures 54 = .ok (.if_icmp .gt 35, 3) := dk_163 0 35 (dk_at dksX6_figures_2 7 rfl rfl)
theorem dX6_figures_57 : decode cX6_figures 57 = .ok (.bipush 10, 2) := dk_16 10 (dk_at dksX6_figures_2 10 rfl rfl)
theorem dX6_figures_59 : decode cX6_figures 59 = .ok (.iload 4, 2) := dk_21 4 (dk_at dksX6_figures_2 12 rfl rfl)
theorem dX6_figures_61 : decode cX6_figures 61 = .ok (.imul, 1) := dk_104 (dk_at dksX6_figures_2 14 rfl rfl)
theorem dX6_figures_62 : decode cX6_figures 62 = .ok (.aload_n 0, 1) := dk_42 (dk_at dksX6_figures_2 15 rfl rfl)
theorem dX6_figures_63 : decode cX6_figures 63 = .ok (.aload_n 0, 1) := dk_42 (dk_at dksX6_figures_2 16 rfl rfl)
theorem dX6_figures_64 : decode cX6_figures 64 = .ok (.getfield 67, 3) := dk_180 0 67 (dk_at dksX6_figures_2 17 rfl rfl)
theorem dX6_figures_67 : decode cX6_figures 67 = .ok (.invokevirtual 73, 3) := dk_182 0 73 (dk_at dksX6_figures_2 20 rfl rfl)
theorem dX6_figures_70 : decode cX6_figures 70 = .ok (.iadd, 1) := dk_96 (dk_at dksX6_figures_2 23 rfl rfl)
theorem dX6_figures_71 : decode cX6_figures 71 = .ok (.bipush 48, 2) := dk_16 48 (dk_at dksX6_figures_3 0 rfl rfl)
theorem dX6_figures_73 : decode cX6_figures 73 = .ok (.isub, 1) := dk_100 (dk_at dksX6_figures_3 2 rfl rfl)
theorem dX6_figures_74 : decode cX6_figures 74 = .ok (.istore 4, 2) := dk_54 4 (dk_at dksX6_figures_3 3 rfl rfl)
theorem dX6_figures_76 : decode cX6_figures 76 = .ok (.aload_n 0, 1) := dk_42 (dk_at dksX6_figures_3 5 rfl rfl)
theorem dX6_figures_77 : decode cX6_figures 77 = .ok (.dup, 1) := dk_89 (dk_at dksX6_figures_3 6 rfl rfl)
theorem dX6_figures_78 : decode cX6_figures 78 = .ok (.getfield 67, 3) := dk_180 0 67 (dk_at dksX6_figures_3 7 rfl rfl)
theorem dX6_figures_81 : decode cX6_figures 81 = .ok (.iconst 1, 1) := dk_4 (dk_at dksX6_figures_3 10 rfl rfl)
theorem dX6_figures_82 : decode cX6_figures 82 = .ok (.iadd, 1) := dk_96 (dk_at dksX6_figures_3 11 rfl rfl)
theorem dX6_figures_83 : decode cX6_figures 83 = .ok (.putfield 67, 3) := dk_181 0 67 (dk_at dksX6_figures_3 12 rfl rfl)
theorem dX6_figures_86 : decode cX6_figures 86 = .ok (.goto (-68), 3) := dk_167 255 188 (dk_at dksX6_figures_3 15 rfl rfl)
theorem dX6_figures_89 : decode cX6_figures 89 = .ok (.aload_n 0, 1) := dk_42 (dk_at dksX6_figures_3 18 rfl rfl)
theorem dX6_figures_90 : decode cX6_figures 90 = .ok (.getfield 67, 3) := dk_180 0 67 (dk_at dksX6_figures_3 19 rfl rfl)
theorem dX6_figures_93 : decode cX6_figures 93 = .ok (.iload_n 3, 1) := dk_29 (dk_at dksX6_figures_3 22 rfl rfl)
theorem dX6_figures_94 : decode cX6_figures 94 = .ok (.if_icmp .eq 25, 3) := dk_159 0 25 (dk_at dksX6_figures_4 0 rfl rfl)
theorem dX6_figures_97 : decode cX6_figures 97 = .ok (.aload_n 0, 1) := dk_42 (dk_at dksX6_figures_4 3 rfl rfl)
theorem dX6_figures_98 : decode cX6_figures 98 = .ok (.getfield 67, 3) := dk_180 0 67 (dk_at dksX6_figures_4 4 rfl rfl)
theorem dX6_figures_101 : decode cX6_figures 101 = .ok (.iload_n 3, 1) := dk_29 (dk_at dksX6_figures_4 7 rfl rfl)
theorem dX6_figures_102 : decode cX6_figures 102 = .ok (.isub, 1) := dk_100 (dk_at dksX6_figures_4 8 rfl rfl)
theorem dX6_figures_103 : decode cX6_figures 103 = .ok (.iconst 3, 1) := dk_6 (dk_at dksX6_figures_4 9 rfl rfl)
theorem dX6_figures_104 : decode cX6_figures 104 = .ok (.if_icmp .gt 15, 3) := dk_163 0 15 (dk_at dksX6_figures_4 10 rfl rfl)
theorem dX6_figures_107 : decode cX6_figures 107 = .ok (.iload 4, 2) := dk_21 4 (dk_at dksX6_figures_4 13 rfl rfl)
theorem dX6_figures_109 : decode cX6_figures 109 = .ok (.iload_n 1, 1) := dk_27 (dk_at dksX6_figures_4 15 rfl rfl)
theorem dX6_figures_110 : decode cX6_figures 110 = .ok (.if_icmp .lt 9, 3) := dk_161 0 9 (dk_at dksX6_figures_4 16 rfl rfl)
theorem dX6_figures_113 : decode cX6_figures 113 = .ok (.iload 4, 2) := dk_21 4 (dk_at dksX6_figures_4 19 rfl rfl)
theorem dX6_figures_115 : decode cX6_figures 115 = .ok (.iload_n 2, 1) := dk_28 (dk_at dksX6_figures_4 21 rfl rfl)
theorem dX6_figures_116 : decode cX6_figures 116 = .ok (.if_icmp .le 8, 3) := dk_164 0 8 (dk_at dksX6_figures_5 0 rfl rfl)
theorem dX6_figures_119 : decode cX6_figures 119 = .ok (.aload_n 0, 1) := dk_42 (dk_at dksX6_figures_5 3 rfl rfl)
theorem dX6_figures_120 : decode cX6_figures 120 = .ok (.iload_n 3, 1) := dk_29 (dk_at dksX6_figures_5 4 rfl rfl)
theorem dX6_figures_121 : decode cX6_figures 121 = .ok (.invokevirtual 92, 3) := dk_182 0 92 (dk_at dksX6_figures_5 5 rfl rfl)
theorem dX6_figures_124 : decode cX6_figures 124 = .ok (.iload 4, 2) := dk_21 4 (dk_at dksX6_figures_5 8 rfl rfl)
theorem dX6_figures_126 : decode cX6_figures 126 = .ok (.ireturn, 1) := dk_172 (dk_at dksX6_figures_5 10 rfl rfl)
abbrev cX6_place : ByteArray := prog_18_method_23_code
def yX6_place : MethodName := ⟨RX6, "place", "()I"⟩
def dkwX6_place_0 : List UInt8 := [42, 182, 0, 76, 42, 180, 0, 67, 172]
abbrev dktX6_place_0 : List UInt8 := dkwX6_place_0 ++ []
theorem dksX6_place_0 : cX6_place.data.toList.drop 0 = dktX6_place_0 := by decide +kernel
theorem dX6_place_0 : decode cX6_place 0 = .ok (.aload_n 0, 1) := dk_42 (dk_at dksX6_place_0 0 rfl rfl)
theorem dX6_place_1 : decode cX6_place 1 = .ok (.invokevirtual 76, 3) := dk_182 0 76 (dk_at dksX6_place_0 1 rfl rfl)
theorem dX6_place_4 : decode cX6_place 4 = .ok (.aload_n 0, 1) := dk_42 (dk_at dksX6_place_0 4 rfl rfl)
theorem dX6_place_5 : decode cX6_place 5 = .ok (.getfield 67, 3) := dk_180 0 67 (dk_at dksX6_place_0 5 rfl rfl)
theorem dX6_place_8 : decode cX6_place 8 = .ok (.ireturn, 1) := dk_172 (dk_at dksX6_place_0 8 rfl rfl)
abbrev cX6_some : ByteArray := prog_18_method_40_code
def yX6_some : MethodName := ⟨RX6, "some", "()Z"⟩
def dkwX6_some_1 : List UInt8 := [182, 0, 214, 61, 27, 154, 0, 7, 28, 153, 0, 7, 4, 167, 0, 4, 3, 60, 167, 255, 220, 27, 172]
abbrev dktX6_some_1 : List UInt8 := dkwX6_some_1 ++ []
def dkwX6_some_0 : List UInt8 := [42, 182, 0, 214, 60, 42, 180, 0, 25, 2, 160, 0, 34, 42, 18, 217, 182, 0, 96, 153, 0, 25, 42]
abbrev dktX6_some_0 : List UInt8 := dkwX6_some_0 ++ dktX6_some_1
theorem dksX6_some_0 : cX6_some.data.toList.drop 0 = dktX6_some_0 := by decide +kernel
theorem dksX6_some_1 : cX6_some.data.toList.drop 23 = dktX6_some_1 := dk_seg dksX6_some_0 23 rfl rfl
theorem dX6_some_0 : decode cX6_some 0 = .ok (.aload_n 0, 1) := dk_42 (dk_at dksX6_some_0 0 rfl rfl)
theorem dX6_some_1 : decode cX6_some 1 = .ok (.invokevirtual 214, 3) := dk_182 0 214 (dk_at dksX6_some_0 1 rfl rfl)
theorem dX6_some_4 : decode cX6_some 4 = .ok (.istore_n 1, 1) := dk_60 (dk_at dksX6_some_0 4 rfl rfl)
theorem dX6_some_5 : decode cX6_some 5 = .ok (.aload_n 0, 1) := dk_42 (dk_at dksX6_some_0 5 rfl rfl)
theorem dX6_some_6 : decode cX6_some 6 = .ok (.getfield 25, 3) := dk_180 0 25 (dk_at dksX6_some_0 6 rfl rfl)
theorem dX6_some_9 : decode cX6_some 9 = .ok (.iconst (-1), 1) := dk_2 (dk_at dksX6_some_0 9 rfl rfl)
theorem dX6_some_10 : decode cX6_some 10 = .ok (.if_icmp .ne 34, 3) := dk_160 0 34 (dk_at dksX6_some_0 10 rfl rfl)
theorem dX6_some_13 : decode cX6_some 13 = .ok (.aload_n 0, 1) := dk_42 (dk_at dksX6_some_0 13 rfl rfl)
theorem dX6_some_14 : decode cX6_some 14 = .ok (.ldc 217, 2) := dk_18 217 (dk_at dksX6_some_0 14 rfl rfl)
theorem dX6_some_16 : decode cX6_some 16 = .ok (.invokevirtual 96, 3) := dk_182 0 96 (dk_at dksX6_some_0 16 rfl rfl)
theorem dX6_some_19 : decode cX6_some 19 = .ok (.ifCond .eq 25, 3) := dk_153 0 25 (dk_at dksX6_some_0 19 rfl rfl)
theorem dX6_some_22 : decode cX6_some 22 = .ok (.aload_n 0, 1) := dk_42 (dk_at dksX6_some_0 22 rfl rfl)
theorem dX6_some_23 : decode cX6_some 23 = .ok (.invokevirtual 214, 3) := dk_182 0 214 (dk_at dksX6_some_1 0 rfl rfl)
theorem dX6_some_26 : decode cX6_some 26 = .ok (.istore_n 2, 1) := dk_61 (dk_at dksX6_some_1 3 rfl rfl)
theorem dX6_some_27 : decode cX6_some 27 = .ok (.iload_n 1, 1) := dk_27 (dk_at dksX6_some_1 4 rfl rfl)
theorem dX6_some_28 : decode cX6_some 28 = .ok (.ifCond .ne 7, 3) := dk_154 0 7 (dk_at dksX6_some_1 5 rfl rfl)
theorem dX6_some_31 : decode cX6_some 31 = .ok (.iload_n 2, 1) := dk_28 (dk_at dksX6_some_1 8 rfl rfl)
theorem dX6_some_32 : decode cX6_some 32 = .ok (.ifCond .eq 7, 3) := dk_153 0 7 (dk_at dksX6_some_1 9 rfl rfl)
theorem dX6_some_35 : decode cX6_some 35 = .ok (.iconst 1, 1) := dk_4 (dk_at dksX6_some_1 12 rfl rfl)
theorem dX6_some_36 : decode cX6_some 36 = .ok (.goto 4, 3) := dk_167 0 4 (dk_at dksX6_some_1 13 rfl rfl)
theorem dX6_some_39 : decode cX6_some 39 = .ok (.iconst 0, 1) := dk_3 (dk_at dksX6_some_1 16 rfl rfl)
theorem dX6_some_40 : decode cX6_some 40 = .ok (.istore_n 1, 1) := dk_60 (dk_at dksX6_some_1 17 rfl rfl)
theorem dX6_some_41 : decode cX6_some 41 = .ok (.goto (-36), 3) := dk_167 255 220 (dk_at dksX6_some_1 18 rfl rfl)
theorem dX6_some_44 : decode cX6_some 44 = .ok (.iload_n 1, 1) := dk_27 (dk_at dksX6_some_1 21 rfl rfl)
theorem dX6_some_45 : decode cX6_some 45 = .ok (.ireturn, 1) := dk_172 (dk_at dksX6_some_1 22 rfl rfl)
abbrev cX6_every : ByteArray := prog_18_method_39_code
def yX6_every : MethodName := ⟨RX6, "every", "()Z"⟩
def dkwX6_every_1 : List UInt8 := [182, 0, 206, 61, 27, 153, 0, 11, 28, 153, 0, 7, 4, 167, 0, 4, 3, 60, 167, 255, 220, 27, 172]
abbrev dktX6_every_1 : List UInt8 := dkwX6_every_1 ++ []
def dkwX6_every_0 : List UInt8 := [42, 182, 0, 206, 60, 42, 180, 0, 25, 2, 160, 0, 34, 42, 18, 212, 182, 0, 96, 153, 0, 25, 42]
abbrev dktX6_every_0 : List UInt8 := dkwX6_every_0 ++ dktX6_every_1
theorem dksX6_every_0 : cX6_every.data.toList.drop 0 = dktX6_every_0 := by decide +kernel
theorem dksX6_every_1 : cX6_every.data.toList.drop 23 = dktX6_every_1 := dk_seg dksX6_every_0 23 rfl rfl
theorem dX6_every_0 : decode cX6_every 0 = .ok (.aload_n 0, 1) := dk_42 (dk_at dksX6_every_0 0 rfl rfl)
theorem dX6_every_1 : decode cX6_every 1 = .ok (.invokevirtual 206, 3) := dk_182 0 206 (dk_at dksX6_every_0 1 rfl rfl)
theorem dX6_every_4 : decode cX6_every 4 = .ok (.istore_n 1, 1) := dk_60 (dk_at dksX6_every_0 4 rfl rfl)
theorem dX6_every_5 : decode cX6_every 5 = .ok (.aload_n 0, 1) := dk_42 (dk_at dksX6_every_0 5 rfl rfl)
theorem dX6_every_6 : decode cX6_every 6 = .ok (.getfield 25, 3) := dk_180 0 25 (dk_at dksX6_every_0 6 rfl rfl)
theorem dX6_every_9 : decode cX6_every 9 = .ok (.iconst (-1), 1) := dk_2 (dk_at dksX6_every_0 9 rfl rfl)
theorem dX6_every_10 : decode cX6_every 10 = .ok (.if_icmp .ne 34, 3) := dk_160 0 34 (dk_at dksX6_every_0 10 rfl rfl)
theorem dX6_every_13 : decode cX6_every 13 = .ok (.aload_n 0, 1) := dk_42 (dk_at dksX6_every_0 13 rfl rfl)
theorem dX6_every_14 : decode cX6_every 14 = .ok (.ldc 212, 2) := dk_18 212 (dk_at dksX6_every_0 14 rfl rfl)
theorem dX6_every_16 : decode cX6_every 16 = .ok (.invokevirtual 96, 3) := dk_182 0 96 (dk_at dksX6_every_0 16 rfl rfl)
theorem dX6_every_19 : decode cX6_every 19 = .ok (.ifCond .eq 25, 3) := dk_153 0 25 (dk_at dksX6_every_0 19 rfl rfl)
theorem dX6_every_22 : decode cX6_every 22 = .ok (.aload_n 0, 1) := dk_42 (dk_at dksX6_every_0 22 rfl rfl)
theorem dX6_every_23 : decode cX6_every 23 = .ok (.invokevirtual 206, 3) := dk_182 0 206 (dk_at dksX6_every_1 0 rfl rfl)
theorem dX6_every_26 : decode cX6_every 26 = .ok (.istore_n 2, 1) := dk_61 (dk_at dksX6_every_1 3 rfl rfl)
theorem dX6_every_27 : decode cX6_every 27 = .ok (.iload_n 1, 1) := dk_27 (dk_at dksX6_every_1 4 rfl rfl)
theorem dX6_every_28 : decode cX6_every 28 = .ok (.ifCond .eq 11, 3) := dk_153 0 11 (dk_at dksX6_every_1 5 rfl rfl)
theorem dX6_every_31 : decode cX6_every 31 = .ok (.iload_n 2, 1) := dk_28 (dk_at dksX6_every_1 8 rfl rfl)
theorem dX6_every_32 : decode cX6_every 32 = .ok (.ifCond .eq 7, 3) := dk_153 0 7 (dk_at dksX6_every_1 9 rfl rfl)
theorem dX6_every_35 : decode cX6_every 35 = .ok (.iconst 1, 1) := dk_4 (dk_at dksX6_every_1 12 rfl rfl)
theorem dX6_every_36 : decode cX6_every 36 = .ok (.goto 4, 3) := dk_167 0 4 (dk_at dksX6_every_1 13 rfl rfl)
theorem dX6_every_39 : decode cX6_every 39 = .ok (.iconst 0, 1) := dk_3 (dk_at dksX6_every_1 16 rfl rfl)
theorem dX6_every_40 : decode cX6_every 40 = .ok (.istore_n 1, 1) := dk_60 (dk_at dksX6_every_1 17 rfl rfl)
theorem dX6_every_41 : decode cX6_every 41 = .ok (.goto (-36), 3) := dk_167 255 220 (dk_at dksX6_every_1 18 rfl rfl)
theorem dX6_every_44 : decode cX6_every 44 = .ok (.iload_n 1, 1) := dk_27 (dk_at dksX6_every_1 21 rfl rfl)
theorem dX6_every_45 : decode cX6_every 45 = .ok (.ireturn, 1) := dk_172 (dk_at dksX6_every_1 22 rfl rfl)
abbrev cX6_atom : ByteArray := prog_18_method_38_code
def yX6_atom : MethodName := ⟨RX6, "atom", "()Z"⟩
def dkwX6_atom_6 : List UInt8 := [180, 0, 146, 4, 100, 181, 0, 146, 29, 172]
abbrev dktX6_atom_6 : List UInt8 := dkwX6_atom_6 ++ []
def dkwX6_atom_5 : List UInt8 := [154, 0, 11, 42, 42, 180, 0, 67, 182, 0, 92, 42, 89, 180, 0, 67, 4, 96, 181, 0, 67, 42, 89]
abbrev dktX6_atom_5 : List UInt8 := dkwX6_atom_5 ++ dktX6_atom_6
def dkwX6_atom_4 : List UInt8 := [4, 96, 181, 0, 67, 42, 182, 0, 209, 62, 42, 180, 0, 25, 2, 160, 0, 20, 42, 16, 41, 182, 0, 155]
abbrev dktX6_atom_4 : List UInt8 := dkwX6_atom_4 ++ dktX6_atom_5
def dkwX6_atom_3 : List UInt8 := [153, 0, 19, 42, 182, 0, 206, 154, 0, 7, 4, 167, 0, 4, 3, 62, 167, 0, 53, 42, 89, 180, 0, 67]
abbrev dktX6_atom_3 : List UInt8 := dkwX6_atom_3 ++ dktX6_atom_4
def dkwX6_atom_2 : List UInt8 := [160, 0, 10, 42, 27, 182, 0, 92, 3, 172, 42, 89, 180, 0, 146, 4, 96, 181, 0, 146, 3, 62, 28]
abbrev dktX6_atom_2 : List UInt8 := dkwX6_atom_2 ++ dktX6_atom_3
def dkwX6_atom_1 : List UInt8 := [154, 0, 17, 42, 16, 40, 182, 0, 155, 154, 0, 8, 42, 182, 0, 202, 172, 42, 180, 0, 146, 16, 6]
abbrev dktX6_atom_1 : List UInt8 := dkwX6_atom_1 ++ dktX6_atom_2
def dkwX6_atom_0 : List UInt8 := [42, 180, 0, 25, 2, 159, 0, 5, 3, 172, 42, 182, 0, 89, 60, 42, 18, 200, 182, 0, 96, 61, 28]
abbrev dktX6_atom_0 : List UInt8 := dkwX6_atom_0 ++ dktX6_atom_1
theorem dksX6_atom_0 : cX6_atom.data.toList.drop 0 = dktX6_atom_0 := by decide +kernel
theorem dksX6_atom_1 : cX6_atom.data.toList.drop 23 = dktX6_atom_1 := dk_seg dksX6_atom_0 23 rfl rfl
theorem dksX6_atom_2 : cX6_atom.data.toList.drop 46 = dktX6_atom_2 := dk_seg dksX6_atom_1 23 rfl rfl
theorem dksX6_atom_3 : cX6_atom.data.toList.drop 69 = dktX6_atom_3 := dk_seg dksX6_atom_2 23 rfl rfl
theorem dksX6_atom_4 : cX6_atom.data.toList.drop 93 = dktX6_atom_4 := dk_seg dksX6_atom_3 24 rfl rfl
theorem dksX6_atom_5 : cX6_atom.data.toList.drop 117 = dktX6_atom_5 := dk_seg dksX6_atom_4 24 rfl rfl
theorem dksX6_atom_6 : cX6_atom.data.toList.drop 140 = dktX6_atom_6 := dk_seg dksX6_atom_5 23 rfl rfl
theorem dX6_atom_0 : decode cX6_atom 0 = .ok (.aload_n 0, 1) := dk_42 (dk_at dksX6_atom_0 0 rfl rfl)
theorem dX6_atom_1 : decode cX6_atom 1 = .ok (.getfield 25, 3) := dk_180 0 25 (dk_at dksX6_atom_0 1 rfl rfl)
theorem dX6_atom_4 : decode cX6_atom 4 = .ok (.iconst (-1), 1) := dk_2 (dk_at dksX6_atom_0 4 rfl rfl)
theorem dX6_atom_5 : decode cX6_atom 5 = .ok (.if_icmp .eq 5, 3) := dk_159 0 5 (dk_at dksX6_atom_0 5 rfl rfl)
theorem dX6_atom_8 : decode cX6_atom 8 = .ok (.iconst 0, 1) := dk_3 (dk_at dksX6_atom_0 8 rfl rfl)
theorem dX6_atom_9 : decode cX6_atom 9 = .ok (.ireturn, 1) := dk_172 (dk_at dksX6_atom_0 9 rfl rfl)
theorem dX6_atom_10 : decode cX6_atom 10 = .ok (.aload_n 0, 1) := dk_42 (dk_at dksX6_atom_0 10 rfl rfl)
theorem dX6_atom_11 : decode cX6_atom 11 = .ok (.invokevirtual 89, 3) := dk_182 0 89 (dk_at dksX6_atom_0 11 rfl rfl)
theorem dX6_atom_14 : decode cX6_atom 14 = .ok (.istore_n 1, 1) := dk_60 (dk_at dksX6_atom_0 14 rfl rfl)
theorem dX6_atom_15 : decode cX6_atom 15 = .ok (.aload_n 0, 1) := dk_42 (dk_at dksX6_atom_0 15 rfl rfl)
theorem dX6_atom_16 : decode cX6_atom 16 = .ok (.ldc 200, 2) := dk_18 200 (dk_at dksX6_atom_0 16 rfl rfl)
theorem dX6_atom_18 : decode cX6_atom 18 = .ok (.invokevirtual 96, 3) := dk_182 0 96 (dk_at dksX6_atom_0 18 rfl rfl)
theorem dX6_atom_21 : decode cX6_atom 21 = .ok (.istore_n 2, 1) := dk_61 (dk_at dksX6_atom_0 21 rfl rfl)
theorem dX6_atom_22 : decode cX6_atom 22 = .ok (.iload_n 2, 1) := dk_28 (dk_at dksX6_atom_0 22 rfl rfl)
theorem dX6_atom_23 : decode cX6_atom 23 = .ok (.ifCond .ne 17, 3) := dk_154 0 17 (dk_at dksX6_atom_1 0 rfl rfl)
theorem dX6_atom_26 : decode cX6_atom 26 = .ok (.aload_n 0, 1) := dk_42 (dk_at dksX6_atom_1 3 rfl rfl)
theorem dX6_atom_27 : decode cX6_atom 27 = .ok (.bipush 40, 2) := dk_16 40 (dk_at dksX6_atom_1 4 rfl rfl)
theorem dX6_atom_29 : decode cX6_atom 29 = .ok (.invokevirtual 155, 3) := dk_182 0 155 (dk_at dksX6_atom_1 6 rfl rfl)
theorem dX6_atom_32 : decode cX6_atom 32 = .ok (.ifCond .ne 8, 3) := dk_154 0 8 (dk_at dksX6_atom_1 9 rfl rfl)
theorem dX6_atom_35 : decode cX6_atom 35 = .ok (.aload_n 0, 1) := dk_42 (dk_at dksX6_atom_1 12 rfl rfl)
theorem dX6_atom_36 : decode cX6_atom 36 = .ok (.invokevirtual 202, 3) := dk_182 0 202 (dk_at dksX6_atom_1 13 rfl rfl)
theorem dX6_atom_39 : decode cX6_atom 39 = .ok (.ireturn, 1) := dk_172 (dk_at dksX6_atom_1 16 rfl rfl)
theorem dX6_atom_40 : decode cX6_atom 40 = .ok (.aload_n 0, 1) := dk_42 (dk_at dksX6_atom_1 17 rfl rfl)
theorem dX6_atom_41 : decode cX6_atom 41 = .ok (.getfield 146, 3) := dk_180 0 146 (dk_at dksX6_atom_1 18 rfl rfl)
theorem dX6_atom_44 : decode cX6_atom 44 = .ok (.bipush 6, 2) := dk_16 6 (dk_at dksX6_atom_1 21 rfl rfl)
theorem dX6_atom_46 : decode cX6_atom 46 = .ok (.if_icmp .ne 10, 3) := dk_160 0 10 (dk_at dksX6_atom_2 0 rfl rfl)
theorem dX6_atom_49 : decode cX6_atom 49 = .ok (.aload_n 0, 1) := dk_42 (dk_at dksX6_atom_2 3 rfl rfl)
theorem dX6_atom_50 : decode cX6_atom 50 = .ok (.iload_n 1, 1) := dk_27 (dk_at dksX6_atom_2 4 rfl rfl)
theorem dX6_atom_51 : decode cX6_atom 51 = .ok (.invokevirtual 92, 3) := dk_182 0 92 (dk_at dksX6_atom_2 5 rfl rfl)
theorem dX6_atom_54 : decode cX6_atom 54 = .ok (.iconst 0, 1) := dk_3 (dk_at dksX6_atom_2 8 rfl rfl)
theorem dX6_atom_55 : decode cX6_atom 55 = .ok (.ireturn, 1) := dk_172 (dk_at dksX6_atom_2 9 rfl rfl)
theorem dX6_atom_56 : decode cX6_atom 56 = .ok (.aload_n 0, 1) := dk_42 (dk_at dksX6_atom_2 10 rfl rfl)
theorem dX6_atom_57 : decode cX6_atom 57 = .ok (.dup, 1) := dk_89 (dk_at dksX6_atom_2 11 rfl rfl)
theorem dX6_atom_58 : decode cX6_atom 58 = .ok (.getfield 146, 3) := dk_180 0 146 (dk_at dksX6_atom_2 12 rfl rfl)
theorem dX6_atom_61 : decode cX6_atom 61 = .ok (.iconst 1, 1) := dk_4 (dk_at dksX6_atom_2 15 rfl rfl)
theorem dX6_atom_62 : decode cX6_atom 62 = .ok (.iadd, 1) := dk_96 (dk_at dksX6_atom_2 16 rfl rfl)
theorem dX6_atom_63 : decode cX6_atom 63 = .ok (.putfield 146, 3) := dk_181 0 146 (dk_at dksX6_atom_2 17 rfl rfl)
theorem dX6_atom_66 : decode cX6_atom 66 = .ok (.iconst 0, 1) := dk_3 (dk_at dksX6_atom_2 20 rfl rfl)
theorem dX6_atom_67 : decode cX6_atom 67 = .ok (.istore_n 3, 1) := dk_62 (dk_at dksX6_atom_2 21 rfl rfl)
theorem dX6_atom_68 : decode cX6_atom 68 = .ok (.iload_n 2, 1) := dk_28 (dk_at dksX6_atom_2 22 rfl rfl)
theorem dX6_atom_69 : decode cX6_atom 69 = .ok (.ifCond .eq 19, 3) := dk_153 0 19 (dk_at dksX6_atom_3 0 rfl rfl)
theorem dX6_atom_72 : decode cX6_atom 72 = .ok (.aload_n 0, 1) := dk_42 (dk_at dksX6_atom_3 3 rfl rfl)
theorem dX6_atom_73 : decode cX6_atom 73 = .ok (.invokevirtual 206, 3) := dk_182 0 206 (dk_at dksX6_atom_3 4 rfl rfl)
theorem dX6_atom_76 : decode cX6_atom 76 = .ok (.ifCond .ne 7, 3) := dk_154 0 7 (dk_at dksX6_atom_3 7 rfl rfl)
theorem dX6_atom_79 : decode cX6_atom 79 = .ok (.iconst 1, 1) := dk_4 (dk_at dksX6_atom_3 10 rfl rfl)
theorem dX6_atom_80 : decode cX6_atom 80 = .ok (.goto 4, 3) := dk_167 0 4 (dk_at dksX6_atom_3 11 rfl rfl)
theorem dX6_atom_83 : decode cX6_atom 83 = .ok (.iconst 0, 1) := dk_3 (dk_at dksX6_atom_3 14 rfl rfl)
theorem dX6_atom_84 : decode cX6_atom 84 = .ok (.istore_n 3, 1) := dk_62 (dk_at dksX6_atom_3 15 rfl rfl)
theorem dX6_atom_85 : decode cX6_atom 85 = .ok (.goto 53, 3) := dk_167 0 53 (dk_at dksX6_atom_3 16 rfl rfl)
theorem dX6_atom_88 : decode cX6_atom 88 = .ok (.aload_n 0, 1) := dk_42 (dk_at dksX6_atom_3 19 rfl rfl)
theorem dX6_atom_89 : decode cX6_atom 89 = .ok (.dup, 1) := dk_89 (dk_at dksX6_atom_3 20 rfl rfl)
theorem dX6_atom_90 : decode cX6_atom 90 = .ok (.getfield 67, 3) := dk_180 0 67 (dk_at dksX6_atom_3 21 rfl rfl)
theorem dX6_atom_93 : decode cX6_atom 93 = .ok (.iconst 1, 1) := dk_4 (dk_at dksX6_atom_4 0 rfl rfl)
theorem dX6_atom_94 : decode cX6_atom 94 = .ok (.iadd, 1) := dk_96 (dk_at dksX6_atom_4 1 rfl rfl)
theorem dX6_atom_95 : decode cX6_atom 95 = .ok (.putfield 67, 3) := dk_181 0 67 (dk_at dksX6_atom_4 2 rfl rfl)
theorem dX6_atom_98 : decode cX6_atom 98 = .ok (.aload_n 0, 1) := dk_42 (dk_at dksX6_atom_4 5 rfl rfl)
theorem dX6_atom_99 : decode cX6_atom 99 = .ok (.invokevirtual 209, 3) := dk_182 0 209 (dk_at dksX6_atom_4 6 rfl rfl)
theorem dX6_atom_102 : decode cX6_atom 102 = .ok (.istore_n 3, 1) := dk_62 (dk_at dksX6_atom_4 9 rfl rfl)
theorem dX6_atom_103 : decode cX6_atom 103 = .ok (.aload_n 0, 1) := dk_42 (dk_at dksX6_atom_4 10 rfl rfl)
theorem dX6_atom_104 : decode cX6_atom 104 = .ok (.getfield 25, 3) := dk_180 0 25 (dk_at dksX6_atom_4 11 rfl rfl)
theorem dX6_atom_107 : decode cX6_atom 107 = .ok (.iconst (-1), 1) := dk_2 (dk_at dksX6_atom_4 14 rfl rfl)
theorem dX6_atom_108 : decode cX6_atom 108 = .ok (.if_icmp .ne 20, 3) := dk_160 0 20 (dk_at dksX6_atom_4 15 rfl rfl)
theorem dX6_atom_111 : decode cX6_atom 111 = .ok (.aload_n 0, 1) := dk_42 (dk_at dksX6_atom_4 18 rfl rfl)
theorem dX6_atom_112 : decode cX6_atom 112 = .ok (.bipush 41, 2) := dk_16 41 (dk_at dksX6_atom_4 19 rfl rfl)
theorem dX6_atom_114 : decode cX6_atom 114 = .ok (.invokevirtual 155, 3) := dk_182 0 155 (dk_at dksX6_atom_4 21 rfl rfl)
theorem dX6_atom_117 : decode cX6_atom 117 = .ok (.ifCond .ne 11, 3) := dk_154 0 11 (dk_at dksX6_atom_5 0 rfl rfl)
theorem dX6_atom_120 : decode cX6_atom 120 = .ok (.aload_n 0, 1) := dk_42 (dk_at dksX6_atom_5 3 rfl rfl)
theorem dX6_atom_121 : decode cX6_atom 121 = .ok (.aload_n 0, 1) := dk_42 (dk_at dksX6_atom_5 4 rfl rfl)
theorem dX6_atom_122 : decode cX6_atom 122 = .ok (.getfield 67, 3) := dk_180 0 67 (dk_at dksX6_atom_5 5 rfl rfl)
theorem dX6_atom_125 : decode cX6_atom 125 = .ok (.invokevirtual 92, 3) := dk_182 0 92 (dk_at dksX6_atom_5 8 rfl rfl)
theorem dX6_atom_128 : decode cX6_atom 128 = .ok (.aload_n 0, 1) := dk_42 (dk_at dksX6_atom_5 11 rfl rfl)
theorem dX6_atom_129 : decode cX6_atom 129 = .ok (.dup, 1) := dk_89 (dk_at dksX6_atom_5 12 rfl rfl)
theorem dX6_atom_130 : decode cX6_atom 130 = .ok (.getfield 67, 3) := dk_180 0 67 (dk_at dksX6_atom_5 13 rfl rfl)
theorem dX6_atom_133 : decode cX6_atom 133 = .ok (.iconst 1, 1) := dk_4 (dk_at dksX6_atom_5 16 rfl rfl)
theorem dX6_atom_134 : decode cX6_atom 134 = .ok (.iadd, 1) := dk_96 (dk_at dksX6_atom_5 17 rfl rfl)
theorem dX6_atom_135 : decode cX6_atom 135 = .ok (.putfield 67, 3) := dk_181 0 67 (dk_at dksX6_atom_5 18 rfl rfl)
theorem dX6_atom_138 : decode cX6_atom 138 = .ok (.aload_n 0, 1) := dk_42 (dk_at dksX6_atom_5 21 rfl rfl)
theorem dX6_atom_139 : decode cX6_atom 139 = .ok (.dup, 1) := dk_89 (dk_at dksX6_atom_5 22 rfl rfl)
theorem dX6_atom_140 : decode cX6_atom 140 = .ok (.getfield 146, 3) := dk_180 0 146 (dk_at dksX6_atom_6 0 rfl rfl)
theorem dX6_atom_143 : decode cX6_atom 143 = .ok (.iconst 1, 1) := dk_4 (dk_at dksX6_atom_6 3 rfl rfl)
theorem dX6_atom_144 : decode cX6_atom 144 = .ok (.isub, 1) := dk_100 (dk_at dksX6_atom_6 4 rfl rfl)
theorem dX6_atom_145 : decode cX6_atom 145 = .ok (.putfield 146, 3) := dk_181 0 146 (dk_at dksX6_atom_6 5 rfl rfl)
theorem dX6_atom_148 : decode cX6_atom 148 = .ok (.iload_n 3, 1) := dk_29 (dk_at dksX6_atom_6 8 rfl rfl)
theorem dX6_atom_149 : decode cX6_atom 149 = .ok (.ireturn, 1) := dk_172 (dk_at dksX6_atom_6 9 rfl rfl)
abbrev cX6_isSign : ByteArray := prog_18_method_20_code
def yX6_isSign : MethodName := ⟨RX6, "isSign", "(I)Z"⟩
def dkwX6_isSign_1 : List UInt8 := [160, 0, 7, 4, 167, 0, 4, 3, 172]
abbrev dktX6_isSign_1 : List UInt8 := dkwX6_isSign_1 ++ []
def dkwX6_isSign_0 : List UInt8 := [42, 182, 0, 76, 42, 180, 0, 67, 42, 180, 0, 70, 162, 0, 19, 42, 42, 180, 0, 67, 182, 0, 73, 27]
abbrev dktX6_isSign_0 : List UInt8 := dkwX6_isSign_0 ++ dktX6_isSign_1
theorem dksX6_isSign_0 : cX6_isSign.data.toList.drop 0 = dktX6_isSign_0 := by decide +kernel
theorem dksX6_isSign_1 : cX6_isSign.data.toList.drop 24 = dktX6_isSign_1 := dk_seg dksX6_isSign_0 24 rfl rfl
theorem dX6_isSign_0 : decode cX6_isSign 0 = .ok (.aload_n 0, 1) := dk_42 (dk_at dksX6_isSign_0 0 rfl rfl)
theorem dX6_isSign_1 : decode cX6_isSign 1 = .ok (.invokevirtual 76, 3) := dk_182 0 76 (dk_at dksX6_isSign_0 1 rfl rfl)
theorem dX6_isSign_4 : decode cX6_isSign 4 = .ok (.aload_n 0, 1) := dk_42 (dk_at dksX6_isSign_0 4 rfl rfl)
theorem dX6_isSign_5 : decode cX6_isSign 5 = .ok (.getfield 67, 3) := dk_180 0 67 (dk_at dksX6_isSign_0 5 rfl rfl)
theorem dX6_isSign_8 : decode cX6_isSign 8 = .ok (.aload_n 0, 1) := dk_42 (dk_at dksX6_isSign_0 8 rfl rfl)
theorem dX6_isSign_9 : decode cX6_isSign 9 = .ok (.getfield 70, 3) := dk_180 0 70 (dk_at dksX6_isSign_0 9 rfl rfl)
theorem dX6_isSign_12 : decode cX6_isSign 12 = .ok (.if_icmp .ge 19, 3) := dk_162 0 19 (dk_at dksX6_isSign_0 12 rfl rfl)
theorem dX6_isSign_15 : decode cX6_isSign 15 = .ok (.aload_n 0, 1) := dk_42 (dk_at dksX6_isSign_0 15 rfl rfl)
theorem dX6_isSign_16 : decode cX6_isSign 16 = .ok (.aload_n 0, 1) := dk_42 (dk_at dksX6_isSign_0 16 rfl rfl)
theorem dX6_isSign_17 : decode cX6_isSign 17 = .ok (.getfield 67, 3) := dk_180 0 67 (dk_at dksX6_isSign_0 17 rfl rfl)
theorem dX6_isSign_20 : decode cX6_isSign 20 = .ok (.invokevirtual 73, 3) := dk_182 0 73 (dk_at dksX6_isSign_0 20 rfl rfl)
theorem dX6_isSign_23 : decode cX6_isSign 23 = .ok (.iload_n 1, 1) := dk_27 (dk_at dksX6_isSign_0 23 rfl rfl)
theorem dX6_isSign_24 : decode cX6_isSign 24 = .ok (.if_icmp .ne 7, 3) := dk_160 0 7 (dk_at dksX6_isSign_1 0 rfl rfl)
theorem dX6_isSign_27 : decode cX6_isSign 27 = .ok (.iconst 1, 1) := dk_4 (dk_at dksX6_isSign_1 3 rfl rfl)
theorem dX6_isSign_28 : decode cX6_isSign 28 = .ok (.goto 4, 3) := dk_167 0 4 (dk_at dksX6_isSign_1 4 rfl rfl)
theorem dX6_isSign_31 : decode cX6_isSign 31 = .ok (.iconst 0, 1) := dk_3 (dk_at dksX6_isSign_1 7 rfl rfl)
theorem dX6_isSign_32 : decode cX6_isSign 32 = .ok (.ireturn, 1) := dk_172 (dk_at dksX6_isSign_1 8 rfl rfl)
abbrev cX6_plain : ByteArray := prog_18_method_37_code
def yX6_plain : MethodName := ⟨RX6, "plain", "()Z"⟩
def dkwX6_plain_4 : List UInt8 := [27, 29, 162, 0, 7, 4, 167, 0, 17, 3, 167, 0, 13, 27, 29, 164, 0, 7, 4, 167, 0, 4, 3, 172]
abbrev dktX6_plain_4 : List UInt8 := dkwX6_plain_4 ++ []
def dkwX6_plain_3 : List UInt8 := [182, 0, 92, 3, 172, 42, 89, 180, 0, 67, 4, 96, 181, 0, 67, 42, 182, 0, 197, 62, 28, 153, 0, 16]
abbrev dktX6_plain_3 : List UInt8 := dkwX6_plain_3 ++ dktX6_plain_4
def dkwX6_plain_2 : List UInt8 := [182, 0, 155, 61, 28, 154, 0, 22, 42, 16, 62, 182, 0, 155, 154, 0, 13, 42, 42, 180, 0, 67]
abbrev dktX6_plain_2 : List UInt8 := dkwX6_plain_2 ++ dktX6_plain_3
def dkwX6_plain_1 : List UInt8 := [180, 0, 194, 172, 42, 182, 0, 197, 60, 42, 180, 0, 25, 2, 159, 0, 5, 3, 172, 42, 16, 60]
abbrev dktX6_plain_1 : List UInt8 := dkwX6_plain_1 ++ dktX6_plain_2
def dkwX6_plain_0 : List UInt8 := [42, 18, 112, 182, 0, 96, 153, 0, 8, 42, 180, 0, 188, 172, 42, 18, 192, 182, 0, 96, 153, 0, 8, 42]
abbrev dktX6_plain_0 : List UInt8 := dkwX6_plain_0 ++ dktX6_plain_1
theorem dksX6_plain_0 : cX6_plain.data.toList.drop 0 = dktX6_plain_0 := by decide +kernel
theorem dksX6_plain_1 : cX6_plain.data.toList.drop 24 = dktX6_plain_1 := dk_seg dksX6_plain_0 24 rfl rfl
theorem dksX6_plain_2 : cX6_plain.data.toList.drop 46 = dktX6_plain_2 := dk_seg dksX6_plain_1 22 rfl rfl
theorem dksX6_plain_3 : cX6_plain.data.toList.drop 68 = dktX6_plain_3 := dk_seg dksX6_plain_2 22 rfl rfl
theorem dksX6_plain_4 : cX6_plain.data.toList.drop 92 = dktX6_plain_4 := dk_seg dksX6_plain_3 24 rfl rfl
theorem dX6_plain_0 : decode cX6_plain 0 = .ok (.aload_n 0, 1) := dk_42 (dk_at dksX6_plain_0 0 rfl rfl)
theorem dX6_plain_1 : decode cX6_plain 1 = .ok (.ldc 112, 2) := dk_18 112 (dk_at dksX6_plain_0 1 rfl rfl)
theorem dX6_plain_3 : decode cX6_plain 3 = .ok (.invokevirtual 96, 3) := dk_182 0 96 (dk_at dksX6_plain_0 3 rfl rfl)
theorem dX6_plain_6 : decode cX6_plain 6 = .ok (.ifCond .eq 8, 3) := dk_153 0 8 (dk_at dksX6_plain_0 6 rfl rfl)
theorem dX6_plain_9 : decode cX6_plain 9 = .ok (.aload_n 0, 1) := dk_42 (dk_at dksX6_plain_0 9 rfl rfl)
theorem dX6_plain_10 : decode cX6_plain 10 = .ok (.getfield 188, 3) := dk_180 0 188 (dk_at dksX6_plain_0 10 rfl rfl)
theorem dX6_plain_13 : decode cX6_plain 13 = .ok (.ireturn, 1) := dk_172 (dk_at dksX6_plain_0 13 rfl rfl)
theorem dX6_plain_14 : decode cX6_plain 14 = .ok (.aload_n 0, 1) := dk_42 (dk_at dksX6_plain_0 14 rfl rfl)
theorem dX6_plain_15 : decode cX6_plain 15 = .ok (.ldc 192, 2) := dk_18 192 (dk_at dksX6_plain_0 15 rfl rfl)
theorem dX6_plain_17 : decode cX6_plain 17 = .ok (.invokevirtual 96, 3) := dk_182 0 96 (dk_at dksX6_plain_0 17 rfl rfl)
theorem dX6_plain_20 : decode cX6_plain 20 = .ok (.ifCond .eq 8, 3) := dk_153 0 8 (dk_at dksX6_plain_0 20 rfl rfl)
theorem dX6_plain_23 : decode cX6_plain 23 = .ok (.aload_n 0, 1) := dk_42 (dk_at dksX6_plain_0 23 rfl rfl)
theorem dX6_plain_24 : decode cX6_plain 24 = .ok (.getfield 194, 3) := dk_180 0 194 (dk_at dksX6_plain_1 0 rfl rfl)
theorem dX6_plain_27 : decode cX6_plain 27 = .ok (.ireturn, 1) := dk_172 (dk_at dksX6_plain_1 3 rfl rfl)
theorem dX6_plain_28 : decode cX6_plain 28 = .ok (.aload_n 0, 1) := dk_42 (dk_at dksX6_plain_1 4 rfl rfl)
theorem dX6_plain_29 : decode cX6_plain 29 = .ok (.invokevirtual 197, 3) := dk_182 0 197 (dk_at dksX6_plain_1 5 rfl rfl)
theorem dX6_plain_32 : decode cX6_plain 32 = .ok (.istore_n 1, 1) := dk_60 (dk_at dksX6_plain_1 8 rfl rfl)
theorem dX6_plain_33 : decode cX6_plain 33 = .ok (.aload_n 0, 1) := dk_42 (dk_at dksX6_plain_1 9 rfl rfl)
theorem dX6_plain_34 : decode cX6_plain 34 = .ok (.getfield 25, 3) := dk_180 0 25 (dk_at dksX6_plain_1 10 rfl rfl)
theorem dX6_plain_37 : decode cX6_plain 37 = .ok (.iconst (-1), 1) := dk_2 (dk_at dksX6_plain_1 13 rfl rfl)
theorem dX6_plain_38 : decode cX6_plain 38 = .ok (.if_icmp .eq 5, 3) := dk_159 0 5 (dk_at dksX6_plain_1 14 rfl rfl)
theorem dX6_plain_41 : decode cX6_plain 41 = .ok (.iconst 0, 1) := dk_3 (dk_at dksX6_plain_1 17 rfl rfl)
theorem dX6_plain_42 : decode cX6_plain 42 = .ok (.ireturn, 1) := dk_172 (dk_at dksX6_plain_1 18 rfl rfl)
theorem dX6_plain_43 : decode cX6_plain 43 = .ok (.aload_n 0, 1) := dk_42 (dk_at dksX6_plain_1 19 rfl rfl)
theorem dX6_plain_44 : decode cX6_plain 44 = .ok (.bipush 60, 2) := dk_16 60 (dk_at dksX6_plain_1 20 rfl rfl)
theorem dX6_plain_46 : decode cX6_plain 46 = .ok (.invokevirtual 155, 3) := dk_182 0 155 (dk_at dksX6_plain_2 0 rfl rfl)
theorem dX6_plain_49 : decode cX6_plain 49 = .ok (.istore_n 2, 1) := dk_61 (dk_at dksX6_plain_2 3 rfl rfl)
theorem dX6_plain_50 : decode cX6_plain 50 = .ok (.iload_n 2, 1) := dk_28 (dk_at dksX6_plain_2 4 rfl rfl)
theorem dX6_plain_51 : decode cX6_plain 51 = .ok (.ifCond .ne 22, 3) := dk_154 0 22 (dk_at dksX6_plain_2 5 rfl rfl)
theorem dX6_plain_54 : decode cX6_plain 54 = .ok (.aload_n 0, 1) := dk_42 (dk_at dksX6_plain_2 8 rfl rfl)
theorem dX6_plain_55 : decode cX6_plain 55 = .ok (.bipush 62, 2) := dk_16 62 (dk_at dksX6_plain_2 9 rfl rfl)
theorem dX6_plain_57 : decode cX6_plain 57 = .ok (.invokevirtual 155, 3) := dk_182 0 155 (dk_at dksX6_plain_2 11 rfl rfl)
theorem dX6_plain_60 : decode cX6_plain 60 = .ok (.ifCond .ne 13, 3) := dk_154 0 13 (dk_at dksX6_plain_2 14 rfl rfl)
theorem dX6_plain_63 : decode cX6_plain 63 = .ok (.aload_n 0, 1) := dk_42 (dk_at dksX6_plain_2 17 rfl rfl)
theorem dX6_plain_64 : decode cX6_plain 64 = .ok (.aload_n 0, 1) := dk_42 (dk_at dksX6_plain_2 18 rfl rfl)
theorem dX6_plain_65 : decode cX6_plain 65 = .ok (.getfield 67, 3) := dk_180 0 67 (dk_at dksX6_plain_2 19 rfl rfl)
theorem dX6_plain_68 : decode cX6_plain 68 = .ok (.invokevirtual 92, 3) := dk_182 0 92 (dk_at dksX6_plain_3 0 rfl rfl)
theorem dX6_plain_71 : decode cX6_plain 71 = .ok (.iconst 0, 1) := dk_3 (dk_at dksX6_plain_3 3 rfl rfl)
theorem dX6_plain_72 : decode cX6_plain 72 = .ok (.ireturn, 1) := dk_172 (dk_at dksX6_plain_3 4 rfl rfl)
theorem dX6_plain_73 : decode cX6_plain 73 = .ok (.aload_n 0, 1) := dk_42 (dk_at dksX6_plain_3 5 rfl rfl)
theorem dX6_plain_74 : decode cX6_plain 74 = .ok (.dup, 1) := dk_89 (dk_at dksX6_plain_3 6 rfl rfl)
theorem dX6_plain_75 : decode cX6_plain 75 = .ok (.getfield 67, 3) := dk_180 0 67 (dk_at dksX6_plain_3 7 rfl rfl)
theorem dX6_plain_78 : decode cX6_plain 78 = .ok (.iconst 1, 1) := dk_4 (dk_at dksX6_plain_3 10 rfl rfl)
theorem dX6_plain_79 : decode cX6_plain 79 = .ok (.iadd, 1) := dk_96 (dk_at dksX6_plain_3 11 rfl rfl)
theorem dX6_plain_80 : decode cX6_plain 80 = .ok (.putfield 67, 3) := dk_181 0 67 (dk_at dksX6_plain_3 12 rfl rfl)
theorem dX6_plain_83 : decode cX6_plain 83 = .ok (.aload_n 0, 1) := dk_42 (dk_at dksX6_plain_3 15 rfl rfl)
theorem dX6_plain_84 : decode cX6_plain 84 = .ok (.invokevirtual 197, 3) := dk_182 0 197 (dk_at dksX6_plain_3 16 rfl rfl)
theorem dX6_plain_87 : decode cX6_plain 87 = .ok (.istore_n 3, 1) := dk_62 (dk_at dksX6_plain_3 19 rfl rfl)
theorem dX6_plain_88 : decode cX6_plain 88 = .ok (.iload_n 2, 1) := dk_28 (dk_at dksX6_plain_3 20 rfl rfl)
theorem dX6_plain_89 : decode cX6_plain 89 = .ok (.ifCond .eq 16, 3) := dk_153 0 16 (dk_at dksX6_plain_3 21 rfl rfl)
theorem dX6_plain_92 : decode cX6_plain 92 = .ok (.iload_n 1, 1) := dk_27 (dk_at dksX6_plain_4 0 rfl rfl)
theorem dX6_plain_93 : decode cX6_plain 93 = .ok (.iload_n 3, 1) := dk_29 (dk_at dksX6_plain_4 1 rfl rfl)
theorem dX6_plain_94 : decode cX6_plain 94 = .ok (.if_icmp .ge 7, 3) := dk_162 0 7 (dk_at dksX6_plain_4 2 rfl rfl)
theorem dX6_plain_97 : decode cX6_plain 97 = .ok (.iconst 1, 1) := dk_4 (dk_at dksX6_plain_4 5 rfl rfl)
theorem dX6_plain_98 : decode cX6_plain 98 = .ok (.goto 17, 3) := dk_167 0 17 (dk_at dksX6_plain_4 6 rfl rfl)
theorem dX6_plain_101 : decode cX6_plain 101 = .ok (.iconst 0, 1) := dk_3 (dk_at dksX6_plain_4 9 rfl rfl)
theorem dX6_plain_102 : decode cX6_plain 102 = .ok (.goto 13, 3) := dk_167 0 13 (dk_at dksX6_plain_4 10 rfl rfl)
theorem dX6_plain_105 : decode cX6_plain 105 = .ok (.iload_n 1, 1) := dk_27 (dk_at dksX6_plain_4 13 rfl rfl)
theorem dX6_plain_106 : decode cX6_plain 106 = .ok (.iload_n 3, 1) := dk_29 (dk_at dksX6_plain_4 14 rfl rfl)
theorem dX6_plain_107 : decode cX6_plain 107 = .ok (.if_icmp .le 7, 3) := dk_164 0 7 (dk_at dksX6_plain_4 15 rfl rfl)
theorem dX6_plain_110 : decode cX6_plain 110 = .ok (.iconst 1, 1) := dk_4 (dk_at dksX6_plain_4 18 rfl rfl)
theorem dX6_plain_111 : decode cX6_plain 111 = .ok (.goto 4, 3) := dk_167 0 4 (dk_at dksX6_plain_4 19 rfl rfl)
theorem dX6_plain_114 : decode cX6_plain 114 = .ok (.iconst 0, 1) := dk_3 (dk_at dksX6_plain_4 22 rfl rfl)
theorem dX6_plain_115 : decode cX6_plain 115 = .ok (.ireturn, 1) := dk_172 (dk_at dksX6_plain_4 23 rfl rfl)
abbrev cX6_sum : ByteArray := prog_18_method_36_code
def yX6_sum : MethodName := ⟨RX6, "sum", "()I"⟩
def dkwX6_sum_1 : List UInt8 := [180, 0, 67, 4, 96, 181, 0, 67, 27, 42, 182, 0, 185, 96, 60, 167, 255, 222, 27, 172]
abbrev dktX6_sum_1 : List UInt8 := dkwX6_sum_1 ++ []
def dkwX6_sum_0 : List UInt8 := [42, 182, 0, 185, 60, 42, 180, 0, 25, 2, 160, 0, 32, 42, 16, 43, 182, 0, 155, 153, 0, 23, 42, 89]
abbrev dktX6_sum_0 : List UInt8 := dkwX6_sum_0 ++ dktX6_sum_1
theorem dksX6_sum_0 : cX6_sum.data.toList.drop 0 = dktX6_sum_0 := by decide +kernel
theorem dksX6_sum_1 : cX6_sum.data.toList.drop 24 = dktX6_sum_1 := dk_seg dksX6_sum_0 24 rfl rfl
theorem dX6_sum_0 : decode cX6_sum 0 = .ok (.aload_n 0, 1) := dk_42 (dk_at dksX6_sum_0 0 rfl rfl)
theorem dX6_sum_1 : decode cX6_sum 1 = .ok (.invokevirtual 185, 3) := dk_182 0 185 (dk_at dksX6_sum_0 1 rfl rfl)
theorem dX6_sum_4 : decode cX6_sum 4 = .ok (.istore_n 1, 1) := dk_60 (dk_at dksX6_sum_0 4 rfl rfl)
theorem dX6_sum_5 : decode cX6_sum 5 = .ok (.aload_n 0, 1) := dk_42 (dk_at dksX6_sum_0 5 rfl rfl)
theorem dX6_sum_6 : decode cX6_sum 6 = .ok (.getfield 25, 3) := dk_180 0 25 (dk_at dksX6_sum_0 6 rfl rfl)
theorem dX6_sum_9 : decode cX6_sum 9 = .ok (.iconst (-1), 1) := dk_2 (dk_at dksX6_sum_0 9 rfl rfl)
theorem dX6_sum_10 : decode cX6_sum 10 = .ok (.if_icmp .ne 32, 3) := dk_160 0 32 (dk_at dksX6_sum_0 10 rfl rfl)
theorem dX6_sum_13 : decode cX6_sum 13 = .ok (.aload_n 0, 1) := dk_42 (dk_at dksX6_sum_0 13 rfl rfl)
theorem dX6_sum_14 : decode cX6_sum 14 = .ok (.bipush 43, 2) := dk_16 43 (dk_at dksX6_sum_0 14 rfl rfl)
theorem dX6_sum_16 : decode cX6_sum 16 = .ok (.invokevirtual 155, 3) := dk_182 0 155 (dk_at dksX6_sum_0 16 rfl rfl)
theorem dX6_sum_19 : decode cX6_sum 19 = .ok (.ifCond .eq 23, 3) := dk_153 0 23 (dk_at dksX6_sum_0 19 rfl rfl)
theorem dX6_sum_22 : decode cX6_sum 22 = .ok (.aload_n 0, 1) := dk_42 (dk_at dksX6_sum_0 22 rfl rfl)
theorem dX6_sum_23 : decode cX6_sum 23 = .ok (.dup, 1) := dk_89 (dk_at dksX6_sum_0 23 rfl rfl)
theorem dX6_sum_24 : decode cX6_sum 24 = .ok (.getfield 67, 3) := dk_180 0 67 (dk_at dksX6_sum_1 0 rfl rfl)
theorem dX6_sum_27 : decode cX6_sum 27 = .ok (.iconst 1, 1) := dk_4 (dk_at dksX6_sum_1 3 rfl rfl)
theorem dX6_sum_28 : decode cX6_sum 28 = .ok (.iadd, 1) := dk_96 (dk_at dksX6_sum_1 4 rfl rfl)
theorem dX6_sum_29 : decode cX6_sum 29 = .ok (.putfield 67, 3) := dk_181 0 67 (dk_at dksX6_sum_1 5 rfl rfl)
theorem dX6_sum_32 : decode cX6_sum 32 = .ok (.iload_n 1, 1) := dk_27 (dk_at dksX6_sum_1 8 rfl rfl)
theorem dX6_sum_33 : decode cX6_sum 33 = .ok (.aload_n 0, 1) := dk_42 (dk_at dksX6_sum_1 9 rfl rfl)
theorem dX6_sum_34 : decode cX6_sum 34 = .ok (.invokevirtual 185, 3) := dk_182 0 185 (dk_at dksX6_sum_1 10 rfl rfl)
theorem dX6_sum_37 : decode cX6_sum 37 = .ok (.iadd, 1) := dk_96 (dk_at dksX6_sum_1 13 rfl rfl)
theorem dX6_sum_38 : decode cX6_sum 38 = .ok (.istore_n 1, 1) := dk_60 (dk_at dksX6_sum_1 14 rfl rfl)
theorem dX6_sum_39 : decode cX6_sum 39 = .ok (.goto (-34), 3) := dk_167 255 222 (dk_at dksX6_sum_1 15 rfl rfl)
theorem dX6_sum_42 : decode cX6_sum 42 = .ok (.iload_n 1, 1) := dk_27 (dk_at dksX6_sum_1 18 rfl rfl)
theorem dX6_sum_43 : decode cX6_sum 43 = .ok (.ireturn, 1) := dk_172 (dk_at dksX6_sum_1 19 rfl rfl)
abbrev cX6_part : ByteArray := prog_18_method_35_code
def yX6_part : MethodName := ⟨RX6, "part", "()I"⟩
def dkwX6_part_7 : List UInt8 := [172, 42, 180, 0, 29, 27, 46, 172]
abbrev dktX6_part_7 : List UInt8 := dkwX6_part_7 ++ []
def dkwX6_part_6 : List UInt8 := [153, 0, 8, 16, 6, 167, 0, 4, 2, 60, 27, 2, 160, 0, 13, 42, 42, 180, 0, 67, 182, 0, 92, 3]
abbrev dktX6_part_6 : List UInt8 := dkwX6_part_6 ++ dktX6_part_7
def dkwX6_part_5 : List UInt8 := [167, 0, 31, 42, 18, 181, 182, 0, 96, 153, 0, 7, 8, 167, 0, 18, 42, 18, 183, 182, 0, 96]
abbrev dktX6_part_5 : List UInt8 := dkwX6_part_5 ++ dktX6_part_6
def dkwX6_part_4 : List UInt8 := [18, 177, 182, 0, 96, 153, 0, 7, 6, 167, 0, 44, 42, 18, 179, 182, 0, 96, 153, 0, 7, 7]
abbrev dktX6_part_4 : List UInt8 := dkwX6_part_4 ++ dktX6_part_5
def dkwX6_part_3 : List UInt8 := [182, 0, 96, 153, 0, 7, 4, 167, 0, 70, 42, 18, 103, 182, 0, 96, 153, 0, 7, 5, 167, 0, 57, 42]
abbrev dktX6_part_3 : List UInt8 := dkwX6_part_3 ++ dktX6_part_4
def dkwX6_part_2 : List UInt8 := [17, 3, 231, 182, 0, 100, 172, 42, 18, 118, 182, 0, 96, 153, 0, 7, 3, 167, 0, 83, 42, 18, 175]
abbrev dktX6_part_2 : List UInt8 := dkwX6_part_2 ++ dktX6_part_3
def dkwX6_part_1 : List UInt8 := [162, 0, 30, 42, 42, 180, 0, 67, 182, 0, 73, 16, 48, 16, 57, 184, 0, 45, 153, 0, 12, 42, 3]
abbrev dktX6_part_1 : List UInt8 := dkwX6_part_1 ++ dktX6_part_2
def dkwX6_part_0 : List UInt8 := [42, 180, 0, 25, 2, 159, 0, 5, 3, 172, 42, 182, 0, 76, 42, 180, 0, 67, 42, 180, 0, 70]
abbrev dktX6_part_0 : List UInt8 := dkwX6_part_0 ++ dktX6_part_1
theorem dksX6_part_0 : cX6_part.data.toList.drop 0 = dktX6_part_0 := by decide +kernel
theorem dksX6_part_1 : cX6_part.data.toList.drop 22 = dktX6_part_1 := dk_seg dksX6_part_0 22 rfl rfl
theorem dksX6_part_2 : cX6_part.data.toList.drop 45 = dktX6_part_2 := dk_seg dksX6_part_1 23 rfl rfl
theorem dksX6_part_3 : cX6_part.data.toList.drop 68 = dktX6_part_3 := dk_seg dksX6_part_2 23 rfl rfl
theorem dksX6_part_4 : cX6_part.data.toList.drop 92 = dktX6_part_4 := dk_seg dksX6_part_3 24 rfl rfl
theorem dksX6_part_5 : cX6_part.data.toList.drop 114 = dktX6_part_5 := dk_seg dksX6_part_4 22 rfl rfl
theorem dksX6_part_6 : cX6_part.data.toList.drop 136 = dktX6_part_6 := dk_seg dksX6_part_5 22 rfl rfl
theorem dksX6_part_7 : cX6_part.data.toList.drop 160 = dktX6_part_7 := dk_seg dksX6_part_6 24 rfl rfl
theorem dX6_part_0 : decode cX6_part 0 = .ok (.aload_n 0, 1) := dk_42 (dk_at dksX6_part_0 0 rfl rfl)
theorem dX6_part_1 : decode cX6_part 1 = .ok (.getfield 25, 3) := dk_180 0 25 (dk_at dksX6_part_0 1 rfl rfl)
theorem dX6_part_4 : decode cX6_part 4 = .ok (.iconst (-1), 1) := dk_2 (dk_at dksX6_part_0 4 rfl rfl)
theorem dX6_part_5 : decode cX6_part 5 = .ok (.if_icmp .eq 5, 3) := dk_159 0 5 (dk_at dksX6_part_0 5 rfl rfl)
theorem dX6_part_8 : decode cX6_part 8 = .ok (.iconst 0, 1) := dk_3 (dk_at dksX6_part_0 8 rfl rfl)
theorem dX6_part_9 : decode cX6_part 9 = .ok (.ireturn, 1) := dk_172 (dk_at dksX6_part_0 9 rfl rfl)
theorem dX6_part_10 : decode cX6_part 10 = .ok (.aload_n 0, 1) := dk_42 (dk_at dksX6_part_0 10 rfl rfl)
theorem dX6_part_11 : decode cX6_part 11 = .ok (.invokevirtual 76, 3) := dk_182 0 76 (dk_at dksX6_part_0 11 rfl rfl)
theorem dX6_part_14 : decode cX6_part 14 = .ok (.aload_n 0, 1) := dk_42 (dk_at dksX6_part_0 14 rfl rfl)
theorem dX6_part_15 : decode cX6_part 15 = .ok (.getfield 67, 3) := dk_180 0 67 (dk_at dksX6_part_0 15 rfl rfl)
theorem dX6_part_18 : decode cX6_part 18 = .ok (.aload_n 0, 1) := dk_42 (dk_at dksX6_part_0 18 rfl rfl)
theorem dX6_part_19 : decode cX6_part 19 = .ok (.getfield 70, 3) := dk_180 0 70 (dk_at dksX6_part_0 19 rfl rfl)
theorem dX6_part_22 : decode cX6_part 22 = .ok (.if_icmp .ge 30, 3) := dk_162 0 30 (dk_at dksX6_part_1 0 rfl rfl)
theorem dX6_part_25 : decode cX6_part 25 = .ok (.aload_n 0, 1) := dk_42 (dk_at dksX6_part_1 3 rfl rfl)
theorem dX6_part_26 : decode cX6_part 26 = .ok (.aload_n 0, 1) := dk_42 (dk_at dksX6_part_1 4 rfl rfl)
theorem dX6_part_27 : decode cX6_part 27 = .ok (.getfield 67, 3) := dk_180 0 67 (dk_at dksX6_part_1 5 rfl rfl)
theorem dX6_part_30 : decode cX6_part 30 = .ok (.invokevirtual 73, 3) := dk_182 0 73 (dk_at dksX6_part_1 8 rfl rfl)
theorem dX6_part_33 : decode cX6_part 33 = .ok (.bipush 48, 2) := dk_16 48 (dk_at dksX6_part_1 11 rfl rfl)
theorem dX6_part_35 : decode cX6_part 35 = .ok (.bipush 57, 2) := dk_16 57 (dk_at dksX6_part_1 13 rfl rfl)
theorem dX6_part_37 : decode cX6_part 37 = .ok (.invokestatic 45, 3) := dk_184 0 45 (dk_at dksX6_part_1 15 rfl rfl)
theorem dX6_part_40 : decode cX6_part 40 = .ok (.ifCond .eq 12, 3) := dk_153 0 12 (dk_at dksX6_part_1 18 rfl rfl)
theorem dX6_part_43 : decode cX6_part 43 = .ok (.aload_n 0, 1) := dk_42 (dk_at dksX6_part_1 21 rfl rfl)
theorem dX6_part_44 : decode cX6_part 44 = .ok (.iconst 0, 1) := dk_3 (dk_at dksX6_part_1 22 rfl rfl)
theorem dX6_part_45 : decode cX6_part 45 = .ok (.sipush 999, 3) := dk_17 3 231 (dk_at dksX6_part_2 0 rfl rfl)
theorem dX6_part_48 : decode cX6_part 48 = .ok (.invokevirtual 100, 3) := dk_182 0 100 (dk_at dksX6_part_2 3 rfl rfl)
theorem dX6_part_51 : decode cX6_part 51 = .ok (.ireturn, 1) := dk_172 (dk_at dksX6_part_2 6 rfl rfl)
theorem dX6_part_52 : decode cX6_part 52 = .ok (.aload_n 0, 1) := dk_42 (dk_at dksX6_part_2 7 rfl rfl)
theorem dX6_part_53 : decode cX6_part 53 = .ok (.ldc 118, 2) := dk_18 118 (dk_at dksX6_part_2 8 rfl rfl)
theorem dX6_part_55 : decode cX6_part 55 = .ok (.invokevirtual 96, 3) := dk_182 0 96 (dk_at dksX6_part_2 10 rfl rfl)
theorem dX6_part_58 : decode cX6_part 58 = .ok (.ifCond .eq 7, 3) := dk_153 0 7 (dk_at dksX6_part_2 13 rfl rfl)
theorem dX6_part_61 : decode cX6_part 61 = .ok (.iconst 0, 1) := dk_3 (dk_at dksX6_part_2 16 rfl rfl)
theorem dX6_part_62 : decode cX6_part 62 = .ok (.goto 83, 3) := dk_167 0 83 (dk_at dksX6_part_2 17 rfl rfl)
theorem dX6_part_65 : decode cX6_part 65 = .ok (.aload_n 0, 1) := dk_42 (dk_at dksX6_part_2 20 rfl rfl)
theorem dX6_part_66 : decode cX6_part 66 = .ok (.ldc 175, 2) := dk_18 175 (dk_at dksX6_part_2 21 rfl rfl)
theorem dX6_part_68 : decode cX6_part 68 = .ok (.invokevirtual 96, 3) := dk_182 0 96 (dk_at dksX6_part_3 0 rfl rfl)
theorem dX6_part_71 : decode cX6_part 71 = .ok (.ifCond .eq 7, 3) := dk_153 0 7 (dk_at dksX6_part_3 3 rfl rfl)
theorem dX6_part_74 : decode cX6_part 74 = .ok (.iconst 1, 1) := dk_4 (dk_at dksX6_part_3 6 rfl rfl)
theorem dX6_part_75 : decode cX6_part 75 = .ok (.goto 70, 3) := dk_167 0 70 (dk_at dksX6_part_3 7 rfl rfl)
theorem dX6_part_78 : decode cX6_part 78 = .ok (.aload_n 0, 1) := dk_42 (dk_at dksX6_part_3 10 rfl rfl)
theorem dX6_part_79 : decode cX6_part 79 = .ok (.ldc 103, 2) := dk_18 103 (dk_at dksX6_part_3 11 rfl rfl)
theorem dX6_part_81 : decode cX6_part 81 = .ok (.invokevirtual 96, 3) := dk_182 0 96 (dk_at dksX6_part_3 13 rfl rfl)
theorem dX6_part_84 : decode cX6_part 84 = .ok (.ifCond .eq 7, 3) := dk_153 0 7 (dk_at dksX6_part_3 16 rfl rfl)
theorem dX6_part_87 : decode cX6_part 87 = .ok (.iconst 2, 1) := dk_5 (dk_at dksX6_part_3 19 rfl rfl)
theorem dX6_part_88 : decode cX6_part 88 = .ok (.goto 57, 3) := dk_167 0 57 (dk_at dksX6_part_3 20 rfl rfl)
theorem dX6_part_91 : decode cX6_part 91 = .ok (.aload_n 0, 1) := dk_42 (dk_at dksX6_part_3 23 rfl rfl)
theorem dX6_part_92 : decode cX6_part 92 = .ok (.ldc 177, 2) := dk_18 177 (dk_at dksX6_part_4 0 rfl rfl)
theorem dX6_part_94 : decode cX6_part 94 = .ok (.invokevirtual 96, 3) := dk_182 0 96 (dk_at dksX6_part_4 2 rfl rfl)
theorem dX6_part_97 : decode cX6_part 97 = .ok (.ifCond .eq 7, 3) := dk_153 0 7 (dk_at dksX6_part_4 5 rfl rfl)
theorem dX6_part_100 : decode cX6_part 100 = .ok (.iconst 3, 1) := dk_6 (dk_at dksX6_part_4 8 rfl rfl)
theorem dX6_part_101 : decode cX6_part 101 = .ok (.goto 44, 3) := dk_167 0 44 (dk_at dksX6_part_4 9 rfl rfl)
theorem dX6_part_104 : decode cX6_part 104 = .ok (.aload_n 0, 1) := dk_42 (dk_at dksX6_part_4 12 rfl rfl)
theorem dX6_part_105 : decode cX6_part 105 = .ok (.ldc 179, 2) := dk_18 179 (dk_at dksX6_part_4 13 rfl rfl)
theorem dX6_part_107 : decode cX6_part 107 = .ok (.invokevirtual 96, 3) := dk_182 0 96 (dk_at dksX6_part_4 15 rfl rfl)
theorem dX6_part_110 : decode cX6_part 110 = .ok (.ifCond .eq 7, 3) := dk_153 0 7 (dk_at dksX6_part_4 18 rfl rfl)
theorem dX6_part_113 : decode cX6_part 113 = .ok (.iconst 4, 1) := dk_7 (dk_at dksX6_part_4 21 rfl rfl)
theorem dX6_part_114 : decode cX6_part 114 = .ok (.goto 31, 3) := dk_167 0 31 (dk_at dksX6_part_5 0 rfl rfl)
theorem dX6_part_117 : decode cX6_part 117 = .ok (.aload_n 0, 1) := dk_42 (dk_at dksX6_part_5 3 rfl rfl)
theorem dX6_part_118 : decode cX6_part 118 = .ok (.ldc 181, 2) := dk_18 181 (dk_at dksX6_part_5 4 rfl rfl)
theorem dX6_part_120 : decode cX6_part 120 = .ok (.invokevirtual 96, 3) := dk_182 0 96 (dk_at dksX6_part_5 6 rfl rfl)
theorem dX6_part_123 : decode cX6_part 123 = .ok (.ifCond .eq 7, 3) := dk_153 0 7 (dk_at dksX6_part_5 9 rfl rfl)
theorem dX6_part_126 : decode cX6_part 126 = .ok (.iconst 5, 1) := dk_8 (dk_at dksX6_part_5 12 rfl rfl)
theorem dX6_part_127 : decode cX6_part 127 = .ok (.goto 18, 3) := dk_167 0 18 (dk_at dksX6_part_5 13 rfl rfl)
theorem dX6_part_130 : decode cX6_part 130 = .ok (.aload_n 0, 1) := dk_42 (dk_at dksX6_part_5 16 rfl rfl)
theorem dX6_part_131 : decode cX6_part 131 = .ok (.ldc 183, 2) := dk_18 183 (dk_at dksX6_part_5 17 rfl rfl)
theorem dX6_part_133 : decode cX6_part 133 = .ok (.invokevirtual 96, 3) := dk_182 0 96 (dk_at dksX6_part_5 19 rfl rfl)
theorem dX6_part_136 : decode cX6_part 136 = .ok (.ifCond .eq 8, 3) := dk_153 0 8 (dk_at dksX6_part_6 0 rfl rfl)
theorem dX6_part_139 : decode cX6_part 139 = .ok (.bipush 6, 2) := dk_16 6 (dk_at dksX6_part_6 3 rfl rfl)
theorem dX6_part_141 : decode cX6_part 141 = .ok (.goto 4, 3) := dk_167 0 4 (dk_at dksX6_part_6 5 rfl rfl)
theorem dX6_part_144 : decode cX6_part 144 = .ok (.iconst (-1), 1) := dk_2 (dk_at dksX6_part_6 8 rfl rfl)
theorem dX6_part_145 : decode cX6_part 145 = .ok (.istore_n 1, 1) := dk_60 (dk_at dksX6_part_6 9 rfl rfl)
theorem dX6_part_146 : decode cX6_part 146 = .ok (.iload_n 1, 1) := dk_27 (dk_at dksX6_part_6 10 rfl rfl)
theorem dX6_part_147 : decode cX6_part 147 = .ok (.iconst (-1), 1) := dk_2 (dk_at dksX6_part_6 11 rfl rfl)
theorem dX6_part_148 : decode cX6_part 148 = .ok (.if_icmp .ne 13, 3) := dk_160 0 13 (dk_at dksX6_part_6 12 rfl rfl)
theorem dX6_part_151 : decode cX6_part 151 = .ok (.aload_n 0, 1) := dk_42 (dk_at dksX6_part_6 15 rfl rfl)
theorem dX6_part_152 : decode cX6_part 152 = .ok (.aload_n 0, 1) := dk_42 (dk_at dksX6_part_6 16 rfl rfl)
theorem dX6_part_153 : decode cX6_part 153 = .ok (.getfield 67, 3) := dk_180 0 67 (dk_at dksX6_part_6 17 rfl rfl)
theorem dX6_part_156 : decode cX6_part 156 = .ok (.invokevirtual 92, 3) := dk_182 0 92 (dk_at dksX6_part_6 20 rfl rfl)
theorem dX6_part_159 : decode cX6_part 159 = .ok (.iconst 0, 1) := dk_3 (dk_at dksX6_part_6 23 rfl rfl)
theorem dX6_part_160 : decode cX6_part 160 = .ok (.ireturn, 1) := dk_172 (dk_at dksX6_part_7 0 rfl rfl)
theorem dX6_part_161 : decode cX6_part 161 = .ok (.aload_n 0, 1) := dk_42 (dk_at dksX6_part_7 1 rfl rfl)
theorem dX6_part_162 : decode cX6_part 162 = .ok (.getfield 29, 3) := dk_180 0 29 (dk_at dksX6_part_7 2 rfl rfl)
theorem dX6_part_165 : decode cX6_part 165 = .ok (.iload_n 1, 1) := dk_27 (dk_at dksX6_part_7 5 rfl rfl)
theorem dX6_part_166 : decode cX6_part 166 = .ok (.iaload, 1) := dk_46 (dk_at dksX6_part_7 6 rfl rfl)
theorem dX6_part_167 : decode cX6_part 167 = .ok (.ireturn, 1) := dk_172 (dk_at dksX6_part_7 7 rfl rfl)
abbrev cX6_houseLine : ByteArray := prog_18_method_29_code
def yX6_houseLine : MethodName := ⟨RX6, "houseLine", "()V"⟩
def dkwX6_houseLine_8 : List UInt8 := [17, 3, 231, 182, 0, 130, 167, 0, 11, 42, 42, 180, 0, 67, 182, 0, 92, 177]
abbrev dktX6_houseLine_8 : List UInt8 := dkwX6_houseLine_8 ++ []
def dkwX6_houseLine_7 : List UInt8 := [42, 16, 9, 16, 100, 182, 0, 130, 167, 0, 32, 42, 18, 144, 182, 0, 96, 153, 0, 15, 42, 16, 10]
abbrev dktX6_houseLine_7 : List UInt8 := dkwX6_houseLine_7 ++ dktX6_houseLine_8
def dkwX6_houseLine_6 : List UInt8 := [153, 0, 15, 42, 16, 7, 17, 3, 231, 182, 0, 130, 167, 0, 52, 42, 18, 142, 182, 0, 96, 153, 0, 14]
abbrev dktX6_houseLine_6 : List UInt8 := dkwX6_houseLine_6 ++ dktX6_houseLine_7
def dkwX6_houseLine_5 : List UInt8 := [182, 0, 96, 153, 0, 14, 42, 16, 6, 16, 9, 182, 0, 130, 167, 0, 73, 42, 18, 140, 182, 0, 96]
abbrev dktX6_houseLine_5 : List UInt8 := dkwX6_houseLine_5 ++ dktX6_houseLine_6
def dkwX6_houseLine_4 : List UInt8 := [167, 0, 111, 42, 18, 136, 182, 0, 96, 153, 0, 12, 42, 8, 4, 182, 0, 130, 167, 0, 93, 42, 18, 138]
abbrev dktX6_houseLine_4 : List UInt8 := dkwX6_houseLine_4 ++ dktX6_houseLine_5
def dkwX6_houseLine_3 : List UInt8 := [182, 0, 100, 61, 42, 180, 0, 25, 2, 160, 0, 13, 42, 16, 12, 28, 96, 16, 6, 182, 0, 130]
abbrev dktX6_houseLine_3 : List UInt8 := dkwX6_houseLine_3 ++ dktX6_houseLine_4
def dkwX6_houseLine_2 : List UInt8 := [42, 7, 16, 7, 182, 0, 130, 167, 0, 148, 42, 18, 134, 182, 0, 96, 153, 0, 31, 42, 3, 4]
abbrev dktX6_houseLine_2 : List UInt8 := dkwX6_houseLine_2 ++ dktX6_houseLine_3
def dkwX6_houseLine_1 : List UInt8 := [18, 123, 182, 0, 96, 153, 0, 10, 42, 182, 0, 125, 167, 0, 167, 42, 18, 128, 182, 0, 96, 153, 0, 13]
abbrev dktX6_houseLine_1 : List UInt8 := dkwX6_houseLine_1 ++ dktX6_houseLine_2
def dkwX6_houseLine_0 : List UInt8 := [42, 182, 0, 89, 60, 42, 18, 118, 182, 0, 96, 153, 0, 11, 42, 27, 182, 0, 120, 167, 0, 183, 42]
abbrev dktX6_houseLine_0 : List UInt8 := dkwX6_houseLine_0 ++ dktX6_houseLine_1
theorem dksX6_houseLine_0 : cX6_houseLine.data.toList.drop 0 = dktX6_houseLine_0 := by decide +kernel
theorem dksX6_houseLine_1 : cX6_houseLine.data.toList.drop 23 = dktX6_houseLine_1 := dk_seg dksX6_houseLine_0 23 rfl rfl
theorem dksX6_houseLine_2 : cX6_houseLine.data.toList.drop 47 = dktX6_houseLine_2 := dk_seg dksX6_houseLine_1 24 rfl rfl
theorem dksX6_houseLine_3 : cX6_houseLine.data.toList.drop 69 = dktX6_houseLine_3 := dk_seg dksX6_houseLine_2 22 rfl rfl
theorem dksX6_houseLine_4 : cX6_houseLine.data.toList.drop 91 = dktX6_houseLine_4 := dk_seg dksX6_houseLine_3 22 rfl rfl
theorem dksX6_houseLine_5 : cX6_houseLine.data.toList.drop 115 = dktX6_houseLine_5 := dk_seg dksX6_houseLine_4 24 rfl rfl
theorem dksX6_houseLine_6 : cX6_houseLine.data.toList.drop 138 = dktX6_houseLine_6 := dk_seg dksX6_houseLine_5 23 rfl rfl
theorem dksX6_houseLine_7 : cX6_houseLine.data.toList.drop 162 = dktX6_houseLine_7 := dk_seg dksX6_houseLine_6 24 rfl rfl
theorem dksX6_houseLine_8 : cX6_houseLine.data.toList.drop 185 = dktX6_houseLine_8 := dk_seg dksX6_houseLine_7 23 rfl rfl
theorem dX6_houseLine_0 : decode cX6_houseLine 0 = .ok (.aload_n 0, 1) := dk_42 (dk_at dksX6_houseLine_0 0 rfl rfl)
theorem dX6_houseLine_1 : decode cX6_houseLine 1 = .ok (.invokevirtual 89, 3) := dk_182 0 89 (dk_at dksX6_houseLine_0 1 rfl rfl)
theorem dX6_houseLine_4 : decode cX6_houseLine 4 = .ok (.istore_n 1, 1) := dk_60 (dk_at dksX6_houseLine_0 4 rfl rfl)
theorem dX6_houseLine_5 : decode cX6_houseLine 5 = .ok (.aload_n 0, 1) := dk_42 (dk_at dksX6_houseLine_0 5 rfl rfl)
theorem dX6_houseLine_6 : decode cX6_houseLine 6 = .ok (.ldc 118, 2) := dk_18 118 (dk_at dksX6_houseLine_0 6 rfl rfl)
theorem dX6_houseLine_8 : decode cX6_houseLine 8 = .ok (.invokevirtual 96, 3) := dk_182 0 96 (dk_at dksX6_houseLine_0 8 rfl rfl)
theorem dX6_houseLine_11 : decode cX6_houseLine 11 = .ok (.ifCond .eq 11, 3) := dk_153 0 11 (dk_at dksX6_houseLine_0 11 rfl rfl)
theorem dX6_houseLine_14 : decode cX6_houseLine 14 = .ok (.aload_n 0, 1) := dk_42 (dk_at dksX6_houseLine_0 14 rfl rfl)
theorem dX6_houseLine_15 : decode cX6_houseLine 15 = .ok (.iload_n 1, 1) := dk_27 (dk_at dksX6_houseLine_0 15 rfl rfl)
theorem dX6_houseLine_16 : decode cX6_houseLine 16 = .ok (.invokevirtual 120, 3) := dk_182 0 120 (dk_at dksX6_houseLine_0 16 rfl rfl)
theorem dX6_houseLine_19 : decode cX6_houseLine 19 = .ok (.goto 183, 3) := dk_167 0 183 (dk_at dksX6_houseLine_0 19 rfl rfl)
theorem dX6_houseLine_22 : decode cX6_houseLine 22 = .ok (.aload_n 0, 1) := dk_42 (dk_at dksX6_houseLine_0 22 rfl rfl)
theorem dX6_houseLine_23 : decode cX6_houseLine 23 = .ok (.ldc 123, 2) := dk_18 123 (dk_at dksX6_houseLine_1 0 rfl rfl)
theorem dX6_houseLine_25 : decode cX6_houseLine 25 = .ok (.invokevirtual 96, 3) := dk_182 0 96 (dk_at dksX6_houseLine_1 2 rfl rfl)
theorem dX6_houseLine_28 : decode cX6_houseLine 28 = .ok (.ifCond .eq 10, 3) := dk_153 0 10 (dk_at dksX6_houseLine_1 5 rfl rfl)
theorem dX6_houseLine_31 : decode cX6_houseLine 31 = .ok (.aload_n 0, 1) := dk_42 (dk_at dksX6_houseLine_1 8 rfl rfl)
theorem dX6_houseLine_32 : decode cX6_houseLine 32 = .ok (.invokevirtual 125, 3) := dk_182 0 125 (dk_at dksX6_houseLine_1 9 rfl rfl)
theorem dX6_houseLine_35 : decode cX6_houseLine 35 = .ok (.goto 167, 3) := dk_167 0 167 (dk_at dksX6_houseLine_1 12 rfl rfl)
theorem dX6_houseLine_38 : decode cX6_houseLine 38 = .ok (.aload_n 0, 1) := dk_42 (dk_at dksX6_houseLine_1 15 rfl rfl)
theorem dX6_houseLine_39 : decode cX6_houseLine 39 = .ok (.ldc 128, 2) := dk_18 128 (dk_at dksX6_houseLine_1 16 rfl rfl)
theorem dX6_houseLine_41 : decode cX6_houseLine 41 = .ok (.invokevirtual 96, 3) := dk_182 0 96 (dk_at dksX6_houseLine_1 18 rfl rfl)
theorem dX6_houseLine_44 : decode cX6_houseLine 44 = .ok (.ifCond .eq 13, 3) := dk_153 0 13 (dk_at dksX6_houseLine_1 21 rfl rfl)
theorem dX6_houseLine_47 : decode cX6_houseLine 47 = .ok (.aload_n 0, 1) := dk_42 (dk_at dksX6_houseLine_2 0 rfl rfl)
theorem dX6_houseLine_48 : decode cX6_houseLine 48 = .ok (.iconst 4, 1) := dk_7 (dk_at dksX6_houseLine_2 1 rfl rfl)
theorem dX6_houseLine_49 : decode cX6_houseLine 49 = .ok (.bipush 7, 2) := dk_16 7 (dk_at dksX6_houseLine_2 2 rfl rfl)
theorem dX6_houseLine_51 : decode cX6_houseLine 51 = .ok (.invokevirtual 130, 3) := dk_182 0 130 (dk_at dksX6_houseLine_2 4 rfl rfl)
theorem dX6_houseLine_54 : decode cX6_houseLine 54 = .ok (.goto 148, 3) := dk_167 0 148 (dk_at dksX6_houseLine_2 7 rfl rfl)
theorem dX6_houseLine_57 : decode cX6_houseLine 57 = .ok (.aload_n 0, 1) := dk_42 (dk_at dksX6_houseLine_2 10 rfl rfl)
theorem dX6_houseLine_58 : decode cX6_houseLine 58 = .ok (.ldc 134, 2) := dk_18 134 (dk_at dksX6_houseLine_2 11 rfl rfl)
theorem dX6_houseLine_60 : decode cX6_houseLine 60 = .ok (.invokevirtual 96, 3) := dk_182 0 96 (dk_at dksX6_houseLine_2 13 rfl rfl)
theorem dX6_houseLine_63 : decode cX6_houseLine 63 = .ok (.ifCond .eq 31, 3) := dk_153 0 31 (dk_at dksX6_houseLine_2 16 rfl rfl)
theorem dX6_houseLine_66 : decode cX6_houseLine 66 = .ok (.aload_n 0, 1) := dk_42 (dk_at dksX6_houseLine_2 19 rfl rfl)
theorem dX6_houseLine_67 : decode cX6_houseLine 67 = .ok (.iconst 0, 1) := dk_3 (dk_at dksX6_houseLine_2 20 rfl rfl)
theorem dX6_houseLine_68 : decode cX6_houseLine 68 = .ok (.iconst 1, 1) := dk_4 (dk_at dksX6_houseLine_2 21 rfl rfl)
theorem dX6_houseLine_69 : decode cX6_houseLine 69 = .ok (.invokevirtual 100, 3) := dk_182 0 100 (dk_at dksX6_houseLine_3 0 rfl rfl)
theorem dX6_houseLine_72 : decode cX6_houseLine 72 = .ok (.istore_n 2, 1) := dk_61 (dk_at dksX6_houseLine_3 3 rfl rfl)
theorem dX6_houseLine_73 : decode cX6_houseLine 73 = .ok (.aload_n 0, 1) := dk_42 (dk_at dksX6_houseLine_3 4 rfl rfl)
theorem dX6_houseLine_74 : decode cX6_houseLine 74 = .ok (.getfield 25, 3) := dk_180 0 25 (dk_at dksX6_houseLine_3 5 rfl rfl)
theorem dX6_houseLine_77 : decode cX6_houseLine 77 = .ok (.iconst (-1), 1) := dk_2 (dk_at dksX6_houseLine_3 8 rfl rfl)
theorem dX6_houseLine_78 : decode cX6_houseLine 78 = .ok (.if_icmp .ne 13, 3) := dk_160 0 13 (dk_at dksX6_houseLine_3 9 rfl rfl)
theorem dX6_houseLine_81 : decode cX6_houseLine 81 = .ok (.aload_n 0, 1) := dk_42 (dk_at dksX6_houseLine_3 12 rfl rfl)
theorem dX6_houseLine_82 : decode cX6_houseLine 82 = .ok (.bipush 12, 2) := dk_16 12 (dk_at dksX6_houseLine_3 13 rfl rfl)
theorem dX6_houseLine_84 : decode cX6_houseLine 84 = .ok (.iload_n 2, 1) := dk_28 (dk_at dksX6_houseLine_3 15 rfl rfl)
theorem dX6_houseLine_85 : decode cX6_houseLine 85 = .ok (.iadd, 1) := dk_96 (dk_at dksX6_houseLine_3 16 rfl rfl)
theorem dX6_houseLine_86 : decode cX6_houseLine 86 = .ok (.bipush 6, 2) := dk_16 6 (dk_at dksX6_houseLine_3 17 rfl rfl)
theorem dX6_houseLine_88 : decode cX6_houseLine 88 = .ok (.invokevirtual 130, 3) := dk_182 0 130 (dk_at dksX6_houseLine_3 19 rfl rfl)
theorem dX6_houseLine_91 : decode cX6_houseLine 91 = .ok (.goto 111, 3) := dk_167 0 111 (dk_at dksX6_houseLine_4 0 rfl rfl)
theorem dX6_houseLine_94 : decode cX6_houseLine 94 = .ok (.aload_n 0, 1) := dk_42 (dk_at dksX6_houseLine_4 3 rfl rfl)
theorem dX6_houseLine_95 : decode cX6_houseLine 95 = .ok (.ldc 136, 2) := dk_18 136 (dk_at dksX6_houseLine_4 4 rfl rfl)
theorem dX6_houseLine_97 : decode cX6_houseLine 97 = .ok (.invokevirtual 96, 3) := dk_182 0 96 (dk_at dksX6_houseLine_4 6 rfl rfl)
theorem dX6_houseLine_100 : decode cX6_houseLine 100 = .ok (.ifCond .eq 12, 3) := dk_153 0 12 (dk_at dksX6_houseLine_4 9 rfl rfl)
theorem dX6_houseLine_103 : decode cX6_houseLine 103 = .ok (.aload_n 0, 1) := dk_42 (dk_at dksX6_houseLine_4 12 rfl rfl)
theorem dX6_houseLine_104 : decode cX6_houseLine 104 = .ok (.iconst 5, 1) := dk_8 (dk_at dksX6_houseLine_4 13 rfl rfl)
theorem dX6_houseLine_105 : decode cX6_houseLine 105 = .ok (.iconst 1, 1) := dk_4 (dk_at dksX6_houseLine_4 14 rfl rfl)
theorem dX6_houseLine_106 : decode cX6_houseLine 106 = .ok (.invokevirtual 130, 3) := dk_182 0 130 (dk_at dksX6_houseLine_4 15 rfl rfl)
theorem dX6_houseLine_109 : decode cX6_houseLine 109 = .ok (.goto 93, 3) := dk_167 0 93 (dk_at dksX6_houseLine_4 18 rfl rfl)
theorem dX6_houseLine_112 : decode cX6_houseLine 112 = .ok (.aload_n 0, 1) := dk_42 (dk_at dksX6_houseLine_4 21 rfl rfl)
theorem dX6_houseLine_113 : decode cX6_houseLine 113 = .ok (.ldc 138, 2) := dk_18 138 (dk_at dksX6_houseLine_4 22 rfl rfl)
theorem dX6_houseLine_115 : decode cX6_houseLine 115 = .ok (.invokevirtual 96, 3) := dk_182 0 96 (dk_at dksX6_houseLine_5 0 rfl rfl)
theorem dX6_houseLine_118 : decode cX6_houseLine 118 = .ok (.ifCond .eq 14, 3) := dk_153 0 14 (dk_at dksX6_houseLine_5 3 rfl rfl)
theorem dX6_houseLine_121 : decode cX6_houseLine 121 = .ok (.aload_n 0, 1) := dk_42 (dk_at dksX6_houseLine_5 6 rfl rfl)
theorem dX6_houseLine_122 : decode cX6_houseLine 122 = .ok (.bipush 6, 2) := dk_16 6 (dk_at dksX6_houseLine_5 7 rfl rfl)
theorem dX6_houseLine_124 : decode cX6_houseLine 124 = .ok (.bipush 9, 2) := dk_16 9 (dk_at dksX6_houseLine_5 9 rfl rfl)
theorem dX6_houseLine_126 : decode cX6_houseLine 126 = .ok (.invokevirtual 130, 3) := dk_182 0 130 (dk_at dksX6_houseLine_5 11 rfl rfl)
theorem dX6_houseLine_129 : decode cX6_houseLine 129 = .ok (.goto 73, 3) := dk_167 0 73 (dk_at dksX6_houseLine_5 14 rfl rfl)
theorem dX6_houseLine_132 : decode cX6_houseLine 132 = .ok (.aload_n 0, 1) := dk_42 (dk_at dksX6_houseLine_5 17 rfl rfl)
theorem dX6_houseLine_133 : decode cX6_houseLine 133 = .ok (.ldc 140, 2) := dk_18 140 (dk_at dksX6_houseLine_5 18 rfl rfl)
theorem dX6_houseLine_135 : decode cX6_houseLine 135 = .ok (.invokevirtual 96, 3) := dk_182 0 96 (dk_at dksX6_houseLine_5 20 rfl rfl)
theorem dX6_houseLine_138 : decode cX6_houseLine 138 = .ok (.ifCond .eq 15, 3) := dk_153 0 15 (dk_at dksX6_houseLine_6 0 rfl rfl)
theorem dX6_houseLine_141 : decode cX6_houseLine 141 = .ok (.aload_n 0, 1) := dk_42 (dk_at dksX6_houseLine_6 3 rfl rfl)
theorem dX6_houseLine_142 : decode cX6_houseLine 142 = .ok (.bipush 7, 2) := dk_16 7 (dk_at dksX6_houseLine_6 4 rfl rfl)
theorem dX6_houseLine_144 : decode cX6_houseLine 144 = .ok (.sipush 999, 3) := dk_17 3 231 (dk_at dksX6_houseLine_6 6 rfl rfl)
theorem dX6_houseLine_147 : decode cX6_houseLine 147 = .ok (.invokevirtual 130, 3) := dk_182 0 130 (dk_at dksX6_houseLine_6 9 rfl rfl)
theorem dX6_houseLine_150 : decode cX6_houseLine 150 = .ok (.goto 52, 3) := dk_167 0 52 (dk_at dksX6_houseLine_6 12 rfl rfl)
theorem dX6_houseLine_153 : decode cX6_houseLine 153 = .ok (.aload_n 0, 1) := dk_42 (dk_at dksX6_houseLine_6 15 rfl rfl)
theorem dX6_houseLine_154 : decode cX6_houseLine 154 = .ok (.ldc 142, 2) := dk_18 142 (dk_at dksX6_houseLine_6 16 rfl rfl)
theorem dX6_houseLine_156 : decode cX6_houseLine 156 = .ok (.invokevirtual 96, 3) := dk_182 0 96 (dk_at dksX6_houseLine_6 18 rfl rfl)
theorem dX6_houseLine_159 : decode cX6_houseLine 159 = .ok (.ifCond .eq 14, 3) := dk_153 0 14 (dk_at dksX6_houseLine_6 21 rfl rfl)
theorem dX6_houseLine_162 : decode cX6_houseLine 162 = .ok (.aload_n 0, 1) := dk_42 (dk_at dksX6_houseLine_7 0 rfl rfl)
theorem dX6_houseLine_163 : decode cX6_houseLine 163 = .ok (.bipush 9, 2) := dk_16 9 (dk_at dksX6_houseLine_7 1 rfl rfl)
theorem dX6_houseLine_165 : decode cX6_houseLine 165 = .ok (.bipush 100, 2) := dk_16 100 (dk_at dksX6_houseLine_7 3 rfl rfl)
theorem dX6_houseLine_167 : decode cX6_houseLine 167 = .ok (.invokevirtual 130, 3) := dk_182 0 130 (dk_at dksX6_houseLine_7 5 rfl rfl)
theorem dX6_houseLine_170 : decode cX6_houseLine 170 = .ok (.goto 32, 3) := dk_167 0 32 (dk_at dksX6_houseLine_7 8 rfl rfl)
theorem dX6_houseLine_173 : decode cX6_houseLine 173 = .ok (.aload_n 0, 1) := dk_42 (dk_at dksX6_houseLine_7 11 rfl rfl)
theorem dX6_houseLine_174 : decode cX6_houseLine 174 = .ok (.ldc 144, 2) := dk_18 144 (dk_at dksX6_houseLine_7 12 rfl rfl)
theorem dX6_houseLine_176 : decode cX6_houseLine 176 = .ok (.invokevirtual 96, 3) := dk_182 0 96 (dk_at dksX6_houseLine_7 14 rfl rfl)
theorem dX6_houseLine_179 : decode cX6_houseLine 179 = .ok (.ifCond .eq 15, 3) := dk_153 0 15 (dk_at dksX6_houseLine_7 17 rfl rfl)
theorem dX6_houseLine_182 : decode cX6_houseLine 182 = .ok (.aload_n 0, 1) := dk_42 (dk_at dksX6_houseLine_7 20 rfl rfl)
theorem dX6_houseLine_183 : decode cX6_houseLine 183 = .ok (.bipush 10, 2) := dk_16 10 (dk_at dksX6_houseLine_7 21 rfl rfl)
theorem dX6_houseLine_185 : decode cX6_houseLine 185 = .ok (.sipush 999, 3) := dk_17 3 231 (dk_at dksX6_houseLine_8 0 rfl rfl)
theorem dX6_houseLine_188 : decode cX6_houseLine 188 = .ok (.invokevirtual 130, 3) := dk_182 0 130 (dk_at dksX6_houseLine_8 3 rfl rfl)
theorem dX6_houseLine_191 : decode cX6_houseLine 191 = .ok (.goto 11, 3) := dk_167 0 11 (dk_at dksX6_houseLine_8 6 rfl rfl)
theorem dX6_houseLine_194 : decode cX6_houseLine 194 = .ok (.aload_n 0, 1) := dk_42 (dk_at dksX6_houseLine_8 9 rfl rfl)
theorem dX6_houseLine_195 : decode cX6_houseLine 195 = .ok (.aload_n 0, 1) := dk_42 (dk_at dksX6_houseLine_8 10 rfl rfl)
theorem dX6_houseLine_196 : decode cX6_houseLine 196 = .ok (.getfield 67, 3) := dk_180 0 67 (dk_at dksX6_houseLine_8 11 rfl rfl)
theorem dX6_houseLine_199 : decode cX6_houseLine 199 = .ok (.invokevirtual 92, 3) := dk_182 0 92 (dk_at dksX6_houseLine_8 14 rfl rfl)
theorem dX6_houseLine_202 : decode cX6_houseLine 202 = .ok (.return_, 1) := dk_177 (dk_at dksX6_houseLine_8 17 rfl rfl)
abbrev cX6_guestLine : ByteArray := prog_18_method_26_code
def yX6_guestLine : MethodName := ⟨RX6, "guestLine", "(I)V"⟩
def dkwX6_guestLine_7 : List UInt8 := [92, 46, 4, 96, 79, 177]
abbrev dktX6_guestLine_7 : List UInt8 := dkwX6_guestLine_7 ++ []
def dkwX6_guestLine_6 : List UInt8 := [153, 0, 7, 4, 167, 0, 4, 3, 182, 0, 114, 42, 21, 6, 7, 4, 182, 0, 114, 42, 180, 0, 7, 6]
abbrev dktX6_guestLine_6 : List UInt8 := dkwX6_guestLine_6 ++ dktX6_guestLine_7
def dkwX6_guestLine_5 : List UInt8 := [42, 21, 6, 4, 28, 182, 0, 114, 42, 21, 6, 5, 21, 4, 182, 0, 114, 42, 21, 6, 6, 21, 5]
abbrev dktX6_guestLine_5 : List UInt8 := dkwX6_guestLine_5 ++ dktX6_guestLine_6
def dkwX6_guestLine_4 : List UInt8 := [180, 0, 25, 2, 159, 0, 4, 177, 42, 180, 0, 7, 6, 46, 54, 6, 42, 21, 6, 3, 29, 182, 0, 114]
abbrev dktX6_guestLine_4 : List UInt8 := dkwX6_guestLine_4 ++ dktX6_guestLine_5
def dkwX6_guestLine_3 : List UInt8 := [180, 0, 25, 2, 160, 0, 16, 42, 18, 112, 182, 0, 96, 153, 0, 7, 4, 167, 0, 4, 3, 54, 5, 42]
abbrev dktX6_guestLine_3 : List UInt8 := dkwX6_guestLine_3 ++ dktX6_guestLine_4
def dkwX6_guestLine_2 : List UInt8 := [18, 110, 182, 0, 96, 153, 0, 13, 42, 3, 16, 99, 182, 0, 100, 167, 0, 4, 3, 54, 4, 42]
abbrev dktX6_guestLine_2 : List UInt8 := dkwX6_guestLine_2 ++ dktX6_guestLine_3
def dkwX6_guestLine_1 : List UInt8 := [182, 0, 105, 61, 42, 18, 109, 3, 16, 7, 182, 0, 105, 62, 42, 180, 0, 25, 2, 160, 0, 22, 42]
abbrev dktX6_guestLine_1 : List UInt8 := dkwX6_guestLine_1 ++ dktX6_guestLine_2
def dkwX6_guestLine_0 : List UInt8 := [42, 180, 0, 7, 6, 46, 16, 8, 160, 0, 8, 42, 27, 182, 0, 92, 42, 18, 103, 3, 16, 10]
abbrev dktX6_guestLine_0 : List UInt8 := dkwX6_guestLine_0 ++ dktX6_guestLine_1
theorem dksX6_guestLine_0 : cX6_guestLine.data.toList.drop 0 = dktX6_guestLine_0 := by decide +kernel
theorem dksX6_guestLine_1 : cX6_guestLine.data.toList.drop 22 = dktX6_guestLine_1 := dk_seg dksX6_guestLine_0 22 rfl rfl
theorem dksX6_guestLine_2 : cX6_guestLine.data.toList.drop 45 = dktX6_guestLine_2 := dk_seg dksX6_guestLine_1 23 rfl rfl
theorem dksX6_guestLine_3 : cX6_guestLine.data.toList.drop 67 = dktX6_guestLine_3 := dk_seg dksX6_guestLine_2 22 rfl rfl
theorem dksX6_guestLine_4 : cX6_guestLine.data.toList.drop 91 = dktX6_guestLine_4 := dk_seg dksX6_guestLine_3 24 rfl rfl
theorem dksX6_guestLine_5 : cX6_guestLine.data.toList.drop 115 = dktX6_guestLine_5 := dk_seg dksX6_guestLine_4 24 rfl rfl
theorem dksX6_guestLine_6 : cX6_guestLine.data.toList.drop 138 = dktX6_guestLine_6 := dk_seg dksX6_guestLine_5 23 rfl rfl
theorem dksX6_guestLine_7 : cX6_guestLine.data.toList.drop 162 = dktX6_guestLine_7 := dk_seg dksX6_guestLine_6 24 rfl rfl
theorem dX6_guestLine_0 : decode cX6_guestLine 0 = .ok (.aload_n 0, 1) := dk_42 (dk_at dksX6_guestLine_0 0 rfl rfl)
theorem dX6_guestLine_1 : decode cX6_guestLine 1 = .ok (.getfield 7, 3) := dk_180 0 7 (dk_at dksX6_guestLine_0 1 rfl rfl)
theorem dX6_guestLine_4 : decode cX6_guestLine 4 = .ok (.iconst 3, 1) := dk_6 (dk_at dksX6_guestLine_0 4 rfl rfl)
theorem dX6_guestLine_5 : decode cX6_guestLine 5 = .ok (.iaload, 1) := dk_46 (dk_at dksX6_guestLine_0 5 rfl rfl)
theorem dX6_guestLine_6 : decode cX6_guestLine 6 = .ok (.bipush 8, 2) := dk_16 8 (dk_at dksX6_guestLine_0 6 rfl rfl)
theorem dX6_guestLine_8 : decode cX6_guestLine 8 = .ok (.if_icmp .ne 8, 3) := dk_160 0 8 (dk_at dksX6_guestLine_0 8 rfl rfl)
theorem dX6_guestLine_11 : decode cX6_guestLine 11 = .ok (.aload_n 0, 1) := dk_42 (dk_at dksX6_guestLine_0 11 rfl rfl)
theorem dX6_guestLine_12 : decode cX6_guestLine 12 = .ok (.iload_n 1, 1) := dk_27 (dk_at dksX6_guestLine_0 12 rfl rfl)
theorem dX6_guestLine_13 : decode cX6_guestLine 13 = .ok (.invokevirtual 92, 3) := dk_182 0 92 (dk_at dksX6_guestLine_0 13 rfl rfl)
theorem dX6_guestLine_16 : decode cX6_guestLine 16 = .ok (.aload_n 0, 1) := dk_42 (dk_at dksX6_guestLine_0 16 rfl rfl)
theorem dX6_guestLine_17 : decode cX6_guestLine 17 = .ok (.ldc 103, 2) := dk_18 103 (dk_at dksX6_guestLine_0 17 rfl rfl)
theorem dX6_guestLine_19 : decode cX6_guestLine 19 = .ok (.iconst 0, 1) := dk_3 (dk_at dksX6_guestLine_0 19 rfl rfl)
theorem dX6_guestLine_20 : decode cX6_guestLine 20 = .ok (.bipush 10, 2) := dk_16 10 (dk_at dksX6_guestLine_0 20 rfl rfl)
theorem dX6_guestLine_22 : decode cX6_guestLine 22 = .ok (.invokevirtual 105, 3) := dk_182 0 105 (dk_at dksX6_guestLine_1 0 rfl rfl)
theorem dX6_guestLine_25 : decode cX6_guestLine 25 = .ok (.istore_n 2, 1) := dk_61 (dk_at dksX6_guestLine_1 3 rfl rfl)
theorem dX6_guestLine_26 : decode cX6_guestLine 26 = .ok (.aload_n 0, 1) := dk_42 (dk_at dksX6_guestLine_1 4 rfl rfl)
theorem dX6_guestLine_27 : decode cX6_guestLine 27 = .ok (.ldc 109, 2) := dk_18 109 (dk_at dksX6_guestLine_1 5 rfl rfl)
theorem dX6_guestLine_29 : decode cX6_guestLine 29 = .ok (.iconst 0, 1) := dk_3 (dk_at dksX6_guestLine_1 7 rfl rfl)
theorem dX6_guestLine_30 : decode cX6_guestLine 30 = .ok (.bipush 7, 2) := dk_16 7 (dk_at dksX6_guestLine_1 8 rfl rfl)
theorem dX6_guestLine_32 : decode cX6_guestLine 32 = .ok (.invokevirtual 105, 3) := dk_182 0 105 (dk_at dksX6_guestLine_1 10 rfl rfl)
theorem dX6_guestLine_35 : decode cX6_guestLine 35 = .ok (.istore_n 3, 1) := dk_62 (dk_at dksX6_guestLine_1 13 rfl rfl)
theorem dX6_guestLine_36 : decode cX6_guestLine 36 = .ok (.aload_n 0, 1) := dk_42 (dk_at dksX6_guestLine_1 14 rfl rfl)
theorem dX6_guestLine_37 : decode cX6_guestLine 37 = .ok (.getfield 25, 3) := dk_180 0 25 (dk_at dksX6_guestLine_1 15 rfl rfl)
theorem dX6_guestLine_40 : decode cX6_guestLine 40 = .ok (.iconst (-1), 1) := dk_2 (dk_at dksX6_guestLine_1 18 rfl rfl)
theorem dX6_guestLine_41 : decode cX6_guestLine 41 = .ok (.if_icmp .ne 22, 3) := dk_160 0 22 (dk_at dksX6_guestLine_1 19 rfl rfl)
theorem dX6_guestLine_44 : decode cX6_guestLine 44 = .ok (.aload_n 0, 1) := dk_42 (dk_at dksX6_guestLine_1 22 rfl rfl)
theorem dX6_guestLine_45 : decode cX6_guestLine 45 = .ok (.ldc 110, 2) := dk_18 110 (dk_at dksX6_guestLine_2 0 rfl rfl)
theorem dX6_guestLine_47 : decode cX6_guestLine 47 = .ok (.invokevirtual 96, 3) := dk_182 0 96 (dk_at dksX6_guestLine_2 2 rfl rfl)
theorem dX6_guestLine_50 : decode cX6_guestLine 50 = .ok (.ifCond .eq 13, 3) := dk_153 0 13 (dk_at dksX6_guestLine_2 5 rfl rfl)
theorem dX6_guestLine_53 : decode cX6_guestLine 53 = .ok (.aload_n 0, 1) := dk_42 (dk_at dksX6_guestLine_2 8 rfl rfl)
theorem dX6_guestLine_54 : decode cX6_guestLine 54 = .ok (.iconst 0, 1) := dk_3 (dk_at dksX6_guestLine_2 9 rfl rfl)
theorem dX6_guestLine_55 : decode cX6_guestLine 55 = .ok (.bipush 99, 2) := dk_16 99 (dk_at dksX6_guestLine_2 10 rfl rfl)
theorem dX6_guestLine_57 : decode cX6_guestLine 57 = .ok (.invokevirtual 100, 3) := dk_182 0 100 (dk_at dksX6_guestLine_2 12 rfl rfl)
theorem dX6_guestLine_60 : decode cX6_guestLine 60 = .ok (.goto 4, 3) := dk_167 0 4 (dk_at dksX6_guestLine_2 15 rfl rfl)
theorem dX6_guestLine_63 : decode cX6_guestLine 63 = .ok (.iconst 0, 1) := dk_3 (dk_at dksX6_guestLine_2 18 rfl rfl)
theorem dX6_guestLine_64 : decode cX6_guestLine 64 = .ok (.istore 4, 2) := dk_54 4 (dk_at dksX6_guestLine_2 19 rfl rfl)
theorem dX6_guestLine_66 : decode cX6_guestLine 66 = .ok (.aload_n 0, 1) := dk_42 (dk_at dksX6_guestLine_2 21 rfl rfl)
theorem dX6_guestLine_67 : decode cX6_guestLine 67 = .ok (.getfield 25, 3) := dk_180 0 25 (dk_at dksX6_guestLine_3 0 rfl rfl)
theorem dX6_guestLine_70 : decode cX6_guestLine 70 = .ok (.iconst (-1), 1) := dk_2 (dk_at dksX6_guestLine_3 3 rfl rfl)
theorem dX6_guestLine_71 : decode cX6_guestLine 71 = .ok (.if_icmp .ne 16, 3) := dk_160 0 16 (dk_at dksX6_guestLine_3 4 rfl rfl)
theorem dX6_guestLine_74 : decode cX6_guestLine 74 = .ok (.aload_n 0, 1) := dk_42 (dk_at dksX6_guestLine_3 7 rfl rfl)
theorem dX6_guestLine_75 : decode cX6_guestLine 75 = .ok (.ldc 112, 2) := dk_18 112 (dk_at dksX6_guestLine_3 8 rfl rfl)
theorem dX6_guestLine_77 : decode cX6_guestLine 77 = .ok (.invokevirtual 96, 3) := dk_182 0 96 (dk_at dksX6_guestLine_3 10 rfl rfl)
theorem dX6_guestLine_80 : decode cX6_guestLine 80 = .ok (.ifCond .eq 7, 3) := dk_153 0 7 (dk_at dksX6_guestLine_3 13 rfl rfl)
theorem dX6_guestLine_83 : decode cX6_guestLine 83 = .ok (.iconst 1, 1) := dk_4 (dk_at dksX6_guestLine_3 16 rfl rfl)
theorem dX6_guestLine_84 : decode cX6_guestLine 84 = .ok (.goto 4, 3) := dk_167 0 4 (dk_at dksX6_guestLine_3 17 rfl rfl)
theorem dX6_guestLine_87 : decode cX6_guestLine 87 = .ok (.iconst 0, 1) := dk_3 (dk_at dksX6_guestLine_3 20 rfl rfl)
theorem dX6_guestLine_88 : decode cX6_guestLine 88 = .ok (.istore 5, 2) := dk_54 5 (dk_at dksX6_guestLine_3 21 rfl rfl)
theorem dX6_guestLine_90 : decode cX6_guestLine 90 = .ok (.aload_n 0, 1) := dk_42 (dk_at dksX6_guestLine_3 23 rfl rfl)
theorem dX6_guestLine_91 : decode cX6_guestLine 91 = .ok (.getfield 25, 3) := dk_180 0 25 (dk_at dksX6_guestLine_4 0 rfl rfl)
theorem dX6_guestLine_94 : decode cX6_guestLine 94 = .ok (.iconst (-1), 1) := dk_2 (dk_at dksX6_guestLine_4 3 rfl rfl)
theorem dX6_guestLine_95 : decode cX6_guestLine 95 = .ok (.if_icmp .eq 4, 3) := dk_159 0 4 (dk_at dksX6_guestLine_4 4 rfl rfl)
theorem dX6_guestLine_98 : decode cX6_guestLine 98 = .ok (.return_, 1) := dk_177 (dk_at dksX6_guestLine_4 7 rfl rfl)
theorem dX6_guestLine_99 : decode cX6_guestLine 99 = .ok (.aload_n 0, 1) := dk_42 (dk_at dksX6_guestLine_4 8 rfl rfl)
theorem dX6_guestLine_100 : decode cX6_guestLine 100 = .ok (.getfield 7, 3) := dk_180 0 7 (dk_at dksX6_guestLine_4 9 rfl rfl)
theorem dX6_guestLine_103 : decode cX6_guestLine 103 = .ok (.iconst 3, 1) := dk_6 (dk_at dksX6_guestLine_4 12 rfl rfl)
theorem dX6_guestLine_104 : decode cX6_guestLine 104 = .ok (.iaload, 1) := dk_46 (dk_at dksX6_guestLine_4 13 rfl rfl)
theorem dX6_guestLine_105 : decode cX6_guestLine 105 = .ok (.istore 6, 2) := dk_54 6 (dk_at dksX6_guestLine_4 14 rfl rfl)
theorem dX6_guestLine_107 : decode cX6_guestLine 107 = .ok (.aload_n 0, 1) := dk_42 (dk_at dksX6_guestLine_4 16 rfl rfl)
theorem dX6_guestLine_108 : decode cX6_guestLine 108 = .ok (.iload 6, 2) := dk_21 6 (dk_at dksX6_guestLine_4 17 rfl rfl)
theorem dX6_guestLine_110 : decode cX6_guestLine 110 = .ok (.iconst 0, 1) := dk_3 (dk_at dksX6_guestLine_4 19 rfl rfl)
theorem dX6_guestLine_111 : decode cX6_guestLine 111 = .ok (.iload_n 3, 1) := dk_29 (dk_at dksX6_guestLine_4 20 rfl rfl)
theorem dX6_guestLine_112 : decode cX6_guestLine 112 = .ok (.invokevirtual 114, 3) := dk_182 0 114 (dk_at dksX6_guestLine_4 21 rfl rfl)
theorem dX6_guestLine_115 : decode cX6_guestLine 115 = .ok (.aload_n 0, 1) := dk_42 (dk_at dksX6_guestLine_5 0 rfl rfl)
theorem dX6_guestLine_116 : decode cX6_guestLine 116 = .ok (.iload 6, 2) := dk_21 6 (dk_at dksX6_guestLine_5 1 rfl rfl)
theorem dX6_guestLine_118 : decode cX6_guestLine 118 = .ok (.iconst 1, 1) := dk_4 (dk_at dksX6_guestLine_5 3 rfl rfl)
theorem dX6_guestLine_119 : decode cX6_guestLine 119 = .ok (.iload_n 2, 1) := dk_28 (dk_at dksX6_guestLine_5 4 rfl rfl)
theorem dX6_guestLine_120 : decode cX6_guestLine 120 = .ok (.invokevirtual 114, 3) := dk_182 0 114 (dk_at dksX6_guestLine_5 5 rfl rfl)
theorem dX6_guestLine_123 : decode cX6_guestLine 123 = .ok (.aload_n 0, 1) := dk_42 (dk_at dksX6_guestLine_5 8 rfl rfl)
theorem dX6_guestLine_124 : decode cX6_guestLine 124 = .ok (.iload 6, 2) := dk_21 6 (dk_at dksX6_guestLine_5 9 rfl rfl)
theorem dX6_guestLine_126 : decode cX6_guestLine 126 = .ok (.iconst 2, 1) := dk_5 (dk_at dksX6_guestLine_5 11 rfl rfl)
theorem dX6_guestLine_127 : decode cX6_guestLine 127 = .ok (.iload 4, 2) := dk_21 4 (dk_at dksX6_guestLine_5 12 rfl rfl)
theorem dX6_guestLine_129 : decode cX6_guestLine 129 = .ok (.invokevirtual 114, 3) := dk_182 0 114 (dk_at dksX6_guestLine_5 14 rfl rfl)
theorem dX6_guestLine_132 : decode cX6_guestLine 132 = .ok (.aload_n 0, 1) := dk_42 (dk_at dksX6_guestLine_5 17 rfl rfl)
theorem dX6_guestLine_133 : decode cX6_guestLine 133 = .ok (.iload 6, 2) := dk_21 6 (dk_at dksX6_guestLine_5 18 rfl rfl)
theorem dX6_guestLine_135 : decode cX6_guestLine 135 = .ok (.iconst 3, 1) := dk_6 (dk_at dksX6_guestLine_5 20 rfl rfl)
theorem dX6_guestLine_136 : decode cX6_guestLine 136 = .ok (.iload 5, 2) := dk_21 5 (dk_at dksX6_guestLine_5 21 rfl rfl)
theorem dX6_guestLine_138 : decode cX6_guestLine 138 = .ok (.ifCond .eq 7, 3) := dk_153 0 7 (dk_at dksX6_guestLine_6 0 rfl rfl)
theorem dX6_guestLine_141 : decode cX6_guestLine 141 = .ok (.iconst 1, 1) := dk_4 (dk_at dksX6_guestLine_6 3 rfl rfl)
theorem dX6_guestLine_142 : decode cX6_guestLine 142 = .ok (.goto 4, 3) := dk_167 0 4 (dk_at dksX6_guestLine_6 4 rfl rfl)
theorem dX6_guestLine_145 : decode cX6_guestLine 145 = .ok (.iconst 0, 1) := dk_3 (dk_at dksX6_guestLine_6 7 rfl rfl)
theorem dX6_guestLine_146 : decode cX6_guestLine 146 = .ok (.invokevirtual 114, 3) := dk_182 0 114 (dk_at dksX6_guestLine_6 8 rfl rfl)
theorem dX6_guestLine_149 : decode cX6_guestLine 149 = .ok (.aload_n 0, 1) := dk_42 (dk_at dksX6_guestLine_6 11 rfl rfl)
theorem dX6_guestLine_150 : decode cX6_guestLine 150 = .ok (.iload 6, 2) := dk_21 6 (dk_at dksX6_guestLine_6 12 rfl rfl)
theorem dX6_guestLine_152 : decode cX6_guestLine 152 = .ok (.iconst 4, 1) := dk_7 (dk_at dksX6_guestLine_6 14 rfl rfl)
theorem dX6_guestLine_153 : decode cX6_guestLine 153 = .ok (.iconst 1, 1) := dk_4 (dk_at dksX6_guestLine_6 15 rfl rfl)
theorem dX6_guestLine_154 : decode cX6_guestLine 154 = .ok (.invokevirtual 114, 3) := dk_182 0 114 (dk_at dksX6_guestLine_6 16 rfl rfl)
theorem dX6_guestLine_157 : decode cX6_guestLine 157 = .ok (.aload_n 0, 1) := dk_42 (dk_at dksX6_guestLine_6 19 rfl rfl)
theorem dX6_guestLine_158 : decode cX6_guestLine 158 = .ok (.getfield 7, 3) := dk_180 0 7 (dk_at dksX6_guestLine_6 20 rfl rfl)
theorem dX6_guestLine_161 : decode cX6_guestLine 161 = .ok (.iconst 3, 1) := dk_6 (dk_at dksX6_guestLine_6 23 rfl rfl)
theorem dX6_guestLine_162 : decode cX6_guestLine 162 = .ok (.dup2, 1) := dk_92 (dk_at dksX6_guestLine_7 0 rfl rfl)
theorem dX6_guestLine_163 : decode cX6_guestLine 163 = .ok (.iaload, 1) := dk_46 (dk_at dksX6_guestLine_7 1 rfl rfl)
theorem dX6_guestLine_164 : decode cX6_guestLine 164 = .ok (.iconst 1, 1) := dk_4 (dk_at dksX6_guestLine_7 2 rfl rfl)
theorem dX6_guestLine_165 : decode cX6_guestLine 165 = .ok (.iadd, 1) := dk_96 (dk_at dksX6_guestLine_7 3 rfl rfl)
theorem dX6_guestLine_166 : decode cX6_guestLine 166 = .ok (.iastore, 1) := dk_79 (dk_at dksX6_guestLine_7 4 rfl rfl)
theorem dX6_guestLine_167 : decode cX6_guestLine 167 = .ok (.return_, 1) := dk_177 (dk_at dksX6_guestLine_7 5 rfl rfl)
abbrev cX6_after : ByteArray := prog_18_method_25_code
def yX6_after : MethodName := ⟨RX6, "after", "(Ljava/lang/String;II)I"⟩
def dkwX6_after_1 : List UInt8 := [42, 28, 29, 182, 0, 100, 172]
abbrev dktX6_after_1 : List UInt8 := dkwX6_after_1 ++ []
def dkwX6_after_0 : List UInt8 := [42, 180, 0, 25, 2, 160, 0, 19, 42, 43, 182, 0, 96, 154, 0, 11, 42, 42, 180, 0, 67, 182, 0, 92]
abbrev dktX6_after_0 : List UInt8 := dkwX6_after_0 ++ dktX6_after_1
theorem dksX6_after_0 : cX6_after.data.toList.drop 0 = dktX6_after_0 := by decide +kernel
theorem dksX6_after_1 : cX6_after.data.toList.drop 24 = dktX6_after_1 := dk_seg dksX6_after_0 24 rfl rfl
theorem dX6_after_0 : decode cX6_after 0 = .ok (.aload_n 0, 1) := dk_42 (dk_at dksX6_after_0 0 rfl rfl)
theorem dX6_after_1 : decode cX6_after 1 = .ok (.getfield 25, 3) := dk_180 0 25 (dk_at dksX6_after_0 1 rfl rfl)
theorem dX6_after_4 : decode cX6_after 4 = .ok (.iconst (-1), 1) := dk_2 (dk_at dksX6_after_0 4 rfl rfl)
theorem dX6_after_5 : decode cX6_after 5 = .ok (.if_icmp .ne 19, 3) := dk_160 0 19 (dk_at dksX6_after_0 5 rfl rfl)
theorem dX6_after_8 : decode cX6_after 8 = .ok (.aload_n 0, 1) := dk_42 (dk_at dksX6_after_0 8 rfl rfl)
theorem dX6_after_9 : decode cX6_after 9 = .ok (.aload_n 1, 1) := dk_43 (dk_at dksX6_after_0 9 rfl rfl)
theorem dX6_after_10 : decode cX6_after 10 = .ok (.invokevirtual 96, 3) := dk_182 0 96 (dk_at dksX6_after_0 10 rfl rfl)
theorem dX6_after_13 : decode cX6_after 13 = .ok (.ifCond .ne 11, 3) := dk_154 0 11 (dk_at dksX6_after_0 13 rfl rfl)
theorem dX6_after_16 : decode cX6_after 16 = .ok (.aload_n 0, 1) := dk_42 (dk_at dksX6_after_0 16 rfl rfl)
theorem dX6_after_17 : decode cX6_after 17 = .ok (.aload_n 0, 1) := dk_42 (dk_at dksX6_after_0 17 rfl rfl)
theorem dX6_after_18 : decode cX6_after 18 = .ok (.getfield 67, 3) := dk_180 0 67 (dk_at dksX6_after_0 18 rfl rfl)
theorem dX6_after_21 : decode cX6_after 21 = .ok (.invokevirtual 92, 3) := dk_182 0 92 (dk_at dksX6_after_0 21 rfl rfl)
theorem dX6_after_24 : decode cX6_after 24 = .ok (.aload_n 0, 1) := dk_42 (dk_at dksX6_after_1 0 rfl rfl)
theorem dX6_after_25 : decode cX6_after 25 = .ok (.iload_n 2, 1) := dk_28 (dk_at dksX6_after_1 1 rfl rfl)
theorem dX6_after_26 : decode cX6_after 26 = .ok (.iload_n 3, 1) := dk_29 (dk_at dksX6_after_1 2 rfl rfl)
theorem dX6_after_27 : decode cX6_after 27 = .ok (.invokevirtual 100, 3) := dk_182 0 100 (dk_at dksX6_after_1 3 rfl rfl)
theorem dX6_after_30 : decode cX6_after 30 = .ok (.ireturn, 1) := dk_172 (dk_at dksX6_after_1 6 rfl rfl)
abbrev cX6_put : ByteArray := prog_18_method_9_code
def yX6_put : MethodName := ⟨RX6, "put", "(III)V"⟩
def dkwX6_put_0 : List UInt8 := [42, 180, 0, 7, 16, 24, 8, 27, 104, 96, 28, 96, 29, 79, 177]
abbrev dktX6_put_0 : List UInt8 := dkwX6_put_0 ++ []
theorem dksX6_put_0 : cX6_put.data.toList.drop 0 = dktX6_put_0 := by decide +kernel
theorem dX6_put_0 : decode cX6_put 0 = .ok (.aload_n 0, 1) := dk_42 (dk_at dksX6_put_0 0 rfl rfl)
theorem dX6_put_1 : decode cX6_put 1 = .ok (.getfield 7, 3) := dk_180 0 7 (dk_at dksX6_put_0 1 rfl rfl)
theorem dX6_put_4 : decode cX6_put 4 = .ok (.bipush 24, 2) := dk_16 24 (dk_at dksX6_put_0 4 rfl rfl)
theorem dX6_put_6 : decode cX6_put 6 = .ok (.iconst 5, 1) := dk_8 (dk_at dksX6_put_0 6 rfl rfl)
theorem dX6_put_7 : decode cX6_put 7 = .ok (.iload_n 1, 1) := dk_27 (dk_at dksX6_put_0 7 rfl rfl)
theorem dX6_put_8 : decode cX6_put 8 = .ok (.imul, 1) := dk_104 (dk_at dksX6_put_0 8 rfl rfl)
theorem dX6_put_9 : decode cX6_put 9 = .ok (.iadd, 1) := dk_96 (dk_at dksX6_put_0 9 rfl rfl)
theorem dX6_put_10 : decode cX6_put 10 = .ok (.iload_n 2, 1) := dk_28 (dk_at dksX6_put_0 10 rfl rfl)
theorem dX6_put_11 : decode cX6_put 11 = .ok (.iadd, 1) := dk_96 (dk_at dksX6_put_0 11 rfl rfl)
theorem dX6_put_12 : decode cX6_put 12 = .ok (.iload_n 3, 1) := dk_29 (dk_at dksX6_put_0 12 rfl rfl)
theorem dX6_put_13 : decode cX6_put 13 = .ok (.iastore, 1) := dk_79 (dk_at dksX6_put_0 13 rfl rfl)
theorem dX6_put_14 : decode cX6_put 14 = .ok (.return_, 1) := dk_177 (dk_at dksX6_put_0 14 rfl rfl)
abbrev cX6_holeLine : ByteArray := prog_18_method_27_code
def yX6_holeLine : MethodName := ⟨RX6, "holeLine", "()V"⟩
def dkwX6_holeLine_2 : List UInt8 := [160, 0, 18, 42, 180, 0, 7, 16, 16, 27, 96, 92, 46, 4, 29, 120, 128, 79, 177]
abbrev dktX6_holeLine_2 : List UInt8 := dkwX6_holeLine_2 ++ []
def dkwX6_holeLine_1 : List UInt8 := [180, 0, 25, 2, 160, 0, 13, 29, 27, 160, 0, 8, 42, 28, 182, 0, 92, 42, 180, 0, 25, 2]
abbrev dktX6_holeLine_1 : List UInt8 := dkwX6_holeLine_1 ++ dktX6_holeLine_2
def dkwX6_holeLine_0 : List UInt8 := [42, 3, 16, 7, 182, 0, 100, 60, 42, 182, 0, 89, 61, 42, 3, 16, 7, 182, 0, 100, 62, 42]
abbrev dktX6_holeLine_0 : List UInt8 := dkwX6_holeLine_0 ++ dktX6_holeLine_1
theorem dksX6_holeLine_0 : cX6_holeLine.data.toList.drop 0 = dktX6_holeLine_0 := by decide +kernel
theorem dksX6_holeLine_1 : cX6_holeLine.data.toList.drop 22 = dktX6_holeLine_1 := dk_seg dksX6_holeLine_0 22 rfl rfl
theorem dksX6_holeLine_2 : cX6_holeLine.data.toList.drop 44 = dktX6_holeLine_2 := dk_seg dksX6_holeLine_1 22 rfl rfl
theorem dX6_holeLine_0 : decode cX6_holeLine 0 = .ok (.aload_n 0, 1) := dk_42 (dk_at dksX6_holeLine_0 0 rfl rfl)
theorem dX6_holeLine_1 : decode cX6_holeLine 1 = .ok (.iconst 0, 1) := dk_3 (dk_at dksX6_holeLine_0 1 rfl rfl)
theorem dX6_holeLine_2 : decode cX6_holeLine 2 = .ok (.bipush 7, 2) := dk_16 7 (dk_at dksX6_holeLine_0 2 rfl rfl)
theorem dX6_holeLine_4 : decode cX6_holeLine 4 = .ok (.invokevirtual 100, 3) := dk_182 0 100 (dk_at dksX6_holeLine_0 4 rfl rfl)
theorem dX6_holeLine_7 : decode cX6_holeLine 7 = .ok (.istore_n 1, 1) := dk_60 (dk_at dksX6_holeLine_0 7 rfl rfl)
theorem dX6_holeLine_8 : decode cX6_holeLine 8 = .ok (.aload_n 0, 1) := dk_42 (dk_at dksX6_holeLine_0 8 rfl rfl)
theorem dX6_holeLine_9 : decode cX6_holeLine 9 = .ok (.invokevirtual 89, 3) := dk_182 0 89 (dk_at dksX6_holeLine_0 9 rfl rfl)
theorem dX6_holeLine_12 : decode cX6_holeLine 12 = .ok (.istore_n 2, 1) := dk_61 (dk_at dksX6_holeLine_0 12 rfl rfl)
theorem dX6_holeLine_13 : decode cX6_holeLine 13 = .ok (.aload_n 0, 1) := dk_42 (dk_at dksX6_holeLine_0 13 rfl rfl)
theorem dX6_holeLine_14 : decode cX6_holeLine 14 = .ok (.iconst 0, 1) := dk_3 (dk_at dksX6_holeLine_0 14 rfl rfl)
theorem dX6_holeLine_15 : decode cX6_holeLine 15 = .ok (.bipush 7, 2) := dk_16 7 (dk_at dksX6_holeLine_0 15 rfl rfl)
theorem dX6_holeLine_17 : decode cX6_holeLine 17 = .ok (.invokevirtual 100, 3) := dk_182 0 100 (dk_at dksX6_holeLine_0 17 rfl rfl)
theorem dX6_holeLine_20 : decode cX6_holeLine 20 = .ok (.istore_n 3, 1) := dk_62 (dk_at dksX6_holeLine_0 20 rfl rfl)
theorem dX6_holeLine_21 : decode cX6_holeLine 21 = .ok (.aload_n 0, 1) := dk_42 (dk_at dksX6_holeLine_0 21 rfl rfl)
theorem dX6_holeLine_22 : decode cX6_holeLine 22 = .ok (.getfield 25, 3) := dk_180 0 25 (dk_at dksX6_holeLine_1 0 rfl rfl)
theorem dX6_holeLine_25 : decode cX6_holeLine 25 = .ok (.iconst (-1), 1) := dk_2 (dk_at dksX6_holeLine_1 3 rfl rfl)
theorem dX6_holeLine_26 : decode cX6_holeLine 26 = .ok (.if_icmp .ne 13, 3) := dk_160 0 13 (dk_at dksX6_holeLine_1 4 rfl rfl)
theorem dX6_holeLine_29 : decode cX6_holeLine 29 = .ok (.iload_n 3, 1) := dk_29 (dk_at dksX6_holeLine_1 7 rfl rfl)
theorem dX6_holeLine_30 : decode cX6_holeLine 30 = .ok (.iload_n 1, 1) := dk_27 (dk_at dksX6_holeLine_1 8 rfl rfl)
theorem dX6_holeLine_31 : decode cX6_holeLine 31 = .ok (.if_icmp .ne 8, 3) := dk_160 0 8 (dk_at dksX6_holeLine_1 9 rfl rfl)
theorem dX6_holeLine_34 : decode cX6_holeLine 34 = .ok (.aload_n 0, 1) := dk_42 (dk_at dksX6_holeLine_1 12 rfl rfl)
theorem dX6_holeLine_35 : decode cX6_holeLine 35 = .ok (.iload_n 2, 1) := dk_28 (dk_at dksX6_holeLine_1 13 rfl rfl)
theorem dX6_holeLine_36 : decode cX6_holeLine 36 = .ok (.invokevirtual 92, 3) := dk_182 0 92 (dk_at dksX6_holeLine_1 14 rfl rfl)
theorem dX6_holeLine_39 : decode cX6_holeLine 39 = .ok (.aload_n 0, 1) := dk_42 (dk_at dksX6_holeLine_1 17 rfl rfl)
theorem dX6_holeLine_40 : decode cX6_holeLine 40 = .ok (.getfield 25, 3) := dk_180 0 25 (dk_at dksX6_holeLine_1 18 rfl rfl)
theorem dX6_holeLine_43 : decode cX6_holeLine 43 = .ok (.iconst (-1), 1) := dk_2 (dk_at dksX6_holeLine_1 21 rfl rfl)
theorem dX6_holeLine_44 : decode cX6_holeLine 44 = .ok (.if_icmp .ne 18, 3) := dk_160 0 18 (dk_at dksX6_holeLine_2 0 rfl rfl)
theorem dX6_holeLine_47 : decode cX6_holeLine 47 = .ok (.aload_n 0, 1) := dk_42 (dk_at dksX6_holeLine_2 3 rfl rfl)
theorem dX6_holeLine_48 : decode cX6_holeLine 48 = .ok (.getfield 7, 3) := dk_180 0 7 (dk_at dksX6_holeLine_2 4 rfl rfl)
theorem dX6_holeLine_51 : decode cX6_holeLine 51 = .ok (.bipush 16, 2) := dk_16 16 (dk_at dksX6_holeLine_2 7 rfl rfl)
theorem dX6_holeLine_53 : decode cX6_holeLine 53 = .ok (.iload_n 1, 1) := dk_27 (dk_at dksX6_holeLine_2 9 rfl rfl)
theorem dX6_holeLine_54 : decode cX6_holeLine 54 = .ok (.iadd, 1) := dk_96 (dk_at dksX6_holeLine_2 10 rfl rfl)
theorem dX6_holeLine_55 : decode cX6_holeLine 55 = .ok (.dup2, 1) := dk_92 (dk_at dksX6_holeLine_2 11 rfl rfl)
theorem dX6_holeLine_56 : decode cX6_holeLine 56 = .ok (.iaload, 1) := dk_46 (dk_at dksX6_holeLine_2 12 rfl rfl)
theorem dX6_holeLine_57 : decode cX6_holeLine 57 = .ok (.iconst 1, 1) := dk_4 (dk_at dksX6_holeLine_2 13 rfl rfl)
theorem dX6_holeLine_58 : decode cX6_holeLine 58 = .ok (.iload_n 3, 1) := dk_29 (dk_at dksX6_holeLine_2 14 rfl rfl)
theorem dX6_holeLine_59 : decode cX6_holeLine 59 = .ok (.ishl, 1) := dk_120 (dk_at dksX6_holeLine_2 15 rfl rfl)
theorem dX6_holeLine_60 : decode cX6_holeLine 60 = .ok (.ior, 1) := dk_128 (dk_at dksX6_holeLine_2 16 rfl rfl)
theorem dX6_holeLine_61 : decode cX6_holeLine 61 = .ok (.iastore, 1) := dk_79 (dk_at dksX6_holeLine_2 17 rfl rfl)
theorem dX6_holeLine_62 : decode cX6_holeLine 62 = .ok (.return_, 1) := dk_177 (dk_at dksX6_holeLine_2 18 rfl rfl)
abbrev cX6_tells : ByteArray := prog_18_method_28_code
def yX6_tells : MethodName := ⟨RX6, "tells", "(II)V"⟩
def dkwX6_tells_0 : List UInt8 := [42, 3, 28, 182, 0, 100, 62, 42, 180, 0, 25, 2, 160, 0, 10, 42, 180, 0, 7, 27, 29, 79, 177]
abbrev dktX6_tells_0 : List UInt8 := dkwX6_tells_0 ++ []
theorem dksX6_tells_0 : cX6_tells.data.toList.drop 0 = dktX6_tells_0 := by decide +kernel
theorem dX6_tells_0 : decode cX6_tells 0 = .ok (.aload_n 0, 1) := dk_42 (dk_at dksX6_tells_0 0 rfl rfl)
theorem dX6_tells_1 : decode cX6_tells 1 = .ok (.iconst 0, 1) := dk_3 (dk_at dksX6_tells_0 1 rfl rfl)
theorem dX6_tells_2 : decode cX6_tells 2 = .ok (.iload_n 2, 1) := dk_28 (dk_at dksX6_tells_0 2 rfl rfl)
theorem dX6_tells_3 : decode cX6_tells 3 = .ok (.invokevirtual 100, 3) := dk_182 0 100 (dk_at dksX6_tells_0 3 rfl rfl)
theorem dX6_tells_6 : decode cX6_tells 6 = .ok (.istore_n 3, 1) := dk_62 (dk_at dksX6_tells_0 6 rfl rfl)
theorem dX6_tells_7 : decode cX6_tells 7 = .ok (.aload_n 0, 1) := dk_42 (dk_at dksX6_tells_0 7 rfl rfl)
theorem dX6_tells_8 : decode cX6_tells 8 = .ok (.getfield 25, 3) := dk_180 0 25 (dk_at dksX6_tells_0 8 rfl rfl)
theorem dX6_tells_11 : decode cX6_tells 11 = .ok (.iconst (-1), 1) := dk_2 (dk_at dksX6_tells_0 11 rfl rfl)
theorem dX6_tells_12 : decode cX6_tells 12 = .ok (.if_icmp .ne 10, 3) := dk_160 0 10 (dk_at dksX6_tells_0 12 rfl rfl)
theorem dX6_tells_15 : decode cX6_tells 15 = .ok (.aload_n 0, 1) := dk_42 (dk_at dksX6_tells_0 15 rfl rfl)
theorem dX6_tells_16 : decode cX6_tells 16 = .ok (.getfield 7, 3) := dk_180 0 7 (dk_at dksX6_tells_0 16 rfl rfl)
theorem dX6_tells_19 : decode cX6_tells 19 = .ok (.iload_n 1, 1) := dk_27 (dk_at dksX6_tells_0 19 rfl rfl)
theorem dX6_tells_20 : decode cX6_tells 20 = .ok (.iload_n 3, 1) := dk_29 (dk_at dksX6_tells_0 20 rfl rfl)
theorem dX6_tells_21 : decode cX6_tells 21 = .ok (.iastore, 1) := dk_79 (dk_at dksX6_tells_0 21 rfl rfl)
theorem dX6_tells_22 : decode cX6_tells 22 = .ok (.return_, 1) := dk_177 (dk_at dksX6_tells_0 22 rfl rfl)
abbrev cX6_comesBack : ByteArray := prog_18_method_33_code
def yX6_comesBack : MethodName := ⟨RX6, "comesBack", "()V"⟩
def dkwX6_comesBack_1 : List UInt8 := [167, 255, 234, 177]
abbrev dktX6_comesBack_1 : List UInt8 := dkwX6_comesBack_1 ++ []
def dkwX6_comesBack_0 : List UInt8 := [3, 60, 27, 17, 1, 48, 162, 0, 21, 42, 180, 0, 7, 27, 42, 180, 0, 16, 27, 46, 79, 132, 1, 1]
abbrev dktX6_comesBack_0 : List UInt8 := dkwX6_comesBack_0 ++ dktX6_comesBack_1
theorem dksX6_comesBack_0 : cX6_comesBack.data.toList.drop 0 = dktX6_comesBack_0 := by decide +kernel
theorem dksX6_comesBack_1 : cX6_comesBack.data.toList.drop 24 = dktX6_comesBack_1 := dk_seg dksX6_comesBack_0 24 rfl rfl
theorem dX6_comesBack_0 : decode cX6_comesBack 0 = .ok (.iconst 0, 1) := dk_3 (dk_at dksX6_comesBack_0 0 rfl rfl)
theorem dX6_comesBack_1 : decode cX6_comesBack 1 = .ok (.istore_n 1, 1) := dk_60 (dk_at dksX6_comesBack_0 1 rfl rfl)
theorem dX6_comesBack_2 : decode cX6_comesBack 2 = .ok (.iload_n 1, 1) := dk_27 (dk_at dksX6_comesBack_0 2 rfl rfl)
theorem dX6_comesBack_3 : decode cX6_comesBack 3 = .ok (.sipush 304, 3) := dk_17 1 48 (dk_at dksX6_comesBack_0 3 rfl rfl)
theorem dX6_comesBack_6 : decode cX6_comesBack 6 = .ok (.if_icmp .ge 21, 3) := dk_162 0 21 (dk_at dksX6_comesBack_0 6 rfl rfl)
theorem dX6_comesBack_9 : decode cX6_comesBack 9 = .ok (.aload_n 0, 1) := dk_42 (dk_at dksX6_comesBack_0 9 rfl rfl)
theorem dX6_comesBack_10 : decode cX6_comesBack 10 = .ok (.getfield 7, 3) := dk_180 0 7 (dk_at dksX6_comesBack_0 10 rfl rfl)
theorem dX6_comesBack_13 : decode cX6_comesBack 13 = .ok (.iload_n 1, 1) := dk_27 (dk_at dksX6_comesBack_0 13 rfl rfl)
theorem dX6_comesBack_14 : decode cX6_comesBack 14 = .ok (.aload_n 0, 1) := dk_42 (dk_at dksX6_comesBack_0 14 rfl rfl)
theorem dX6_comesBack_15 : decode cX6_comesBack 15 = .ok (.getfield 16, 3) := dk_180 0 16 (dk_at dksX6_comesBack_0 15 rfl rfl)
theorem dX6_comesBack_18 : decode cX6_comesBack 18 = .ok (.iload_n 1, 1) := dk_27 (dk_at dksX6_comesBack_0 18 rfl rfl)
theorem dX6_comesBack_19 : decode cX6_comesBack 19 = .ok (.iaload, 1) := dk_46 (dk_at dksX6_comesBack_0 19 rfl rfl)
theorem dX6_comesBack_20 : decode cX6_comesBack 20 = .ok (.iastore, 1) := dk_79 (dk_at dksX6_comesBack_0 20 rfl rfl)
theorem dX6_comesBack_21 : decode cX6_comesBack 21 = .ok (.iinc 1 1, 3) := dk_132 1 1 (dk_at dksX6_comesBack_0 21 rfl rfl)
theorem dX6_comesBack_24 : decode cX6_comesBack 24 = .ok (.goto (-22), 3) := dk_167 255 234 (dk_at dksX6_comesBack_1 0 rfl rfl)
theorem dX6_comesBack_27 : decode cX6_comesBack 27 = .ok (.return_, 1) := dk_177 (dk_at dksX6_comesBack_1 3 rfl rfl)
abbrev cX6_law : ByteArray := prog_18_method_42_code
def yX6_law : MethodName := ⟨RX6, "law", "()I"⟩
def dkwX6_law_3 : List UInt8 := [42, 180, 0, 22, 28, 46, 79, 132, 2, 1, 167, 255, 229, 42, 3, 181, 0, 172, 27, 172]
abbrev dktX6_law_3 : List UInt8 := dkwX6_law_3 ++ []
def dkwX6_law_2 : List UInt8 := [42, 180, 0, 70, 79, 3, 61, 28, 42, 180, 0, 70, 162, 0, 25, 42, 180, 0, 7, 17, 1, 48, 28, 96]
abbrev dktX6_law_2 : List UInt8 := dkwX6_law_2 ++ dktX6_law_3
def dkwX6_law_1 : List UInt8 := [181, 0, 42, 42, 180, 0, 42, 158, 0, 5, 3, 172, 42, 180, 0, 7, 4, 27, 79, 42, 180, 0, 7, 5]
abbrev dktX6_law_1 : List UInt8 := dkwX6_law_1 ++ dktX6_law_2
def dkwX6_law_0 : List UInt8 := [42, 182, 0, 162, 42, 4, 182, 0, 165, 60, 42, 42, 180, 0, 25, 2, 159, 0, 7, 4, 167, 0, 4, 3]
abbrev dktX6_law_0 : List UInt8 := dkwX6_law_0 ++ dktX6_law_1
theorem dksX6_law_0 : cX6_law.data.toList.drop 0 = dktX6_law_0 := by decide +kernel
theorem dksX6_law_1 : cX6_law.data.toList.drop 24 = dktX6_law_1 := dk_seg dksX6_law_0 24 rfl rfl
theorem dksX6_law_2 : cX6_law.data.toList.drop 48 = dktX6_law_2 := dk_seg dksX6_law_1 24 rfl rfl
theorem dksX6_law_3 : cX6_law.data.toList.drop 72 = dktX6_law_3 := dk_seg dksX6_law_2 24 rfl rfl
theorem dX6_law_0 : decode cX6_law 0 = .ok (.aload_n 0, 1) := dk_42 (dk_at dksX6_law_0 0 rfl rfl)
theorem dX6_law_1 : decode cX6_law 1 = .ok (.invokevirtual 162, 3) := dk_182 0 162 (dk_at dksX6_law_0 1 rfl rfl)
theorem dX6_law_4 : decode cX6_law 4 = .ok (.aload_n 0, 1) := dk_42 (dk_at dksX6_law_0 4 rfl rfl)
theorem dX6_law_5 : decode cX6_law 5 = .ok (.iconst 1, 1) := dk_4 (dk_at dksX6_law_0 5 rfl rfl)
theorem dX6_law_6 : decode cX6_law 6 = .ok (.invokevirtual 165, 3) := dk_182 0 165 (dk_at dksX6_law_0 6 rfl rfl)
theorem dX6_law_9 : decode cX6_law 9 = .ok (.istore_n 1, 1) := dk_60 (dk_at dksX6_law_0 9 rfl rfl)
theorem dX6_law_10 : decode cX6_law 10 = .ok (.aload_n 0, 1) := dk_42 (dk_at dksX6_law_0 10 rfl rfl)
theorem dX6_law_11 : decode cX6_law 11 = .ok (.aload_n 0, 1) := dk_42 (dk_at dksX6_law_0 11 rfl rfl)
theorem dX6_law_12 : decode cX6_law 12 = .ok (.getfield 25, 3) := dk_180 0 25 (dk_at dksX6_law_0 12 rfl rfl)
theorem dX6_law_15 : decode cX6_law 15 = .ok (.iconst (-1), 1) := dk_2 (dk_at dksX6_law_0 15 rfl rfl)
theorem dX6_law_16 : decode cX6_law 16 = .ok (.if_icmp .eq 7, 3) := dk_159 0 7 (dk_at dksX6_law_0 16 rfl rfl)
theorem dX6_law_19 : decode cX6_law 19 = .ok (.iconst 1, 1) := dk_4 (dk_at dksX6_law_0 19 rfl rfl)
theorem dX6_law_20 : decode cX6_law 20 = .ok (.goto 4, 3) := dk_167 0 4 (dk_at dksX6_law_0 20 rfl rfl)
theorem dX6_law_23 : decode cX6_law 23 = .ok (.iconst 0, 1) := dk_3 (dk_at dksX6_law_0 23 rfl rfl)
theorem dX6_law_24 : decode cX6_law 24 = .ok (.putfield 42, 3) := dk_181 0 42 (dk_at dksX6_law_1 0 rfl rfl)
theorem dX6_law_27 : decode cX6_law 27 = .ok (.aload_n 0, 1) := dk_42 (dk_at dksX6_law_1 3 rfl rfl)
theorem dX6_law_28 : decode cX6_law 28 = .ok (.getfield 42, 3) := dk_180 0 42 (dk_at dksX6_law_1 4 rfl rfl)
theorem dX6_law_31 : decode cX6_law 31 = .ok (.ifCond .le 5, 3) := dk_158 0 5 (dk_at dksX6_law_1 7 rfl rfl)
theorem dX6_law_34 : decode cX6_law 34 = .ok (.iconst 0, 1) := dk_3 (dk_at dksX6_law_1 10 rfl rfl)
theorem dX6_law_35 : decode cX6_law 35 = .ok (.ireturn, 1) := dk_172 (dk_at dksX6_law_1 11 rfl rfl)
theorem dX6_law_36 : decode cX6_law 36 = .ok (.aload_n 0, 1) := dk_42 (dk_at dksX6_law_1 12 rfl rfl)
theorem dX6_law_37 : decode cX6_law 37 = .ok (.getfield 7, 3) := dk_180 0 7 (dk_at dksX6_law_1 13 rfl rfl)
theorem dX6_law_40 : decode cX6_law 40 = .ok (.iconst 1, 1) := dk_4 (dk_at dksX6_law_1 16 rfl rfl)
theorem dX6_law_41 : decode cX6_law 41 = .ok (.iload_n 1, 1) := dk_27 (dk_at dksX6_law_1 17 rfl rfl)
theorem dX6_law_42 : decode cX6_law 42 = .ok (.iastore, 1) := dk_79 (dk_at dksX6_law_1 18 rfl rfl)
theorem dX6_law_43 : decode cX6_law 43 = .ok (.aload_n 0, 1) := dk_42 (dk_at dksX6_law_1 19 rfl rfl)
theorem dX6_law_44 : decode cX6_law 44 = .ok (.getfield 7, 3) := dk_180 0 7 (dk_at dksX6_law_1 20 rfl rfl)
theorem dX6_law_47 : decode cX6_law 47 = .ok (.iconst 2, 1) := dk_5 (dk_at dksX6_law_1 23 rfl rfl)
theorem dX6_law_48 : decode cX6_law 48 = .ok (.aload_n 0, 1) := dk_42 (dk_at dksX6_law_2 0 rfl rfl)
theorem dX6_law_49 : decode cX6_law 49 = .ok (.getfield 70, 3) := dk_180 0 70 (dk_at dksX6_law_2 1 rfl rfl)
theorem dX6_law_52 : decode cX6_law 52 = .ok (.iastore, 1) := dk_79 (dk_at dksX6_law_2 4 rfl rfl)
theorem dX6_law_53 : decode cX6_law 53 = .ok (.iconst 0, 1) := dk_3 (dk_at dksX6_law_2 5 rfl rfl)
theorem dX6_law_54 : decode cX6_law 54 = .ok (.istore_n 2, 1) := dk_61 (dk_at dksX6_law_2 6 rfl rfl)
theorem dX6_law_55 : decode cX6_law 55 = .ok (.iload_n 2, 1) := dk_28 (dk_at dksX6_law_2 7 rfl rfl)
theorem dX6_law_56 : decode cX6_law 56 = .ok (.aload_n 0, 1) := dk_42 (dk_at dksX6_law_2 8 rfl rfl)
theorem dX6_law_57 : decode cX6_law 57 = .ok (.getfield 70, 3) := dk_180 0 70 (dk_at dksX6_law_2 9 rfl rfl)
theorem dX6_law_60 : decode cX6_law 60 = .ok (.if_icmp .ge 25, 3) := dk_162 0 25 (dk_at dksX6_law_2 12 rfl rfl)
theorem dX6_law_63 : decode cX6_law 63 = .ok (.aload_n 0, 1) := dk_42 (dk_at dksX6_law_2 15 rfl rfl)
theorem dX6_law_64 : decode cX6_law 64 = .ok (.getfield 7, 3) := dk_180 0 7 (dk_at dksX6_law_2 16 rfl rfl)
theorem dX6_law_67 : decode cX6_law 67 = .ok (.sipush 304, 3) := dk_17 1 48 (dk_at dksX6_law_2 19 rfl rfl)
theorem dX6_law_70 : decode cX6_law 70 = .ok (.iload_n 2, 1) := dk_28 (dk_at dksX6_law_2 22 rfl rfl)
theorem dX6_law_71 : decode cX6_law 71 = .ok (.iadd, 1) := dk_96 (dk_at dksX6_law_2 23 rfl rfl)
theorem dX6_law_72 : decode cX6_law 72 = .ok (.aload_n 0, 1) := dk_42 (dk_at dksX6_law_3 0 rfl rfl)
theorem dX6_law_73 : decode cX6_law 73 = .ok (.getfield 22, 3) := dk_180 0 22 (dk_at dksX6_law_3 1 rfl rfl)
theorem dX6_law_76 : decode cX6_law 76 = .ok (.iload_n 2, 1) := dk_28 (dk_at dksX6_law_3 4 rfl rfl)
theorem dX6_law_77 : decode cX6_law 77 = .ok (.iaload, 1) := dk_46 (dk_at dksX6_law_3 5 rfl rfl)
theorem dX6_law_78 : decode cX6_law 78 = .ok (.iastore, 1) := dk_79 (dk_at dksX6_law_3 6 rfl rfl)
theorem dX6_law_79 : decode cX6_law 79 = .ok (.iinc 2 1, 3) := dk_132 2 1 (dk_at dksX6_law_3 7 rfl rfl)
theorem dX6_law_82 : decode cX6_law 82 = .ok (.goto (-27), 3) := dk_167 255 229 (dk_at dksX6_law_3 10 rfl rfl)
theorem dX6_law_85 : decode cX6_law 85 = .ok (.aload_n 0, 1) := dk_42 (dk_at dksX6_law_3 13 rfl rfl)
theorem dX6_law_86 : decode cX6_law 86 = .ok (.iconst 0, 1) := dk_3 (dk_at dksX6_law_3 14 rfl rfl)
theorem dX6_law_87 : decode cX6_law 87 = .ok (.putfield 172, 3) := dk_181 0 172 (dk_at dksX6_law_3 15 rfl rfl)
theorem dX6_law_90 : decode cX6_law 90 = .ok (.iload_n 1, 1) := dk_27 (dk_at dksX6_law_3 18 rfl rfl)
theorem dX6_law_91 : decode cX6_law 91 = .ok (.ireturn, 1) := dk_172 (dk_at dksX6_law_3 19 rfl rfl)
abbrev cX6_fault : ByteArray := prog_18_method_43_code
def yX6_fault : MethodName := ⟨RX6, "fault", "()I"⟩
def dkwX6_fault_0 : List UInt8 := [42, 3, 181, 0, 42, 42, 180, 0, 25, 172]
abbrev dktX6_fault_0 : List UInt8 := dkwX6_fault_0 ++ []
theorem dksX6_fault_0 : cX6_fault.data.toList.drop 0 = dktX6_fault_0 := by decide +kernel
theorem dX6_fault_0 : decode cX6_fault 0 = .ok (.aload_n 0, 1) := dk_42 (dk_at dksX6_fault_0 0 rfl rfl)
theorem dX6_fault_1 : decode cX6_fault 1 = .ok (.iconst 0, 1) := dk_3 (dk_at dksX6_fault_0 1 rfl rfl)
theorem dX6_fault_2 : decode cX6_fault 2 = .ok (.putfield 42, 3) := dk_181 0 42 (dk_at dksX6_fault_0 2 rfl rfl)
theorem dX6_fault_5 : decode cX6_fault 5 = .ok (.aload_n 0, 1) := dk_42 (dk_at dksX6_fault_0 5 rfl rfl)
theorem dX6_fault_6 : decode cX6_fault 6 = .ok (.getfield 25, 3) := dk_180 0 25 (dk_at dksX6_fault_0 6 rfl rfl)
theorem dX6_fault_9 : decode cX6_fault 9 = .ok (.ireturn, 1) := dk_172 (dk_at dksX6_fault_0 9 rfl rfl)
abbrev cX6_guest : ByteArray := prog_18_method_54_code
def yX6_guest : MethodName := ⟨RX6, "guest", "(II)I"⟩
def dkwX6_guest_6 : List UInt8 := [120, 167, 0, 4, 3, 128, 62, 132, 4, 1, 167, 255, 225, 29, 172]
abbrev dktX6_guest_6 : List UInt8 := dkwX6_guest_6 ++ []
def dkwX6_guest_5 : List UInt8 := [3, 54, 4, 21, 4, 16, 8, 162, 0, 30, 29, 42, 27, 21, 4, 182, 0, 239, 153, 0, 10, 4, 21, 4]
abbrev dktX6_guest_5 : List UInt8 := dkwX6_guest_5 ++ dktX6_guest_6
def dkwX6_guest_4 : List UInt8 := [154, 0, 7, 3, 167, 0, 17, 16, 100, 42, 27, 5, 182, 0, 49, 104, 42, 182, 1, 14, 108, 172, 3, 62]
abbrev dktX6_guest_4 : List UInt8 := dkwX6_guest_4 ++ dktX6_guest_5
def dkwX6_guest_3 : List UInt8 := [182, 0, 246, 172, 28, 16, 8, 160, 0, 37, 42, 27, 182, 0, 236, 153, 0, 10, 42, 182, 1, 14]
abbrev dktX6_guest_3 : List UInt8 := dkwX6_guest_3 ++ dktX6_guest_4
def dkwX6_guest_2 : List UInt8 := [182, 0, 49, 172, 28, 8, 160, 0, 9, 42, 27, 182, 1, 2, 172, 28, 16, 6, 160, 0, 9, 42, 27]
abbrev dktX6_guest_2 : List UInt8 := dkwX6_guest_2 ++ dktX6_guest_3
def dkwX6_guest_1 : List UInt8 := [167, 0, 4, 3, 181, 0, 42, 42, 180, 0, 42, 158, 0, 5, 3, 172, 28, 8, 162, 0, 10, 42, 27, 28]
abbrev dktX6_guest_1 : List UInt8 := dkwX6_guest_1 ++ dktX6_guest_2
def dkwX6_guest_0 : List UInt8 := [42, 42, 27, 182, 1, 11, 154, 0, 7, 4, 167, 0, 18, 28, 3, 16, 8, 184, 0, 45, 154, 0, 7, 5]
abbrev dktX6_guest_0 : List UInt8 := dkwX6_guest_0 ++ dktX6_guest_1
theorem dksX6_guest_0 : cX6_guest.data.toList.drop 0 = dktX6_guest_0 := by decide +kernel
theorem dksX6_guest_1 : cX6_guest.data.toList.drop 24 = dktX6_guest_1 := dk_seg dksX6_guest_0 24 rfl rfl
theorem dksX6_guest_2 : cX6_guest.data.toList.drop 48 = dktX6_guest_2 := dk_seg dksX6_guest_1 24 rfl rfl
theorem dksX6_guest_3 : cX6_guest.data.toList.drop 71 = dktX6_guest_3 := dk_seg dksX6_guest_2 23 rfl rfl
theorem dksX6_guest_4 : cX6_guest.data.toList.drop 93 = dktX6_guest_4 := dk_seg dksX6_guest_3 22 rfl rfl
theorem dksX6_guest_5 : cX6_guest.data.toList.drop 117 = dktX6_guest_5 := dk_seg dksX6_guest_4 24 rfl rfl
theorem dksX6_guest_6 : cX6_guest.data.toList.drop 141 = dktX6_guest_6 := dk_seg dksX6_guest_5 24 rfl rfl
theorem dX6_guest_0 : decode cX6_guest 0 = .ok (.aload_n 0, 1) := dk_42 (dk_at dksX6_guest_0 0 rfl rfl)
theorem dX6_guest_1 : decode cX6_guest 1 = .ok (.aload_n 0, 1) := dk_42 (dk_at dksX6_guest_0 1 rfl rfl)
theorem dX6_guest_2 : decode cX6_guest 2 = .ok (.iload_n 1, 1) := dk_27 (dk_at dksX6_guest_0 2 rfl rfl)
theorem dX6_guest_3 : decode cX6_guest 3 = .ok (.invokevirtual 267, 3) := dk_182 1 11 (dk_at dksX6_guest_0 3 rfl rfl)
theorem dX6_guest_6 : decode cX6_guest 6 = .ok (.ifCond .ne 7, 3) := dk_154 0 7 (dk_at dksX6_guest_0 6 rfl rfl)
theorem dX6_guest_9 : decode cX6_guest 9 = .ok (.iconst 1, 1) := dk_4 (dk_at dksX6_guest_0 9 rfl rfl)
theorem dX6_guest_10 : decode cX6_guest 10 = .ok (.goto 18, 3) := dk_167 0 18 (dk_at dksX6_guest_0 10 rfl rfl)
theorem dX6_guest_13 : decode cX6_guest 13 = .ok (.iload_n 2, 1) := dk_28 (dk_at dksX6_guest_0 13 rfl rfl)
theorem dX6_guest_14 : decode cX6_guest 14 = .ok (.iconst 0, 1) := dk_3 (dk_at dksX6_guest_0 14 rfl rfl)
theorem dX6_guest_15 : decode cX6_guest 15 = .ok (.bipush 8, 2) := dk_16 8 (dk_at dksX6_guest_0 15 rfl rfl)
theorem dX6_guest_17 : decode cX6_guest 17 = .ok (.invokestatic 45, 3) := dk_184 0 45 (dk_at dksX6_guest_0 17 rfl rfl)
theorem dX6_guest_20 : decode cX6_guest 20 = .ok (.ifCond .ne 7, 3) := dk_154 0 7 (dk_at dksX6_guest_0 20 rfl rfl)
theorem dX6_guest_23 : decode cX6_guest 23 = .ok (.iconst 2, 1) := dk_5 (dk_at dksX6_guest_0 23 rfl rfl)
theorem dX6_guest_24 : decode cX6_guest 24 = .ok (.goto 4, 3) := dk_167 0 4 (dk_at dksX6_guest_1 0 rfl rfl)
theorem dX6_guest_27 : decode cX6_guest 27 = .ok (.iconst 0, 1) := dk_3 (dk_at dksX6_guest_1 3 rfl rfl)
theorem dX6_guest_28 : decode cX6_guest 28 = .ok (.putfield 42, 3) := dk_181 0 42 (dk_at dksX6_guest_1 4 rfl rfl)
theorem dX6_guest_31 : decode cX6_guest 31 = .ok (.aload_n 0, 1) := dk_42 (dk_at dksX6_guest_1 7 rfl rfl)
theorem dX6_guest_32 : decode cX6_guest 32 = .ok (.getfield 42, 3) := dk_180 0 42 (dk_at dksX6_guest_1 8 rfl rfl)
theorem dX6_guest_35 : decode cX6_guest 35 = .ok (.ifCond .le 5, 3) := dk_158 0 5 (dk_at dksX6_guest_1 11 rfl rfl)
theorem dX6_guest_38 : decode cX6_guest 38 = .ok (.iconst 0, 1) := dk_3 (dk_at dksX6_guest_1 14 rfl rfl)
theorem dX6_guest_39 : decode cX6_guest 39 = .ok (.ireturn, 1) := dk_172 (dk_at dksX6_guest_1 15 rfl rfl)
theorem dX6_guest_40 : decode cX6_guest 40 = .ok (.iload_n 2, 1) := dk_28 (dk_at dksX6_guest_1 16 rfl rfl)
theorem dX6_guest_41 : decode cX6_guest 41 = .ok (.iconst 5, 1) := dk_8 (dk_at dksX6_guest_1 17 rfl rfl)
theorem dX6_guest_42 : decode cX6_guest 42 = .ok (.if_icmp .ge 10, 3) := dk_162 0 10 (dk_at dksX6_guest_1 18 rfl rfl)
theorem dX6_guest_45 : decode cX6_guest 45 = .ok (.aload_n 0, 1) := dk_42 (dk_at dksX6_guest_1 21 rfl rfl)
theorem dX6_guest_46 : decode cX6_guest 46 = .ok (.iload_n 1, 1) := dk_27 (dk_at dksX6_guest_1 22 rfl rfl)
theorem dX6_guest_47 : decode cX6_guest 47 = .ok (.iload_n 2, 1) := dk_28 (dk_at dksX6_guest_1 23 rfl rfl)
theorem dX6_guest_48 : decode cX6_guest 48 = .ok (.invokevirtual 49, 3) := dk_182 0 49 (dk_at dksX6_guest_2 0 rfl rfl)
theorem dX6_guest_51 : decode cX6_guest 51 = .ok (.ireturn, 1) := dk_172 (dk_at dksX6_guest_2 3 rfl rfl)
theorem dX6_guest_52 : decode cX6_guest 52 = .ok (.iload_n 2, 1) := dk_28 (dk_at dksX6_guest_2 4 rfl rfl)
theorem dX6_guest_53 : decode cX6_guest 53 = .ok (.iconst 5, 1) := dk_8 (dk_at dksX6_guest_2 5 rfl rfl)
theorem dX6_guest_54 : decode cX6_guest 54 = .ok (.if_icmp .ne 9, 3) := dk_160 0 9 (dk_at dksX6_guest_2 6 rfl rfl)
theorem dX6_guest_57 : decode cX6_guest 57 = .ok (.aload_n 0, 1) := dk_42 (dk_at dksX6_guest_2 9 rfl rfl)
theorem dX6_guest_58 : decode cX6_guest 58 = .ok (.iload_n 1, 1) := dk_27 (dk_at dksX6_guest_2 10 rfl rfl)
theorem dX6_guest_59 : decode cX6_guest 59 = .ok (.invokevirtual 258, 3) := dk_182 1 2 (dk_at dksX6_guest_2 11 rfl rfl)
theorem dX6_guest_62 : decode cX6_guest 62 = .ok (.ireturn, 1) := dk_172 (dk_at dksX6_guest_2 14 rfl rfl)
theorem dX6_guest_63 : decode cX6_guest 63 = .ok (.iload_n 2, 1) := dk_28 (dk_at dksX6_guest_2 15 rfl rfl)
theorem dX6_guest_64 : decode cX6_guest 64 = .ok (.bipush 6, 2) := dk_16 6 (dk_at dksX6_guest_2 16 rfl rfl)
theorem dX6_guest_66 : decode cX6_guest 66 = .ok (.if_icmp .ne 9, 3) := dk_160 0 9 (dk_at dksX6_guest_2 18 rfl rfl)
theorem dX6_guest_69 : decode cX6_guest 69 = .ok (.aload_n 0, 1) := dk_42 (dk_at dksX6_guest_2 21 rfl rfl)
theorem dX6_guest_70 : decode cX6_guest 70 = .ok (.iload_n 1, 1) := dk_27 (dk_at dksX6_guest_2 22 rfl rfl)
theorem dX6_guest_71 : decode cX6_guest 71 = .ok (.invokevirtual 246, 3) := dk_182 0 246 (dk_at dksX6_guest_3 0 rfl rfl)
theorem dX6_guest_74 : decode cX6_guest 74 = .ok (.ireturn, 1) := dk_172 (dk_at dksX6_guest_3 3 rfl rfl)
theorem dX6_guest_75 : decode cX6_guest 75 = .ok (.iload_n 2, 1) := dk_28 (dk_at dksX6_guest_3 4 rfl rfl)
theorem dX6_guest_76 : decode cX6_guest 76 = .ok (.bipush 8, 2) := dk_16 8 (dk_at dksX6_guest_3 5 rfl rfl)
theorem dX6_guest_78 : decode cX6_guest 78 = .ok (.if_icmp .ne 37, 3) := dk_160 0 37 (dk_at dksX6_guest_3 7 rfl rfl)
theorem dX6_guest_81 : decode cX6_guest 81 = .ok (.aload_n 0, 1) := dk_42 (dk_at dksX6_guest_3 10 rfl rfl)
theorem dX6_guest_82 : decode cX6_guest 82 = .ok (.iload_n 1, 1) := dk_27 (dk_at dksX6_guest_3 11 rfl rfl)
theorem dX6_guest_83 : decode cX6_guest 83 = .ok (.invokevirtual 236, 3) := dk_182 0 236 (dk_at dksX6_guest_3 12 rfl rfl)
theorem dX6_guest_86 : decode cX6_guest 86 = .ok (.ifCond .eq 10, 3) := dk_153 0 10 (dk_at dksX6_guest_3 15 rfl rfl)
theorem dX6_guest_89 : decode cX6_guest 89 = .ok (.aload_n 0, 1) := dk_42 (dk_at dksX6_guest_3 18 rfl rfl)
theorem dX6_guest_90 : decode cX6_guest 90 = .ok (.invokevirtual 270, 3) := dk_182 1 14 (dk_at dksX6_guest_3 19 rfl rfl)
theorem dX6_guest_93 : decode cX6_guest 93 = .ok (.ifCond .ne 7, 3) := dk_154 0 7 (dk_at dksX6_guest_4 0 rfl rfl)
theorem dX6_guest_96 : decode cX6_guest 96 = .ok (.iconst 0, 1) := dk_3 (dk_at dksX6_guest_4 3 rfl rfl)
theorem dX6_guest_97 : decode cX6_guest 97 = .ok (.goto 17, 3) := dk_167 0 17 (dk_at dksX6_guest_4 4 rfl rfl)
theorem dX6_guest_100 : decode cX6_guest 100 = .ok (.bipush 100, 2) := dk_16 100 (dk_at dksX6_guest_4 7 rfl rfl)
theorem dX6_guest_102 : decode cX6_guest 102 = .ok (.aload_n 0, 1) := dk_42 (dk_at dksX6_guest_4 9 rfl rfl)
theorem dX6_guest_103 : decode cX6_guest 103 = .ok (.iload_n 1, 1) := dk_27 (dk_at dksX6_guest_4 10 rfl rfl)
theorem dX6_guest_104 : decode cX6_guest 104 = .ok (.iconst 2, 1) := dk_5 (dk_at dksX6_guest_4 11 rfl rfl)
theorem dX6_guest_105 : decode cX6_guest 105 = .ok (.invokevirtual 49, 3) := dk_182 0 49 (dk_at dksX6_guest_4 12 rfl rfl)
theorem dX6_guest_108 : decode cX6_guest 108 = .ok (.imul, 1) := dk_104 (dk_at dksX6_guest_4 15 rfl rfl)
theorem dX6_guest_109 : decode cX6_guest 109 = .ok (.aload_n 0, 1) := dk_42 (dk_at dksX6_guest_4 16 rfl rfl)
theorem dX6_guest_110 : decode cX6_guest 110 = .ok (.invokevirtual 270, 3) := dk_182 1 14 (dk_at dksX6_guest_4 17 rfl rfl)
theorem dX6_guest_113 : decode cX6_guest 113 = .ok (.idiv, 1) := dk_108 (dk_at dksX6_guest_4 20 rfl rfl)
theorem dX6_guest_114 : decode cX6_guest 114 = .ok (.ireturn, 1) := dk_172 (dk_at dksX6_guest_4 21 rfl rfl)
theorem dX6_guest_115 : decode cX6_guest 115 = .ok (.iconst 0, 1) := dk_3 (dk_at dksX6_guest_4 22 rfl rfl)
theorem dX6_guest_116 : decode cX6_guest 116 = .ok (.istore_n 3, 1) := dk_62 (dk_at dksX6_guest_4 23 rfl rfl)
theorem dX6_guest_117 : decode cX6_guest 117 = .ok (.iconst 0, 1) := dk_3 (dk_at dksX6_guest_5 0 rfl rfl)
theorem dX6_guest_118 : decode cX6_guest 118 = .ok (.istore 4, 2) := dk_54 4 (dk_at dksX6_guest_5 1 rfl rfl)
theorem dX6_guest_120 : decode cX6_guest 120 = .ok (.iload 4, 2) := dk_21 4 (dk_at dksX6_guest_5 3 rfl rfl)
theorem dX6_guest_122 : decode cX6_guest 122 = .ok (.bipush 8, 2) := dk_16 8 (dk_at dksX6_guest_5 5 rfl rfl)
theorem dX6_guest_124 : decode cX6_guest 124 = .ok (.if_icmp .ge 30, 3) := dk_162 0 30 (dk_at dksX6_guest_5 7 rfl rfl)
theorem dX6_guest_127 : decode cX6_guest 127 = .ok (.iload_n 3, 1) := dk_29 (dk_at dksX6_guest_5 10 rfl rfl)
theorem dX6_guest_128 : decode cX6_guest 128 = .ok (.aload_n 0, 1) := dk_42 (dk_at dksX6_guest_5 11 rfl rfl)
theorem dX6_guest_129 : decode cX6_guest 129 = .ok (.iload_n 1, 1) := dk_27 (dk_at dksX6_guest_5 12 rfl rfl)
theorem dX6_guest_130 : decode cX6_guest 130 = .ok (.iload 4, 2) := dk_21 4 (dk_at dksX6_guest_5 13 rfl rfl)
theorem dX6_guest_132 : decode cX6_guest 132 = .ok (.invokevirtual 239, 3) := dk_182 0 239 (dk_at dksX6_guest_5 15 rfl rfl)
theorem dX6_guest_135 : decode cX6_guest 135 = .ok (.ifCond .eq 10, 3) := dk_153 0 10 (dk_at dksX6_guest_5 18 rfl rfl)
theorem dX6_guest_138 : decode cX6_guest 138 = .ok (.iconst 1, 1) := dk_4 (dk_at dksX6_guest_5 21 rfl rfl)
theorem dX6_guest_139 : decode cX6_guest 139 = .ok (.iload 4, 2) := dk_21 4 (dk_at dksX6_guest_5 22 rfl rfl)
theorem dX6_guest_141 : decode cX6_guest 141 = .ok (.ishl, 1) := dk_120 (dk_at dksX6_guest_6 0 rfl rfl)
theorem dX6_guest_142 : decode cX6_guest 142 = .ok (.goto 4, 3) := dk_167 0 4 (dk_at dksX6_guest_6 1 rfl rfl)
theorem dX6_guest_145 : decode cX6_guest 145 = .ok (.iconst 0, 1) := dk_3 (dk_at dksX6_guest_6 4 rfl rfl)
theorem dX6_guest_146 : decode cX6_guest 146 = .ok (.ior, 1) := dk_128 (dk_at dksX6_guest_6 5 rfl rfl)
theorem dX6_guest_147 : decode cX6_guest 147 = .ok (.istore_n 3, 1) := dk_62 (dk_at dksX6_guest_6 6 rfl rfl)
theorem dX6_guest_148 : decode cX6_guest 148 = .ok (.iinc 4 1, 3) := dk_132 4 1 (dk_at dksX6_guest_6 7 rfl rfl)
theorem dX6_guest_151 : decode cX6_guest 151 = .ok (.goto (-31), 3) := dk_167 255 225 (dk_at dksX6_guest_6 10 rfl rfl)
theorem dX6_guest_154 : decode cX6_guest 154 = .ok (.iload_n 3, 1) := dk_29 (dk_at dksX6_guest_6 13 rfl rfl)
theorem dX6_guest_155 : decode cX6_guest 155 = .ok (.ireturn, 1) := dk_172 (dk_at dksX6_guest_6 14 rfl rfl)
abbrev cX6_isGuest : ByteArray := prog_18_method_10_code
def yX6_isGuest : MethodName := ⟨RX6, "isGuest", "(I)Z"⟩
def dkwX6_isGuest_0 : List UInt8 := [27, 3, 42, 180, 0, 7, 6, 46, 4, 100, 184, 0, 45, 172]
abbrev dktX6_isGuest_0 : List UInt8 := dkwX6_isGuest_0 ++ []
theorem dksX6_isGuest_0 : cX6_isGuest.data.toList.drop 0 = dktX6_isGuest_0 := by decide +kernel
theorem dX6_isGuest_0 : decode cX6_isGuest 0 = .ok (.iload_n 1, 1) := dk_27 (dk_at dksX6_isGuest_0 0 rfl rfl)
theorem dX6_isGuest_1 : decode cX6_isGuest 1 = .ok (.iconst 0, 1) := dk_3 (dk_at dksX6_isGuest_0 1 rfl rfl)
theorem dX6_isGuest_2 : decode cX6_isGuest 2 = .ok (.aload_n 0, 1) := dk_42 (dk_at dksX6_isGuest_0 2 rfl rfl)
theorem dX6_isGuest_3 : decode cX6_isGuest 3 = .ok (.getfield 7, 3) := dk_180 0 7 (dk_at dksX6_isGuest_0 3 rfl rfl)
theorem dX6_isGuest_6 : decode cX6_isGuest 6 = .ok (.iconst 3, 1) := dk_6 (dk_at dksX6_isGuest_0 6 rfl rfl)
theorem dX6_isGuest_7 : decode cX6_isGuest 7 = .ok (.iaload, 1) := dk_46 (dk_at dksX6_isGuest_0 7 rfl rfl)
theorem dX6_isGuest_8 : decode cX6_isGuest 8 = .ok (.iconst 1, 1) := dk_4 (dk_at dksX6_isGuest_0 8 rfl rfl)
theorem dX6_isGuest_9 : decode cX6_isGuest 9 = .ok (.isub, 1) := dk_100 (dk_at dksX6_isGuest_0 9 rfl rfl)
theorem dX6_isGuest_10 : decode cX6_isGuest 10 = .ok (.invokestatic 45, 3) := dk_184 0 45 (dk_at dksX6_isGuest_0 10 rfl rfl)
theorem dX6_isGuest_13 : decode cX6_isGuest 13 = .ok (.ireturn, 1) := dk_172 (dk_at dksX6_isGuest_0 13 rfl rfl)
abbrev cX6_of : ByteArray := prog_18_method_8_code
def yX6_of : MethodName := ⟨RX6, "of", "(II)I"⟩
def dkwX6_of_0 : List UInt8 := [42, 180, 0, 7, 16, 24, 8, 27, 104, 96, 28, 96, 46, 172]
abbrev dktX6_of_0 : List UInt8 := dkwX6_of_0 ++ []
theorem dksX6_of_0 : cX6_of.data.toList.drop 0 = dktX6_of_0 := by decide +kernel
theorem dX6_of_0 : decode cX6_of 0 = .ok (.aload_n 0, 1) := dk_42 (dk_at dksX6_of_0 0 rfl rfl)
theorem dX6_of_1 : decode cX6_of 1 = .ok (.getfield 7, 3) := dk_180 0 7 (dk_at dksX6_of_0 1 rfl rfl)
theorem dX6_of_4 : decode cX6_of 4 = .ok (.bipush 24, 2) := dk_16 24 (dk_at dksX6_of_0 4 rfl rfl)
theorem dX6_of_6 : decode cX6_of 6 = .ok (.iconst 5, 1) := dk_8 (dk_at dksX6_of_0 6 rfl rfl)
theorem dX6_of_7 : decode cX6_of 7 = .ok (.iload_n 1, 1) := dk_27 (dk_at dksX6_of_0 7 rfl rfl)
theorem dX6_of_8 : decode cX6_of 8 = .ok (.imul, 1) := dk_104 (dk_at dksX6_of_0 8 rfl rfl)
theorem dX6_of_9 : decode cX6_of 9 = .ok (.iadd, 1) := dk_96 (dk_at dksX6_of_0 9 rfl rfl)
theorem dX6_of_10 : decode cX6_of 10 = .ok (.iload_n 2, 1) := dk_28 (dk_at dksX6_of_0 10 rfl rfl)
theorem dX6_of_11 : decode cX6_of 11 = .ok (.iadd, 1) := dk_96 (dk_at dksX6_of_0 11 rfl rfl)
theorem dX6_of_12 : decode cX6_of 12 = .ok (.iaload, 1) := dk_46 (dk_at dksX6_of_0 12 rfl rfl)
theorem dX6_of_13 : decode cX6_of 13 = .ok (.ireturn, 1) := dk_172 (dk_at dksX6_of_0 13 rfl rfl)
abbrev cX6_risk : ByteArray := prog_18_method_48_code
def yX6_risk : MethodName := ⟨RX6, "risk", "(I)I"⟩
def dkwX6_risk_1 : List UInt8 := [182, 0, 49, 5, 108, 172]
abbrev dktX6_risk_1 : List UInt8 := dkwX6_risk_1 ++ []
def dkwX6_risk_0 : List UInt8 := [42, 27, 5, 182, 0, 49, 16, 50, 161, 0, 12, 42, 27, 4, 182, 0, 49, 167, 0, 11, 42, 27, 4]
abbrev dktX6_risk_0 : List UInt8 := dkwX6_risk_0 ++ dktX6_risk_1
theorem dksX6_risk_0 : cX6_risk.data.toList.drop 0 = dktX6_risk_0 := by decide +kernel
theorem dksX6_risk_1 : cX6_risk.data.toList.drop 23 = dktX6_risk_1 := dk_seg dksX6_risk_0 23 rfl rfl
theorem dX6_risk_0 : decode cX6_risk 0 = .ok (.aload_n 0, 1) := dk_42 (dk_at dksX6_risk_0 0 rfl rfl)
theorem dX6_risk_1 : decode cX6_risk 1 = .ok (.iload_n 1, 1) := dk_27 (dk_at dksX6_risk_0 1 rfl rfl)
theorem dX6_risk_2 : decode cX6_risk 2 = .ok (.iconst 2, 1) := dk_5 (dk_at dksX6_risk_0 2 rfl rfl)
theorem dX6_risk_3 : decode cX6_risk 3 = .ok (.invokevirtual 49, 3) := dk_182 0 49 (dk_at dksX6_risk_0 3 rfl rfl)
theorem dX6_risk_6 : decode cX6_risk 6 = .ok (.bipush 50, 2) := dk_16 50 (dk_at dksX6_risk_0 6 rfl rfl)
theorem dX6_risk_8 : decode cX6_risk 8 = .ok (.if_icmp .lt 12, 3) := dk_161 0 12 (dk_at dksX6_risk_0 8 rfl rfl)
theorem dX6_risk_11 : decode cX6_risk 11 = .ok (.aload_n 0, 1) := dk_42 (dk_at dksX6_risk_0 11 rfl rfl)
theorem dX6_risk_12 : decode cX6_risk 12 = .ok (.iload_n 1, 1) := dk_27 (dk_at dksX6_risk_0 12 rfl rfl)
theorem dX6_risk_13 : decode cX6_risk 13 = .ok (.iconst 1, 1) := dk_4 (dk_at dksX6_risk_0 13 rfl rfl)
theorem dX6_risk_14 : decode cX6_risk 14 = .ok (.invokevirtual 49, 3) := dk_182 0 49 (dk_at dksX6_risk_0 14 rfl rfl)
theorem dX6_risk_17 : decode cX6_risk 17 = .ok (.goto 11, 3) := dk_167 0 11 (dk_at dksX6_risk_0 17 rfl rfl)
theorem dX6_risk_20 : decode cX6_risk 20 = .ok (.aload_n 0, 1) := dk_42 (dk_at dksX6_risk_0 20 rfl rfl)
theorem dX6_risk_21 : decode cX6_risk 21 = .ok (.iload_n 1, 1) := dk_27 (dk_at dksX6_risk_0 21 rfl rfl)
theorem dX6_risk_22 : decode cX6_risk 22 = .ok (.iconst 1, 1) := dk_4 (dk_at dksX6_risk_0 22 rfl rfl)
theorem dX6_risk_23 : decode cX6_risk 23 = .ok (.invokevirtual 49, 3) := dk_182 0 49 (dk_at dksX6_risk_1 0 rfl rfl)
theorem dX6_risk_26 : decode cX6_risk 26 = .ok (.iconst 2, 1) := dk_5 (dk_at dksX6_risk_1 3 rfl rfl)
theorem dX6_risk_27 : decode cX6_risk 27 = .ok (.idiv, 1) := dk_108 (dk_at dksX6_risk_1 4 rfl rfl)
theorem dX6_risk_28 : decode cX6_risk 28 = .ok (.ireturn, 1) := dk_172 (dk_at dksX6_risk_1 5 rfl rfl)
abbrev cX6_turnsBy : ByteArray := prog_18_method_44_code
def yX6_turnsBy : MethodName := ⟨RX6, "turnsBy", "(I)I"⟩
def dkwX6_turnsBy_8 : List UInt8 := [181, 0, 146, 42, 4, 182, 0, 165, 62, 42, 28, 181, 0, 25, 42, 180, 0, 223, 172]
abbrev dktX6_turnsBy_8 : List UInt8 := dkwX6_turnsBy_8 ++ []
def dkwX6_turnsBy_7 : List UInt8 := [17, 1, 48, 181, 0, 64, 42, 42, 180, 0, 7, 5, 46, 181, 0, 70, 42, 3, 181, 0, 67, 42, 3]
abbrev dktX6_turnsBy_7 : List UInt8 := dkwX6_turnsBy_7 ++ dktX6_turnsBy_8
def dkwX6_turnsBy_6 : List UInt8 := [96, 182, 0, 226, 181, 0, 194, 42, 3, 181, 0, 223, 42, 180, 0, 25, 61, 42, 2, 181, 0, 25, 42]
abbrev dktX6_turnsBy_6 : List UInt8 := dkwX6_turnsBy_6 ++ dktX6_turnsBy_7
def dkwX6_turnsBy_5 : List UInt8 := [4, 167, 0, 4, 3, 181, 0, 188, 42, 42, 42, 180, 0, 7, 8, 46, 42, 180, 0, 7, 16, 10, 46, 4]
abbrev dktX6_turnsBy_5 : List UInt8 := dkwX6_turnsBy_5 ++ dktX6_turnsBy_6
def dkwX6_turnsBy_4 : List UInt8 := [16, 6, 42, 180, 0, 7, 16, 10, 46, 16, 7, 108, 79, 42, 42, 27, 6, 182, 0, 49, 4, 160, 0, 7]
abbrev dktX6_turnsBy_4 : List UInt8 := dkwX6_turnsBy_4 ++ dktX6_turnsBy_5
def dkwX6_turnsBy_3 : List UInt8 := [8, 42, 180, 0, 7, 16, 16, 42, 27, 3, 182, 0, 49, 96, 46, 184, 0, 57, 79, 42, 180, 0, 29]
abbrev dktX6_turnsBy_3 : List UInt8 := dkwX6_turnsBy_3 ++ dktX6_turnsBy_4
def dkwX6_turnsBy_2 : List UInt8 := [42, 27, 5, 182, 0, 49, 79, 42, 180, 0, 29, 7, 42, 180, 0, 7, 16, 8, 46, 79, 42, 180, 0, 29]
abbrev dktX6_turnsBy_2 : List UInt8 := dkwX6_turnsBy_2 ++ dktX6_turnsBy_3
def dkwX6_turnsBy_1 : List UInt8 := [42, 27, 3, 182, 0, 49, 79, 42, 180, 0, 29, 5, 42, 27, 4, 182, 0, 49, 79, 42, 180, 0, 29, 6]
abbrev dktX6_turnsBy_1 : List UInt8 := dkwX6_turnsBy_1 ++ dktX6_turnsBy_2
def dkwX6_turnsBy_0 : List UInt8 := [42, 180, 0, 7, 4, 46, 2, 160, 0, 5, 4, 172, 42, 180, 0, 29, 3, 27, 79, 42, 180, 0, 29, 4]
abbrev dktX6_turnsBy_0 : List UInt8 := dkwX6_turnsBy_0 ++ dktX6_turnsBy_1
theorem dksX6_turnsBy_0 : cX6_turnsBy.data.toList.drop 0 = dktX6_turnsBy_0 := by decide +kernel
theorem dksX6_turnsBy_1 : cX6_turnsBy.data.toList.drop 24 = dktX6_turnsBy_1 := dk_seg dksX6_turnsBy_0 24 rfl rfl
theorem dksX6_turnsBy_2 : cX6_turnsBy.data.toList.drop 48 = dktX6_turnsBy_2 := dk_seg dksX6_turnsBy_1 24 rfl rfl
theorem dksX6_turnsBy_3 : cX6_turnsBy.data.toList.drop 72 = dktX6_turnsBy_3 := dk_seg dksX6_turnsBy_2 24 rfl rfl
theorem dksX6_turnsBy_4 : cX6_turnsBy.data.toList.drop 95 = dktX6_turnsBy_4 := dk_seg dksX6_turnsBy_3 23 rfl rfl
theorem dksX6_turnsBy_5 : cX6_turnsBy.data.toList.drop 119 = dktX6_turnsBy_5 := dk_seg dksX6_turnsBy_4 24 rfl rfl
theorem dksX6_turnsBy_6 : cX6_turnsBy.data.toList.drop 143 = dktX6_turnsBy_6 := dk_seg dksX6_turnsBy_5 24 rfl rfl
theorem dksX6_turnsBy_7 : cX6_turnsBy.data.toList.drop 166 = dktX6_turnsBy_7 := dk_seg dksX6_turnsBy_6 23 rfl rfl
theorem dksX6_turnsBy_8 : cX6_turnsBy.data.toList.drop 189 = dktX6_turnsBy_8 := dk_seg dksX6_turnsBy_7 23 rfl rfl
theorem dX6_turnsBy_0 : decode cX6_turnsBy 0 = .ok (.aload_n 0, 1) := dk_42 (dk_at dksX6_turnsBy_0 0 rfl rfl)
theorem dX6_turnsBy_1 : decode cX6_turnsBy 1 = .ok (.getfield 7, 3) := dk_180 0 7 (dk_at dksX6_turnsBy_0 1 rfl rfl)
theorem dX6_turnsBy_4 : decode cX6_turnsBy 4 = .ok (.iconst 1, 1) := dk_4 (dk_at dksX6_turnsBy_0 4 rfl rfl)
theorem dX6_turnsBy_5 : decode cX6_turnsBy 5 = .ok (.iaload, 1) := dk_46 (dk_at dksX6_turnsBy_0 5 rfl rfl)
theorem dX6_turnsBy_6 : decode cX6_turnsBy 6 = .ok (.iconst (-1), 1) := dk_2 (dk_at dksX6_turnsBy_0 6 rfl rfl)
theorem dX6_turnsBy_7 : decode cX6_turnsBy 7 = .ok (.if_icmp .ne 5, 3) := dk_160 0 5 (dk_at dksX6_turnsBy_0 7 rfl rfl)
theorem dX6_turnsBy_10 : decode cX6_turnsBy 10 = .ok (.iconst 1, 1) := dk_4 (dk_at dksX6_turnsBy_0 10 rfl rfl)
theorem dX6_turnsBy_11 : decode cX6_turnsBy 11 = .ok (.ireturn, 1) := dk_172 (dk_at dksX6_turnsBy_0 11 rfl rfl)
theorem dX6_turnsBy_12 : decode cX6_turnsBy 12 = .ok (.aload_n 0, 1) := dk_42 (dk_at dksX6_turnsBy_0 12 rfl rfl)
theorem dX6_turnsBy_13 : decode cX6_turnsBy 13 = .ok (.getfield 29, 3) := dk_180 0 29 (dk_at dksX6_turnsBy_0 13 rfl rfl)
theorem dX6_turnsBy_16 : decode cX6_turnsBy 16 = .ok (.iconst 0, 1) := dk_3 (dk_at dksX6_turnsBy_0 16 rfl rfl)
theorem dX6_turnsBy_17 : decode cX6_turnsBy 17 = .ok (.iload_n 1, 1) := dk_27 (dk_at dksX6_turnsBy_0 17 rfl rfl)
theorem dX6_turnsBy_18 : decode cX6_turnsBy 18 = .ok (.iastore, 1) := dk_79 (dk_at dksX6_turnsBy_0 18 rfl rfl)
theorem dX6_turnsBy_19 : decode cX6_turnsBy 19 = .ok (.aload_n 0, 1) := dk_42 (dk_at dksX6_turnsBy_0 19 rfl rfl)
theorem dX6_turnsBy_20 : decode cX6_turnsBy 20 = .ok (.getfield 29, 3) := dk_180 0 29 (dk_at dksX6_turnsBy_0 20 rfl rfl)
theorem dX6_turnsBy_23 : decode cX6_turnsBy 23 = .ok (.iconst 1, 1) := dk_4 (dk_at dksX6_turnsBy_0 23 rfl rfl)
theorem dX6_turnsBy_24 : decode cX6_turnsBy 24 = .ok (.aload_n 0, 1) := dk_42 (dk_at dksX6_turnsBy_1 0 rfl rfl)
theorem dX6_turnsBy_25 : decode cX6_turnsBy 25 = .ok (.iload_n 1, 1) := dk_27 (dk_at dksX6_turnsBy_1 1 rfl rfl)
theorem dX6_turnsBy_26 : decode cX6_turnsBy 26 = .ok (.iconst 0, 1) := dk_3 (dk_at dksX6_turnsBy_1 2 rfl rfl)
theorem dX6_turnsBy_27 : decode cX6_turnsBy 27 = .ok (.invokevirtual 49, 3) := dk_182 0 49 (dk_at dksX6_turnsBy_1 3 rfl rfl)
theorem dX6_turnsBy_30 : decode cX6_turnsBy 30 = .ok (.iastore, 1) := dk_79 (dk_at dksX6_turnsBy_1 6 rfl rfl)
theorem dX6_turnsBy_31 : decode cX6_turnsBy 31 = .ok (.aload_n 0, 1) := dk_42 (dk_at dksX6_turnsBy_1 7 rfl rfl)
theorem dX6_turnsBy_32 : decode cX6_turnsBy 32 = .ok (.getfield 29, 3) := dk_180 0 29 (dk_at dksX6_turnsBy_1 8 rfl rfl)
theorem dX6_turnsBy_35 : decode cX6_turnsBy 35 = .ok (.iconst 2, 1) := dk_5 (dk_at dksX6_turnsBy_1 11 rfl rfl)
theorem dX6_turnsBy_36 : decode cX6_turnsBy 36 = .ok (.aload_n 0, 1) := dk_42 (dk_at dksX6_turnsBy_1 12 rfl rfl)
theorem dX6_turnsBy_37 : decode cX6_turnsBy 37 = .ok (.iload_n 1, 1) := dk_27 (dk_at dksX6_turnsBy_1 13 rfl rfl)
theorem dX6_turnsBy_38 : decode cX6_turnsBy 38 = .ok (.iconst 1, 1) := dk_4 (dk_at dksX6_turnsBy_1 14 rfl rfl)
theorem dX6_turnsBy_39 : decode cX6_turnsBy 39 = .ok (.invokevirtual 49, 3) := dk_182 0 49 (dk_at dksX6_turnsBy_1 15 rfl rfl)
theorem dX6_turnsBy_42 : decode cX6_turnsBy 42 = .ok (.iastore, 1) := dk_79 (dk_at dksX6_turnsBy_1 18 rfl rfl)
theorem dX6_turnsBy_43 : decode cX6_turnsBy 43 = .ok (.aload_n 0, 1) := dk_42 (dk_at dksX6_turnsBy_1 19 rfl rfl)
theorem dX6_turnsBy_44 : decode cX6_turnsBy 44 = .ok (.getfield 29, 3) := dk_180 0 29 (dk_at dksX6_turnsBy_1 20 rfl rfl)
theorem dX6_turnsBy_47 : decode cX6_turnsBy 47 = .ok (.iconst 3, 1) := dk_6 (dk_at dksX6_turnsBy_1 23 rfl rfl)
theorem dX6_turnsBy_48 : decode cX6_turnsBy 48 = .ok (.aload_n 0, 1) := dk_42 (dk_at dksX6_turnsBy_2 0 rfl rfl)
theorem dX6_turnsBy_49 : decode cX6_turnsBy 49 = .ok (.iload_n 1, 1) := dk_27 (dk_at dksX6_turnsBy_2 1 rfl rfl)
theorem dX6_turnsBy_50 : decode cX6_turnsBy 50 = .ok (.iconst 2, 1) := dk_5 (dk_at dksX6_turnsBy_2 2 rfl rfl)
theorem dX6_turnsBy_51 : decode cX6_turnsBy 51 = .ok (.invokevirtual 49, 3) := dk_182 0 49 (dk_at dksX6_turnsBy_2 3 rfl rfl)
theorem dX6_turnsBy_54 : decode cX6_turnsBy 54 = .ok (.iastore, 1) := dk_79 (dk_at dksX6_turnsBy_2 6 rfl rfl)
theorem dX6_turnsBy_55 : decode cX6_turnsBy 55 = .ok (.aload_n 0, 1) := dk_42 (dk_at dksX6_turnsBy_2 7 rfl rfl)
theorem dX6_turnsBy_56 : decode cX6_turnsBy 56 = .ok (.getfield 29, 3) := dk_180 0 29 (dk_at dksX6_turnsBy_2 8 rfl rfl)
theorem dX6_turnsBy_59 : decode cX6_turnsBy 59 = .ok (.iconst 4, 1) := dk_7 (dk_at dksX6_turnsBy_2 11 rfl rfl)
theorem dX6_turnsBy_60 : decode cX6_turnsBy 60 = .ok (.aload_n 0, 1) := dk_42 (dk_at dksX6_turnsBy_2 12 rfl rfl)
theorem dX6_turnsBy_61 : decode cX6_turnsBy 61 = .ok (.getfield 7, 3) := dk_180 0 7 (dk_at dksX6_turnsBy_2 13 rfl rfl)
theorem dX6_turnsBy_64 : decode cX6_turnsBy 64 = .ok (.bipush 8, 2) := dk_16 8 (dk_at dksX6_turnsBy_2 16 rfl rfl)
theorem dX6_turnsBy_66 : decode cX6_turnsBy 66 = .ok (.iaload, 1) := dk_46 (dk_at dksX6_turnsBy_2 18 rfl rfl)
theorem dX6_turnsBy_67 : decode cX6_turnsBy 67 = .ok (.iastore, 1) := dk_79 (dk_at dksX6_turnsBy_2 19 rfl rfl)
theorem dX6_turnsBy_68 : decode cX6_turnsBy 68 = .ok (.aload_n 0, 1) := dk_42 (dk_at dksX6_turnsBy_2 20 rfl rfl)
theorem dX6_turnsBy_69 : decode cX6_turnsBy 69 = .ok (.getfield 29, 3) := dk_180 0 29 (dk_at dksX6_turnsBy_2 21 rfl rfl)
theorem dX6_turnsBy_72 : decode cX6_turnsBy 72 = .ok (.iconst 5, 1) := dk_8 (dk_at dksX6_turnsBy_3 0 rfl rfl)
theorem dX6_turnsBy_73 : decode cX6_turnsBy 73 = .ok (.aload_n 0, 1) := dk_42 (dk_at dksX6_turnsBy_3 1 rfl rfl)
theorem dX6_turnsBy_74 : decode cX6_turnsBy 74 = .ok (.getfield 7, 3) := dk_180 0 7 (dk_at dksX6_turnsBy_3 2 rfl rfl)
theorem dX6_turnsBy_77 : decode cX6_turnsBy 77 = .ok (.bipush 16, 2) := dk_16 16 (dk_at dksX6_turnsBy_3 5 rfl rfl)
theorem dX6_turnsBy_79 : decode cX6_turnsBy 79 = .ok (.aload_n 0, 1) := dk_42 (dk_at dksX6_turnsBy_3 7 rfl rfl)
theorem dX6_turnsBy_80 : decode cX6_turnsBy 80 = .ok (.iload_n 1, 1) := dk_27 (dk_at dksX6_turnsBy_3 8 rfl rfl)
theorem dX6_turnsBy_81 : decode cX6_turnsBy 81 = .ok (.iconst 0, 1) := dk_3 (dk_at dksX6_turnsBy_3 9 rfl rfl)
theorem dX6_turnsBy_82 : decode cX6_turnsBy 82 = .ok (.invokevirtual 49, 3) := dk_182 0 49 (dk_at dksX6_turnsBy_3 10 rfl rfl)
theorem dX6_turnsBy_85 : decode cX6_turnsBy 85 = .ok (.iadd, 1) := dk_96 (dk_at dksX6_turnsBy_3 13 rfl rfl)
theorem dX6_turnsBy_86 : decode cX6_turnsBy 86 = .ok (.iaload, 1) := dk_46 (dk_at dksX6_turnsBy_3 14 rfl rfl)
theorem dX6_turnsBy_87 : decode cX6_turnsBy 87 = .ok (.invokestatic 57, 3) := dk_184 0 57 (dk_at dksX6_turnsBy_3 15 rfl rfl)
theorem dX6_turnsBy_90 : decode cX6_turnsBy 90 = .ok (.iastore, 1) := dk_79 (dk_at dksX6_turnsBy_3 18 rfl rfl)
theorem dX6_turnsBy_91 : decode cX6_turnsBy 91 = .ok (.aload_n 0, 1) := dk_42 (dk_at dksX6_turnsBy_3 19 rfl rfl)
theorem dX6_turnsBy_92 : decode cX6_turnsBy 92 = .ok (.getfield 29, 3) := dk_180 0 29 (dk_at dksX6_turnsBy_3 20 rfl rfl)
theorem dX6_turnsBy_95 : decode cX6_turnsBy 95 = .ok (.bipush 6, 2) := dk_16 6 (dk_at dksX6_turnsBy_4 0 rfl rfl)
theorem dX6_turnsBy_97 : decode cX6_turnsBy 97 = .ok (.aload_n 0, 1) := dk_42 (dk_at dksX6_turnsBy_4 2 rfl rfl)
theorem dX6_turnsBy_98 : decode cX6_turnsBy 98 = .ok (.getfield 7, 3) := dk_180 0 7 (dk_at dksX6_turnsBy_4 3 rfl rfl)
theorem dX6_turnsBy_101 : decode cX6_turnsBy 101 = .ok (.bipush 10, 2) := dk_16 10 (dk_at dksX6_turnsBy_4 6 rfl rfl)
theorem dX6_turnsBy_103 : decode cX6_turnsBy 103 = .ok (.iaload, 1) := dk_46 (dk_at dksX6_turnsBy_4 8 rfl rfl)
theorem dX6_turnsBy_104 : decode cX6_turnsBy 104 = .ok (.bipush 7, 2) := dk_16 7 (dk_at dksX6_turnsBy_4 9 rfl rfl)
theorem dX6_turnsBy_106 : decode cX6_turnsBy 106 = .ok (.idiv, 1) := dk_108 (dk_at dksX6_turnsBy_4 11 rfl rfl)
theorem dX6_turnsBy_107 : decode cX6_turnsBy 107 = .ok (.iastore, 1) := dk_79 (dk_at dksX6_turnsBy_4 12 rfl rfl)
theorem dX6_turnsBy_108 : decode cX6_turnsBy 108 = .ok (.aload_n 0, 1) := dk_42 (dk_at dksX6_turnsBy_4 13 rfl rfl)
theorem dX6_turnsBy_109 : decode cX6_turnsBy 109 = .ok (.aload_n 0, 1) := dk_42 (dk_at dksX6_turnsBy_4 14 rfl rfl)
theorem dX6_turnsBy_110 : decode cX6_turnsBy 110 = .ok (.iload_n 1, 1) := dk_27 (dk_at dksX6_turnsBy_4 15 rfl rfl)
theorem dX6_turnsBy_111 : decode cX6_turnsBy 111 = .ok (.iconst 3, 1) := dk_6 (dk_at dksX6_turnsBy_4 16 rfl rfl)
theorem dX6_turnsBy_112 : decode cX6_turnsBy 112 = .ok (.invokevirtual 49, 3) := dk_182 0 49 (dk_at dksX6_turnsBy_4 17 rfl rfl)
theorem dX6_turnsBy_115 : decode cX6_turnsBy 115 = .ok (.iconst 1, 1) := dk_4 (dk_at dksX6_turnsBy_4 20 rfl rfl)
theorem dX6_turnsBy_116 : decode cX6_turnsBy 116 = .ok (.if_icmp .ne 7, 3) := dk_160 0 7 (dk_at dksX6_turnsBy_4 21 rfl rfl)
theorem dX6_turnsBy_119 : decode cX6_turnsBy 119 = .ok (.iconst 1, 1) := dk_4 (dk_at dksX6_turnsBy_5 0 rfl rfl)
theorem dX6_turnsBy_120 : decode cX6_turnsBy 120 = .ok (.goto 4, 3) := dk_167 0 4 (dk_at dksX6_turnsBy_5 1 rfl rfl)
theorem dX6_turnsBy_123 : decode cX6_turnsBy 123 = .ok (.iconst 0, 1) := dk_3 (dk_at dksX6_turnsBy_5 4 rfl rfl)
theorem dX6_turnsBy_124 : decode cX6_turnsBy 124 = .ok (.putfield 188, 3) := dk_181 0 188 (dk_at dksX6_turnsBy_5 5 rfl rfl)
theorem dX6_turnsBy_127 : decode cX6_turnsBy 127 = .ok (.aload_n 0, 1) := dk_42 (dk_at dksX6_turnsBy_5 8 rfl rfl)
theorem dX6_turnsBy_128 : decode cX6_turnsBy 128 = .ok (.aload_n 0, 1) := dk_42 (dk_at dksX6_turnsBy_5 9 rfl rfl)
theorem dX6_turnsBy_129 : decode cX6_turnsBy 129 = .ok (.aload_n 0, 1) := dk_42 (dk_at dksX6_turnsBy_5 10 rfl rfl)
theorem dX6_turnsBy_130 : decode cX6_turnsBy 130 = .ok (.getfield 7, 3) := dk_180 0 7 (dk_at dksX6_turnsBy_5 11 rfl rfl)
theorem dX6_turnsBy_133 : decode cX6_turnsBy 133 = .ok (.iconst 5, 1) := dk_8 (dk_at dksX6_turnsBy_5 14 rfl rfl)
theorem dX6_turnsBy_134 : decode cX6_turnsBy 134 = .ok (.iaload, 1) := dk_46 (dk_at dksX6_turnsBy_5 15 rfl rfl)
theorem dX6_turnsBy_135 : decode cX6_turnsBy 135 = .ok (.aload_n 0, 1) := dk_42 (dk_at dksX6_turnsBy_5 16 rfl rfl)
theorem dX6_turnsBy_136 : decode cX6_turnsBy 136 = .ok (.getfield 7, 3) := dk_180 0 7 (dk_at dksX6_turnsBy_5 17 rfl rfl)
theorem dX6_turnsBy_139 : decode cX6_turnsBy 139 = .ok (.bipush 10, 2) := dk_16 10 (dk_at dksX6_turnsBy_5 20 rfl rfl)
theorem dX6_turnsBy_141 : decode cX6_turnsBy 141 = .ok (.iaload, 1) := dk_46 (dk_at dksX6_turnsBy_5 22 rfl rfl)
theorem dX6_turnsBy_142 : decode cX6_turnsBy 142 = .ok (.iconst 1, 1) := dk_4 (dk_at dksX6_turnsBy_5 23 rfl rfl)
theorem dX6_turnsBy_143 : decode cX6_turnsBy 143 = .ok (.iadd, 1) := dk_96 (dk_at dksX6_turnsBy_6 0 rfl rfl)
theorem dX6_turnsBy_144 : decode cX6_turnsBy 144 = .ok (.invokevirtual 226, 3) := dk_182 0 226 (dk_at dksX6_turnsBy_6 1 rfl rfl)
theorem dX6_turnsBy_147 : decode cX6_turnsBy 147 = .ok (.putfield 194, 3) := dk_181 0 194 (dk_at dksX6_turnsBy_6 4 rfl rfl)
theorem dX6_turnsBy_150 : decode cX6_turnsBy 150 = .ok (.aload_n 0, 1) := dk_42 (dk_at dksX6_turnsBy_6 7 rfl rfl)
theorem dX6_turnsBy_151 : decode cX6_turnsBy 151 = .ok (.iconst 0, 1) := dk_3 (dk_at dksX6_turnsBy_6 8 rfl rfl)
theorem dX6_turnsBy_152 : decode cX6_turnsBy 152 = .ok (.putfield 223, 3) := dk_181 0 223 (dk_at dksX6_turnsBy_6 9 rfl rfl)
theorem dX6_turnsBy_155 : decode cX6_turnsBy 155 = .ok (.aload_n 0, 1) := dk_42 (dk_at dksX6_turnsBy_6 12 rfl rfl)
theorem dX6_turnsBy_156 : decode cX6_turnsBy 156 = .ok (.getfield 25, 3) := dk_180 0 25 (dk_at dksX6_turnsBy_6 13 rfl rfl)
theorem dX6_turnsBy_159 : decode cX6_turnsBy 159 = .ok (.istore_n 2, 1) := dk_61 (dk_at dksX6_turnsBy_6 16 rfl rfl)
theorem dX6_turnsBy_160 : decode cX6_turnsBy 160 = .ok (.aload_n 0, 1) := dk_42 (dk_at dksX6_turnsBy_6 17 rfl rfl)
theorem dX6_turnsBy_161 : decode cX6_turnsBy 161 = .ok (.iconst (-1), 1) := dk_2 (dk_at dksX6_turnsBy_6 18 rfl rfl)
theorem dX6_turnsBy_162 : decode cX6_turnsBy 162 = .ok (.putfield 25, 3) := dk_181 0 25 (dk_at dksX6_turnsBy_6 19 rfl rfl)
theorem dX6_turnsBy_165 : decode cX6_turnsBy 165 = .ok (.aload_n 0, 1) := dk_42 (dk_at dksX6_turnsBy_6 22 rfl rfl)
theorem dX6_turnsBy_166 : decode cX6_turnsBy 166 = .ok (.sipush 304, 3) := dk_17 1 48 (dk_at dksX6_turnsBy_7 0 rfl rfl)
theorem dX6_turnsBy_169 : decode cX6_turnsBy 169 = .ok (.putfield 64, 3) := dk_181 0 64 (dk_at dksX6_turnsBy_7 3 rfl rfl)
theorem dX6_turnsBy_172 : decode cX6_turnsBy 172 = .ok (.aload_n 0, 1) := dk_42 (dk_at dksX6_turnsBy_7 6 rfl rfl)
theorem dX6_turnsBy_173 : decode cX6_turnsBy 173 = .ok (.aload_n 0, 1) := dk_42 (dk_at dksX6_turnsBy_7 7 rfl rfl)
theorem dX6_turnsBy_174 : decode cX6_turnsBy 174 = .ok (.getfield 7, 3) := dk_180 0 7 (dk_at dksX6_turnsBy_7 8 rfl rfl)
theorem dX6_turnsBy_177 : decode cX6_turnsBy 177 = .ok (.iconst 2, 1) := dk_5 (dk_at dksX6_turnsBy_7 11 rfl rfl)
theorem dX6_turnsBy_178 : decode cX6_turnsBy 178 = .ok (.iaload, 1) := dk_46 (dk_at dksX6_turnsBy_7 12 rfl rfl)
theorem dX6_turnsBy_179 : decode cX6_turnsBy 179 = .ok (.putfield 70, 3) := dk_181 0 70 (dk_at dksX6_turnsBy_7 13 rfl rfl)
theorem dX6_turnsBy_182 : decode cX6_turnsBy 182 = .ok (.aload_n 0, 1) := dk_42 (dk_at dksX6_turnsBy_7 16 rfl rfl)
theorem dX6_turnsBy_183 : decode cX6_turnsBy 183 = .ok (.iconst 0, 1) := dk_3 (dk_at dksX6_turnsBy_7 17 rfl rfl)
theorem dX6_turnsBy_184 : decode cX6_turnsBy 184 = .ok (.putfield 67, 3) := dk_181 0 67 (dk_at dksX6_turnsBy_7 18 rfl rfl)
theorem dX6_turnsBy_187 : decode cX6_turnsBy 187 = .ok (.aload_n 0, 1) := dk_42 (dk_at dksX6_turnsBy_7 21 rfl rfl)
theorem dX6_turnsBy_188 : decode cX6_turnsBy 188 = .ok (.iconst 0, 1) := dk_3 (dk_at dksX6_turnsBy_7 22 rfl rfl)
theorem dX6_turnsBy_189 : decode cX6_turnsBy 189 = .ok (.putfield 146, 3) := dk_181 0 146 (dk_at dksX6_turnsBy_8 0 rfl rfl)
theorem dX6_turnsBy_192 : decode cX6_turnsBy 192 = .ok (.aload_n 0, 1) := dk_42 (dk_at dksX6_turnsBy_8 3 rfl rfl)
theorem dX6_turnsBy_193 : decode cX6_turnsBy 193 = .ok (.iconst 1, 1) := dk_4 (dk_at dksX6_turnsBy_8 4 rfl rfl)
theorem dX6_turnsBy_194 : decode cX6_turnsBy 194 = .ok (.invokevirtual 165, 3) := dk_182 0 165 (dk_at dksX6_turnsBy_8 5 rfl rfl)
theorem dX6_turnsBy_197 : decode cX6_turnsBy 197 = .ok (.istore_n 3, 1) := dk_62 (dk_at dksX6_turnsBy_8 8 rfl rfl)
theorem dX6_turnsBy_198 : decode cX6_turnsBy 198 = .ok (.aload_n 0, 1) := dk_42 (dk_at dksX6_turnsBy_8 9 rfl rfl)
theorem dX6_turnsBy_199 : decode cX6_turnsBy 199 = .ok (.iload_n 2, 1) := dk_28 (dk_at dksX6_turnsBy_8 10 rfl rfl)
theorem dX6_turnsBy_200 : decode cX6_turnsBy 200 = .ok (.putfield 25, 3) := dk_181 0 25 (dk_at dksX6_turnsBy_8 11 rfl rfl)
theorem dX6_turnsBy_203 : decode cX6_turnsBy 203 = .ok (.aload_n 0, 1) := dk_42 (dk_at dksX6_turnsBy_8 14 rfl rfl)
theorem dX6_turnsBy_204 : decode cX6_turnsBy 204 = .ok (.getfield 223, 3) := dk_180 0 223 (dk_at dksX6_turnsBy_8 15 rfl rfl)
theorem dX6_turnsBy_207 : decode cX6_turnsBy 207 = .ok (.ireturn, 1) := dk_172 (dk_at dksX6_turnsBy_8 18 rfl rfl)
abbrev cX6_bits : ByteArray := prog_18_method_7_code
def yX6_bits : MethodName := ⟨RX6, "bits", "(I)I"⟩
def dkwX6_bits_1 : List UInt8 := [27, 172]
abbrev dktX6_bits_1 : List UInt8 := dkwX6_bits_1 ++ []
def dkwX6_bits_0 : List UInt8 := [3, 60, 3, 61, 28, 16, 31, 162, 0, 17, 27, 26, 28, 122, 4, 126, 96, 60, 132, 2, 1, 167, 255, 239]
abbrev dktX6_bits_0 : List UInt8 := dkwX6_bits_0 ++ dktX6_bits_1
theorem dksX6_bits_0 : cX6_bits.data.toList.drop 0 = dktX6_bits_0 := by decide +kernel
theorem dksX6_bits_1 : cX6_bits.data.toList.drop 24 = dktX6_bits_1 := dk_seg dksX6_bits_0 24 rfl rfl
theorem dX6_bits_0 : decode cX6_bits 0 = .ok (.iconst 0, 1) := dk_3 (dk_at dksX6_bits_0 0 rfl rfl)
theorem dX6_bits_1 : decode cX6_bits 1 = .ok (.istore_n 1, 1) := dk_60 (dk_at dksX6_bits_0 1 rfl rfl)
theorem dX6_bits_2 : decode cX6_bits 2 = .ok (.iconst 0, 1) := dk_3 (dk_at dksX6_bits_0 2 rfl rfl)
theorem dX6_bits_3 : decode cX6_bits 3 = .ok (.istore_n 2, 1) := dk_61 (dk_at dksX6_bits_0 3 rfl rfl)
theorem dX6_bits_4 : decode cX6_bits 4 = .ok (.iload_n 2, 1) := dk_28 (dk_at dksX6_bits_0 4 rfl rfl)
theorem dX6_bits_5 : decode cX6_bits 5 = .ok (.bipush 31, 2) := dk_16 31 (dk_at dksX6_bits_0 5 rfl rfl)
theorem dX6_bits_7 : decode cX6_bits 7 = .ok (.if_icmp .ge 17, 3) := dk_162 0 17 (dk_at dksX6_bits_0 7 rfl rfl)
theorem dX6_bits_10 : decode cX6_bits 10 = .ok (.iload_n 1, 1) := dk_27 (dk_at dksX6_bits_0 10 rfl rfl)
theorem dX6_bits_11 : decode cX6_bits 11 = .ok (.iload_n 0, 1) := dk_26 (dk_at dksX6_bits_0 11 rfl rfl)
theorem dX6_bits_12 : decode cX6_bits 12 = .ok (.iload_n 2, 1) := dk_28 (dk_at dksX6_bits_0 12 rfl rfl)
theorem dX6_bits_13 : decode cX6_bits 13 = .ok (.ishr, 1) := dk_122 (dk_at dksX6_bits_0 13 rfl rfl)
theorem dX6_bits_14 : decode cX6_bits 14 = .ok (.iconst 1, 1) := dk_4 (dk_at dksX6_bits_0 14 rfl rfl)
theorem dX6_bits_15 : decode cX6_bits 15 = .ok (.iand, 1) := dk_126 (dk_at dksX6_bits_0 15 rfl rfl)
theorem dX6_bits_16 : decode cX6_bits 16 = .ok (.iadd, 1) := dk_96 (dk_at dksX6_bits_0 16 rfl rfl)
theorem dX6_bits_17 : decode cX6_bits 17 = .ok (.istore_n 1, 1) := dk_60 (dk_at dksX6_bits_0 17 rfl rfl)
theorem dX6_bits_18 : decode cX6_bits 18 = .ok (.iinc 2 1, 3) := dk_132 2 1 (dk_at dksX6_bits_0 18 rfl rfl)
theorem dX6_bits_21 : decode cX6_bits 21 = .ok (.goto (-17), 3) := dk_167 255 239 (dk_at dksX6_bits_0 21 rfl rfl)
theorem dX6_bits_24 : decode cX6_bits 24 = .ok (.iload_n 1, 1) := dk_27 (dk_at dksX6_bits_1 0 rfl rfl)
theorem dX6_bits_25 : decode cX6_bits 25 = .ok (.ireturn, 1) := dk_172 (dk_at dksX6_bits_1 1 rfl rfl)
abbrev cX6_isSaturday : ByteArray := prog_18_method_15_code
def yX6_isSaturday : MethodName := ⟨RX6, "isSaturday", "(II)Z"⟩
def dkwX6_isSaturday_1 : List UInt8 := [172]
abbrev dktX6_isSaturday_1 : List UInt8 := dkwX6_isSaturday_1 ++ []
def dkwX6_isSaturday_0 : List UInt8 := [28, 42, 180, 0, 7, 16, 12, 27, 96, 46, 96, 16, 7, 112, 16, 6, 160, 0, 7, 4, 167, 0, 4, 3]
abbrev dktX6_isSaturday_0 : List UInt8 := dkwX6_isSaturday_0 ++ dktX6_isSaturday_1
theorem dksX6_isSaturday_0 : cX6_isSaturday.data.toList.drop 0 = dktX6_isSaturday_0 := by decide +kernel
theorem dksX6_isSaturday_1 : cX6_isSaturday.data.toList.drop 24 = dktX6_isSaturday_1 := dk_seg dksX6_isSaturday_0 24 rfl rfl
theorem dX6_isSaturday_0 : decode cX6_isSaturday 0 = .ok (.iload_n 2, 1) := dk_28 (dk_at dksX6_isSaturday_0 0 rfl rfl)
theorem dX6_isSaturday_1 : decode cX6_isSaturday 1 = .ok (.aload_n 0, 1) := dk_42 (dk_at dksX6_isSaturday_0 1 rfl rfl)
theorem dX6_isSaturday_2 : decode cX6_isSaturday 2 = .ok (.getfield 7, 3) := dk_180 0 7 (dk_at dksX6_isSaturday_0 2 rfl rfl)
theorem dX6_isSaturday_5 : decode cX6_isSaturday 5 = .ok (.bipush 12, 2) := dk_16 12 (dk_at dksX6_isSaturday_0 5 rfl rfl)
theorem dX6_isSaturday_7 : decode cX6_isSaturday 7 = .ok (.iload_n 1, 1) := dk_27 (dk_at dksX6_isSaturday_0 7 rfl rfl)
theorem dX6_isSaturday_8 : decode cX6_isSaturday 8 = .ok (.iadd, 1) := dk_96 (dk_at dksX6_isSaturday_0 8 rfl rfl)
theorem dX6_isSaturday_9 : decode cX6_isSaturday 9 = .ok (.iaload, 1) := dk_46 (dk_at dksX6_isSaturday_0 9 rfl rfl)
theorem dX6_isSaturday_10 : decode cX6_isSaturday 10 = .ok (.iadd, 1) := dk_96 (dk_at dksX6_isSaturday_0 10 rfl rfl)
theorem dX6_isSaturday_11 : decode cX6_isSaturday 11 = .ok (.bipush 7, 2) := dk_16 7 (dk_at dksX6_isSaturday_0 11 rfl rfl)
theorem dX6_isSaturday_13 : decode cX6_isSaturday 13 = .ok (.irem, 1) := dk_112 (dk_at dksX6_isSaturday_0 13 rfl rfl)
theorem dX6_isSaturday_14 : decode cX6_isSaturday 14 = .ok (.bipush 6, 2) := dk_16 6 (dk_at dksX6_isSaturday_0 14 rfl rfl)
theorem dX6_isSaturday_16 : decode cX6_isSaturday 16 = .ok (.if_icmp .ne 7, 3) := dk_160 0 7 (dk_at dksX6_isSaturday_0 16 rfl rfl)
theorem dX6_isSaturday_19 : decode cX6_isSaturday 19 = .ok (.iconst 1, 1) := dk_4 (dk_at dksX6_isSaturday_0 19 rfl rfl)
theorem dX6_isSaturday_20 : decode cX6_isSaturday 20 = .ok (.goto 4, 3) := dk_167 0 4 (dk_at dksX6_isSaturday_0 20 rfl rfl)
theorem dX6_isSaturday_23 : decode cX6_isSaturday 23 = .ok (.iconst 0, 1) := dk_3 (dk_at dksX6_isSaturday_0 23 rfl rfl)
theorem dX6_isSaturday_24 : decode cX6_isSaturday 24 = .ok (.ireturn, 1) := dk_172 (dk_at dksX6_isSaturday_1 0 rfl rfl)
abbrev cX6_isHere : ByteArray := prog_18_method_11_code
def yX6_isHere : MethodName := ⟨RX6, "isHere", "(I)Z"⟩
def dkwX6_isHere_0 : List UInt8 := [42, 27, 7, 182, 0, 49, 4, 160, 0, 7, 4, 167, 0, 4, 3, 172]
abbrev dktX6_isHere_0 : List UInt8 := dkwX6_isHere_0 ++ []
theorem dksX6_isHere_0 : cX6_isHere.data.toList.drop 0 = dktX6_isHere_0 := by decide +kernel
theorem dX6_isHere_0 : decode cX6_isHere 0 = .ok (.aload_n 0, 1) := dk_42 (dk_at dksX6_isHere_0 0 rfl rfl)
theorem dX6_isHere_1 : decode cX6_isHere 1 = .ok (.iload_n 1, 1) := dk_27 (dk_at dksX6_isHere_0 1 rfl rfl)
theorem dX6_isHere_2 : decode cX6_isHere 2 = .ok (.iconst 4, 1) := dk_7 (dk_at dksX6_isHere_0 2 rfl rfl)
theorem dX6_isHere_3 : decode cX6_isHere 3 = .ok (.invokevirtual 49, 3) := dk_182 0 49 (dk_at dksX6_isHere_0 3 rfl rfl)
theorem dX6_isHere_6 : decode cX6_isHere 6 = .ok (.iconst 1, 1) := dk_4 (dk_at dksX6_isHere_0 6 rfl rfl)
theorem dX6_isHere_7 : decode cX6_isHere 7 = .ok (.if_icmp .ne 7, 3) := dk_160 0 7 (dk_at dksX6_isHere_0 7 rfl rfl)
theorem dX6_isHere_10 : decode cX6_isHere 10 = .ok (.iconst 1, 1) := dk_4 (dk_at dksX6_isHere_0 10 rfl rfl)
theorem dX6_isHere_11 : decode cX6_isHere 11 = .ok (.goto 4, 3) := dk_167 0 4 (dk_at dksX6_isHere_0 11 rfl rfl)
theorem dX6_isHere_14 : decode cX6_isHere 14 = .ok (.iconst 0, 1) := dk_3 (dk_at dksX6_isHere_0 14 rfl rfl)
theorem dX6_isHere_15 : decode cX6_isHere 15 = .ok (.ireturn, 1) := dk_172 (dk_at dksX6_isHere_0 15 rfl rfl)
abbrev cX6_doubts : ByteArray := prog_18_method_53_code
def yX6_doubts : MethodName := ⟨RX6, "doubts", "()I"⟩
def dkwX6_doubts_1 : List UInt8 := [28, 5, 182, 0, 49, 167, 0, 4, 3, 96, 60, 132, 2, 1, 167, 255, 222, 27, 172]
abbrev dktX6_doubts_1 : List UInt8 := dkwX6_doubts_1 ++ []
def dkwX6_doubts_0 : List UInt8 := [3, 60, 3, 61, 28, 42, 180, 0, 7, 6, 46, 162, 0, 30, 27, 42, 28, 182, 0, 236, 153, 0, 12, 42]
abbrev dktX6_doubts_0 : List UInt8 := dkwX6_doubts_0 ++ dktX6_doubts_1
theorem dksX6_doubts_0 : cX6_doubts.data.toList.drop 0 = dktX6_doubts_0 := by decide +kernel
theorem dksX6_doubts_1 : cX6_doubts.data.toList.drop 24 = dktX6_doubts_1 := dk_seg dksX6_doubts_0 24 rfl rfl
theorem dX6_doubts_0 : decode cX6_doubts 0 = .ok (.iconst 0, 1) := dk_3 (dk_at dksX6_doubts_0 0 rfl rfl)
theorem dX6_doubts_1 : decode cX6_doubts 1 = .ok (.istore_n 1, 1) := dk_60 (dk_at dksX6_doubts_0 1 rfl rfl)
theorem dX6_doubts_2 : decode cX6_doubts 2 = .ok (.iconst 0, 1) := dk_3 (dk_at dksX6_doubts_0 2 rfl rfl)
theorem dX6_doubts_3 : decode cX6_doubts 3 = .ok (.istore_n 2, 1) := dk_61 (dk_at dksX6_doubts_0 3 rfl rfl)
theorem dX6_doubts_4 : decode cX6_doubts 4 = .ok (.iload_n 2, 1) := dk_28 (dk_at dksX6_doubts_0 4 rfl rfl)
theorem dX6_doubts_5 : decode cX6_doubts 5 = .ok (.aload_n 0, 1) := dk_42 (dk_at dksX6_doubts_0 5 rfl rfl)
theorem dX6_doubts_6 : decode cX6_doubts 6 = .ok (.getfield 7, 3) := dk_180 0 7 (dk_at dksX6_doubts_0 6 rfl rfl)
theorem dX6_doubts_9 : decode cX6_doubts 9 = .ok (.iconst 3, 1) := dk_6 (dk_at dksX6_doubts_0 9 rfl rfl)
theorem dX6_doubts_10 : decode cX6_doubts 10 = .ok (.iaload, 1) := dk_46 (dk_at dksX6_doubts_0 10 rfl rfl)
theorem dX6_doubts_11 : decode cX6_doubts 11 = .ok (.if_icmp .ge 30, 3) := dk_162 0 30 (dk_at dksX6_doubts_0 11 rfl rfl)
theorem dX6_doubts_14 : decode cX6_doubts 14 = .ok (.iload_n 1, 1) := dk_27 (dk_at dksX6_doubts_0 14 rfl rfl)
theorem dX6_doubts_15 : decode cX6_doubts 15 = .ok (.aload_n 0, 1) := dk_42 (dk_at dksX6_doubts_0 15 rfl rfl)
theorem dX6_doubts_16 : decode cX6_doubts 16 = .ok (.iload_n 2, 1) := dk_28 (dk_at dksX6_doubts_0 16 rfl rfl)
theorem dX6_doubts_17 : decode cX6_doubts 17 = .ok (.invokevirtual 236, 3) := dk_182 0 236 (dk_at dksX6_doubts_0 17 rfl rfl)
theorem dX6_doubts_20 : decode cX6_doubts 20 = .ok (.ifCond .eq 12, 3) := dk_153 0 12 (dk_at dksX6_doubts_0 20 rfl rfl)
theorem dX6_doubts_23 : decode cX6_doubts 23 = .ok (.aload_n 0, 1) := dk_42 (dk_at dksX6_doubts_0 23 rfl rfl)
theorem dX6_doubts_24 : decode cX6_doubts 24 = .ok (.iload_n 2, 1) := dk_28 (dk_at dksX6_doubts_1 0 rfl rfl)
theorem dX6_doubts_25 : decode cX6_doubts 25 = .ok (.iconst 2, 1) := dk_5 (dk_at dksX6_doubts_1 1 rfl rfl)
theorem dX6_doubts_26 : decode cX6_doubts 26 = .ok (.invokevirtual 49, 3) := dk_182 0 49 (dk_at dksX6_doubts_1 2 rfl rfl)
theorem dX6_doubts_29 : decode cX6_doubts 29 = .ok (.goto 4, 3) := dk_167 0 4 (dk_at dksX6_doubts_1 5 rfl rfl)
theorem dX6_doubts_32 : decode cX6_doubts 32 = .ok (.iconst 0, 1) := dk_3 (dk_at dksX6_doubts_1 8 rfl rfl)
theorem dX6_doubts_33 : decode cX6_doubts 33 = .ok (.iadd, 1) := dk_96 (dk_at dksX6_doubts_1 9 rfl rfl)
theorem dX6_doubts_34 : decode cX6_doubts 34 = .ok (.istore_n 1, 1) := dk_60 (dk_at dksX6_doubts_1 10 rfl rfl)
theorem dX6_doubts_35 : decode cX6_doubts 35 = .ok (.iinc 2 1, 3) := dk_132 2 1 (dk_at dksX6_doubts_1 11 rfl rfl)
theorem dX6_doubts_38 : decode cX6_doubts 38 = .ok (.goto (-34), 3) := dk_167 255 222 (dk_at dksX6_doubts_1 14 rfl rfl)
theorem dX6_doubts_41 : decode cX6_doubts 41 = .ok (.iload_n 1, 1) := dk_27 (dk_at dksX6_doubts_1 17 rfl rfl)
theorem dX6_doubts_42 : decode cX6_doubts 42 = .ok (.ireturn, 1) := dk_172 (dk_at dksX6_doubts_1 18 rfl rfl)
abbrev cX6_sees : ByteArray := prog_18_method_46_code
def yX6_sees : MethodName := ⟨RX6, "sees", "(II)Z"⟩
def dkwX6_sees_1 : List UInt8 := [182, 0, 232, 172]
abbrev dktX6_sees_1 : List UInt8 := dkwX6_sees_1 ++ []
def dkwX6_sees_0 : List UInt8 := [42, 42, 27, 3, 182, 0, 49, 42, 27, 6, 182, 0, 49, 4, 160, 0, 7, 4, 167, 0, 4, 3, 28]
abbrev dktX6_sees_0 : List UInt8 := dkwX6_sees_0 ++ dktX6_sees_1
theorem dksX6_sees_0 : cX6_sees.data.toList.drop 0 = dktX6_sees_0 := by decide +kernel
theorem dksX6_sees_1 : cX6_sees.data.toList.drop 23 = dktX6_sees_1 := dk_seg dksX6_sees_0 23 rfl rfl
theorem dX6_sees_0 : decode cX6_sees 0 = .ok (.aload_n 0, 1) := dk_42 (dk_at dksX6_sees_0 0 rfl rfl)
theorem dX6_sees_1 : decode cX6_sees 1 = .ok (.aload_n 0, 1) := dk_42 (dk_at dksX6_sees_0 1 rfl rfl)
theorem dX6_sees_2 : decode cX6_sees 2 = .ok (.iload_n 1, 1) := dk_27 (dk_at dksX6_sees_0 2 rfl rfl)
theorem dX6_sees_3 : decode cX6_sees 3 = .ok (.iconst 0, 1) := dk_3 (dk_at dksX6_sees_0 3 rfl rfl)
theorem dX6_sees_4 : decode cX6_sees 4 = .ok (.invokevirtual 49, 3) := dk_182 0 49 (dk_at dksX6_sees_0 4 rfl rfl)
theorem dX6_sees_7 : decode cX6_sees 7 = .ok (.aload_n 0, 1) := dk_42 (dk_at dksX6_sees_0 7 rfl rfl)
theorem dX6_sees_8 : decode cX6_sees 8 = .ok (.iload_n 1, 1) := dk_27 (dk_at dksX6_sees_0 8 rfl rfl)
theorem dX6_sees_9 : decode cX6_sees 9 = .ok (.iconst 3, 1) := dk_6 (dk_at dksX6_sees_0 9 rfl rfl)
theorem dX6_sees_10 : decode cX6_sees 10 = .ok (.invokevirtual 49, 3) := dk_182 0 49 (dk_at dksX6_sees_0 10 rfl rfl)
theorem dX6_sees_13 : decode cX6_sees 13 = .ok (.iconst 1, 1) := dk_4 (dk_at dksX6_sees_0 13 rfl rfl)
theorem dX6_sees_14 : decode cX6_sees 14 = .ok (.if_icmp .ne 7, 3) := dk_160 0 7 (dk_at dksX6_sees_0 14 rfl rfl)
theorem dX6_sees_17 : decode cX6_sees 17 = .ok (.iconst 1, 1) := dk_4 (dk_at dksX6_sees_0 17 rfl rfl)
theorem dX6_sees_18 : decode cX6_sees 18 = .ok (.goto 4, 3) := dk_167 0 4 (dk_at dksX6_sees_0 18 rfl rfl)
theorem dX6_sees_21 : decode cX6_sees 21 = .ok (.iconst 0, 1) := dk_3 (dk_at dksX6_sees_0 21 rfl rfl)
theorem dX6_sees_22 : decode cX6_sees 22 = .ok (.iload_n 2, 1) := dk_28 (dk_at dksX6_sees_0 22 rfl rfl)
theorem dX6_sees_23 : decode cX6_sees 23 = .ok (.invokevirtual 232, 3) := dk_182 0 232 (dk_at dksX6_sees_1 0 rfl rfl)
theorem dX6_sees_26 : decode cX6_sees 26 = .ok (.ireturn, 1) := dk_172 (dk_at dksX6_sees_1 3 rfl rfl)
abbrev cX6_seesFrom : ByteArray := prog_18_method_45_code
def yX6_seesFrom : MethodName := ⟨RX6, "seesFrom", "(IZI)Z"⟩
def dkwX6_seesFrom_2 : List UInt8 := [153, 0, 7, 4, 167, 0, 4, 3, 172]
abbrev dktX6_seesFrom_2 : List UInt8 := dkwX6_seesFrom_2 ++ []
def dkwX6_seesFrom_1 : List UInt8 := [3, 54, 4, 27, 29, 159, 0, 21, 42, 27, 29, 182, 0, 229, 154, 0, 12, 28, 153, 0, 12, 21, 4]
abbrev dktX6_seesFrom_1 : List UInt8 := dkwX6_seesFrom_1 ++ dktX6_seesFrom_2
def dkwX6_seesFrom_0 : List UInt8 := [27, 4, 96, 16, 8, 112, 29, 159, 0, 13, 29, 4, 96, 16, 8, 112, 27, 160, 0, 7, 4, 167, 0, 4]
abbrev dktX6_seesFrom_0 : List UInt8 := dkwX6_seesFrom_0 ++ dktX6_seesFrom_1
theorem dksX6_seesFrom_0 : cX6_seesFrom.data.toList.drop 0 = dktX6_seesFrom_0 := by decide +kernel
theorem dksX6_seesFrom_1 : cX6_seesFrom.data.toList.drop 24 = dktX6_seesFrom_1 := dk_seg dksX6_seesFrom_0 24 rfl rfl
theorem dksX6_seesFrom_2 : cX6_seesFrom.data.toList.drop 47 = dktX6_seesFrom_2 := dk_seg dksX6_seesFrom_1 23 rfl rfl
theorem dX6_seesFrom_0 : decode cX6_seesFrom 0 = .ok (.iload_n 1, 1) := dk_27 (dk_at dksX6_seesFrom_0 0 rfl rfl)
theorem dX6_seesFrom_1 : decode cX6_seesFrom 1 = .ok (.iconst 1, 1) := dk_4 (dk_at dksX6_seesFrom_0 1 rfl rfl)
theorem dX6_seesFrom_2 : decode cX6_seesFrom 2 = .ok (.iadd, 1) := dk_96 (dk_at dksX6_seesFrom_0 2 rfl rfl)
theorem dX6_seesFrom_3 : decode cX6_seesFrom 3 = .ok (.bipush 8, 2) := dk_16 8 (dk_at dksX6_seesFrom_0 3 rfl rfl)
theorem dX6_seesFrom_5 : decode cX6_seesFrom 5 = .ok (.irem, 1) := dk_112 (dk_at dksX6_seesFrom_0 5 rfl rfl)
theorem dX6_seesFrom_6 : decode cX6_seesFrom 6 = .ok (.iload_n 3, 1) := dk_29 (dk_at dksX6_seesFrom_0 6 rfl rfl)
theorem dX6_seesFrom_7 : decode cX6_seesFrom 7 = .ok (.if_icmp .eq 13, 3) := dk_159 0 13 (dk_at dksX6_seesFrom_0 7 rfl rfl)
theorem dX6_seesFrom_10 : decode cX6_seesFrom 10 = .ok (.iload_n 3, 1) := dk_29 (dk_at dksX6_seesFrom_0 10 rfl rfl)
theorem dX6_seesFrom_11 : decode cX6_seesFrom 11 = .ok (.iconst 1, 1) := dk_4 (dk_at dksX6_seesFrom_0 11 rfl rfl)
theorem dX6_seesFrom_12 : decode cX6_seesFrom 12 = .ok (.iadd, 1) := dk_96 (dk_at dksX6_seesFrom_0 12 rfl rfl)
theorem dX6_seesFrom_13 : decode cX6_seesFrom 13 = .ok (.bipush 8, 2) := dk_16 8 (dk_at dksX6_seesFrom_0 13 rfl rfl)
theorem dX6_seesFrom_15 : decode cX6_seesFrom 15 = .ok (.irem, 1) := dk_112 (dk_at dksX6_seesFrom_0 15 rfl rfl)
theorem dX6_seesFrom_16 : decode cX6_seesFrom 16 = .ok (.iload_n 1, 1) := dk_27 (dk_at dksX6_seesFrom_0 16 rfl rfl)
theorem dX6_seesFrom_17 : decode cX6_seesFrom 17 = .ok (.if_icmp .ne 7, 3) := dk_160 0 7 (dk_at dksX6_seesFrom_0 17 rfl rfl)
theorem dX6_seesFrom_20 : decode cX6_seesFrom 20 = .ok (.iconst 1, 1) := dk_4 (dk_at dksX6_seesFrom_0 20 rfl rfl)
theorem dX6_seesFrom_21 : decode cX6_seesFrom 21 = .ok (.goto 4, 3) := dk_167 0 4 (dk_at dksX6_seesFrom_0 21 rfl rfl)
theorem dX6_seesFrom_24 : decode cX6_seesFrom 24 = .ok (.iconst 0, 1) := dk_3 (dk_at dksX6_seesFrom_1 0 rfl rfl)
theorem dX6_seesFrom_25 : decode cX6_seesFrom 25 = .ok (.istore 4, 2) := dk_54 4 (dk_at dksX6_seesFrom_1 1 rfl rfl)
theorem dX6_seesFrom_27 : decode cX6_seesFrom 27 = .ok (.iload_n 1, 1) := dk_27 (dk_at dksX6_seesFrom_1 3 rfl rfl)
theorem dX6_seesFrom_28 : decode cX6_seesFrom 28 = .ok (.iload_n 3, 1) := dk_29 (dk_at dksX6_seesFrom_1 4 rfl rfl)
theorem dX6_seesFrom_29 : decode cX6_seesFrom 29 = .ok (.if_icmp .eq 21, 3) := dk_159 0 21 (dk_at dksX6_seesFrom_1 5 rfl rfl)
theorem dX6_seesFrom_32 : decode cX6_seesFrom 32 = .ok (.aload_n 0, 1) := dk_42 (dk_at dksX6_seesFrom_1 8 rfl rfl)
theorem dX6_seesFrom_33 : decode cX6_seesFrom 33 = .ok (.iload_n 1, 1) := dk_27 (dk_at dksX6_seesFrom_1 9 rfl rfl)
theorem dX6_seesFrom_34 : decode cX6_seesFrom 34 = .ok (.iload_n 3, 1) := dk_29 (dk_at dksX6_seesFrom_1 10 rfl rfl)
theorem dX6_seesFrom_35 : decode cX6_seesFrom 35 = .ok (.invokevirtual 229, 3) := dk_182 0 229 (dk_at dksX6_seesFrom_1 11 rfl rfl)
theorem dX6_seesFrom_38 : decode cX6_seesFrom 38 = .ok (.ifCond .ne 12, 3) := dk_154 0 12 (dk_at dksX6_seesFrom_1 14 rfl rfl)
theorem dX6_seesFrom_41 : decode cX6_seesFrom 41 = .ok (.iload_n 2, 1) := dk_28 (dk_at dksX6_seesFrom_1 17 rfl rfl)
theorem dX6_seesFrom_42 : decode cX6_seesFrom 42 = .ok (.ifCond .eq 12, 3) := dk_153 0 12 (dk_at dksX6_seesFrom_1 18 rfl rfl)
theorem dX6_seesFrom_45 : decode cX6_seesFrom 45 = .ok (.iload 4, 2) := dk_21 4 (dk_at dksX6_seesFrom_1 21 rfl rfl)
theorem dX6_seesFrom_47 : decode cX6_seesFrom 47 = .ok (.ifCond .eq 7, 3) := dk_153 0 7 (dk_at dksX6_seesFrom_2 0 rfl rfl)
theorem dX6_seesFrom_50 : decode cX6_seesFrom 50 = .ok (.iconst 1, 1) := dk_4 (dk_at dksX6_seesFrom_2 3 rfl rfl)
theorem dX6_seesFrom_51 : decode cX6_seesFrom 51 = .ok (.goto 4, 3) := dk_167 0 4 (dk_at dksX6_seesFrom_2 4 rfl rfl)
theorem dX6_seesFrom_54 : decode cX6_seesFrom 54 = .ok (.iconst 0, 1) := dk_3 (dk_at dksX6_seesFrom_2 7 rfl rfl)
theorem dX6_seesFrom_55 : decode cX6_seesFrom 55 = .ok (.ireturn, 1) := dk_172 (dk_at dksX6_seesFrom_2 8 rfl rfl)
abbrev cX6_isHole : ByteArray := prog_18_method_13_code
def yX6_isHole : MethodName := ⟨RX6, "isHole", "(II)Z"⟩
def dkwX6_isHole_0 : List UInt8 := [42, 180, 0, 7, 16, 16, 27, 96, 46, 28, 184, 0, 53, 172]
abbrev dktX6_isHole_0 : List UInt8 := dkwX6_isHole_0 ++ []
theorem dksX6_isHole_0 : cX6_isHole.data.toList.drop 0 = dktX6_isHole_0 := by decide +kernel
theorem dX6_isHole_0 : decode cX6_isHole 0 = .ok (.aload_n 0, 1) := dk_42 (dk_at dksX6_isHole_0 0 rfl rfl)
theorem dX6_isHole_1 : decode cX6_isHole 1 = .ok (.getfield 7, 3) := dk_180 0 7 (dk_at dksX6_isHole_0 1 rfl rfl)
theorem dX6_isHole_4 : decode cX6_isHole 4 = .ok (.bipush 16, 2) := dk_16 16 (dk_at dksX6_isHole_0 4 rfl rfl)
theorem dX6_isHole_6 : decode cX6_isHole 6 = .ok (.iload_n 1, 1) := dk_27 (dk_at dksX6_isHole_0 6 rfl rfl)
theorem dX6_isHole_7 : decode cX6_isHole 7 = .ok (.iadd, 1) := dk_96 (dk_at dksX6_isHole_0 7 rfl rfl)
theorem dX6_isHole_8 : decode cX6_isHole 8 = .ok (.iaload, 1) := dk_46 (dk_at dksX6_isHole_0 8 rfl rfl)
theorem dX6_isHole_9 : decode cX6_isHole 9 = .ok (.iload_n 2, 1) := dk_28 (dk_at dksX6_isHole_0 9 rfl rfl)
theorem dX6_isHole_10 : decode cX6_isHole 10 = .ok (.invokestatic 53, 3) := dk_184 0 53 (dk_at dksX6_isHole_0 10 rfl rfl)
theorem dX6_isHole_13 : decode cX6_isHole 13 = .ok (.ireturn, 1) := dk_172 (dk_at dksX6_isHole_0 13 rfl rfl)
abbrev cX6_isOf : ByteArray := prog_18_method_6_code
def yX6_isOf : MethodName := ⟨RX6, "isOf", "(II)Z"⟩
def dkwX6_isOf_0 : List UInt8 := [26, 27, 122, 4, 126, 4, 160, 0, 7, 4, 167, 0, 4, 3, 172]
abbrev dktX6_isOf_0 : List UInt8 := dkwX6_isOf_0 ++ []
theorem dksX6_isOf_0 : cX6_isOf.data.toList.drop 0 = dktX6_isOf_0 := by decide +kernel
theorem dX6_isOf_0 : decode cX6_isOf 0 = .ok (.iload_n 0, 1) := dk_26 (dk_at dksX6_isOf_0 0 rfl rfl)
theorem dX6_isOf_1 : decode cX6_isOf 1 = .ok (.iload_n 1, 1) := dk_27 (dk_at dksX6_isOf_0 1 rfl rfl)
theorem dX6_isOf_2 : decode cX6_isOf 2 = .ok (.ishr, 1) := dk_122 (dk_at dksX6_isOf_0 2 rfl rfl)
theorem dX6_isOf_3 : decode cX6_isOf 3 = .ok (.iconst 1, 1) := dk_4 (dk_at dksX6_isOf_0 3 rfl rfl)
theorem dX6_isOf_4 : decode cX6_isOf 4 = .ok (.iand, 1) := dk_126 (dk_at dksX6_isOf_0 4 rfl rfl)
theorem dX6_isOf_5 : decode cX6_isOf 5 = .ok (.iconst 1, 1) := dk_4 (dk_at dksX6_isOf_0 5 rfl rfl)
theorem dX6_isOf_6 : decode cX6_isOf 6 = .ok (.if_icmp .ne 7, 3) := dk_160 0 7 (dk_at dksX6_isOf_0 6 rfl rfl)
theorem dX6_isOf_9 : decode cX6_isOf 9 = .ok (.iconst 1, 1) := dk_4 (dk_at dksX6_isOf_0 9 rfl rfl)
theorem dX6_isOf_10 : decode cX6_isOf 10 = .ok (.goto 4, 3) := dk_167 0 4 (dk_at dksX6_isOf_0 10 rfl rfl)
theorem dX6_isOf_13 : decode cX6_isOf 13 = .ok (.iconst 0, 1) := dk_3 (dk_at dksX6_isOf_0 13 rfl rfl)
theorem dX6_isOf_14 : decode cX6_isOf 14 = .ok (.ireturn, 1) := dk_172 (dk_at dksX6_isOf_0 14 rfl rfl)
abbrev cX6_room : ByteArray := prog_18_method_57_code
def yX6_room : MethodName := ⟨RX6, "room", "(II)I"⟩
def dkwX6_room_3 : List UInt8 := [160, 0, 11, 42, 27, 182, 1, 23, 167, 0, 8, 42, 27, 182, 0, 252, 172]
abbrev dktX6_room_3 : List UInt8 := dkwX6_room_3 ++ []
def dkwX6_room_2 : List UInt8 := [16, 16, 27, 96, 46, 167, 0, 34, 28, 4, 160, 0, 11, 42, 27, 182, 1, 20, 167, 0, 21, 28, 5]
abbrev dktX6_room_2 : List UInt8 := dkwX6_room_2 ++ dktX6_room_3
def dkwX6_room_1 : List UInt8 := [167, 0, 4, 3, 181, 0, 42, 42, 180, 0, 42, 158, 0, 5, 3, 172, 28, 154, 0, 15, 42, 180, 0, 7]
abbrev dktX6_room_1 : List UInt8 := dkwX6_room_1 ++ dktX6_room_2
def dkwX6_room_0 : List UInt8 := [42, 27, 184, 1, 17, 154, 0, 7, 4, 167, 0, 17, 28, 3, 6, 184, 0, 45, 154, 0, 7, 5]
abbrev dktX6_room_0 : List UInt8 := dkwX6_room_0 ++ dktX6_room_1
theorem dksX6_room_0 : cX6_room.data.toList.drop 0 = dktX6_room_0 := by decide +kernel
theorem dksX6_room_1 : cX6_room.data.toList.drop 22 = dktX6_room_1 := dk_seg dksX6_room_0 22 rfl rfl
theorem dksX6_room_2 : cX6_room.data.toList.drop 46 = dktX6_room_2 := dk_seg dksX6_room_1 24 rfl rfl
theorem dksX6_room_3 : cX6_room.data.toList.drop 69 = dktX6_room_3 := dk_seg dksX6_room_2 23 rfl rfl
theorem dX6_room_0 : decode cX6_room 0 = .ok (.aload_n 0, 1) := dk_42 (dk_at dksX6_room_0 0 rfl rfl)
theorem dX6_room_1 : decode cX6_room 1 = .ok (.iload_n 1, 1) := dk_27 (dk_at dksX6_room_0 1 rfl rfl)
theorem dX6_room_2 : decode cX6_room 2 = .ok (.invokestatic 273, 3) := dk_184 1 17 (dk_at dksX6_room_0 2 rfl rfl)
theorem dX6_room_5 : decode cX6_room 5 = .ok (.ifCond .ne 7, 3) := dk_154 0 7 (dk_at dksX6_room_0 5 rfl rfl)
theorem dX6_room_8 : decode cX6_room 8 = .ok (.iconst 1, 1) := dk_4 (dk_at dksX6_room_0 8 rfl rfl)
theorem dX6_room_9 : decode cX6_room 9 = .ok (.goto 17, 3) := dk_167 0 17 (dk_at dksX6_room_0 9 rfl rfl)
theorem dX6_room_12 : decode cX6_room 12 = .ok (.iload_n 2, 1) := dk_28 (dk_at dksX6_room_0 12 rfl rfl)
theorem dX6_room_13 : decode cX6_room 13 = .ok (.iconst 0, 1) := dk_3 (dk_at dksX6_room_0 13 rfl rfl)
theorem dX6_room_14 : decode cX6_room 14 = .ok (.iconst 3, 1) := dk_6 (dk_at dksX6_room_0 14 rfl rfl)
theorem dX6_room_15 : decode cX6_room 15 = .ok (.invokestatic 45, 3) := dk_184 0 45 (dk_at dksX6_room_0 15 rfl rfl)
theorem dX6_room_18 : decode cX6_room 18 = .ok (.ifCond .ne 7, 3) := dk_154 0 7 (dk_at dksX6_room_0 18 rfl rfl)
theorem dX6_room_21 : decode cX6_room 21 = .ok (.iconst 2, 1) := dk_5 (dk_at dksX6_room_0 21 rfl rfl)
theorem dX6_room_22 : decode cX6_room 22 = .ok (.goto 4, 3) := dk_167 0 4 (dk_at dksX6_room_1 0 rfl rfl)
theorem dX6_room_25 : decode cX6_room 25 = .ok (.iconst 0, 1) := dk_3 (dk_at dksX6_room_1 3 rfl rfl)
theorem dX6_room_26 : decode cX6_room 26 = .ok (.putfield 42, 3) := dk_181 0 42 (dk_at dksX6_room_1 4 rfl rfl)
theorem dX6_room_29 : decode cX6_room 29 = .ok (.aload_n 0, 1) := dk_42 (dk_at dksX6_room_1 7 rfl rfl)
theorem dX6_room_30 : decode cX6_room 30 = .ok (.getfield 42, 3) := dk_180 0 42 (dk_at dksX6_room_1 8 rfl rfl)
theorem dX6_room_33 : decode cX6_room 33 = .ok (.ifCond .le 5, 3) := dk_158 0 5 (dk_at dksX6_room_1 11 rfl rfl)
theorem dX6_room_36 : decode cX6_room 36 = .ok (.iconst 0, 1) := dk_3 (dk_at dksX6_room_1 14 rfl rfl)
theorem dX6_room_37 : decode cX6_room 37 = .ok (.ireturn, 1) := dk_172 (dk_at dksX6_room_1 15 rfl rfl)
theorem dX6_room_38 : decode cX6_room 38 = .ok (.iload_n 2, 1) := dk_28 (dk_at dksX6_room_1 16 rfl rfl)
theorem dX6_room_39 : decode cX6_room 39 = .ok (.ifCond .ne 15, 3) := dk_154 0 15 (dk_at dksX6_room_1 17 rfl rfl)
theorem dX6_room_42 : decode cX6_room 42 = .ok (.aload_n 0, 1) := dk_42 (dk_at dksX6_room_1 20 rfl rfl)
theorem dX6_room_43 : decode cX6_room 43 = .ok (.getfield 7, 3) := dk_180 0 7 (dk_at dksX6_room_1 21 rfl rfl)
theorem dX6_room_46 : decode cX6_room 46 = .ok (.bipush 16, 2) := dk_16 16 (dk_at dksX6_room_2 0 rfl rfl)
theorem dX6_room_48 : decode cX6_room 48 = .ok (.iload_n 1, 1) := dk_27 (dk_at dksX6_room_2 2 rfl rfl)
theorem dX6_room_49 : decode cX6_room 49 = .ok (.iadd, 1) := dk_96 (dk_at dksX6_room_2 3 rfl rfl)
theorem dX6_room_50 : decode cX6_room 50 = .ok (.iaload, 1) := dk_46 (dk_at dksX6_room_2 4 rfl rfl)
theorem dX6_room_51 : decode cX6_room 51 = .ok (.goto 34, 3) := dk_167 0 34 (dk_at dksX6_room_2 5 rfl rfl)
theorem dX6_room_54 : decode cX6_room 54 = .ok (.iload_n 2, 1) := dk_28 (dk_at dksX6_room_2 8 rfl rfl)
theorem dX6_room_55 : decode cX6_room 55 = .ok (.iconst 1, 1) := dk_4 (dk_at dksX6_room_2 9 rfl rfl)
theorem dX6_room_56 : decode cX6_room 56 = .ok (.if_icmp .ne 11, 3) := dk_160 0 11 (dk_at dksX6_room_2 10 rfl rfl)
theorem dX6_room_59 : decode cX6_room 59 = .ok (.aload_n 0, 1) := dk_42 (dk_at dksX6_room_2 13 rfl rfl)
theorem dX6_room_60 : decode cX6_room 60 = .ok (.iload_n 1, 1) := dk_27 (dk_at dksX6_room_2 14 rfl rfl)
theorem dX6_room_61 : decode cX6_room 61 = .ok (.invokevirtual 276, 3) := dk_182 1 20 (dk_at dksX6_room_2 15 rfl rfl)
theorem dX6_room_64 : decode cX6_room 64 = .ok (.goto 21, 3) := dk_167 0 21 (dk_at dksX6_room_2 18 rfl rfl)
theorem dX6_room_67 : decode cX6_room 67 = .ok (.iload_n 2, 1) := dk_28 (dk_at dksX6_room_2 21 rfl rfl)
theorem dX6_room_68 : decode cX6_room 68 = .ok (.iconst 2, 1) := dk_5 (dk_at dksX6_room_2 22 rfl rfl)
theorem dX6_room_69 : decode cX6_room 69 = .ok (.if_icmp .ne 11, 3) := dk_160 0 11 (dk_at dksX6_room_3 0 rfl rfl)
theorem dX6_room_72 : decode cX6_room 72 = .ok (.aload_n 0, 1) := dk_42 (dk_at dksX6_room_3 3 rfl rfl)
theorem dX6_room_73 : decode cX6_room 73 = .ok (.iload_n 1, 1) := dk_27 (dk_at dksX6_room_3 4 rfl rfl)
theorem dX6_room_74 : decode cX6_room 74 = .ok (.invokevirtual 279, 3) := dk_182 1 23 (dk_at dksX6_room_3 5 rfl rfl)
theorem dX6_room_77 : decode cX6_room 77 = .ok (.goto 8, 3) := dk_167 0 8 (dk_at dksX6_room_3 8 rfl rfl)
theorem dX6_room_80 : decode cX6_room 80 = .ok (.aload_n 0, 1) := dk_42 (dk_at dksX6_room_3 11 rfl rfl)
theorem dX6_room_81 : decode cX6_room 81 = .ok (.iload_n 1, 1) := dk_27 (dk_at dksX6_room_3 12 rfl rfl)
theorem dX6_room_82 : decode cX6_room 82 = .ok (.invokevirtual 252, 3) := dk_182 0 252 (dk_at dksX6_room_3 13 rfl rfl)
theorem dX6_room_85 : decode cX6_room 85 = .ok (.ireturn, 1) := dk_172 (dk_at dksX6_room_3 16 rfl rfl)
abbrev cX6_isRoom : ByteArray := prog_18_method_12_code
def yX6_isRoom : MethodName := ⟨RX6, "isRoom", "(I)Z"⟩
def dkwX6_isRoom_0 : List UInt8 := [26, 3, 16, 7, 184, 0, 45, 172]
abbrev dktX6_isRoom_0 : List UInt8 := dkwX6_isRoom_0 ++ []
theorem dksX6_isRoom_0 : cX6_isRoom.data.toList.drop 0 = dktX6_isRoom_0 := by decide +kernel
theorem dX6_isRoom_0 : decode cX6_isRoom 0 = .ok (.iload_n 0, 1) := dk_26 (dk_at dksX6_isRoom_0 0 rfl rfl)
theorem dX6_isRoom_1 : decode cX6_isRoom 1 = .ok (.iconst 0, 1) := dk_3 (dk_at dksX6_isRoom_0 1 rfl rfl)
theorem dX6_isRoom_2 : decode cX6_isRoom 2 = .ok (.bipush 7, 2) := dk_16 7 (dk_at dksX6_isRoom_0 2 rfl rfl)
theorem dX6_isRoom_4 : decode cX6_isRoom 4 = .ok (.invokestatic 45, 3) := dk_184 0 45 (dk_at dksX6_isRoom_0 4 rfl rfl)
theorem dX6_isRoom_7 : decode cX6_isRoom 7 = .ok (.ireturn, 1) := dk_172 (dk_at dksX6_isRoom_0 7 rfl rfl)
abbrev cX6_from : ByteArray := prog_18_method_55_code
def yX6_from : MethodName := ⟨RX6, "from", "(I)I"⟩
def dkwX6_from_1 : List UInt8 := [167, 0, 4, 3, 128, 61, 132, 3, 1, 167, 255, 228, 28, 172]
abbrev dktX6_from_1 : List UInt8 := dkwX6_from_1 ++ []
def dkwX6_from_0 : List UInt8 := [3, 61, 3, 62, 29, 16, 8, 162, 0, 28, 28, 42, 29, 27, 182, 0, 229, 153, 0, 9, 4, 29, 120]
abbrev dktX6_from_0 : List UInt8 := dkwX6_from_0 ++ dktX6_from_1
theorem dksX6_from_0 : cX6_from.data.toList.drop 0 = dktX6_from_0 := by decide +kernel
theorem dksX6_from_1 : cX6_from.data.toList.drop 23 = dktX6_from_1 := dk_seg dksX6_from_0 23 rfl rfl
theorem dX6_from_0 : decode cX6_from 0 = .ok (.iconst 0, 1) := dk_3 (dk_at dksX6_from_0 0 rfl rfl)
theorem dX6_from_1 : decode cX6_from 1 = .ok (.istore_n 2, 1) := dk_61 (dk_at dksX6_from_0 1 rfl rfl)
theorem dX6_from_2 : decode cX6_from 2 = .ok (.iconst 0, 1) := dk_3 (dk_at dksX6_from_0 2 rfl rfl)
theorem dX6_from_3 : decode cX6_from 3 = .ok (.istore_n 3, 1) := dk_62 (dk_at dksX6_from_0 3 rfl rfl)
theorem dX6_from_4 : decode cX6_from 4 = .ok (.iload_n 3, 1) := dk_29 (dk_at dksX6_from_0 4 rfl rfl)
theorem dX6_from_5 : decode cX6_from 5 = .ok (.bipush 8, 2) := dk_16 8 (dk_at dksX6_from_0 5 rfl rfl)
theorem dX6_from_7 : decode cX6_from 7 = .ok (.if_icmp .ge 28, 3) := dk_162 0 28 (dk_at dksX6_from_0 7 rfl rfl)
theorem dX6_from_10 : decode cX6_from 10 = .ok (.iload_n 2, 1) := dk_28 (dk_at dksX6_from_0 10 rfl rfl)
theorem dX6_from_11 : decode cX6_from 11 = .ok (.aload_n 0, 1) := dk_42 (dk_at dksX6_from_0 11 rfl rfl)
theorem dX6_from_12 : decode cX6_from 12 = .ok (.iload_n 3, 1) := dk_29 (dk_at dksX6_from_0 12 rfl rfl)
theorem dX6_from_13 : decode cX6_from 13 = .ok (.iload_n 1, 1) := dk_27 (dk_at dksX6_from_0 13 rfl rfl)
theorem dX6_from_14 : decode cX6_from 14 = .ok (.invokevirtual 229, 3) := dk_182 0 229 (dk_at dksX6_from_0 14 rfl rfl)
theorem dX6_from_17 : decode cX6_from 17 = .ok (.ifCond .eq 9, 3) := dk_153 0 9 (dk_at dksX6_from_0 17 rfl rfl)
theorem dX6_from_20 : decode cX6_from 20 = .ok (.iconst 1, 1) := dk_4 (dk_at dksX6_from_0 20 rfl rfl)
theorem dX6_from_21 : decode cX6_from 21 = .ok (.iload_n 3, 1) := dk_29 (dk_at dksX6_from_0 21 rfl rfl)
theorem dX6_from_22 : decode cX6_from 22 = .ok (.ishl, 1) := dk_120 (dk_at dksX6_from_0 22 rfl rfl)
theorem dX6_from_23 : decode cX6_from 23 = .ok (.goto 4, 3) := dk_167 0 4 (dk_at dksX6_from_1 0 rfl rfl)
theorem dX6_from_26 : decode cX6_from 26 = .ok (.iconst 0, 1) := dk_3 (dk_at dksX6_from_1 3 rfl rfl)
theorem dX6_from_27 : decode cX6_from 27 = .ok (.ior, 1) := dk_128 (dk_at dksX6_from_1 4 rfl rfl)
theorem dX6_from_28 : decode cX6_from 28 = .ok (.istore_n 2, 1) := dk_61 (dk_at dksX6_from_1 5 rfl rfl)
theorem dX6_from_29 : decode cX6_from 29 = .ok (.iinc 3 1, 3) := dk_132 3 1 (dk_at dksX6_from_1 6 rfl rfl)
theorem dX6_from_32 : decode cX6_from 32 = .ok (.goto (-28), 3) := dk_167 255 228 (dk_at dksX6_from_1 9 rfl rfl)
theorem dX6_from_35 : decode cX6_from 35 = .ok (.iload_n 2, 1) := dk_28 (dk_at dksX6_from_1 12 rfl rfl)
theorem dX6_from_36 : decode cX6_from 36 = .ok (.ireturn, 1) := dk_172 (dk_at dksX6_from_1 13 rfl rfl)
abbrev cX6_guestsIn : ByteArray := prog_18_method_56_code
def yX6_guestsIn : MethodName := ⟨RX6, "guestsIn", "(I)I"⟩
def dkwX6_guestsIn_2 : List UInt8 := [28, 172]
abbrev dktX6_guestsIn_2 : List UInt8 := dkwX6_guestsIn_2 ++ []
def dkwX6_guestsIn_1 : List UInt8 := [29, 3, 182, 0, 49, 27, 160, 0, 9, 4, 29, 120, 167, 0, 4, 3, 128, 61, 132, 3, 1, 167, 255, 215]
abbrev dktX6_guestsIn_1 : List UInt8 := dkwX6_guestsIn_1 ++ dktX6_guestsIn_2
def dkwX6_guestsIn_0 : List UInt8 := [3, 61, 3, 62, 29, 42, 180, 0, 7, 6, 46, 162, 0, 37, 28, 42, 29, 182, 0, 236, 153, 0, 19, 42]
abbrev dktX6_guestsIn_0 : List UInt8 := dkwX6_guestsIn_0 ++ dktX6_guestsIn_1
theorem dksX6_guestsIn_0 : cX6_guestsIn.data.toList.drop 0 = dktX6_guestsIn_0 := by decide +kernel
theorem dksX6_guestsIn_1 : cX6_guestsIn.data.toList.drop 24 = dktX6_guestsIn_1 := dk_seg dksX6_guestsIn_0 24 rfl rfl
theorem dksX6_guestsIn_2 : cX6_guestsIn.data.toList.drop 48 = dktX6_guestsIn_2 := dk_seg dksX6_guestsIn_1 24 rfl rfl
theorem dX6_guestsIn_0 : decode cX6_guestsIn 0 = .ok (.iconst 0, 1) := dk_3 (dk_at dksX6_guestsIn_0 0 rfl rfl)
theorem dX6_guestsIn_1 : decode cX6_guestsIn 1 = .ok (.istore_n 2, 1) := dk_61 (dk_at dksX6_guestsIn_0 1 rfl rfl)
theorem dX6_guestsIn_2 : decode cX6_guestsIn 2 = .ok (.iconst 0, 1) := dk_3 (dk_at dksX6_guestsIn_0 2 rfl rfl)
theorem dX6_guestsIn_3 : decode cX6_guestsIn 3 = .ok (.istore_n 3, 1) := dk_62 (dk_at dksX6_guestsIn_0 3 rfl rfl)
theorem dX6_guestsIn_4 : decode cX6_guestsIn 4 = .ok (.iload_n 3, 1) := dk_29 (dk_at dksX6_guestsIn_0 4 rfl rfl)
theorem dX6_guestsIn_5 : decode cX6_guestsIn 5 = .ok (.aload_n 0, 1) := dk_42 (dk_at dksX6_guestsIn_0 5 rfl rfl)
theorem dX6_guestsIn_6 : decode cX6_guestsIn 6 = .ok (.getfield 7, 3) := dk_180 0 7 (dk_at dksX6_guestsIn_0 6 rfl rfl)
theorem dX6_guestsIn_9 : decode cX6_guestsIn 9 = .ok (.iconst 3, 1) := dk_6 (dk_at dksX6_guestsIn_0 9 rfl rfl)
theorem dX6_guestsIn_10 : decode cX6_guestsIn 10 = .ok (.iaload, 1) := dk_46 (dk_at dksX6_guestsIn_0 10 rfl rfl)
theorem dX6_guestsIn_11 : decode cX6_guestsIn 11 = .ok (.if_icmp .ge 37, 3) := dk_162 0 37 (dk_at dksX6_guestsIn_0 11 rfl rfl)
theorem dX6_guestsIn_14 : decode cX6_guestsIn 14 = .ok (.iload_n 2, 1) := dk_28 (dk_at dksX6_guestsIn_0 14 rfl rfl)
theorem dX6_guestsIn_15 : decode cX6_guestsIn 15 = .ok (.aload_n 0, 1) := dk_42 (dk_at dksX6_guestsIn_0 15 rfl rfl)
theorem dX6_guestsIn_16 : decode cX6_guestsIn 16 = .ok (.iload_n 3, 1) := dk_29 (dk_at dksX6_guestsIn_0 16 rfl rfl)
theorem dX6_guestsIn_17 : decode cX6_guestsIn 17 = .ok (.invokevirtual 236, 3) := dk_182 0 236 (dk_at dksX6_guestsIn_0 17 rfl rfl)
theorem dX6_guestsIn_20 : decode cX6_guestsIn 20 = .ok (.ifCond .eq 19, 3) := dk_153 0 19 (dk_at dksX6_guestsIn_0 20 rfl rfl)
theorem dX6_guestsIn_23 : decode cX6_guestsIn 23 = .ok (.aload_n 0, 1) := dk_42 (dk_at dksX6_guestsIn_0 23 rfl rfl)
theorem dX6_guestsIn_24 : decode cX6_guestsIn 24 = .ok (.iload_n 3, 1) := dk_29 (dk_at dksX6_guestsIn_1 0 rfl rfl)
theorem dX6_guestsIn_25 : decode cX6_guestsIn 25 = .ok (.iconst 0, 1) := dk_3 (dk_at dksX6_guestsIn_1 1 rfl rfl)
theorem dX6_guestsIn_26 : decode cX6_guestsIn 26 = .ok (.invokevirtual 49, 3) := dk_182 0 49 (dk_at dksX6_guestsIn_1 2 rfl rfl)
theorem dX6_guestsIn_29 : decode cX6_guestsIn 29 = .ok (.iload_n 1, 1) := dk_27 (dk_at dksX6_guestsIn_1 5 rfl rfl)
theorem dX6_guestsIn_30 : decode cX6_guestsIn 30 = .ok (.if_icmp .ne 9, 3) := dk_160 0 9 (dk_at dksX6_guestsIn_1 6 rfl rfl)
theorem dX6_guestsIn_33 : decode cX6_guestsIn 33 = .ok (.iconst 1, 1) := dk_4 (dk_at dksX6_guestsIn_1 9 rfl rfl)
theorem dX6_guestsIn_34 : decode cX6_guestsIn 34 = .ok (.iload_n 3, 1) := dk_29 (dk_at dksX6_guestsIn_1 10 rfl rfl)
theorem dX6_guestsIn_35 : decode cX6_guestsIn 35 = .ok (.ishl, 1) := dk_120 (dk_at dksX6_guestsIn_1 11 rfl rfl)
theorem dX6_guestsIn_36 : decode cX6_guestsIn 36 = .ok (.goto 4, 3) := dk_167 0 4 (dk_at dksX6_guestsIn_1 12 rfl rfl)
theorem dX6_guestsIn_39 : decode cX6_guestsIn 39 = .ok (.iconst 0, 1) := dk_3 (dk_at dksX6_guestsIn_1 15 rfl rfl)
theorem dX6_guestsIn_40 : decode cX6_guestsIn 40 = .ok (.ior, 1) := dk_128 (dk_at dksX6_guestsIn_1 16 rfl rfl)
theorem dX6_guestsIn_41 : decode cX6_guestsIn 41 = .ok (.istore_n 2, 1) := dk_61 (dk_at dksX6_guestsIn_1 17 rfl rfl)
theorem dX6_guestsIn_42 : decode cX6_guestsIn 42 = .ok (.iinc 3 1, 3) := dk_132 3 1 (dk_at dksX6_guestsIn_1 18 rfl rfl)
theorem dX6_guestsIn_45 : decode cX6_guestsIn 45 = .ok (.goto (-41), 3) := dk_167 255 215 (dk_at dksX6_guestsIn_1 21 rfl rfl)
theorem dX6_guestsIn_48 : decode cX6_guestsIn 48 = .ok (.iload_n 2, 1) := dk_28 (dk_at dksX6_guestsIn_2 0 rfl rfl)
theorem dX6_guestsIn_49 : decode cX6_guestsIn 49 = .ok (.ireturn, 1) := dk_172 (dk_at dksX6_guestsIn_2 1 rfl rfl)
abbrev cX6_watchers : ByteArray := prog_18_method_47_code
def yX6_watchers : MethodName := ⟨RX6, "watchers", "(I)I"⟩
def dkwX6_watchers_2 : List UInt8 := [172]
abbrev dktX6_watchers_2 : List UInt8 := dkwX6_watchers_2 ++ []
def dkwX6_watchers_1 : List UInt8 := [29, 27, 182, 0, 239, 153, 0, 9, 4, 29, 120, 167, 0, 4, 3, 128, 61, 132, 3, 1, 167, 255, 216, 28]
abbrev dktX6_watchers_1 : List UInt8 := dkwX6_watchers_1 ++ dktX6_watchers_2
def dkwX6_watchers_0 : List UInt8 := [3, 61, 3, 62, 29, 42, 180, 0, 7, 6, 46, 162, 0, 36, 28, 42, 29, 182, 0, 236, 153, 0, 18, 42]
abbrev dktX6_watchers_0 : List UInt8 := dkwX6_watchers_0 ++ dktX6_watchers_1
theorem dksX6_watchers_0 : cX6_watchers.data.toList.drop 0 = dktX6_watchers_0 := by decide +kernel
theorem dksX6_watchers_1 : cX6_watchers.data.toList.drop 24 = dktX6_watchers_1 := dk_seg dksX6_watchers_0 24 rfl rfl
theorem dksX6_watchers_2 : cX6_watchers.data.toList.drop 48 = dktX6_watchers_2 := dk_seg dksX6_watchers_1 24 rfl rfl
theorem dX6_watchers_0 : decode cX6_watchers 0 = .ok (.iconst 0, 1) := dk_3 (dk_at dksX6_watchers_0 0 rfl rfl)
theorem dX6_watchers_1 : decode cX6_watchers 1 = .ok (.istore_n 2, 1) := dk_61 (dk_at dksX6_watchers_0 1 rfl rfl)
theorem dX6_watchers_2 : decode cX6_watchers 2 = .ok (.iconst 0, 1) := dk_3 (dk_at dksX6_watchers_0 2 rfl rfl)
theorem dX6_watchers_3 : decode cX6_watchers 3 = .ok (.istore_n 3, 1) := dk_62 (dk_at dksX6_watchers_0 3 rfl rfl)
theorem dX6_watchers_4 : decode cX6_watchers 4 = .ok (.iload_n 3, 1) := dk_29 (dk_at dksX6_watchers_0 4 rfl rfl)
theorem dX6_watchers_5 : decode cX6_watchers 5 = .ok (.aload_n 0, 1) := dk_42 (dk_at dksX6_watchers_0 5 rfl rfl)
theorem dX6_watchers_6 : decode cX6_watchers 6 = .ok (.getfield 7, 3) := dk_180 0 7 (dk_at dksX6_watchers_0 6 rfl rfl)
theorem dX6_watchers_9 : decode cX6_watchers 9 = .ok (.iconst 3, 1) := dk_6 (dk_at dksX6_watchers_0 9 rfl rfl)
theorem dX6_watchers_10 : decode cX6_watchers 10 = .ok (.iaload, 1) := dk_46 (dk_at dksX6_watchers_0 10 rfl rfl)
theorem dX6_watchers_11 : decode cX6_watchers 11 = .ok (.if_icmp .ge 36, 3) := dk_162 0 36 (dk_at dksX6_watchers_0 11 rfl rfl)
theorem dX6_watchers_14 : decode cX6_watchers 14 = .ok (.iload_n 2, 1) := dk_28 (dk_at dksX6_watchers_0 14 rfl rfl)
theorem dX6_watchers_15 : decode cX6_watchers 15 = .ok (.aload_n 0, 1) := dk_42 (dk_at dksX6_watchers_0 15 rfl rfl)
theorem dX6_watchers_16 : decode cX6_watchers 16 = .ok (.iload_n 3, 1) := dk_29 (dk_at dksX6_watchers_0 16 rfl rfl)
theorem dX6_watchers_17 : decode cX6_watchers 17 = .ok (.invokevirtual 236, 3) := dk_182 0 236 (dk_at dksX6_watchers_0 17 rfl rfl)
theorem dX6_watchers_20 : decode cX6_watchers 20 = .ok (.ifCond .eq 18, 3) := dk_153 0 18 (dk_at dksX6_watchers_0 20 rfl rfl)
theorem dX6_watchers_23 : decode cX6_watchers 23 = .ok (.aload_n 0, 1) := dk_42 (dk_at dksX6_watchers_0 23 rfl rfl)
theorem dX6_watchers_24 : decode cX6_watchers 24 = .ok (.iload_n 3, 1) := dk_29 (dk_at dksX6_watchers_1 0 rfl rfl)
theorem dX6_watchers_25 : decode cX6_watchers 25 = .ok (.iload_n 1, 1) := dk_27 (dk_at dksX6_watchers_1 1 rfl rfl)
theorem dX6_watchers_26 : decode cX6_watchers 26 = .ok (.invokevirtual 239, 3) := dk_182 0 239 (dk_at dksX6_watchers_1 2 rfl rfl)
theorem dX6_watchers_29 : decode cX6_watchers 29 = .ok (.ifCond .eq 9, 3) := dk_153 0 9 (dk_at dksX6_watchers_1 5 rfl rfl)
theorem dX6_watchers_32 : decode cX6_watchers 32 = .ok (.iconst 1, 1) := dk_4 (dk_at dksX6_watchers_1 8 rfl rfl)
theorem dX6_watchers_33 : decode cX6_watchers 33 = .ok (.iload_n 3, 1) := dk_29 (dk_at dksX6_watchers_1 9 rfl rfl)
theorem dX6_watchers_34 : decode cX6_watchers 34 = .ok (.ishl, 1) := dk_120 (dk_at dksX6_watchers_1 10 rfl rfl)
theorem dX6_watchers_35 : decode cX6_watchers 35 = .ok (.goto 4, 3) := dk_167 0 4 (dk_at dksX6_watchers_1 11 rfl rfl)
theorem dX6_watchers_38 : decode cX6_watchers 38 = .ok (.iconst 0, 1) := dk_3 (dk_at dksX6_watchers_1 14 rfl rfl)
theorem dX6_watchers_39 : decode cX6_watchers 39 = .ok (.ior, 1) := dk_128 (dk_at dksX6_watchers_1 15 rfl rfl)
theorem dX6_watchers_40 : decode cX6_watchers 40 = .ok (.istore_n 2, 1) := dk_61 (dk_at dksX6_watchers_1 16 rfl rfl)
theorem dX6_watchers_41 : decode cX6_watchers 41 = .ok (.iinc 3 1, 3) := dk_132 3 1 (dk_at dksX6_watchers_1 17 rfl rfl)
theorem dX6_watchers_44 : decode cX6_watchers 44 = .ok (.goto (-40), 3) := dk_167 255 216 (dk_at dksX6_watchers_1 20 rfl rfl)
theorem dX6_watchers_47 : decode cX6_watchers 47 = .ok (.iload_n 2, 1) := dk_28 (dk_at dksX6_watchers_1 23 rfl rfl)
theorem dX6_watchers_48 : decode cX6_watchers 48 = .ok (.ireturn, 1) := dk_172 (dk_at dksX6_watchers_2 0 rfl rfl)
abbrev cX6_calendar : ByteArray := prog_18_method_58_code
def yX6_calendar : MethodName := ⟨RX6, "calendar", "(IZ)I"⟩
def dkwX6_calendar_3 : List UInt8 := [132, 3, 1, 167, 255, 236, 29, 172]
abbrev dktX6_calendar_3 : List UInt8 := dkwX6_calendar_3 ++ []
def dkwX6_calendar_2 : List UInt8 := [27, 96, 46, 172, 3, 62, 42, 27, 42, 180, 0, 7, 16, 10, 46, 29, 96, 182, 0, 226, 154, 0, 9]
abbrev dktX6_calendar_2 : List UInt8 := dkwX6_calendar_2 ++ dktX6_calendar_3
def dkwX6_calendar_1 : List UInt8 := [157, 0, 7, 28, 154, 0, 24, 42, 180, 0, 42, 158, 0, 7, 3, 167, 0, 12, 42, 180, 0, 7, 16, 12]
abbrev dktX6_calendar_1 : List UInt8 := dkwX6_calendar_1 ++ dktX6_calendar_2
def dkwX6_calendar_0 : List UInt8 := [42, 27, 3, 4, 184, 0, 45, 154, 0, 7, 4, 167, 0, 4, 3, 181, 0, 42, 42, 180, 0, 42]
abbrev dktX6_calendar_0 : List UInt8 := dkwX6_calendar_0 ++ dktX6_calendar_1
theorem dksX6_calendar_0 : cX6_calendar.data.toList.drop 0 = dktX6_calendar_0 := by decide +kernel
theorem dksX6_calendar_1 : cX6_calendar.data.toList.drop 22 = dktX6_calendar_1 := dk_seg dksX6_calendar_0 22 rfl rfl
theorem dksX6_calendar_2 : cX6_calendar.data.toList.drop 46 = dktX6_calendar_2 := dk_seg dksX6_calendar_1 24 rfl rfl
theorem dksX6_calendar_3 : cX6_calendar.data.toList.drop 69 = dktX6_calendar_3 := dk_seg dksX6_calendar_2 23 rfl rfl
theorem dX6_calendar_0 : decode cX6_calendar 0 = .ok (.aload_n 0, 1) := dk_42 (dk_at dksX6_calendar_0 0 rfl rfl)
theorem dX6_calendar_1 : decode cX6_calendar 1 = .ok (.iload_n 1, 1) := dk_27 (dk_at dksX6_calendar_0 1 rfl rfl)
theorem dX6_calendar_2 : decode cX6_calendar 2 = .ok (.iconst 0, 1) := dk_3 (dk_at dksX6_calendar_0 2 rfl rfl)
theorem dX6_calendar_3 : decode cX6_calendar 3 = .ok (.iconst 1, 1) := dk_4 (dk_at dksX6_calendar_0 3 rfl rfl)
theorem dX6_calendar_4 : decode cX6_calendar 4 = .ok (.invokestatic 45, 3) := dk_184 0 45 (dk_at dksX6_calendar_0 4 rfl rfl)
theorem dX6_calendar_7 : decode cX6_calendar 7 = .ok (.ifCond .ne 7, 3) := dk_154 0 7 (dk_at dksX6_calendar_0 7 rfl rfl)
theorem dX6_calendar_10 : decode cX6_calendar 10 = .ok (.iconst 1, 1) := dk_4 (dk_at dksX6_calendar_0 10 rfl rfl)
theorem dX6_calendar_11 : decode cX6_calendar 11 = .ok (.goto 4, 3) := dk_167 0 4 (dk_at dksX6_calendar_0 11 rfl rfl)
theorem dX6_calendar_14 : decode cX6_calendar 14 = .ok (.iconst 0, 1) := dk_3 (dk_at dksX6_calendar_0 14 rfl rfl)
theorem dX6_calendar_15 : decode cX6_calendar 15 = .ok (.putfield 42, 3) := dk_181 0 42 (dk_at dksX6_calendar_0 15 rfl rfl)
theorem dX6_calendar_18 : decode cX6_calendar 18 = .ok (.aload_n 0, 1) := dk_42 (dk_at dksX6_calendar_0 18 rfl rfl)
theorem dX6_calendar_19 : decode cX6_calendar 19 = .ok (.getfield 42, 3) := dk_180 0 42 (dk_at dksX6_calendar_0 19 rfl rfl)
theorem dX6_calendar_22 : decode cX6_calendar 22 = .ok (.ifCond .gt 7, 3) := dk_157 0 7 (dk_at dksX6_calendar_1 0 rfl rfl)
theorem dX6_calendar_25 : decode cX6_calendar 25 = .ok (.iload_n 2, 1) := dk_28 (dk_at dksX6_calendar_1 3 rfl rfl)
theorem dX6_calendar_26 : decode cX6_calendar 26 = .ok (.ifCond .ne 24, 3) := dk_154 0 24 (dk_at dksX6_calendar_1 4 rfl rfl)
theorem dX6_calendar_29 : decode cX6_calendar 29 = .ok (.aload_n 0, 1) := dk_42 (dk_at dksX6_calendar_1 7 rfl rfl)
theorem dX6_calendar_30 : decode cX6_calendar 30 = .ok (.getfield 42, 3) := dk_180 0 42 (dk_at dksX6_calendar_1 8 rfl rfl)
theorem dX6_calendar_33 : decode cX6_calendar 33 = .ok (.ifCond .le 7, 3) := dk_158 0 7 (dk_at dksX6_calendar_1 11 rfl rfl)
theorem dX6_calendar_36 : decode cX6_calendar 36 = .ok (.iconst 0, 1) := dk_3 (dk_at dksX6_calendar_1 14 rfl rfl)
theorem dX6_calendar_37 : decode cX6_calendar 37 = .ok (.goto 12, 3) := dk_167 0 12 (dk_at dksX6_calendar_1 15 rfl rfl)
theorem dX6_calendar_40 : decode cX6_calendar 40 = .ok (.aload_n 0, 1) := dk_42 (dk_at dksX6_calendar_1 18 rfl rfl)
theorem dX6_calendar_41 : decode cX6_calendar 41 = .ok (.getfield 7, 3) := dk_180 0 7 (dk_at dksX6_calendar_1 19 rfl rfl)
theorem dX6_calendar_44 : decode cX6_calendar 44 = .ok (.bipush 12, 2) := dk_16 12 (dk_at dksX6_calendar_1 22 rfl rfl)
theorem dX6_calendar_46 : decode cX6_calendar 46 = .ok (.iload_n 1, 1) := dk_27 (dk_at dksX6_calendar_2 0 rfl rfl)
theorem dX6_calendar_47 : decode cX6_calendar 47 = .ok (.iadd, 1) := dk_96 (dk_at dksX6_calendar_2 1 rfl rfl)
theorem dX6_calendar_48 : decode cX6_calendar 48 = .ok (.iaload, 1) := dk_46 (dk_at dksX6_calendar_2 2 rfl rfl)
theorem dX6_calendar_49 : decode cX6_calendar 49 = .ok (.ireturn, 1) := dk_172 (dk_at dksX6_calendar_2 3 rfl rfl)
theorem dX6_calendar_50 : decode cX6_calendar 50 = .ok (.iconst 0, 1) := dk_3 (dk_at dksX6_calendar_2 4 rfl rfl)
theorem dX6_calendar_51 : decode cX6_calendar 51 = .ok (.istore_n 3, 1) := dk_62 (dk_at dksX6_calendar_2 5 rfl rfl)
theorem dX6_calendar_52 : decode cX6_calendar 52 = .ok (.aload_n 0, 1) := dk_42 (dk_at dksX6_calendar_2 6 rfl rfl)
theorem dX6_calendar_53 : decode cX6_calendar 53 = .ok (.iload_n 1, 1) := dk_27 (dk_at dksX6_calendar_2 7 rfl rfl)
theorem dX6_calendar_54 : decode cX6_calendar 54 = .ok (.aload_n 0, 1) := dk_42 (dk_at dksX6_calendar_2 8 rfl rfl)
theorem dX6_calendar_55 : decode cX6_calendar 55 = .ok (.getfield 7, 3) := dk_180 0 7 (dk_at dksX6_calendar_2 9 rfl rfl)
theorem dX6_calendar_58 : decode cX6_calendar 58 = .ok (.bipush 10, 2) := dk_16 10 (dk_at dksX6_calendar_2 12 rfl rfl)
theorem dX6_calendar_60 : decode cX6_calendar 60 = .ok (.iaload, 1) := dk_46 (dk_at dksX6_calendar_2 14 rfl rfl)
theorem dX6_calendar_61 : decode cX6_calendar 61 = .ok (.iload_n 3, 1) := dk_29 (dk_at dksX6_calendar_2 15 rfl rfl)
theorem dX6_calendar_62 : decode cX6_calendar 62 = .ok (.iadd, 1) := dk_96 (dk_at dksX6_calendar_2 16 rfl rfl)
theorem dX6_calendar_63 : decode cX6_calendar 63 = .ok (.invokevirtual 226, 3) := dk_182 0 226 (dk_at dksX6_calendar_2 17 rfl rfl)
theorem dX6_calendar_66 : decode cX6_calendar 66 = .ok (.ifCond .ne 9, 3) := dk_154 0 9 (dk_at dksX6_calendar_2 20 rfl rfl)
theorem dX6_calendar_69 : decode cX6_calendar 69 = .ok (.iinc 3 1, 3) := dk_132 3 1 (dk_at dksX6_calendar_3 0 rfl rfl)
theorem dX6_calendar_72 : decode cX6_calendar 72 = .ok (.goto (-20), 3) := dk_167 255 236 (dk_at dksX6_calendar_3 3 rfl rfl)
theorem dX6_calendar_75 : decode cX6_calendar 75 = .ok (.iload_n 3, 1) := dk_29 (dk_at dksX6_calendar_3 6 rfl rfl)
theorem dX6_calendar_76 : decode cX6_calendar 76 = .ok (.ireturn, 1) := dk_172 (dk_at dksX6_calendar_3 7 rfl rfl)
abbrev cX6_saturday : ByteArray := prog_18_method_59_code
def yX6_saturday : MethodName := ⟨RX6, "saturday", "(II)Z"⟩
def dkwX6_saturday_2 : List UInt8 := [153, 0, 7, 4, 167, 0, 4, 3, 172]
abbrev dktX6_saturday_2 : List UInt8 := dkwX6_saturday_2 ++ []
def dkwX6_saturday_1 : List UInt8 := [154, 0, 7, 5, 167, 0, 4, 3, 181, 0, 42, 42, 180, 0, 42, 154, 0, 16, 42, 27, 28, 182, 0, 226]
abbrev dktX6_saturday_1 : List UInt8 := dkwX6_saturday_1 ++ dktX6_saturday_2
def dkwX6_saturday_0 : List UInt8 := [42, 27, 3, 4, 184, 0, 45, 154, 0, 7, 4, 167, 0, 19, 28, 3, 17, 39, 15, 184, 0, 45]
abbrev dktX6_saturday_0 : List UInt8 := dkwX6_saturday_0 ++ dktX6_saturday_1
theorem dksX6_saturday_0 : cX6_saturday.data.toList.drop 0 = dktX6_saturday_0 := by decide +kernel
theorem dksX6_saturday_1 : cX6_saturday.data.toList.drop 22 = dktX6_saturday_1 := dk_seg dksX6_saturday_0 22 rfl rfl
theorem dksX6_saturday_2 : cX6_saturday.data.toList.drop 46 = dktX6_saturday_2 := dk_seg dksX6_saturday_1 24 rfl rfl
theorem dX6_saturday_0 : decode cX6_saturday 0 = .ok (.aload_n 0, 1) := dk_42 (dk_at dksX6_saturday_0 0 rfl rfl)
theorem dX6_saturday_1 : decode cX6_saturday 1 = .ok (.iload_n 1, 1) := dk_27 (dk_at dksX6_saturday_0 1 rfl rfl)
theorem dX6_saturday_2 : decode cX6_saturday 2 = .ok (.iconst 0, 1) := dk_3 (dk_at dksX6_saturday_0 2 rfl rfl)
theorem dX6_saturday_3 : decode cX6_saturday 3 = .ok (.iconst 1, 1) := dk_4 (dk_at dksX6_saturday_0 3 rfl rfl)
theorem dX6_saturday_4 : decode cX6_saturday 4 = .ok (.invokestatic 45, 3) := dk_184 0 45 (dk_at dksX6_saturday_0 4 rfl rfl)
theorem dX6_saturday_7 : decode cX6_saturday 7 = .ok (.ifCond .ne 7, 3) := dk_154 0 7 (dk_at dksX6_saturday_0 7 rfl rfl)
theorem dX6_saturday_10 : decode cX6_saturday 10 = .ok (.iconst 1, 1) := dk_4 (dk_at dksX6_saturday_0 10 rfl rfl)
theorem dX6_saturday_11 : decode cX6_saturday 11 = .ok (.goto 19, 3) := dk_167 0 19 (dk_at dksX6_saturday_0 11 rfl rfl)
theorem dX6_saturday_14 : decode cX6_saturday 14 = .ok (.iload_n 2, 1) := dk_28 (dk_at dksX6_saturday_0 14 rfl rfl)
theorem dX6_saturday_15 : decode cX6_saturday 15 = .ok (.iconst 0, 1) := dk_3 (dk_at dksX6_saturday_0 15 rfl rfl)
theorem dX6_saturday_16 : decode cX6_saturday 16 = .ok (.sipush 9999, 3) := dk_17 39 15 (dk_at dksX6_saturday_0 16 rfl rfl)
theorem dX6_saturday_19 : decode cX6_saturday 19 = .ok (.invokestatic 45, 3) := dk_184 0 45 (dk_at dksX6_saturday_0 19 rfl rfl)
theorem dX6_saturday_22 : decode cX6_saturday 22 = .ok (.ifCond .ne 7, 3) := dk_154 0 7 (dk_at dksX6_saturday_1 0 rfl rfl)
theorem dX6_saturday_25 : decode cX6_saturday 25 = .ok (.iconst 2, 1) := dk_5 (dk_at dksX6_saturday_1 3 rfl rfl)
theorem dX6_saturday_26 : decode cX6_saturday 26 = .ok (.goto 4, 3) := dk_167 0 4 (dk_at dksX6_saturday_1 4 rfl rfl)
theorem dX6_saturday_29 : decode cX6_saturday 29 = .ok (.iconst 0, 1) := dk_3 (dk_at dksX6_saturday_1 7 rfl rfl)
theorem dX6_saturday_30 : decode cX6_saturday 30 = .ok (.putfield 42, 3) := dk_181 0 42 (dk_at dksX6_saturday_1 8 rfl rfl)
theorem dX6_saturday_33 : decode cX6_saturday 33 = .ok (.aload_n 0, 1) := dk_42 (dk_at dksX6_saturday_1 11 rfl rfl)
theorem dX6_saturday_34 : decode cX6_saturday 34 = .ok (.getfield 42, 3) := dk_180 0 42 (dk_at dksX6_saturday_1 12 rfl rfl)
theorem dX6_saturday_37 : decode cX6_saturday 37 = .ok (.ifCond .ne 16, 3) := dk_154 0 16 (dk_at dksX6_saturday_1 15 rfl rfl)
theorem dX6_saturday_40 : decode cX6_saturday 40 = .ok (.aload_n 0, 1) := dk_42 (dk_at dksX6_saturday_1 18 rfl rfl)
theorem dX6_saturday_41 : decode cX6_saturday 41 = .ok (.iload_n 1, 1) := dk_27 (dk_at dksX6_saturday_1 19 rfl rfl)
theorem dX6_saturday_42 : decode cX6_saturday 42 = .ok (.iload_n 2, 1) := dk_28 (dk_at dksX6_saturday_1 20 rfl rfl)
theorem dX6_saturday_43 : decode cX6_saturday 43 = .ok (.invokevirtual 226, 3) := dk_182 0 226 (dk_at dksX6_saturday_1 21 rfl rfl)
theorem dX6_saturday_46 : decode cX6_saturday 46 = .ok (.ifCond .eq 7, 3) := dk_153 0 7 (dk_at dksX6_saturday_2 0 rfl rfl)
theorem dX6_saturday_49 : decode cX6_saturday 49 = .ok (.iconst 1, 1) := dk_4 (dk_at dksX6_saturday_2 3 rfl rfl)
theorem dX6_saturday_50 : decode cX6_saturday 50 = .ok (.goto 4, 3) := dk_167 0 4 (dk_at dksX6_saturday_2 4 rfl rfl)
theorem dX6_saturday_53 : decode cX6_saturday 53 = .ok (.iconst 0, 1) := dk_3 (dk_at dksX6_saturday_2 7 rfl rfl)
theorem dX6_saturday_54 : decode cX6_saturday 54 = .ok (.ireturn, 1) := dk_172 (dk_at dksX6_saturday_2 8 rfl rfl)
abbrev cX6_go : ByteArray := prog_18_method_62_code
def yX6_go : MethodName := ⟨RX6, "go", "(II)I"⟩
def dkwX6_go_2 : List UInt8 := [172]
abbrev dktX6_go_2 : List UInt8 := dkwX6_go_2 ++ []
def dkwX6_go_1 : List UInt8 := [42, 180, 0, 42, 158, 0, 7, 3, 167, 0, 16, 42, 16, 24, 8, 27, 104, 96, 3, 96, 28, 182, 1, 29]
abbrev dktX6_go_1 : List UInt8 := dkwX6_go_1 ++ dktX6_go_2
def dkwX6_go_0 : List UInt8 := [42, 42, 27, 182, 1, 11, 153, 0, 10, 28, 184, 1, 17, 154, 0, 7, 4, 167, 0, 4, 3, 181, 0, 42]
abbrev dktX6_go_0 : List UInt8 := dkwX6_go_0 ++ dktX6_go_1
theorem dksX6_go_0 : cX6_go.data.toList.drop 0 = dktX6_go_0 := by decide +kernel
theorem dksX6_go_1 : cX6_go.data.toList.drop 24 = dktX6_go_1 := dk_seg dksX6_go_0 24 rfl rfl
theorem dksX6_go_2 : cX6_go.data.toList.drop 48 = dktX6_go_2 := dk_seg dksX6_go_1 24 rfl rfl
theorem dX6_go_0 : decode cX6_go 0 = .ok (.aload_n 0, 1) := dk_42 (dk_at dksX6_go_0 0 rfl rfl)
theorem dX6_go_1 : decode cX6_go 1 = .ok (.aload_n 0, 1) := dk_42 (dk_at dksX6_go_0 1 rfl rfl)
theorem dX6_go_2 : decode cX6_go 2 = .ok (.iload_n 1, 1) := dk_27 (dk_at dksX6_go_0 2 rfl rfl)
theorem dX6_go_3 : decode cX6_go 3 = .ok (.invokevirtual 267, 3) := dk_182 1 11 (dk_at dksX6_go_0 3 rfl rfl)
theorem dX6_go_6 : decode cX6_go 6 = .ok (.ifCond .eq 10, 3) := dk_153 0 10 (dk_at dksX6_go_0 6 rfl rfl)
theorem dX6_go_9 : decode cX6_go 9 = .ok (.iload_n 2, 1) := dk_28 (dk_at dksX6_go_0 9 rfl rfl)
theorem dX6_go_10 : decode cX6_go 10 = .ok (.invokestatic 273, 3) := dk_184 1 17 (dk_at dksX6_go_0 10 rfl rfl)
theorem dX6_go_13 : decode cX6_go 13 = .ok (.ifCond .ne 7, 3) := dk_154 0 7 (dk_at dksX6_go_0 13 rfl rfl)
theorem dX6_go_16 : decode cX6_go 16 = .ok (.iconst 1, 1) := dk_4 (dk_at dksX6_go_0 16 rfl rfl)
theorem dX6_go_17 : decode cX6_go 17 = .ok (.goto 4, 3) := dk_167 0 4 (dk_at dksX6_go_0 17 rfl rfl)
theorem dX6_go_20 : decode cX6_go 20 = .ok (.iconst 0, 1) := dk_3 (dk_at dksX6_go_0 20 rfl rfl)
theorem dX6_go_21 : decode cX6_go 21 = .ok (.putfield 42, 3) := dk_181 0 42 (dk_at dksX6_go_0 21 rfl rfl)
theorem dX6_go_24 : decode cX6_go 24 = .ok (.aload_n 0, 1) := dk_42 (dk_at dksX6_go_1 0 rfl rfl)
theorem dX6_go_25 : decode cX6_go 25 = .ok (.getfield 42, 3) := dk_180 0 42 (dk_at dksX6_go_1 1 rfl rfl)
theorem dX6_go_28 : decode cX6_go 28 = .ok (.ifCond .le 7, 3) := dk_158 0 7 (dk_at dksX6_go_1 4 rfl rfl)
theorem dX6_go_31 : decode cX6_go 31 = .ok (.iconst 0, 1) := dk_3 (dk_at dksX6_go_1 7 rfl rfl)
theorem dX6_go_32 : decode cX6_go 32 = .ok (.goto 16, 3) := dk_167 0 16 (dk_at dksX6_go_1 8 rfl rfl)
theorem dX6_go_35 : decode cX6_go 35 = .ok (.aload_n 0, 1) := dk_42 (dk_at dksX6_go_1 11 rfl rfl)
theorem dX6_go_36 : decode cX6_go 36 = .ok (.bipush 24, 2) := dk_16 24 (dk_at dksX6_go_1 12 rfl rfl)
theorem dX6_go_38 : decode cX6_go 38 = .ok (.iconst 5, 1) := dk_8 (dk_at dksX6_go_1 14 rfl rfl)
theorem dX6_go_39 : decode cX6_go 39 = .ok (.iload_n 1, 1) := dk_27 (dk_at dksX6_go_1 15 rfl rfl)
theorem dX6_go_40 : decode cX6_go 40 = .ok (.imul, 1) := dk_104 (dk_at dksX6_go_1 16 rfl rfl)
theorem dX6_go_41 : decode cX6_go 41 = .ok (.iadd, 1) := dk_96 (dk_at dksX6_go_1 17 rfl rfl)
theorem dX6_go_42 : decode cX6_go 42 = .ok (.iconst 0, 1) := dk_3 (dk_at dksX6_go_1 18 rfl rfl)
theorem dX6_go_43 : decode cX6_go 43 = .ok (.iadd, 1) := dk_96 (dk_at dksX6_go_1 19 rfl rfl)
theorem dX6_go_44 : decode cX6_go 44 = .ok (.iload_n 2, 1) := dk_28 (dk_at dksX6_go_1 20 rfl rfl)
theorem dX6_go_45 : decode cX6_go 45 = .ok (.invokevirtual 285, 3) := dk_182 1 29 (dk_at dksX6_go_1 21 rfl rfl)
theorem dX6_go_48 : decode cX6_go 48 = .ok (.ireturn, 1) := dk_172 (dk_at dksX6_go_2 0 rfl rfl)
abbrev cX6_sets : ByteArray := prog_18_method_61_code
def yX6_sets : MethodName := ⟨RX6, "sets", "(II)I"⟩
def dkwX6_sets_0 : List UInt8 := [42, 182, 1, 26, 42, 180, 0, 7, 27, 46, 62, 42, 180, 0, 7, 27, 28, 79, 29, 172]
abbrev dktX6_sets_0 : List UInt8 := dkwX6_sets_0 ++ []
theorem dksX6_sets_0 : cX6_sets.data.toList.drop 0 = dktX6_sets_0 := by decide +kernel
theorem dX6_sets_0 : decode cX6_sets 0 = .ok (.aload_n 0, 1) := dk_42 (dk_at dksX6_sets_0 0 rfl rfl)
theorem dX6_sets_1 : decode cX6_sets 1 = .ok (.invokevirtual 282, 3) := dk_182 1 26 (dk_at dksX6_sets_0 1 rfl rfl)
theorem dX6_sets_4 : decode cX6_sets 4 = .ok (.aload_n 0, 1) := dk_42 (dk_at dksX6_sets_0 4 rfl rfl)
theorem dX6_sets_5 : decode cX6_sets 5 = .ok (.getfield 7, 3) := dk_180 0 7 (dk_at dksX6_sets_0 5 rfl rfl)
theorem dX6_sets_8 : decode cX6_sets 8 = .ok (.iload_n 1, 1) := dk_27 (dk_at dksX6_sets_0 8 rfl rfl)
theorem dX6_sets_9 : decode cX6_sets 9 = .ok (.iaload, 1) := dk_46 (dk_at dksX6_sets_0 9 rfl rfl)
theorem dX6_sets_10 : decode cX6_sets 10 = .ok (.istore_n 3, 1) := dk_62 (dk_at dksX6_sets_0 10 rfl rfl)
theorem dX6_sets_11 : decode cX6_sets 11 = .ok (.aload_n 0, 1) := dk_42 (dk_at dksX6_sets_0 11 rfl rfl)
theorem dX6_sets_12 : decode cX6_sets 12 = .ok (.getfield 7, 3) := dk_180 0 7 (dk_at dksX6_sets_0 12 rfl rfl)
theorem dX6_sets_15 : decode cX6_sets 15 = .ok (.iload_n 1, 1) := dk_27 (dk_at dksX6_sets_0 15 rfl rfl)
theorem dX6_sets_16 : decode cX6_sets 16 = .ok (.iload_n 2, 1) := dk_28 (dk_at dksX6_sets_0 16 rfl rfl)
theorem dX6_sets_17 : decode cX6_sets 17 = .ok (.iastore, 1) := dk_79 (dk_at dksX6_sets_0 17 rfl rfl)
theorem dX6_sets_18 : decode cX6_sets 18 = .ok (.iload_n 3, 1) := dk_29 (dk_at dksX6_sets_0 18 rfl rfl)
theorem dX6_sets_19 : decode cX6_sets 19 = .ok (.ireturn, 1) := dk_172 (dk_at dksX6_sets_0 19 rfl rfl)
abbrev cX6_remembers : ByteArray := prog_18_method_60_code
def yX6_remembers : MethodName := ⟨RX6, "remembers", "()V"⟩
def dkwX6_remembers_4 : List UInt8 := [181, 0, 172, 177]
abbrev dktX6_remembers_4 : List UInt8 := dkwX6_remembers_4 ++ []
def dkwX6_remembers_3 : List UInt8 := [27, 96, 42, 180, 0, 7, 27, 46, 79, 132, 1, 1, 167, 255, 225, 42, 89, 180, 0, 172, 4, 96]
abbrev dktX6_remembers_3 : List UInt8 := dkwX6_remembers_3 ++ dktX6_remembers_4
def dkwX6_remembers_2 : List UInt8 := [181, 0, 172, 3, 60, 27, 17, 1, 48, 162, 0, 30, 42, 180, 0, 19, 17, 1, 48, 42, 180, 0, 172, 104]
abbrev dktX6_remembers_2 : List UInt8 := dkwX6_remembers_2 ++ dktX6_remembers_3
def dkwX6_remembers_1 : List UInt8 := [180, 0, 19, 27, 17, 1, 48, 96, 46, 79, 132, 1, 1, 167, 255, 230, 42, 89, 180, 0, 172, 4, 100]
abbrev dktX6_remembers_1 : List UInt8 := dkwX6_remembers_1 ++ dktX6_remembers_2
def dkwX6_remembers_0 : List UInt8 := [42, 180, 0, 172, 16, 12, 160, 0, 44, 3, 60, 27, 17, 13, 16, 162, 0, 25, 42, 180, 0, 19, 27, 42]
abbrev dktX6_remembers_0 : List UInt8 := dkwX6_remembers_0 ++ dktX6_remembers_1
theorem dksX6_remembers_0 : cX6_remembers.data.toList.drop 0 = dktX6_remembers_0 := by decide +kernel
theorem dksX6_remembers_1 : cX6_remembers.data.toList.drop 24 = dktX6_remembers_1 := dk_seg dksX6_remembers_0 24 rfl rfl
theorem dksX6_remembers_2 : cX6_remembers.data.toList.drop 47 = dktX6_remembers_2 := dk_seg dksX6_remembers_1 23 rfl rfl
theorem dksX6_remembers_3 : cX6_remembers.data.toList.drop 71 = dktX6_remembers_3 := dk_seg dksX6_remembers_2 24 rfl rfl
theorem dksX6_remembers_4 : cX6_remembers.data.toList.drop 93 = dktX6_remembers_4 := dk_seg dksX6_remembers_3 22 rfl rfl
theorem dX6_remembers_0 : decode cX6_remembers 0 = .ok (.aload_n 0, 1) := dk_42 (dk_at dksX6_remembers_0 0 rfl rfl)
theorem dX6_remembers_1 : decode cX6_remembers 1 = .ok (.getfield 172, 3) := dk_180 0 172 (dk_at dksX6_remembers_0 1 rfl rfl)
theorem dX6_remembers_4 : decode cX6_remembers 4 = .ok (.bipush 12, 2) := dk_16 12 (dk_at dksX6_remembers_0 4 rfl rfl)
theorem dX6_remembers_6 : decode cX6_remembers 6 = .ok (.if_icmp .ne 44, 3) := dk_160 0 44 (dk_at dksX6_remembers_0 6 rfl rfl)
theorem dX6_remembers_9 : decode cX6_remembers 9 = .ok (.iconst 0, 1) := dk_3 (dk_at dksX6_remembers_0 9 rfl rfl)
theorem dX6_remembers_10 : decode cX6_remembers 10 = .ok (.istore_n 1, 1) := dk_60 (dk_at dksX6_remembers_0 10 rfl rfl)
theorem dX6_remembers_11 : decode cX6_remembers 11 = .ok (.iload_n 1, 1) := dk_27 (dk_at dksX6_remembers_0 11 rfl rfl)
theorem dX6_remembers_12 : decode cX6_remembers 12 = .ok (.sipush 3344, 3) := dk_17 13 16 (dk_at dksX6_remembers_0 12 rfl rfl)
theorem dX6_remembers_15 : decode cX6_remembers 15 = .ok (.if_icmp .ge 25, 3) := dk_162 0 25 (dk_at dksX6_remembers_0 15 rfl rfl)
theorem dX6_remembers_18 : decode cX6_remembers 18 = .ok (.aload_n 0, 1) := dk_42 (dk_at dksX6_remembers_0 18 rfl rfl)
theorem dX6_remembers_19 : decode cX6_remembers 19 = .ok (.getfield 19, 3) := dk_180 0 19 (dk_at dksX6_remembers_0 19 rfl rfl)
theorem dX6_remembers_22 : decode cX6_remembers 22 = .ok (.iload_n 1, 1) := dk_27 (dk_at dksX6_remembers_0 22 rfl rfl)
theorem dX6_remembers_23 : decode cX6_remembers 23 = .ok (.aload_n 0, 1) := dk_42 (dk_at dksX6_remembers_0 23 rfl rfl)
theorem dX6_remembers_24 : decode cX6_remembers 24 = .ok (.getfield 19, 3) := dk_180 0 19 (dk_at dksX6_remembers_1 0 rfl rfl)
theorem dX6_remembers_27 : decode cX6_remembers 27 = .ok (.iload_n 1, 1) := dk_27 (dk_at dksX6_remembers_1 3 rfl rfl)
theorem dX6_remembers_28 : decode cX6_remembers 28 = .ok (.sipush 304, 3) := dk_17 1 48 (dk_at dksX6_remembers_1 4 rfl rfl)
theorem dX6_remembers_31 : decode cX6_remembers 31 = .ok (.iadd, 1) := dk_96 (dk_at dksX6_remembers_1 7 rfl rfl)
theorem dX6_remembers_32 : decode cX6_remembers 32 = .ok (.iaload, 1) := dk_46 (dk_at dksX6_remembers_1 8 rfl rfl)
theorem dX6_remembers_33 : decode cX6_remembers 33 = .ok (.iastore, 1) := dk_79 (dk_at dksX6_remembers_1 9 rfl rfl)
theorem dX6_remembers_34 : decode cX6_remembers 34 = .ok (.iinc 1 1, 3) := dk_132 1 1 (dk_at dksX6_remembers_1 10 rfl rfl)
theorem dX6_remembers_37 : decode cX6_remembers 37 = .ok (.goto (-26), 3) := dk_167 255 230 (dk_at dksX6_remembers_1 13 rfl rfl)
theorem dX6_remembers_40 : decode cX6_remembers 40 = .ok (.aload_n 0, 1) := dk_42 (dk_at dksX6_remembers_1 16 rfl rfl)
theorem dX6_remembers_41 : decode cX6_remembers 41 = .ok (.dup, 1) := dk_89 (dk_at dksX6_remembers_1 17 rfl rfl)
theorem dX6_remembers_42 : decode cX6_remembers 42 = .ok (.getfield 172, 3) := dk_180 0 172 (dk_at dksX6_remembers_1 18 rfl rfl)
theorem dX6_remembers_45 : decode cX6_remembers 45 = .ok (.iconst 1, 1) := dk_4 (dk_at dksX6_remembers_1 21 rfl rfl)
theorem dX6_remembers_46 : decode cX6_remembers 46 = .ok (.isub, 1) := dk_100 (dk_at dksX6_remembers_1 22 rfl rfl)
theorem dX6_remembers_47 : decode cX6_remembers 47 = .ok (.putfield 172, 3) := dk_181 0 172 (dk_at dksX6_remembers_2 0 rfl rfl)
theorem dX6_remembers_50 : decode cX6_remembers 50 = .ok (.iconst 0, 1) := dk_3 (dk_at dksX6_remembers_2 3 rfl rfl)
theorem dX6_remembers_51 : decode cX6_remembers 51 = .ok (.istore_n 1, 1) := dk_60 (dk_at dksX6_remembers_2 4 rfl rfl)
theorem dX6_remembers_52 : decode cX6_remembers 52 = .ok (.iload_n 1, 1) := dk_27 (dk_at dksX6_remembers_2 5 rfl rfl)
theorem dX6_remembers_53 : decode cX6_remembers 53 = .ok (.sipush 304, 3) := dk_17 1 48 (dk_at dksX6_remembers_2 6 rfl rfl)
theorem dX6_remembers_56 : decode cX6_remembers 56 = .ok (.if_icmp .ge 30, 3) := dk_162 0 30 (dk_at dksX6_remembers_2 9 rfl rfl)
theorem dX6_remembers_59 : decode cX6_remembers 59 = .ok (.aload_n 0, 1) := dk_42 (dk_at dksX6_remembers_2 12 rfl rfl)
theorem dX6_remembers_60 : decode cX6_remembers 60 = .ok (.getfield 19, 3) := dk_180 0 19 (dk_at dksX6_remembers_2 13 rfl rfl)
theorem dX6_remembers_63 : decode cX6_remembers 63 = .ok (.sipush 304, 3) := dk_17 1 48 (dk_at dksX6_remembers_2 16 rfl rfl)
theorem dX6_remembers_66 : decode cX6_remembers 66 = .ok (.aload_n 0, 1) := dk_42 (dk_at dksX6_remembers_2 19 rfl rfl)
theorem dX6_remembers_67 : decode cX6_remembers 67 = .ok (.getfield 172, 3) := dk_180 0 172 (dk_at dksX6_remembers_2 20 rfl rfl)
theorem dX6_remembers_70 : decode cX6_remembers 70 = .ok (.imul, 1) := dk_104 (dk_at dksX6_remembers_2 23 rfl rfl)
theorem dX6_remembers_71 : decode cX6_remembers 71 = .ok (.iload_n 1, 1) := dk_27 (dk_at dksX6_remembers_3 0 rfl rfl)
theorem dX6_remembers_72 : decode cX6_remembers 72 = .ok (.iadd, 1) := dk_96 (dk_at dksX6_remembers_3 1 rfl rfl)
theorem dX6_remembers_73 : decode cX6_remembers 73 = .ok (.aload_n 0, 1) := dk_42 (dk_at dksX6_remembers_3 2 rfl rfl)
theorem dX6_remembers_74 : decode cX6_remembers 74 = .ok (.getfield 7, 3) := dk_180 0 7 (dk_at dksX6_remembers_3 3 rfl rfl)
theorem dX6_remembers_77 : decode cX6_remembers 77 = .ok (.iload_n 1, 1) := dk_27 (dk_at dksX6_remembers_3 6 rfl rfl)
theorem dX6_remembers_78 : decode cX6_remembers 78 = .ok (.iaload, 1) := dk_46 (dk_at dksX6_remembers_3 7 rfl rfl)
theorem dX6_remembers_79 : decode cX6_remembers 79 = .ok (.iastore, 1) := dk_79 (dk_at dksX6_remembers_3 8 rfl rfl)
theorem dX6_remembers_80 : decode cX6_remembers 80 = .ok (.iinc 1 1, 3) := dk_132 1 1 (dk_at dksX6_remembers_3 9 rfl rfl)
theorem dX6_remembers_83 : decode cX6_remembers 83 = .ok (.goto (-31), 3) := dk_167 255 225 (dk_at dksX6_remembers_3 12 rfl rfl)
theorem dX6_remembers_86 : decode cX6_remembers 86 = .ok (.aload_n 0, 1) := dk_42 (dk_at dksX6_remembers_3 15 rfl rfl)
theorem dX6_remembers_87 : decode cX6_remembers 87 = .ok (.dup, 1) := dk_89 (dk_at dksX6_remembers_3 16 rfl rfl)
theorem dX6_remembers_88 : decode cX6_remembers 88 = .ok (.getfield 172, 3) := dk_180 0 172 (dk_at dksX6_remembers_3 17 rfl rfl)
theorem dX6_remembers_91 : decode cX6_remembers 91 = .ok (.iconst 1, 1) := dk_4 (dk_at dksX6_remembers_3 20 rfl rfl)
theorem dX6_remembers_92 : decode cX6_remembers 92 = .ok (.iadd, 1) := dk_96 (dk_at dksX6_remembers_3 21 rfl rfl)
theorem dX6_remembers_93 : decode cX6_remembers 93 = .ok (.putfield 172, 3) := dk_181 0 172 (dk_at dksX6_remembers_4 0 rfl rfl)
theorem dX6_remembers_96 : decode cX6_remembers 96 = .ok (.return_, 1) := dk_177 (dk_at dksX6_remembers_4 3 rfl rfl)
abbrev cX6_come : ByteArray := prog_18_method_63_code
def yX6_come : MethodName := ⟨RX6, "come", "(IZ)Z"⟩
def dkwX6_come_2 : List UInt8 := [153, 0, 7, 4, 167, 0, 4, 3, 159, 0, 7, 4, 167, 0, 4, 3, 172]
abbrev dktX6_come_2 : List UInt8 := dkwX6_come_2 ++ []
def dkwX6_come_1 : List UInt8 := [42, 16, 24, 8, 27, 104, 96, 7, 96, 28, 153, 0, 7, 4, 167, 0, 4, 3, 182, 1, 29, 28]
abbrev dktX6_come_1 : List UInt8 := dkwX6_come_1 ++ dktX6_come_2
def dkwX6_come_0 : List UInt8 := [42, 42, 27, 182, 1, 11, 154, 0, 7, 4, 167, 0, 4, 3, 181, 0, 42, 42, 180, 0, 42, 154, 0, 40]
abbrev dktX6_come_0 : List UInt8 := dkwX6_come_0 ++ dktX6_come_1
theorem dksX6_come_0 : cX6_come.data.toList.drop 0 = dktX6_come_0 := by decide +kernel
theorem dksX6_come_1 : cX6_come.data.toList.drop 24 = dktX6_come_1 := dk_seg dksX6_come_0 24 rfl rfl
theorem dksX6_come_2 : cX6_come.data.toList.drop 46 = dktX6_come_2 := dk_seg dksX6_come_1 22 rfl rfl
theorem dX6_come_0 : decode cX6_come 0 = .ok (.aload_n 0, 1) := dk_42 (dk_at dksX6_come_0 0 rfl rfl)
theorem dX6_come_1 : decode cX6_come 1 = .ok (.aload_n 0, 1) := dk_42 (dk_at dksX6_come_0 1 rfl rfl)
theorem dX6_come_2 : decode cX6_come 2 = .ok (.iload_n 1, 1) := dk_27 (dk_at dksX6_come_0 2 rfl rfl)
theorem dX6_come_3 : decode cX6_come 3 = .ok (.invokevirtual 267, 3) := dk_182 1 11 (dk_at dksX6_come_0 3 rfl rfl)
theorem dX6_come_6 : decode cX6_come 6 = .ok (.ifCond .ne 7, 3) := dk_154 0 7 (dk_at dksX6_come_0 6 rfl rfl)
theorem dX6_come_9 : decode cX6_come 9 = .ok (.iconst 1, 1) := dk_4 (dk_at dksX6_come_0 9 rfl rfl)
theorem dX6_come_10 : decode cX6_come 10 = .ok (.goto 4, 3) := dk_167 0 4 (dk_at dksX6_come_0 10 rfl rfl)
theorem dX6_come_13 : decode cX6_come 13 = .ok (.iconst 0, 1) := dk_3 (dk_at dksX6_come_0 13 rfl rfl)
theorem dX6_come_14 : decode cX6_come 14 = .ok (.putfield 42, 3) := dk_181 0 42 (dk_at dksX6_come_0 14 rfl rfl)
theorem dX6_come_17 : decode cX6_come 17 = .ok (.aload_n 0, 1) := dk_42 (dk_at dksX6_come_0 17 rfl rfl)
theorem dX6_come_18 : decode cX6_come 18 = .ok (.getfield 42, 3) := dk_180 0 42 (dk_at dksX6_come_0 18 rfl rfl)
theorem dX6_come_21 : decode cX6_come 21 = .ok (.ifCond .ne 40, 3) := dk_154 0 40 (dk_at dksX6_come_0 21 rfl rfl)
theorem dX6_come_24 : decode cX6_come 24 = .ok (.aload_n 0, 1) := dk_42 (dk_at dksX6_come_1 0 rfl rfl)
theorem dX6_come_25 : decode cX6_come 25 = .ok (.bipush 24, 2) := dk_16 24 (dk_at dksX6_come_1 1 rfl rfl)
theorem dX6_come_27 : decode cX6_come 27 = .ok (.iconst 5, 1) := dk_8 (dk_at dksX6_come_1 3 rfl rfl)
theorem dX6_come_28 : decode cX6_come 28 = .ok (.iload_n 1, 1) := dk_27 (dk_at dksX6_come_1 4 rfl rfl)
theorem dX6_come_29 : decode cX6_come 29 = .ok (.imul, 1) := dk_104 (dk_at dksX6_come_1 5 rfl rfl)
theorem dX6_come_30 : decode cX6_come 30 = .ok (.iadd, 1) := dk_96 (dk_at dksX6_come_1 6 rfl rfl)
theorem dX6_come_31 : decode cX6_come 31 = .ok (.iconst 4, 1) := dk_7 (dk_at dksX6_come_1 7 rfl rfl)
theorem dX6_come_32 : decode cX6_come 32 = .ok (.iadd, 1) := dk_96 (dk_at dksX6_come_1 8 rfl rfl)
theorem dX6_come_33 : decode cX6_come 33 = .ok (.iload_n 2, 1) := dk_28 (dk_at dksX6_come_1 9 rfl rfl)
theorem dX6_come_34 : decode cX6_come 34 = .ok (.ifCond .eq 7, 3) := dk_153 0 7 (dk_at dksX6_come_1 10 rfl rfl)
theorem dX6_come_37 : decode cX6_come 37 = .ok (.iconst 1, 1) := dk_4 (dk_at dksX6_come_1 13 rfl rfl)
theorem dX6_come_38 : decode cX6_come 38 = .ok (.goto 4, 3) := dk_167 0 4 (dk_at dksX6_come_1 14 rfl rfl)
theorem dX6_come_41 : decode cX6_come 41 = .ok (.iconst 0, 1) := dk_3 (dk_at dksX6_come_1 17 rfl rfl)
theorem dX6_come_42 : decode cX6_come 42 = .ok (.invokevirtual 285, 3) := dk_182 1 29 (dk_at dksX6_come_1 18 rfl rfl)
theorem dX6_come_45 : decode cX6_come 45 = .ok (.iload_n 2, 1) := dk_28 (dk_at dksX6_come_1 21 rfl rfl)
theorem dX6_come_46 : decode cX6_come 46 = .ok (.ifCond .eq 7, 3) := dk_153 0 7 (dk_at dksX6_come_2 0 rfl rfl)
theorem dX6_come_49 : decode cX6_come 49 = .ok (.iconst 1, 1) := dk_4 (dk_at dksX6_come_2 3 rfl rfl)
theorem dX6_come_50 : decode cX6_come 50 = .ok (.goto 4, 3) := dk_167 0 4 (dk_at dksX6_come_2 4 rfl rfl)
theorem dX6_come_53 : decode cX6_come 53 = .ok (.iconst 0, 1) := dk_3 (dk_at dksX6_come_2 7 rfl rfl)
theorem dX6_come_54 : decode cX6_come 54 = .ok (.if_icmp .eq 7, 3) := dk_159 0 7 (dk_at dksX6_come_2 8 rfl rfl)
theorem dX6_come_57 : decode cX6_come 57 = .ok (.iconst 1, 1) := dk_4 (dk_at dksX6_come_2 11 rfl rfl)
theorem dX6_come_58 : decode cX6_come 58 = .ok (.goto 4, 3) := dk_167 0 4 (dk_at dksX6_come_2 12 rfl rfl)
theorem dX6_come_61 : decode cX6_come 61 = .ok (.iconst 0, 1) := dk_3 (dk_at dksX6_come_2 15 rfl rfl)
theorem dX6_come_62 : decode cX6_come 62 = .ok (.ireturn, 1) := dk_172 (dk_at dksX6_come_2 16 rfl rfl)
abbrev cX6_key : ByteArray := prog_18_method_64_code
def yX6_key : MethodName := ⟨RX6, "key", "(IZ)Z"⟩
def dkwX6_key_2 : List UInt8 := [153, 0, 7, 4, 167, 0, 4, 3, 159, 0, 7, 4, 167, 0, 4, 3, 172]
abbrev dktX6_key_2 : List UInt8 := dkwX6_key_2 ++ []
def dkwX6_key_1 : List UInt8 := [42, 16, 24, 8, 27, 104, 96, 6, 96, 28, 153, 0, 7, 4, 167, 0, 4, 3, 182, 1, 29, 28]
abbrev dktX6_key_1 : List UInt8 := dkwX6_key_1 ++ dktX6_key_2
def dkwX6_key_0 : List UInt8 := [42, 42, 27, 182, 1, 11, 154, 0, 7, 4, 167, 0, 4, 3, 181, 0, 42, 42, 180, 0, 42, 154, 0, 40]
abbrev dktX6_key_0 : List UInt8 := dkwX6_key_0 ++ dktX6_key_1
theorem dksX6_key_0 : cX6_key.data.toList.drop 0 = dktX6_key_0 := by decide +kernel
theorem dksX6_key_1 : cX6_key.data.toList.drop 24 = dktX6_key_1 := dk_seg dksX6_key_0 24 rfl rfl
theorem dksX6_key_2 : cX6_key.data.toList.drop 46 = dktX6_key_2 := dk_seg dksX6_key_1 22 rfl rfl
theorem dX6_key_0 : decode cX6_key 0 = .ok (.aload_n 0, 1) := dk_42 (dk_at dksX6_key_0 0 rfl rfl)
theorem dX6_key_1 : decode cX6_key 1 = .ok (.aload_n 0, 1) := dk_42 (dk_at dksX6_key_0 1 rfl rfl)
theorem dX6_key_2 : decode cX6_key 2 = .ok (.iload_n 1, 1) := dk_27 (dk_at dksX6_key_0 2 rfl rfl)
theorem dX6_key_3 : decode cX6_key 3 = .ok (.invokevirtual 267, 3) := dk_182 1 11 (dk_at dksX6_key_0 3 rfl rfl)
theorem dX6_key_6 : decode cX6_key 6 = .ok (.ifCond .ne 7, 3) := dk_154 0 7 (dk_at dksX6_key_0 6 rfl rfl)
theorem dX6_key_9 : decode cX6_key 9 = .ok (.iconst 1, 1) := dk_4 (dk_at dksX6_key_0 9 rfl rfl)
theorem dX6_key_10 : decode cX6_key 10 = .ok (.goto 4, 3) := dk_167 0 4 (dk_at dksX6_key_0 10 rfl rfl)
theorem dX6_key_13 : decode cX6_key 13 = .ok (.iconst 0, 1) := dk_3 (dk_at dksX6_key_0 13 rfl rfl)
theorem dX6_key_14 : decode cX6_key 14 = .ok (.putfield 42, 3) := dk_181 0 42 (dk_at dksX6_key_0 14 rfl rfl)
theorem dX6_key_17 : decode cX6_key 17 = .ok (.aload_n 0, 1) := dk_42 (dk_at dksX6_key_0 17 rfl rfl)
theorem dX6_key_18 : decode cX6_key 18 = .ok (.getfield 42, 3) := dk_180 0 42 (dk_at dksX6_key_0 18 rfl rfl)
theorem dX6_key_21 : decode cX6_key 21 = .ok (.ifCond .ne 40, 3) := dk_154 0 40 (dk_at dksX6_key_0 21 rfl rfl)
theorem dX6_key_24 : decode cX6_key 24 = .ok (.aload_n 0, 1) := dk_42 (dk_at dksX6_key_1 0 rfl rfl)
theorem dX6_key_25 : decode cX6_key 25 = .ok (.bipush 24, 2) := dk_16 24 (dk_at dksX6_key_1 1 rfl rfl)
theorem dX6_key_27 : decode cX6_key 27 = .ok (.iconst 5, 1) := dk_8 (dk_at dksX6_key_1 3 rfl rfl)
theorem dX6_key_28 : decode cX6_key 28 = .ok (.iload_n 1, 1) := dk_27 (dk_at dksX6_key_1 4 rfl rfl)
theorem dX6_key_29 : decode cX6_key 29 = .ok (.imul, 1) := dk_104 (dk_at dksX6_key_1 5 rfl rfl)
theorem dX6_key_30 : decode cX6_key 30 = .ok (.iadd, 1) := dk_96 (dk_at dksX6_key_1 6 rfl rfl)
theorem dX6_key_31 : decode cX6_key 31 = .ok (.iconst 3, 1) := dk_6 (dk_at dksX6_key_1 7 rfl rfl)
theorem dX6_key_32 : decode cX6_key 32 = .ok (.iadd, 1) := dk_96 (dk_at dksX6_key_1 8 rfl rfl)
theorem dX6_key_33 : decode cX6_key 33 = .ok (.iload_n 2, 1) := dk_28 (dk_at dksX6_key_1 9 rfl rfl)
theorem dX6_key_34 : decode cX6_key 34 = .ok (.ifCond .eq 7, 3) := dk_153 0 7 (dk_at dksX6_key_1 10 rfl rfl)
theorem dX6_key_37 : decode cX6_key 37 = .ok (.iconst 1, 1) := dk_4 (dk_at dksX6_key_1 13 rfl rfl)
theorem dX6_key_38 : decode cX6_key 38 = .ok (.goto 4, 3) := dk_167 0 4 (dk_at dksX6_key_1 14 rfl rfl)
theorem dX6_key_41 : decode cX6_key 41 = .ok (.iconst 0, 1) := dk_3 (dk_at dksX6_key_1 17 rfl rfl)
theorem dX6_key_42 : decode cX6_key 42 = .ok (.invokevirtual 285, 3) := dk_182 1 29 (dk_at dksX6_key_1 18 rfl rfl)
theorem dX6_key_45 : decode cX6_key 45 = .ok (.iload_n 2, 1) := dk_28 (dk_at dksX6_key_1 21 rfl rfl)
theorem dX6_key_46 : decode cX6_key 46 = .ok (.ifCond .eq 7, 3) := dk_153 0 7 (dk_at dksX6_key_2 0 rfl rfl)
theorem dX6_key_49 : decode cX6_key 49 = .ok (.iconst 1, 1) := dk_4 (dk_at dksX6_key_2 3 rfl rfl)
theorem dX6_key_50 : decode cX6_key 50 = .ok (.goto 4, 3) := dk_167 0 4 (dk_at dksX6_key_2 4 rfl rfl)
theorem dX6_key_53 : decode cX6_key 53 = .ok (.iconst 0, 1) := dk_3 (dk_at dksX6_key_2 7 rfl rfl)
theorem dX6_key_54 : decode cX6_key 54 = .ok (.if_icmp .eq 7, 3) := dk_159 0 7 (dk_at dksX6_key_2 8 rfl rfl)
theorem dX6_key_57 : decode cX6_key 57 = .ok (.iconst 1, 1) := dk_4 (dk_at dksX6_key_2 11 rfl rfl)
theorem dX6_key_58 : decode cX6_key 58 = .ok (.goto 4, 3) := dk_167 0 4 (dk_at dksX6_key_2 12 rfl rfl)
theorem dX6_key_61 : decode cX6_key 61 = .ok (.iconst 0, 1) := dk_3 (dk_at dksX6_key_2 15 rfl rfl)
theorem dX6_key_62 : decode cX6_key 62 = .ok (.ireturn, 1) := dk_172 (dk_at dksX6_key_2 16 rfl rfl)
abbrev cX6_hole : ByteArray := prog_18_method_65_code
def yX6_hole : MethodName := ⟨RX6, "hole", "(IIZ)Z"⟩
def dkwX6_hole_4 : List UInt8 := [21, 4, 29, 159, 0, 7, 4, 167, 0, 4, 3, 172]
abbrev dktX6_hole_4 : List UInt8 := dkwX6_hole_4 ++ []
def dkwX6_hole_3 : List UInt8 := [167, 0, 18, 42, 180, 0, 7, 16, 16, 27, 96, 46, 4, 28, 120, 2, 130, 126, 182, 1, 29, 54, 5]
abbrev dktX6_hole_3 : List UInt8 := dkwX6_hole_3 ++ dktX6_hole_4
def dkwX6_hole_2 : List UInt8 := [54, 4, 42, 16, 16, 27, 96, 29, 153, 0, 19, 42, 180, 0, 7, 16, 16, 27, 96, 46, 4, 28, 120, 128]
abbrev dktX6_hole_2 : List UInt8 := dkwX6_hole_2 ++ dktX6_hole_3
def dkwX6_hole_1 : List UInt8 := [5, 167, 0, 4, 3, 181, 0, 42, 42, 180, 0, 42, 158, 0, 5, 3, 172, 42, 27, 28, 182, 0, 229]
abbrev dktX6_hole_1 : List UInt8 := dkwX6_hole_1 ++ dktX6_hole_2
def dkwX6_hole_0 : List UInt8 := [42, 27, 184, 1, 17, 153, 0, 10, 28, 184, 1, 17, 154, 0, 7, 4, 167, 0, 13, 27, 28, 160, 0, 7]
abbrev dktX6_hole_0 : List UInt8 := dkwX6_hole_0 ++ dktX6_hole_1
theorem dksX6_hole_0 : cX6_hole.data.toList.drop 0 = dktX6_hole_0 := by decide +kernel
theorem dksX6_hole_1 : cX6_hole.data.toList.drop 24 = dktX6_hole_1 := dk_seg dksX6_hole_0 24 rfl rfl
theorem dksX6_hole_2 : cX6_hole.data.toList.drop 47 = dktX6_hole_2 := dk_seg dksX6_hole_1 23 rfl rfl
theorem dksX6_hole_3 : cX6_hole.data.toList.drop 71 = dktX6_hole_3 := dk_seg dksX6_hole_2 24 rfl rfl
theorem dksX6_hole_4 : cX6_hole.data.toList.drop 94 = dktX6_hole_4 := dk_seg dksX6_hole_3 23 rfl rfl
theorem dX6_hole_0 : decode cX6_hole 0 = .ok (.aload_n 0, 1) := dk_42 (dk_at dksX6_hole_0 0 rfl rfl)
theorem dX6_hole_1 : decode cX6_hole 1 = .ok (.iload_n 1, 1) := dk_27 (dk_at dksX6_hole_0 1 rfl rfl)
theorem dX6_hole_2 : decode cX6_hole 2 = .ok (.invokestatic 273, 3) := dk_184 1 17 (dk_at dksX6_hole_0 2 rfl rfl)
theorem dX6_hole_5 : decode cX6_hole 5 = .ok (.ifCond .eq 10, 3) := dk_153 0 10 (dk_at dksX6_hole_0 5 rfl rfl)
theorem dX6_hole_8 : decode cX6_hole 8 = .ok (.iload_n 2, 1) := dk_28 (dk_at dksX6_hole_0 8 rfl rfl)
theorem dX6_hole_9 : decode cX6_hole 9 = .ok (.invokestatic 273, 3) := dk_184 1 17 (dk_at dksX6_hole_0 9 rfl rfl)
theorem dX6_hole_12 : decode cX6_hole 12 = .ok (.ifCond .ne 7, 3) := dk_154 0 7 (dk_at dksX6_hole_0 12 rfl rfl)
theorem dX6_hole_15 : decode cX6_hole 15 = .ok (.iconst 1, 1) := dk_4 (dk_at dksX6_hole_0 15 rfl rfl)
theorem dX6_hole_16 : decode cX6_hole 16 = .ok (.goto 13, 3) := dk_167 0 13 (dk_at dksX6_hole_0 16 rfl rfl)
theorem dX6_hole_19 : decode cX6_hole 19 = .ok (.iload_n 1, 1) := dk_27 (dk_at dksX6_hole_0 19 rfl rfl)
theorem dX6_hole_20 : decode cX6_hole 20 = .ok (.iload_n 2, 1) := dk_28 (dk_at dksX6_hole_0 20 rfl rfl)
theorem dX6_hole_21 : decode cX6_hole 21 = .ok (.if_icmp .ne 7, 3) := dk_160 0 7 (dk_at dksX6_hole_0 21 rfl rfl)
theorem dX6_hole_24 : decode cX6_hole 24 = .ok (.iconst 2, 1) := dk_5 (dk_at dksX6_hole_1 0 rfl rfl)
theorem dX6_hole_25 : decode cX6_hole 25 = .ok (.goto 4, 3) := dk_167 0 4 (dk_at dksX6_hole_1 1 rfl rfl)
theorem dX6_hole_28 : decode cX6_hole 28 = .ok (.iconst 0, 1) := dk_3 (dk_at dksX6_hole_1 4 rfl rfl)
theorem dX6_hole_29 : decode cX6_hole 29 = .ok (.putfield 42, 3) := dk_181 0 42 (dk_at dksX6_hole_1 5 rfl rfl)
theorem dX6_hole_32 : decode cX6_hole 32 = .ok (.aload_n 0, 1) := dk_42 (dk_at dksX6_hole_1 8 rfl rfl)
theorem dX6_hole_33 : decode cX6_hole 33 = .ok (.getfield 42, 3) := dk_180 0 42 (dk_at dksX6_hole_1 9 rfl rfl)
theorem dX6_hole_36 : decode cX6_hole 36 = .ok (.ifCond .le 5, 3) := dk_158 0 5 (dk_at dksX6_hole_1 12 rfl rfl)
theorem dX6_hole_39 : decode cX6_hole 39 = .ok (.iconst 0, 1) := dk_3 (dk_at dksX6_hole_1 15 rfl rfl)
theorem dX6_hole_40 : decode cX6_hole 40 = .ok (.ireturn, 1) := dk_172 (dk_at dksX6_hole_1 16 rfl rfl)
theorem dX6_hole_41 : decode cX6_hole 41 = .ok (.aload_n 0, 1) := dk_42 (dk_at dksX6_hole_1 17 rfl rfl)
theorem dX6_hole_42 : decode cX6_hole 42 = .ok (.iload_n 1, 1) := dk_27 (dk_at dksX6_hole_1 18 rfl rfl)
theorem dX6_hole_43 : decode cX6_hole 43 = .ok (.iload_n 2, 1) := dk_28 (dk_at dksX6_hole_1 19 rfl rfl)
theorem dX6_hole_44 : decode cX6_hole 44 = .ok (.invokevirtual 229, 3) := dk_182 0 229 (dk_at dksX6_hole_1 20 rfl rfl)
theorem dX6_hole_47 : decode cX6_hole 47 = .ok (.istore 4, 2) := dk_54 4 (dk_at dksX6_hole_2 0 rfl rfl)
theorem dX6_hole_49 : decode cX6_hole 49 = .ok (.aload_n 0, 1) := dk_42 (dk_at dksX6_hole_2 2 rfl rfl)
theorem dX6_hole_50 : decode cX6_hole 50 = .ok (.bipush 16, 2) := dk_16 16 (dk_at dksX6_hole_2 3 rfl rfl)
theorem dX6_hole_52 : decode cX6_hole 52 = .ok (.iload_n 1, 1) := dk_27 (dk_at dksX6_hole_2 5 rfl rfl)
theorem dX6_hole_53 : decode cX6_hole 53 = .ok (.iadd, 1) := dk_96 (dk_at dksX6_hole_2 6 rfl rfl)
theorem dX6_hole_54 : decode cX6_hole 54 = .ok (.iload_n 3, 1) := dk_29 (dk_at dksX6_hole_2 7 rfl rfl)
theorem dX6_hole_55 : decode cX6_hole 55 = .ok (.ifCond .eq 19, 3) := dk_153 0 19 (dk_at dksX6_hole_2 8 rfl rfl)
theorem dX6_hole_58 : decode cX6_hole 58 = .ok (.aload_n 0, 1) := dk_42 (dk_at dksX6_hole_2 11 rfl rfl)
theorem dX6_hole_59 : decode cX6_hole 59 = .ok (.getfield 7, 3) := dk_180 0 7 (dk_at dksX6_hole_2 12 rfl rfl)
theorem dX6_hole_62 : decode cX6_hole 62 = .ok (.bipush 16, 2) := dk_16 16 (dk_at dksX6_hole_2 15 rfl rfl)
theorem dX6_hole_64 : decode cX6_hole 64 = .ok (.iload_n 1, 1) := dk_27 (dk_at dksX6_hole_2 17 rfl rfl)
theorem dX6_hole_65 : decode cX6_hole 65 = .ok (.iadd, 1) := dk_96 (dk_at dksX6_hole_2 18 rfl rfl)
theorem dX6_hole_66 : decode cX6_hole 66 = .ok (.iaload, 1) := dk_46 (dk_at dksX6_hole_2 19 rfl rfl)
theorem dX6_hole_67 : decode cX6_hole 67 = .ok (.iconst 1, 1) := dk_4 (dk_at dksX6_hole_2 20 rfl rfl)
theorem dX6_hole_68 : decode cX6_hole 68 = .ok (.iload_n 2, 1) := dk_28 (dk_at dksX6_hole_2 21 rfl rfl)
theorem dX6_hole_69 : decode cX6_hole 69 = .ok (.ishl, 1) := dk_120 (dk_at dksX6_hole_2 22 rfl rfl)
theorem dX6_hole_70 : decode cX6_hole 70 = .ok (.ior, 1) := dk_128 (dk_at dksX6_hole_2 23 rfl rfl)
theorem dX6_hole_71 : decode cX6_hole 71 = .ok (.goto 18, 3) := dk_167 0 18 (dk_at dksX6_hole_3 0 rfl rfl)
theorem dX6_hole_74 : decode cX6_hole 74 = .ok (.aload_n 0, 1) := dk_42 (dk_at dksX6_hole_3 3 rfl rfl)
theorem dX6_hole_75 : decode cX6_hole 75 = .ok (.getfield 7, 3) := dk_180 0 7 (dk_at dksX6_hole_3 4 rfl rfl)
theorem dX6_hole_78 : decode cX6_hole 78 = .ok (.bipush 16, 2) := dk_16 16 (dk_at dksX6_hole_3 7 rfl rfl)
theorem dX6_hole_80 : decode cX6_hole 80 = .ok (.iload_n 1, 1) := dk_27 (dk_at dksX6_hole_3 9 rfl rfl)
theorem dX6_hole_81 : decode cX6_hole 81 = .ok (.iadd, 1) := dk_96 (dk_at dksX6_hole_3 10 rfl rfl)
theorem dX6_hole_82 : decode cX6_hole 82 = .ok (.iaload, 1) := dk_46 (dk_at dksX6_hole_3 11 rfl rfl)
theorem dX6_hole_83 : decode cX6_hole 83 = .ok (.iconst 1, 1) := dk_4 (dk_at dksX6_hole_3 12 rfl rfl)
theorem dX6_hole_84 : decode cX6_hole 84 = .ok (.iload_n 2, 1) := dk_28 (dk_at dksX6_hole_3 13 rfl rfl)
theorem dX6_hole_85 : decode cX6_hole 85 = .ok (.ishl, 1) := dk_120 (dk_at dksX6_hole_3 14 rfl rfl)
theorem dX6_hole_86 : decode cX6_hole 86 = .ok (.iconst (-1), 1) := dk_2 (dk_at dksX6_hole_3 15 rfl rfl)
theorem dX6_hole_87 : decode cX6_hole 87 = .ok (.ixor, 1) := dk_130 (dk_at dksX6_hole_3 16 rfl rfl)
theorem dX6_hole_88 : decode cX6_hole 88 = .ok (.iand, 1) := dk_126 (dk_at dksX6_hole_3 17 rfl rfl)
theorem dX6_hole_89 : decode cX6_hole 89 = .ok (.invokevirtual 285, 3) := dk_182 1 29 (dk_at dksX6_hole_3 18 rfl rfl)
theorem dX6_hole_92 : decode cX6_hole 92 = .ok (.istore 5, 2) := dk_54 5 (dk_at dksX6_hole_3 21 rfl rfl)
theorem dX6_hole_94 : decode cX6_hole 94 = .ok (.iload 4, 2) := dk_21 4 (dk_at dksX6_hole_4 0 rfl rfl)
theorem dX6_hole_96 : decode cX6_hole 96 = .ok (.iload_n 3, 1) := dk_29 (dk_at dksX6_hole_4 2 rfl rfl)
theorem dX6_hole_97 : decode cX6_hole 97 = .ok (.if_icmp .eq 7, 3) := dk_159 0 7 (dk_at dksX6_hole_4 3 rfl rfl)
theorem dX6_hole_100 : decode cX6_hole 100 = .ok (.iconst 1, 1) := dk_4 (dk_at dksX6_hole_4 6 rfl rfl)
theorem dX6_hole_101 : decode cX6_hole 101 = .ok (.goto 4, 3) := dk_167 0 4 (dk_at dksX6_hole_4 7 rfl rfl)
theorem dX6_hole_104 : decode cX6_hole 104 = .ok (.iconst 0, 1) := dk_3 (dk_at dksX6_hole_4 10 rfl rfl)
theorem dX6_hole_105 : decode cX6_hole 105 = .ok (.ireturn, 1) := dk_172 (dk_at dksX6_hole_4 11 rfl rfl)
abbrev cX6_bath : ByteArray := prog_18_method_66_code
def yX6_bath : MethodName := ⟨RX6, "bath", "(I)I"⟩
def dkwX6_bath_1 : List UInt8 := [167, 0, 9, 42, 7, 27, 182, 1, 29, 172]
abbrev dktX6_bath_1 : List UInt8 := dkwX6_bath_1 ++ []
def dkwX6_bath_0 : List UInt8 := [42, 27, 184, 1, 17, 154, 0, 7, 4, 167, 0, 4, 3, 181, 0, 42, 42, 180, 0, 42, 158, 0, 7, 3]
abbrev dktX6_bath_0 : List UInt8 := dkwX6_bath_0 ++ dktX6_bath_1
theorem dksX6_bath_0 : cX6_bath.data.toList.drop 0 = dktX6_bath_0 := by decide +kernel
theorem dksX6_bath_1 : cX6_bath.data.toList.drop 24 = dktX6_bath_1 := dk_seg dksX6_bath_0 24 rfl rfl
theorem dX6_bath_0 : decode cX6_bath 0 = .ok (.aload_n 0, 1) := dk_42 (dk_at dksX6_bath_0 0 rfl rfl)
theorem dX6_bath_1 : decode cX6_bath 1 = .ok (.iload_n 1, 1) := dk_27 (dk_at dksX6_bath_0 1 rfl rfl)
theorem dX6_bath_2 : decode cX6_bath 2 = .ok (.invokestatic 273, 3) := dk_184 1 17 (dk_at dksX6_bath_0 2 rfl rfl)
theorem dX6_bath_5 : decode cX6_bath 5 = .ok (.ifCond .ne 7, 3) := dk_154 0 7 (dk_at dksX6_bath_0 5 rfl rfl)
theorem dX6_bath_8 : decode cX6_bath 8 = .ok (.iconst 1, 1) := dk_4 (dk_at dksX6_bath_0 8 rfl rfl)
theorem dX6_bath_9 : decode cX6_bath 9 = .ok (.goto 4, 3) := dk_167 0 4 (dk_at dksX6_bath_0 9 rfl rfl)
theorem dX6_bath_12 : decode cX6_bath 12 = .ok (.iconst 0, 1) := dk_3 (dk_at dksX6_bath_0 12 rfl rfl)
theorem dX6_bath_13 : decode cX6_bath 13 = .ok (.putfield 42, 3) := dk_181 0 42 (dk_at dksX6_bath_0 13 rfl rfl)
theorem dX6_bath_16 : decode cX6_bath 16 = .ok (.aload_n 0, 1) := dk_42 (dk_at dksX6_bath_0 16 rfl rfl)
theorem dX6_bath_17 : decode cX6_bath 17 = .ok (.getfield 42, 3) := dk_180 0 42 (dk_at dksX6_bath_0 17 rfl rfl)
theorem dX6_bath_20 : decode cX6_bath 20 = .ok (.ifCond .le 7, 3) := dk_158 0 7 (dk_at dksX6_bath_0 20 rfl rfl)
theorem dX6_bath_23 : decode cX6_bath 23 = .ok (.iconst 0, 1) := dk_3 (dk_at dksX6_bath_0 23 rfl rfl)
theorem dX6_bath_24 : decode cX6_bath 24 = .ok (.goto 9, 3) := dk_167 0 9 (dk_at dksX6_bath_1 0 rfl rfl)
theorem dX6_bath_27 : decode cX6_bath 27 = .ok (.aload_n 0, 1) := dk_42 (dk_at dksX6_bath_1 3 rfl rfl)
theorem dX6_bath_28 : decode cX6_bath 28 = .ok (.iconst 4, 1) := dk_7 (dk_at dksX6_bath_1 4 rfl rfl)
theorem dX6_bath_29 : decode cX6_bath 29 = .ok (.iload_n 1, 1) := dk_27 (dk_at dksX6_bath_1 5 rfl rfl)
theorem dX6_bath_30 : decode cX6_bath 30 = .ok (.invokevirtual 285, 3) := dk_182 1 29 (dk_at dksX6_bath_1 6 rfl rfl)
theorem dX6_bath_33 : decode cX6_bath 33 = .ok (.ireturn, 1) := dk_172 (dk_at dksX6_bath_1 9 rfl rfl)
abbrev cX6_keep : ByteArray := prog_18_method_67_code
def yX6_keep : MethodName := ⟨RX6, "keep", "(I)I"⟩
def dkwX6_keep_1 : List UInt8 := [158, 0, 7, 3, 167, 0, 9, 42, 8, 27, 182, 1, 29, 172]
abbrev dktX6_keep_1 : List UInt8 := dkwX6_keep_1 ++ []
def dkwX6_keep_0 : List UInt8 := [42, 27, 3, 4, 184, 0, 45, 154, 0, 7, 4, 167, 0, 4, 3, 181, 0, 42, 42, 180, 0, 42]
abbrev dktX6_keep_0 : List UInt8 := dkwX6_keep_0 ++ dktX6_keep_1
theorem dksX6_keep_0 : cX6_keep.data.toList.drop 0 = dktX6_keep_0 := by decide +kernel
theorem dksX6_keep_1 : cX6_keep.data.toList.drop 22 = dktX6_keep_1 := dk_seg dksX6_keep_0 22 rfl rfl
theorem dX6_keep_0 : decode cX6_keep 0 = .ok (.aload_n 0, 1) := dk_42 (dk_at dksX6_keep_0 0 rfl rfl)
theorem dX6_keep_1 : decode cX6_keep 1 = .ok (.iload_n 1, 1) := dk_27 (dk_at dksX6_keep_0 1 rfl rfl)
theorem dX6_keep_2 : decode cX6_keep 2 = .ok (.iconst 0, 1) := dk_3 (dk_at dksX6_keep_0 2 rfl rfl)
theorem dX6_keep_3 : decode cX6_keep 3 = .ok (.iconst 1, 1) := dk_4 (dk_at dksX6_keep_0 3 rfl rfl)
theorem dX6_keep_4 : decode cX6_keep 4 = .ok (.invokestatic 45, 3) := dk_184 0 45 (dk_at dksX6_keep_0 4 rfl rfl)
theorem dX6_keep_7 : decode cX6_keep 7 = .ok (.ifCond .ne 7, 3) := dk_154 0 7 (dk_at dksX6_keep_0 7 rfl rfl)
theorem dX6_keep_10 : decode cX6_keep 10 = .ok (.iconst 1, 1) := dk_4 (dk_at dksX6_keep_0 10 rfl rfl)
theorem dX6_keep_11 : decode cX6_keep 11 = .ok (.goto 4, 3) := dk_167 0 4 (dk_at dksX6_keep_0 11 rfl rfl)
theorem dX6_keep_14 : decode cX6_keep 14 = .ok (.iconst 0, 1) := dk_3 (dk_at dksX6_keep_0 14 rfl rfl)
theorem dX6_keep_15 : decode cX6_keep 15 = .ok (.putfield 42, 3) := dk_181 0 42 (dk_at dksX6_keep_0 15 rfl rfl)
theorem dX6_keep_18 : decode cX6_keep 18 = .ok (.aload_n 0, 1) := dk_42 (dk_at dksX6_keep_0 18 rfl rfl)
theorem dX6_keep_19 : decode cX6_keep 19 = .ok (.getfield 42, 3) := dk_180 0 42 (dk_at dksX6_keep_0 19 rfl rfl)
theorem dX6_keep_22 : decode cX6_keep 22 = .ok (.ifCond .le 7, 3) := dk_158 0 7 (dk_at dksX6_keep_1 0 rfl rfl)
theorem dX6_keep_25 : decode cX6_keep 25 = .ok (.iconst 0, 1) := dk_3 (dk_at dksX6_keep_1 3 rfl rfl)
theorem dX6_keep_26 : decode cX6_keep 26 = .ok (.goto 9, 3) := dk_167 0 9 (dk_at dksX6_keep_1 4 rfl rfl)
theorem dX6_keep_29 : decode cX6_keep 29 = .ok (.aload_n 0, 1) := dk_42 (dk_at dksX6_keep_1 7 rfl rfl)
theorem dX6_keep_30 : decode cX6_keep 30 = .ok (.iconst 5, 1) := dk_8 (dk_at dksX6_keep_1 8 rfl rfl)
theorem dX6_keep_31 : decode cX6_keep 31 = .ok (.iload_n 1, 1) := dk_27 (dk_at dksX6_keep_1 9 rfl rfl)
theorem dX6_keep_32 : decode cX6_keep 32 = .ok (.invokevirtual 285, 3) := dk_182 1 29 (dk_at dksX6_keep_1 10 rfl rfl)
theorem dX6_keep_35 : decode cX6_keep 35 = .ok (.ireturn, 1) := dk_172 (dk_at dksX6_keep_1 13 rfl rfl)
abbrev cX6_masons : ByteArray := prog_18_method_68_code
def yX6_masons : MethodName := ⟨RX6, "masons", "(I)I"⟩
def dkwX6_masons_1 : List UInt8 := [158, 0, 7, 3, 167, 0, 10, 42, 16, 6, 27, 182, 1, 29, 172]
abbrev dktX6_masons_1 : List UInt8 := dkwX6_masons_1 ++ []
def dkwX6_masons_0 : List UInt8 := [42, 27, 3, 16, 9, 184, 0, 45, 154, 0, 7, 4, 167, 0, 4, 3, 181, 0, 42, 42, 180, 0, 42]
abbrev dktX6_masons_0 : List UInt8 := dkwX6_masons_0 ++ dktX6_masons_1
theorem dksX6_masons_0 : cX6_masons.data.toList.drop 0 = dktX6_masons_0 := by decide +kernel
theorem dksX6_masons_1 : cX6_masons.data.toList.drop 23 = dktX6_masons_1 := dk_seg dksX6_masons_0 23 rfl rfl
theorem dX6_masons_0 : decode cX6_masons 0 = .ok (.aload_n 0, 1) := dk_42 (dk_at dksX6_masons_0 0 rfl rfl)
theorem dX6_masons_1 : decode cX6_masons 1 = .ok (.iload_n 1, 1) := dk_27 (dk_at dksX6_masons_0 1 rfl rfl)
theorem dX6_masons_2 : decode cX6_masons 2 = .ok (.iconst 0, 1) := dk_3 (dk_at dksX6_masons_0 2 rfl rfl)
theorem dX6_masons_3 : decode cX6_masons 3 = .ok (.bipush 9, 2) := dk_16 9 (dk_at dksX6_masons_0 3 rfl rfl)
theorem dX6_masons_5 : decode cX6_masons 5 = .ok (.invokestatic 45, 3) := dk_184 0 45 (dk_at dksX6_masons_0 5 rfl rfl)
theorem dX6_masons_8 : decode cX6_masons 8 = .ok (.ifCond .ne 7, 3) := dk_154 0 7 (dk_at dksX6_masons_0 8 rfl rfl)
theorem dX6_masons_11 : decode cX6_masons 11 = .ok (.iconst 1, 1) := dk_4 (dk_at dksX6_masons_0 11 rfl rfl)
theorem dX6_masons_12 : decode cX6_masons 12 = .ok (.goto 4, 3) := dk_167 0 4 (dk_at dksX6_masons_0 12 rfl rfl)
theorem dX6_masons_15 : decode cX6_masons 15 = .ok (.iconst 0, 1) := dk_3 (dk_at dksX6_masons_0 15 rfl rfl)
theorem dX6_masons_16 : decode cX6_masons 16 = .ok (.putfield 42, 3) := dk_181 0 42 (dk_at dksX6_masons_0 16 rfl rfl)
theorem dX6_masons_19 : decode cX6_masons 19 = .ok (.aload_n 0, 1) := dk_42 (dk_at dksX6_masons_0 19 rfl rfl)
theorem dX6_masons_20 : decode cX6_masons 20 = .ok (.getfield 42, 3) := dk_180 0 42 (dk_at dksX6_masons_0 20 rfl rfl)
theorem dX6_masons_23 : decode cX6_masons 23 = .ok (.ifCond .le 7, 3) := dk_158 0 7 (dk_at dksX6_masons_1 0 rfl rfl)
theorem dX6_masons_26 : decode cX6_masons 26 = .ok (.iconst 0, 1) := dk_3 (dk_at dksX6_masons_1 3 rfl rfl)
theorem dX6_masons_27 : decode cX6_masons 27 = .ok (.goto 10, 3) := dk_167 0 10 (dk_at dksX6_masons_1 4 rfl rfl)
theorem dX6_masons_30 : decode cX6_masons 30 = .ok (.aload_n 0, 1) := dk_42 (dk_at dksX6_masons_1 7 rfl rfl)
theorem dX6_masons_31 : decode cX6_masons 31 = .ok (.bipush 6, 2) := dk_16 6 (dk_at dksX6_masons_1 8 rfl rfl)
theorem dX6_masons_33 : decode cX6_masons 33 = .ok (.iload_n 1, 1) := dk_27 (dk_at dksX6_masons_1 10 rfl rfl)
theorem dX6_masons_34 : decode cX6_masons 34 = .ok (.invokevirtual 285, 3) := dk_182 1 29 (dk_at dksX6_masons_1 11 rfl rfl)
theorem dX6_masons_37 : decode cX6_masons 37 = .ok (.ireturn, 1) := dk_172 (dk_at dksX6_masons_1 14 rfl rfl)
abbrev cX6_buy : ByteArray := prog_18_method_69_code
def yX6_buy : MethodName := ⟨RX6, "buy", "(I)I"⟩
def dkwX6_buy_2 : List UInt8 := [182, 1, 29, 61, 42, 180, 0, 7, 16, 7, 46, 172]
abbrev dktX6_buy_2 : List UInt8 := dkwX6_buy_2 ++ []
def dkwX6_buy_1 : List UInt8 := [158, 0, 5, 3, 172, 42, 16, 7, 17, 39, 15, 42, 180, 0, 7, 16, 7, 46, 27, 96, 184, 0, 243]
abbrev dktX6_buy_1 : List UInt8 := dkwX6_buy_1 ++ dktX6_buy_2
def dkwX6_buy_0 : List UInt8 := [42, 27, 4, 17, 3, 231, 184, 0, 45, 154, 0, 7, 4, 167, 0, 4, 3, 181, 0, 42, 42, 180, 0, 42]
abbrev dktX6_buy_0 : List UInt8 := dkwX6_buy_0 ++ dktX6_buy_1
theorem dksX6_buy_0 : cX6_buy.data.toList.drop 0 = dktX6_buy_0 := by decide +kernel
theorem dksX6_buy_1 : cX6_buy.data.toList.drop 24 = dktX6_buy_1 := dk_seg dksX6_buy_0 24 rfl rfl
theorem dksX6_buy_2 : cX6_buy.data.toList.drop 47 = dktX6_buy_2 := dk_seg dksX6_buy_1 23 rfl rfl
theorem dX6_buy_0 : decode cX6_buy 0 = .ok (.aload_n 0, 1) := dk_42 (dk_at dksX6_buy_0 0 rfl rfl)
theorem dX6_buy_1 : decode cX6_buy 1 = .ok (.iload_n 1, 1) := dk_27 (dk_at dksX6_buy_0 1 rfl rfl)
theorem dX6_buy_2 : decode cX6_buy 2 = .ok (.iconst 1, 1) := dk_4 (dk_at dksX6_buy_0 2 rfl rfl)
theorem dX6_buy_3 : decode cX6_buy 3 = .ok (.sipush 999, 3) := dk_17 3 231 (dk_at dksX6_buy_0 3 rfl rfl)
theorem dX6_buy_6 : decode cX6_buy 6 = .ok (.invokestatic 45, 3) := dk_184 0 45 (dk_at dksX6_buy_0 6 rfl rfl)
theorem dX6_buy_9 : decode cX6_buy 9 = .ok (.ifCond .ne 7, 3) := dk_154 0 7 (dk_at dksX6_buy_0 9 rfl rfl)
theorem dX6_buy_12 : decode cX6_buy 12 = .ok (.iconst 1, 1) := dk_4 (dk_at dksX6_buy_0 12 rfl rfl)
theorem dX6_buy_13 : decode cX6_buy 13 = .ok (.goto 4, 3) := dk_167 0 4 (dk_at dksX6_buy_0 13 rfl rfl)
theorem dX6_buy_16 : decode cX6_buy 16 = .ok (.iconst 0, 1) := dk_3 (dk_at dksX6_buy_0 16 rfl rfl)
theorem dX6_buy_17 : decode cX6_buy 17 = .ok (.putfield 42, 3) := dk_181 0 42 (dk_at dksX6_buy_0 17 rfl rfl)
theorem dX6_buy_20 : decode cX6_buy 20 = .ok (.aload_n 0, 1) := dk_42 (dk_at dksX6_buy_0 20 rfl rfl)
theorem dX6_buy_21 : decode cX6_buy 21 = .ok (.getfield 42, 3) := dk_180 0 42 (dk_at dksX6_buy_0 21 rfl rfl)
theorem dX6_buy_24 : decode cX6_buy 24 = .ok (.ifCond .le 5, 3) := dk_158 0 5 (dk_at dksX6_buy_1 0 rfl rfl)
theorem dX6_buy_27 : decode cX6_buy 27 = .ok (.iconst 0, 1) := dk_3 (dk_at dksX6_buy_1 3 rfl rfl)
theorem dX6_buy_28 : decode cX6_buy 28 = .ok (.ireturn, 1) := dk_172 (dk_at dksX6_buy_1 4 rfl rfl)
theorem dX6_buy_29 : decode cX6_buy 29 = .ok (.aload_n 0, 1) := dk_42 (dk_at dksX6_buy_1 5 rfl rfl)
theorem dX6_buy_30 : decode cX6_buy 30 = .ok (.bipush 7, 2) := dk_16 7 (dk_at dksX6_buy_1 6 rfl rfl)
theorem dX6_buy_32 : decode cX6_buy 32 = .ok (.sipush 9999, 3) := dk_17 39 15 (dk_at dksX6_buy_1 8 rfl rfl)
theorem dX6_buy_35 : decode cX6_buy 35 = .ok (.aload_n 0, 1) := dk_42 (dk_at dksX6_buy_1 11 rfl rfl)
theorem dX6_buy_36 : decode cX6_buy 36 = .ok (.getfield 7, 3) := dk_180 0 7 (dk_at dksX6_buy_1 12 rfl rfl)
theorem dX6_buy_39 : decode cX6_buy 39 = .ok (.bipush 7, 2) := dk_16 7 (dk_at dksX6_buy_1 15 rfl rfl)
theorem dX6_buy_41 : decode cX6_buy 41 = .ok (.iaload, 1) := dk_46 (dk_at dksX6_buy_1 17 rfl rfl)
theorem dX6_buy_42 : decode cX6_buy 42 = .ok (.iload_n 1, 1) := dk_27 (dk_at dksX6_buy_1 18 rfl rfl)
theorem dX6_buy_43 : decode cX6_buy 43 = .ok (.iadd, 1) := dk_96 (dk_at dksX6_buy_1 19 rfl rfl)
theorem dX6_buy_44 : decode cX6_buy 44 = .ok (.invokestatic 243, 3) := dk_184 0 243 (dk_at dksX6_buy_1 20 rfl rfl)
theorem dX6_buy_47 : decode cX6_buy 47 = .ok (.invokevirtual 285, 3) := dk_182 1 29 (dk_at dksX6_buy_2 0 rfl rfl)
theorem dX6_buy_50 : decode cX6_buy 50 = .ok (.istore_n 2, 1) := dk_61 (dk_at dksX6_buy_2 3 rfl rfl)
theorem dX6_buy_51 : decode cX6_buy 51 = .ok (.aload_n 0, 1) := dk_42 (dk_at dksX6_buy_2 4 rfl rfl)
theorem dX6_buy_52 : decode cX6_buy 52 = .ok (.getfield 7, 3) := dk_180 0 7 (dk_at dksX6_buy_2 5 rfl rfl)
theorem dX6_buy_55 : decode cX6_buy 55 = .ok (.bipush 7, 2) := dk_16 7 (dk_at dksX6_buy_2 8 rfl rfl)
theorem dX6_buy_57 : decode cX6_buy 57 = .ok (.iaload, 1) := dk_46 (dk_at dksX6_buy_2 10 rfl rfl)
theorem dX6_buy_58 : decode cX6_buy 58 = .ok (.ireturn, 1) := dk_172 (dk_at dksX6_buy_2 11 rfl rfl)
abbrev cX6_lesser : ByteArray := prog_18_method_4_code
def yX6_lesser : MethodName := ⟨RX6, "lesser", "(II)I"⟩
def dkwX6_lesser_0 : List UInt8 := [26, 27, 162, 0, 7, 26, 167, 0, 4, 27, 172]
abbrev dktX6_lesser_0 : List UInt8 := dkwX6_lesser_0 ++ []
theorem dksX6_lesser_0 : cX6_lesser.data.toList.drop 0 = dktX6_lesser_0 := by decide +kernel
theorem dX6_lesser_0 : decode cX6_lesser 0 = .ok (.iload_n 0, 1) := dk_26 (dk_at dksX6_lesser_0 0 rfl rfl)
theorem dX6_lesser_1 : decode cX6_lesser 1 = .ok (.iload_n 1, 1) := dk_27 (dk_at dksX6_lesser_0 1 rfl rfl)
theorem dX6_lesser_2 : decode cX6_lesser 2 = .ok (.if_icmp .ge 7, 3) := dk_162 0 7 (dk_at dksX6_lesser_0 2 rfl rfl)
theorem dX6_lesser_5 : decode cX6_lesser 5 = .ok (.iload_n 0, 1) := dk_26 (dk_at dksX6_lesser_0 5 rfl rfl)
theorem dX6_lesser_6 : decode cX6_lesser 6 = .ok (.goto 4, 3) := dk_167 0 4 (dk_at dksX6_lesser_0 6 rfl rfl)
theorem dX6_lesser_9 : decode cX6_lesser 9 = .ok (.iload_n 1, 1) := dk_27 (dk_at dksX6_lesser_0 9 rfl rfl)
theorem dX6_lesser_10 : decode cX6_lesser 10 = .ok (.ireturn, 1) := dk_172 (dk_at dksX6_lesser_0 10 rfl rfl)
abbrev cX6_calm : ByteArray := prog_18_method_70_code
def yX6_calm : MethodName := ⟨RX6, "calm", "(I)I"⟩
def dkwX6_calm_2 : List UInt8 := [27, 5, 182, 0, 49, 172]
abbrev dktX6_calm_2 : List UInt8 := dkwX6_calm_2 ++ []
def dkwX6_calm_1 : List UInt8 := [3, 172, 42, 16, 24, 8, 27, 104, 96, 5, 96, 42, 27, 5, 182, 0, 49, 5, 108, 182, 1, 29, 61, 42]
abbrev dktX6_calm_1 : List UInt8 := dkwX6_calm_1 ++ dktX6_calm_2
def dkwX6_calm_0 : List UInt8 := [42, 42, 27, 182, 1, 11, 154, 0, 7, 4, 167, 0, 4, 3, 181, 0, 42, 42, 180, 0, 42, 158, 0, 5]
abbrev dktX6_calm_0 : List UInt8 := dkwX6_calm_0 ++ dktX6_calm_1
theorem dksX6_calm_0 : cX6_calm.data.toList.drop 0 = dktX6_calm_0 := by decide +kernel
theorem dksX6_calm_1 : cX6_calm.data.toList.drop 24 = dktX6_calm_1 := dk_seg dksX6_calm_0 24 rfl rfl
theorem dksX6_calm_2 : cX6_calm.data.toList.drop 48 = dktX6_calm_2 := dk_seg dksX6_calm_1 24 rfl rfl
theorem dX6_calm_0 : decode cX6_calm 0 = .ok (.aload_n 0, 1) := dk_42 (dk_at dksX6_calm_0 0 rfl rfl)
theorem dX6_calm_1 : decode cX6_calm 1 = .ok (.aload_n 0, 1) := dk_42 (dk_at dksX6_calm_0 1 rfl rfl)
theorem dX6_calm_2 : decode cX6_calm 2 = .ok (.iload_n 1, 1) := dk_27 (dk_at dksX6_calm_0 2 rfl rfl)
theorem dX6_calm_3 : decode cX6_calm 3 = .ok (.invokevirtual 267, 3) := dk_182 1 11 (dk_at dksX6_calm_0 3 rfl rfl)
theorem dX6_calm_6 : decode cX6_calm 6 = .ok (.ifCond .ne 7, 3) := dk_154 0 7 (dk_at dksX6_calm_0 6 rfl rfl)
theorem dX6_calm_9 : decode cX6_calm 9 = .ok (.iconst 1, 1) := dk_4 (dk_at dksX6_calm_0 9 rfl rfl)
theorem dX6_calm_10 : decode cX6_calm 10 = .ok (.goto 4, 3) := dk_167 0 4 (dk_at dksX6_calm_0 10 rfl rfl)
theorem dX6_calm_13 : decode cX6_calm 13 = .ok (.iconst 0, 1) := dk_3 (dk_at dksX6_calm_0 13 rfl rfl)
theorem dX6_calm_14 : decode cX6_calm 14 = .ok (.putfield 42, 3) := dk_181 0 42 (dk_at dksX6_calm_0 14 rfl rfl)
theorem dX6_calm_17 : decode cX6_calm 17 = .ok (.aload_n 0, 1) := dk_42 (dk_at dksX6_calm_0 17 rfl rfl)
theorem dX6_calm_18 : decode cX6_calm 18 = .ok (.getfield 42, 3) := dk_180 0 42 (dk_at dksX6_calm_0 18 rfl rfl)
theorem dX6_calm_21 : decode cX6_calm 21 = .ok (.ifCond .le 5, 3) := dk_158 0 5 (dk_at dksX6_calm_0 21 rfl rfl)
theorem dX6_calm_24 : decode cX6_calm 24 = .ok (.iconst 0, 1) := dk_3 (dk_at dksX6_calm_1 0 rfl rfl)
theorem dX6_calm_25 : decode cX6_calm 25 = .ok (.ireturn, 1) := dk_172 (dk_at dksX6_calm_1 1 rfl rfl)
theorem dX6_calm_26 : decode cX6_calm 26 = .ok (.aload_n 0, 1) := dk_42 (dk_at dksX6_calm_1 2 rfl rfl)
theorem dX6_calm_27 : decode cX6_calm 27 = .ok (.bipush 24, 2) := dk_16 24 (dk_at dksX6_calm_1 3 rfl rfl)
theorem dX6_calm_29 : decode cX6_calm 29 = .ok (.iconst 5, 1) := dk_8 (dk_at dksX6_calm_1 5 rfl rfl)
theorem dX6_calm_30 : decode cX6_calm 30 = .ok (.iload_n 1, 1) := dk_27 (dk_at dksX6_calm_1 6 rfl rfl)
theorem dX6_calm_31 : decode cX6_calm 31 = .ok (.imul, 1) := dk_104 (dk_at dksX6_calm_1 7 rfl rfl)
theorem dX6_calm_32 : decode cX6_calm 32 = .ok (.iadd, 1) := dk_96 (dk_at dksX6_calm_1 8 rfl rfl)
theorem dX6_calm_33 : decode cX6_calm 33 = .ok (.iconst 2, 1) := dk_5 (dk_at dksX6_calm_1 9 rfl rfl)
theorem dX6_calm_34 : decode cX6_calm 34 = .ok (.iadd, 1) := dk_96 (dk_at dksX6_calm_1 10 rfl rfl)
theorem dX6_calm_35 : decode cX6_calm 35 = .ok (.aload_n 0, 1) := dk_42 (dk_at dksX6_calm_1 11 rfl rfl)
theorem dX6_calm_36 : decode cX6_calm 36 = .ok (.iload_n 1, 1) := dk_27 (dk_at dksX6_calm_1 12 rfl rfl)
theorem dX6_calm_37 : decode cX6_calm 37 = .ok (.iconst 2, 1) := dk_5 (dk_at dksX6_calm_1 13 rfl rfl)
theorem dX6_calm_38 : decode cX6_calm 38 = .ok (.invokevirtual 49, 3) := dk_182 0 49 (dk_at dksX6_calm_1 14 rfl rfl)
theorem dX6_calm_41 : decode cX6_calm 41 = .ok (.iconst 2, 1) := dk_5 (dk_at dksX6_calm_1 17 rfl rfl)
theorem dX6_calm_42 : decode cX6_calm 42 = .ok (.idiv, 1) := dk_108 (dk_at dksX6_calm_1 18 rfl rfl)
theorem dX6_calm_43 : decode cX6_calm 43 = .ok (.invokevirtual 285, 3) := dk_182 1 29 (dk_at dksX6_calm_1 19 rfl rfl)
theorem dX6_calm_46 : decode cX6_calm 46 = .ok (.istore_n 2, 1) := dk_61 (dk_at dksX6_calm_1 22 rfl rfl)
theorem dX6_calm_47 : decode cX6_calm 47 = .ok (.aload_n 0, 1) := dk_42 (dk_at dksX6_calm_1 23 rfl rfl)
theorem dX6_calm_48 : decode cX6_calm 48 = .ok (.iload_n 1, 1) := dk_27 (dk_at dksX6_calm_2 0 rfl rfl)
theorem dX6_calm_49 : decode cX6_calm 49 = .ok (.iconst 2, 1) := dk_5 (dk_at dksX6_calm_2 1 rfl rfl)
theorem dX6_calm_50 : decode cX6_calm 50 = .ok (.invokevirtual 49, 3) := dk_182 0 49 (dk_at dksX6_calm_2 2 rfl rfl)
theorem dX6_calm_53 : decode cX6_calm 53 = .ok (.ireturn, 1) := dk_172 (dk_at dksX6_calm_2 5 rfl rfl)
abbrev cX6_days : ByteArray := prog_18_method_71_code
def yX6_days : MethodName := ⟨RX6, "days", "(I)I"⟩
def dkwX6_days_1 : List UInt8 := [158, 0, 5, 3, 172, 42, 182, 1, 26, 42, 27, 4, 182, 1, 32, 172]
abbrev dktX6_days_1 : List UInt8 := dkwX6_days_1 ++ []
def dkwX6_days_0 : List UInt8 := [42, 27, 4, 16, 60, 184, 0, 45, 154, 0, 7, 4, 167, 0, 4, 3, 181, 0, 42, 42, 180, 0, 42]
abbrev dktX6_days_0 : List UInt8 := dkwX6_days_0 ++ dktX6_days_1
theorem dksX6_days_0 : cX6_days.data.toList.drop 0 = dktX6_days_0 := by decide +kernel
theorem dksX6_days_1 : cX6_days.data.toList.drop 23 = dktX6_days_1 := dk_seg dksX6_days_0 23 rfl rfl
theorem dX6_days_0 : decode cX6_days 0 = .ok (.aload_n 0, 1) := dk_42 (dk_at dksX6_days_0 0 rfl rfl)
theorem dX6_days_1 : decode cX6_days 1 = .ok (.iload_n 1, 1) := dk_27 (dk_at dksX6_days_0 1 rfl rfl)
theorem dX6_days_2 : decode cX6_days 2 = .ok (.iconst 1, 1) := dk_4 (dk_at dksX6_days_0 2 rfl rfl)
theorem dX6_days_3 : decode cX6_days 3 = .ok (.bipush 60, 2) := dk_16 60 (dk_at dksX6_days_0 3 rfl rfl)
theorem dX6_days_5 : decode cX6_days 5 = .ok (.invokestatic 45, 3) := dk_184 0 45 (dk_at dksX6_days_0 5 rfl rfl)
theorem dX6_days_8 : decode cX6_days 8 = .ok (.ifCond .ne 7, 3) := dk_154 0 7 (dk_at dksX6_days_0 8 rfl rfl)
theorem dX6_days_11 : decode cX6_days 11 = .ok (.iconst 1, 1) := dk_4 (dk_at dksX6_days_0 11 rfl rfl)
theorem dX6_days_12 : decode cX6_days 12 = .ok (.goto 4, 3) := dk_167 0 4 (dk_at dksX6_days_0 12 rfl rfl)
theorem dX6_days_15 : decode cX6_days 15 = .ok (.iconst 0, 1) := dk_3 (dk_at dksX6_days_0 15 rfl rfl)
theorem dX6_days_16 : decode cX6_days 16 = .ok (.putfield 42, 3) := dk_181 0 42 (dk_at dksX6_days_0 16 rfl rfl)
theorem dX6_days_19 : decode cX6_days 19 = .ok (.aload_n 0, 1) := dk_42 (dk_at dksX6_days_0 19 rfl rfl)
theorem dX6_days_20 : decode cX6_days 20 = .ok (.getfield 42, 3) := dk_180 0 42 (dk_at dksX6_days_0 20 rfl rfl)
theorem dX6_days_23 : decode cX6_days 23 = .ok (.ifCond .le 5, 3) := dk_158 0 5 (dk_at dksX6_days_1 0 rfl rfl)
theorem dX6_days_26 : decode cX6_days 26 = .ok (.iconst 0, 1) := dk_3 (dk_at dksX6_days_1 3 rfl rfl)
theorem dX6_days_27 : decode cX6_days 27 = .ok (.ireturn, 1) := dk_172 (dk_at dksX6_days_1 4 rfl rfl)
theorem dX6_days_28 : decode cX6_days 28 = .ok (.aload_n 0, 1) := dk_42 (dk_at dksX6_days_1 5 rfl rfl)
theorem dX6_days_29 : decode cX6_days 29 = .ok (.invokevirtual 282, 3) := dk_182 1 26 (dk_at dksX6_days_1 6 rfl rfl)
theorem dX6_days_32 : decode cX6_days 32 = .ok (.aload_n 0, 1) := dk_42 (dk_at dksX6_days_1 9 rfl rfl)
theorem dX6_days_33 : decode cX6_days 33 = .ok (.iload_n 1, 1) := dk_27 (dk_at dksX6_days_1 10 rfl rfl)
theorem dX6_days_34 : decode cX6_days 34 = .ok (.iconst 1, 1) := dk_4 (dk_at dksX6_days_1 11 rfl rfl)
theorem dX6_days_35 : decode cX6_days 35 = .ok (.invokevirtual 288, 3) := dk_182 1 32 (dk_at dksX6_days_1 12 rfl rfl)
theorem dX6_days_38 : decode cX6_days 38 = .ok (.ireturn, 1) := dk_172 (dk_at dksX6_days_1 15 rfl rfl)
abbrev cX6_goes : ByteArray := prog_18_method_52_code
def yX6_goes : MethodName := ⟨RX6, "goes", "(IZ)I"⟩
def dkwX6_goes_11 : List UInt8 := [172]
abbrev dktX6_goes_11 : List UInt8 := dkwX6_goes_11 ++ []
def dkwX6_goes_10 : List UInt8 := [16, 10, 46, 4, 96, 184, 0, 243, 79, 132, 4, 1, 167, 255, 21, 42, 180, 0, 7, 16, 11, 46, 29, 100]
abbrev dktX6_goes_10 : List UInt8 := dkwX6_goes_10 ++ dktX6_goes_11
def dkwX6_goes_9 : List UInt8 := [21, 6, 4, 96, 16, 8, 112, 120, 128, 79, 42, 180, 0, 7, 16, 10, 17, 39, 15, 42, 180, 0, 7]
abbrev dktX6_goes_9 : List UInt8 := dkwX6_goes_9 ++ dktX6_goes_10
def dkwX6_goes_8 : List UInt8 := [162, 0, 33, 42, 16, 8, 182, 0, 255, 54, 6, 42, 180, 0, 7, 16, 16, 21, 6, 96, 92, 46, 4]
abbrev dktX6_goes_8 : List UInt8 := dkwX6_goes_8 ++ dktX6_goes_9
def dkwX6_goes_7 : List UInt8 := [167, 255, 211, 42, 182, 1, 8, 28, 153, 0, 49, 42, 16, 100, 182, 0, 255, 42, 180, 0, 7, 16, 9, 46]
abbrev dktX6_goes_7 : List UInt8 := dkwX6_goes_7 ++ dktX6_goes_8
def dkwX6_goes_6 : List UInt8 := [16, 10, 182, 0, 255, 42, 21, 6, 182, 1, 2, 162, 0, 9, 42, 21, 6, 182, 1, 5, 132, 6, 1]
abbrev dktX6_goes_6 : List UInt8 := dkwX6_goes_6 ++ dktX6_goes_7
def dkwX6_goes_5 : List UInt8 := [54, 6, 21, 6, 42, 180, 0, 7, 6, 46, 162, 0, 40, 21, 5, 21, 6, 184, 0, 53, 153, 0, 24, 42]
abbrev dktX6_goes_5 : List UInt8 := dkwX6_goes_5 ++ dktX6_goes_6
def dkwX6_goes_4 : List UInt8 := [182, 0, 226, 153, 0, 16, 42, 42, 180, 0, 7, 7, 46, 182, 0, 252, 167, 0, 4, 3, 54, 5, 3]
abbrev dktX6_goes_4 : List UInt8 := dkwX6_goes_4 ++ dktX6_goes_5
def dkwX6_goes_3 : List UInt8 := [132, 5, 1, 167, 255, 203, 28, 153, 0, 36, 42, 42, 180, 0, 7, 8, 46, 42, 180, 0, 7, 16, 10, 46]
abbrev dktX6_goes_3 : List UInt8 := dkwX6_goes_3 ++ dktX6_goes_4
def dkwX6_goes_2 : List UInt8 := [42, 21, 5, 5, 182, 0, 49, 42, 21, 5, 182, 0, 246, 96, 184, 0, 243, 184, 0, 249, 182, 0, 114]
abbrev dktX6_goes_2 : List UInt8 := dkwX6_goes_2 ++ dktX6_goes_3
def dkwX6_goes_1 : List UInt8 := [180, 0, 7, 6, 46, 162, 0, 48, 42, 21, 5, 182, 0, 236, 153, 0, 33, 42, 21, 5, 5, 3, 16, 99]
abbrev dktX6_goes_1 : List UInt8 := dkwX6_goes_1 ++ dktX6_goes_2
def dkwX6_goes_0 : List UInt8 := [42, 180, 0, 7, 16, 11, 46, 62, 3, 54, 4, 21, 4, 27, 162, 0, 235, 3, 54, 5, 21, 5, 42]
abbrev dktX6_goes_0 : List UInt8 := dkwX6_goes_0 ++ dktX6_goes_1
theorem dksX6_goes_0 : cX6_goes.data.toList.drop 0 = dktX6_goes_0 := by decide +kernel
theorem dksX6_goes_1 : cX6_goes.data.toList.drop 23 = dktX6_goes_1 := dk_seg dksX6_goes_0 23 rfl rfl
theorem dksX6_goes_2 : cX6_goes.data.toList.drop 47 = dktX6_goes_2 := dk_seg dksX6_goes_1 24 rfl rfl
theorem dksX6_goes_3 : cX6_goes.data.toList.drop 70 = dktX6_goes_3 := dk_seg dksX6_goes_2 23 rfl rfl
theorem dksX6_goes_4 : cX6_goes.data.toList.drop 94 = dktX6_goes_4 := dk_seg dksX6_goes_3 24 rfl rfl
theorem dksX6_goes_5 : cX6_goes.data.toList.drop 117 = dktX6_goes_5 := dk_seg dksX6_goes_4 23 rfl rfl
theorem dksX6_goes_6 : cX6_goes.data.toList.drop 141 = dktX6_goes_6 := dk_seg dksX6_goes_5 24 rfl rfl
theorem dksX6_goes_7 : cX6_goes.data.toList.drop 164 = dktX6_goes_7 := dk_seg dksX6_goes_6 23 rfl rfl
theorem dksX6_goes_8 : cX6_goes.data.toList.drop 188 = dktX6_goes_8 := dk_seg dksX6_goes_7 24 rfl rfl
theorem dksX6_goes_9 : cX6_goes.data.toList.drop 211 = dktX6_goes_9 := dk_seg dksX6_goes_8 23 rfl rfl
theorem dksX6_goes_10 : cX6_goes.data.toList.drop 234 = dktX6_goes_10 := dk_seg dksX6_goes_9 23 rfl rfl
theorem dksX6_goes_11 : cX6_goes.data.toList.drop 258 = dktX6_goes_11 := dk_seg dksX6_goes_10 24 rfl rfl
theorem dX6_goes_0 : decode cX6_goes 0 = .ok (.aload_n 0, 1) := dk_42 (dk_at dksX6_goes_0 0 rfl rfl)
theorem dX6_goes_1 : decode cX6_goes 1 = .ok (.getfield 7, 3) := dk_180 0 7 (dk_at dksX6_goes_0 1 rfl rfl)
theorem dX6_goes_4 : decode cX6_goes 4 = .ok (.bipush 11, 2) := dk_16 11 (dk_at dksX6_goes_0 4 rfl rfl)
theorem dX6_goes_6 : decode cX6_goes 6 = .ok (.iaload, 1) := dk_46 (dk_at dksX6_goes_0 6 rfl rfl)
theorem dX6_goes_7 : decode cX6_goes 7 = .ok (.istore_n 3, 1) := dk_62 (dk_at dksX6_goes_0 7 rfl rfl)
theorem dX6_goes_8 : decode cX6_goes 8 = .ok (.iconst 0, 1) := dk_3 (dk_at dksX6_goes_0 8 rfl rfl)
theorem dX6_goes_9 : decode cX6_goes 9 = .ok (.istore 4, 2) := dk_54 4 (dk_at dksX6_goes_0 9 rfl rfl)
theorem dX6_goes_11 : decode cX6_goes 11 = .ok (.iload 4, 2) := dk_21 4 (dk_at dksX6_goes_0 11 rfl rfl)
theorem dX6_goes_13 : decode cX6_goes 13 = .ok (.iload_n 1, 1) := dk_27 (dk_at dksX6_goes_0 13 rfl rfl)
theorem dX6_goes_14 : decode cX6_goes 14 = .ok (.if_icmp .ge 235, 3) := dk_162 0 235 (dk_at dksX6_goes_0 14 rfl rfl)
theorem dX6_goes_17 : decode cX6_goes 17 = .ok (.iconst 0, 1) := dk_3 (dk_at dksX6_goes_0 17 rfl rfl)
theorem dX6_goes_18 : decode cX6_goes 18 = .ok (.istore 5, 2) := dk_54 5 (dk_at dksX6_goes_0 18 rfl rfl)
theorem dX6_goes_20 : decode cX6_goes 20 = .ok (.iload 5, 2) := dk_21 5 (dk_at dksX6_goes_0 20 rfl rfl)
theorem dX6_goes_22 : decode cX6_goes 22 = .ok (.aload_n 0, 1) := dk_42 (dk_at dksX6_goes_0 22 rfl rfl)
theorem dX6_goes_23 : decode cX6_goes 23 = .ok (.getfield 7, 3) := dk_180 0 7 (dk_at dksX6_goes_1 0 rfl rfl)
theorem dX6_goes_26 : decode cX6_goes 26 = .ok (.iconst 3, 1) := dk_6 (dk_at dksX6_goes_1 3 rfl rfl)
theorem dX6_goes_27 : decode cX6_goes 27 = .ok (.iaload, 1) := dk_46 (dk_at dksX6_goes_1 4 rfl rfl)
theorem dX6_goes_28 : decode cX6_goes 28 = .ok (.if_icmp .ge 48, 3) := dk_162 0 48 (dk_at dksX6_goes_1 5 rfl rfl)
theorem dX6_goes_31 : decode cX6_goes 31 = .ok (.aload_n 0, 1) := dk_42 (dk_at dksX6_goes_1 8 rfl rfl)
theorem dX6_goes_32 : decode cX6_goes 32 = .ok (.iload 5, 2) := dk_21 5 (dk_at dksX6_goes_1 9 rfl rfl)
theorem dX6_goes_34 : decode cX6_goes 34 = .ok (.invokevirtual 236, 3) := dk_182 0 236 (dk_at dksX6_goes_1 11 rfl rfl)
theorem dX6_goes_37 : decode cX6_goes 37 = .ok (.ifCond .eq 33, 3) := dk_153 0 33 (dk_at dksX6_goes_1 14 rfl rfl)
theorem dX6_goes_40 : decode cX6_goes 40 = .ok (.aload_n 0, 1) := dk_42 (dk_at dksX6_goes_1 17 rfl rfl)
theorem dX6_goes_41 : decode cX6_goes 41 = .ok (.iload 5, 2) := dk_21 5 (dk_at dksX6_goes_1 18 rfl rfl)
theorem dX6_goes_43 : decode cX6_goes 43 = .ok (.iconst 2, 1) := dk_5 (dk_at dksX6_goes_1 20 rfl rfl)
theorem dX6_goes_44 : decode cX6_goes 44 = .ok (.iconst 0, 1) := dk_3 (dk_at dksX6_goes_1 21 rfl rfl)
theorem dX6_goes_45 : decode cX6_goes 45 = .ok (.bipush 99, 2) := dk_16 99 (dk_at dksX6_goes_1 22 rfl rfl)
theorem dX6_goes_47 : decode cX6_goes 47 = .ok (.aload_n 0, 1) := dk_42 (dk_at dksX6_goes_2 0 rfl rfl)
theorem dX6_goes_48 : decode cX6_goes 48 = .ok (.iload 5, 2) := dk_21 5 (dk_at dksX6_goes_2 1 rfl rfl)
theorem dX6_goes_50 : decode cX6_goes 50 = .ok (.iconst 2, 1) := dk_5 (dk_at dksX6_goes_2 3 rfl rfl)
theorem dX6_goes_51 : decode cX6_goes 51 = .ok (.invokevirtual 49, 3) := dk_182 0 49 (dk_at dksX6_goes_2 4 rfl rfl)
theorem dX6_goes_54 : decode cX6_goes 54 = .ok (.aload_n 0, 1) := dk_42 (dk_at dksX6_goes_2 7 rfl rfl)
theorem dX6_goes_55 : decode cX6_goes 55 = .ok (.iload 5, 2) := dk_21 5 (dk_at dksX6_goes_2 8 rfl rfl)
theorem dX6_goes_57 : decode cX6_goes 57 = .ok (.invokevirtual 246, 3) := dk_182 0 246 (dk_at dksX6_goes_2 10 rfl rfl)
theorem dX6_goes_60 : decode cX6_goes 60 = .ok (.iadd, 1) := dk_96 (dk_at dksX6_goes_2 13 rfl rfl)
theorem dX6_goes_61 : decode cX6_goes 61 = .ok (.invokestatic 243, 3) := dk_184 0 243 (dk_at dksX6_goes_2 14 rfl rfl)
theorem dX6_goes_64 : decode cX6_goes 64 = .ok (.invokestatic 249, 3) := dk_184 0 249 (dk_at dksX6_goes_2 17 rfl rfl)
theorem dX6_goes_67 : decode cX6_goes 67 = .ok (.invokevirtual 114, 3) := dk_182 0 114 (dk_at dksX6_goes_2 20 rfl rfl)
theorem dX6_goes_70 : decode cX6_goes 70 = .ok (.iinc 5 1, 3) := dk_132 5 1 (dk_at dksX6_goes_3 0 rfl rfl)
theorem dX6_goes_73 : decode cX6_goes 73 = .ok (.goto (-53), 3) := dk_167 255 203 (dk_at dksX6_goes_3 3 rfl rfl)
theorem dX6_goes_76 : decode cX6_goes 76 = .ok (.iload_n 2, 1) := dk_28 (dk_at dksX6_goes_3 6 rfl rfl)
theorem dX6_goes_77 : decode cX6_goes 77 = .ok (.ifCond .eq 36, 3) := dk_153 0 36 (dk_at dksX6_goes_3 7 rfl rfl)
theorem dX6_goes_80 : decode cX6_goes 80 = .ok (.aload_n 0, 1) := dk_42 (dk_at dksX6_goes_3 10 rfl rfl)
theorem dX6_goes_81 : decode cX6_goes 81 = .ok (.aload_n 0, 1) := dk_42 (dk_at dksX6_goes_3 11 rfl rfl)
theorem dX6_goes_82 : decode cX6_goes 82 = .ok (.getfield 7, 3) := dk_180 0 7 (dk_at dksX6_goes_3 12 rfl rfl)
theorem dX6_goes_85 : decode cX6_goes 85 = .ok (.iconst 5, 1) := dk_8 (dk_at dksX6_goes_3 15 rfl rfl)
theorem dX6_goes_86 : decode cX6_goes 86 = .ok (.iaload, 1) := dk_46 (dk_at dksX6_goes_3 16 rfl rfl)
theorem dX6_goes_87 : decode cX6_goes 87 = .ok (.aload_n 0, 1) := dk_42 (dk_at dksX6_goes_3 17 rfl rfl)
theorem dX6_goes_88 : decode cX6_goes 88 = .ok (.getfield 7, 3) := dk_180 0 7 (dk_at dksX6_goes_3 18 rfl rfl)
theorem dX6_goes_91 : decode cX6_goes 91 = .ok (.bipush 10, 2) := dk_16 10 (dk_at dksX6_goes_3 21 rfl rfl)
theorem dX6_goes_93 : decode cX6_goes 93 = .ok (.iaload, 1) := dk_46 (dk_at dksX6_goes_3 23 rfl rfl)
theorem dX6_goes_94 : decode cX6_goes 94 = .ok (.invokevirtual 226, 3) := dk_182 0 226 (dk_at dksX6_goes_4 0 rfl rfl)
theorem dX6_goes_97 : decode cX6_goes 97 = .ok (.ifCond .eq 16, 3) := dk_153 0 16 (dk_at dksX6_goes_4 3 rfl rfl)
theorem dX6_goes_100 : decode cX6_goes 100 = .ok (.aload_n 0, 1) := dk_42 (dk_at dksX6_goes_4 6 rfl rfl)
theorem dX6_goes_101 : decode cX6_goes 101 = .ok (.aload_n 0, 1) := dk_42 (dk_at dksX6_goes_4 7 rfl rfl)
theorem dX6_goes_102 : decode cX6_goes 102 = .ok (.getfield 7, 3) := dk_180 0 7 (dk_at dksX6_goes_4 8 rfl rfl)
theorem dX6_goes_105 : decode cX6_goes 105 = .ok (.iconst 4, 1) := dk_7 (dk_at dksX6_goes_4 11 rfl rfl)
theorem dX6_goes_106 : decode cX6_goes 106 = .ok (.iaload, 1) := dk_46 (dk_at dksX6_goes_4 12 rfl rfl)
theorem dX6_goes_107 : decode cX6_goes 107 = .ok (.invokevirtual 252, 3) := dk_182 0 252 (dk_at dksX6_goes_4 13 rfl rfl)
theorem dX6_goes_110 : decode cX6_goes 110 = .ok (.goto 4, 3) := dk_167 0 4 (dk_at dksX6_goes_4 16 rfl rfl)
theorem dX6_goes_113 : decode cX6_goes 113 = .ok (.iconst 0, 1) := dk_3 (dk_at dksX6_goes_4 19 rfl rfl)
theorem dX6_goes_114 : decode cX6_goes 114 = .ok (.istore 5, 2) := dk_54 5 (dk_at dksX6_goes_4 20 rfl rfl)
theorem dX6_goes_116 : decode cX6_goes 116 = .ok (.iconst 0, 1) := dk_3 (dk_at dksX6_goes_4 22 rfl rfl)
theorem dX6_goes_117 : decode cX6_goes 117 = .ok (.istore 6, 2) := dk_54 6 (dk_at dksX6_goes_5 0 rfl rfl)
theorem dX6_goes_119 : decode cX6_goes 119 = .ok (.iload 6, 2) := dk_21 6 (dk_at dksX6_goes_5 2 rfl rfl)
theorem dX6_goes_121 : decode cX6_goes 121 = .ok (.aload_n 0, 1) := dk_42 (dk_at dksX6_goes_5 4 rfl rfl)
theorem dX6_goes_122 : decode cX6_goes 122 = .ok (.getfield 7, 3) := dk_180 0 7 (dk_at dksX6_goes_5 5 rfl rfl)
theorem dX6_goes_125 : decode cX6_goes 125 = .ok (.iconst 3, 1) := dk_6 (dk_at dksX6_goes_5 8 rfl rfl)
theorem dX6_goes_126 : decode cX6_goes 126 = .ok (.iaload, 1) := dk_46 (dk_at dksX6_goes_5 9 rfl rfl)
theorem dX6_goes_127 : decode cX6_goes 127 = .ok (.if_icmp .ge 40, 3) := dk_162 0 40 (dk_at dksX6_goes_5 10 rfl rfl)
theorem dX6_goes_130 : decode cX6_goes 130 = .ok (.iload 5, 2) := dk_21 5 (dk_at dksX6_goes_5 13 rfl rfl)
theorem dX6_goes_132 : decode cX6_goes 132 = .ok (.iload 6, 2) := dk_21 6 (dk_at dksX6_goes_5 15 rfl rfl)
theorem dX6_goes_134 : decode cX6_goes 134 = .ok (.invokestatic 53, 3) := dk_184 0 53 (dk_at dksX6_goes_5 17 rfl rfl)
theorem dX6_goes_137 : decode cX6_goes 137 = .ok (.ifCond .eq 24, 3) := dk_153 0 24 (dk_at dksX6_goes_5 20 rfl rfl)
theorem dX6_goes_140 : decode cX6_goes 140 = .ok (.aload_n 0, 1) := dk_42 (dk_at dksX6_goes_5 23 rfl rfl)
theorem dX6_goes_141 : decode cX6_goes 141 = .ok (.bipush 10, 2) := dk_16 10 (dk_at dksX6_goes_6 0 rfl rfl)
theorem dX6_goes_143 : decode cX6_goes 143 = .ok (.invokevirtual 255, 3) := dk_182 0 255 (dk_at dksX6_goes_6 2 rfl rfl)
theorem dX6_goes_146 : decode cX6_goes 146 = .ok (.aload_n 0, 1) := dk_42 (dk_at dksX6_goes_6 5 rfl rfl)
theorem dX6_goes_147 : decode cX6_goes 147 = .ok (.iload 6, 2) := dk_21 6 (dk_at dksX6_goes_6 6 rfl rfl)
theorem dX6_goes_149 : decode cX6_goes 149 = .ok (.invokevirtual 258, 3) := dk_182 1 2 (dk_at dksX6_goes_6 8 rfl rfl)
theorem dX6_goes_152 : decode cX6_goes 152 = .ok (.if_icmp .ge 9, 3) := dk_162 0 9 (dk_at dksX6_goes_6 11 rfl rfl)
theorem dX6_goes_155 : decode cX6_goes 155 = .ok (.aload_n 0, 1) := dk_42 (dk_at dksX6_goes_6 14 rfl rfl)
theorem dX6_goes_156 : decode cX6_goes 156 = .ok (.iload 6, 2) := dk_21 6 (dk_at dksX6_goes_6 15 rfl rfl)
theorem dX6_goes_158 : decode cX6_goes 158 = .ok (.invokevirtual 261, 3) := dk_182 1 5 (dk_at dksX6_goes_6 17 rfl rfl)
theorem dX6_goes_161 : decode cX6_goes 161 = .ok (.iinc 6 1, 3) := dk_132 6 1 (dk_at dksX6_goes_6 20 rfl rfl)
theorem dX6_goes_164 : decode cX6_goes 164 = .ok (.goto (-45), 3) := dk_167 255 211 (dk_at dksX6_goes_7 0 rfl rfl)
theorem dX6_goes_167 : decode cX6_goes 167 = .ok (.aload_n 0, 1) := dk_42 (dk_at dksX6_goes_7 3 rfl rfl)
theorem dX6_goes_168 : decode cX6_goes 168 = .ok (.invokevirtual 264, 3) := dk_182 1 8 (dk_at dksX6_goes_7 4 rfl rfl)
theorem dX6_goes_171 : decode cX6_goes 171 = .ok (.iload_n 2, 1) := dk_28 (dk_at dksX6_goes_7 7 rfl rfl)
theorem dX6_goes_172 : decode cX6_goes 172 = .ok (.ifCond .eq 49, 3) := dk_153 0 49 (dk_at dksX6_goes_7 8 rfl rfl)
theorem dX6_goes_175 : decode cX6_goes 175 = .ok (.aload_n 0, 1) := dk_42 (dk_at dksX6_goes_7 11 rfl rfl)
theorem dX6_goes_176 : decode cX6_goes 176 = .ok (.bipush 100, 2) := dk_16 100 (dk_at dksX6_goes_7 12 rfl rfl)
theorem dX6_goes_178 : decode cX6_goes 178 = .ok (.invokevirtual 255, 3) := dk_182 0 255 (dk_at dksX6_goes_7 14 rfl rfl)
theorem dX6_goes_181 : decode cX6_goes 181 = .ok (.aload_n 0, 1) := dk_42 (dk_at dksX6_goes_7 17 rfl rfl)
theorem dX6_goes_182 : decode cX6_goes 182 = .ok (.getfield 7, 3) := dk_180 0 7 (dk_at dksX6_goes_7 18 rfl rfl)
theorem dX6_goes_185 : decode cX6_goes 185 = .ok (.bipush 9, 2) := dk_16 9 (dk_at dksX6_goes_7 21 rfl rfl)
theorem dX6_goes_187 : decode cX6_goes 187 = .ok (.iaload, 1) := dk_46 (dk_at dksX6_goes_7 23 rfl rfl)
theorem dX6_goes_188 : decode cX6_goes 188 = .ok (.if_icmp .ge 33, 3) := dk_162 0 33 (dk_at dksX6_goes_8 0 rfl rfl)
theorem dX6_goes_191 : decode cX6_goes 191 = .ok (.aload_n 0, 1) := dk_42 (dk_at dksX6_goes_8 3 rfl rfl)
theorem dX6_goes_192 : decode cX6_goes 192 = .ok (.bipush 8, 2) := dk_16 8 (dk_at dksX6_goes_8 4 rfl rfl)
theorem dX6_goes_194 : decode cX6_goes 194 = .ok (.invokevirtual 255, 3) := dk_182 0 255 (dk_at dksX6_goes_8 6 rfl rfl)
theorem dX6_goes_197 : decode cX6_goes 197 = .ok (.istore 6, 2) := dk_54 6 (dk_at dksX6_goes_8 9 rfl rfl)
theorem dX6_goes_199 : decode cX6_goes 199 = .ok (.aload_n 0, 1) := dk_42 (dk_at dksX6_goes_8 11 rfl rfl)
theorem dX6_goes_200 : decode cX6_goes 200 = .ok (.getfield 7, 3) := dk_180 0 7 (dk_at dksX6_goes_8 12 rfl rfl)
theorem dX6_goes_203 : decode cX6_goes 203 = .ok (.bipush 16, 2) := dk_16 16 (dk_at dksX6_goes_8 15 rfl rfl)
theorem dX6_goes_205 : decode cX6_goes 205 = .ok (.iload 6, 2) := dk_21 6 (dk_at dksX6_goes_8 17 rfl rfl)
theorem dX6_goes_207 : decode cX6_goes 207 = .ok (.iadd, 1) := dk_96 (dk_at dksX6_goes_8 19 rfl rfl)
theorem dX6_goes_208 : decode cX6_goes 208 = .ok (.dup2, 1) := dk_92 (dk_at dksX6_goes_8 20 rfl rfl)
theorem dX6_goes_209 : decode cX6_goes 209 = .ok (.iaload, 1) := dk_46 (dk_at dksX6_goes_8 21 rfl rfl)
theorem dX6_goes_210 : decode cX6_goes 210 = .ok (.iconst 1, 1) := dk_4 (dk_at dksX6_goes_8 22 rfl rfl)
theorem dX6_goes_211 : decode cX6_goes 211 = .ok (.iload 6, 2) := dk_21 6 (dk_at dksX6_goes_9 0 rfl rfl)
theorem dX6_goes_213 : decode cX6_goes 213 = .ok (.iconst 1, 1) := dk_4 (dk_at dksX6_goes_9 2 rfl rfl)
theorem dX6_goes_214 : decode cX6_goes 214 = .ok (.iadd, 1) := dk_96 (dk_at dksX6_goes_9 3 rfl rfl)
theorem dX6_goes_215 : decode cX6_goes 215 = .ok (.bipush 8, 2) := dk_16 8 (dk_at dksX6_goes_9 4 rfl rfl)
theorem dX6_goes_217 : decode cX6_goes 217 = .ok (.irem, 1) := dk_112 (dk_at dksX6_goes_9 6 rfl rfl)
theorem dX6_goes_218 : decode cX6_goes 218 = .ok (.ishl, 1) := dk_120 (dk_at dksX6_goes_9 7 rfl rfl)
theorem dX6_goes_219 : decode cX6_goes 219 = .ok (.ior, 1) := dk_128 (dk_at dksX6_goes_9 8 rfl rfl)
theorem dX6_goes_220 : decode cX6_goes 220 = .ok (.iastore, 1) := dk_79 (dk_at dksX6_goes_9 9 rfl rfl)
theorem dX6_goes_221 : decode cX6_goes 221 = .ok (.aload_n 0, 1) := dk_42 (dk_at dksX6_goes_9 10 rfl rfl)
theorem dX6_goes_222 : decode cX6_goes 222 = .ok (.getfield 7, 3) := dk_180 0 7 (dk_at dksX6_goes_9 11 rfl rfl)
theorem dX6_goes_225 : decode cX6_goes 225 = .ok (.bipush 10, 2) := dk_16 10 (dk_at dksX6_goes_9 14 rfl rfl)
theorem dX6_goes_227 : decode cX6_goes 227 = .ok (.sipush 9999, 3) := dk_17 39 15 (dk_at dksX6_goes_9 16 rfl rfl)
theorem dX6_goes_230 : decode cX6_goes 230 = .ok (.aload_n 0, 1) := dk_42 (dk_at dksX6_goes_9 19 rfl rfl)
theorem dX6_goes_231 : decode cX6_goes 231 = .ok (.getfield 7, 3) := dk_180 0 7 (dk_at dksX6_goes_9 20 rfl rfl)
theorem dX6_goes_234 : decode cX6_goes 234 = .ok (.bipush 10, 2) := dk_16 10 (dk_at dksX6_goes_10 0 rfl rfl)
theorem dX6_goes_236 : decode cX6_goes 236 = .ok (.iaload, 1) := dk_46 (dk_at dksX6_goes_10 2 rfl rfl)
theorem dX6_goes_237 : decode cX6_goes 237 = .ok (.iconst 1, 1) := dk_4 (dk_at dksX6_goes_10 3 rfl rfl)
theorem dX6_goes_238 : decode cX6_goes 238 = .ok (.iadd, 1) := dk_96 (dk_at dksX6_goes_10 4 rfl rfl)
theorem dX6_goes_239 : decode cX6_goes 239 = .ok (.invokestatic 243, 3) := dk_184 0 243 (dk_at dksX6_goes_10 5 rfl rfl)
theorem dX6_goes_242 : decode cX6_goes 242 = .ok (.iastore, 1) := dk_79 (dk_at dksX6_goes_10 8 rfl rfl)
theorem dX6_goes_243 : decode cX6_goes 243 = .ok (.iinc 4 1, 3) := dk_132 4 1 (dk_at dksX6_goes_10 9 rfl rfl)
theorem dX6_goes_246 : decode cX6_goes 246 = .ok (.goto (-235), 3) := dk_167 255 21 (dk_at dksX6_goes_10 12 rfl rfl)
theorem dX6_goes_249 : decode cX6_goes 249 = .ok (.aload_n 0, 1) := dk_42 (dk_at dksX6_goes_10 15 rfl rfl)
theorem dX6_goes_250 : decode cX6_goes 250 = .ok (.getfield 7, 3) := dk_180 0 7 (dk_at dksX6_goes_10 16 rfl rfl)
theorem dX6_goes_253 : decode cX6_goes 253 = .ok (.bipush 11, 2) := dk_16 11 (dk_at dksX6_goes_10 19 rfl rfl)
theorem dX6_goes_255 : decode cX6_goes 255 = .ok (.iaload, 1) := dk_46 (dk_at dksX6_goes_10 21 rfl rfl)
theorem dX6_goes_256 : decode cX6_goes 256 = .ok (.iload_n 3, 1) := dk_29 (dk_at dksX6_goes_10 22 rfl rfl)
theorem dX6_goes_257 : decode cX6_goes 257 = .ok (.isub, 1) := dk_100 (dk_at dksX6_goes_10 23 rfl rfl)
theorem dX6_goes_258 : decode cX6_goes 258 = .ok (.ireturn, 1) := dk_172 (dk_at dksX6_goes_11 0 rfl rfl)
abbrev cX6_greater : ByteArray := prog_18_method_5_code
def yX6_greater : MethodName := ⟨RX6, "greater", "(II)I"⟩
def dkwX6_greater_0 : List UInt8 := [26, 27, 164, 0, 7, 26, 167, 0, 4, 27, 172]
abbrev dktX6_greater_0 : List UInt8 := dkwX6_greater_0 ++ []
theorem dksX6_greater_0 : cX6_greater.data.toList.drop 0 = dktX6_greater_0 := by decide +kernel
theorem dX6_greater_0 : decode cX6_greater 0 = .ok (.iload_n 0, 1) := dk_26 (dk_at dksX6_greater_0 0 rfl rfl)
theorem dX6_greater_1 : decode cX6_greater 1 = .ok (.iload_n 1, 1) := dk_27 (dk_at dksX6_greater_0 1 rfl rfl)
theorem dX6_greater_2 : decode cX6_greater 2 = .ok (.if_icmp .le 7, 3) := dk_164 0 7 (dk_at dksX6_greater_0 2 rfl rfl)
theorem dX6_greater_5 : decode cX6_greater 5 = .ok (.iload_n 0, 1) := dk_26 (dk_at dksX6_greater_0 5 rfl rfl)
theorem dX6_greater_6 : decode cX6_greater 6 = .ok (.goto 4, 3) := dk_167 0 4 (dk_at dksX6_greater_0 6 rfl rfl)
theorem dX6_greater_9 : decode cX6_greater 9 = .ok (.iload_n 1, 1) := dk_27 (dk_at dksX6_greater_0 9 rfl rfl)
theorem dX6_greater_10 : decode cX6_greater 10 = .ok (.ireturn, 1) := dk_172 (dk_at dksX6_greater_0 10 rfl rfl)
abbrev cX6_draw : ByteArray := prog_18_method_49_code
def yX6_draw : MethodName := ⟨RX6, "draw", "(I)I"⟩
def dkwX6_draw_1 : List UInt8 := [180, 0, 7, 16, 15, 46, 16, 16, 124, 17, 127, 255, 126, 27, 112, 172]
abbrev dktX6_draw_1 : List UInt8 := dkwX6_draw_1 ++ []
def dkwX6_draw_0 : List UInt8 := [42, 180, 0, 7, 16, 15, 18, 242, 42, 180, 0, 7, 16, 15, 46, 104, 17, 48, 57, 96, 79, 42]
abbrev dktX6_draw_0 : List UInt8 := dkwX6_draw_0 ++ dktX6_draw_1
theorem dksX6_draw_0 : cX6_draw.data.toList.drop 0 = dktX6_draw_0 := by decide +kernel
theorem dksX6_draw_1 : cX6_draw.data.toList.drop 22 = dktX6_draw_1 := dk_seg dksX6_draw_0 22 rfl rfl
theorem dX6_draw_0 : decode cX6_draw 0 = .ok (.aload_n 0, 1) := dk_42 (dk_at dksX6_draw_0 0 rfl rfl)
theorem dX6_draw_1 : decode cX6_draw 1 = .ok (.getfield 7, 3) := dk_180 0 7 (dk_at dksX6_draw_0 1 rfl rfl)
theorem dX6_draw_4 : decode cX6_draw 4 = .ok (.bipush 15, 2) := dk_16 15 (dk_at dksX6_draw_0 4 rfl rfl)
theorem dX6_draw_6 : decode cX6_draw 6 = .ok (.ldc 242, 2) := dk_18 242 (dk_at dksX6_draw_0 6 rfl rfl)
theorem dX6_draw_8 : decode cX6_draw 8 = .ok (.aload_n 0, 1) := dk_42 (dk_at dksX6_draw_0 8 rfl rfl)
theorem dX6_draw_9 : decode cX6_draw 9 = .ok (.getfield 7, 3) := dk_180 0 7 (dk_at dksX6_draw_0 9 rfl rfl)
theorem dX6_draw_12 : decode cX6_draw 12 = .ok (.bipush 15, 2) := dk_16 15 (dk_at dksX6_draw_0 12 rfl rfl)
theorem dX6_draw_14 : decode cX6_draw 14 = .ok (.iaload, 1) := dk_46 (dk_at dksX6_draw_0 14 rfl rfl)
theorem dX6_draw_15 : decode cX6_draw 15 = .ok (.imul, 1) := dk_104 (dk_at dksX6_draw_0 15 rfl rfl)
theorem dX6_draw_16 : decode cX6_draw 16 = .ok (.sipush 12345, 3) := dk_17 48 57 (dk_at dksX6_draw_0 16 rfl rfl)
theorem dX6_draw_19 : decode cX6_draw 19 = .ok (.iadd, 1) := dk_96 (dk_at dksX6_draw_0 19 rfl rfl)
theorem dX6_draw_20 : decode cX6_draw 20 = .ok (.iastore, 1) := dk_79 (dk_at dksX6_draw_0 20 rfl rfl)
theorem dX6_draw_21 : decode cX6_draw 21 = .ok (.aload_n 0, 1) := dk_42 (dk_at dksX6_draw_0 21 rfl rfl)
theorem dX6_draw_22 : decode cX6_draw 22 = .ok (.getfield 7, 3) := dk_180 0 7 (dk_at dksX6_draw_1 0 rfl rfl)
theorem dX6_draw_25 : decode cX6_draw 25 = .ok (.bipush 15, 2) := dk_16 15 (dk_at dksX6_draw_1 3 rfl rfl)
theorem dX6_draw_27 : decode cX6_draw 27 = .ok (.iaload, 1) := dk_46 (dk_at dksX6_draw_1 5 rfl rfl)
theorem dX6_draw_28 : decode cX6_draw 28 = .ok (.bipush 16, 2) := dk_16 16 (dk_at dksX6_draw_1 6 rfl rfl)
theorem dX6_draw_30 : decode cX6_draw 30 = .ok (.iushr, 1) := dk_124 (dk_at dksX6_draw_1 8 rfl rfl)
theorem dX6_draw_31 : decode cX6_draw 31 = .ok (.sipush 32767, 3) := dk_17 127 255 (dk_at dksX6_draw_1 9 rfl rfl)
theorem dX6_draw_34 : decode cX6_draw 34 = .ok (.iand, 1) := dk_126 (dk_at dksX6_draw_1 12 rfl rfl)
theorem dX6_draw_35 : decode cX6_draw 35 = .ok (.iload_n 1, 1) := dk_27 (dk_at dksX6_draw_1 13 rfl rfl)
theorem dX6_draw_36 : decode cX6_draw 36 = .ok (.irem, 1) := dk_112 (dk_at dksX6_draw_1 14 rfl rfl)
theorem dX6_draw_37 : decode cX6_draw 37 = .ok (.ireturn, 1) := dk_172 (dk_at dksX6_draw_1 15 rfl rfl)
abbrev cX6_looks : ByteArray := prog_18_method_50_code
def yX6_looks : MethodName := ⟨RX6, "looks", "(I)V"⟩
def dkwX6_looks_5 : List UInt8 := [16, 99, 182, 0, 114, 177]
abbrev dktX6_looks_5 : List UInt8 := dkwX6_looks_5 ++ []
def dkwX6_looks_4 : List UInt8 := [16, 14, 46, 4, 96, 184, 0, 243, 79, 42, 180, 0, 7, 16, 11, 92, 46, 4, 96, 79, 42, 27, 5]
abbrev dktX6_looks_4 : List UInt8 := dkwX6_looks_4 ++ dktX6_looks_5
def dkwX6_looks_3 : List UInt8 := [180, 0, 7, 16, 67, 42, 180, 0, 7, 7, 46, 79, 42, 180, 0, 7, 16, 14, 16, 60, 42, 180, 0, 7]
abbrev dktX6_looks_3 : List UInt8 := dkwX6_looks_3 ++ dktX6_looks_4
def dkwX6_looks_2 : List UInt8 := [79, 42, 180, 0, 7, 16, 65, 27, 79, 42, 180, 0, 7, 16, 66, 42, 27, 3, 182, 0, 49, 79, 42]
abbrev dktX6_looks_2 : List UInt8 := dkwX6_looks_2 ++ dktX6_looks_3
def dkwX6_looks_1 : List UInt8 := [96, 7, 100, 46, 79, 132, 2, 255, 167, 255, 228, 42, 180, 0, 7, 16, 64, 42, 180, 0, 7, 16, 10, 46]
abbrev dktX6_looks_1 : List UInt8 := dkwX6_looks_1 ++ dktX6_looks_2
def dkwX6_looks_0 : List UInt8 := [17, 0, 239, 61, 28, 7, 161, 0, 29, 42, 180, 0, 7, 16, 64, 28, 96, 42, 180, 0, 7, 16, 64, 28]
abbrev dktX6_looks_0 : List UInt8 := dkwX6_looks_0 ++ dktX6_looks_1
theorem dksX6_looks_0 : cX6_looks.data.toList.drop 0 = dktX6_looks_0 := by decide +kernel
theorem dksX6_looks_1 : cX6_looks.data.toList.drop 24 = dktX6_looks_1 := dk_seg dksX6_looks_0 24 rfl rfl
theorem dksX6_looks_2 : cX6_looks.data.toList.drop 48 = dktX6_looks_2 := dk_seg dksX6_looks_1 24 rfl rfl
theorem dksX6_looks_3 : cX6_looks.data.toList.drop 71 = dktX6_looks_3 := dk_seg dksX6_looks_2 23 rfl rfl
theorem dksX6_looks_4 : cX6_looks.data.toList.drop 95 = dktX6_looks_4 := dk_seg dksX6_looks_3 24 rfl rfl
theorem dksX6_looks_5 : cX6_looks.data.toList.drop 118 = dktX6_looks_5 := dk_seg dksX6_looks_4 23 rfl rfl
theorem dX6_looks_0 : decode cX6_looks 0 = .ok (.sipush 239, 3) := dk_17 0 239 (dk_at dksX6_looks_0 0 rfl rfl)
theorem dX6_looks_3 : decode cX6_looks 3 = .ok (.istore_n 2, 1) := dk_61 (dk_at dksX6_looks_0 3 rfl rfl)
theorem dX6_looks_4 : decode cX6_looks 4 = .ok (.iload_n 2, 1) := dk_28 (dk_at dksX6_looks_0 4 rfl rfl)
theorem dX6_looks_5 : decode cX6_looks 5 = .ok (.iconst 4, 1) := dk_7 (dk_at dksX6_looks_0 5 rfl rfl)
theorem dX6_looks_6 : decode cX6_looks 6 = .ok (.if_icmp .lt 29, 3) := dk_161 0 29 (dk_at dksX6_looks_0 6 rfl rfl)
theorem dX6_looks_9 : decode cX6_looks 9 = .ok (.aload_n 0, 1) := dk_42 (dk_at dksX6_looks_0 9 rfl rfl)
theorem dX6_looks_10 : decode cX6_looks 10 = .ok (.getfield 7, 3) := dk_180 0 7 (dk_at dksX6_looks_0 10 rfl rfl)
theorem dX6_looks_13 : decode cX6_looks 13 = .ok (.bipush 64, 2) := dk_16 64 (dk_at dksX6_looks_0 13 rfl rfl)
theorem dX6_looks_15 : decode cX6_looks 15 = .ok (.iload_n 2, 1) := dk_28 (dk_at dksX6_looks_0 15 rfl rfl)
theorem dX6_looks_16 : decode cX6_looks 16 = .ok (.iadd, 1) := dk_96 (dk_at dksX6_looks_0 16 rfl rfl)
theorem dX6_looks_17 : decode cX6_looks 17 = .ok (.aload_n 0, 1) := dk_42 (dk_at dksX6_looks_0 17 rfl rfl)
theorem dX6_looks_18 : decode cX6_looks 18 = .ok (.getfield 7, 3) := dk_180 0 7 (dk_at dksX6_looks_0 18 rfl rfl)
theorem dX6_looks_21 : decode cX6_looks 21 = .ok (.bipush 64, 2) := dk_16 64 (dk_at dksX6_looks_0 21 rfl rfl)
theorem dX6_looks_23 : decode cX6_looks 23 = .ok (.iload_n 2, 1) := dk_28 (dk_at dksX6_looks_0 23 rfl rfl)
theorem dX6_looks_24 : decode cX6_looks 24 = .ok (.iadd, 1) := dk_96 (dk_at dksX6_looks_1 0 rfl rfl)
theorem dX6_looks_25 : decode cX6_looks 25 = .ok (.iconst 4, 1) := dk_7 (dk_at dksX6_looks_1 1 rfl rfl)
theorem dX6_looks_26 : decode cX6_looks 26 = .ok (.isub, 1) := dk_100 (dk_at dksX6_looks_1 2 rfl rfl)
theorem dX6_looks_27 : decode cX6_looks 27 = .ok (.iaload, 1) := dk_46 (dk_at dksX6_looks_1 3 rfl rfl)
theorem dX6_looks_28 : decode cX6_looks 28 = .ok (.iastore, 1) := dk_79 (dk_at dksX6_looks_1 4 rfl rfl)
theorem dX6_looks_29 : decode cX6_looks 29 = .ok (.iinc 2 (-1), 3) := dk_132 2 255 (dk_at dksX6_looks_1 5 rfl rfl)
theorem dX6_looks_32 : decode cX6_looks 32 = .ok (.goto (-28), 3) := dk_167 255 228 (dk_at dksX6_looks_1 8 rfl rfl)
theorem dX6_looks_35 : decode cX6_looks 35 = .ok (.aload_n 0, 1) := dk_42 (dk_at dksX6_looks_1 11 rfl rfl)
theorem dX6_looks_36 : decode cX6_looks 36 = .ok (.getfield 7, 3) := dk_180 0 7 (dk_at dksX6_looks_1 12 rfl rfl)
theorem dX6_looks_39 : decode cX6_looks 39 = .ok (.bipush 64, 2) := dk_16 64 (dk_at dksX6_looks_1 15 rfl rfl)
theorem dX6_looks_41 : decode cX6_looks 41 = .ok (.aload_n 0, 1) := dk_42 (dk_at dksX6_looks_1 17 rfl rfl)
theorem dX6_looks_42 : decode cX6_looks 42 = .ok (.getfield 7, 3) := dk_180 0 7 (dk_at dksX6_looks_1 18 rfl rfl)
theorem dX6_looks_45 : decode cX6_looks 45 = .ok (.bipush 10, 2) := dk_16 10 (dk_at dksX6_looks_1 21 rfl rfl)
theorem dX6_looks_47 : decode cX6_looks 47 = .ok (.iaload, 1) := dk_46 (dk_at dksX6_looks_1 23 rfl rfl)
theorem dX6_looks_48 : decode cX6_looks 48 = .ok (.iastore, 1) := dk_79 (dk_at dksX6_looks_2 0 rfl rfl)
theorem dX6_looks_49 : decode cX6_looks 49 = .ok (.aload_n 0, 1) := dk_42 (dk_at dksX6_looks_2 1 rfl rfl)
theorem dX6_looks_50 : decode cX6_looks 50 = .ok (.getfield 7, 3) := dk_180 0 7 (dk_at dksX6_looks_2 2 rfl rfl)
theorem dX6_looks_53 : decode cX6_looks 53 = .ok (.bipush 65, 2) := dk_16 65 (dk_at dksX6_looks_2 5 rfl rfl)
theorem dX6_looks_55 : decode cX6_looks 55 = .ok (.iload_n 1, 1) := dk_27 (dk_at dksX6_looks_2 7 rfl rfl)
theorem dX6_looks_56 : decode cX6_looks 56 = .ok (.iastore, 1) := dk_79 (dk_at dksX6_looks_2 8 rfl rfl)
theorem dX6_looks_57 : decode cX6_looks 57 = .ok (.aload_n 0, 1) := dk_42 (dk_at dksX6_looks_2 9 rfl rfl)
theorem dX6_looks_58 : decode cX6_looks 58 = .ok (.getfield 7, 3) := dk_180 0 7 (dk_at dksX6_looks_2 10 rfl rfl)
theorem dX6_looks_61 : decode cX6_looks 61 = .ok (.bipush 66, 2) := dk_16 66 (dk_at dksX6_looks_2 13 rfl rfl)
theorem dX6_looks_63 : decode cX6_looks 63 = .ok (.aload_n 0, 1) := dk_42 (dk_at dksX6_looks_2 15 rfl rfl)
theorem dX6_looks_64 : decode cX6_looks 64 = .ok (.iload_n 1, 1) := dk_27 (dk_at dksX6_looks_2 16 rfl rfl)
theorem dX6_looks_65 : decode cX6_looks 65 = .ok (.iconst 0, 1) := dk_3 (dk_at dksX6_looks_2 17 rfl rfl)
theorem dX6_looks_66 : decode cX6_looks 66 = .ok (.invokevirtual 49, 3) := dk_182 0 49 (dk_at dksX6_looks_2 18 rfl rfl)
theorem dX6_looks_69 : decode cX6_looks 69 = .ok (.iastore, 1) := dk_79 (dk_at dksX6_looks_2 21 rfl rfl)
theorem dX6_looks_70 : decode cX6_looks 70 = .ok (.aload_n 0, 1) := dk_42 (dk_at dksX6_looks_2 22 rfl rfl)
theorem dX6_looks_71 : decode cX6_looks 71 = .ok (.getfield 7, 3) := dk_180 0 7 (dk_at dksX6_looks_3 0 rfl rfl)
theorem dX6_looks_74 : decode cX6_looks 74 = .ok (.bipush 67, 2) := dk_16 67 (dk_at dksX6_looks_3 3 rfl rfl)
theorem dX6_looks_76 : decode cX6_looks 76 = .ok (.aload_n 0, 1) := dk_42 (dk_at dksX6_looks_3 5 rfl rfl)
theorem dX6_looks_77 : decode cX6_looks 77 = .ok (.getfield 7, 3) := dk_180 0 7 (dk_at dksX6_looks_3 6 rfl rfl)
theorem dX6_looks_80 : decode cX6_looks 80 = .ok (.iconst 4, 1) := dk_7 (dk_at dksX6_looks_3 9 rfl rfl)
theorem dX6_looks_81 : decode cX6_looks 81 = .ok (.iaload, 1) := dk_46 (dk_at dksX6_looks_3 10 rfl rfl)
theorem dX6_looks_82 : decode cX6_looks 82 = .ok (.iastore, 1) := dk_79 (dk_at dksX6_looks_3 11 rfl rfl)
theorem dX6_looks_83 : decode cX6_looks 83 = .ok (.aload_n 0, 1) := dk_42 (dk_at dksX6_looks_3 12 rfl rfl)
theorem dX6_looks_84 : decode cX6_looks 84 = .ok (.getfield 7, 3) := dk_180 0 7 (dk_at dksX6_looks_3 13 rfl rfl)
theorem dX6_looks_87 : decode cX6_looks 87 = .ok (.bipush 14, 2) := dk_16 14 (dk_at dksX6_looks_3 16 rfl rfl)
theorem dX6_looks_89 : decode cX6_looks 89 = .ok (.bipush 60, 2) := dk_16 60 (dk_at dksX6_looks_3 18 rfl rfl)
theorem dX6_looks_91 : decode cX6_looks 91 = .ok (.aload_n 0, 1) := dk_42 (dk_at dksX6_looks_3 20 rfl rfl)
theorem dX6_looks_92 : decode cX6_looks 92 = .ok (.getfield 7, 3) := dk_180 0 7 (dk_at dksX6_looks_3 21 rfl rfl)
theorem dX6_looks_95 : decode cX6_looks 95 = .ok (.bipush 14, 2) := dk_16 14 (dk_at dksX6_looks_4 0 rfl rfl)
theorem dX6_looks_97 : decode cX6_looks 97 = .ok (.iaload, 1) := dk_46 (dk_at dksX6_looks_4 2 rfl rfl)
theorem dX6_looks_98 : decode cX6_looks 98 = .ok (.iconst 1, 1) := dk_4 (dk_at dksX6_looks_4 3 rfl rfl)
theorem dX6_looks_99 : decode cX6_looks 99 = .ok (.iadd, 1) := dk_96 (dk_at dksX6_looks_4 4 rfl rfl)
theorem dX6_looks_100 : decode cX6_looks 100 = .ok (.invokestatic 243, 3) := dk_184 0 243 (dk_at dksX6_looks_4 5 rfl rfl)
theorem dX6_looks_103 : decode cX6_looks 103 = .ok (.iastore, 1) := dk_79 (dk_at dksX6_looks_4 8 rfl rfl)
theorem dX6_looks_104 : decode cX6_looks 104 = .ok (.aload_n 0, 1) := dk_42 (dk_at dksX6_looks_4 9 rfl rfl)
theorem dX6_looks_105 : decode cX6_looks 105 = .ok (.getfield 7, 3) := dk_180 0 7 (dk_at dksX6_looks_4 10 rfl rfl)
theorem dX6_looks_108 : decode cX6_looks 108 = .ok (.bipush 11, 2) := dk_16 11 (dk_at dksX6_looks_4 13 rfl rfl)
theorem dX6_looks_110 : decode cX6_looks 110 = .ok (.dup2, 1) := dk_92 (dk_at dksX6_looks_4 15 rfl rfl)
theorem dX6_looks_111 : decode cX6_looks 111 = .ok (.iaload, 1) := dk_46 (dk_at dksX6_looks_4 16 rfl rfl)
theorem dX6_looks_112 : decode cX6_looks 112 = .ok (.iconst 1, 1) := dk_4 (dk_at dksX6_looks_4 17 rfl rfl)
theorem dX6_looks_113 : decode cX6_looks 113 = .ok (.iadd, 1) := dk_96 (dk_at dksX6_looks_4 18 rfl rfl)
theorem dX6_looks_114 : decode cX6_looks 114 = .ok (.iastore, 1) := dk_79 (dk_at dksX6_looks_4 19 rfl rfl)
theorem dX6_looks_115 : decode cX6_looks 115 = .ok (.aload_n 0, 1) := dk_42 (dk_at dksX6_looks_4 20 rfl rfl)
theorem dX6_looks_116 : decode cX6_looks 116 = .ok (.iload_n 1, 1) := dk_27 (dk_at dksX6_looks_4 21 rfl rfl)
theorem dX6_looks_117 : decode cX6_looks 117 = .ok (.iconst 2, 1) := dk_5 (dk_at dksX6_looks_4 22 rfl rfl)
theorem dX6_looks_118 : decode cX6_looks 118 = .ok (.bipush 99, 2) := dk_16 99 (dk_at dksX6_looks_5 0 rfl rfl)
theorem dX6_looks_120 : decode cX6_looks 120 = .ok (.invokevirtual 114, 3) := dk_182 0 114 (dk_at dksX6_looks_5 2 rfl rfl)
theorem dX6_looks_123 : decode cX6_looks 123 = .ok (.return_, 1) := dk_177 (dk_at dksX6_looks_5 5 rfl rfl)
abbrev cX6_builds : ByteArray := prog_18_method_51_code
def yX6_builds : MethodName := ⟨RX6, "builds", "()V"⟩
def dkwX6_builds_2 : List UInt8 := [27, 100, 79, 177]
abbrev dktX6_builds_2 : List UInt8 := dkwX6_builds_2 ++ []
def dkwX6_builds_1 : List UInt8 := [17, 39, 15, 42, 180, 0, 7, 16, 8, 46, 27, 96, 184, 0, 243, 79, 42, 180, 0, 7, 16, 7, 92, 46]
abbrev dktX6_builds_1 : List UInt8 := dkwX6_builds_1 ++ dktX6_builds_2
def dkwX6_builds_0 : List UInt8 := [42, 180, 0, 7, 16, 6, 46, 42, 180, 0, 7, 16, 7, 46, 184, 0, 243, 60, 42, 180, 0, 7, 16, 8]
abbrev dktX6_builds_0 : List UInt8 := dkwX6_builds_0 ++ dktX6_builds_1
theorem dksX6_builds_0 : cX6_builds.data.toList.drop 0 = dktX6_builds_0 := by decide +kernel
theorem dksX6_builds_1 : cX6_builds.data.toList.drop 24 = dktX6_builds_1 := dk_seg dksX6_builds_0 24 rfl rfl
theorem dksX6_builds_2 : cX6_builds.data.toList.drop 48 = dktX6_builds_2 := dk_seg dksX6_builds_1 24 rfl rfl
theorem dX6_builds_0 : decode cX6_builds 0 = .ok (.aload_n 0, 1) := dk_42 (dk_at dksX6_builds_0 0 rfl rfl)
theorem dX6_builds_1 : decode cX6_builds 1 = .ok (.getfield 7, 3) := dk_180 0 7 (dk_at dksX6_builds_0 1 rfl rfl)
theorem dX6_builds_4 : decode cX6_builds 4 = .ok (.bipush 6, 2) := dk_16 6 (dk_at dksX6_builds_0 4 rfl rfl)
theorem dX6_builds_6 : decode cX6_builds 6 = .ok (.iaload, 1) := dk_46 (dk_at dksX6_builds_0 6 rfl rfl)
theorem dX6_builds_7 : decode cX6_builds 7 = .ok (.aload_n 0, 1) := dk_42 (dk_at dksX6_builds_0 7 rfl rfl)
theorem dX6_builds_8 : decode cX6_builds 8 = .ok (.getfield 7, 3) := dk_180 0 7 (dk_at dksX6_builds_0 8 rfl rfl)
theorem dX6_builds_11 : decode cX6_builds 11 = .ok (.bipush 7, 2) := dk_16 7 (dk_at dksX6_builds_0 11 rfl rfl)
theorem dX6_builds_13 : decode cX6_builds 13 = .ok (.iaload, 1) := dk_46 (dk_at dksX6_builds_0 13 rfl rfl)
theorem dX6_builds_14 : decode cX6_builds 14 = .ok (.invokestatic 243, 3) := dk_184 0 243 (dk_at dksX6_builds_0 14 rfl rfl)
theorem dX6_builds_17 : decode cX6_builds 17 = .ok (.istore_n 1, 1) := dk_60 (dk_at dksX6_builds_0 17 rfl rfl)
theorem dX6_builds_18 : decode cX6_builds 18 = .ok (.aload_n 0, 1) := dk_42 (dk_at dksX6_builds_0 18 rfl rfl)
theorem dX6_builds_19 : decode cX6_builds 19 = .ok (.getfield 7, 3) := dk_180 0 7 (dk_at dksX6_builds_0 19 rfl rfl)
theorem dX6_builds_22 : decode cX6_builds 22 = .ok (.bipush 8, 2) := dk_16 8 (dk_at dksX6_builds_0 22 rfl rfl)
theorem dX6_builds_24 : decode cX6_builds 24 = .ok (.sipush 9999, 3) := dk_17 39 15 (dk_at dksX6_builds_1 0 rfl rfl)
theorem dX6_builds_27 : decode cX6_builds 27 = .ok (.aload_n 0, 1) := dk_42 (dk_at dksX6_builds_1 3 rfl rfl)
theorem dX6_builds_28 : decode cX6_builds 28 = .ok (.getfield 7, 3) := dk_180 0 7 (dk_at dksX6_builds_1 4 rfl rfl)
theorem dX6_builds_31 : decode cX6_builds 31 = .ok (.bipush 8, 2) := dk_16 8 (dk_at dksX6_builds_1 7 rfl rfl)
theorem dX6_builds_33 : decode cX6_builds 33 = .ok (.iaload, 1) := dk_46 (dk_at dksX6_builds_1 9 rfl rfl)
theorem dX6_builds_34 : decode cX6_builds 34 = .ok (.iload_n 1, 1) := dk_27 (dk_at dksX6_builds_1 10 rfl rfl)
theorem dX6_builds_35 : decode cX6_builds 35 = .ok (.iadd, 1) := dk_96 (dk_at dksX6_builds_1 11 rfl rfl)
theorem dX6_builds_36 : decode cX6_builds 36 = .ok (.invokestatic 243, 3) := dk_184 0 243 (dk_at dksX6_builds_1 12 rfl rfl)
theorem dX6_builds_39 : decode cX6_builds 39 = .ok (.iastore, 1) := dk_79 (dk_at dksX6_builds_1 15 rfl rfl)
theorem dX6_builds_40 : decode cX6_builds 40 = .ok (.aload_n 0, 1) := dk_42 (dk_at dksX6_builds_1 16 rfl rfl)
theorem dX6_builds_41 : decode cX6_builds 41 = .ok (.getfield 7, 3) := dk_180 0 7 (dk_at dksX6_builds_1 17 rfl rfl)
theorem dX6_builds_44 : decode cX6_builds 44 = .ok (.bipush 7, 2) := dk_16 7 (dk_at dksX6_builds_1 20 rfl rfl)
theorem dX6_builds_46 : decode cX6_builds 46 = .ok (.dup2, 1) := dk_92 (dk_at dksX6_builds_1 22 rfl rfl)
theorem dX6_builds_47 : decode cX6_builds 47 = .ok (.iaload, 1) := dk_46 (dk_at dksX6_builds_1 23 rfl rfl)
theorem dX6_builds_48 : decode cX6_builds 48 = .ok (.iload_n 1, 1) := dk_27 (dk_at dksX6_builds_2 0 rfl rfl)
theorem dX6_builds_49 : decode cX6_builds 49 = .ok (.isub, 1) := dk_100 (dk_at dksX6_builds_2 1 rfl rfl)
theorem dX6_builds_50 : decode cX6_builds 50 = .ok (.iastore, 1) := dk_79 (dk_at dksX6_builds_2 2 rfl rfl)
theorem dX6_builds_51 : decode cX6_builds 51 = .ok (.return_, 1) := dk_177 (dk_at dksX6_builds_2 3 rfl rfl)
abbrev cX6_ahead : ByteArray := prog_18_method_72_code
def yX6_ahead : MethodName := ⟨RX6, "ahead", "(III)I"⟩
def dkwX6_ahead_4 : List UInt8 := [42, 180, 0, 7, 16, 7, 46, 54, 5, 42, 182, 0, 169, 21, 5, 172]
abbrev dktX6_ahead_4 : List UInt8 := dkwX6_ahead_4 ++ []
def dkwX6_ahead_3 : List UInt8 := [42, 27, 5, 182, 0, 49, 167, 0, 25, 29, 4, 160, 0, 13, 42, 180, 0, 7, 16, 8, 46, 167, 0, 10]
abbrev dktX6_ahead_3 : List UInt8 := dkwX6_ahead_3 ++ dktX6_ahead_4
def dkwX6_ahead_2 : List UInt8 := [180, 0, 42, 158, 0, 5, 3, 172, 42, 182, 0, 159, 42, 28, 3, 182, 1, 32, 54, 4, 29, 154, 0, 12]
abbrev dktX6_ahead_2 : List UInt8 := dkwX6_ahead_2 ++ dktX6_ahead_3
def dkwX6_ahead_1 : List UInt8 := [5, 167, 0, 17, 29, 3, 5, 184, 0, 45, 154, 0, 7, 6, 167, 0, 4, 3, 181, 0, 42, 42]
abbrev dktX6_ahead_1 : List UInt8 := dkwX6_ahead_1 ++ dktX6_ahead_2
def dkwX6_ahead_0 : List UInt8 := [42, 42, 27, 182, 1, 11, 154, 0, 7, 4, 167, 0, 32, 28, 3, 17, 1, 144, 184, 0, 45, 154, 0, 7]
abbrev dktX6_ahead_0 : List UInt8 := dkwX6_ahead_0 ++ dktX6_ahead_1
theorem dksX6_ahead_0 : cX6_ahead.data.toList.drop 0 = dktX6_ahead_0 := by decide +kernel
theorem dksX6_ahead_1 : cX6_ahead.data.toList.drop 24 = dktX6_ahead_1 := dk_seg dksX6_ahead_0 24 rfl rfl
theorem dksX6_ahead_2 : cX6_ahead.data.toList.drop 46 = dktX6_ahead_2 := dk_seg dksX6_ahead_1 22 rfl rfl
theorem dksX6_ahead_3 : cX6_ahead.data.toList.drop 70 = dktX6_ahead_3 := dk_seg dksX6_ahead_2 24 rfl rfl
theorem dksX6_ahead_4 : cX6_ahead.data.toList.drop 94 = dktX6_ahead_4 := dk_seg dksX6_ahead_3 24 rfl rfl
theorem dX6_ahead_0 : decode cX6_ahead 0 = .ok (.aload_n 0, 1) := dk_42 (dk_at dksX6_ahead_0 0 rfl rfl)
theorem dX6_ahead_1 : decode cX6_ahead 1 = .ok (.aload_n 0, 1) := dk_42 (dk_at dksX6_ahead_0 1 rfl rfl)
theorem dX6_ahead_2 : decode cX6_ahead 2 = .ok (.iload_n 1, 1) := dk_27 (dk_at dksX6_ahead_0 2 rfl rfl)
theorem dX6_ahead_3 : decode cX6_ahead 3 = .ok (.invokevirtual 267, 3) := dk_182 1 11 (dk_at dksX6_ahead_0 3 rfl rfl)
theorem dX6_ahead_6 : decode cX6_ahead 6 = .ok (.ifCond .ne 7, 3) := dk_154 0 7 (dk_at dksX6_ahead_0 6 rfl rfl)
theorem dX6_ahead_9 : decode cX6_ahead 9 = .ok (.iconst 1, 1) := dk_4 (dk_at dksX6_ahead_0 9 rfl rfl)
theorem dX6_ahead_10 : decode cX6_ahead 10 = .ok (.goto 32, 3) := dk_167 0 32 (dk_at dksX6_ahead_0 10 rfl rfl)
theorem dX6_ahead_13 : decode cX6_ahead 13 = .ok (.iload_n 2, 1) := dk_28 (dk_at dksX6_ahead_0 13 rfl rfl)
theorem dX6_ahead_14 : decode cX6_ahead 14 = .ok (.iconst 0, 1) := dk_3 (dk_at dksX6_ahead_0 14 rfl rfl)
theorem dX6_ahead_15 : decode cX6_ahead 15 = .ok (.sipush 400, 3) := dk_17 1 144 (dk_at dksX6_ahead_0 15 rfl rfl)
theorem dX6_ahead_18 : decode cX6_ahead 18 = .ok (.invokestatic 45, 3) := dk_184 0 45 (dk_at dksX6_ahead_0 18 rfl rfl)
theorem dX6_ahead_21 : decode cX6_ahead 21 = .ok (.ifCond .ne 7, 3) := dk_154 0 7 (dk_at dksX6_ahead_0 21 rfl rfl)
theorem dX6_ahead_24 : decode cX6_ahead 24 = .ok (.iconst 2, 1) := dk_5 (dk_at dksX6_ahead_1 0 rfl rfl)
theorem dX6_ahead_25 : decode cX6_ahead 25 = .ok (.goto 17, 3) := dk_167 0 17 (dk_at dksX6_ahead_1 1 rfl rfl)
theorem dX6_ahead_28 : decode cX6_ahead 28 = .ok (.iload_n 3, 1) := dk_29 (dk_at dksX6_ahead_1 4 rfl rfl)
theorem dX6_ahead_29 : decode cX6_ahead 29 = .ok (.iconst 0, 1) := dk_3 (dk_at dksX6_ahead_1 5 rfl rfl)
theorem dX6_ahead_30 : decode cX6_ahead 30 = .ok (.iconst 2, 1) := dk_5 (dk_at dksX6_ahead_1 6 rfl rfl)
theorem dX6_ahead_31 : decode cX6_ahead 31 = .ok (.invokestatic 45, 3) := dk_184 0 45 (dk_at dksX6_ahead_1 7 rfl rfl)
theorem dX6_ahead_34 : decode cX6_ahead 34 = .ok (.ifCond .ne 7, 3) := dk_154 0 7 (dk_at dksX6_ahead_1 10 rfl rfl)
theorem dX6_ahead_37 : decode cX6_ahead 37 = .ok (.iconst 3, 1) := dk_6 (dk_at dksX6_ahead_1 13 rfl rfl)
theorem dX6_ahead_38 : decode cX6_ahead 38 = .ok (.goto 4, 3) := dk_167 0 4 (dk_at dksX6_ahead_1 14 rfl rfl)
theorem dX6_ahead_41 : decode cX6_ahead 41 = .ok (.iconst 0, 1) := dk_3 (dk_at dksX6_ahead_1 17 rfl rfl)
theorem dX6_ahead_42 : decode cX6_ahead 42 = .ok (.putfield 42, 3) := dk_181 0 42 (dk_at dksX6_ahead_1 18 rfl rfl)
theorem dX6_ahead_45 : decode cX6_ahead 45 = .ok (.aload_n 0, 1) := dk_42 (dk_at dksX6_ahead_1 21 rfl rfl)
theorem dX6_ahead_46 : decode cX6_ahead 46 = .ok (.getfield 42, 3) := dk_180 0 42 (dk_at dksX6_ahead_2 0 rfl rfl)
theorem dX6_ahead_49 : decode cX6_ahead 49 = .ok (.ifCond .le 5, 3) := dk_158 0 5 (dk_at dksX6_ahead_2 3 rfl rfl)
theorem dX6_ahead_52 : decode cX6_ahead 52 = .ok (.iconst 0, 1) := dk_3 (dk_at dksX6_ahead_2 6 rfl rfl)
theorem dX6_ahead_53 : decode cX6_ahead 53 = .ok (.ireturn, 1) := dk_172 (dk_at dksX6_ahead_2 7 rfl rfl)
theorem dX6_ahead_54 : decode cX6_ahead 54 = .ok (.aload_n 0, 1) := dk_42 (dk_at dksX6_ahead_2 8 rfl rfl)
theorem dX6_ahead_55 : decode cX6_ahead 55 = .ok (.invokevirtual 159, 3) := dk_182 0 159 (dk_at dksX6_ahead_2 9 rfl rfl)
theorem dX6_ahead_58 : decode cX6_ahead 58 = .ok (.aload_n 0, 1) := dk_42 (dk_at dksX6_ahead_2 12 rfl rfl)
theorem dX6_ahead_59 : decode cX6_ahead 59 = .ok (.iload_n 2, 1) := dk_28 (dk_at dksX6_ahead_2 13 rfl rfl)
theorem dX6_ahead_60 : decode cX6_ahead 60 = .ok (.iconst 0, 1) := dk_3 (dk_at dksX6_ahead_2 14 rfl rfl)
theorem dX6_ahead_61 : decode cX6_ahead 61 = .ok (.invokevirtual 288, 3) := dk_182 1 32 (dk_at dksX6_ahead_2 15 rfl rfl)
theorem dX6_ahead_64 : decode cX6_ahead 64 = .ok (.istore 4, 2) := dk_54 4 (dk_at dksX6_ahead_2 18 rfl rfl)
theorem dX6_ahead_66 : decode cX6_ahead 66 = .ok (.iload_n 3, 1) := dk_29 (dk_at dksX6_ahead_2 20 rfl rfl)
theorem dX6_ahead_67 : decode cX6_ahead 67 = .ok (.ifCond .ne 12, 3) := dk_154 0 12 (dk_at dksX6_ahead_2 21 rfl rfl)
theorem dX6_ahead_70 : decode cX6_ahead 70 = .ok (.aload_n 0, 1) := dk_42 (dk_at dksX6_ahead_3 0 rfl rfl)
theorem dX6_ahead_71 : decode cX6_ahead 71 = .ok (.iload_n 1, 1) := dk_27 (dk_at dksX6_ahead_3 1 rfl rfl)
theorem dX6_ahead_72 : decode cX6_ahead 72 = .ok (.iconst 2, 1) := dk_5 (dk_at dksX6_ahead_3 2 rfl rfl)
theorem dX6_ahead_73 : decode cX6_ahead 73 = .ok (.invokevirtual 49, 3) := dk_182 0 49 (dk_at dksX6_ahead_3 3 rfl rfl)
theorem dX6_ahead_76 : decode cX6_ahead 76 = .ok (.goto 25, 3) := dk_167 0 25 (dk_at dksX6_ahead_3 6 rfl rfl)
theorem dX6_ahead_79 : decode cX6_ahead 79 = .ok (.iload_n 3, 1) := dk_29 (dk_at dksX6_ahead_3 9 rfl rfl)
theorem dX6_ahead_80 : decode cX6_ahead 80 = .ok (.iconst 1, 1) := dk_4 (dk_at dksX6_ahead_3 10 rfl rfl)
theorem dX6_ahead_81 : decode cX6_ahead 81 = .ok (.if_icmp .ne 13, 3) := dk_160 0 13 (dk_at dksX6_ahead_3 11 rfl rfl)
theorem dX6_ahead_84 : decode cX6_ahead 84 = .ok (.aload_n 0, 1) := dk_42 (dk_at dksX6_ahead_3 14 rfl rfl)
theorem dX6_ahead_85 : decode cX6_ahead 85 = .ok (.getfield 7, 3) := dk_180 0 7 (dk_at dksX6_ahead_3 15 rfl rfl)
theorem dX6_ahead_88 : decode cX6_ahead 88 = .ok (.bipush 8, 2) := dk_16 8 (dk_at dksX6_ahead_3 18 rfl rfl)
theorem dX6_ahead_90 : decode cX6_ahead 90 = .ok (.iaload, 1) := dk_46 (dk_at dksX6_ahead_3 20 rfl rfl)
theorem dX6_ahead_91 : decode cX6_ahead 91 = .ok (.goto 10, 3) := dk_167 0 10 (dk_at dksX6_ahead_3 21 rfl rfl)
theorem dX6_ahead_94 : decode cX6_ahead 94 = .ok (.aload_n 0, 1) := dk_42 (dk_at dksX6_ahead_4 0 rfl rfl)
theorem dX6_ahead_95 : decode cX6_ahead 95 = .ok (.getfield 7, 3) := dk_180 0 7 (dk_at dksX6_ahead_4 1 rfl rfl)
theorem dX6_ahead_98 : decode cX6_ahead 98 = .ok (.bipush 7, 2) := dk_16 7 (dk_at dksX6_ahead_4 4 rfl rfl)
theorem dX6_ahead_100 : decode cX6_ahead 100 = .ok (.iaload, 1) := dk_46 (dk_at dksX6_ahead_4 6 rfl rfl)
theorem dX6_ahead_101 : decode cX6_ahead 101 = .ok (.istore 5, 2) := dk_54 5 (dk_at dksX6_ahead_4 7 rfl rfl)
theorem dX6_ahead_103 : decode cX6_ahead 103 = .ok (.aload_n 0, 1) := dk_42 (dk_at dksX6_ahead_4 9 rfl rfl)
theorem dX6_ahead_104 : decode cX6_ahead 104 = .ok (.invokevirtual 169, 3) := dk_182 0 169 (dk_at dksX6_ahead_4 10 rfl rfl)
theorem dX6_ahead_107 : decode cX6_ahead 107 = .ok (.iload 5, 2) := dk_21 5 (dk_at dksX6_ahead_4 13 rfl rfl)
theorem dX6_ahead_109 : decode cX6_ahead 109 = .ok (.ireturn, 1) := dk_172 (dk_at dksX6_ahead_4 15 rfl rfl)
abbrev cX6_both : ByteArray := prog_18_method_73_code
def yX6_both : MethodName := ⟨RX6, "both", "()I"⟩
def dkwX6_both_2 : List UInt8 := [27, 172, 132, 1, 1, 167, 255, 210, 2, 172]
abbrev dktX6_both_2 : List UInt8 := dkwX6_both_2 ++ []
def dkwX6_both_1 : List UInt8 := [96, 182, 0, 226, 153, 0, 22, 42, 4, 42, 180, 0, 7, 16, 10, 46, 27, 96, 182, 0, 226, 153, 0, 5]
abbrev dktX6_both_1 : List UInt8 := dkwX6_both_1 ++ dktX6_both_2
def dkwX6_both_0 : List UInt8 := [42, 3, 181, 0, 42, 3, 60, 27, 17, 1, 144, 163, 0, 45, 42, 3, 42, 180, 0, 7, 16, 10, 46, 27]
abbrev dktX6_both_0 : List UInt8 := dkwX6_both_0 ++ dktX6_both_1
theorem dksX6_both_0 : cX6_both.data.toList.drop 0 = dktX6_both_0 := by decide +kernel
theorem dksX6_both_1 : cX6_both.data.toList.drop 24 = dktX6_both_1 := dk_seg dksX6_both_0 24 rfl rfl
theorem dksX6_both_2 : cX6_both.data.toList.drop 48 = dktX6_both_2 := dk_seg dksX6_both_1 24 rfl rfl
theorem dX6_both_0 : decode cX6_both 0 = .ok (.aload_n 0, 1) := dk_42 (dk_at dksX6_both_0 0 rfl rfl)
theorem dX6_both_1 : decode cX6_both 1 = .ok (.iconst 0, 1) := dk_3 (dk_at dksX6_both_0 1 rfl rfl)
theorem dX6_both_2 : decode cX6_both 2 = .ok (.putfield 42, 3) := dk_181 0 42 (dk_at dksX6_both_0 2 rfl rfl)
theorem dX6_both_5 : decode cX6_both 5 = .ok (.iconst 0, 1) := dk_3 (dk_at dksX6_both_0 5 rfl rfl)
theorem dX6_both_6 : decode cX6_both 6 = .ok (.istore_n 1, 1) := dk_60 (dk_at dksX6_both_0 6 rfl rfl)
theorem dX6_both_7 : decode cX6_both 7 = .ok (.iload_n 1, 1) := dk_27 (dk_at dksX6_both_0 7 rfl rfl)
theorem dX6_both_8 : decode cX6_both 8 = .ok (.sipush 400, 3) := dk_17 1 144 (dk_at dksX6_both_0 8 rfl rfl)
theorem dX6_both_11 : decode cX6_both 11 = .ok (.if_icmp .gt 45, 3) := dk_163 0 45 (dk_at dksX6_both_0 11 rfl rfl)
theorem dX6_both_14 : decode cX6_both 14 = .ok (.aload_n 0, 1) := dk_42 (dk_at dksX6_both_0 14 rfl rfl)
theorem dX6_both_15 : decode cX6_both 15 = .ok (.iconst 0, 1) := dk_3 (dk_at dksX6_both_0 15 rfl rfl)
theorem dX6_both_16 : decode cX6_both 16 = .ok (.aload_n 0, 1) := dk_42 (dk_at dksX6_both_0 16 rfl rfl)
theorem dX6_both_17 : decode cX6_both 17 = .ok (.getfield 7, 3) := dk_180 0 7 (dk_at dksX6_both_0 17 rfl rfl)
theorem dX6_both_20 : decode cX6_both 20 = .ok (.bipush 10, 2) := dk_16 10 (dk_at dksX6_both_0 20 rfl rfl)
theorem dX6_both_22 : decode cX6_both 22 = .ok (.iaload, 1) := dk_46 (dk_at dksX6_both_0 22 rfl rfl)
theorem dX6_both_23 : decode cX6_both 23 = .ok (.iload_n 1, 1) := dk_27 (dk_at dksX6_both_0 23 rfl rfl)
theorem dX6_both_24 : decode cX6_both 24 = .ok (.iadd, 1) := dk_96 (dk_at dksX6_both_1 0 rfl rfl)
theorem dX6_both_25 : decode cX6_both 25 = .ok (.invokevirtual 226, 3) := dk_182 0 226 (dk_at dksX6_both_1 1 rfl rfl)
theorem dX6_both_28 : decode cX6_both 28 = .ok (.ifCond .eq 22, 3) := dk_153 0 22 (dk_at dksX6_both_1 4 rfl rfl)
theorem dX6_both_31 : decode cX6_both 31 = .ok (.aload_n 0, 1) := dk_42 (dk_at dksX6_both_1 7 rfl rfl)
theorem dX6_both_32 : decode cX6_both 32 = .ok (.iconst 1, 1) := dk_4 (dk_at dksX6_both_1 8 rfl rfl)
theorem dX6_both_33 : decode cX6_both 33 = .ok (.aload_n 0, 1) := dk_42 (dk_at dksX6_both_1 9 rfl rfl)
theorem dX6_both_34 : decode cX6_both 34 = .ok (.getfield 7, 3) := dk_180 0 7 (dk_at dksX6_both_1 10 rfl rfl)
theorem dX6_both_37 : decode cX6_both 37 = .ok (.bipush 10, 2) := dk_16 10 (dk_at dksX6_both_1 13 rfl rfl)
theorem dX6_both_39 : decode cX6_both 39 = .ok (.iaload, 1) := dk_46 (dk_at dksX6_both_1 15 rfl rfl)
theorem dX6_both_40 : decode cX6_both 40 = .ok (.iload_n 1, 1) := dk_27 (dk_at dksX6_both_1 16 rfl rfl)
theorem dX6_both_41 : decode cX6_both 41 = .ok (.iadd, 1) := dk_96 (dk_at dksX6_both_1 17 rfl rfl)
theorem dX6_both_42 : decode cX6_both 42 = .ok (.invokevirtual 226, 3) := dk_182 0 226 (dk_at dksX6_both_1 18 rfl rfl)
theorem dX6_both_45 : decode cX6_both 45 = .ok (.ifCond .eq 5, 3) := dk_153 0 5 (dk_at dksX6_both_1 21 rfl rfl)
theorem dX6_both_48 : decode cX6_both 48 = .ok (.iload_n 1, 1) := dk_27 (dk_at dksX6_both_2 0 rfl rfl)
theorem dX6_both_49 : decode cX6_both 49 = .ok (.ireturn, 1) := dk_172 (dk_at dksX6_both_2 1 rfl rfl)
theorem dX6_both_50 : decode cX6_both 50 = .ok (.iinc 1 1, 3) := dk_132 1 1 (dk_at dksX6_both_2 2 rfl rfl)
theorem dX6_both_53 : decode cX6_both 53 = .ok (.goto (-46), 3) := dk_167 255 210 (dk_at dksX6_both_2 5 rfl rfl)
theorem dX6_both_56 : decode cX6_both 56 = .ok (.iconst (-1), 1) := dk_2 (dk_at dksX6_both_2 8 rfl rfl)
theorem dX6_both_57 : decode cX6_both 57 = .ok (.ireturn, 1) := dk_172 (dk_at dksX6_both_2 9 rfl rfl)
abbrev cX6_saturdays : ByteArray := prog_18_method_74_code
def yX6_saturdays : MethodName := ⟨RX6, "saturdays", "(I)I"⟩
def dkwX6_saturdays_3 : List UInt8 := [167, 0, 4, 3, 96, 61, 132, 3, 1, 167, 255, 199, 28, 172]
abbrev dktX6_saturdays_3 : List UInt8 := dkwX6_saturdays_3 ++ []
def dkwX6_saturdays_2 : List UInt8 := [182, 0, 226, 154, 0, 20, 42, 4, 42, 180, 0, 7, 16, 10, 46, 29, 96, 182, 0, 226, 153, 0, 7, 4]
abbrev dktX6_saturdays_2 : List UInt8 := dkwX6_saturdays_2 ++ dktX6_saturdays_3
def dkwX6_saturdays_1 : List UInt8 := [29, 27, 162, 0, 58, 42, 180, 0, 42, 154, 0, 51, 28, 42, 3, 42, 180, 0, 7, 16, 10, 46, 29, 96]
abbrev dktX6_saturdays_1 : List UInt8 := dkwX6_saturdays_1 ++ dktX6_saturdays_2
def dkwX6_saturdays_0 : List UInt8 := [42, 27, 3, 17, 1, 144, 184, 0, 45, 154, 0, 7, 4, 167, 0, 4, 3, 181, 0, 42, 3, 61, 3, 62]
abbrev dktX6_saturdays_0 : List UInt8 := dkwX6_saturdays_0 ++ dktX6_saturdays_1
theorem dksX6_saturdays_0 : cX6_saturdays.data.toList.drop 0 = dktX6_saturdays_0 := by decide +kernel
theorem dksX6_saturdays_1 : cX6_saturdays.data.toList.drop 24 = dktX6_saturdays_1 := dk_seg dksX6_saturdays_0 24 rfl rfl
theorem dksX6_saturdays_2 : cX6_saturdays.data.toList.drop 48 = dktX6_saturdays_2 := dk_seg dksX6_saturdays_1 24 rfl rfl
theorem dksX6_saturdays_3 : cX6_saturdays.data.toList.drop 72 = dktX6_saturdays_3 := dk_seg dksX6_saturdays_2 24 rfl rfl
theorem dX6_saturdays_0 : decode cX6_saturdays 0 = .ok (.aload_n 0, 1) := dk_42 (dk_at dksX6_saturdays_0 0 rfl rfl)
theorem dX6_saturdays_1 : decode cX6_saturdays 1 = .ok (.iload_n 1, 1) := dk_27 (dk_at dksX6_saturdays_0 1 rfl rfl)
theorem dX6_saturdays_2 : decode cX6_saturdays 2 = .ok (.iconst 0, 1) := dk_3 (dk_at dksX6_saturdays_0 2 rfl rfl)
theorem dX6_saturdays_3 : decode cX6_saturdays 3 = .ok (.sipush 400, 3) := dk_17 1 144 (dk_at dksX6_saturdays_0 3 rfl rfl)
theorem dX6_saturdays_6 : decode cX6_saturdays 6 = .ok (.invokestatic 45, 3) := dk_184 0 45 (dk_at dksX6_saturdays_0 6 rfl rfl)
theorem dX6_saturdays_9 : decode cX6_saturdays 9 = .ok (.ifCond .ne 7, 3) := dk_154 0 7 (dk_at dksX6_saturdays_0 9 rfl rfl)
theorem dX6_saturdays_12 : decode cX6_saturdays 12 = .ok (.iconst 1, 1) := dk_4 (dk_at dksX6_saturdays_0 12 rfl rfl)
theorem dX6_saturdays_13 : decode cX6_saturdays 13 = .ok (.goto 4, 3) := dk_167 0 4 (dk_at dksX6_saturdays_0 13 rfl rfl)
theorem dX6_saturdays_16 : decode cX6_saturdays 16 = .ok (.iconst 0, 1) := dk_3 (dk_at dksX6_saturdays_0 16 rfl rfl)
theorem dX6_saturdays_17 : decode cX6_saturdays 17 = .ok (.putfield 42, 3) := dk_181 0 42 (dk_at dksX6_saturdays_0 17 rfl rfl)
theorem dX6_saturdays_20 : decode cX6_saturdays 20 = .ok (.iconst 0, 1) := dk_3 (dk_at dksX6_saturdays_0 20 rfl rfl)
theorem dX6_saturdays_21 : decode cX6_saturdays 21 = .ok (.istore_n 2, 1) := dk_61 (dk_at dksX6_saturdays_0 21 rfl rfl)
theorem dX6_saturdays_22 : decode cX6_saturdays 22 = .ok (.iconst 0, 1) := dk_3 (dk_at dksX6_saturdays_0 22 rfl rfl)
theorem dX6_saturdays_23 : decode cX6_saturdays 23 = .ok (.istore_n 3, 1) := dk_62 (dk_at dksX6_saturdays_0 23 rfl rfl)
theorem dX6_saturdays_24 : decode cX6_saturdays 24 = .ok (.iload_n 3, 1) := dk_29 (dk_at dksX6_saturdays_1 0 rfl rfl)
theorem dX6_saturdays_25 : decode cX6_saturdays 25 = .ok (.iload_n 1, 1) := dk_27 (dk_at dksX6_saturdays_1 1 rfl rfl)
theorem dX6_saturdays_26 : decode cX6_saturdays 26 = .ok (.if_icmp .ge 58, 3) := dk_162 0 58 (dk_at dksX6_saturdays_1 2 rfl rfl)
theorem dX6_saturdays_29 : decode cX6_saturdays 29 = .ok (.aload_n 0, 1) := dk_42 (dk_at dksX6_saturdays_1 5 rfl rfl)
theorem dX6_saturdays_30 : decode cX6_saturdays 30 = .ok (.getfield 42, 3) := dk_180 0 42 (dk_at dksX6_saturdays_1 6 rfl rfl)
theorem dX6_saturdays_33 : decode cX6_saturdays 33 = .ok (.ifCond .ne 51, 3) := dk_154 0 51 (dk_at dksX6_saturdays_1 9 rfl rfl)
theorem dX6_saturdays_36 : decode cX6_saturdays 36 = .ok (.iload_n 2, 1) := dk_28 (dk_at dksX6_saturdays_1 12 rfl rfl)
theorem dX6_saturdays_37 : decode cX6_saturdays 37 = .ok (.aload_n 0, 1) := dk_42 (dk_at dksX6_saturdays_1 13 rfl rfl)
theorem dX6_saturdays_38 : decode cX6_saturdays 38 = .ok (.iconst 0, 1) := dk_3 (dk_at dksX6_saturdays_1 14 rfl rfl)
theorem dX6_saturdays_39 : decode cX6_saturdays 39 = .ok (.aload_n 0, 1) := dk_42 (dk_at dksX6_saturdays_1 15 rfl rfl)
theorem dX6_saturdays_40 : decode cX6_saturdays 40 = .ok (.getfield 7, 3) := dk_180 0 7 (dk_at dksX6_saturdays_1 16 rfl rfl)
theorem dX6_saturdays_43 : decode cX6_saturdays 43 = .ok (.bipush 10, 2) := dk_16 10 (dk_at dksX6_saturdays_1 19 rfl rfl)
theorem dX6_saturdays_45 : decode cX6_saturdays 45 = .ok (.iaload, 1) := dk_46 (dk_at dksX6_saturdays_1 21 rfl rfl)
theorem dX6_saturdays_46 : decode cX6_saturdays 46 = .ok (.iload_n 3, 1) := dk_29 (dk_at dksX6_saturdays_1 22 rfl rfl)
theorem dX6_saturdays_47 : decode cX6_saturdays 47 = .ok (.iadd, 1) := dk_96 (dk_at dksX6_saturdays_1 23 rfl rfl)
theorem dX6_saturdays_48 : decode cX6_saturdays 48 = .ok (.invokevirtual 226, 3) := dk_182 0 226 (dk_at dksX6_saturdays_2 0 rfl rfl)
theorem dX6_saturdays_51 : decode cX6_saturdays 51 = .ok (.ifCond .ne 20, 3) := dk_154 0 20 (dk_at dksX6_saturdays_2 3 rfl rfl)
theorem dX6_saturdays_54 : decode cX6_saturdays 54 = .ok (.aload_n 0, 1) := dk_42 (dk_at dksX6_saturdays_2 6 rfl rfl)
theorem dX6_saturdays_55 : decode cX6_saturdays 55 = .ok (.iconst 1, 1) := dk_4 (dk_at dksX6_saturdays_2 7 rfl rfl)
theorem dX6_saturdays_56 : decode cX6_saturdays 56 = .ok (.aload_n 0, 1) := dk_42 (dk_at dksX6_saturdays_2 8 rfl rfl)
theorem dX6_saturdays_57 : decode cX6_saturdays 57 = .ok (.getfield 7, 3) := dk_180 0 7 (dk_at dksX6_saturdays_2 9 rfl rfl)
theorem dX6_saturdays_60 : decode cX6_saturdays 60 = .ok (.bipush 10, 2) := dk_16 10 (dk_at dksX6_saturdays_2 12 rfl rfl)
theorem dX6_saturdays_62 : decode cX6_saturdays 62 = .ok (.iaload, 1) := dk_46 (dk_at dksX6_saturdays_2 14 rfl rfl)
theorem dX6_saturdays_63 : decode cX6_saturdays 63 = .ok (.iload_n 3, 1) := dk_29 (dk_at dksX6_saturdays_2 15 rfl rfl)
theorem dX6_saturdays_64 : decode cX6_saturdays 64 = .ok (.iadd, 1) := dk_96 (dk_at dksX6_saturdays_2 16 rfl rfl)
theorem dX6_saturdays_65 : decode cX6_saturdays 65 = .ok (.invokevirtual 226, 3) := dk_182 0 226 (dk_at dksX6_saturdays_2 17 rfl rfl)
theorem dX6_saturdays_68 : decode cX6_saturdays 68 = .ok (.ifCond .eq 7, 3) := dk_153 0 7 (dk_at dksX6_saturdays_2 20 rfl rfl)
theorem dX6_saturdays_71 : decode cX6_saturdays 71 = .ok (.iconst 1, 1) := dk_4 (dk_at dksX6_saturdays_2 23 rfl rfl)
theorem dX6_saturdays_72 : decode cX6_saturdays 72 = .ok (.goto 4, 3) := dk_167 0 4 (dk_at dksX6_saturdays_3 0 rfl rfl)
theorem dX6_saturdays_75 : decode cX6_saturdays 75 = .ok (.iconst 0, 1) := dk_3 (dk_at dksX6_saturdays_3 3 rfl rfl)
theorem dX6_saturdays_76 : decode cX6_saturdays 76 = .ok (.iadd, 1) := dk_96 (dk_at dksX6_saturdays_3 4 rfl rfl)
theorem dX6_saturdays_77 : decode cX6_saturdays 77 = .ok (.istore_n 2, 1) := dk_61 (dk_at dksX6_saturdays_3 5 rfl rfl)
theorem dX6_saturdays_78 : decode cX6_saturdays 78 = .ok (.iinc 3 1, 3) := dk_132 3 1 (dk_at dksX6_saturdays_3 6 rfl rfl)
theorem dX6_saturdays_81 : decode cX6_saturdays 81 = .ok (.goto (-57), 3) := dk_167 255 199 (dk_at dksX6_saturdays_3 9 rfl rfl)
theorem dX6_saturdays_84 : decode cX6_saturdays 84 = .ok (.iload_n 2, 1) := dk_28 (dk_at dksX6_saturdays_3 12 rfl rfl)
theorem dX6_saturdays_85 : decode cX6_saturdays 85 = .ok (.ireturn, 1) := dk_172 (dk_at dksX6_saturdays_3 13 rfl rfl)
abbrev cX6_first : ByteArray := prog_18_method_75_code
def yX6_first : MethodName := ⟨RX6, "first", "(II)I"⟩
def dkwX6_first_4 : List UInt8 := [29, 172]
abbrev dktX6_first_4 : List UInt8 := dkwX6_first_4 ++ []
def dkwX6_first_3 : List UInt8 := [161, 0, 6, 21, 4, 62, 42, 4, 3, 182, 1, 32, 54, 5, 132, 4, 1, 167, 255, 219, 42, 182, 0, 169]
abbrev dktX6_first_3 : List UInt8 := dkwX6_first_3 ++ dktX6_first_4
def dkwX6_first_2 : List UInt8 := [54, 4, 21, 4, 17, 1, 144, 163, 0, 35, 29, 2, 160, 0, 30, 42, 27, 5, 182, 0, 49, 28]
abbrev dktX6_first_2 : List UInt8 := dkwX6_first_2 ++ dktX6_first_3
def dkwX6_first_1 : List UInt8 := [167, 0, 4, 3, 181, 0, 42, 42, 180, 0, 42, 158, 0, 5, 3, 172, 42, 182, 0, 159, 2, 62, 3]
abbrev dktX6_first_1 : List UInt8 := dkwX6_first_1 ++ dktX6_first_2
def dkwX6_first_0 : List UInt8 := [42, 42, 27, 182, 1, 11, 154, 0, 7, 4, 167, 0, 18, 28, 4, 16, 99, 184, 0, 45, 154, 0, 7, 5]
abbrev dktX6_first_0 : List UInt8 := dkwX6_first_0 ++ dktX6_first_1
theorem dksX6_first_0 : cX6_first.data.toList.drop 0 = dktX6_first_0 := by decide +kernel
theorem dksX6_first_1 : cX6_first.data.toList.drop 24 = dktX6_first_1 := dk_seg dksX6_first_0 24 rfl rfl
theorem dksX6_first_2 : cX6_first.data.toList.drop 47 = dktX6_first_2 := dk_seg dksX6_first_1 23 rfl rfl
theorem dksX6_first_3 : cX6_first.data.toList.drop 69 = dktX6_first_3 := dk_seg dksX6_first_2 22 rfl rfl
theorem dksX6_first_4 : cX6_first.data.toList.drop 93 = dktX6_first_4 := dk_seg dksX6_first_3 24 rfl rfl
theorem dX6_first_0 : decode cX6_first 0 = .ok (.aload_n 0, 1) := dk_42 (dk_at dksX6_first_0 0 rfl rfl)
theorem dX6_first_1 : decode cX6_first 1 = .ok (.aload_n 0, 1) := dk_42 (dk_at dksX6_first_0 1 rfl rfl)
theorem dX6_first_2 : decode cX6_first 2 = .ok (.iload_n 1, 1) := dk_27 (dk_at dksX6_first_0 2 rfl rfl)
theorem dX6_first_3 : decode cX6_first 3 = .ok (.invokevirtual 267, 3) := dk_182 1 11 (dk_at dksX6_first_0 3 rfl rfl)
theorem dX6_first_6 : decode cX6_first 6 = .ok (.ifCond .ne 7, 3) := dk_154 0 7 (dk_at dksX6_first_0 6 rfl rfl)
theorem dX6_first_9 : decode cX6_first 9 = .ok (.iconst 1, 1) := dk_4 (dk_at dksX6_first_0 9 rfl rfl)
theorem dX6_first_10 : decode cX6_first 10 = .ok (.goto 18, 3) := dk_167 0 18 (dk_at dksX6_first_0 10 rfl rfl)
theorem dX6_first_13 : decode cX6_first 13 = .ok (.iload_n 2, 1) := dk_28 (dk_at dksX6_first_0 13 rfl rfl)
theorem dX6_first_14 : decode cX6_first 14 = .ok (.iconst 1, 1) := dk_4 (dk_at dksX6_first_0 14 rfl rfl)
theorem dX6_first_15 : decode cX6_first 15 = .ok (.bipush 99, 2) := dk_16 99 (dk_at dksX6_first_0 15 rfl rfl)
theorem dX6_first_17 : decode cX6_first 17 = .ok (.invokestatic 45, 3) := dk_184 0 45 (dk_at dksX6_first_0 17 rfl rfl)
theorem dX6_first_20 : decode cX6_first 20 = .ok (.ifCond .ne 7, 3) := dk_154 0 7 (dk_at dksX6_first_0 20 rfl rfl)
theorem dX6_first_23 : decode cX6_first 23 = .ok (.iconst 2, 1) := dk_5 (dk_at dksX6_first_0 23 rfl rfl)
theorem dX6_first_24 : decode cX6_first 24 = .ok (.goto 4, 3) := dk_167 0 4 (dk_at dksX6_first_1 0 rfl rfl)
theorem dX6_first_27 : decode cX6_first 27 = .ok (.iconst 0, 1) := dk_3 (dk_at dksX6_first_1 3 rfl rfl)
theorem dX6_first_28 : decode cX6_first 28 = .ok (.putfield 42, 3) := dk_181 0 42 (dk_at dksX6_first_1 4 rfl rfl)
theorem dX6_first_31 : decode cX6_first 31 = .ok (.aload_n 0, 1) := dk_42 (dk_at dksX6_first_1 7 rfl rfl)
theorem dX6_first_32 : decode cX6_first 32 = .ok (.getfield 42, 3) := dk_180 0 42 (dk_at dksX6_first_1 8 rfl rfl)
theorem dX6_first_35 : decode cX6_first 35 = .ok (.ifCond .le 5, 3) := dk_158 0 5 (dk_at dksX6_first_1 11 rfl rfl)
theorem dX6_first_38 : decode cX6_first 38 = .ok (.iconst 0, 1) := dk_3 (dk_at dksX6_first_1 14 rfl rfl)
theorem dX6_first_39 : decode cX6_first 39 = .ok (.ireturn, 1) := dk_172 (dk_at dksX6_first_1 15 rfl rfl)
theorem dX6_first_40 : decode cX6_first 40 = .ok (.aload_n 0, 1) := dk_42 (dk_at dksX6_first_1 16 rfl rfl)
theorem dX6_first_41 : decode cX6_first 41 = .ok (.invokevirtual 159, 3) := dk_182 0 159 (dk_at dksX6_first_1 17 rfl rfl)
theorem dX6_first_44 : decode cX6_first 44 = .ok (.iconst (-1), 1) := dk_2 (dk_at dksX6_first_1 20 rfl rfl)
theorem dX6_first_45 : decode cX6_first 45 = .ok (.istore_n 3, 1) := dk_62 (dk_at dksX6_first_1 21 rfl rfl)
theorem dX6_first_46 : decode cX6_first 46 = .ok (.iconst 0, 1) := dk_3 (dk_at dksX6_first_1 22 rfl rfl)
theorem dX6_first_47 : decode cX6_first 47 = .ok (.istore 4, 2) := dk_54 4 (dk_at dksX6_first_2 0 rfl rfl)
theorem dX6_first_49 : decode cX6_first 49 = .ok (.iload 4, 2) := dk_21 4 (dk_at dksX6_first_2 2 rfl rfl)
theorem dX6_first_51 : decode cX6_first 51 = .ok (.sipush 400, 3) := dk_17 1 144 (dk_at dksX6_first_2 4 rfl rfl)
theorem dX6_first_54 : decode cX6_first 54 = .ok (.if_icmp .gt 35, 3) := dk_163 0 35 (dk_at dksX6_first_2 7 rfl rfl)
theorem dX6_first_57 : decode cX6_first 57 = .ok (.iload_n 3, 1) := dk_29 (dk_at dksX6_first_2 10 rfl rfl)
theorem dX6_first_58 : decode cX6_first 58 = .ok (.iconst (-1), 1) := dk_2 (dk_at dksX6_first_2 11 rfl rfl)
theorem dX6_first_59 : decode cX6_first 59 = .ok (.if_icmp .ne 30, 3) := dk_160 0 30 (dk_at dksX6_first_2 12 rfl rfl)
theorem dX6_first_62 : decode cX6_first 62 = .ok (.aload_n 0, 1) := dk_42 (dk_at dksX6_first_2 15 rfl rfl)
theorem dX6_first_63 : decode cX6_first 63 = .ok (.iload_n 1, 1) := dk_27 (dk_at dksX6_first_2 16 rfl rfl)
theorem dX6_first_64 : decode cX6_first 64 = .ok (.iconst 2, 1) := dk_5 (dk_at dksX6_first_2 17 rfl rfl)
theorem dX6_first_65 : decode cX6_first 65 = .ok (.invokevirtual 49, 3) := dk_182 0 49 (dk_at dksX6_first_2 18 rfl rfl)
theorem dX6_first_68 : decode cX6_first 68 = .ok (.iload_n 2, 1) := dk_28 (dk_at dksX6_first_2 21 rfl rfl)
theorem dX6_first_69 : decode cX6_first 69 = .ok (.if_icmp .lt 6, 3) := dk_161 0 6 (dk_at dksX6_first_3 0 rfl rfl)
theorem dX6_first_72 : decode cX6_first 72 = .ok (.iload 4, 2) := dk_21 4 (dk_at dksX6_first_3 3 rfl rfl)
theorem dX6_first_74 : decode cX6_first 74 = .ok (.istore_n 3, 1) := dk_62 (dk_at dksX6_first_3 5 rfl rfl)
theorem dX6_first_75 : decode cX6_first 75 = .ok (.aload_n 0, 1) := dk_42 (dk_at dksX6_first_3 6 rfl rfl)
theorem dX6_first_76 : decode cX6_first 76 = .ok (.iconst 1, 1) := dk_4 (dk_at dksX6_first_3 7 rfl rfl)
theorem dX6_first_77 : decode cX6_first 77 = .ok (.iconst 0, 1) := dk_3 (dk_at dksX6_first_3 8 rfl rfl)
theorem dX6_first_78 : decode cX6_first 78 = .ok (.invokevirtual 288, 3) := dk_182 1 32 (dk_at dksX6_first_3 9 rfl rfl)
theorem dX6_first_81 : decode cX6_first 81 = .ok (.istore 5, 2) := dk_54 5 (dk_at dksX6_first_3 12 rfl rfl)
theorem dX6_first_83 : decode cX6_first 83 = .ok (.iinc 4 1, 3) := dk_132 4 1 (dk_at dksX6_first_3 14 rfl rfl)
theorem dX6_first_86 : decode cX6_first 86 = .ok (.goto (-37), 3) := dk_167 255 219 (dk_at dksX6_first_3 17 rfl rfl)
theorem dX6_first_89 : decode cX6_first 89 = .ok (.aload_n 0, 1) := dk_42 (dk_at dksX6_first_3 20 rfl rfl)
theorem dX6_first_90 : decode cX6_first 90 = .ok (.invokevirtual 169, 3) := dk_182 0 169 (dk_at dksX6_first_3 21 rfl rfl)
theorem dX6_first_93 : decode cX6_first 93 = .ok (.iload_n 3, 1) := dk_29 (dk_at dksX6_first_4 0 rfl rfl)
theorem dX6_first_94 : decode cX6_first 94 = .ok (.ireturn, 1) := dk_172 (dk_at dksX6_first_4 1 rfl rfl)
abbrev cX6_gone : ByteArray := prog_18_method_77_code
def yX6_gone : MethodName := ⟨RX6, "gone", "()I"⟩
def dkwX6_gone_0 : List UInt8 := [42, 3, 181, 0, 42, 42, 3, 182, 1, 36, 172]
abbrev dktX6_gone_0 : List UInt8 := dkwX6_gone_0 ++ []
theorem dksX6_gone_0 : cX6_gone.data.toList.drop 0 = dktX6_gone_0 := by decide +kernel
theorem dX6_gone_0 : decode cX6_gone 0 = .ok (.aload_n 0, 1) := dk_42 (dk_at dksX6_gone_0 0 rfl rfl)
theorem dX6_gone_1 : decode cX6_gone 1 = .ok (.iconst 0, 1) := dk_3 (dk_at dksX6_gone_0 1 rfl rfl)
theorem dX6_gone_2 : decode cX6_gone 2 = .ok (.putfield 42, 3) := dk_181 0 42 (dk_at dksX6_gone_0 2 rfl rfl)
theorem dX6_gone_5 : decode cX6_gone 5 = .ok (.aload_n 0, 1) := dk_42 (dk_at dksX6_gone_0 5 rfl rfl)
theorem dX6_gone_6 : decode cX6_gone 6 = .ok (.iconst 0, 1) := dk_3 (dk_at dksX6_gone_0 6 rfl rfl)
theorem dX6_gone_7 : decode cX6_gone 7 = .ok (.invokevirtual 292, 3) := dk_182 1 36 (dk_at dksX6_gone_0 7 rfl rfl)
theorem dX6_gone_10 : decode cX6_gone 10 = .ok (.ireturn, 1) := dk_172 (dk_at dksX6_gone_0 10 rfl rfl)
abbrev cX6_builtBy : ByteArray := prog_18_method_76_code
def yX6_builtBy : MethodName := ⟨RX6, "builtBy", "(I)I"⟩
def dkwX6_builtBy_2 : List UInt8 := [29, 61, 42, 182, 1, 8, 132, 3, 1, 167, 255, 207, 42, 182, 0, 169, 28, 172]
abbrev dktX6_builtBy_2 : List UInt8 := dkwX6_builtBy_2 ++ []
def dkwX6_builtBy_1 : List UInt8 := [42, 180, 0, 7, 16, 7, 46, 154, 0, 19, 167, 0, 14, 42, 180, 0, 7, 16, 8, 46, 27, 161, 0, 5]
abbrev dktX6_builtBy_1 : List UInt8 := dkwX6_builtBy_1 ++ dktX6_builtBy_2
def dkwX6_builtBy_0 : List UInt8 := [42, 182, 0, 159, 2, 61, 3, 62, 29, 17, 1, 144, 163, 0, 48, 28, 2, 160, 0, 43, 27, 154, 0, 16]
abbrev dktX6_builtBy_0 : List UInt8 := dkwX6_builtBy_0 ++ dktX6_builtBy_1
theorem dksX6_builtBy_0 : cX6_builtBy.data.toList.drop 0 = dktX6_builtBy_0 := by decide +kernel
theorem dksX6_builtBy_1 : cX6_builtBy.data.toList.drop 24 = dktX6_builtBy_1 := dk_seg dksX6_builtBy_0 24 rfl rfl
theorem dksX6_builtBy_2 : cX6_builtBy.data.toList.drop 48 = dktX6_builtBy_2 := dk_seg dksX6_builtBy_1 24 rfl rfl
theorem dX6_builtBy_0 : decode cX6_builtBy 0 = .ok (.aload_n 0, 1) := dk_42 (dk_at dksX6_builtBy_0 0 rfl rfl)
theorem dX6_builtBy_1 : decode cX6_builtBy 1 = .ok (.invokevirtual 159, 3) := dk_182 0 159 (dk_at dksX6_builtBy_0 1 rfl rfl)
theorem dX6_builtBy_4 : decode cX6_builtBy 4 = .ok (.iconst (-1), 1) := dk_2 (dk_at dksX6_builtBy_0 4 rfl rfl)
theorem dX6_builtBy_5 : decode cX6_builtBy 5 = .ok (.istore_n 2, 1) := dk_61 (dk_at dksX6_builtBy_0 5 rfl rfl)
theorem dX6_builtBy_6 : decode cX6_builtBy 6 = .ok (.iconst 0, 1) := dk_3 (dk_at dksX6_builtBy_0 6 rfl rfl)
theorem dX6_builtBy_7 : decode cX6_builtBy 7 = .ok (.istore_n 3, 1) := dk_62 (dk_at dksX6_builtBy_0 7 rfl rfl)
theorem dX6_builtBy_8 : decode cX6_builtBy 8 = .ok (.iload_n 3, 1) := dk_29 (dk_at dksX6_builtBy_0 8 rfl rfl)
theorem dX6_builtBy_9 : decode cX6_builtBy 9 = .ok (.sipush 400, 3) := dk_17 1 144 (dk_at dksX6_builtBy_0 9 rfl rfl)
theorem dX6_builtBy_12 : decode cX6_builtBy 12 = .ok (.if_icmp .gt 48, 3) := dk_163 0 48 (dk_at dksX6_builtBy_0 12 rfl rfl)
theorem dX6_builtBy_15 : decode cX6_builtBy 15 = .ok (.iload_n 2, 1) := dk_28 (dk_at dksX6_builtBy_0 15 rfl rfl)
theorem dX6_builtBy_16 : decode cX6_builtBy 16 = .ok (.iconst (-1), 1) := dk_2 (dk_at dksX6_builtBy_0 16 rfl rfl)
theorem dX6_builtBy_17 : decode cX6_builtBy 17 = .ok (.if_icmp .ne 43, 3) := dk_160 0 43 (dk_at dksX6_builtBy_0 17 rfl rfl)
theorem dX6_builtBy_20 : decode cX6_builtBy 20 = .ok (.iload_n 1, 1) := dk_27 (dk_at dksX6_builtBy_0 20 rfl rfl)
theorem dX6_builtBy_21 : decode cX6_builtBy 21 = .ok (.ifCond .ne 16, 3) := dk_154 0 16 (dk_at dksX6_builtBy_0 21 rfl rfl)
theorem dX6_builtBy_24 : decode cX6_builtBy 24 = .ok (.aload_n 0, 1) := dk_42 (dk_at dksX6_builtBy_1 0 rfl rfl)
theorem dX6_builtBy_25 : decode cX6_builtBy 25 = .ok (.getfield 7, 3) := dk_180 0 7 (dk_at dksX6_builtBy_1 1 rfl rfl)
theorem dX6_builtBy_28 : decode cX6_builtBy 28 = .ok (.bipush 7, 2) := dk_16 7 (dk_at dksX6_builtBy_1 4 rfl rfl)
theorem dX6_builtBy_30 : decode cX6_builtBy 30 = .ok (.iaload, 1) := dk_46 (dk_at dksX6_builtBy_1 6 rfl rfl)
theorem dX6_builtBy_31 : decode cX6_builtBy 31 = .ok (.ifCond .ne 19, 3) := dk_154 0 19 (dk_at dksX6_builtBy_1 7 rfl rfl)
theorem dX6_builtBy_34 : decode cX6_builtBy 34 = .ok (.goto 14, 3) := dk_167 0 14 (dk_at dksX6_builtBy_1 10 rfl rfl)
theorem dX6_builtBy_37 : decode cX6_builtBy 37 = .ok (.aload_n 0, 1) := dk_42 (dk_at dksX6_builtBy_1 13 rfl rfl)
theorem dX6_builtBy_38 : decode cX6_builtBy 38 = .ok (.getfield 7, 3) := dk_180 0 7 (dk_at dksX6_builtBy_1 14 rfl rfl)
theorem dX6_builtBy_41 : decode cX6_builtBy 41 = .ok (.bipush 8, 2) := dk_16 8 (dk_at dksX6_builtBy_1 17 rfl rfl)
theorem dX6_builtBy_43 : decode cX6_builtBy 43 = .ok (.iaload, 1) := dk_46 (dk_at dksX6_builtBy_1 19 rfl rfl)
theorem dX6_builtBy_44 : decode cX6_builtBy 44 = .ok (.iload_n 1, 1) := dk_27 (dk_at dksX6_builtBy_1 20 rfl rfl)
theorem dX6_builtBy_45 : decode cX6_builtBy 45 = .ok (.if_icmp .lt 5, 3) := dk_161 0 5 (dk_at dksX6_builtBy_1 21 rfl rfl)
theorem dX6_builtBy_48 : decode cX6_builtBy 48 = .ok (.iload_n 3, 1) := dk_29 (dk_at dksX6_builtBy_2 0 rfl rfl)
theorem dX6_builtBy_49 : decode cX6_builtBy 49 = .ok (.istore_n 2, 1) := dk_61 (dk_at dksX6_builtBy_2 1 rfl rfl)
theorem dX6_builtBy_50 : decode cX6_builtBy 50 = .ok (.aload_n 0, 1) := dk_42 (dk_at dksX6_builtBy_2 2 rfl rfl)
theorem dX6_builtBy_51 : decode cX6_builtBy 51 = .ok (.invokevirtual 264, 3) := dk_182 1 8 (dk_at dksX6_builtBy_2 3 rfl rfl)
theorem dX6_builtBy_54 : decode cX6_builtBy 54 = .ok (.iinc 3 1, 3) := dk_132 3 1 (dk_at dksX6_builtBy_2 6 rfl rfl)
theorem dX6_builtBy_57 : decode cX6_builtBy 57 = .ok (.goto (-49), 3) := dk_167 255 207 (dk_at dksX6_builtBy_2 9 rfl rfl)
theorem dX6_builtBy_60 : decode cX6_builtBy 60 = .ok (.aload_n 0, 1) := dk_42 (dk_at dksX6_builtBy_2 12 rfl rfl)
theorem dX6_builtBy_61 : decode cX6_builtBy 61 = .ok (.invokevirtual 169, 3) := dk_182 0 169 (dk_at dksX6_builtBy_2 13 rfl rfl)
theorem dX6_builtBy_64 : decode cX6_builtBy 64 = .ok (.iload_n 2, 1) := dk_28 (dk_at dksX6_builtBy_2 16 rfl rfl)
theorem dX6_builtBy_65 : decode cX6_builtBy 65 = .ok (.ireturn, 1) := dk_172 (dk_at dksX6_builtBy_2 17 rfl rfl)
abbrev cX6_stand : ByteArray := prog_18_method_78_code
def yX6_stand : MethodName := ⟨RX6, "stand", "(I)I"⟩
def dkwX6_stand_1 : List UInt8 := [158, 0, 7, 3, 167, 0, 8, 42, 27, 182, 1, 36, 172]
abbrev dktX6_stand_1 : List UInt8 := dkwX6_stand_1 ++ []
def dkwX6_stand_0 : List UInt8 := [42, 27, 4, 17, 39, 15, 184, 0, 45, 154, 0, 7, 4, 167, 0, 4, 3, 181, 0, 42, 42, 180, 0, 42]
abbrev dktX6_stand_0 : List UInt8 := dkwX6_stand_0 ++ dktX6_stand_1
theorem dksX6_stand_0 : cX6_stand.data.toList.drop 0 = dktX6_stand_0 := by decide +kernel
theorem dksX6_stand_1 : cX6_stand.data.toList.drop 24 = dktX6_stand_1 := dk_seg dksX6_stand_0 24 rfl rfl
theorem dX6_stand_0 : decode cX6_stand 0 = .ok (.aload_n 0, 1) := dk_42 (dk_at dksX6_stand_0 0 rfl rfl)
theorem dX6_stand_1 : decode cX6_stand 1 = .ok (.iload_n 1, 1) := dk_27 (dk_at dksX6_stand_0 1 rfl rfl)
theorem dX6_stand_2 : decode cX6_stand 2 = .ok (.iconst 1, 1) := dk_4 (dk_at dksX6_stand_0 2 rfl rfl)
theorem dX6_stand_3 : decode cX6_stand 3 = .ok (.sipush 9999, 3) := dk_17 39 15 (dk_at dksX6_stand_0 3 rfl rfl)
theorem dX6_stand_6 : decode cX6_stand 6 = .ok (.invokestatic 45, 3) := dk_184 0 45 (dk_at dksX6_stand_0 6 rfl rfl)
theorem dX6_stand_9 : decode cX6_stand 9 = .ok (.ifCond .ne 7, 3) := dk_154 0 7 (dk_at dksX6_stand_0 9 rfl rfl)
theorem dX6_stand_12 : decode cX6_stand 12 = .ok (.iconst 1, 1) := dk_4 (dk_at dksX6_stand_0 12 rfl rfl)
theorem dX6_stand_13 : decode cX6_stand 13 = .ok (.goto 4, 3) := dk_167 0 4 (dk_at dksX6_stand_0 13 rfl rfl)
theorem dX6_stand_16 : decode cX6_stand 16 = .ok (.iconst 0, 1) := dk_3 (dk_at dksX6_stand_0 16 rfl rfl)
theorem dX6_stand_17 : decode cX6_stand 17 = .ok (.putfield 42, 3) := dk_181 0 42 (dk_at dksX6_stand_0 17 rfl rfl)
theorem dX6_stand_20 : decode cX6_stand 20 = .ok (.aload_n 0, 1) := dk_42 (dk_at dksX6_stand_0 20 rfl rfl)
theorem dX6_stand_21 : decode cX6_stand 21 = .ok (.getfield 42, 3) := dk_180 0 42 (dk_at dksX6_stand_0 21 rfl rfl)
theorem dX6_stand_24 : decode cX6_stand 24 = .ok (.ifCond .le 7, 3) := dk_158 0 7 (dk_at dksX6_stand_1 0 rfl rfl)
theorem dX6_stand_27 : decode cX6_stand 27 = .ok (.iconst 0, 1) := dk_3 (dk_at dksX6_stand_1 3 rfl rfl)
theorem dX6_stand_28 : decode cX6_stand 28 = .ok (.goto 8, 3) := dk_167 0 8 (dk_at dksX6_stand_1 4 rfl rfl)
theorem dX6_stand_31 : decode cX6_stand 31 = .ok (.aload_n 0, 1) := dk_42 (dk_at dksX6_stand_1 7 rfl rfl)
theorem dX6_stand_32 : decode cX6_stand 32 = .ok (.iload_n 1, 1) := dk_27 (dk_at dksX6_stand_1 8 rfl rfl)
theorem dX6_stand_33 : decode cX6_stand 33 = .ok (.invokevirtual 292, 3) := dk_182 1 36 (dk_at dksX6_stand_1 9 rfl rfl)
theorem dX6_stand_36 : decode cX6_stand 36 = .ok (.ireturn, 1) := dk_172 (dk_at dksX6_stand_1 12 rfl rfl)
abbrev cX6_odds : ByteArray := prog_18_method_80_code
def yX6_odds : MethodName := ⟨RX6, "odds", "()I"⟩
def dkwX6_odds_0 : List UInt8 := [42, 3, 181, 0, 42, 42, 42, 42, 180, 0, 7, 7, 46, 182, 0, 252, 182, 1, 43, 172]
abbrev dktX6_odds_0 : List UInt8 := dkwX6_odds_0 ++ []
theorem dksX6_odds_0 : cX6_odds.data.toList.drop 0 = dktX6_odds_0 := by decide +kernel
theorem dX6_odds_0 : decode cX6_odds 0 = .ok (.aload_n 0, 1) := dk_42 (dk_at dksX6_odds_0 0 rfl rfl)
theorem dX6_odds_1 : decode cX6_odds 1 = .ok (.iconst 0, 1) := dk_3 (dk_at dksX6_odds_0 1 rfl rfl)
theorem dX6_odds_2 : decode cX6_odds 2 = .ok (.putfield 42, 3) := dk_181 0 42 (dk_at dksX6_odds_0 2 rfl rfl)
theorem dX6_odds_5 : decode cX6_odds 5 = .ok (.aload_n 0, 1) := dk_42 (dk_at dksX6_odds_0 5 rfl rfl)
theorem dX6_odds_6 : decode cX6_odds 6 = .ok (.aload_n 0, 1) := dk_42 (dk_at dksX6_odds_0 6 rfl rfl)
theorem dX6_odds_7 : decode cX6_odds 7 = .ok (.aload_n 0, 1) := dk_42 (dk_at dksX6_odds_0 7 rfl rfl)
theorem dX6_odds_8 : decode cX6_odds 8 = .ok (.getfield 7, 3) := dk_180 0 7 (dk_at dksX6_odds_0 8 rfl rfl)
theorem dX6_odds_11 : decode cX6_odds 11 = .ok (.iconst 4, 1) := dk_7 (dk_at dksX6_odds_0 11 rfl rfl)
theorem dX6_odds_12 : decode cX6_odds 12 = .ok (.iaload, 1) := dk_46 (dk_at dksX6_odds_0 12 rfl rfl)
theorem dX6_odds_13 : decode cX6_odds 13 = .ok (.invokevirtual 252, 3) := dk_182 0 252 (dk_at dksX6_odds_0 13 rfl rfl)
theorem dX6_odds_16 : decode cX6_odds 16 = .ok (.invokevirtual 299, 3) := dk_182 1 43 (dk_at dksX6_odds_0 16 rfl rfl)
theorem dX6_odds_19 : decode cX6_odds 19 = .ok (.ireturn, 1) := dk_172 (dk_at dksX6_odds_0 19 rfl rfl)
abbrev cX6_oddsOf : ByteArray := prog_18_method_79_code
def yX6_oddsOf : MethodName := ⟨RX6, "oddsOf", "(I)I"⟩
def dkwX6_oddsOf_3 : List UInt8 := [136, 172]
abbrev dktX6_oddsOf_3 : List UInt8 := dkwX6_oddsOf_3 ++ []
def dkwX6_oddsOf_2 : List UInt8 := [182, 1, 2, 100, 133, 105, 55, 4, 132, 6, 1, 167, 255, 209, 32, 22, 4, 101, 20, 1, 41, 105, 32, 109]
abbrev dktX6_oddsOf_2 : List UInt8 := dkwX6_oddsOf_2 ++ dktX6_oddsOf_3
def dkwX6_oddsOf_1 : List UInt8 := [184, 0, 53, 154, 0, 6, 167, 0, 24, 32, 20, 1, 39, 105, 65, 22, 4, 16, 10, 42, 21, 6]
abbrev dktX6_oddsOf_1 : List UInt8 := dkwX6_oddsOf_1 ++ dktX6_oddsOf_2
def dkwX6_oddsOf_0 : List UInt8 := [10, 65, 10, 55, 4, 3, 54, 6, 21, 6, 42, 180, 0, 7, 6, 46, 162, 0, 42, 27, 21, 6]
abbrev dktX6_oddsOf_0 : List UInt8 := dkwX6_oddsOf_0 ++ dktX6_oddsOf_1
theorem dksX6_oddsOf_0 : cX6_oddsOf.data.toList.drop 0 = dktX6_oddsOf_0 := by decide +kernel
theorem dksX6_oddsOf_1 : cX6_oddsOf.data.toList.drop 22 = dktX6_oddsOf_1 := dk_seg dksX6_oddsOf_0 22 rfl rfl
theorem dksX6_oddsOf_2 : cX6_oddsOf.data.toList.drop 44 = dktX6_oddsOf_2 := dk_seg dksX6_oddsOf_1 22 rfl rfl
theorem dksX6_oddsOf_3 : cX6_oddsOf.data.toList.drop 68 = dktX6_oddsOf_3 := dk_seg dksX6_oddsOf_2 24 rfl rfl
theorem dX6_oddsOf_0 : decode cX6_oddsOf 0 = .ok (.lconst 1, 1) := dk_10 (dk_at dksX6_oddsOf_0 0 rfl rfl)
theorem dX6_oddsOf_1 : decode cX6_oddsOf 1 = .ok (.lstore_n 2, 1) := dk_65 (dk_at dksX6_oddsOf_0 1 rfl rfl)
theorem dX6_oddsOf_2 : decode cX6_oddsOf 2 = .ok (.lconst 1, 1) := dk_10 (dk_at dksX6_oddsOf_0 2 rfl rfl)
theorem dX6_oddsOf_3 : decode cX6_oddsOf 3 = .ok (.lstore 4, 2) := dk_55 4 (dk_at dksX6_oddsOf_0 3 rfl rfl)
theorem dX6_oddsOf_5 : decode cX6_oddsOf 5 = .ok (.iconst 0, 1) := dk_3 (dk_at dksX6_oddsOf_0 5 rfl rfl)
theorem dX6_oddsOf_6 : decode cX6_oddsOf 6 = .ok (.istore 6, 2) := dk_54 6 (dk_at dksX6_oddsOf_0 6 rfl rfl)
theorem dX6_oddsOf_8 : decode cX6_oddsOf 8 = .ok (.iload 6, 2) := dk_21 6 (dk_at dksX6_oddsOf_0 8 rfl rfl)
theorem dX6_oddsOf_10 : decode cX6_oddsOf 10 = .ok (.aload_n 0, 1) := dk_42 (dk_at dksX6_oddsOf_0 10 rfl rfl)
theorem dX6_oddsOf_11 : decode cX6_oddsOf 11 = .ok (.getfield 7, 3) := dk_180 0 7 (dk_at dksX6_oddsOf_0 11 rfl rfl)
theorem dX6_oddsOf_14 : decode cX6_oddsOf 14 = .ok (.iconst 3, 1) := dk_6 (dk_at dksX6_oddsOf_0 14 rfl rfl)
theorem dX6_oddsOf_15 : decode cX6_oddsOf 15 = .ok (.iaload, 1) := dk_46 (dk_at dksX6_oddsOf_0 15 rfl rfl)
theorem dX6_oddsOf_16 : decode cX6_oddsOf 16 = .ok (.if_icmp .ge 42, 3) := dk_162 0 42 (dk_at dksX6_oddsOf_0 16 rfl rfl)
theorem dX6_oddsOf_19 : decode cX6_oddsOf 19 = .ok (.iload_n 1, 1) := dk_27 (dk_at dksX6_oddsOf_0 19 rfl rfl)
theorem dX6_oddsOf_20 : decode cX6_oddsOf 20 = .ok (.iload 6, 2) := dk_21 6 (dk_at dksX6_oddsOf_0 20 rfl rfl)
theorem dX6_oddsOf_22 : decode cX6_oddsOf 22 = .ok (.invokestatic 53, 3) := dk_184 0 53 (dk_at dksX6_oddsOf_1 0 rfl rfl)
theorem dX6_oddsOf_25 : decode cX6_oddsOf 25 = .ok (.ifCond .ne 6, 3) := dk_154 0 6 (dk_at dksX6_oddsOf_1 3 rfl rfl)
theorem dX6_oddsOf_28 : decode cX6_oddsOf 28 = .ok (.goto 24, 3) := dk_167 0 24 (dk_at dksX6_oddsOf_1 6 rfl rfl)
theorem dX6_oddsOf_31 : decode cX6_oddsOf 31 = .ok (.lload_n 2, 1) := dk_32 (dk_at dksX6_oddsOf_1 9 rfl rfl)
theorem dX6_oddsOf_32 : decode cX6_oddsOf 32 = .ok (.ldc2_w 295, 3) := dk_20 1 39 (dk_at dksX6_oddsOf_1 10 rfl rfl)
theorem dX6_oddsOf_35 : decode cX6_oddsOf 35 = .ok (.lmul, 1) := dk_105 (dk_at dksX6_oddsOf_1 13 rfl rfl)
theorem dX6_oddsOf_36 : decode cX6_oddsOf 36 = .ok (.lstore_n 2, 1) := dk_65 (dk_at dksX6_oddsOf_1 14 rfl rfl)
theorem dX6_oddsOf_37 : decode cX6_oddsOf 37 = .ok (.lload 4, 2) := dk_22 4 (dk_at dksX6_oddsOf_1 15 rfl rfl)
theorem dX6_oddsOf_39 : decode cX6_oddsOf 39 = .ok (.bipush 10, 2) := dk_16 10 (dk_at dksX6_oddsOf_1 17 rfl rfl)
theorem dX6_oddsOf_41 : decode cX6_oddsOf 41 = .ok (.aload_n 0, 1) := dk_42 (dk_at dksX6_oddsOf_1 19 rfl rfl)
theorem dX6_oddsOf_42 : decode cX6_oddsOf 42 = .ok (.iload 6, 2) := dk_21 6 (dk_at dksX6_oddsOf_1 20 rfl rfl)
theorem dX6_oddsOf_44 : decode cX6_oddsOf 44 = .ok (.invokevirtual 258, 3) := dk_182 1 2 (dk_at dksX6_oddsOf_2 0 rfl rfl)
theorem dX6_oddsOf_47 : decode cX6_oddsOf 47 = .ok (.isub, 1) := dk_100 (dk_at dksX6_oddsOf_2 3 rfl rfl)
theorem dX6_oddsOf_48 : decode cX6_oddsOf 48 = .ok (.i2l, 1) := dk_133 (dk_at dksX6_oddsOf_2 4 rfl rfl)
theorem dX6_oddsOf_49 : decode cX6_oddsOf 49 = .ok (.lmul, 1) := dk_105 (dk_at dksX6_oddsOf_2 5 rfl rfl)
theorem dX6_oddsOf_50 : decode cX6_oddsOf 50 = .ok (.lstore 4, 2) := dk_55 4 (dk_at dksX6_oddsOf_2 6 rfl rfl)
theorem dX6_oddsOf_52 : decode cX6_oddsOf 52 = .ok (.iinc 6 1, 3) := dk_132 6 1 (dk_at dksX6_oddsOf_2 8 rfl rfl)
theorem dX6_oddsOf_55 : decode cX6_oddsOf 55 = .ok (.goto (-47), 3) := dk_167 255 209 (dk_at dksX6_oddsOf_2 11 rfl rfl)
theorem dX6_oddsOf_58 : decode cX6_oddsOf 58 = .ok (.lload_n 2, 1) := dk_32 (dk_at dksX6_oddsOf_2 14 rfl rfl)
theorem dX6_oddsOf_59 : decode cX6_oddsOf 59 = .ok (.lload 4, 2) := dk_22 4 (dk_at dksX6_oddsOf_2 15 rfl rfl)
theorem dX6_oddsOf_61 : decode cX6_oddsOf 61 = .ok (.lsub, 1) := dk_101 (dk_at dksX6_oddsOf_2 17 rfl rfl)
theorem dX6_oddsOf_62 : decode cX6_oddsOf 62 = .ok (.ldc2_w 297, 3) := dk_20 1 41 (dk_at dksX6_oddsOf_2 18 rfl rfl)
theorem dX6_oddsOf_65 : decode cX6_oddsOf 65 = .ok (.lmul, 1) := dk_105 (dk_at dksX6_oddsOf_2 21 rfl rfl)
theorem dX6_oddsOf_66 : decode cX6_oddsOf 66 = .ok (.lload_n 2, 1) := dk_32 (dk_at dksX6_oddsOf_2 22 rfl rfl)
theorem dX6_oddsOf_67 : decode cX6_oddsOf 67 = .ok (.ldiv, 1) := dk_109 (dk_at dksX6_oddsOf_2 23 rfl rfl)
theorem dX6_oddsOf_68 : decode cX6_oddsOf 68 = .ok (.l2i, 1) := dk_136 (dk_at dksX6_oddsOf_3 0 rfl rfl)
theorem dX6_oddsOf_69 : decode cX6_oddsOf 69 = .ok (.ireturn, 1) := dk_172 (dk_at dksX6_oddsOf_3 1 rfl rfl)
abbrev cX6_send : ByteArray := prog_18_method_81_code
def yX6_send : MethodName := ⟨RX6, "send", "()I"⟩
def dkwX6_send_0 : List UInt8 := [42, 3, 181, 0, 42, 42, 42, 180, 0, 7, 7, 46, 182, 0, 252, 172]
abbrev dktX6_send_0 : List UInt8 := dkwX6_send_0 ++ []
theorem dksX6_send_0 : cX6_send.data.toList.drop 0 = dktX6_send_0 := by decide +kernel
theorem dX6_send_0 : decode cX6_send 0 = .ok (.aload_n 0, 1) := dk_42 (dk_at dksX6_send_0 0 rfl rfl)
theorem dX6_send_1 : decode cX6_send 1 = .ok (.iconst 0, 1) := dk_3 (dk_at dksX6_send_0 1 rfl rfl)
theorem dX6_send_2 : decode cX6_send 2 = .ok (.putfield 42, 3) := dk_181 0 42 (dk_at dksX6_send_0 2 rfl rfl)
theorem dX6_send_5 : decode cX6_send 5 = .ok (.aload_n 0, 1) := dk_42 (dk_at dksX6_send_0 5 rfl rfl)
theorem dX6_send_6 : decode cX6_send 6 = .ok (.aload_n 0, 1) := dk_42 (dk_at dksX6_send_0 6 rfl rfl)
theorem dX6_send_7 : decode cX6_send 7 = .ok (.getfield 7, 3) := dk_180 0 7 (dk_at dksX6_send_0 7 rfl rfl)
theorem dX6_send_10 : decode cX6_send 10 = .ok (.iconst 4, 1) := dk_7 (dk_at dksX6_send_0 10 rfl rfl)
theorem dX6_send_11 : decode cX6_send 11 = .ok (.iaload, 1) := dk_46 (dk_at dksX6_send_0 11 rfl rfl)
theorem dX6_send_12 : decode cX6_send 12 = .ok (.invokevirtual 252, 3) := dk_182 0 252 (dk_at dksX6_send_0 12 rfl rfl)
theorem dX6_send_15 : decode cX6_send 15 = .ok (.ireturn, 1) := dk_172 (dk_at dksX6_send_0 15 rfl rfl)
abbrev cX6_sent : ByteArray := prog_18_method_82_code
def yX6_sent : MethodName := ⟨RX6, "sent", "(I)I"⟩
def dkwX6_sent_6 : List UInt8 := [126, 182, 1, 43, 27, 163, 0, 6, 21, 4, 62, 132, 4, 1, 167, 255, 143, 29, 172]
abbrev dktX6_sent_6 : List UInt8 := dkwX6_sent_6 ++ []
def dkwX6_sent_5 : List UInt8 := [4, 167, 0, 4, 3, 54, 5, 132, 6, 1, 167, 255, 211, 21, 5, 153, 0, 20, 42, 28, 21, 4, 2, 130]
abbrev dktX6_sent_5 : List UInt8 := dkwX6_sent_5 ++ dktX6_sent_6
def dkwX6_sent_4 : List UInt8 := [21, 5, 153, 0, 35, 21, 4, 21, 6, 184, 0, 53, 153, 0, 12, 42, 21, 6, 182, 0, 236, 153, 0, 7]
abbrev dktX6_sent_4 : List UInt8 := dkwX6_sent_4 ++ dktX6_sent_5
def dkwX6_sent_3 : List UInt8 := [162, 0, 7, 4, 167, 0, 4, 3, 54, 5, 3, 54, 6, 21, 6, 42, 180, 0, 7, 6, 46, 162, 0, 40]
abbrev dktX6_sent_3 : List UInt8 := dkwX6_sent_3 ++ dktX6_sent_4
def dkwX6_sent_2 : List UInt8 := [42, 180, 0, 7, 6, 46, 120, 162, 0, 106, 29, 2, 159, 0, 15, 21, 4, 184, 0, 57, 29, 184, 0, 57]
abbrev dktX6_sent_2 : List UInt8 := dkwX6_sent_2 ++ dktX6_sent_3
def dkwX6_sent_1 : List UInt8 := [158, 0, 5, 3, 172, 42, 42, 180, 0, 7, 7, 46, 182, 0, 252, 61, 2, 62, 3, 54, 4, 21, 4, 4]
abbrev dktX6_sent_1 : List UInt8 := dkwX6_sent_1 ++ dktX6_sent_2
def dkwX6_sent_0 : List UInt8 := [42, 27, 3, 17, 39, 15, 184, 0, 45, 154, 0, 7, 4, 167, 0, 4, 3, 181, 0, 42, 42, 180, 0, 42]
abbrev dktX6_sent_0 : List UInt8 := dkwX6_sent_0 ++ dktX6_sent_1
theorem dksX6_sent_0 : cX6_sent.data.toList.drop 0 = dktX6_sent_0 := by decide +kernel
theorem dksX6_sent_1 : cX6_sent.data.toList.drop 24 = dktX6_sent_1 := dk_seg dksX6_sent_0 24 rfl rfl
theorem dksX6_sent_2 : cX6_sent.data.toList.drop 48 = dktX6_sent_2 := dk_seg dksX6_sent_1 24 rfl rfl
theorem dksX6_sent_3 : cX6_sent.data.toList.drop 72 = dktX6_sent_3 := dk_seg dksX6_sent_2 24 rfl rfl
theorem dksX6_sent_4 : cX6_sent.data.toList.drop 96 = dktX6_sent_4 := dk_seg dksX6_sent_3 24 rfl rfl
theorem dksX6_sent_5 : cX6_sent.data.toList.drop 120 = dktX6_sent_5 := dk_seg dksX6_sent_4 24 rfl rfl
theorem dksX6_sent_6 : cX6_sent.data.toList.drop 144 = dktX6_sent_6 := dk_seg dksX6_sent_5 24 rfl rfl
theorem dX6_sent_0 : decode cX6_sent 0 = .ok (.aload_n 0, 1) := dk_42 (dk_at dksX6_sent_0 0 rfl rfl)
theorem dX6_sent_1 : decode cX6_sent 1 = .ok (.iload_n 1, 1) := dk_27 (dk_at dksX6_sent_0 1 rfl rfl)
theorem dX6_sent_2 : decode cX6_sent 2 = .ok (.iconst 0, 1) := dk_3 (dk_at dksX6_sent_0 2 rfl rfl)
theorem dX6_sent_3 : decode cX6_sent 3 = .ok (.sipush 9999, 3) := dk_17 39 15 (dk_at dksX6_sent_0 3 rfl rfl)
theorem dX6_sent_6 : decode cX6_sent 6 = .ok (.invokestatic 45, 3) := dk_184 0 45 (dk_at dksX6_sent_0 6 rfl rfl)
theorem dX6_sent_9 : decode cX6_sent 9 = .ok (.ifCond .ne 7, 3) := dk_154 0 7 (dk_at dksX6_sent_0 9 rfl rfl)
theorem dX6_sent_12 : decode cX6_sent 12 = .ok (.iconst 1, 1) := dk_4 (dk_at dksX6_sent_0 12 rfl rfl)
theorem dX6_sent_13 : decode cX6_sent 13 = .ok (.goto 4, 3) := dk_167 0 4 (dk_at dksX6_sent_0 13 rfl rfl)
theorem dX6_sent_16 : decode cX6_sent 16 = .ok (.iconst 0, 1) := dk_3 (dk_at dksX6_sent_0 16 rfl rfl)
theorem dX6_sent_17 : decode cX6_sent 17 = .ok (.putfield 42, 3) := dk_181 0 42 (dk_at dksX6_sent_0 17 rfl rfl)
theorem dX6_sent_20 : decode cX6_sent 20 = .ok (.aload_n 0, 1) := dk_42 (dk_at dksX6_sent_0 20 rfl rfl)
theorem dX6_sent_21 : decode cX6_sent 21 = .ok (.getfield 42, 3) := dk_180 0 42 (dk_at dksX6_sent_0 21 rfl rfl)
theorem dX6_sent_24 : decode cX6_sent 24 = .ok (.ifCond .le 5, 3) := dk_158 0 5 (dk_at dksX6_sent_1 0 rfl rfl)
theorem dX6_sent_27 : decode cX6_sent 27 = .ok (.iconst 0, 1) := dk_3 (dk_at dksX6_sent_1 3 rfl rfl)
theorem dX6_sent_28 : decode cX6_sent 28 = .ok (.ireturn, 1) := dk_172 (dk_at dksX6_sent_1 4 rfl rfl)
theorem dX6_sent_29 : decode cX6_sent 29 = .ok (.aload_n 0, 1) := dk_42 (dk_at dksX6_sent_1 5 rfl rfl)
theorem dX6_sent_30 : decode cX6_sent 30 = .ok (.aload_n 0, 1) := dk_42 (dk_at dksX6_sent_1 6 rfl rfl)
theorem dX6_sent_31 : decode cX6_sent 31 = .ok (.getfield 7, 3) := dk_180 0 7 (dk_at dksX6_sent_1 7 rfl rfl)
theorem dX6_sent_34 : decode cX6_sent 34 = .ok (.iconst 4, 1) := dk_7 (dk_at dksX6_sent_1 10 rfl rfl)
theorem dX6_sent_35 : decode cX6_sent 35 = .ok (.iaload, 1) := dk_46 (dk_at dksX6_sent_1 11 rfl rfl)
theorem dX6_sent_36 : decode cX6_sent 36 = .ok (.invokevirtual 252, 3) := dk_182 0 252 (dk_at dksX6_sent_1 12 rfl rfl)
theorem dX6_sent_39 : decode cX6_sent 39 = .ok (.istore_n 2, 1) := dk_61 (dk_at dksX6_sent_1 15 rfl rfl)
theorem dX6_sent_40 : decode cX6_sent 40 = .ok (.iconst (-1), 1) := dk_2 (dk_at dksX6_sent_1 16 rfl rfl)
theorem dX6_sent_41 : decode cX6_sent 41 = .ok (.istore_n 3, 1) := dk_62 (dk_at dksX6_sent_1 17 rfl rfl)
theorem dX6_sent_42 : decode cX6_sent 42 = .ok (.iconst 0, 1) := dk_3 (dk_at dksX6_sent_1 18 rfl rfl)
theorem dX6_sent_43 : decode cX6_sent 43 = .ok (.istore 4, 2) := dk_54 4 (dk_at dksX6_sent_1 19 rfl rfl)
theorem dX6_sent_45 : decode cX6_sent 45 = .ok (.iload 4, 2) := dk_21 4 (dk_at dksX6_sent_1 21 rfl rfl)
theorem dX6_sent_47 : decode cX6_sent 47 = .ok (.iconst 1, 1) := dk_4 (dk_at dksX6_sent_1 23 rfl rfl)
theorem dX6_sent_48 : decode cX6_sent 48 = .ok (.aload_n 0, 1) := dk_42 (dk_at dksX6_sent_2 0 rfl rfl)
theorem dX6_sent_49 : decode cX6_sent 49 = .ok (.getfield 7, 3) := dk_180 0 7 (dk_at dksX6_sent_2 1 rfl rfl)
theorem dX6_sent_52 : decode cX6_sent 52 = .ok (.iconst 3, 1) := dk_6 (dk_at dksX6_sent_2 4 rfl rfl)
theorem dX6_sent_53 : decode cX6_sent 53 = .ok (.iaload, 1) := dk_46 (dk_at dksX6_sent_2 5 rfl rfl)
theorem dX6_sent_54 : decode cX6_sent 54 = .ok (.ishl, 1) := dk_120 (dk_at dksX6_sent_2 6 rfl rfl)
theorem dX6_sent_55 : decode cX6_sent 55 = .ok (.if_icmp .ge 106, 3) := dk_162 0 106 (dk_at dksX6_sent_2 7 rfl rfl)
theorem dX6_sent_58 : decode cX6_sent 58 = .ok (.iload_n 3, 1) := dk_29 (dk_at dksX6_sent_2 10 rfl rfl)
theorem dX6_sent_59 : decode cX6_sent 59 = .ok (.iconst (-1), 1) := dk_2 (dk_at dksX6_sent_2 11 rfl rfl)
theorem dX6_sent_60 : decode cX6_sent 60 = .ok (.if_icmp .eq 15, 3) := dk_159 0 15 (dk_at dksX6_sent_2 12 rfl rfl)
theorem dX6_sent_63 : decode cX6_sent 63 = .ok (.iload 4, 2) := dk_21 4 (dk_at dksX6_sent_2 15 rfl rfl)
theorem dX6_sent_65 : decode cX6_sent 65 = .ok (.invokestatic 57, 3) := dk_184 0 57 (dk_at dksX6_sent_2 17 rfl rfl)
theorem dX6_sent_68 : decode cX6_sent 68 = .ok (.iload_n 3, 1) := dk_29 (dk_at dksX6_sent_2 20 rfl rfl)
theorem dX6_sent_69 : decode cX6_sent 69 = .ok (.invokestatic 57, 3) := dk_184 0 57 (dk_at dksX6_sent_2 21 rfl rfl)
theorem dX6_sent_72 : decode cX6_sent 72 = .ok (.if_icmp .ge 7, 3) := dk_162 0 7 (dk_at dksX6_sent_3 0 rfl rfl)
theorem dX6_sent_75 : decode cX6_sent 75 = .ok (.iconst 1, 1) := dk_4 (dk_at dksX6_sent_3 3 rfl rfl)
theorem dX6_sent_76 : decode cX6_sent 76 = .ok (.goto 4, 3) := dk_167 0 4 (dk_at dksX6_sent_3 4 rfl rfl)
theorem dX6_sent_79 : decode cX6_sent 79 = .ok (.iconst 0, 1) := dk_3 (dk_at dksX6_sent_3 7 rfl rfl)
theorem dX6_sent_80 : decode cX6_sent 80 = .ok (.istore 5, 2) := dk_54 5 (dk_at dksX6_sent_3 8 rfl rfl)
theorem dX6_sent_82 : decode cX6_sent 82 = .ok (.iconst 0, 1) := dk_3 (dk_at dksX6_sent_3 10 rfl rfl)
theorem dX6_sent_83 : decode cX6_sent 83 = .ok (.istore 6, 2) := dk_54 6 (dk_at dksX6_sent_3 11 rfl rfl)
theorem dX6_sent_85 : decode cX6_sent 85 = .ok (.iload 6, 2) := dk_21 6 (dk_at dksX6_sent_3 13 rfl rfl)
theorem dX6_sent_87 : decode cX6_sent 87 = .ok (.aload_n 0, 1) := dk_42 (dk_at dksX6_sent_3 15 rfl rfl)
theorem dX6_sent_88 : decode cX6_sent 88 = .ok (.getfield 7, 3) := dk_180 0 7 (dk_at dksX6_sent_3 16 rfl rfl)
theorem dX6_sent_91 : decode cX6_sent 91 = .ok (.iconst 3, 1) := dk_6 (dk_at dksX6_sent_3 19 rfl rfl)
theorem dX6_sent_92 : decode cX6_sent 92 = .ok (.iaload, 1) := dk_46 (dk_at dksX6_sent_3 20 rfl rfl)
theorem dX6_sent_93 : decode cX6_sent 93 = .ok (.if_icmp .ge 40, 3) := dk_162 0 40 (dk_at dksX6_sent_3 21 rfl rfl)
theorem dX6_sent_96 : decode cX6_sent 96 = .ok (.iload 5, 2) := dk_21 5 (dk_at dksX6_sent_4 0 rfl rfl)
theorem dX6_sent_98 : decode cX6_sent 98 = .ok (.ifCond .eq 35, 3) := dk_153 0 35 (dk_at dksX6_sent_4 2 rfl rfl)
theorem dX6_sent_101 : decode cX6_sent 101 = .ok (.iload 4, 2) := dk_21 4 (dk_at dksX6_sent_4 5 rfl rfl)
theorem dX6_sent_103 : decode cX6_sent 103 = .ok (.iload 6, 2) := dk_21 6 (dk_at dksX6_sent_4 7 rfl rfl)
theorem dX6_sent_105 : decode cX6_sent 105 = .ok (.invokestatic 53, 3) := dk_184 0 53 (dk_at dksX6_sent_4 9 rfl rfl)
theorem dX6_sent_108 : decode cX6_sent 108 = .ok (.ifCond .eq 12, 3) := dk_153 0 12 (dk_at dksX6_sent_4 12 rfl rfl)
theorem dX6_sent_111 : decode cX6_sent 111 = .ok (.aload_n 0, 1) := dk_42 (dk_at dksX6_sent_4 15 rfl rfl)
theorem dX6_sent_112 : decode cX6_sent 112 = .ok (.iload 6, 2) := dk_21 6 (dk_at dksX6_sent_4 16 rfl rfl)
theorem dX6_sent_114 : decode cX6_sent 114 = .ok (.invokevirtual 236, 3) := dk_182 0 236 (dk_at dksX6_sent_4 18 rfl rfl)
theorem dX6_sent_117 : decode cX6_sent 117 = .ok (.ifCond .eq 7, 3) := dk_153 0 7 (dk_at dksX6_sent_4 21 rfl rfl)
theorem dX6_sent_120 : decode cX6_sent 120 = .ok (.iconst 1, 1) := dk_4 (dk_at dksX6_sent_5 0 rfl rfl)
theorem dX6_sent_121 : decode cX6_sent 121 = .ok (.goto 4, 3) := dk_167 0 4 (dk_at dksX6_sent_5 1 rfl rfl)
theorem dX6_sent_124 : decode cX6_sent 124 = .ok (.iconst 0, 1) := dk_3 (dk_at dksX6_sent_5 4 rfl rfl)
theorem dX6_sent_125 : decode cX6_sent 125 = .ok (.istore 5, 2) := dk_54 5 (dk_at dksX6_sent_5 5 rfl rfl)
theorem dX6_sent_127 : decode cX6_sent 127 = .ok (.iinc 6 1, 3) := dk_132 6 1 (dk_at dksX6_sent_5 7 rfl rfl)
theorem dX6_sent_130 : decode cX6_sent 130 = .ok (.goto (-45), 3) := dk_167 255 211 (dk_at dksX6_sent_5 10 rfl rfl)
theorem dX6_sent_133 : decode cX6_sent 133 = .ok (.iload 5, 2) := dk_21 5 (dk_at dksX6_sent_5 13 rfl rfl)
theorem dX6_sent_135 : decode cX6_sent 135 = .ok (.ifCond .eq 20, 3) := dk_153 0 20 (dk_at dksX6_sent_5 15 rfl rfl)
theorem dX6_sent_138 : decode cX6_sent 138 = .ok (.aload_n 0, 1) := dk_42 (dk_at dksX6_sent_5 18 rfl rfl)
theorem dX6_sent_139 : decode cX6_sent 139 = .ok (.iload_n 2, 1) := dk_28 (dk_at dksX6_sent_5 19 rfl rfl)
theorem dX6_sent_140 : decode cX6_sent 140 = .ok (.iload 4, 2) := dk_21 4 (dk_at dksX6_sent_5 20 rfl rfl)
theorem dX6_sent_142 : decode cX6_sent 142 = .ok (.iconst (-1), 1) := dk_2 (dk_at dksX6_sent_5 22 rfl rfl)
theorem dX6_sent_143 : decode cX6_sent 143 = .ok (.ixor, 1) := dk_130 (dk_at dksX6_sent_5 23 rfl rfl)
theorem dX6_sent_144 : decode cX6_sent 144 = .ok (.iand, 1) := dk_126 (dk_at dksX6_sent_6 0 rfl rfl)
theorem dX6_sent_145 : decode cX6_sent 145 = .ok (.invokevirtual 299, 3) := dk_182 1 43 (dk_at dksX6_sent_6 1 rfl rfl)
theorem dX6_sent_148 : decode cX6_sent 148 = .ok (.iload_n 1, 1) := dk_27 (dk_at dksX6_sent_6 4 rfl rfl)
theorem dX6_sent_149 : decode cX6_sent 149 = .ok (.if_icmp .gt 6, 3) := dk_163 0 6 (dk_at dksX6_sent_6 5 rfl rfl)
theorem dX6_sent_152 : decode cX6_sent 152 = .ok (.iload 4, 2) := dk_21 4 (dk_at dksX6_sent_6 8 rfl rfl)
theorem dX6_sent_154 : decode cX6_sent 154 = .ok (.istore_n 3, 1) := dk_62 (dk_at dksX6_sent_6 10 rfl rfl)
theorem dX6_sent_155 : decode cX6_sent 155 = .ok (.iinc 4 1, 3) := dk_132 4 1 (dk_at dksX6_sent_6 11 rfl rfl)
theorem dX6_sent_158 : decode cX6_sent 158 = .ok (.goto (-113), 3) := dk_167 255 143 (dk_at dksX6_sent_6 14 rfl rfl)
theorem dX6_sent_161 : decode cX6_sent 161 = .ok (.iload_n 3, 1) := dk_29 (dk_at dksX6_sent_6 17 rfl rfl)
theorem dX6_sent_162 : decode cX6_sent 162 = .ok (.ireturn, 1) := dk_172 (dk_at dksX6_sent_6 18 rfl rfl)
abbrev cX6_mend : ByteArray := prog_18_method_83_code
def yX6_mend : MethodName := ⟨RX6, "mend", "()I"⟩
def dkwX6_mend_2 : List UInt8 := [167, 255, 217, 27, 172]
abbrev dktX6_mend_2 : List UInt8 := dkwX6_mend_2 ++ []
def dkwX6_mend_1 : List UInt8 := [182, 0, 229, 153, 0, 15, 42, 28, 182, 1, 23, 153, 0, 7, 4, 167, 0, 4, 3, 96, 60, 132, 2, 1]
abbrev dktX6_mend_1 : List UInt8 := dkwX6_mend_1 ++ dktX6_mend_2
def dkwX6_mend_0 : List UInt8 := [42, 3, 181, 0, 42, 3, 60, 3, 61, 28, 16, 8, 162, 0, 39, 27, 42, 28, 42, 180, 0, 7, 7, 46]
abbrev dktX6_mend_0 : List UInt8 := dkwX6_mend_0 ++ dktX6_mend_1
theorem dksX6_mend_0 : cX6_mend.data.toList.drop 0 = dktX6_mend_0 := by decide +kernel
theorem dksX6_mend_1 : cX6_mend.data.toList.drop 24 = dktX6_mend_1 := dk_seg dksX6_mend_0 24 rfl rfl
theorem dksX6_mend_2 : cX6_mend.data.toList.drop 48 = dktX6_mend_2 := dk_seg dksX6_mend_1 24 rfl rfl
theorem dX6_mend_0 : decode cX6_mend 0 = .ok (.aload_n 0, 1) := dk_42 (dk_at dksX6_mend_0 0 rfl rfl)
theorem dX6_mend_1 : decode cX6_mend 1 = .ok (.iconst 0, 1) := dk_3 (dk_at dksX6_mend_0 1 rfl rfl)
theorem dX6_mend_2 : decode cX6_mend 2 = .ok (.putfield 42, 3) := dk_181 0 42 (dk_at dksX6_mend_0 2 rfl rfl)
theorem dX6_mend_5 : decode cX6_mend 5 = .ok (.iconst 0, 1) := dk_3 (dk_at dksX6_mend_0 5 rfl rfl)
theorem dX6_mend_6 : decode cX6_mend 6 = .ok (.istore_n 1, 1) := dk_60 (dk_at dksX6_mend_0 6 rfl rfl)
theorem dX6_mend_7 : decode cX6_mend 7 = .ok (.iconst 0, 1) := dk_3 (dk_at dksX6_mend_0 7 rfl rfl)
theorem dX6_mend_8 : decode cX6_mend 8 = .ok (.istore_n 2, 1) := dk_61 (dk_at dksX6_mend_0 8 rfl rfl)
theorem dX6_mend_9 : decode cX6_mend 9 = .ok (.iload_n 2, 1) := dk_28 (dk_at dksX6_mend_0 9 rfl rfl)
theorem dX6_mend_10 : decode cX6_mend 10 = .ok (.bipush 8, 2) := dk_16 8 (dk_at dksX6_mend_0 10 rfl rfl)
theorem dX6_mend_12 : decode cX6_mend 12 = .ok (.if_icmp .ge 39, 3) := dk_162 0 39 (dk_at dksX6_mend_0 12 rfl rfl)
theorem dX6_mend_15 : decode cX6_mend 15 = .ok (.iload_n 1, 1) := dk_27 (dk_at dksX6_mend_0 15 rfl rfl)
theorem dX6_mend_16 : decode cX6_mend 16 = .ok (.aload_n 0, 1) := dk_42 (dk_at dksX6_mend_0 16 rfl rfl)
theorem dX6_mend_17 : decode cX6_mend 17 = .ok (.iload_n 2, 1) := dk_28 (dk_at dksX6_mend_0 17 rfl rfl)
theorem dX6_mend_18 : decode cX6_mend 18 = .ok (.aload_n 0, 1) := dk_42 (dk_at dksX6_mend_0 18 rfl rfl)
theorem dX6_mend_19 : decode cX6_mend 19 = .ok (.getfield 7, 3) := dk_180 0 7 (dk_at dksX6_mend_0 19 rfl rfl)
theorem dX6_mend_22 : decode cX6_mend 22 = .ok (.iconst 4, 1) := dk_7 (dk_at dksX6_mend_0 22 rfl rfl)
theorem dX6_mend_23 : decode cX6_mend 23 = .ok (.iaload, 1) := dk_46 (dk_at dksX6_mend_0 23 rfl rfl)
theorem dX6_mend_24 : decode cX6_mend 24 = .ok (.invokevirtual 229, 3) := dk_182 0 229 (dk_at dksX6_mend_1 0 rfl rfl)
theorem dX6_mend_27 : decode cX6_mend 27 = .ok (.ifCond .eq 15, 3) := dk_153 0 15 (dk_at dksX6_mend_1 3 rfl rfl)
theorem dX6_mend_30 : decode cX6_mend 30 = .ok (.aload_n 0, 1) := dk_42 (dk_at dksX6_mend_1 6 rfl rfl)
theorem dX6_mend_31 : decode cX6_mend 31 = .ok (.iload_n 2, 1) := dk_28 (dk_at dksX6_mend_1 7 rfl rfl)
theorem dX6_mend_32 : decode cX6_mend 32 = .ok (.invokevirtual 279, 3) := dk_182 1 23 (dk_at dksX6_mend_1 8 rfl rfl)
theorem dX6_mend_35 : decode cX6_mend 35 = .ok (.ifCond .eq 7, 3) := dk_153 0 7 (dk_at dksX6_mend_1 11 rfl rfl)
theorem dX6_mend_38 : decode cX6_mend 38 = .ok (.iconst 1, 1) := dk_4 (dk_at dksX6_mend_1 14 rfl rfl)
theorem dX6_mend_39 : decode cX6_mend 39 = .ok (.goto 4, 3) := dk_167 0 4 (dk_at dksX6_mend_1 15 rfl rfl)
theorem dX6_mend_42 : decode cX6_mend 42 = .ok (.iconst 0, 1) := dk_3 (dk_at dksX6_mend_1 18 rfl rfl)
theorem dX6_mend_43 : decode cX6_mend 43 = .ok (.iadd, 1) := dk_96 (dk_at dksX6_mend_1 19 rfl rfl)
theorem dX6_mend_44 : decode cX6_mend 44 = .ok (.istore_n 1, 1) := dk_60 (dk_at dksX6_mend_1 20 rfl rfl)
theorem dX6_mend_45 : decode cX6_mend 45 = .ok (.iinc 2 1, 3) := dk_132 2 1 (dk_at dksX6_mend_1 21 rfl rfl)
theorem dX6_mend_48 : decode cX6_mend 48 = .ok (.goto (-39), 3) := dk_167 255 217 (dk_at dksX6_mend_2 0 rfl rfl)
theorem dX6_mend_51 : decode cX6_mend 51 = .ok (.iload_n 1, 1) := dk_27 (dk_at dksX6_mend_2 3 rfl rfl)
theorem dX6_mend_52 : decode cX6_mend 52 = .ok (.ireturn, 1) := dk_172 (dk_at dksX6_mend_2 4 rfl rfl)
abbrev cX6_shut : ByteArray := prog_18_method_85_code
def yX6_shut : MethodName := ⟨RX6, "shut", "()I"⟩
def dkwX6_shut_2 : List UInt8 := [167, 255, 220, 27, 172]
abbrev dktX6_shut_2 : List UInt8 := dkwX6_shut_2 ++ []
def dkwX6_shut_1 : List UInt8 := [184, 0, 57, 27, 184, 0, 57, 162, 0, 13, 42, 28, 182, 1, 46, 153, 0, 5, 28, 60, 132, 2, 1]
abbrev dktX6_shut_1 : List UInt8 := dkwX6_shut_1 ++ dktX6_shut_2
def dkwX6_shut_0 : List UInt8 := [42, 3, 181, 0, 42, 2, 60, 3, 61, 28, 17, 1, 0, 162, 0, 35, 27, 2, 159, 0, 14, 28]
abbrev dktX6_shut_0 : List UInt8 := dkwX6_shut_0 ++ dktX6_shut_1
theorem dksX6_shut_0 : cX6_shut.data.toList.drop 0 = dktX6_shut_0 := by decide +kernel
theorem dksX6_shut_1 : cX6_shut.data.toList.drop 22 = dktX6_shut_1 := dk_seg dksX6_shut_0 22 rfl rfl
theorem dksX6_shut_2 : cX6_shut.data.toList.drop 45 = dktX6_shut_2 := dk_seg dksX6_shut_1 23 rfl rfl
theorem dX6_shut_0 : decode cX6_shut 0 = .ok (.aload_n 0, 1) := dk_42 (dk_at dksX6_shut_0 0 rfl rfl)
theorem dX6_shut_1 : decode cX6_shut 1 = .ok (.iconst 0, 1) := dk_3 (dk_at dksX6_shut_0 1 rfl rfl)
theorem dX6_shut_2 : decode cX6_shut 2 = .ok (.putfield 42, 3) := dk_181 0 42 (dk_at dksX6_shut_0 2 rfl rfl)
theorem dX6_shut_5 : decode cX6_shut 5 = .ok (.iconst (-1), 1) := dk_2 (dk_at dksX6_shut_0 5 rfl rfl)
theorem dX6_shut_6 : decode cX6_shut 6 = .ok (.istore_n 1, 1) := dk_60 (dk_at dksX6_shut_0 6 rfl rfl)
theorem dX6_shut_7 : decode cX6_shut 7 = .ok (.iconst 0, 1) := dk_3 (dk_at dksX6_shut_0 7 rfl rfl)
theorem dX6_shut_8 : decode cX6_shut 8 = .ok (.istore_n 2, 1) := dk_61 (dk_at dksX6_shut_0 8 rfl rfl)
theorem dX6_shut_9 : decode cX6_shut 9 = .ok (.iload_n 2, 1) := dk_28 (dk_at dksX6_shut_0 9 rfl rfl)
theorem dX6_shut_10 : decode cX6_shut 10 = .ok (.sipush 256, 3) := dk_17 1 0 (dk_at dksX6_shut_0 10 rfl rfl)
theorem dX6_shut_13 : decode cX6_shut 13 = .ok (.if_icmp .ge 35, 3) := dk_162 0 35 (dk_at dksX6_shut_0 13 rfl rfl)
theorem dX6_shut_16 : decode cX6_shut 16 = .ok (.iload_n 1, 1) := dk_27 (dk_at dksX6_shut_0 16 rfl rfl)
theorem dX6_shut_17 : decode cX6_shut 17 = .ok (.iconst (-1), 1) := dk_2 (dk_at dksX6_shut_0 17 rfl rfl)
theorem dX6_shut_18 : decode cX6_shut 18 = .ok (.if_icmp .eq 14, 3) := dk_159 0 14 (dk_at dksX6_shut_0 18 rfl rfl)
theorem dX6_shut_21 : decode cX6_shut 21 = .ok (.iload_n 2, 1) := dk_28 (dk_at dksX6_shut_0 21 rfl rfl)
theorem dX6_shut_22 : decode cX6_shut 22 = .ok (.invokestatic 57, 3) := dk_184 0 57 (dk_at dksX6_shut_1 0 rfl rfl)
theorem dX6_shut_25 : decode cX6_shut 25 = .ok (.iload_n 1, 1) := dk_27 (dk_at dksX6_shut_1 3 rfl rfl)
theorem dX6_shut_26 : decode cX6_shut 26 = .ok (.invokestatic 57, 3) := dk_184 0 57 (dk_at dksX6_shut_1 4 rfl rfl)
theorem dX6_shut_29 : decode cX6_shut 29 = .ok (.if_icmp .ge 13, 3) := dk_162 0 13 (dk_at dksX6_shut_1 7 rfl rfl)
theorem dX6_shut_32 : decode cX6_shut 32 = .ok (.aload_n 0, 1) := dk_42 (dk_at dksX6_shut_1 10 rfl rfl)
theorem dX6_shut_33 : decode cX6_shut 33 = .ok (.iload_n 2, 1) := dk_28 (dk_at dksX6_shut_1 11 rfl rfl)
theorem dX6_shut_34 : decode cX6_shut 34 = .ok (.invokevirtual 302, 3) := dk_182 1 46 (dk_at dksX6_shut_1 12 rfl rfl)
theorem dX6_shut_37 : decode cX6_shut 37 = .ok (.ifCond .eq 5, 3) := dk_153 0 5 (dk_at dksX6_shut_1 15 rfl rfl)
theorem dX6_shut_40 : decode cX6_shut 40 = .ok (.iload_n 2, 1) := dk_28 (dk_at dksX6_shut_1 18 rfl rfl)
theorem dX6_shut_41 : decode cX6_shut 41 = .ok (.istore_n 1, 1) := dk_60 (dk_at dksX6_shut_1 19 rfl rfl)
theorem dX6_shut_42 : decode cX6_shut 42 = .ok (.iinc 2 1, 3) := dk_132 2 1 (dk_at dksX6_shut_1 20 rfl rfl)
theorem dX6_shut_45 : decode cX6_shut 45 = .ok (.goto (-36), 3) := dk_167 255 220 (dk_at dksX6_shut_2 0 rfl rfl)
theorem dX6_shut_48 : decode cX6_shut 48 = .ok (.iload_n 1, 1) := dk_27 (dk_at dksX6_shut_2 3 rfl rfl)
theorem dX6_shut_49 : decode cX6_shut 49 = .ok (.ireturn, 1) := dk_172 (dk_at dksX6_shut_2 4 rfl rfl)
abbrev cX6_shuts : ByteArray := prog_18_method_84_code
def yX6_shuts : MethodName := ⟨RX6, "shuts", "(I)Z"⟩
def dkwX6_shuts_1 : List UInt8 := [46, 27, 2, 130, 126, 153, 0, 5, 3, 172, 132, 2, 1, 167, 255, 221, 4, 172]
abbrev dktX6_shuts_1 : List UInt8 := dkwX6_shuts_1 ++ []
def dkwX6_shuts_0 : List UInt8 := [3, 61, 28, 16, 8, 162, 0, 35, 27, 28, 184, 0, 53, 154, 0, 21, 42, 180, 0, 7, 16, 16, 28, 96]
abbrev dktX6_shuts_0 : List UInt8 := dkwX6_shuts_0 ++ dktX6_shuts_1
theorem dksX6_shuts_0 : cX6_shuts.data.toList.drop 0 = dktX6_shuts_0 := by decide +kernel
theorem dksX6_shuts_1 : cX6_shuts.data.toList.drop 24 = dktX6_shuts_1 := dk_seg dksX6_shuts_0 24 rfl rfl
theorem dX6_shuts_0 : decode cX6_shuts 0 = .ok (.iconst 0, 1) := dk_3 (dk_at dksX6_shuts_0 0 rfl rfl)
theorem dX6_shuts_1 : decode cX6_shuts 1 = .ok (.istore_n 2, 1) := dk_61 (dk_at dksX6_shuts_0 1 rfl rfl)
theorem dX6_shuts_2 : decode cX6_shuts 2 = .ok (.iload_n 2, 1) := dk_28 (dk_at dksX6_shuts_0 2 rfl rfl)
theorem dX6_shuts_3 : decode cX6_shuts 3 = .ok (.bipush 8, 2) := dk_16 8 (dk_at dksX6_shuts_0 3 rfl rfl)
theorem dX6_shuts_5 : decode cX6_shuts 5 = .ok (.if_icmp .ge 35, 3) := dk_162 0 35 (dk_at dksX6_shuts_0 5 rfl rfl)
theorem dX6_shuts_8 : decode cX6_shuts 8 = .ok (.iload_n 1, 1) := dk_27 (dk_at dksX6_shuts_0 8 rfl rfl)
theorem dX6_shuts_9 : decode cX6_shuts 9 = .ok (.iload_n 2, 1) := dk_28 (dk_at dksX6_shuts_0 9 rfl rfl)
theorem dX6_shuts_10 : decode cX6_shuts 10 = .ok (.invokestatic 53, 3) := dk_184 0 53 (dk_at dksX6_shuts_0 10 rfl rfl)
theorem dX6_shuts_13 : decode cX6_shuts 13 = .ok (.ifCond .ne 21, 3) := dk_154 0 21 (dk_at dksX6_shuts_0 13 rfl rfl)
theorem dX6_shuts_16 : decode cX6_shuts 16 = .ok (.aload_n 0, 1) := dk_42 (dk_at dksX6_shuts_0 16 rfl rfl)
theorem dX6_shuts_17 : decode cX6_shuts 17 = .ok (.getfield 7, 3) := dk_180 0 7 (dk_at dksX6_shuts_0 17 rfl rfl)
theorem dX6_shuts_20 : decode cX6_shuts 20 = .ok (.bipush 16, 2) := dk_16 16 (dk_at dksX6_shuts_0 20 rfl rfl)
theorem dX6_shuts_22 : decode cX6_shuts 22 = .ok (.iload_n 2, 1) := dk_28 (dk_at dksX6_shuts_0 22 rfl rfl)
theorem dX6_shuts_23 : decode cX6_shuts 23 = .ok (.iadd, 1) := dk_96 (dk_at dksX6_shuts_0 23 rfl rfl)
theorem dX6_shuts_24 : decode cX6_shuts 24 = .ok (.iaload, 1) := dk_46 (dk_at dksX6_shuts_1 0 rfl rfl)
theorem dX6_shuts_25 : decode cX6_shuts 25 = .ok (.iload_n 1, 1) := dk_27 (dk_at dksX6_shuts_1 1 rfl rfl)
theorem dX6_shuts_26 : decode cX6_shuts 26 = .ok (.iconst (-1), 1) := dk_2 (dk_at dksX6_shuts_1 2 rfl rfl)
theorem dX6_shuts_27 : decode cX6_shuts 27 = .ok (.ixor, 1) := dk_130 (dk_at dksX6_shuts_1 3 rfl rfl)
theorem dX6_shuts_28 : decode cX6_shuts 28 = .ok (.iand, 1) := dk_126 (dk_at dksX6_shuts_1 4 rfl rfl)
theorem dX6_shuts_29 : decode cX6_shuts 29 = .ok (.ifCond .eq 5, 3) := dk_153 0 5 (dk_at dksX6_shuts_1 5 rfl rfl)
theorem dX6_shuts_32 : decode cX6_shuts 32 = .ok (.iconst 0, 1) := dk_3 (dk_at dksX6_shuts_1 8 rfl rfl)
theorem dX6_shuts_33 : decode cX6_shuts 33 = .ok (.ireturn, 1) := dk_172 (dk_at dksX6_shuts_1 9 rfl rfl)
theorem dX6_shuts_34 : decode cX6_shuts 34 = .ok (.iinc 2 1, 3) := dk_132 2 1 (dk_at dksX6_shuts_1 10 rfl rfl)
theorem dX6_shuts_37 : decode cX6_shuts 37 = .ok (.goto (-35), 3) := dk_167 255 221 (dk_at dksX6_shuts_1 13 rfl rfl)
theorem dX6_shuts_40 : decode cX6_shuts 40 = .ok (.iconst 1, 1) := dk_4 (dk_at dksX6_shuts_1 16 rfl rfl)
theorem dX6_shuts_41 : decode cX6_shuts 41 = .ok (.ireturn, 1) := dk_172 (dk_at dksX6_shuts_1 17 rfl rfl)
abbrev cX6_quiet : ByteArray := prog_18_method_86_code
def yX6_quiet : MethodName := ⟨RX6, "quiet", "()I"⟩
def dkwX6_quiet_1 : List UInt8 := [4, 28, 120, 167, 0, 4, 3, 128, 60, 132, 2, 1, 167, 255, 229, 27, 172]
abbrev dktX6_quiet_1 : List UInt8 := dkwX6_quiet_1 ++ []
def dkwX6_quiet_0 : List UInt8 := [42, 3, 181, 0, 42, 3, 60, 3, 61, 28, 16, 8, 162, 0, 27, 27, 42, 28, 182, 0, 252, 154, 0, 9]
abbrev dktX6_quiet_0 : List UInt8 := dkwX6_quiet_0 ++ dktX6_quiet_1
theorem dksX6_quiet_0 : cX6_quiet.data.toList.drop 0 = dktX6_quiet_0 := by decide +kernel
theorem dksX6_quiet_1 : cX6_quiet.data.toList.drop 24 = dktX6_quiet_1 := dk_seg dksX6_quiet_0 24 rfl rfl
theorem dX6_quiet_0 : decode cX6_quiet 0 = .ok (.aload_n 0, 1) := dk_42 (dk_at dksX6_quiet_0 0 rfl rfl)
theorem dX6_quiet_1 : decode cX6_quiet 1 = .ok (.iconst 0, 1) := dk_3 (dk_at dksX6_quiet_0 1 rfl rfl)
theorem dX6_quiet_2 : decode cX6_quiet 2 = .ok (.putfield 42, 3) := dk_181 0 42 (dk_at dksX6_quiet_0 2 rfl rfl)
theorem dX6_quiet_5 : decode cX6_quiet 5 = .ok (.iconst 0, 1) := dk_3 (dk_at dksX6_quiet_0 5 rfl rfl)
theorem dX6_quiet_6 : decode cX6_quiet 6 = .ok (.istore_n 1, 1) := dk_60 (dk_at dksX6_quiet_0 6 rfl rfl)
theorem dX6_quiet_7 : decode cX6_quiet 7 = .ok (.iconst 0, 1) := dk_3 (dk_at dksX6_quiet_0 7 rfl rfl)
theorem dX6_quiet_8 : decode cX6_quiet 8 = .ok (.istore_n 2, 1) := dk_61 (dk_at dksX6_quiet_0 8 rfl rfl)
theorem dX6_quiet_9 : decode cX6_quiet 9 = .ok (.iload_n 2, 1) := dk_28 (dk_at dksX6_quiet_0 9 rfl rfl)
theorem dX6_quiet_10 : decode cX6_quiet 10 = .ok (.bipush 8, 2) := dk_16 8 (dk_at dksX6_quiet_0 10 rfl rfl)
theorem dX6_quiet_12 : decode cX6_quiet 12 = .ok (.if_icmp .ge 27, 3) := dk_162 0 27 (dk_at dksX6_quiet_0 12 rfl rfl)
theorem dX6_quiet_15 : decode cX6_quiet 15 = .ok (.iload_n 1, 1) := dk_27 (dk_at dksX6_quiet_0 15 rfl rfl)
theorem dX6_quiet_16 : decode cX6_quiet 16 = .ok (.aload_n 0, 1) := dk_42 (dk_at dksX6_quiet_0 16 rfl rfl)
theorem dX6_quiet_17 : decode cX6_quiet 17 = .ok (.iload_n 2, 1) := dk_28 (dk_at dksX6_quiet_0 17 rfl rfl)
theorem dX6_quiet_18 : decode cX6_quiet 18 = .ok (.invokevirtual 252, 3) := dk_182 0 252 (dk_at dksX6_quiet_0 18 rfl rfl)
theorem dX6_quiet_21 : decode cX6_quiet 21 = .ok (.ifCond .ne 9, 3) := dk_154 0 9 (dk_at dksX6_quiet_0 21 rfl rfl)
theorem dX6_quiet_24 : decode cX6_quiet 24 = .ok (.iconst 1, 1) := dk_4 (dk_at dksX6_quiet_1 0 rfl rfl)
theorem dX6_quiet_25 : decode cX6_quiet 25 = .ok (.iload_n 2, 1) := dk_28 (dk_at dksX6_quiet_1 1 rfl rfl)
theorem dX6_quiet_26 : decode cX6_quiet 26 = .ok (.ishl, 1) := dk_120 (dk_at dksX6_quiet_1 2 rfl rfl)
theorem dX6_quiet_27 : decode cX6_quiet 27 = .ok (.goto 4, 3) := dk_167 0 4 (dk_at dksX6_quiet_1 3 rfl rfl)
theorem dX6_quiet_30 : decode cX6_quiet 30 = .ok (.iconst 0, 1) := dk_3 (dk_at dksX6_quiet_1 6 rfl rfl)
theorem dX6_quiet_31 : decode cX6_quiet 31 = .ok (.ior, 1) := dk_128 (dk_at dksX6_quiet_1 7 rfl rfl)
theorem dX6_quiet_32 : decode cX6_quiet 32 = .ok (.istore_n 1, 1) := dk_60 (dk_at dksX6_quiet_1 8 rfl rfl)
theorem dX6_quiet_33 : decode cX6_quiet 33 = .ok (.iinc 2 1, 3) := dk_132 2 1 (dk_at dksX6_quiet_1 9 rfl rfl)
theorem dX6_quiet_36 : decode cX6_quiet 36 = .ok (.goto (-27), 3) := dk_167 255 229 (dk_at dksX6_quiet_1 12 rfl rfl)
theorem dX6_quiet_39 : decode cX6_quiet 39 = .ok (.iload_n 1, 1) := dk_27 (dk_at dksX6_quiet_1 15 rfl rfl)
theorem dX6_quiet_40 : decode cX6_quiet 40 = .ok (.ireturn, 1) := dk_172 (dk_at dksX6_quiet_1 16 rfl rfl)
abbrev cX6_best : ByteArray := prog_18_method_88_code
def yX6_best : MethodName := ⟨RX6, "best", "()I"⟩
def dkwX6_best_3 : List UInt8 := [172]
abbrev dktX6_best_3 : List UInt8 := dkwX6_best_3 ++ []
def dkwX6_best_2 : List UInt8 := [182, 1, 49, 42, 42, 27, 182, 0, 252, 182, 1, 49, 162, 0, 5, 28, 60, 132, 2, 1, 167, 255, 198, 27]
abbrev dktX6_best_2 : List UInt8 := dkwX6_best_2 ++ dktX6_best_3
def dkwX6_best_1 : List UInt8 := [27, 182, 0, 252, 184, 0, 57, 100, 62, 29, 155, 0, 28, 29, 154, 0, 26, 42, 42, 28, 182, 0, 252]
abbrev dktX6_best_1 : List UInt8 := dkwX6_best_1 ++ dktX6_best_2
def dkwX6_best_0 : List UInt8 := [42, 3, 181, 0, 42, 3, 60, 4, 61, 28, 16, 8, 162, 0, 58, 42, 28, 182, 0, 252, 184, 0, 57, 42]
abbrev dktX6_best_0 : List UInt8 := dkwX6_best_0 ++ dktX6_best_1
theorem dksX6_best_0 : cX6_best.data.toList.drop 0 = dktX6_best_0 := by decide +kernel
theorem dksX6_best_1 : cX6_best.data.toList.drop 24 = dktX6_best_1 := dk_seg dksX6_best_0 24 rfl rfl
theorem dksX6_best_2 : cX6_best.data.toList.drop 47 = dktX6_best_2 := dk_seg dksX6_best_1 23 rfl rfl
theorem dksX6_best_3 : cX6_best.data.toList.drop 71 = dktX6_best_3 := dk_seg dksX6_best_2 24 rfl rfl
theorem dX6_best_0 : decode cX6_best 0 = .ok (.aload_n 0, 1) := dk_42 (dk_at dksX6_best_0 0 rfl rfl)
theorem dX6_best_1 : decode cX6_best 1 = .ok (.iconst 0, 1) := dk_3 (dk_at dksX6_best_0 1 rfl rfl)
theorem dX6_best_2 : decode cX6_best 2 = .ok (.putfield 42, 3) := dk_181 0 42 (dk_at dksX6_best_0 2 rfl rfl)
theorem dX6_best_5 : decode cX6_best 5 = .ok (.iconst 0, 1) := dk_3 (dk_at dksX6_best_0 5 rfl rfl)
theorem dX6_best_6 : decode cX6_best 6 = .ok (.istore_n 1, 1) := dk_60 (dk_at dksX6_best_0 6 rfl rfl)
theorem dX6_best_7 : decode cX6_best 7 = .ok (.iconst 1, 1) := dk_4 (dk_at dksX6_best_0 7 rfl rfl)
theorem dX6_best_8 : decode cX6_best 8 = .ok (.istore_n 2, 1) := dk_61 (dk_at dksX6_best_0 8 rfl rfl)
theorem dX6_best_9 : decode cX6_best 9 = .ok (.iload_n 2, 1) := dk_28 (dk_at dksX6_best_0 9 rfl rfl)
theorem dX6_best_10 : decode cX6_best 10 = .ok (.bipush 8, 2) := dk_16 8 (dk_at dksX6_best_0 10 rfl rfl)
theorem dX6_best_12 : decode cX6_best 12 = .ok (.if_icmp .ge 58, 3) := dk_162 0 58 (dk_at dksX6_best_0 12 rfl rfl)
theorem dX6_best_15 : decode cX6_best 15 = .ok (.aload_n 0, 1) := dk_42 (dk_at dksX6_best_0 15 rfl rfl)
theorem dX6_best_16 : decode cX6_best 16 = .ok (.iload_n 2, 1) := dk_28 (dk_at dksX6_best_0 16 rfl rfl)
theorem dX6_best_17 : decode cX6_best 17 = .ok (.invokevirtual 252, 3) := dk_182 0 252 (dk_at dksX6_best_0 17 rfl rfl)
theorem dX6_best_20 : decode cX6_best 20 = .ok (.invokestatic 57, 3) := dk_184 0 57 (dk_at dksX6_best_0 20 rfl rfl)
theorem dX6_best_23 : decode cX6_best 23 = .ok (.aload_n 0, 1) := dk_42 (dk_at dksX6_best_0 23 rfl rfl)
theorem dX6_best_24 : decode cX6_best 24 = .ok (.iload_n 1, 1) := dk_27 (dk_at dksX6_best_1 0 rfl rfl)
theorem dX6_best_25 : decode cX6_best 25 = .ok (.invokevirtual 252, 3) := dk_182 0 252 (dk_at dksX6_best_1 1 rfl rfl)
theorem dX6_best_28 : decode cX6_best 28 = .ok (.invokestatic 57, 3) := dk_184 0 57 (dk_at dksX6_best_1 4 rfl rfl)
theorem dX6_best_31 : decode cX6_best 31 = .ok (.isub, 1) := dk_100 (dk_at dksX6_best_1 7 rfl rfl)
theorem dX6_best_32 : decode cX6_best 32 = .ok (.istore_n 3, 1) := dk_62 (dk_at dksX6_best_1 8 rfl rfl)
theorem dX6_best_33 : decode cX6_best 33 = .ok (.iload_n 3, 1) := dk_29 (dk_at dksX6_best_1 9 rfl rfl)
theorem dX6_best_34 : decode cX6_best 34 = .ok (.ifCond .lt 28, 3) := dk_155 0 28 (dk_at dksX6_best_1 10 rfl rfl)
theorem dX6_best_37 : decode cX6_best 37 = .ok (.iload_n 3, 1) := dk_29 (dk_at dksX6_best_1 13 rfl rfl)
theorem dX6_best_38 : decode cX6_best 38 = .ok (.ifCond .ne 26, 3) := dk_154 0 26 (dk_at dksX6_best_1 14 rfl rfl)
theorem dX6_best_41 : decode cX6_best 41 = .ok (.aload_n 0, 1) := dk_42 (dk_at dksX6_best_1 17 rfl rfl)
theorem dX6_best_42 : decode cX6_best 42 = .ok (.aload_n 0, 1) := dk_42 (dk_at dksX6_best_1 18 rfl rfl)
theorem dX6_best_43 : decode cX6_best 43 = .ok (.iload_n 2, 1) := dk_28 (dk_at dksX6_best_1 19 rfl rfl)
theorem dX6_best_44 : decode cX6_best 44 = .ok (.invokevirtual 252, 3) := dk_182 0 252 (dk_at dksX6_best_1 20 rfl rfl)
theorem dX6_best_47 : decode cX6_best 47 = .ok (.invokevirtual 305, 3) := dk_182 1 49 (dk_at dksX6_best_2 0 rfl rfl)
theorem dX6_best_50 : decode cX6_best 50 = .ok (.aload_n 0, 1) := dk_42 (dk_at dksX6_best_2 3 rfl rfl)
theorem dX6_best_51 : decode cX6_best 51 = .ok (.aload_n 0, 1) := dk_42 (dk_at dksX6_best_2 4 rfl rfl)
theorem dX6_best_52 : decode cX6_best 52 = .ok (.iload_n 1, 1) := dk_27 (dk_at dksX6_best_2 5 rfl rfl)
theorem dX6_best_53 : decode cX6_best 53 = .ok (.invokevirtual 252, 3) := dk_182 0 252 (dk_at dksX6_best_2 6 rfl rfl)
theorem dX6_best_56 : decode cX6_best 56 = .ok (.invokevirtual 305, 3) := dk_182 1 49 (dk_at dksX6_best_2 9 rfl rfl)
theorem dX6_best_59 : decode cX6_best 59 = .ok (.if_icmp .ge 5, 3) := dk_162 0 5 (dk_at dksX6_best_2 12 rfl rfl)
theorem dX6_best_62 : decode cX6_best 62 = .ok (.iload_n 2, 1) := dk_28 (dk_at dksX6_best_2 15 rfl rfl)
theorem dX6_best_63 : decode cX6_best 63 = .ok (.istore_n 1, 1) := dk_60 (dk_at dksX6_best_2 16 rfl rfl)
theorem dX6_best_64 : decode cX6_best 64 = .ok (.iinc 2 1, 3) := dk_132 2 1 (dk_at dksX6_best_2 17 rfl rfl)
theorem dX6_best_67 : decode cX6_best 67 = .ok (.goto (-58), 3) := dk_167 255 198 (dk_at dksX6_best_2 20 rfl rfl)
theorem dX6_best_70 : decode cX6_best 70 = .ok (.iload_n 1, 1) := dk_27 (dk_at dksX6_best_2 23 rfl rfl)
theorem dX6_best_71 : decode cX6_best 71 = .ok (.ireturn, 1) := dk_172 (dk_at dksX6_best_3 0 rfl rfl)
abbrev cX6_risksOf : ByteArray := prog_18_method_87_code
def yX6_risksOf : MethodName := ⟨RX6, "risksOf", "(I)I"⟩
def dkwX6_risksOf_1 : List UInt8 := [29, 182, 1, 2, 167, 0, 4, 3, 96, 61, 132, 3, 1, 167, 255, 223, 28, 172]
abbrev dktX6_risksOf_1 : List UInt8 := dkwX6_risksOf_1 ++ []
def dkwX6_risksOf_0 : List UInt8 := [3, 61, 3, 62, 29, 42, 180, 0, 7, 6, 46, 162, 0, 29, 28, 27, 29, 184, 0, 53, 153, 0, 11, 42]
abbrev dktX6_risksOf_0 : List UInt8 := dkwX6_risksOf_0 ++ dktX6_risksOf_1
theorem dksX6_risksOf_0 : cX6_risksOf.data.toList.drop 0 = dktX6_risksOf_0 := by decide +kernel
theorem dksX6_risksOf_1 : cX6_risksOf.data.toList.drop 24 = dktX6_risksOf_1 := dk_seg dksX6_risksOf_0 24 rfl rfl
theorem dX6_risksOf_0 : decode cX6_risksOf 0 = .ok (.iconst 0, 1) := dk_3 (dk_at dksX6_risksOf_0 0 rfl rfl)
theorem dX6_risksOf_1 : decode cX6_risksOf 1 = .ok (.istore_n 2, 1) := dk_61 (dk_at dksX6_risksOf_0 1 rfl rfl)
theorem dX6_risksOf_2 : decode cX6_risksOf 2 = .ok (.iconst 0, 1) := dk_3 (dk_at dksX6_risksOf_0 2 rfl rfl)
theorem dX6_risksOf_3 : decode cX6_risksOf 3 = .ok (.istore_n 3, 1) := dk_62 (dk_at dksX6_risksOf_0 3 rfl rfl)
theorem dX6_risksOf_4 : decode cX6_risksOf 4 = .ok (.iload_n 3, 1) := dk_29 (dk_at dksX6_risksOf_0 4 rfl rfl)
theorem dX6_risksOf_5 : decode cX6_risksOf 5 = .ok (.aload_n 0, 1) := dk_42 (dk_at dksX6_risksOf_0 5 rfl rfl)
theorem dX6_risksOf_6 : decode cX6_risksOf 6 = .ok (.getfield 7, 3) := dk_180 0 7 (dk_at dksX6_risksOf_0 6 rfl rfl)
theorem dX6_risksOf_9 : decode cX6_risksOf 9 = .ok (.iconst 3, 1) := dk_6 (dk_at dksX6_risksOf_0 9 rfl rfl)
theorem dX6_risksOf_10 : decode cX6_risksOf 10 = .ok (.iaload, 1) := dk_46 (dk_at dksX6_risksOf_0 10 rfl rfl)
theorem dX6_risksOf_11 : decode cX6_risksOf 11 = .ok (.if_icmp .ge 29, 3) := dk_162 0 29 (dk_at dksX6_risksOf_0 11 rfl rfl)
theorem dX6_risksOf_14 : decode cX6_risksOf 14 = .ok (.iload_n 2, 1) := dk_28 (dk_at dksX6_risksOf_0 14 rfl rfl)
theorem dX6_risksOf_15 : decode cX6_risksOf 15 = .ok (.iload_n 1, 1) := dk_27 (dk_at dksX6_risksOf_0 15 rfl rfl)
theorem dX6_risksOf_16 : decode cX6_risksOf 16 = .ok (.iload_n 3, 1) := dk_29 (dk_at dksX6_risksOf_0 16 rfl rfl)
theorem dX6_risksOf_17 : decode cX6_risksOf 17 = .ok (.invokestatic 53, 3) := dk_184 0 53 (dk_at dksX6_risksOf_0 17 rfl rfl)
theorem dX6_risksOf_20 : decode cX6_risksOf 20 = .ok (.ifCond .eq 11, 3) := dk_153 0 11 (dk_at dksX6_risksOf_0 20 rfl rfl)
theorem dX6_risksOf_23 : decode cX6_risksOf 23 = .ok (.aload_n 0, 1) := dk_42 (dk_at dksX6_risksOf_0 23 rfl rfl)
theorem dX6_risksOf_24 : decode cX6_risksOf 24 = .ok (.iload_n 3, 1) := dk_29 (dk_at dksX6_risksOf_1 0 rfl rfl)
theorem dX6_risksOf_25 : decode cX6_risksOf 25 = .ok (.invokevirtual 258, 3) := dk_182 1 2 (dk_at dksX6_risksOf_1 1 rfl rfl)
theorem dX6_risksOf_28 : decode cX6_risksOf 28 = .ok (.goto 4, 3) := dk_167 0 4 (dk_at dksX6_risksOf_1 4 rfl rfl)
theorem dX6_risksOf_31 : decode cX6_risksOf 31 = .ok (.iconst 0, 1) := dk_3 (dk_at dksX6_risksOf_1 7 rfl rfl)
theorem dX6_risksOf_32 : decode cX6_risksOf 32 = .ok (.iadd, 1) := dk_96 (dk_at dksX6_risksOf_1 8 rfl rfl)
theorem dX6_risksOf_33 : decode cX6_risksOf 33 = .ok (.istore_n 2, 1) := dk_61 (dk_at dksX6_risksOf_1 9 rfl rfl)
theorem dX6_risksOf_34 : decode cX6_risksOf 34 = .ok (.iinc 3 1, 3) := dk_132 3 1 (dk_at dksX6_risksOf_1 10 rfl rfl)
theorem dX6_risksOf_37 : decode cX6_risksOf 37 = .ok (.goto (-33), 3) := dk_167 255 223 (dk_at dksX6_risksOf_1 13 rfl rfl)
theorem dX6_risksOf_40 : decode cX6_risksOf 40 = .ok (.iload_n 2, 1) := dk_28 (dk_at dksX6_risksOf_1 16 rfl rfl)
theorem dX6_risksOf_41 : decode cX6_risksOf 41 = .ok (.ireturn, 1) := dk_172 (dk_at dksX6_risksOf_1 17 rfl rfl)
abbrev cX6_lodge : ByteArray := prog_18_method_90_code
def yX6_lodge : MethodName := ⟨RX6, "lodge", "(I)I"⟩
def dkwX6_lodge_11 : List UInt8 := [172]
abbrev dktX6_lodge_11 : List UInt8 := dkwX6_lodge_11 ++ []
def dkwX6_lodge_10 : List UInt8 := [96, 46, 159, 0, 9, 132, 3, 1, 167, 255, 229, 28, 4, 29, 120, 128, 61, 132, 4, 1, 167, 255, 209, 29]
abbrev dktX6_lodge_10 : List UInt8 := dkwX6_lodge_10 ++ dktX6_lodge_11
def dkwX6_lodge_9 : List UInt8 := [163, 0, 47, 3, 62, 42, 21, 4, 28, 29, 182, 1, 56, 42, 180, 0, 35, 17, 1, 0, 21, 4, 104, 28]
abbrev dktX6_lodge_9 : List UInt8 := dkwX6_lodge_9 ++ dktX6_lodge_10
def dkwX6_lodge_8 : List UInt8 := [180, 1, 53, 4, 100, 184, 0, 45, 154, 0, 5, 2, 172, 3, 61, 3, 62, 3, 54, 4, 21, 4, 27]
abbrev dktX6_lodge_8 : List UInt8 := dkwX6_lodge_8 ++ dktX6_lodge_9
def dkwX6_lodge_7 : List UInt8 := [19, 1, 52, 160, 0, 5, 2, 172, 27, 2, 160, 0, 10, 42, 180, 0, 35, 3, 46, 172, 27, 3, 42]
abbrev dktX6_lodge_7 : List UInt8 := dkwX6_lodge_7 ++ dktX6_lodge_8
def dkwX6_lodge_6 : List UInt8 := [96, 21, 4, 79, 132, 3, 1, 167, 255, 176, 132, 2, 255, 167, 255, 164, 42, 180, 0, 35, 3, 46]
abbrev dktX6_lodge_6 : List UInt8 := dkwX6_lodge_6 ++ dktX6_lodge_7
def dkwX6_lodge_5 : List UInt8 := [182, 1, 56, 184, 0, 243, 54, 4, 132, 5, 1, 167, 255, 223, 42, 180, 0, 35, 17, 1, 0, 28, 104, 29]
abbrev dktX6_lodge_5 : List UInt8 := dkwX6_lodge_5 ++ dktX6_lodge_6
def dkwX6_lodge_4 : List UInt8 := [54, 5, 21, 5, 16, 8, 162, 0, 32, 28, 42, 180, 1, 53, 162, 0, 24, 21, 4, 42, 28, 29, 21, 5]
abbrev dktX6_lodge_4 : List UInt8 := dkwX6_lodge_4 ++ dktX6_lodge_5
def dkwX6_lodge_3 : List UInt8 := [17, 1, 0, 162, 0, 79, 28, 42, 180, 1, 53, 160, 0, 7, 3, 167, 0, 6, 19, 1, 52, 54, 4, 3]
abbrev dktX6_lodge_3 : List UInt8 := dkwX6_lodge_3 ++ dktX6_lodge_4
def dkwX6_lodge_2 : List UInt8 := [4, 96, 181, 1, 53, 132, 2, 1, 167, 255, 212, 42, 180, 1, 53, 61, 28, 155, 0, 94, 3, 62, 29]
abbrev dktX6_lodge_2 : List UInt8 := dkwX6_lodge_2 ++ dktX6_lodge_3
def dkwX6_lodge_1 : List UInt8 := [182, 0, 236, 154, 0, 6, 167, 0, 23, 42, 180, 0, 32, 42, 180, 1, 53, 28, 79, 42, 89, 180, 1, 53]
abbrev dktX6_lodge_1 : List UInt8 := dkwX6_lodge_1 ++ dktX6_lodge_2
def dkwX6_lodge_0 : List UInt8 := [42, 3, 181, 0, 42, 42, 3, 181, 1, 53, 3, 61, 28, 42, 180, 0, 7, 6, 46, 162, 0, 40, 42, 28]
abbrev dktX6_lodge_0 : List UInt8 := dkwX6_lodge_0 ++ dktX6_lodge_1
theorem dksX6_lodge_0 : cX6_lodge.data.toList.drop 0 = dktX6_lodge_0 := by decide +kernel
theorem dksX6_lodge_1 : cX6_lodge.data.toList.drop 24 = dktX6_lodge_1 := dk_seg dksX6_lodge_0 24 rfl rfl
theorem dksX6_lodge_2 : cX6_lodge.data.toList.drop 48 = dktX6_lodge_2 := dk_seg dksX6_lodge_1 24 rfl rfl
theorem dksX6_lodge_3 : cX6_lodge.data.toList.drop 71 = dktX6_lodge_3 := dk_seg dksX6_lodge_2 23 rfl rfl
theorem dksX6_lodge_4 : cX6_lodge.data.toList.drop 95 = dktX6_lodge_4 := dk_seg dksX6_lodge_3 24 rfl rfl
theorem dksX6_lodge_5 : cX6_lodge.data.toList.drop 119 = dktX6_lodge_5 := dk_seg dksX6_lodge_4 24 rfl rfl
theorem dksX6_lodge_6 : cX6_lodge.data.toList.drop 143 = dktX6_lodge_6 := dk_seg dksX6_lodge_5 24 rfl rfl
theorem dksX6_lodge_7 : cX6_lodge.data.toList.drop 165 = dktX6_lodge_7 := dk_seg dksX6_lodge_6 22 rfl rfl
theorem dksX6_lodge_8 : cX6_lodge.data.toList.drop 188 = dktX6_lodge_8 := dk_seg dksX6_lodge_7 23 rfl rfl
theorem dksX6_lodge_9 : cX6_lodge.data.toList.drop 211 = dktX6_lodge_9 := dk_seg dksX6_lodge_8 23 rfl rfl
theorem dksX6_lodge_10 : cX6_lodge.data.toList.drop 235 = dktX6_lodge_10 := dk_seg dksX6_lodge_9 24 rfl rfl
theorem dksX6_lodge_11 : cX6_lodge.data.toList.drop 259 = dktX6_lodge_11 := dk_seg dksX6_lodge_10 24 rfl rfl
theorem dX6_lodge_0 : decode cX6_lodge 0 = .ok (.aload_n 0, 1) := dk_42 (dk_at dksX6_lodge_0 0 rfl rfl)
theorem dX6_lodge_1 : decode cX6_lodge 1 = .ok (.iconst 0, 1) := dk_3 (dk_at dksX6_lodge_0 1 rfl rfl)
theorem dX6_lodge_2 : decode cX6_lodge 2 = .ok (.putfield 42, 3) := dk_181 0 42 (dk_at dksX6_lodge_0 2 rfl rfl)
theorem dX6_lodge_5 : decode cX6_lodge 5 = .ok (.aload_n 0, 1) := dk_42 (dk_at dksX6_lodge_0 5 rfl rfl)
theorem dX6_lodge_6 : decode cX6_lodge 6 = .ok (.iconst 0, 1) := dk_3 (dk_at dksX6_lodge_0 6 rfl rfl)
theorem dX6_lodge_7 : decode cX6_lodge 7 = .ok (.putfield 309, 3) := dk_181 1 53 (dk_at dksX6_lodge_0 7 rfl rfl)
theorem dX6_lodge_10 : decode cX6_lodge 10 = .ok (.iconst 0, 1) := dk_3 (dk_at dksX6_lodge_0 10 rfl rfl)
theorem dX6_lodge_11 : decode cX6_lodge 11 = .ok (.istore_n 2, 1) := dk_61 (dk_at dksX6_lodge_0 11 rfl rfl)
theorem dX6_lodge_12 : decode cX6_lodge 12 = .ok (.iload_n 2, 1) := dk_28 (dk_at dksX6_lodge_0 12 rfl rfl)
theorem dX6_lodge_13 : decode cX6_lodge 13 = .ok (.aload_n 0, 1) := dk_42 (dk_at dksX6_lodge_0 13 rfl rfl)
theorem dX6_lodge_14 : decode cX6_lodge 14 = .ok (.getfield 7, 3) := dk_180 0 7 (dk_at dksX6_lodge_0 14 rfl rfl)
theorem dX6_lodge_17 : decode cX6_lodge 17 = .ok (.iconst 3, 1) := dk_6 (dk_at dksX6_lodge_0 17 rfl rfl)
theorem dX6_lodge_18 : decode cX6_lodge 18 = .ok (.iaload, 1) := dk_46 (dk_at dksX6_lodge_0 18 rfl rfl)
theorem dX6_lodge_19 : decode cX6_lodge 19 = .ok (.if_icmp .ge 40, 3) := dk_162 0 40 (dk_at dksX6_lodge_0 19 rfl rfl)
theorem dX6_lodge_22 : decode cX6_lodge 22 = .ok (.aload_n 0, 1) := dk_42 (dk_at dksX6_lodge_0 22 rfl rfl)
theorem dX6_lodge_23 : decode cX6_lodge 23 = .ok (.iload_n 2, 1) := dk_28 (dk_at dksX6_lodge_0 23 rfl rfl)
theorem dX6_lodge_24 : decode cX6_lodge 24 = .ok (.invokevirtual 236, 3) := dk_182 0 236 (dk_at dksX6_lodge_1 0 rfl rfl)
theorem dX6_lodge_27 : decode cX6_lodge 27 = .ok (.ifCond .ne 6, 3) := dk_154 0 6 (dk_at dksX6_lodge_1 3 rfl rfl)
theorem dX6_lodge_30 : decode cX6_lodge 30 = .ok (.goto 23, 3) := dk_167 0 23 (dk_at dksX6_lodge_1 6 rfl rfl)
theorem dX6_lodge_33 : decode cX6_lodge 33 = .ok (.aload_n 0, 1) := dk_42 (dk_at dksX6_lodge_1 9 rfl rfl)
theorem dX6_lodge_34 : decode cX6_lodge 34 = .ok (.getfield 32, 3) := dk_180 0 32 (dk_at dksX6_lodge_1 10 rfl rfl)
theorem dX6_lodge_37 : decode cX6_lodge 37 = .ok (.aload_n 0, 1) := dk_42 (dk_at dksX6_lodge_1 13 rfl rfl)
theorem dX6_lodge_38 : decode cX6_lodge 38 = .ok (.getfield 309, 3) := dk_180 1 53 (dk_at dksX6_lodge_1 14 rfl rfl)
theorem dX6_lodge_41 : decode cX6_lodge 41 = .ok (.iload_n 2, 1) := dk_28 (dk_at dksX6_lodge_1 17 rfl rfl)
theorem dX6_lodge_42 : decode cX6_lodge 42 = .ok (.iastore, 1) := dk_79 (dk_at dksX6_lodge_1 18 rfl rfl)
theorem dX6_lodge_43 : decode cX6_lodge 43 = .ok (.aload_n 0, 1) := dk_42 (dk_at dksX6_lodge_1 19 rfl rfl)
theorem dX6_lodge_44 : decode cX6_lodge 44 = .ok (.dup, 1) := dk_89 (dk_at dksX6_lodge_1 20 rfl rfl)
theorem dX6_lodge_45 : decode cX6_lodge 45 = .ok (.getfield 309, 3) := dk_180 1 53 (dk_at dksX6_lodge_1 21 rfl rfl)
theorem dX6_lodge_48 : decode cX6_lodge 48 = .ok (.iconst 1, 1) := dk_4 (dk_at dksX6_lodge_2 0 rfl rfl)
theorem dX6_lodge_49 : decode cX6_lodge 49 = .ok (.iadd, 1) := dk_96 (dk_at dksX6_lodge_2 1 rfl rfl)
theorem dX6_lodge_50 : decode cX6_lodge 50 = .ok (.putfield 309, 3) := dk_181 1 53 (dk_at dksX6_lodge_2 2 rfl rfl)
theorem dX6_lodge_53 : decode cX6_lodge 53 = .ok (.iinc 2 1, 3) := dk_132 2 1 (dk_at dksX6_lodge_2 5 rfl rfl)
theorem dX6_lodge_56 : decode cX6_lodge 56 = .ok (.goto (-44), 3) := dk_167 255 212 (dk_at dksX6_lodge_2 8 rfl rfl)
theorem dX6_lodge_59 : decode cX6_lodge 59 = .ok (.aload_n 0, 1) := dk_42 (dk_at dksX6_lodge_2 11 rfl rfl)
theorem dX6_lodge_60 : decode cX6_lodge 60 = .ok (.getfield 309, 3) := dk_180 1 53 (dk_at dksX6_lodge_2 12 rfl rfl)
theorem dX6_lodge_63 : decode cX6_lodge 63 = .ok (.istore_n 2, 1) := dk_61 (dk_at dksX6_lodge_2 15 rfl rfl)
theorem dX6_lodge_64 : decode cX6_lodge 64 = .ok (.iload_n 2, 1) := dk_28 (dk_at dksX6_lodge_2 16 rfl rfl)
theorem dX6_lodge_65 : decode cX6_lodge 65 = .ok (.ifCond .lt 94, 3) := dk_155 0 94 (dk_at dksX6_lodge_2 17 rfl rfl)
theorem dX6_lodge_68 : decode cX6_lodge 68 = .ok (.iconst 0, 1) := dk_3 (dk_at dksX6_lodge_2 20 rfl rfl)
theorem dX6_lodge_69 : decode cX6_lodge 69 = .ok (.istore_n 3, 1) := dk_62 (dk_at dksX6_lodge_2 21 rfl rfl)
theorem dX6_lodge_70 : decode cX6_lodge 70 = .ok (.iload_n 3, 1) := dk_29 (dk_at dksX6_lodge_2 22 rfl rfl)
theorem dX6_lodge_71 : decode cX6_lodge 71 = .ok (.sipush 256, 3) := dk_17 1 0 (dk_at dksX6_lodge_3 0 rfl rfl)
theorem dX6_lodge_74 : decode cX6_lodge 74 = .ok (.if_icmp .ge 79, 3) := dk_162 0 79 (dk_at dksX6_lodge_3 3 rfl rfl)
theorem dX6_lodge_77 : decode cX6_lodge 77 = .ok (.iload_n 2, 1) := dk_28 (dk_at dksX6_lodge_3 6 rfl rfl)
theorem dX6_lodge_78 : decode cX6_lodge 78 = .ok (.aload_n 0, 1) := dk_42 (dk_at dksX6_lodge_3 7 rfl rfl)
theorem dX6_lodge_79 : decode cX6_lodge 79 = .ok (.getfield 309, 3) := dk_180 1 53 (dk_at dksX6_lodge_3 8 rfl rfl)
theorem dX6_lodge_82 : decode cX6_lodge 82 = .ok (.if_icmp .ne 7, 3) := dk_160 0 7 (dk_at dksX6_lodge_3 11 rfl rfl)
theorem dX6_lodge_85 : decode cX6_lodge 85 = .ok (.iconst 0, 1) := dk_3 (dk_at dksX6_lodge_3 14 rfl rfl)
theorem dX6_lodge_86 : decode cX6_lodge 86 = .ok (.goto 6, 3) := dk_167 0 6 (dk_at dksX6_lodge_3 15 rfl rfl)
theorem dX6_lodge_89 : decode cX6_lodge 89 = .ok (.ldc_w 308, 3) := dk_19 1 52 (dk_at dksX6_lodge_3 18 rfl rfl)
theorem dX6_lodge_92 : decode cX6_lodge 92 = .ok (.istore 4, 2) := dk_54 4 (dk_at dksX6_lodge_3 21 rfl rfl)
theorem dX6_lodge_94 : decode cX6_lodge 94 = .ok (.iconst 0, 1) := dk_3 (dk_at dksX6_lodge_3 23 rfl rfl)
theorem dX6_lodge_95 : decode cX6_lodge 95 = .ok (.istore 5, 2) := dk_54 5 (dk_at dksX6_lodge_4 0 rfl rfl)
theorem dX6_lodge_97 : decode cX6_lodge 97 = .ok (.iload 5, 2) := dk_21 5 (dk_at dksX6_lodge_4 2 rfl rfl)
theorem dX6_lodge_99 : decode cX6_lodge 99 = .ok (.bipush 8, 2) := dk_16 8 (dk_at dksX6_lodge_4 4 rfl rfl)
theorem dX6_lodge_101 : decode cX6_lodge 101 = .ok (.if_icmp .ge 32, 3) := dk_162 0 32 (dk_at dksX6_lodge_4 6 rfl rfl)
theorem dX6_lodge_104 : decode cX6_lodge 104 = .ok (.iload_n 2, 1) := dk_28 (dk_at dksX6_lodge_4 9 rfl rfl)
theorem dX6_lodge_105 : decode cX6_lodge 105 = .ok (.aload_n 0, 1) := dk_42 (dk_at dksX6_lodge_4 10 rfl rfl)
theorem dX6_lodge_106 : decode cX6_lodge 106 = .ok (.getfield 309, 3) := dk_180 1 53 (dk_at dksX6_lodge_4 11 rfl rfl)
theorem dX6_lodge_109 : decode cX6_lodge 109 = .ok (.if_icmp .ge 24, 3) := dk_162 0 24 (dk_at dksX6_lodge_4 14 rfl rfl)
theorem dX6_lodge_112 : decode cX6_lodge 112 = .ok (.iload 4, 2) := dk_21 4 (dk_at dksX6_lodge_4 17 rfl rfl)
theorem dX6_lodge_114 : decode cX6_lodge 114 = .ok (.aload_n 0, 1) := dk_42 (dk_at dksX6_lodge_4 19 rfl rfl)
theorem dX6_lodge_115 : decode cX6_lodge 115 = .ok (.iload_n 2, 1) := dk_28 (dk_at dksX6_lodge_4 20 rfl rfl)
theorem dX6_lodge_116 : decode cX6_lodge 116 = .ok (.iload_n 3, 1) := dk_29 (dk_at dksX6_lodge_4 21 rfl rfl)
theorem dX6_lodge_117 : decode cX6_lodge 117 = .ok (.iload 5, 2) := dk_21 5 (dk_at dksX6_lodge_4 22 rfl rfl)
theorem dX6_lodge_119 : decode cX6_lodge 119 = .ok (.invokevirtual 312, 3) := dk_182 1 56 (dk_at dksX6_lodge_5 0 rfl rfl)
theorem dX6_lodge_122 : decode cX6_lodge 122 = .ok (.invokestatic 243, 3) := dk_184 0 243 (dk_at dksX6_lodge_5 3 rfl rfl)
theorem dX6_lodge_125 : decode cX6_lodge 125 = .ok (.istore 4, 2) := dk_54 4 (dk_at dksX6_lodge_5 6 rfl rfl)
theorem dX6_lodge_127 : decode cX6_lodge 127 = .ok (.iinc 5 1, 3) := dk_132 5 1 (dk_at dksX6_lodge_5 8 rfl rfl)
theorem dX6_lodge_130 : decode cX6_lodge 130 = .ok (.goto (-33), 3) := dk_167 255 223 (dk_at dksX6_lodge_5 11 rfl rfl)
theorem dX6_lodge_133 : decode cX6_lodge 133 = .ok (.aload_n 0, 1) := dk_42 (dk_at dksX6_lodge_5 14 rfl rfl)
theorem dX6_lodge_134 : decode cX6_lodge 134 = .ok (.getfield 35, 3) := dk_180 0 35 (dk_at dksX6_lodge_5 15 rfl rfl)
theorem dX6_lodge_137 : decode cX6_lodge 137 = .ok (.sipush 256, 3) := dk_17 1 0 (dk_at dksX6_lodge_5 18 rfl rfl)
theorem dX6_lodge_140 : decode cX6_lodge 140 = .ok (.iload_n 2, 1) := dk_28 (dk_at dksX6_lodge_5 21 rfl rfl)
theorem dX6_lodge_141 : decode cX6_lodge 141 = .ok (.imul, 1) := dk_104 (dk_at dksX6_lodge_5 22 rfl rfl)
theorem dX6_lodge_142 : decode cX6_lodge 142 = .ok (.iload_n 3, 1) := dk_29 (dk_at dksX6_lodge_5 23 rfl rfl)
theorem dX6_lodge_143 : decode cX6_lodge 143 = .ok (.iadd, 1) := dk_96 (dk_at dksX6_lodge_6 0 rfl rfl)
theorem dX6_lodge_144 : decode cX6_lodge 144 = .ok (.iload 4, 2) := dk_21 4 (dk_at dksX6_lodge_6 1 rfl rfl)
theorem dX6_lodge_146 : decode cX6_lodge 146 = .ok (.iastore, 1) := dk_79 (dk_at dksX6_lodge_6 3 rfl rfl)
theorem dX6_lodge_147 : decode cX6_lodge 147 = .ok (.iinc 3 1, 3) := dk_132 3 1 (dk_at dksX6_lodge_6 4 rfl rfl)
theorem dX6_lodge_150 : decode cX6_lodge 150 = .ok (.goto (-80), 3) := dk_167 255 176 (dk_at dksX6_lodge_6 7 rfl rfl)
theorem dX6_lodge_153 : decode cX6_lodge 153 = .ok (.iinc 2 (-1), 3) := dk_132 2 255 (dk_at dksX6_lodge_6 10 rfl rfl)
theorem dX6_lodge_156 : decode cX6_lodge 156 = .ok (.goto (-92), 3) := dk_167 255 164 (dk_at dksX6_lodge_6 13 rfl rfl)
theorem dX6_lodge_159 : decode cX6_lodge 159 = .ok (.aload_n 0, 1) := dk_42 (dk_at dksX6_lodge_6 16 rfl rfl)
theorem dX6_lodge_160 : decode cX6_lodge 160 = .ok (.getfield 35, 3) := dk_180 0 35 (dk_at dksX6_lodge_6 17 rfl rfl)
theorem dX6_lodge_163 : decode cX6_lodge 163 = .ok (.iconst 0, 1) := dk_3 (dk_at dksX6_lodge_6 20 rfl rfl)
theorem dX6_lodge_164 : decode cX6_lodge 164 = .ok (.iaload, 1) := dk_46 (dk_at dksX6_lodge_6 21 rfl rfl)
theorem dX6_lodge_165 : decode cX6_lodge 165 = .ok (.ldc_w 308, 3) := dk_19 1 52 (dk_at dksX6_lodge_7 0 rfl rfl)
theorem dX6_lodge_168 : decode cX6_lodge 168 = .ok (.if_icmp .ne 5, 3) := dk_160 0 5 (dk_at dksX6_lodge_7 3 rfl rfl)
theorem dX6_lodge_171 : decode cX6_lodge 171 = .ok (.iconst (-1), 1) := dk_2 (dk_at dksX6_lodge_7 6 rfl rfl)
theorem dX6_lodge_172 : decode cX6_lodge 172 = .ok (.ireturn, 1) := dk_172 (dk_at dksX6_lodge_7 7 rfl rfl)
theorem dX6_lodge_173 : decode cX6_lodge 173 = .ok (.iload_n 1, 1) := dk_27 (dk_at dksX6_lodge_7 8 rfl rfl)
theorem dX6_lodge_174 : decode cX6_lodge 174 = .ok (.iconst (-1), 1) := dk_2 (dk_at dksX6_lodge_7 9 rfl rfl)
theorem dX6_lodge_175 : decode cX6_lodge 175 = .ok (.if_icmp .ne 10, 3) := dk_160 0 10 (dk_at dksX6_lodge_7 10 rfl rfl)
theorem dX6_lodge_178 : decode cX6_lodge 178 = .ok (.aload_n 0, 1) := dk_42 (dk_at dksX6_lodge_7 13 rfl rfl)
theorem dX6_lodge_179 : decode cX6_lodge 179 = .ok (.getfield 35, 3) := dk_180 0 35 (dk_at dksX6_lodge_7 14 rfl rfl)
theorem dX6_lodge_182 : decode cX6_lodge 182 = .ok (.iconst 0, 1) := dk_3 (dk_at dksX6_lodge_7 17 rfl rfl)
theorem dX6_lodge_183 : decode cX6_lodge 183 = .ok (.iaload, 1) := dk_46 (dk_at dksX6_lodge_7 18 rfl rfl)
theorem dX6_lodge_184 : decode cX6_lodge 184 = .ok (.ireturn, 1) := dk_172 (dk_at dksX6_lodge_7 19 rfl rfl)
theorem dX6_lodge_185 : decode cX6_lodge 185 = .ok (.iload_n 1, 1) := dk_27 (dk_at dksX6_lodge_7 20 rfl rfl)
theorem dX6_lodge_186 : decode cX6_lodge 186 = .ok (.iconst 0, 1) := dk_3 (dk_at dksX6_lodge_7 21 rfl rfl)
theorem dX6_lodge_187 : decode cX6_lodge 187 = .ok (.aload_n 0, 1) := dk_42 (dk_at dksX6_lodge_7 22 rfl rfl)
theorem dX6_lodge_188 : decode cX6_lodge 188 = .ok (.getfield 309, 3) := dk_180 1 53 (dk_at dksX6_lodge_8 0 rfl rfl)
theorem dX6_lodge_191 : decode cX6_lodge 191 = .ok (.iconst 1, 1) := dk_4 (dk_at dksX6_lodge_8 3 rfl rfl)
theorem dX6_lodge_192 : decode cX6_lodge 192 = .ok (.isub, 1) := dk_100 (dk_at dksX6_lodge_8 4 rfl rfl)
theorem dX6_lodge_193 : decode cX6_lodge 193 = .ok (.invokestatic 45, 3) := dk_184 0 45 (dk_at dksX6_lodge_8 5 rfl rfl)
theorem dX6_lodge_196 : decode cX6_lodge 196 = .ok (.ifCond .ne 5, 3) := dk_154 0 5 (dk_at dksX6_lodge_8 8 rfl rfl)
theorem dX6_lodge_199 : decode cX6_lodge 199 = .ok (.iconst (-1), 1) := dk_2 (dk_at dksX6_lodge_8 11 rfl rfl)
theorem dX6_lodge_200 : decode cX6_lodge 200 = .ok (.ireturn, 1) := dk_172 (dk_at dksX6_lodge_8 12 rfl rfl)
theorem dX6_lodge_201 : decode cX6_lodge 201 = .ok (.iconst 0, 1) := dk_3 (dk_at dksX6_lodge_8 13 rfl rfl)
theorem dX6_lodge_202 : decode cX6_lodge 202 = .ok (.istore_n 2, 1) := dk_61 (dk_at dksX6_lodge_8 14 rfl rfl)
theorem dX6_lodge_203 : decode cX6_lodge 203 = .ok (.iconst 0, 1) := dk_3 (dk_at dksX6_lodge_8 15 rfl rfl)
theorem dX6_lodge_204 : decode cX6_lodge 204 = .ok (.istore_n 3, 1) := dk_62 (dk_at dksX6_lodge_8 16 rfl rfl)
theorem dX6_lodge_205 : decode cX6_lodge 205 = .ok (.iconst 0, 1) := dk_3 (dk_at dksX6_lodge_8 17 rfl rfl)
theorem dX6_lodge_206 : decode cX6_lodge 206 = .ok (.istore 4, 2) := dk_54 4 (dk_at dksX6_lodge_8 18 rfl rfl)
theorem dX6_lodge_208 : decode cX6_lodge 208 = .ok (.iload 4, 2) := dk_21 4 (dk_at dksX6_lodge_8 20 rfl rfl)
theorem dX6_lodge_210 : decode cX6_lodge 210 = .ok (.iload_n 1, 1) := dk_27 (dk_at dksX6_lodge_8 22 rfl rfl)
theorem dX6_lodge_211 : decode cX6_lodge 211 = .ok (.if_icmp .gt 47, 3) := dk_163 0 47 (dk_at dksX6_lodge_9 0 rfl rfl)
theorem dX6_lodge_214 : decode cX6_lodge 214 = .ok (.iconst 0, 1) := dk_3 (dk_at dksX6_lodge_9 3 rfl rfl)
theorem dX6_lodge_215 : decode cX6_lodge 215 = .ok (.istore_n 3, 1) := dk_62 (dk_at dksX6_lodge_9 4 rfl rfl)
theorem dX6_lodge_216 : decode cX6_lodge 216 = .ok (.aload_n 0, 1) := dk_42 (dk_at dksX6_lodge_9 5 rfl rfl)
theorem dX6_lodge_217 : decode cX6_lodge 217 = .ok (.iload 4, 2) := dk_21 4 (dk_at dksX6_lodge_9 6 rfl rfl)
theorem dX6_lodge_219 : decode cX6_lodge 219 = .ok (.iload_n 2, 1) := dk_28 (dk_at dksX6_lodge_9 8 rfl rfl)
theorem dX6_lodge_220 : decode cX6_lodge 220 = .ok (.iload_n 3, 1) := dk_29 (dk_at dksX6_lodge_9 9 rfl rfl)
theorem dX6_lodge_221 : decode cX6_lodge 221 = .ok (.invokevirtual 312, 3) := dk_182 1 56 (dk_at dksX6_lodge_9 10 rfl rfl)
theorem dX6_lodge_224 : decode cX6_lodge 224 = .ok (.aload_n 0, 1) := dk_42 (dk_at dksX6_lodge_9 13 rfl rfl)
theorem dX6_lodge_225 : decode cX6_lodge 225 = .ok (.getfield 35, 3) := dk_180 0 35 (dk_at dksX6_lodge_9 14 rfl rfl)
theorem dX6_lodge_228 : decode cX6_lodge 228 = .ok (.sipush 256, 3) := dk_17 1 0 (dk_at dksX6_lodge_9 17 rfl rfl)
theorem dX6_lodge_231 : decode cX6_lodge 231 = .ok (.iload 4, 2) := dk_21 4 (dk_at dksX6_lodge_9 20 rfl rfl)
theorem dX6_lodge_233 : decode cX6_lodge 233 = .ok (.imul, 1) := dk_104 (dk_at dksX6_lodge_9 22 rfl rfl)
theorem dX6_lodge_234 : decode cX6_lodge 234 = .ok (.iload_n 2, 1) := dk_28 (dk_at dksX6_lodge_9 23 rfl rfl)
theorem dX6_lodge_235 : decode cX6_lodge 235 = .ok (.iadd, 1) := dk_96 (dk_at dksX6_lodge_10 0 rfl rfl)
theorem dX6_lodge_236 : decode cX6_lodge 236 = .ok (.iaload, 1) := dk_46 (dk_at dksX6_lodge_10 1 rfl rfl)
theorem dX6_lodge_237 : decode cX6_lodge 237 = .ok (.if_icmp .eq 9, 3) := dk_159 0 9 (dk_at dksX6_lodge_10 2 rfl rfl)
theorem dX6_lodge_240 : decode cX6_lodge 240 = .ok (.iinc 3 1, 3) := dk_132 3 1 (dk_at dksX6_lodge_10 5 rfl rfl)
theorem dX6_lodge_243 : decode cX6_lodge 243 = .ok (.goto (-27), 3) := dk_167 255 229 (dk_at dksX6_lodge_10 8 rfl rfl)
theorem dX6_lodge_246 : decode cX6_lodge 246 = .ok (.iload_n 2, 1) := dk_28 (dk_at dksX6_lodge_10 11 rfl rfl)
theorem dX6_lodge_247 : decode cX6_lodge 247 = .ok (.iconst 1, 1) := dk_4 (dk_at dksX6_lodge_10 12 rfl rfl)
theorem dX6_lodge_248 : decode cX6_lodge 248 = .ok (.iload_n 3, 1) := dk_29 (dk_at dksX6_lodge_10 13 rfl rfl)
theorem dX6_lodge_249 : decode cX6_lodge 249 = .ok (.ishl, 1) := dk_120 (dk_at dksX6_lodge_10 14 rfl rfl)
theorem dX6_lodge_250 : decode cX6_lodge 250 = .ok (.ior, 1) := dk_128 (dk_at dksX6_lodge_10 15 rfl rfl)
theorem dX6_lodge_251 : decode cX6_lodge 251 = .ok (.istore_n 2, 1) := dk_61 (dk_at dksX6_lodge_10 16 rfl rfl)
theorem dX6_lodge_252 : decode cX6_lodge 252 = .ok (.iinc 4 1, 3) := dk_132 4 1 (dk_at dksX6_lodge_10 17 rfl rfl)
theorem dX6_lodge_255 : decode cX6_lodge 255 = .ok (.goto (-47), 3) := dk_167 255 209 (dk_at dksX6_lodge_10 20 rfl rfl)
theorem dX6_lodge_258 : decode cX6_lodge 258 = .ok (.iload_n 3, 1) := dk_29 (dk_at dksX6_lodge_10 23 rfl rfl)
theorem dX6_lodge_259 : decode cX6_lodge 259 = .ok (.ireturn, 1) := dk_172 (dk_at dksX6_lodge_11 0 rfl rfl)
abbrev cX6_by : ByteArray := prog_18_method_89_code
def yX6_by : MethodName := ⟨RX6, "by", "(III)I"⟩
def dkwX6_by_4 : List UInt8 := [21, 4, 3, 182, 0, 49, 29, 160, 0, 7, 3, 167, 0, 4, 4, 96, 172]
abbrev dktX6_by_4 : List UInt8 := dkwX6_by_4 ++ []
def dkwX6_by_3 : List UInt8 := [19, 1, 52, 172, 42, 180, 0, 35, 17, 1, 0, 27, 4, 96, 104, 28, 4, 29, 120, 128, 96, 46, 42]
abbrev dktX6_by_3 : List UInt8 := dkwX6_by_3 ++ dktX6_by_4
def dkwX6_by_2 : List UInt8 := [42, 180, 0, 35, 17, 1, 0, 27, 4, 96, 104, 28, 4, 29, 120, 128, 96, 46, 19, 1, 52, 160, 0, 7]
abbrev dktX6_by_2 : List UInt8 := dkwX6_by_2 ++ dktX6_by_3
def dkwX6_by_1 : List UInt8 := [182, 0, 49, 4, 160, 0, 7, 4, 167, 0, 4, 3, 42, 180, 0, 7, 7, 46, 182, 0, 232, 154, 0, 27]
abbrev dktX6_by_1 : List UInt8 := dkwX6_by_1 ++ dktX6_by_2
def dkwX6_by_0 : List UInt8 := [42, 180, 0, 32, 27, 46, 54, 4, 28, 29, 184, 0, 53, 154, 0, 57, 42, 29, 42, 21, 4, 6]
abbrev dktX6_by_0 : List UInt8 := dkwX6_by_0 ++ dktX6_by_1
theorem dksX6_by_0 : cX6_by.data.toList.drop 0 = dktX6_by_0 := by decide +kernel
theorem dksX6_by_1 : cX6_by.data.toList.drop 22 = dktX6_by_1 := dk_seg dksX6_by_0 22 rfl rfl
theorem dksX6_by_2 : cX6_by.data.toList.drop 46 = dktX6_by_2 := dk_seg dksX6_by_1 24 rfl rfl
theorem dksX6_by_3 : cX6_by.data.toList.drop 70 = dktX6_by_3 := dk_seg dksX6_by_2 24 rfl rfl
theorem dksX6_by_4 : cX6_by.data.toList.drop 93 = dktX6_by_4 := dk_seg dksX6_by_3 23 rfl rfl
theorem dX6_by_0 : decode cX6_by 0 = .ok (.aload_n 0, 1) := dk_42 (dk_at dksX6_by_0 0 rfl rfl)
theorem dX6_by_1 : decode cX6_by 1 = .ok (.getfield 32, 3) := dk_180 0 32 (dk_at dksX6_by_0 1 rfl rfl)
theorem dX6_by_4 : decode cX6_by 4 = .ok (.iload_n 1, 1) := dk_27 (dk_at dksX6_by_0 4 rfl rfl)
theorem dX6_by_5 : decode cX6_by 5 = .ok (.iaload, 1) := dk_46 (dk_at dksX6_by_0 5 rfl rfl)
theorem dX6_by_6 : decode cX6_by 6 = .ok (.istore 4, 2) := dk_54 4 (dk_at dksX6_by_0 6 rfl rfl)
theorem dX6_by_8 : decode cX6_by 8 = .ok (.iload_n 2, 1) := dk_28 (dk_at dksX6_by_0 8 rfl rfl)
theorem dX6_by_9 : decode cX6_by 9 = .ok (.iload_n 3, 1) := dk_29 (dk_at dksX6_by_0 9 rfl rfl)
theorem dX6_by_10 : decode cX6_by 10 = .ok (.invokestatic 53, 3) := dk_184 0 53 (dk_at dksX6_by_0 10 rfl rfl)
theorem dX6_by_13 : decode cX6_by 13 = .ok (.ifCond .ne 57, 3) := dk_154 0 57 (dk_at dksX6_by_0 13 rfl rfl)
theorem dX6_by_16 : decode cX6_by 16 = .ok (.aload_n 0, 1) := dk_42 (dk_at dksX6_by_0 16 rfl rfl)
theorem dX6_by_17 : decode cX6_by 17 = .ok (.iload_n 3, 1) := dk_29 (dk_at dksX6_by_0 17 rfl rfl)
theorem dX6_by_18 : decode cX6_by 18 = .ok (.aload_n 0, 1) := dk_42 (dk_at dksX6_by_0 18 rfl rfl)
theorem dX6_by_19 : decode cX6_by 19 = .ok (.iload 4, 2) := dk_21 4 (dk_at dksX6_by_0 19 rfl rfl)
theorem dX6_by_21 : decode cX6_by 21 = .ok (.iconst 3, 1) := dk_6 (dk_at dksX6_by_0 21 rfl rfl)
theorem dX6_by_22 : decode cX6_by 22 = .ok (.invokevirtual 49, 3) := dk_182 0 49 (dk_at dksX6_by_1 0 rfl rfl)
theorem dX6_by_25 : decode cX6_by 25 = .ok (.iconst 1, 1) := dk_4 (dk_at dksX6_by_1 3 rfl rfl)
theorem dX6_by_26 : decode cX6_by 26 = .ok (.if_icmp .ne 7, 3) := dk_160 0 7 (dk_at dksX6_by_1 4 rfl rfl)
theorem dX6_by_29 : decode cX6_by 29 = .ok (.iconst 1, 1) := dk_4 (dk_at dksX6_by_1 7 rfl rfl)
theorem dX6_by_30 : decode cX6_by 30 = .ok (.goto 4, 3) := dk_167 0 4 (dk_at dksX6_by_1 8 rfl rfl)
theorem dX6_by_33 : decode cX6_by 33 = .ok (.iconst 0, 1) := dk_3 (dk_at dksX6_by_1 11 rfl rfl)
theorem dX6_by_34 : decode cX6_by 34 = .ok (.aload_n 0, 1) := dk_42 (dk_at dksX6_by_1 12 rfl rfl)
theorem dX6_by_35 : decode cX6_by 35 = .ok (.getfield 7, 3) := dk_180 0 7 (dk_at dksX6_by_1 13 rfl rfl)
theorem dX6_by_38 : decode cX6_by 38 = .ok (.iconst 4, 1) := dk_7 (dk_at dksX6_by_1 16 rfl rfl)
theorem dX6_by_39 : decode cX6_by 39 = .ok (.iaload, 1) := dk_46 (dk_at dksX6_by_1 17 rfl rfl)
theorem dX6_by_40 : decode cX6_by 40 = .ok (.invokevirtual 232, 3) := dk_182 0 232 (dk_at dksX6_by_1 18 rfl rfl)
theorem dX6_by_43 : decode cX6_by 43 = .ok (.ifCond .ne 27, 3) := dk_154 0 27 (dk_at dksX6_by_1 21 rfl rfl)
theorem dX6_by_46 : decode cX6_by 46 = .ok (.aload_n 0, 1) := dk_42 (dk_at dksX6_by_2 0 rfl rfl)
theorem dX6_by_47 : decode cX6_by 47 = .ok (.getfield 35, 3) := dk_180 0 35 (dk_at dksX6_by_2 1 rfl rfl)
theorem dX6_by_50 : decode cX6_by 50 = .ok (.sipush 256, 3) := dk_17 1 0 (dk_at dksX6_by_2 4 rfl rfl)
theorem dX6_by_53 : decode cX6_by 53 = .ok (.iload_n 1, 1) := dk_27 (dk_at dksX6_by_2 7 rfl rfl)
theorem dX6_by_54 : decode cX6_by 54 = .ok (.iconst 1, 1) := dk_4 (dk_at dksX6_by_2 8 rfl rfl)
theorem dX6_by_55 : decode cX6_by 55 = .ok (.iadd, 1) := dk_96 (dk_at dksX6_by_2 9 rfl rfl)
theorem dX6_by_56 : decode cX6_by 56 = .ok (.imul, 1) := dk_104 (dk_at dksX6_by_2 10 rfl rfl)
theorem dX6_by_57 : decode cX6_by 57 = .ok (.iload_n 2, 1) := dk_28 (dk_at dksX6_by_2 11 rfl rfl)
theorem dX6_by_58 : decode cX6_by 58 = .ok (.iconst 1, 1) := dk_4 (dk_at dksX6_by_2 12 rfl rfl)
theorem dX6_by_59 : decode cX6_by 59 = .ok (.iload_n 3, 1) := dk_29 (dk_at dksX6_by_2 13 rfl rfl)
theorem dX6_by_60 : decode cX6_by 60 = .ok (.ishl, 1) := dk_120 (dk_at dksX6_by_2 14 rfl rfl)
theorem dX6_by_61 : decode cX6_by 61 = .ok (.ior, 1) := dk_128 (dk_at dksX6_by_2 15 rfl rfl)
theorem dX6_by_62 : decode cX6_by 62 = .ok (.iadd, 1) := dk_96 (dk_at dksX6_by_2 16 rfl rfl)
theorem dX6_by_63 : decode cX6_by 63 = .ok (.iaload, 1) := dk_46 (dk_at dksX6_by_2 17 rfl rfl)
theorem dX6_by_64 : decode cX6_by 64 = .ok (.ldc_w 308, 3) := dk_19 1 52 (dk_at dksX6_by_2 18 rfl rfl)
theorem dX6_by_67 : decode cX6_by 67 = .ok (.if_icmp .ne 7, 3) := dk_160 0 7 (dk_at dksX6_by_2 21 rfl rfl)
theorem dX6_by_70 : decode cX6_by 70 = .ok (.ldc_w 308, 3) := dk_19 1 52 (dk_at dksX6_by_3 0 rfl rfl)
theorem dX6_by_73 : decode cX6_by 73 = .ok (.ireturn, 1) := dk_172 (dk_at dksX6_by_3 3 rfl rfl)
theorem dX6_by_74 : decode cX6_by 74 = .ok (.aload_n 0, 1) := dk_42 (dk_at dksX6_by_3 4 rfl rfl)
theorem dX6_by_75 : decode cX6_by 75 = .ok (.getfield 35, 3) := dk_180 0 35 (dk_at dksX6_by_3 5 rfl rfl)
theorem dX6_by_78 : decode cX6_by 78 = .ok (.sipush 256, 3) := dk_17 1 0 (dk_at dksX6_by_3 8 rfl rfl)
theorem dX6_by_81 : decode cX6_by 81 = .ok (.iload_n 1, 1) := dk_27 (dk_at dksX6_by_3 11 rfl rfl)
theorem dX6_by_82 : decode cX6_by 82 = .ok (.iconst 1, 1) := dk_4 (dk_at dksX6_by_3 12 rfl rfl)
theorem dX6_by_83 : decode cX6_by 83 = .ok (.iadd, 1) := dk_96 (dk_at dksX6_by_3 13 rfl rfl)
theorem dX6_by_84 : decode cX6_by 84 = .ok (.imul, 1) := dk_104 (dk_at dksX6_by_3 14 rfl rfl)
theorem dX6_by_85 : decode cX6_by 85 = .ok (.iload_n 2, 1) := dk_28 (dk_at dksX6_by_3 15 rfl rfl)
theorem dX6_by_86 : decode cX6_by 86 = .ok (.iconst 1, 1) := dk_4 (dk_at dksX6_by_3 16 rfl rfl)
theorem dX6_by_87 : decode cX6_by 87 = .ok (.iload_n 3, 1) := dk_29 (dk_at dksX6_by_3 17 rfl rfl)
theorem dX6_by_88 : decode cX6_by 88 = .ok (.ishl, 1) := dk_120 (dk_at dksX6_by_3 18 rfl rfl)
theorem dX6_by_89 : decode cX6_by 89 = .ok (.ior, 1) := dk_128 (dk_at dksX6_by_3 19 rfl rfl)
theorem dX6_by_90 : decode cX6_by 90 = .ok (.iadd, 1) := dk_96 (dk_at dksX6_by_3 20 rfl rfl)
theorem dX6_by_91 : decode cX6_by 91 = .ok (.iaload, 1) := dk_46 (dk_at dksX6_by_3 21 rfl rfl)
theorem dX6_by_92 : decode cX6_by 92 = .ok (.aload_n 0, 1) := dk_42 (dk_at dksX6_by_3 22 rfl rfl)
theorem dX6_by_93 : decode cX6_by 93 = .ok (.iload 4, 2) := dk_21 4 (dk_at dksX6_by_4 0 rfl rfl)
theorem dX6_by_95 : decode cX6_by 95 = .ok (.iconst 0, 1) := dk_3 (dk_at dksX6_by_4 2 rfl rfl)
theorem dX6_by_96 : decode cX6_by 96 = .ok (.invokevirtual 49, 3) := dk_182 0 49 (dk_at dksX6_by_4 3 rfl rfl)
theorem dX6_by_99 : decode cX6_by 99 = .ok (.iload_n 3, 1) := dk_29 (dk_at dksX6_by_4 6 rfl rfl)
theorem dX6_by_100 : decode cX6_by 100 = .ok (.if_icmp .ne 7, 3) := dk_160 0 7 (dk_at dksX6_by_4 7 rfl rfl)
theorem dX6_by_103 : decode cX6_by 103 = .ok (.iconst 0, 1) := dk_3 (dk_at dksX6_by_4 10 rfl rfl)
theorem dX6_by_104 : decode cX6_by 104 = .ok (.goto 4, 3) := dk_167 0 4 (dk_at dksX6_by_4 11 rfl rfl)
theorem dX6_by_107 : decode cX6_by 107 = .ok (.iconst 1, 1) := dk_4 (dk_at dksX6_by_4 14 rfl rfl)
theorem dX6_by_108 : decode cX6_by 108 = .ok (.iadd, 1) := dk_96 (dk_at dksX6_by_4 15 rfl rfl)
theorem dX6_by_109 : decode cX6_by 109 = .ok (.ireturn, 1) := dk_172 (dk_at dksX6_by_4 16 rfl rfl)
abbrev cX6_rests : ByteArray := prog_18_method_93_code
def yX6_rests : MethodName := ⟨RX6, "rests", "(I)I"⟩
def dkwX6_rests_5 : List UInt8 := [132, 4, 1, 167, 255, 180, 29, 172]
abbrev dktX6_rests_5 : List UInt8 := dkwX6_rests_5 ++ []
def dkwX6_rests_4 : List UInt8 := [182, 1, 64, 42, 27, 28, 21, 5, 21, 6, 182, 1, 64, 163, 0, 10, 29, 4, 21, 4, 120, 128, 62]
abbrev dktX6_rests_4 : List UInt8 := dkwX6_rests_4 ++ dktX6_rests_5
def dkwX6_rests_3 : List UInt8 := [182, 1, 60, 42, 28, 21, 5, 21, 6, 182, 1, 60, 163, 0, 35, 42, 27, 28, 21, 5, 4, 21, 6, 100]
abbrev dktX6_rests_3 : List UInt8 := dkwX6_rests_3 ++ dktX6_rests_4
def dkwX6_rests_2 : List UInt8 := [7, 162, 0, 76, 21, 4, 5, 108, 54, 5, 21, 4, 5, 112, 54, 6, 42, 28, 4, 21, 5, 100, 21, 6]
abbrev dktX6_rests_2 : List UInt8 := dkwX6_rests_2 ++ dktX6_rests_3
def dkwX6_rests_1 : List UInt8 := [3, 172, 42, 42, 180, 0, 7, 7, 46, 182, 0, 252, 27, 184, 0, 53, 61, 3, 62, 3, 54, 4, 21, 4]
abbrev dktX6_rests_1 : List UInt8 := dkwX6_rests_1 ++ dktX6_rests_2
def dkwX6_rests_0 : List UInt8 := [42, 42, 27, 182, 1, 11, 154, 0, 7, 4, 167, 0, 4, 3, 181, 0, 42, 42, 180, 0, 42, 158, 0, 5]
abbrev dktX6_rests_0 : List UInt8 := dkwX6_rests_0 ++ dktX6_rests_1
theorem dksX6_rests_0 : cX6_rests.data.toList.drop 0 = dktX6_rests_0 := by decide +kernel
theorem dksX6_rests_1 : cX6_rests.data.toList.drop 24 = dktX6_rests_1 := dk_seg dksX6_rests_0 24 rfl rfl
theorem dksX6_rests_2 : cX6_rests.data.toList.drop 48 = dktX6_rests_2 := dk_seg dksX6_rests_1 24 rfl rfl
theorem dksX6_rests_3 : cX6_rests.data.toList.drop 72 = dktX6_rests_3 := dk_seg dksX6_rests_2 24 rfl rfl
theorem dksX6_rests_4 : cX6_rests.data.toList.drop 96 = dktX6_rests_4 := dk_seg dksX6_rests_3 24 rfl rfl
theorem dksX6_rests_5 : cX6_rests.data.toList.drop 119 = dktX6_rests_5 := dk_seg dksX6_rests_4 23 rfl rfl
theorem dX6_rests_0 : decode cX6_rests 0 = .ok (.aload_n 0, 1) := dk_42 (dk_at dksX6_rests_0 0 rfl rfl)
theorem dX6_rests_1 : decode cX6_rests 1 = .ok (.aload_n 0, 1) := dk_42 (dk_at dksX6_rests_0 1 rfl rfl)
theorem dX6_rests_2 : decode cX6_rests 2 = .ok (.iload_n 1, 1) := dk_27 (dk_at dksX6_rests_0 2 rfl rfl)
theorem dX6_rests_3 : decode cX6_rests 3 = .ok (.invokevirtual 267, 3) := dk_182 1 11 (dk_at dksX6_rests_0 3 rfl rfl)
theorem dX6_rests_6 : decode cX6_rests 6 = .ok (.ifCond .ne 7, 3) := dk_154 0 7 (dk_at dksX6_rests_0 6 rfl rfl)
theorem dX6_rests_9 : decode cX6_rests 9 = .ok (.iconst 1, 1) := dk_4 (dk_at dksX6_rests_0 9 rfl rfl)
theorem dX6_rests_10 : decode cX6_rests 10 = .ok (.goto 4, 3) := dk_167 0 4 (dk_at dksX6_rests_0 10 rfl rfl)
theorem dX6_rests_13 : decode cX6_rests 13 = .ok (.iconst 0, 1) := dk_3 (dk_at dksX6_rests_0 13 rfl rfl)
theorem dX6_rests_14 : decode cX6_rests 14 = .ok (.putfield 42, 3) := dk_181 0 42 (dk_at dksX6_rests_0 14 rfl rfl)
theorem dX6_rests_17 : decode cX6_rests 17 = .ok (.aload_n 0, 1) := dk_42 (dk_at dksX6_rests_0 17 rfl rfl)
theorem dX6_rests_18 : decode cX6_rests 18 = .ok (.getfield 42, 3) := dk_180 0 42 (dk_at dksX6_rests_0 18 rfl rfl)
theorem dX6_rests_21 : decode cX6_rests 21 = .ok (.ifCond .le 5, 3) := dk_158 0 5 (dk_at dksX6_rests_0 21 rfl rfl)
theorem dX6_rests_24 : decode cX6_rests 24 = .ok (.iconst 0, 1) := dk_3 (dk_at dksX6_rests_1 0 rfl rfl)
theorem dX6_rests_25 : decode cX6_rests 25 = .ok (.ireturn, 1) := dk_172 (dk_at dksX6_rests_1 1 rfl rfl)
theorem dX6_rests_26 : decode cX6_rests 26 = .ok (.aload_n 0, 1) := dk_42 (dk_at dksX6_rests_1 2 rfl rfl)
theorem dX6_rests_27 : decode cX6_rests 27 = .ok (.aload_n 0, 1) := dk_42 (dk_at dksX6_rests_1 3 rfl rfl)
theorem dX6_rests_28 : decode cX6_rests 28 = .ok (.getfield 7, 3) := dk_180 0 7 (dk_at dksX6_rests_1 4 rfl rfl)
theorem dX6_rests_31 : decode cX6_rests 31 = .ok (.iconst 4, 1) := dk_7 (dk_at dksX6_rests_1 7 rfl rfl)
theorem dX6_rests_32 : decode cX6_rests 32 = .ok (.iaload, 1) := dk_46 (dk_at dksX6_rests_1 8 rfl rfl)
theorem dX6_rests_33 : decode cX6_rests 33 = .ok (.invokevirtual 252, 3) := dk_182 0 252 (dk_at dksX6_rests_1 9 rfl rfl)
theorem dX6_rests_36 : decode cX6_rests 36 = .ok (.iload_n 1, 1) := dk_27 (dk_at dksX6_rests_1 12 rfl rfl)
theorem dX6_rests_37 : decode cX6_rests 37 = .ok (.invokestatic 53, 3) := dk_184 0 53 (dk_at dksX6_rests_1 13 rfl rfl)
theorem dX6_rests_40 : decode cX6_rests 40 = .ok (.istore_n 2, 1) := dk_61 (dk_at dksX6_rests_1 16 rfl rfl)
theorem dX6_rests_41 : decode cX6_rests 41 = .ok (.iconst 0, 1) := dk_3 (dk_at dksX6_rests_1 17 rfl rfl)
theorem dX6_rests_42 : decode cX6_rests 42 = .ok (.istore_n 3, 1) := dk_62 (dk_at dksX6_rests_1 18 rfl rfl)
theorem dX6_rests_43 : decode cX6_rests 43 = .ok (.iconst 0, 1) := dk_3 (dk_at dksX6_rests_1 19 rfl rfl)
theorem dX6_rests_44 : decode cX6_rests 44 = .ok (.istore 4, 2) := dk_54 4 (dk_at dksX6_rests_1 20 rfl rfl)
theorem dX6_rests_46 : decode cX6_rests 46 = .ok (.iload 4, 2) := dk_21 4 (dk_at dksX6_rests_1 22 rfl rfl)
theorem dX6_rests_48 : decode cX6_rests 48 = .ok (.iconst 4, 1) := dk_7 (dk_at dksX6_rests_2 0 rfl rfl)
theorem dX6_rests_49 : decode cX6_rests 49 = .ok (.if_icmp .ge 76, 3) := dk_162 0 76 (dk_at dksX6_rests_2 1 rfl rfl)
theorem dX6_rests_52 : decode cX6_rests 52 = .ok (.iload 4, 2) := dk_21 4 (dk_at dksX6_rests_2 4 rfl rfl)
theorem dX6_rests_54 : decode cX6_rests 54 = .ok (.iconst 2, 1) := dk_5 (dk_at dksX6_rests_2 6 rfl rfl)
theorem dX6_rests_55 : decode cX6_rests 55 = .ok (.idiv, 1) := dk_108 (dk_at dksX6_rests_2 7 rfl rfl)
theorem dX6_rests_56 : decode cX6_rests 56 = .ok (.istore 5, 2) := dk_54 5 (dk_at dksX6_rests_2 8 rfl rfl)
theorem dX6_rests_58 : decode cX6_rests 58 = .ok (.iload 4, 2) := dk_21 4 (dk_at dksX6_rests_2 10 rfl rfl)
theorem dX6_rests_60 : decode cX6_rests 60 = .ok (.iconst 2, 1) := dk_5 (dk_at dksX6_rests_2 12 rfl rfl)
theorem dX6_rests_61 : decode cX6_rests 61 = .ok (.irem, 1) := dk_112 (dk_at dksX6_rests_2 13 rfl rfl)
theorem dX6_rests_62 : decode cX6_rests 62 = .ok (.istore 6, 2) := dk_54 6 (dk_at dksX6_rests_2 14 rfl rfl)
theorem dX6_rests_64 : decode cX6_rests 64 = .ok (.aload_n 0, 1) := dk_42 (dk_at dksX6_rests_2 16 rfl rfl)
theorem dX6_rests_65 : decode cX6_rests 65 = .ok (.iload_n 2, 1) := dk_28 (dk_at dksX6_rests_2 17 rfl rfl)
theorem dX6_rests_66 : decode cX6_rests 66 = .ok (.iconst 1, 1) := dk_4 (dk_at dksX6_rests_2 18 rfl rfl)
theorem dX6_rests_67 : decode cX6_rests 67 = .ok (.iload 5, 2) := dk_21 5 (dk_at dksX6_rests_2 19 rfl rfl)
theorem dX6_rests_69 : decode cX6_rests 69 = .ok (.isub, 1) := dk_100 (dk_at dksX6_rests_2 21 rfl rfl)
theorem dX6_rests_70 : decode cX6_rests 70 = .ok (.iload 6, 2) := dk_21 6 (dk_at dksX6_rests_2 22 rfl rfl)
theorem dX6_rests_72 : decode cX6_rests 72 = .ok (.invokevirtual 316, 3) := dk_182 1 60 (dk_at dksX6_rests_3 0 rfl rfl)
theorem dX6_rests_75 : decode cX6_rests 75 = .ok (.aload_n 0, 1) := dk_42 (dk_at dksX6_rests_3 3 rfl rfl)
theorem dX6_rests_76 : decode cX6_rests 76 = .ok (.iload_n 2, 1) := dk_28 (dk_at dksX6_rests_3 4 rfl rfl)
theorem dX6_rests_77 : decode cX6_rests 77 = .ok (.iload 5, 2) := dk_21 5 (dk_at dksX6_rests_3 5 rfl rfl)
theorem dX6_rests_79 : decode cX6_rests 79 = .ok (.iload 6, 2) := dk_21 6 (dk_at dksX6_rests_3 7 rfl rfl)
theorem dX6_rests_81 : decode cX6_rests 81 = .ok (.invokevirtual 316, 3) := dk_182 1 60 (dk_at dksX6_rests_3 9 rfl rfl)
theorem dX6_rests_84 : decode cX6_rests 84 = .ok (.if_icmp .gt 35, 3) := dk_163 0 35 (dk_at dksX6_rests_3 12 rfl rfl)
theorem dX6_rests_87 : decode cX6_rests 87 = .ok (.aload_n 0, 1) := dk_42 (dk_at dksX6_rests_3 15 rfl rfl)
theorem dX6_rests_88 : decode cX6_rests 88 = .ok (.iload_n 1, 1) := dk_27 (dk_at dksX6_rests_3 16 rfl rfl)
theorem dX6_rests_89 : decode cX6_rests 89 = .ok (.iload_n 2, 1) := dk_28 (dk_at dksX6_rests_3 17 rfl rfl)
theorem dX6_rests_90 : decode cX6_rests 90 = .ok (.iload 5, 2) := dk_21 5 (dk_at dksX6_rests_3 18 rfl rfl)
theorem dX6_rests_92 : decode cX6_rests 92 = .ok (.iconst 1, 1) := dk_4 (dk_at dksX6_rests_3 20 rfl rfl)
theorem dX6_rests_93 : decode cX6_rests 93 = .ok (.iload 6, 2) := dk_21 6 (dk_at dksX6_rests_3 21 rfl rfl)
theorem dX6_rests_95 : decode cX6_rests 95 = .ok (.isub, 1) := dk_100 (dk_at dksX6_rests_3 23 rfl rfl)
theorem dX6_rests_96 : decode cX6_rests 96 = .ok (.invokevirtual 320, 3) := dk_182 1 64 (dk_at dksX6_rests_4 0 rfl rfl)
theorem dX6_rests_99 : decode cX6_rests 99 = .ok (.aload_n 0, 1) := dk_42 (dk_at dksX6_rests_4 3 rfl rfl)
theorem dX6_rests_100 : decode cX6_rests 100 = .ok (.iload_n 1, 1) := dk_27 (dk_at dksX6_rests_4 4 rfl rfl)
theorem dX6_rests_101 : decode cX6_rests 101 = .ok (.iload_n 2, 1) := dk_28 (dk_at dksX6_rests_4 5 rfl rfl)
theorem dX6_rests_102 : decode cX6_rests 102 = .ok (.iload 5, 2) := dk_21 5 (dk_at dksX6_rests_4 6 rfl rfl)
theorem dX6_rests_104 : decode cX6_rests 104 = .ok (.iload 6, 2) := dk_21 6 (dk_at dksX6_rests_4 8 rfl rfl)
theorem dX6_rests_106 : decode cX6_rests 106 = .ok (.invokevirtual 320, 3) := dk_182 1 64 (dk_at dksX6_rests_4 10 rfl rfl)
theorem dX6_rests_109 : decode cX6_rests 109 = .ok (.if_icmp .gt 10, 3) := dk_163 0 10 (dk_at dksX6_rests_4 13 rfl rfl)
theorem dX6_rests_112 : decode cX6_rests 112 = .ok (.iload_n 3, 1) := dk_29 (dk_at dksX6_rests_4 16 rfl rfl)
theorem dX6_rests_113 : decode cX6_rests 113 = .ok (.iconst 1, 1) := dk_4 (dk_at dksX6_rests_4 17 rfl rfl)
theorem dX6_rests_114 : decode cX6_rests 114 = .ok (.iload 4, 2) := dk_21 4 (dk_at dksX6_rests_4 18 rfl rfl)
theorem dX6_rests_116 : decode cX6_rests 116 = .ok (.ishl, 1) := dk_120 (dk_at dksX6_rests_4 20 rfl rfl)
theorem dX6_rests_117 : decode cX6_rests 117 = .ok (.ior, 1) := dk_128 (dk_at dksX6_rests_4 21 rfl rfl)
theorem dX6_rests_118 : decode cX6_rests 118 = .ok (.istore_n 3, 1) := dk_62 (dk_at dksX6_rests_4 22 rfl rfl)
theorem dX6_rests_119 : decode cX6_rests 119 = .ok (.iinc 4 1, 3) := dk_132 4 1 (dk_at dksX6_rests_5 0 rfl rfl)
theorem dX6_rests_122 : decode cX6_rests 122 = .ok (.goto (-76), 3) := dk_167 255 180 (dk_at dksX6_rests_5 3 rfl rfl)
theorem dX6_rests_125 : decode cX6_rests 125 = .ok (.iload_n 3, 1) := dk_29 (dk_at dksX6_rests_5 6 rfl rfl)
theorem dX6_rests_126 : decode cX6_rests 126 = .ok (.ireturn, 1) := dk_172 (dk_at dksX6_rests_5 7 rfl rfl)
abbrev cX6_hostHas : ByteArray := prog_18_method_91_code
def yX6_hostHas : MethodName := ⟨RX6, "hostHas", "(ZII)I"⟩
def dkwX6_hostHas_1 : List UInt8 := [172]
abbrev dktX6_hostHas_1 : List UInt8 := dkwX6_hostHas_1 ++ []
def dkwX6_hostHas_0 : List UInt8 := [28, 4, 160, 0, 7, 3, 167, 0, 18, 27, 153, 0, 12, 29, 154, 0, 8, 16, 236, 167, 0, 5, 16, 10]
abbrev dktX6_hostHas_0 : List UInt8 := dkwX6_hostHas_0 ++ dktX6_hostHas_1
theorem dksX6_hostHas_0 : cX6_hostHas.data.toList.drop 0 = dktX6_hostHas_0 := by decide +kernel
theorem dksX6_hostHas_1 : cX6_hostHas.data.toList.drop 24 = dktX6_hostHas_1 := dk_seg dksX6_hostHas_0 24 rfl rfl
theorem dX6_hostHas_0 : decode cX6_hostHas 0 = .ok (.iload_n 2, 1) := dk_28 (dk_at dksX6_hostHas_0 0 rfl rfl)
theorem dX6_hostHas_1 : decode cX6_hostHas 1 = .ok (.iconst 1, 1) := dk_4 (dk_at dksX6_hostHas_0 1 rfl rfl)
theorem dX6_hostHas_2 : decode cX6_hostHas 2 = .ok (.if_icmp .ne 7, 3) := dk_160 0 7 (dk_at dksX6_hostHas_0 2 rfl rfl)
theorem dX6_hostHas_5 : decode cX6_hostHas 5 = .ok (.iconst 0, 1) := dk_3 (dk_at dksX6_hostHas_0 5 rfl rfl)
theorem dX6_hostHas_6 : decode cX6_hostHas 6 = .ok (.goto 18, 3) := dk_167 0 18 (dk_at dksX6_hostHas_0 6 rfl rfl)
theorem dX6_hostHas_9 : decode cX6_hostHas 9 = .ok (.iload_n 1, 1) := dk_27 (dk_at dksX6_hostHas_0 9 rfl rfl)
theorem dX6_hostHas_10 : decode cX6_hostHas 10 = .ok (.ifCond .eq 12, 3) := dk_153 0 12 (dk_at dksX6_hostHas_0 10 rfl rfl)
theorem dX6_hostHas_13 : decode cX6_hostHas 13 = .ok (.iload_n 3, 1) := dk_29 (dk_at dksX6_hostHas_0 13 rfl rfl)
theorem dX6_hostHas_14 : decode cX6_hostHas 14 = .ok (.ifCond .ne 8, 3) := dk_154 0 8 (dk_at dksX6_hostHas_0 14 rfl rfl)
theorem dX6_hostHas_17 : decode cX6_hostHas 17 = .ok (.bipush (-20), 2) := dk_16 236 (dk_at dksX6_hostHas_0 17 rfl rfl)
theorem dX6_hostHas_19 : decode cX6_hostHas 19 = .ok (.goto 5, 3) := dk_167 0 5 (dk_at dksX6_hostHas_0 19 rfl rfl)
theorem dX6_hostHas_22 : decode cX6_hostHas 22 = .ok (.bipush 10, 2) := dk_16 10 (dk_at dksX6_hostHas_0 22 rfl rfl)
theorem dX6_hostHas_24 : decode cX6_hostHas 24 = .ok (.ireturn, 1) := dk_172 (dk_at dksX6_hostHas_1 0 rfl rfl)
abbrev cX6_guestHas : ByteArray := prog_18_method_92_code
def yX6_guestHas : MethodName := ⟨RX6, "guestHas", "(IZII)I"⟩
def dkwX6_guestHas_1 : List UInt8 := [167, 0, 5, 16, 253, 172]
abbrev dktX6_guestHas_1 : List UInt8 := dkwX6_guestHas_1 ++ []
def dkwX6_guestHas_0 : List UInt8 := [21, 4, 4, 160, 0, 5, 3, 172, 28, 153, 0, 16, 29, 154, 0, 12, 42, 27, 4, 182, 0, 49]
abbrev dktX6_guestHas_0 : List UInt8 := dkwX6_guestHas_0 ++ dktX6_guestHas_1
theorem dksX6_guestHas_0 : cX6_guestHas.data.toList.drop 0 = dktX6_guestHas_0 := by decide +kernel
theorem dksX6_guestHas_1 : cX6_guestHas.data.toList.drop 22 = dktX6_guestHas_1 := dk_seg dksX6_guestHas_0 22 rfl rfl
theorem dX6_guestHas_0 : decode cX6_guestHas 0 = .ok (.iload 4, 2) := dk_21 4 (dk_at dksX6_guestHas_0 0 rfl rfl)
theorem dX6_guestHas_2 : decode cX6_guestHas 2 = .ok (.iconst 1, 1) := dk_4 (dk_at dksX6_guestHas_0 2 rfl rfl)
theorem dX6_guestHas_3 : decode cX6_guestHas 3 = .ok (.if_icmp .ne 5, 3) := dk_160 0 5 (dk_at dksX6_guestHas_0 3 rfl rfl)
theorem dX6_guestHas_6 : decode cX6_guestHas 6 = .ok (.iconst 0, 1) := dk_3 (dk_at dksX6_guestHas_0 6 rfl rfl)
theorem dX6_guestHas_7 : decode cX6_guestHas 7 = .ok (.ireturn, 1) := dk_172 (dk_at dksX6_guestHas_0 7 rfl rfl)
theorem dX6_guestHas_8 : decode cX6_guestHas 8 = .ok (.iload_n 2, 1) := dk_28 (dk_at dksX6_guestHas_0 8 rfl rfl)
theorem dX6_guestHas_9 : decode cX6_guestHas 9 = .ok (.ifCond .eq 16, 3) := dk_153 0 16 (dk_at dksX6_guestHas_0 9 rfl rfl)
theorem dX6_guestHas_12 : decode cX6_guestHas 12 = .ok (.iload_n 3, 1) := dk_29 (dk_at dksX6_guestHas_0 12 rfl rfl)
theorem dX6_guestHas_13 : decode cX6_guestHas 13 = .ok (.ifCond .ne 12, 3) := dk_154 0 12 (dk_at dksX6_guestHas_0 13 rfl rfl)
theorem dX6_guestHas_16 : decode cX6_guestHas 16 = .ok (.aload_n 0, 1) := dk_42 (dk_at dksX6_guestHas_0 16 rfl rfl)
theorem dX6_guestHas_17 : decode cX6_guestHas 17 = .ok (.iload_n 1, 1) := dk_27 (dk_at dksX6_guestHas_0 17 rfl rfl)
theorem dX6_guestHas_18 : decode cX6_guestHas 18 = .ok (.iconst 1, 1) := dk_4 (dk_at dksX6_guestHas_0 18 rfl rfl)
theorem dX6_guestHas_19 : decode cX6_guestHas 19 = .ok (.invokevirtual 49, 3) := dk_182 0 49 (dk_at dksX6_guestHas_0 19 rfl rfl)
theorem dX6_guestHas_22 : decode cX6_guestHas 22 = .ok (.goto 5, 3) := dk_167 0 5 (dk_at dksX6_guestHas_1 0 rfl rfl)
theorem dX6_guestHas_25 : decode cX6_guestHas 25 = .ok (.bipush (-3), 2) := dk_16 253 (dk_at dksX6_guestHas_1 3 rfl rfl)
theorem dX6_guestHas_27 : decode cX6_guestHas 27 = .ok (.ireturn, 1) := dk_172 (dk_at dksX6_guestHas_1 5 rfl rfl)
abbrev cX6_shifts : ByteArray := prog_18_method_96_code
def yX6_shifts : MethodName := ⟨RX6, "shifts", "()I"⟩
def dkwX6_shifts_1 : List UInt8 := [180, 0, 42, 158, 0, 7, 3, 167, 0, 8, 42, 27, 182, 1, 71, 172]
abbrev dktX6_shifts_1 : List UInt8 := dkwX6_shifts_1 ++ []
def dkwX6_shifts_0 : List UInt8 := [42, 16, 7, 182, 1, 68, 60, 42, 27, 2, 160, 0, 7, 4, 167, 0, 4, 3, 181, 0, 42, 42]
abbrev dktX6_shifts_0 : List UInt8 := dkwX6_shifts_0 ++ dktX6_shifts_1
theorem dksX6_shifts_0 : cX6_shifts.data.toList.drop 0 = dktX6_shifts_0 := by decide +kernel
theorem dksX6_shifts_1 : cX6_shifts.data.toList.drop 22 = dktX6_shifts_1 := dk_seg dksX6_shifts_0 22 rfl rfl
theorem dX6_shifts_0 : decode cX6_shifts 0 = .ok (.aload_n 0, 1) := dk_42 (dk_at dksX6_shifts_0 0 rfl rfl)
theorem dX6_shifts_1 : decode cX6_shifts 1 = .ok (.bipush 7, 2) := dk_16 7 (dk_at dksX6_shifts_0 1 rfl rfl)
theorem dX6_shifts_3 : decode cX6_shifts 3 = .ok (.invokevirtual 324, 3) := dk_182 1 68 (dk_at dksX6_shifts_0 3 rfl rfl)
theorem dX6_shifts_6 : decode cX6_shifts 6 = .ok (.istore_n 1, 1) := dk_60 (dk_at dksX6_shifts_0 6 rfl rfl)
theorem dX6_shifts_7 : decode cX6_shifts 7 = .ok (.aload_n 0, 1) := dk_42 (dk_at dksX6_shifts_0 7 rfl rfl)
theorem dX6_shifts_8 : decode cX6_shifts 8 = .ok (.iload_n 1, 1) := dk_27 (dk_at dksX6_shifts_0 8 rfl rfl)
theorem dX6_shifts_9 : decode cX6_shifts 9 = .ok (.iconst (-1), 1) := dk_2 (dk_at dksX6_shifts_0 9 rfl rfl)
theorem dX6_shifts_10 : decode cX6_shifts 10 = .ok (.if_icmp .ne 7, 3) := dk_160 0 7 (dk_at dksX6_shifts_0 10 rfl rfl)
theorem dX6_shifts_13 : decode cX6_shifts 13 = .ok (.iconst 1, 1) := dk_4 (dk_at dksX6_shifts_0 13 rfl rfl)
theorem dX6_shifts_14 : decode cX6_shifts 14 = .ok (.goto 4, 3) := dk_167 0 4 (dk_at dksX6_shifts_0 14 rfl rfl)
theorem dX6_shifts_17 : decode cX6_shifts 17 = .ok (.iconst 0, 1) := dk_3 (dk_at dksX6_shifts_0 17 rfl rfl)
theorem dX6_shifts_18 : decode cX6_shifts 18 = .ok (.putfield 42, 3) := dk_181 0 42 (dk_at dksX6_shifts_0 18 rfl rfl)
theorem dX6_shifts_21 : decode cX6_shifts 21 = .ok (.aload_n 0, 1) := dk_42 (dk_at dksX6_shifts_0 21 rfl rfl)
theorem dX6_shifts_22 : decode cX6_shifts 22 = .ok (.getfield 42, 3) := dk_180 0 42 (dk_at dksX6_shifts_1 0 rfl rfl)
theorem dX6_shifts_25 : decode cX6_shifts 25 = .ok (.ifCond .le 7, 3) := dk_158 0 7 (dk_at dksX6_shifts_1 3 rfl rfl)
theorem dX6_shifts_28 : decode cX6_shifts 28 = .ok (.iconst 0, 1) := dk_3 (dk_at dksX6_shifts_1 6 rfl rfl)
theorem dX6_shifts_29 : decode cX6_shifts 29 = .ok (.goto 8, 3) := dk_167 0 8 (dk_at dksX6_shifts_1 7 rfl rfl)
theorem dX6_shifts_32 : decode cX6_shifts 32 = .ok (.aload_n 0, 1) := dk_42 (dk_at dksX6_shifts_1 10 rfl rfl)
theorem dX6_shifts_33 : decode cX6_shifts 33 = .ok (.iload_n 1, 1) := dk_27 (dk_at dksX6_shifts_1 11 rfl rfl)
theorem dX6_shifts_34 : decode cX6_shifts 34 = .ok (.invokevirtual 327, 3) := dk_182 1 71 (dk_at dksX6_shifts_1 12 rfl rfl)
theorem dX6_shifts_37 : decode cX6_shifts 37 = .ok (.ireturn, 1) := dk_172 (dk_at dksX6_shifts_1 15 rfl rfl)
abbrev cX6_heard : ByteArray := prog_18_method_94_code
def yX6_heard : MethodName := ⟨RX6, "heard", "(I)I"⟩
def dkwX6_heard_3 : List UInt8 := [132, 4, 1, 167, 255, 215, 29, 153, 0, 7, 28, 167, 0, 4, 2, 172]
abbrev dktX6_heard_3 : List UInt8 := dkwX6_heard_3 ++ []
def dkwX6_heard_2 : List UInt8 := [46, 21, 4, 5, 112, 154, 0, 7, 27, 167, 0, 4, 5, 162, 0, 7, 4, 167, 0, 4, 3, 62]
abbrev dktX6_heard_2 : List UInt8 := dkwX6_heard_2 ++ dktX6_heard_3
def dkwX6_heard_1 : List UInt8 := [167, 0, 4, 3, 62, 3, 54, 4, 21, 4, 28, 162, 0, 41, 29, 153, 0, 37, 42, 180, 0, 22, 21, 4]
abbrev dktX6_heard_1 : List UInt8 := dkwX6_heard_1 ++ dktX6_heard_2
def dkwX6_heard_0 : List UInt8 := [42, 180, 0, 61, 61, 42, 3, 181, 0, 61, 28, 5, 112, 154, 0, 13, 28, 16, 40, 163, 0, 7, 4]
abbrev dktX6_heard_0 : List UInt8 := dkwX6_heard_0 ++ dktX6_heard_1
theorem dksX6_heard_0 : cX6_heard.data.toList.drop 0 = dktX6_heard_0 := by decide +kernel
theorem dksX6_heard_1 : cX6_heard.data.toList.drop 23 = dktX6_heard_1 := dk_seg dksX6_heard_0 23 rfl rfl
theorem dksX6_heard_2 : cX6_heard.data.toList.drop 47 = dktX6_heard_2 := dk_seg dksX6_heard_1 24 rfl rfl
theorem dksX6_heard_3 : cX6_heard.data.toList.drop 69 = dktX6_heard_3 := dk_seg dksX6_heard_2 22 rfl rfl
theorem dX6_heard_0 : decode cX6_heard 0 = .ok (.aload_n 0, 1) := dk_42 (dk_at dksX6_heard_0 0 rfl rfl)
theorem dX6_heard_1 : decode cX6_heard 1 = .ok (.getfield 61, 3) := dk_180 0 61 (dk_at dksX6_heard_0 1 rfl rfl)
theorem dX6_heard_4 : decode cX6_heard 4 = .ok (.istore_n 2, 1) := dk_61 (dk_at dksX6_heard_0 4 rfl rfl)
theorem dX6_heard_5 : decode cX6_heard 5 = .ok (.aload_n 0, 1) := dk_42 (dk_at dksX6_heard_0 5 rfl rfl)
theorem dX6_heard_6 : decode cX6_heard 6 = .ok (.iconst 0, 1) := dk_3 (dk_at dksX6_heard_0 6 rfl rfl)
theorem dX6_heard_7 : decode cX6_heard 7 = .ok (.putfield 61, 3) := dk_181 0 61 (dk_at dksX6_heard_0 7 rfl rfl)
theorem dX6_heard_10 : decode cX6_heard 10 = .ok (.iload_n 2, 1) := dk_28 (dk_at dksX6_heard_0 10 rfl rfl)
theorem dX6_heard_11 : decode cX6_heard 11 = .ok (.iconst 2, 1) := dk_5 (dk_at dksX6_heard_0 11 rfl rfl)
theorem dX6_heard_12 : decode cX6_heard 12 = .ok (.irem, 1) := dk_112 (dk_at dksX6_heard_0 12 rfl rfl)
theorem dX6_heard_13 : decode cX6_heard 13 = .ok (.ifCond .ne 13, 3) := dk_154 0 13 (dk_at dksX6_heard_0 13 rfl rfl)
theorem dX6_heard_16 : decode cX6_heard 16 = .ok (.iload_n 2, 1) := dk_28 (dk_at dksX6_heard_0 16 rfl rfl)
theorem dX6_heard_17 : decode cX6_heard 17 = .ok (.bipush 40, 2) := dk_16 40 (dk_at dksX6_heard_0 17 rfl rfl)
theorem dX6_heard_19 : decode cX6_heard 19 = .ok (.if_icmp .gt 7, 3) := dk_163 0 7 (dk_at dksX6_heard_0 19 rfl rfl)
theorem dX6_heard_22 : decode cX6_heard 22 = .ok (.iconst 1, 1) := dk_4 (dk_at dksX6_heard_0 22 rfl rfl)
theorem dX6_heard_23 : decode cX6_heard 23 = .ok (.goto 4, 3) := dk_167 0 4 (dk_at dksX6_heard_1 0 rfl rfl)
theorem dX6_heard_26 : decode cX6_heard 26 = .ok (.iconst 0, 1) := dk_3 (dk_at dksX6_heard_1 3 rfl rfl)
theorem dX6_heard_27 : decode cX6_heard 27 = .ok (.istore_n 3, 1) := dk_62 (dk_at dksX6_heard_1 4 rfl rfl)
theorem dX6_heard_28 : decode cX6_heard 28 = .ok (.iconst 0, 1) := dk_3 (dk_at dksX6_heard_1 5 rfl rfl)
theorem dX6_heard_29 : decode cX6_heard 29 = .ok (.istore 4, 2) := dk_54 4 (dk_at dksX6_heard_1 6 rfl rfl)
theorem dX6_heard_31 : decode cX6_heard 31 = .ok (.iload 4, 2) := dk_21 4 (dk_at dksX6_heard_1 8 rfl rfl)
theorem dX6_heard_33 : decode cX6_heard 33 = .ok (.iload_n 2, 1) := dk_28 (dk_at dksX6_heard_1 10 rfl rfl)
theorem dX6_heard_34 : decode cX6_heard 34 = .ok (.if_icmp .ge 41, 3) := dk_162 0 41 (dk_at dksX6_heard_1 11 rfl rfl)
theorem dX6_heard_37 : decode cX6_heard 37 = .ok (.iload_n 3, 1) := dk_29 (dk_at dksX6_heard_1 14 rfl rfl)
theorem dX6_heard_38 : decode cX6_heard 38 = .ok (.ifCond .eq 37, 3) := dk_153 0 37 (dk_at dksX6_heard_1 15 rfl rfl)
theorem dX6_heard_41 : decode cX6_heard 41 = .ok (.aload_n 0, 1) := dk_42 (dk_at dksX6_heard_1 18 rfl rfl)
theorem dX6_heard_42 : decode cX6_heard 42 = .ok (.getfield 22, 3) := dk_180 0 22 (dk_at dksX6_heard_1 19 rfl rfl)
theorem dX6_heard_45 : decode cX6_heard 45 = .ok (.iload 4, 2) := dk_21 4 (dk_at dksX6_heard_1 22 rfl rfl)
theorem dX6_heard_47 : decode cX6_heard 47 = .ok (.iaload, 1) := dk_46 (dk_at dksX6_heard_2 0 rfl rfl)
theorem dX6_heard_48 : decode cX6_heard 48 = .ok (.iload 4, 2) := dk_21 4 (dk_at dksX6_heard_2 1 rfl rfl)
theorem dX6_heard_50 : decode cX6_heard 50 = .ok (.iconst 2, 1) := dk_5 (dk_at dksX6_heard_2 3 rfl rfl)
theorem dX6_heard_51 : decode cX6_heard 51 = .ok (.irem, 1) := dk_112 (dk_at dksX6_heard_2 4 rfl rfl)
theorem dX6_heard_52 : decode cX6_heard 52 = .ok (.ifCond .ne 7, 3) := dk_154 0 7 (dk_at dksX6_heard_2 5 rfl rfl)
theorem dX6_heard_55 : decode cX6_heard 55 = .ok (.iload_n 1, 1) := dk_27 (dk_at dksX6_heard_2 8 rfl rfl)
theorem dX6_heard_56 : decode cX6_heard 56 = .ok (.goto 4, 3) := dk_167 0 4 (dk_at dksX6_heard_2 9 rfl rfl)
theorem dX6_heard_59 : decode cX6_heard 59 = .ok (.iconst 2, 1) := dk_5 (dk_at dksX6_heard_2 12 rfl rfl)
theorem dX6_heard_60 : decode cX6_heard 60 = .ok (.if_icmp .ge 7, 3) := dk_162 0 7 (dk_at dksX6_heard_2 13 rfl rfl)
theorem dX6_heard_63 : decode cX6_heard 63 = .ok (.iconst 1, 1) := dk_4 (dk_at dksX6_heard_2 16 rfl rfl)
theorem dX6_heard_64 : decode cX6_heard 64 = .ok (.goto 4, 3) := dk_167 0 4 (dk_at dksX6_heard_2 17 rfl rfl)
theorem dX6_heard_67 : decode cX6_heard 67 = .ok (.iconst 0, 1) := dk_3 (dk_at dksX6_heard_2 20 rfl rfl)
theorem dX6_heard_68 : decode cX6_heard 68 = .ok (.istore_n 3, 1) := dk_62 (dk_at dksX6_heard_2 21 rfl rfl)
theorem dX6_heard_69 : decode cX6_heard 69 = .ok (.iinc 4 1, 3) := dk_132 4 1 (dk_at dksX6_heard_3 0 rfl rfl)
theorem dX6_heard_72 : decode cX6_heard 72 = .ok (.goto (-41), 3) := dk_167 255 215 (dk_at dksX6_heard_3 3 rfl rfl)
theorem dX6_heard_75 : decode cX6_heard 75 = .ok (.iload_n 3, 1) := dk_29 (dk_at dksX6_heard_3 6 rfl rfl)
theorem dX6_heard_76 : decode cX6_heard 76 = .ok (.ifCond .eq 7, 3) := dk_153 0 7 (dk_at dksX6_heard_3 7 rfl rfl)
theorem dX6_heard_79 : decode cX6_heard 79 = .ok (.iload_n 2, 1) := dk_28 (dk_at dksX6_heard_3 10 rfl rfl)
theorem dX6_heard_80 : decode cX6_heard 80 = .ok (.goto 4, 3) := dk_167 0 4 (dk_at dksX6_heard_3 11 rfl rfl)
theorem dX6_heard_83 : decode cX6_heard 83 = .ok (.iconst (-1), 1) := dk_2 (dk_at dksX6_heard_3 14 rfl rfl)
theorem dX6_heard_84 : decode cX6_heard 84 = .ok (.ireturn, 1) := dk_172 (dk_at dksX6_heard_3 15 rfl rfl)
abbrev cX6_shiftsBy : ByteArray := prog_18_method_95_code
def yX6_shiftsBy : MethodName := ⟨RX6, "shiftsBy", "(I)I"⟩
def dkwX6_shiftsBy_4 : List UInt8 := [3, 128, 61, 132, 3, 1, 167, 255, 159, 28, 172]
abbrev dktX6_shiftsBy_4 : List UInt8 := dkwX6_shiftsBy_4 ++ []
def dkwX6_shiftsBy_3 : List UInt8 := [167, 0, 4, 3, 54, 4, 132, 5, 2, 167, 255, 192, 28, 21, 4, 153, 0, 9, 4, 29, 120, 167, 0, 4]
abbrev dktX6_shiftsBy_3 : List UInt8 := dkwX6_shiftsBy_3 ++ dktX6_shiftsBy_4
def dkwX6_shiftsBy_2 : List UInt8 := [3, 42, 180, 0, 22, 21, 5, 4, 96, 46, 4, 160, 0, 7, 4, 167, 0, 4, 3, 160, 0, 7, 4]
abbrev dktX6_shiftsBy_2 : List UInt8 := dkwX6_shiftsBy_2 ++ dktX6_shiftsBy_3
def dkwX6_shiftsBy_1 : List UInt8 := [153, 0, 59, 42, 180, 0, 22, 21, 5, 46, 29, 96, 16, 7, 112, 16, 6, 160, 0, 7, 4, 167, 0, 4]
abbrev dktX6_shiftsBy_1 : List UInt8 := dkwX6_shiftsBy_1 ++ dktX6_shiftsBy_2
def dkwX6_shiftsBy_0 : List UInt8 := [3, 61, 3, 62, 29, 16, 7, 162, 0, 97, 4, 54, 4, 3, 54, 5, 21, 5, 27, 162, 0, 64, 21, 4]
abbrev dktX6_shiftsBy_0 : List UInt8 := dkwX6_shiftsBy_0 ++ dktX6_shiftsBy_1
theorem dksX6_shiftsBy_0 : cX6_shiftsBy.data.toList.drop 0 = dktX6_shiftsBy_0 := by decide +kernel
theorem dksX6_shiftsBy_1 : cX6_shiftsBy.data.toList.drop 24 = dktX6_shiftsBy_1 := dk_seg dksX6_shiftsBy_0 24 rfl rfl
theorem dksX6_shiftsBy_2 : cX6_shiftsBy.data.toList.drop 48 = dktX6_shiftsBy_2 := dk_seg dksX6_shiftsBy_1 24 rfl rfl
theorem dksX6_shiftsBy_3 : cX6_shiftsBy.data.toList.drop 71 = dktX6_shiftsBy_3 := dk_seg dksX6_shiftsBy_2 23 rfl rfl
theorem dksX6_shiftsBy_4 : cX6_shiftsBy.data.toList.drop 95 = dktX6_shiftsBy_4 := dk_seg dksX6_shiftsBy_3 24 rfl rfl
theorem dX6_shiftsBy_0 : decode cX6_shiftsBy 0 = .ok (.iconst 0, 1) := dk_3 (dk_at dksX6_shiftsBy_0 0 rfl rfl)
theorem dX6_shiftsBy_1 : decode cX6_shiftsBy 1 = .ok (.istore_n 2, 1) := dk_61 (dk_at dksX6_shiftsBy_0 1 rfl rfl)
theorem dX6_shiftsBy_2 : decode cX6_shiftsBy 2 = .ok (.iconst 0, 1) := dk_3 (dk_at dksX6_shiftsBy_0 2 rfl rfl)
theorem dX6_shiftsBy_3 : decode cX6_shiftsBy 3 = .ok (.istore_n 3, 1) := dk_62 (dk_at dksX6_shiftsBy_0 3 rfl rfl)
theorem dX6_shiftsBy_4 : decode cX6_shiftsBy 4 = .ok (.iload_n 3, 1) := dk_29 (dk_at dksX6_shiftsBy_0 4 rfl rfl)
theorem dX6_shiftsBy_5 : decode cX6_shiftsBy 5 = .ok (.bipush 7, 2) := dk_16 7 (dk_at dksX6_shiftsBy_0 5 rfl rfl)
theorem dX6_shiftsBy_7 : decode cX6_shiftsBy 7 = .ok (.if_icmp .ge 97, 3) := dk_162 0 97 (dk_at dksX6_shiftsBy_0 7 rfl rfl)
theorem dX6_shiftsBy_10 : decode cX6_shiftsBy 10 = .ok (.iconst 1, 1) := dk_4 (dk_at dksX6_shiftsBy_0 10 rfl rfl)
theorem dX6_shiftsBy_11 : decode cX6_shiftsBy 11 = .ok (.istore 4, 2) := dk_54 4 (dk_at dksX6_shiftsBy_0 11 rfl rfl)
theorem dX6_shiftsBy_13 : decode cX6_shiftsBy 13 = .ok (.iconst 0, 1) := dk_3 (dk_at dksX6_shiftsBy_0 13 rfl rfl)
theorem dX6_shiftsBy_14 : decode cX6_shiftsBy 14 = .ok (.istore 5, 2) := dk_54 5 (dk_at dksX6_shiftsBy_0 14 rfl rfl)
theorem dX6_shiftsBy_16 : decode cX6_shiftsBy 16 = .ok (.iload 5, 2) := dk_21 5 (dk_at dksX6_shiftsBy_0 16 rfl rfl)
theorem dX6_shiftsBy_18 : decode cX6_shiftsBy 18 = .ok (.iload_n 1, 1) := dk_27 (dk_at dksX6_shiftsBy_0 18 rfl rfl)
theorem dX6_shiftsBy_19 : decode cX6_shiftsBy 19 = .ok (.if_icmp .ge 64, 3) := dk_162 0 64 (dk_at dksX6_shiftsBy_0 19 rfl rfl)
theorem dX6_shiftsBy_22 : decode cX6_shiftsBy 22 = .ok (.iload 4, 2) := dk_21 4 (dk_at dksX6_shiftsBy_0 22 rfl rfl)
theorem dX6_shiftsBy_24 : decode cX6_shiftsBy 24 = .ok (.ifCond .eq 59, 3) := dk_153 0 59 (dk_at dksX6_shiftsBy_1 0 rfl rfl)
theorem dX6_shiftsBy_27 : decode cX6_shiftsBy 27 = .ok (.aload_n 0, 1) := dk_42 (dk_at dksX6_shiftsBy_1 3 rfl rfl)
theorem dX6_shiftsBy_28 : decode cX6_shiftsBy 28 = .ok (.getfield 22, 3) := dk_180 0 22 (dk_at dksX6_shiftsBy_1 4 rfl rfl)
theorem dX6_shiftsBy_31 : decode cX6_shiftsBy 31 = .ok (.iload 5, 2) := dk_21 5 (dk_at dksX6_shiftsBy_1 7 rfl rfl)
theorem dX6_shiftsBy_33 : decode cX6_shiftsBy 33 = .ok (.iaload, 1) := dk_46 (dk_at dksX6_shiftsBy_1 9 rfl rfl)
theorem dX6_shiftsBy_34 : decode cX6_shiftsBy 34 = .ok (.iload_n 3, 1) := dk_29 (dk_at dksX6_shiftsBy_1 10 rfl rfl)
theorem dX6_shiftsBy_35 : decode cX6_shiftsBy 35 = .ok (.iadd, 1) := dk_96 (dk_at dksX6_shiftsBy_1 11 rfl rfl)
theorem dX6_shiftsBy_36 : decode cX6_shiftsBy 36 = .ok (.bipush 7, 2) := dk_16 7 (dk_at dksX6_shiftsBy_1 12 rfl rfl)
theorem dX6_shiftsBy_38 : decode cX6_shiftsBy 38 = .ok (.irem, 1) := dk_112 (dk_at dksX6_shiftsBy_1 14 rfl rfl)
theorem dX6_shiftsBy_39 : decode cX6_shiftsBy 39 = .ok (.bipush 6, 2) := dk_16 6 (dk_at dksX6_shiftsBy_1 15 rfl rfl)
theorem dX6_shiftsBy_41 : decode cX6_shiftsBy 41 = .ok (.if_icmp .ne 7, 3) := dk_160 0 7 (dk_at dksX6_shiftsBy_1 17 rfl rfl)
theorem dX6_shiftsBy_44 : decode cX6_shiftsBy 44 = .ok (.iconst 1, 1) := dk_4 (dk_at dksX6_shiftsBy_1 20 rfl rfl)
theorem dX6_shiftsBy_45 : decode cX6_shiftsBy 45 = .ok (.goto 4, 3) := dk_167 0 4 (dk_at dksX6_shiftsBy_1 21 rfl rfl)
theorem dX6_shiftsBy_48 : decode cX6_shiftsBy 48 = .ok (.iconst 0, 1) := dk_3 (dk_at dksX6_shiftsBy_2 0 rfl rfl)
theorem dX6_shiftsBy_49 : decode cX6_shiftsBy 49 = .ok (.aload_n 0, 1) := dk_42 (dk_at dksX6_shiftsBy_2 1 rfl rfl)
theorem dX6_shiftsBy_50 : decode cX6_shiftsBy 50 = .ok (.getfield 22, 3) := dk_180 0 22 (dk_at dksX6_shiftsBy_2 2 rfl rfl)
theorem dX6_shiftsBy_53 : decode cX6_shiftsBy 53 = .ok (.iload 5, 2) := dk_21 5 (dk_at dksX6_shiftsBy_2 5 rfl rfl)
theorem dX6_shiftsBy_55 : decode cX6_shiftsBy 55 = .ok (.iconst 1, 1) := dk_4 (dk_at dksX6_shiftsBy_2 7 rfl rfl)
theorem dX6_shiftsBy_56 : decode cX6_shiftsBy 56 = .ok (.iadd, 1) := dk_96 (dk_at dksX6_shiftsBy_2 8 rfl rfl)
theorem dX6_shiftsBy_57 : decode cX6_shiftsBy 57 = .ok (.iaload, 1) := dk_46 (dk_at dksX6_shiftsBy_2 9 rfl rfl)
theorem dX6_shiftsBy_58 : decode cX6_shiftsBy 58 = .ok (.iconst 1, 1) := dk_4 (dk_at dksX6_shiftsBy_2 10 rfl rfl)
theorem dX6_shiftsBy_59 : decode cX6_shiftsBy 59 = .ok (.if_icmp .ne 7, 3) := dk_160 0 7 (dk_at dksX6_shiftsBy_2 11 rfl rfl)
theorem dX6_shiftsBy_62 : decode cX6_shiftsBy 62 = .ok (.iconst 1, 1) := dk_4 (dk_at dksX6_shiftsBy_2 14 rfl rfl)
theorem dX6_shiftsBy_63 : decode cX6_shiftsBy 63 = .ok (.goto 4, 3) := dk_167 0 4 (dk_at dksX6_shiftsBy_2 15 rfl rfl)
theorem dX6_shiftsBy_66 : decode cX6_shiftsBy 66 = .ok (.iconst 0, 1) := dk_3 (dk_at dksX6_shiftsBy_2 18 rfl rfl)
theorem dX6_shiftsBy_67 : decode cX6_shiftsBy 67 = .ok (.if_icmp .ne 7, 3) := dk_160 0 7 (dk_at dksX6_shiftsBy_2 19 rfl rfl)
theorem dX6_shiftsBy_70 : decode cX6_shiftsBy 70 = .ok (.iconst 1, 1) := dk_4 (dk_at dksX6_shiftsBy_2 22 rfl rfl)
theorem dX6_shiftsBy_71 : decode cX6_shiftsBy 71 = .ok (.goto 4, 3) := dk_167 0 4 (dk_at dksX6_shiftsBy_3 0 rfl rfl)
theorem dX6_shiftsBy_74 : decode cX6_shiftsBy 74 = .ok (.iconst 0, 1) := dk_3 (dk_at dksX6_shiftsBy_3 3 rfl rfl)
theorem dX6_shiftsBy_75 : decode cX6_shiftsBy 75 = .ok (.istore 4, 2) := dk_54 4 (dk_at dksX6_shiftsBy_3 4 rfl rfl)
theorem dX6_shiftsBy_77 : decode cX6_shiftsBy 77 = .ok (.iinc 5 2, 3) := dk_132 5 2 (dk_at dksX6_shiftsBy_3 6 rfl rfl)
theorem dX6_shiftsBy_80 : decode cX6_shiftsBy 80 = .ok (.goto (-64), 3) := dk_167 255 192 (dk_at dksX6_shiftsBy_3 9 rfl rfl)
theorem dX6_shiftsBy_83 : decode cX6_shiftsBy 83 = .ok (.iload_n 2, 1) := dk_28 (dk_at dksX6_shiftsBy_3 12 rfl rfl)
theorem dX6_shiftsBy_84 : decode cX6_shiftsBy 84 = .ok (.iload 4, 2) := dk_21 4 (dk_at dksX6_shiftsBy_3 13 rfl rfl)
theorem dX6_shiftsBy_86 : decode cX6_shiftsBy 86 = .ok (.ifCond .eq 9, 3) := dk_153 0 9 (dk_at dksX6_shiftsBy_3 15 rfl rfl)
theorem dX6_shiftsBy_89 : decode cX6_shiftsBy 89 = .ok (.iconst 1, 1) := dk_4 (dk_at dksX6_shiftsBy_3 18 rfl rfl)
theorem dX6_shiftsBy_90 : decode cX6_shiftsBy 90 = .ok (.iload_n 3, 1) := dk_29 (dk_at dksX6_shiftsBy_3 19 rfl rfl)
theorem dX6_shiftsBy_91 : decode cX6_shiftsBy 91 = .ok (.ishl, 1) := dk_120 (dk_at dksX6_shiftsBy_3 20 rfl rfl)
theorem dX6_shiftsBy_92 : decode cX6_shiftsBy 92 = .ok (.goto 4, 3) := dk_167 0 4 (dk_at dksX6_shiftsBy_3 21 rfl rfl)
theorem dX6_shiftsBy_95 : decode cX6_shiftsBy 95 = .ok (.iconst 0, 1) := dk_3 (dk_at dksX6_shiftsBy_4 0 rfl rfl)
theorem dX6_shiftsBy_96 : decode cX6_shiftsBy 96 = .ok (.ior, 1) := dk_128 (dk_at dksX6_shiftsBy_4 1 rfl rfl)
theorem dX6_shiftsBy_97 : decode cX6_shiftsBy 97 = .ok (.istore_n 2, 1) := dk_61 (dk_at dksX6_shiftsBy_4 2 rfl rfl)
theorem dX6_shiftsBy_98 : decode cX6_shiftsBy 98 = .ok (.iinc 3 1, 3) := dk_132 3 1 (dk_at dksX6_shiftsBy_4 3 rfl rfl)
theorem dX6_shiftsBy_101 : decode cX6_shiftsBy 101 = .ok (.goto (-97), 3) := dk_167 255 159 (dk_at dksX6_shiftsBy_4 6 rfl rfl)
theorem dX6_shiftsBy_104 : decode cX6_shiftsBy 104 = .ok (.iload_n 2, 1) := dk_28 (dk_at dksX6_shiftsBy_4 9 rfl rfl)
theorem dX6_shiftsBy_105 : decode cX6_shiftsBy 105 = .ok (.ireturn, 1) := dk_172 (dk_at dksX6_shiftsBy_4 10 rfl rfl)
abbrev cX6_ask : ByteArray := prog_18_method_97_code
def yX6_ask : MethodName := ⟨RX6, "ask", "()I"⟩
def dkwX6_ask_5 : List UInt8 := [54, 4, 21, 5, 62, 132, 5, 1, 167, 255, 179, 29, 172]
abbrev dktX6_ask_5 : List UInt8 := dkwX6_ask_5 ++ []
def dkwX6_ask_4 : List UInt8 := [184, 0, 249, 21, 4, 161, 0, 6, 167, 0, 20, 21, 6, 28, 184, 0, 57, 21, 6, 100, 184, 0, 249]
abbrev dktX6_ask_4 : List UInt8 := dkwX6_ask_4 ++ dktX6_ask_5
def dkwX6_ask_3 : List UInt8 := [184, 0, 53, 153, 0, 7, 4, 167, 0, 4, 3, 54, 6, 21, 6, 28, 184, 0, 57, 21, 6, 100]
abbrev dktX6_ask_3 : List UInt8 := dkwX6_ask_3 ++ dktX6_ask_4
def dkwX6_ask_2 : List UInt8 := [21, 5, 16, 7, 162, 0, 76, 28, 184, 0, 57, 4, 164, 0, 68, 28, 16, 13, 21, 5, 100, 16, 7, 112]
abbrev dktX6_ask_2 : List UInt8 := dkwX6_ask_2 ++ dktX6_ask_3
def dkwX6_ask_1 : List UInt8 := [180, 0, 42, 158, 0, 5, 3, 172, 42, 27, 182, 1, 71, 61, 2, 62, 19, 1, 52, 54, 4, 3, 54, 5]
abbrev dktX6_ask_1 : List UInt8 := dkwX6_ask_1 ++ dktX6_ask_2
def dkwX6_ask_0 : List UInt8 := [42, 16, 7, 182, 1, 68, 60, 42, 27, 2, 160, 0, 7, 4, 167, 0, 4, 3, 181, 0, 42, 42]
abbrev dktX6_ask_0 : List UInt8 := dkwX6_ask_0 ++ dktX6_ask_1
theorem dksX6_ask_0 : cX6_ask.data.toList.drop 0 = dktX6_ask_0 := by decide +kernel
theorem dksX6_ask_1 : cX6_ask.data.toList.drop 22 = dktX6_ask_1 := dk_seg dksX6_ask_0 22 rfl rfl
theorem dksX6_ask_2 : cX6_ask.data.toList.drop 46 = dktX6_ask_2 := dk_seg dksX6_ask_1 24 rfl rfl
theorem dksX6_ask_3 : cX6_ask.data.toList.drop 70 = dktX6_ask_3 := dk_seg dksX6_ask_2 24 rfl rfl
theorem dksX6_ask_4 : cX6_ask.data.toList.drop 92 = dktX6_ask_4 := dk_seg dksX6_ask_3 22 rfl rfl
theorem dksX6_ask_5 : cX6_ask.data.toList.drop 115 = dktX6_ask_5 := dk_seg dksX6_ask_4 23 rfl rfl
theorem dX6_ask_0 : decode cX6_ask 0 = .ok (.aload_n 0, 1) := dk_42 (dk_at dksX6_ask_0 0 rfl rfl)
theorem dX6_ask_1 : decode cX6_ask 1 = .ok (.bipush 7, 2) := dk_16 7 (dk_at dksX6_ask_0 1 rfl rfl)
theorem dX6_ask_3 : decode cX6_ask 3 = .ok (.invokevirtual 324, 3) := dk_182 1 68 (dk_at dksX6_ask_0 3 rfl rfl)
theorem dX6_ask_6 : decode cX6_ask 6 = .ok (.istore_n 1, 1) := dk_60 (dk_at dksX6_ask_0 6 rfl rfl)
theorem dX6_ask_7 : decode cX6_ask 7 = .ok (.aload_n 0, 1) := dk_42 (dk_at dksX6_ask_0 7 rfl rfl)
theorem dX6_ask_8 : decode cX6_ask 8 = .ok (.iload_n 1, 1) := dk_27 (dk_at dksX6_ask_0 8 rfl rfl)
theorem dX6_ask_9 : decode cX6_ask 9 = .ok (.iconst (-1), 1) := dk_2 (dk_at dksX6_ask_0 9 rfl rfl)
theorem dX6_ask_10 : decode cX6_ask 10 = .ok (.if_icmp .ne 7, 3) := dk_160 0 7 (dk_at dksX6_ask_0 10 rfl rfl)
theorem dX6_ask_13 : decode cX6_ask 13 = .ok (.iconst 1, 1) := dk_4 (dk_at dksX6_ask_0 13 rfl rfl)
theorem dX6_ask_14 : decode cX6_ask 14 = .ok (.goto 4, 3) := dk_167 0 4 (dk_at dksX6_ask_0 14 rfl rfl)
theorem dX6_ask_17 : decode cX6_ask 17 = .ok (.iconst 0, 1) := dk_3 (dk_at dksX6_ask_0 17 rfl rfl)
theorem dX6_ask_18 : decode cX6_ask 18 = .ok (.putfield 42, 3) := dk_181 0 42 (dk_at dksX6_ask_0 18 rfl rfl)
theorem dX6_ask_21 : decode cX6_ask 21 = .ok (.aload_n 0, 1) := dk_42 (dk_at dksX6_ask_0 21 rfl rfl)
theorem dX6_ask_22 : decode cX6_ask 22 = .ok (.getfield 42, 3) := dk_180 0 42 (dk_at dksX6_ask_1 0 rfl rfl)
theorem dX6_ask_25 : decode cX6_ask 25 = .ok (.ifCond .le 5, 3) := dk_158 0 5 (dk_at dksX6_ask_1 3 rfl rfl)
theorem dX6_ask_28 : decode cX6_ask 28 = .ok (.iconst 0, 1) := dk_3 (dk_at dksX6_ask_1 6 rfl rfl)
theorem dX6_ask_29 : decode cX6_ask 29 = .ok (.ireturn, 1) := dk_172 (dk_at dksX6_ask_1 7 rfl rfl)
theorem dX6_ask_30 : decode cX6_ask 30 = .ok (.aload_n 0, 1) := dk_42 (dk_at dksX6_ask_1 8 rfl rfl)
theorem dX6_ask_31 : decode cX6_ask 31 = .ok (.iload_n 1, 1) := dk_27 (dk_at dksX6_ask_1 9 rfl rfl)
theorem dX6_ask_32 : decode cX6_ask 32 = .ok (.invokevirtual 327, 3) := dk_182 1 71 (dk_at dksX6_ask_1 10 rfl rfl)
theorem dX6_ask_35 : decode cX6_ask 35 = .ok (.istore_n 2, 1) := dk_61 (dk_at dksX6_ask_1 13 rfl rfl)
theorem dX6_ask_36 : decode cX6_ask 36 = .ok (.iconst (-1), 1) := dk_2 (dk_at dksX6_ask_1 14 rfl rfl)
theorem dX6_ask_37 : decode cX6_ask 37 = .ok (.istore_n 3, 1) := dk_62 (dk_at dksX6_ask_1 15 rfl rfl)
theorem dX6_ask_38 : decode cX6_ask 38 = .ok (.ldc_w 308, 3) := dk_19 1 52 (dk_at dksX6_ask_1 16 rfl rfl)
theorem dX6_ask_41 : decode cX6_ask 41 = .ok (.istore 4, 2) := dk_54 4 (dk_at dksX6_ask_1 19 rfl rfl)
theorem dX6_ask_43 : decode cX6_ask 43 = .ok (.iconst 0, 1) := dk_3 (dk_at dksX6_ask_1 21 rfl rfl)
theorem dX6_ask_44 : decode cX6_ask 44 = .ok (.istore 5, 2) := dk_54 5 (dk_at dksX6_ask_1 22 rfl rfl)
theorem dX6_ask_46 : decode cX6_ask 46 = .ok (.iload 5, 2) := dk_21 5 (dk_at dksX6_ask_2 0 rfl rfl)
theorem dX6_ask_48 : decode cX6_ask 48 = .ok (.bipush 7, 2) := dk_16 7 (dk_at dksX6_ask_2 2 rfl rfl)
theorem dX6_ask_50 : decode cX6_ask 50 = .ok (.if_icmp .ge 76, 3) := dk_162 0 76 (dk_at dksX6_ask_2 4 rfl rfl)
theorem dX6_ask_53 : decode cX6_ask 53 = .ok (.iload_n 2, 1) := dk_28 (dk_at dksX6_ask_2 7 rfl rfl)
theorem dX6_ask_54 : decode cX6_ask 54 = .ok (.invokestatic 57, 3) := dk_184 0 57 (dk_at dksX6_ask_2 8 rfl rfl)
theorem dX6_ask_57 : decode cX6_ask 57 = .ok (.iconst 1, 1) := dk_4 (dk_at dksX6_ask_2 11 rfl rfl)
theorem dX6_ask_58 : decode cX6_ask 58 = .ok (.if_icmp .le 68, 3) := dk_164 0 68 (dk_at dksX6_ask_2 12 rfl rfl)
theorem dX6_ask_61 : decode cX6_ask 61 = .ok (.iload_n 2, 1) := dk_28 (dk_at dksX6_ask_2 15 rfl rfl)
theorem dX6_ask_62 : decode cX6_ask 62 = .ok (.bipush 13, 2) := dk_16 13 (dk_at dksX6_ask_2 16 rfl rfl)
theorem dX6_ask_64 : decode cX6_ask 64 = .ok (.iload 5, 2) := dk_21 5 (dk_at dksX6_ask_2 18 rfl rfl)
theorem dX6_ask_66 : decode cX6_ask 66 = .ok (.isub, 1) := dk_100 (dk_at dksX6_ask_2 20 rfl rfl)
theorem dX6_ask_67 : decode cX6_ask 67 = .ok (.bipush 7, 2) := dk_16 7 (dk_at dksX6_ask_2 21 rfl rfl)
theorem dX6_ask_69 : decode cX6_ask 69 = .ok (.irem, 1) := dk_112 (dk_at dksX6_ask_2 23 rfl rfl)
theorem dX6_ask_70 : decode cX6_ask 70 = .ok (.invokestatic 53, 3) := dk_184 0 53 (dk_at dksX6_ask_3 0 rfl rfl)
theorem dX6_ask_73 : decode cX6_ask 73 = .ok (.ifCond .eq 7, 3) := dk_153 0 7 (dk_at dksX6_ask_3 3 rfl rfl)
theorem dX6_ask_76 : decode cX6_ask 76 = .ok (.iconst 1, 1) := dk_4 (dk_at dksX6_ask_3 6 rfl rfl)
theorem dX6_ask_77 : decode cX6_ask 77 = .ok (.goto 4, 3) := dk_167 0 4 (dk_at dksX6_ask_3 7 rfl rfl)
theorem dX6_ask_80 : decode cX6_ask 80 = .ok (.iconst 0, 1) := dk_3 (dk_at dksX6_ask_3 10 rfl rfl)
theorem dX6_ask_81 : decode cX6_ask 81 = .ok (.istore 6, 2) := dk_54 6 (dk_at dksX6_ask_3 11 rfl rfl)
theorem dX6_ask_83 : decode cX6_ask 83 = .ok (.iload 6, 2) := dk_21 6 (dk_at dksX6_ask_3 13 rfl rfl)
theorem dX6_ask_85 : decode cX6_ask 85 = .ok (.iload_n 2, 1) := dk_28 (dk_at dksX6_ask_3 15 rfl rfl)
theorem dX6_ask_86 : decode cX6_ask 86 = .ok (.invokestatic 57, 3) := dk_184 0 57 (dk_at dksX6_ask_3 16 rfl rfl)
theorem dX6_ask_89 : decode cX6_ask 89 = .ok (.iload 6, 2) := dk_21 6 (dk_at dksX6_ask_3 19 rfl rfl)
theorem dX6_ask_91 : decode cX6_ask 91 = .ok (.isub, 1) := dk_100 (dk_at dksX6_ask_3 21 rfl rfl)
theorem dX6_ask_92 : decode cX6_ask 92 = .ok (.invokestatic 249, 3) := dk_184 0 249 (dk_at dksX6_ask_4 0 rfl rfl)
theorem dX6_ask_95 : decode cX6_ask 95 = .ok (.iload 4, 2) := dk_21 4 (dk_at dksX6_ask_4 3 rfl rfl)
theorem dX6_ask_97 : decode cX6_ask 97 = .ok (.if_icmp .lt 6, 3) := dk_161 0 6 (dk_at dksX6_ask_4 5 rfl rfl)
theorem dX6_ask_100 : decode cX6_ask 100 = .ok (.goto 20, 3) := dk_167 0 20 (dk_at dksX6_ask_4 8 rfl rfl)
theorem dX6_ask_103 : decode cX6_ask 103 = .ok (.iload 6, 2) := dk_21 6 (dk_at dksX6_ask_4 11 rfl rfl)
theorem dX6_ask_105 : decode cX6_ask 105 = .ok (.iload_n 2, 1) := dk_28 (dk_at dksX6_ask_4 13 rfl rfl)
theorem dX6_ask_106 : decode cX6_ask 106 = .ok (.invokestatic 57, 3) := dk_184 0 57 (dk_at dksX6_ask_4 14 rfl rfl)
theorem dX6_ask_109 : decode cX6_ask 109 = .ok (.iload 6, 2) := dk_21 6 (dk_at dksX6_ask_4 17 rfl rfl)
theorem dX6_ask_111 : decode cX6_ask 111 = .ok (.isub, 1) := dk_100 (dk_at dksX6_ask_4 19 rfl rfl)
theorem dX6_ask_112 : decode cX6_ask 112 = .ok (.invokestatic 249, 3) := dk_184 0 249 (dk_at dksX6_ask_4 20 rfl rfl)
theorem dX6_ask_115 : decode cX6_ask 115 = .ok (.istore 4, 2) := dk_54 4 (dk_at dksX6_ask_5 0 rfl rfl)
theorem dX6_ask_117 : decode cX6_ask 117 = .ok (.iload 5, 2) := dk_21 5 (dk_at dksX6_ask_5 2 rfl rfl)
theorem dX6_ask_119 : decode cX6_ask 119 = .ok (.istore_n 3, 1) := dk_62 (dk_at dksX6_ask_5 4 rfl rfl)
theorem dX6_ask_120 : decode cX6_ask 120 = .ok (.iinc 5 1, 3) := dk_132 5 1 (dk_at dksX6_ask_5 5 rfl rfl)
theorem dX6_ask_123 : decode cX6_ask 123 = .ok (.goto (-77), 3) := dk_167 255 179 (dk_at dksX6_ask_5 8 rfl rfl)
theorem dX6_ask_126 : decode cX6_ask 126 = .ok (.iload_n 3, 1) := dk_29 (dk_at dksX6_ask_5 11 rfl rfl)
theorem dX6_ask_127 : decode cX6_ask 127 = .ok (.ireturn, 1) := dk_172 (dk_at dksX6_ask_5 12 rfl rfl)
abbrev cX6_bored : ByteArray := prog_18_method_99_code
def yX6_bored : MethodName := ⟨RX6, "bored", "(Z)I"⟩
def dkwX6_bored_3 : List UInt8 := [167, 255, 233, 2, 172]
abbrev dktX6_bored_3 : List UInt8 := dkwX6_bored_3 ++ []
def dkwX6_bored_2 : List UInt8 := [21, 4, 16, 52, 162, 0, 22, 42, 180, 0, 38, 21, 4, 51, 153, 0, 6, 21, 4, 172, 132, 4, 1]
abbrev dktX6_bored_2 : List UInt8 := dkwX6_bored_2 ++ dktX6_bored_3
def dkwX6_bored_1 : List UInt8 := [180, 0, 42, 158, 0, 5, 3, 172, 42, 28, 182, 1, 74, 62, 27, 154, 0, 5, 29, 172, 3, 54, 4]
abbrev dktX6_bored_1 : List UInt8 := dkwX6_bored_1 ++ dktX6_bored_2
def dkwX6_bored_0 : List UInt8 := [42, 16, 52, 182, 1, 68, 61, 42, 28, 2, 160, 0, 7, 4, 167, 0, 4, 3, 181, 0, 42, 42]
abbrev dktX6_bored_0 : List UInt8 := dkwX6_bored_0 ++ dktX6_bored_1
theorem dksX6_bored_0 : cX6_bored.data.toList.drop 0 = dktX6_bored_0 := by decide +kernel
theorem dksX6_bored_1 : cX6_bored.data.toList.drop 22 = dktX6_bored_1 := dk_seg dksX6_bored_0 22 rfl rfl
theorem dksX6_bored_2 : cX6_bored.data.toList.drop 45 = dktX6_bored_2 := dk_seg dksX6_bored_1 23 rfl rfl
theorem dksX6_bored_3 : cX6_bored.data.toList.drop 68 = dktX6_bored_3 := dk_seg dksX6_bored_2 23 rfl rfl
theorem dX6_bored_0 : decode cX6_bored 0 = .ok (.aload_n 0, 1) := dk_42 (dk_at dksX6_bored_0 0 rfl rfl)
theorem dX6_bored_1 : decode cX6_bored 1 = .ok (.bipush 52, 2) := dk_16 52 (dk_at dksX6_bored_0 1 rfl rfl)
theorem dX6_bored_3 : decode cX6_bored 3 = .ok (.invokevirtual 324, 3) := dk_182 1 68 (dk_at dksX6_bored_0 3 rfl rfl)
theorem dX6_bored_6 : decode cX6_bored 6 = .ok (.istore_n 2, 1) := dk_61 (dk_at dksX6_bored_0 6 rfl rfl)
theorem dX6_bored_7 : decode cX6_bored 7 = .ok (.aload_n 0, 1) := dk_42 (dk_at dksX6_bored_0 7 rfl rfl)
theorem dX6_bored_8 : decode cX6_bored 8 = .ok (.iload_n 2, 1) := dk_28 (dk_at dksX6_bored_0 8 rfl rfl)
theorem dX6_bored_9 : decode cX6_bored 9 = .ok (.iconst (-1), 1) := dk_2 (dk_at dksX6_bored_0 9 rfl rfl)
theorem dX6_bored_10 : decode cX6_bored 10 = .ok (.if_icmp .ne 7, 3) := dk_160 0 7 (dk_at dksX6_bored_0 10 rfl rfl)
theorem dX6_bored_13 : decode cX6_bored 13 = .ok (.iconst 1, 1) := dk_4 (dk_at dksX6_bored_0 13 rfl rfl)
theorem dX6_bored_14 : decode cX6_bored 14 = .ok (.goto 4, 3) := dk_167 0 4 (dk_at dksX6_bored_0 14 rfl rfl)
theorem dX6_bored_17 : decode cX6_bored 17 = .ok (.iconst 0, 1) := dk_3 (dk_at dksX6_bored_0 17 rfl rfl)
theorem dX6_bored_18 : decode cX6_bored 18 = .ok (.putfield 42, 3) := dk_181 0 42 (dk_at dksX6_bored_0 18 rfl rfl)
theorem dX6_bored_21 : decode cX6_bored 21 = .ok (.aload_n 0, 1) := dk_42 (dk_at dksX6_bored_0 21 rfl rfl)
theorem dX6_bored_22 : decode cX6_bored 22 = .ok (.getfield 42, 3) := dk_180 0 42 (dk_at dksX6_bored_1 0 rfl rfl)
theorem dX6_bored_25 : decode cX6_bored 25 = .ok (.ifCond .le 5, 3) := dk_158 0 5 (dk_at dksX6_bored_1 3 rfl rfl)
theorem dX6_bored_28 : decode cX6_bored 28 = .ok (.iconst 0, 1) := dk_3 (dk_at dksX6_bored_1 6 rfl rfl)
theorem dX6_bored_29 : decode cX6_bored 29 = .ok (.ireturn, 1) := dk_172 (dk_at dksX6_bored_1 7 rfl rfl)
theorem dX6_bored_30 : decode cX6_bored 30 = .ok (.aload_n 0, 1) := dk_42 (dk_at dksX6_bored_1 8 rfl rfl)
theorem dX6_bored_31 : decode cX6_bored 31 = .ok (.iload_n 2, 1) := dk_28 (dk_at dksX6_bored_1 9 rfl rfl)
theorem dX6_bored_32 : decode cX6_bored 32 = .ok (.invokevirtual 330, 3) := dk_182 1 74 (dk_at dksX6_bored_1 10 rfl rfl)
theorem dX6_bored_35 : decode cX6_bored 35 = .ok (.istore_n 3, 1) := dk_62 (dk_at dksX6_bored_1 13 rfl rfl)
theorem dX6_bored_36 : decode cX6_bored 36 = .ok (.iload_n 1, 1) := dk_27 (dk_at dksX6_bored_1 14 rfl rfl)
theorem dX6_bored_37 : decode cX6_bored 37 = .ok (.ifCond .ne 5, 3) := dk_154 0 5 (dk_at dksX6_bored_1 15 rfl rfl)
theorem dX6_bored_40 : decode cX6_bored 40 = .ok (.iload_n 3, 1) := dk_29 (dk_at dksX6_bored_1 18 rfl rfl)
theorem dX6_bored_41 : decode cX6_bored 41 = .ok (.ireturn, 1) := dk_172 (dk_at dksX6_bored_1 19 rfl rfl)
theorem dX6_bored_42 : decode cX6_bored 42 = .ok (.iconst 0, 1) := dk_3 (dk_at dksX6_bored_1 20 rfl rfl)
theorem dX6_bored_43 : decode cX6_bored 43 = .ok (.istore 4, 2) := dk_54 4 (dk_at dksX6_bored_1 21 rfl rfl)
theorem dX6_bored_45 : decode cX6_bored 45 = .ok (.iload 4, 2) := dk_21 4 (dk_at dksX6_bored_2 0 rfl rfl)
theorem dX6_bored_47 : decode cX6_bored 47 = .ok (.bipush 52, 2) := dk_16 52 (dk_at dksX6_bored_2 2 rfl rfl)
theorem dX6_bored_49 : decode cX6_bored 49 = .ok (.if_icmp .ge 22, 3) := dk_162 0 22 (dk_at dksX6_bored_2 4 rfl rfl)
theorem dX6_bored_52 : decode cX6_bored 52 = .ok (.aload_n 0, 1) := dk_42 (dk_at dksX6_bored_2 7 rfl rfl)
theorem dX6_bored_53 : decode cX6_bored 53 = .ok (.getfield 38, 3) := dk_180 0 38 (dk_at dksX6_bored_2 8 rfl rfl)
theorem dX6_bored_56 : decode cX6_bored 56 = .ok (.iload 4, 2) := dk_21 4 (dk_at dksX6_bored_2 11 rfl rfl)
theorem dX6_bored_58 : decode cX6_bored 58 = .ok (.baload, 1) := dk_51 (dk_at dksX6_bored_2 13 rfl rfl)
theorem dX6_bored_59 : decode cX6_bored 59 = .ok (.ifCond .eq 6, 3) := dk_153 0 6 (dk_at dksX6_bored_2 14 rfl rfl)
theorem dX6_bored_62 : decode cX6_bored 62 = .ok (.iload 4, 2) := dk_21 4 (dk_at dksX6_bored_2 17 rfl rfl)
theorem dX6_bored_64 : decode cX6_bored 64 = .ok (.ireturn, 1) := dk_172 (dk_at dksX6_bored_2 19 rfl rfl)
theorem dX6_bored_65 : decode cX6_bored 65 = .ok (.iinc 4 1, 3) := dk_132 4 1 (dk_at dksX6_bored_2 20 rfl rfl)
theorem dX6_bored_68 : decode cX6_bored 68 = .ok (.goto (-23), 3) := dk_167 255 233 (dk_at dksX6_bored_3 0 rfl rfl)
theorem dX6_bored_71 : decode cX6_bored 71 = .ok (.iconst (-1), 1) := dk_2 (dk_at dksX6_bored_3 3 rfl rfl)
theorem dX6_bored_72 : decode cX6_bored 72 = .ok (.ireturn, 1) := dk_172 (dk_at dksX6_bored_3 4 rfl rfl)
abbrev cX6_weeksBy : ByteArray := prog_18_method_98_code
def yX6_weeksBy : MethodName := ⟨RX6, "weeksBy", "(I)I"⟩
def dkwX6_weeksBy_4 : List UInt8 := [29, 51, 153, 0, 7, 4, 167, 0, 4, 3, 96, 61, 132, 3, 1, 167, 255, 151, 28, 172]
abbrev dktX6_weeksBy_4 : List UInt8 := dkwX6_weeksBy_4 ++ []
def dkwX6_weeksBy_3 : List UInt8 := [167, 0, 4, 3, 160, 0, 7, 4, 167, 0, 4, 3, 84, 132, 4, 2, 167, 255, 190, 28, 42, 180, 0, 38]
abbrev dktX6_weeksBy_3 : List UInt8 := dkwX6_weeksBy_3 ++ dktX6_weeksBy_4
def dkwX6_weeksBy_2 : List UInt8 := [29, 161, 0, 7, 4, 167, 0, 4, 3, 42, 180, 0, 22, 21, 4, 4, 96, 46, 4, 160, 0, 7, 4]
abbrev dktX6_weeksBy_2 : List UInt8 := dkwX6_weeksBy_2 ++ dktX6_weeksBy_3
def dkwX6_weeksBy_1 : List UInt8 := [162, 0, 66, 42, 180, 0, 38, 29, 51, 153, 0, 57, 42, 180, 0, 38, 29, 42, 180, 0, 22, 21, 4, 46]
abbrev dktX6_weeksBy_1 : List UInt8 := dkwX6_weeksBy_1 ++ dktX6_weeksBy_2
def dkwX6_weeksBy_0 : List UInt8 := [3, 61, 3, 62, 29, 16, 52, 162, 0, 105, 42, 180, 0, 38, 29, 4, 84, 3, 54, 4, 21, 4, 27]
abbrev dktX6_weeksBy_0 : List UInt8 := dkwX6_weeksBy_0 ++ dktX6_weeksBy_1
theorem dksX6_weeksBy_0 : cX6_weeksBy.data.toList.drop 0 = dktX6_weeksBy_0 := by decide +kernel
theorem dksX6_weeksBy_1 : cX6_weeksBy.data.toList.drop 23 = dktX6_weeksBy_1 := dk_seg dksX6_weeksBy_0 23 rfl rfl
theorem dksX6_weeksBy_2 : cX6_weeksBy.data.toList.drop 47 = dktX6_weeksBy_2 := dk_seg dksX6_weeksBy_1 24 rfl rfl
theorem dksX6_weeksBy_3 : cX6_weeksBy.data.toList.drop 70 = dktX6_weeksBy_3 := dk_seg dksX6_weeksBy_2 23 rfl rfl
theorem dksX6_weeksBy_4 : cX6_weeksBy.data.toList.drop 94 = dktX6_weeksBy_4 := dk_seg dksX6_weeksBy_3 24 rfl rfl
theorem dX6_weeksBy_0 : decode cX6_weeksBy 0 = .ok (.iconst 0, 1) := dk_3 (dk_at dksX6_weeksBy_0 0 rfl rfl)
theorem dX6_weeksBy_1 : decode cX6_weeksBy 1 = .ok (.istore_n 2, 1) := dk_61 (dk_at dksX6_weeksBy_0 1 rfl rfl)
theorem dX6_weeksBy_2 : decode cX6_weeksBy 2 = .ok (.iconst 0, 1) := dk_3 (dk_at dksX6_weeksBy_0 2 rfl rfl)
theorem dX6_weeksBy_3 : decode cX6_weeksBy 3 = .ok (.istore_n 3, 1) := dk_62 (dk_at dksX6_weeksBy_0 3 rfl rfl)
theorem dX6_weeksBy_4 : decode cX6_weeksBy 4 = .ok (.iload_n 3, 1) := dk_29 (dk_at dksX6_weeksBy_0 4 rfl rfl)
theorem dX6_weeksBy_5 : decode cX6_weeksBy 5 = .ok (.bipush 52, 2) := dk_16 52 (dk_at dksX6_weeksBy_0 5 rfl rfl)
theorem dX6_weeksBy_7 : decode cX6_weeksBy 7 = .ok (.if_icmp .ge 105, 3) := dk_162 0 105 (dk_at dksX6_weeksBy_0 7 rfl rfl)
theorem dX6_weeksBy_10 : decode cX6_weeksBy 10 = .ok (.aload_n 0, 1) := dk_42 (dk_at dksX6_weeksBy_0 10 rfl rfl)
theorem dX6_weeksBy_11 : decode cX6_weeksBy 11 = .ok (.getfield 38, 3) := dk_180 0 38 (dk_at dksX6_weeksBy_0 11 rfl rfl)
theorem dX6_weeksBy_14 : decode cX6_weeksBy 14 = .ok (.iload_n 3, 1) := dk_29 (dk_at dksX6_weeksBy_0 14 rfl rfl)
theorem dX6_weeksBy_15 : decode cX6_weeksBy 15 = .ok (.iconst 1, 1) := dk_4 (dk_at dksX6_weeksBy_0 15 rfl rfl)
theorem dX6_weeksBy_16 : decode cX6_weeksBy 16 = .ok (.bastore, 1) := dk_84 (dk_at dksX6_weeksBy_0 16 rfl rfl)
theorem dX6_weeksBy_17 : decode cX6_weeksBy 17 = .ok (.iconst 0, 1) := dk_3 (dk_at dksX6_weeksBy_0 17 rfl rfl)
theorem dX6_weeksBy_18 : decode cX6_weeksBy 18 = .ok (.istore 4, 2) := dk_54 4 (dk_at dksX6_weeksBy_0 18 rfl rfl)
theorem dX6_weeksBy_20 : decode cX6_weeksBy 20 = .ok (.iload 4, 2) := dk_21 4 (dk_at dksX6_weeksBy_0 20 rfl rfl)
theorem dX6_weeksBy_22 : decode cX6_weeksBy 22 = .ok (.iload_n 1, 1) := dk_27 (dk_at dksX6_weeksBy_0 22 rfl rfl)
theorem dX6_weeksBy_23 : decode cX6_weeksBy 23 = .ok (.if_icmp .ge 66, 3) := dk_162 0 66 (dk_at dksX6_weeksBy_1 0 rfl rfl)
theorem dX6_weeksBy_26 : decode cX6_weeksBy 26 = .ok (.aload_n 0, 1) := dk_42 (dk_at dksX6_weeksBy_1 3 rfl rfl)
theorem dX6_weeksBy_27 : decode cX6_weeksBy 27 = .ok (.getfield 38, 3) := dk_180 0 38 (dk_at dksX6_weeksBy_1 4 rfl rfl)
theorem dX6_weeksBy_30 : decode cX6_weeksBy 30 = .ok (.iload_n 3, 1) := dk_29 (dk_at dksX6_weeksBy_1 7 rfl rfl)
theorem dX6_weeksBy_31 : decode cX6_weeksBy 31 = .ok (.baload, 1) := dk_51 (dk_at dksX6_weeksBy_1 8 rfl rfl)
theorem dX6_weeksBy_32 : decode cX6_weeksBy 32 = .ok (.ifCond .eq 57, 3) := dk_153 0 57 (dk_at dksX6_weeksBy_1 9 rfl rfl)
theorem dX6_weeksBy_35 : decode cX6_weeksBy 35 = .ok (.aload_n 0, 1) := dk_42 (dk_at dksX6_weeksBy_1 12 rfl rfl)
theorem dX6_weeksBy_36 : decode cX6_weeksBy 36 = .ok (.getfield 38, 3) := dk_180 0 38 (dk_at dksX6_weeksBy_1 13 rfl rfl)
theorem dX6_weeksBy_39 : decode cX6_weeksBy 39 = .ok (.iload_n 3, 1) := dk_29 (dk_at dksX6_weeksBy_1 16 rfl rfl)
theorem dX6_weeksBy_40 : decode cX6_weeksBy 40 = .ok (.aload_n 0, 1) := dk_42 (dk_at dksX6_weeksBy_1 17 rfl rfl)
theorem dX6_weeksBy_41 : decode cX6_weeksBy 41 = .ok (.getfield 22, 3) := dk_180 0 22 (dk_at dksX6_weeksBy_1 18 rfl rfl)
theorem dX6_weeksBy_44 : decode cX6_weeksBy 44 = .ok (.iload 4, 2) := dk_21 4 (dk_at dksX6_weeksBy_1 21 rfl rfl)
theorem dX6_weeksBy_46 : decode cX6_weeksBy 46 = .ok (.iaload, 1) := dk_46 (dk_at dksX6_weeksBy_1 23 rfl rfl)
theorem dX6_weeksBy_47 : decode cX6_weeksBy 47 = .ok (.iload_n 3, 1) := dk_29 (dk_at dksX6_weeksBy_2 0 rfl rfl)
theorem dX6_weeksBy_48 : decode cX6_weeksBy 48 = .ok (.if_icmp .lt 7, 3) := dk_161 0 7 (dk_at dksX6_weeksBy_2 1 rfl rfl)
theorem dX6_weeksBy_51 : decode cX6_weeksBy 51 = .ok (.iconst 1, 1) := dk_4 (dk_at dksX6_weeksBy_2 4 rfl rfl)
theorem dX6_weeksBy_52 : decode cX6_weeksBy 52 = .ok (.goto 4, 3) := dk_167 0 4 (dk_at dksX6_weeksBy_2 5 rfl rfl)
theorem dX6_weeksBy_55 : decode cX6_weeksBy 55 = .ok (.iconst 0, 1) := dk_3 (dk_at dksX6_weeksBy_2 8 rfl rfl)
theorem dX6_weeksBy_56 : decode cX6_weeksBy 56 = .ok (.aload_n 0, 1) := dk_42 (dk_at dksX6_weeksBy_2 9 rfl rfl)
theorem dX6_weeksBy_57 : decode cX6_weeksBy 57 = .ok (.getfield 22, 3) := dk_180 0 22 (dk_at dksX6_weeksBy_2 10 rfl rfl)
theorem dX6_weeksBy_60 : decode cX6_weeksBy 60 = .ok (.iload 4, 2) := dk_21 4 (dk_at dksX6_weeksBy_2 13 rfl rfl)
theorem dX6_weeksBy_62 : decode cX6_weeksBy 62 = .ok (.iconst 1, 1) := dk_4 (dk_at dksX6_weeksBy_2 15 rfl rfl)
theorem dX6_weeksBy_63 : decode cX6_weeksBy 63 = .ok (.iadd, 1) := dk_96 (dk_at dksX6_weeksBy_2 16 rfl rfl)
theorem dX6_weeksBy_64 : decode cX6_weeksBy 64 = .ok (.iaload, 1) := dk_46 (dk_at dksX6_weeksBy_2 17 rfl rfl)
theorem dX6_weeksBy_65 : decode cX6_weeksBy 65 = .ok (.iconst 1, 1) := dk_4 (dk_at dksX6_weeksBy_2 18 rfl rfl)
theorem dX6_weeksBy_66 : decode cX6_weeksBy 66 = .ok (.if_icmp .ne 7, 3) := dk_160 0 7 (dk_at dksX6_weeksBy_2 19 rfl rfl)
theorem dX6_weeksBy_69 : decode cX6_weeksBy 69 = .ok (.iconst 1, 1) := dk_4 (dk_at dksX6_weeksBy_2 22 rfl rfl)
theorem dX6_weeksBy_70 : decode cX6_weeksBy 70 = .ok (.goto 4, 3) := dk_167 0 4 (dk_at dksX6_weeksBy_3 0 rfl rfl)
theorem dX6_weeksBy_73 : decode cX6_weeksBy 73 = .ok (.iconst 0, 1) := dk_3 (dk_at dksX6_weeksBy_3 3 rfl rfl)
theorem dX6_weeksBy_74 : decode cX6_weeksBy 74 = .ok (.if_icmp .ne 7, 3) := dk_160 0 7 (dk_at dksX6_weeksBy_3 4 rfl rfl)
theorem dX6_weeksBy_77 : decode cX6_weeksBy 77 = .ok (.iconst 1, 1) := dk_4 (dk_at dksX6_weeksBy_3 7 rfl rfl)
theorem dX6_weeksBy_78 : decode cX6_weeksBy 78 = .ok (.goto 4, 3) := dk_167 0 4 (dk_at dksX6_weeksBy_3 8 rfl rfl)
theorem dX6_weeksBy_81 : decode cX6_weeksBy 81 = .ok (.iconst 0, 1) := dk_3 (dk_at dksX6_weeksBy_3 11 rfl rfl)
theorem dX6_weeksBy_82 : decode cX6_weeksBy 82 = .ok (.bastore, 1) := dk_84 (dk_at dksX6_weeksBy_3 12 rfl rfl)
theorem dX6_weeksBy_83 : decode cX6_weeksBy 83 = .ok (.iinc 4 2, 3) := dk_132 4 2 (dk_at dksX6_weeksBy_3 13 rfl rfl)
theorem dX6_weeksBy_86 : decode cX6_weeksBy 86 = .ok (.goto (-66), 3) := dk_167 255 190 (dk_at dksX6_weeksBy_3 16 rfl rfl)
theorem dX6_weeksBy_89 : decode cX6_weeksBy 89 = .ok (.iload_n 2, 1) := dk_28 (dk_at dksX6_weeksBy_3 19 rfl rfl)
theorem dX6_weeksBy_90 : decode cX6_weeksBy 90 = .ok (.aload_n 0, 1) := dk_42 (dk_at dksX6_weeksBy_3 20 rfl rfl)
theorem dX6_weeksBy_91 : decode cX6_weeksBy 91 = .ok (.getfield 38, 3) := dk_180 0 38 (dk_at dksX6_weeksBy_3 21 rfl rfl)
theorem dX6_weeksBy_94 : decode cX6_weeksBy 94 = .ok (.iload_n 3, 1) := dk_29 (dk_at dksX6_weeksBy_4 0 rfl rfl)
theorem dX6_weeksBy_95 : decode cX6_weeksBy 95 = .ok (.baload, 1) := dk_51 (dk_at dksX6_weeksBy_4 1 rfl rfl)
theorem dX6_weeksBy_96 : decode cX6_weeksBy 96 = .ok (.ifCond .eq 7, 3) := dk_153 0 7 (dk_at dksX6_weeksBy_4 2 rfl rfl)
theorem dX6_weeksBy_99 : decode cX6_weeksBy 99 = .ok (.iconst 1, 1) := dk_4 (dk_at dksX6_weeksBy_4 5 rfl rfl)
theorem dX6_weeksBy_100 : decode cX6_weeksBy 100 = .ok (.goto 4, 3) := dk_167 0 4 (dk_at dksX6_weeksBy_4 6 rfl rfl)
theorem dX6_weeksBy_103 : decode cX6_weeksBy 103 = .ok (.iconst 0, 1) := dk_3 (dk_at dksX6_weeksBy_4 9 rfl rfl)
theorem dX6_weeksBy_104 : decode cX6_weeksBy 104 = .ok (.iadd, 1) := dk_96 (dk_at dksX6_weeksBy_4 10 rfl rfl)
theorem dX6_weeksBy_105 : decode cX6_weeksBy 105 = .ok (.istore_n 2, 1) := dk_61 (dk_at dksX6_weeksBy_4 11 rfl rfl)
theorem dX6_weeksBy_106 : decode cX6_weeksBy 106 = .ok (.iinc 3 1, 3) := dk_132 3 1 (dk_at dksX6_weeksBy_4 12 rfl rfl)
theorem dX6_weeksBy_109 : decode cX6_weeksBy 109 = .ok (.goto (-105), 3) := dk_167 255 151 (dk_at dksX6_weeksBy_4 15 rfl rfl)
theorem dX6_weeksBy_112 : decode cX6_weeksBy 112 = .ok (.iload_n 2, 1) := dk_28 (dk_at dksX6_weeksBy_4 18 rfl rfl)
theorem dX6_weeksBy_113 : decode cX6_weeksBy 113 = .ok (.ireturn, 1) := dk_172 (dk_at dksX6_weeksBy_4 19 rfl rfl)
abbrev cX6_look : ByteArray := prog_18_method_100_code
def yX6_look : MethodName := ⟨RX6, "look", "()I"⟩
def dkwX6_look_5 : List UInt8 := [167, 255, 190, 29, 172]
abbrev dktX6_look_5 : List UInt8 := dkwX6_look_5 ++ []
def dkwX6_look_4 : List UInt8 := [161, 0, 6, 167, 0, 17, 21, 5, 28, 21, 5, 100, 184, 0, 249, 54, 4, 21, 6, 62, 132, 6, 1]
abbrev dktX6_look_4 : List UInt8 := dkwX6_look_4 ++ dktX6_look_5
def dkwX6_look_3 : List UInt8 := [153, 0, 7, 4, 167, 0, 4, 3, 96, 54, 5, 21, 5, 28, 21, 5, 100, 184, 0, 249, 21, 4]
abbrev dktX6_look_3 : List UInt8 := dkwX6_look_3 ++ dktX6_look_4
def dkwX6_look_2 : List UInt8 := [3, 54, 6, 21, 6, 16, 52, 162, 0, 65, 28, 4, 164, 0, 60, 21, 5, 42, 180, 0, 38, 21, 6, 51]
abbrev dktX6_look_2 : List UInt8 := dkwX6_look_2 ++ dktX6_look_3
def dkwX6_look_1 : List UInt8 := [180, 0, 42, 158, 0, 5, 3, 172, 42, 27, 182, 1, 74, 61, 2, 62, 19, 1, 52, 54, 4, 3, 54, 5]
abbrev dktX6_look_1 : List UInt8 := dkwX6_look_1 ++ dktX6_look_2
def dkwX6_look_0 : List UInt8 := [42, 16, 52, 182, 1, 68, 60, 42, 27, 2, 160, 0, 7, 4, 167, 0, 4, 3, 181, 0, 42, 42]
abbrev dktX6_look_0 : List UInt8 := dkwX6_look_0 ++ dktX6_look_1
theorem dksX6_look_0 : cX6_look.data.toList.drop 0 = dktX6_look_0 := by decide +kernel
theorem dksX6_look_1 : cX6_look.data.toList.drop 22 = dktX6_look_1 := dk_seg dksX6_look_0 22 rfl rfl
theorem dksX6_look_2 : cX6_look.data.toList.drop 46 = dktX6_look_2 := dk_seg dksX6_look_1 24 rfl rfl
theorem dksX6_look_3 : cX6_look.data.toList.drop 70 = dktX6_look_3 := dk_seg dksX6_look_2 24 rfl rfl
theorem dksX6_look_4 : cX6_look.data.toList.drop 92 = dktX6_look_4 := dk_seg dksX6_look_3 22 rfl rfl
theorem dksX6_look_5 : cX6_look.data.toList.drop 115 = dktX6_look_5 := dk_seg dksX6_look_4 23 rfl rfl
theorem dX6_look_0 : decode cX6_look 0 = .ok (.aload_n 0, 1) := dk_42 (dk_at dksX6_look_0 0 rfl rfl)
theorem dX6_look_1 : decode cX6_look 1 = .ok (.bipush 52, 2) := dk_16 52 (dk_at dksX6_look_0 1 rfl rfl)
theorem dX6_look_3 : decode cX6_look 3 = .ok (.invokevirtual 324, 3) := dk_182 1 68 (dk_at dksX6_look_0 3 rfl rfl)
theorem dX6_look_6 : decode cX6_look 6 = .ok (.istore_n 1, 1) := dk_60 (dk_at dksX6_look_0 6 rfl rfl)
theorem dX6_look_7 : decode cX6_look 7 = .ok (.aload_n 0, 1) := dk_42 (dk_at dksX6_look_0 7 rfl rfl)
theorem dX6_look_8 : decode cX6_look 8 = .ok (.iload_n 1, 1) := dk_27 (dk_at dksX6_look_0 8 rfl rfl)
theorem dX6_look_9 : decode cX6_look 9 = .ok (.iconst (-1), 1) := dk_2 (dk_at dksX6_look_0 9 rfl rfl)
theorem dX6_look_10 : decode cX6_look 10 = .ok (.if_icmp .ne 7, 3) := dk_160 0 7 (dk_at dksX6_look_0 10 rfl rfl)
theorem dX6_look_13 : decode cX6_look 13 = .ok (.iconst 1, 1) := dk_4 (dk_at dksX6_look_0 13 rfl rfl)
theorem dX6_look_14 : decode cX6_look 14 = .ok (.goto 4, 3) := dk_167 0 4 (dk_at dksX6_look_0 14 rfl rfl)
theorem dX6_look_17 : decode cX6_look 17 = .ok (.iconst 0, 1) := dk_3 (dk_at dksX6_look_0 17 rfl rfl)
theorem dX6_look_18 : decode cX6_look 18 = .ok (.putfield 42, 3) := dk_181 0 42 (dk_at dksX6_look_0 18 rfl rfl)
theorem dX6_look_21 : decode cX6_look 21 = .ok (.aload_n 0, 1) := dk_42 (dk_at dksX6_look_0 21 rfl rfl)
theorem dX6_look_22 : decode cX6_look 22 = .ok (.getfield 42, 3) := dk_180 0 42 (dk_at dksX6_look_1 0 rfl rfl)
theorem dX6_look_25 : decode cX6_look 25 = .ok (.ifCond .le 5, 3) := dk_158 0 5 (dk_at dksX6_look_1 3 rfl rfl)
theorem dX6_look_28 : decode cX6_look 28 = .ok (.iconst 0, 1) := dk_3 (dk_at dksX6_look_1 6 rfl rfl)
theorem dX6_look_29 : decode cX6_look 29 = .ok (.ireturn, 1) := dk_172 (dk_at dksX6_look_1 7 rfl rfl)
theorem dX6_look_30 : decode cX6_look 30 = .ok (.aload_n 0, 1) := dk_42 (dk_at dksX6_look_1 8 rfl rfl)
theorem dX6_look_31 : decode cX6_look 31 = .ok (.iload_n 1, 1) := dk_27 (dk_at dksX6_look_1 9 rfl rfl)
theorem dX6_look_32 : decode cX6_look 32 = .ok (.invokevirtual 330, 3) := dk_182 1 74 (dk_at dksX6_look_1 10 rfl rfl)
theorem dX6_look_35 : decode cX6_look 35 = .ok (.istore_n 2, 1) := dk_61 (dk_at dksX6_look_1 13 rfl rfl)
theorem dX6_look_36 : decode cX6_look 36 = .ok (.iconst (-1), 1) := dk_2 (dk_at dksX6_look_1 14 rfl rfl)
theorem dX6_look_37 : decode cX6_look 37 = .ok (.istore_n 3, 1) := dk_62 (dk_at dksX6_look_1 15 rfl rfl)
theorem dX6_look_38 : decode cX6_look 38 = .ok (.ldc_w 308, 3) := dk_19 1 52 (dk_at dksX6_look_1 16 rfl rfl)
theorem dX6_look_41 : decode cX6_look 41 = .ok (.istore 4, 2) := dk_54 4 (dk_at dksX6_look_1 19 rfl rfl)
theorem dX6_look_43 : decode cX6_look 43 = .ok (.iconst 0, 1) := dk_3 (dk_at dksX6_look_1 21 rfl rfl)
theorem dX6_look_44 : decode cX6_look 44 = .ok (.istore 5, 2) := dk_54 5 (dk_at dksX6_look_1 22 rfl rfl)
theorem dX6_look_46 : decode cX6_look 46 = .ok (.iconst 0, 1) := dk_3 (dk_at dksX6_look_2 0 rfl rfl)
theorem dX6_look_47 : decode cX6_look 47 = .ok (.istore 6, 2) := dk_54 6 (dk_at dksX6_look_2 1 rfl rfl)
theorem dX6_look_49 : decode cX6_look 49 = .ok (.iload 6, 2) := dk_21 6 (dk_at dksX6_look_2 3 rfl rfl)
theorem dX6_look_51 : decode cX6_look 51 = .ok (.bipush 52, 2) := dk_16 52 (dk_at dksX6_look_2 5 rfl rfl)
theorem dX6_look_53 : decode cX6_look 53 = .ok (.if_icmp .ge 65, 3) := dk_162 0 65 (dk_at dksX6_look_2 7 rfl rfl)
theorem dX6_look_56 : decode cX6_look 56 = .ok (.iload_n 2, 1) := dk_28 (dk_at dksX6_look_2 10 rfl rfl)
theorem dX6_look_57 : decode cX6_look 57 = .ok (.iconst 1, 1) := dk_4 (dk_at dksX6_look_2 11 rfl rfl)
theorem dX6_look_58 : decode cX6_look 58 = .ok (.if_icmp .le 60, 3) := dk_164 0 60 (dk_at dksX6_look_2 12 rfl rfl)
theorem dX6_look_61 : decode cX6_look 61 = .ok (.iload 5, 2) := dk_21 5 (dk_at dksX6_look_2 15 rfl rfl)
theorem dX6_look_63 : decode cX6_look 63 = .ok (.aload_n 0, 1) := dk_42 (dk_at dksX6_look_2 17 rfl rfl)
theorem dX6_look_64 : decode cX6_look 64 = .ok (.getfield 38, 3) := dk_180 0 38 (dk_at dksX6_look_2 18 rfl rfl)
theorem dX6_look_67 : decode cX6_look 67 = .ok (.iload 6, 2) := dk_21 6 (dk_at dksX6_look_2 21 rfl rfl)
theorem dX6_look_69 : decode cX6_look 69 = .ok (.baload, 1) := dk_51 (dk_at dksX6_look_2 23 rfl rfl)
theorem dX6_look_70 : decode cX6_look 70 = .ok (.ifCond .eq 7, 3) := dk_153 0 7 (dk_at dksX6_look_3 0 rfl rfl)
theorem dX6_look_73 : decode cX6_look 73 = .ok (.iconst 1, 1) := dk_4 (dk_at dksX6_look_3 3 rfl rfl)
theorem dX6_look_74 : decode cX6_look 74 = .ok (.goto 4, 3) := dk_167 0 4 (dk_at dksX6_look_3 4 rfl rfl)
theorem dX6_look_77 : decode cX6_look 77 = .ok (.iconst 0, 1) := dk_3 (dk_at dksX6_look_3 7 rfl rfl)
theorem dX6_look_78 : decode cX6_look 78 = .ok (.iadd, 1) := dk_96 (dk_at dksX6_look_3 8 rfl rfl)
theorem dX6_look_79 : decode cX6_look 79 = .ok (.istore 5, 2) := dk_54 5 (dk_at dksX6_look_3 9 rfl rfl)
theorem dX6_look_81 : decode cX6_look 81 = .ok (.iload 5, 2) := dk_21 5 (dk_at dksX6_look_3 11 rfl rfl)
theorem dX6_look_83 : decode cX6_look 83 = .ok (.iload_n 2, 1) := dk_28 (dk_at dksX6_look_3 13 rfl rfl)
theorem dX6_look_84 : decode cX6_look 84 = .ok (.iload 5, 2) := dk_21 5 (dk_at dksX6_look_3 14 rfl rfl)
theorem dX6_look_86 : decode cX6_look 86 = .ok (.isub, 1) := dk_100 (dk_at dksX6_look_3 16 rfl rfl)
theorem dX6_look_87 : decode cX6_look 87 = .ok (.invokestatic 249, 3) := dk_184 0 249 (dk_at dksX6_look_3 17 rfl rfl)
theorem dX6_look_90 : decode cX6_look 90 = .ok (.iload 4, 2) := dk_21 4 (dk_at dksX6_look_3 20 rfl rfl)
theorem dX6_look_92 : decode cX6_look 92 = .ok (.if_icmp .lt 6, 3) := dk_161 0 6 (dk_at dksX6_look_4 0 rfl rfl)
theorem dX6_look_95 : decode cX6_look 95 = .ok (.goto 17, 3) := dk_167 0 17 (dk_at dksX6_look_4 3 rfl rfl)
theorem dX6_look_98 : decode cX6_look 98 = .ok (.iload 5, 2) := dk_21 5 (dk_at dksX6_look_4 6 rfl rfl)
theorem dX6_look_100 : decode cX6_look 100 = .ok (.iload_n 2, 1) := dk_28 (dk_at dksX6_look_4 8 rfl rfl)
theorem dX6_look_101 : decode cX6_look 101 = .ok (.iload 5, 2) := dk_21 5 (dk_at dksX6_look_4 9 rfl rfl)
theorem dX6_look_103 : decode cX6_look 103 = .ok (.isub, 1) := dk_100 (dk_at dksX6_look_4 11 rfl rfl)
theorem dX6_look_104 : decode cX6_look 104 = .ok (.invokestatic 249, 3) := dk_184 0 249 (dk_at dksX6_look_4 12 rfl rfl)
theorem dX6_look_107 : decode cX6_look 107 = .ok (.istore 4, 2) := dk_54 4 (dk_at dksX6_look_4 15 rfl rfl)
theorem dX6_look_109 : decode cX6_look 109 = .ok (.iload 6, 2) := dk_21 6 (dk_at dksX6_look_4 17 rfl rfl)
theorem dX6_look_111 : decode cX6_look 111 = .ok (.istore_n 3, 1) := dk_62 (dk_at dksX6_look_4 19 rfl rfl)
theorem dX6_look_112 : decode cX6_look 112 = .ok (.iinc 6 1, 3) := dk_132 6 1 (dk_at dksX6_look_4 20 rfl rfl)
theorem dX6_look_115 : decode cX6_look 115 = .ok (.goto (-66), 3) := dk_167 255 190 (dk_at dksX6_look_5 0 rfl rfl)
theorem dX6_look_118 : decode cX6_look 118 = .ok (.iload_n 3, 1) := dk_29 (dk_at dksX6_look_5 3 rfl rfl)
theorem dX6_look_119 : decode cX6_look 119 = .ok (.ireturn, 1) := dk_172 (dk_at dksX6_look_5 4 rfl rfl)
abbrev cX6_keenest : ByteArray := prog_18_method_101_code
def yX6_keenest : MethodName := ⟨RX6, "keenest", "()I"⟩
def dkwX6_keenest_2 : List UInt8 := [132, 2, 1, 167, 255, 215, 27, 172]
abbrev dktX6_keenest_2 : List UInt8 := dkwX6_keenest_2 ++ []
def dkwX6_keenest_1 : List UInt8 := [153, 0, 23, 27, 2, 159, 0, 16, 42, 28, 182, 1, 2, 42, 27, 182, 1, 2, 164, 0, 5, 28, 60]
abbrev dktX6_keenest_1 : List UInt8 := dkwX6_keenest_1 ++ dktX6_keenest_2
def dkwX6_keenest_0 : List UInt8 := [42, 3, 181, 0, 42, 2, 60, 3, 61, 28, 42, 180, 0, 7, 6, 46, 162, 0, 37, 42, 28, 182, 0, 236]
abbrev dktX6_keenest_0 : List UInt8 := dkwX6_keenest_0 ++ dktX6_keenest_1
theorem dksX6_keenest_0 : cX6_keenest.data.toList.drop 0 = dktX6_keenest_0 := by decide +kernel
theorem dksX6_keenest_1 : cX6_keenest.data.toList.drop 24 = dktX6_keenest_1 := dk_seg dksX6_keenest_0 24 rfl rfl
theorem dksX6_keenest_2 : cX6_keenest.data.toList.drop 47 = dktX6_keenest_2 := dk_seg dksX6_keenest_1 23 rfl rfl
theorem dX6_keenest_0 : decode cX6_keenest 0 = .ok (.aload_n 0, 1) := dk_42 (dk_at dksX6_keenest_0 0 rfl rfl)
theorem dX6_keenest_1 : decode cX6_keenest 1 = .ok (.iconst 0, 1) := dk_3 (dk_at dksX6_keenest_0 1 rfl rfl)
theorem dX6_keenest_2 : decode cX6_keenest 2 = .ok (.putfield 42, 3) := dk_181 0 42 (dk_at dksX6_keenest_0 2 rfl rfl)
theorem dX6_keenest_5 : decode cX6_keenest 5 = .ok (.iconst (-1), 1) := dk_2 (dk_at dksX6_keenest_0 5 rfl rfl)
theorem dX6_keenest_6 : decode cX6_keenest 6 = .ok (.istore_n 1, 1) := dk_60 (dk_at dksX6_keenest_0 6 rfl rfl)
theorem dX6_keenest_7 : decode cX6_keenest 7 = .ok (.iconst 0, 1) := dk_3 (dk_at dksX6_keenest_0 7 rfl rfl)
theorem dX6_keenest_8 : decode cX6_keenest 8 = .ok (.istore_n 2, 1) := dk_61 (dk_at dksX6_keenest_0 8 rfl rfl)
theorem dX6_keenest_9 : decode cX6_keenest 9 = .ok (.iload_n 2, 1) := dk_28 (dk_at dksX6_keenest_0 9 rfl rfl)
theorem dX6_keenest_10 : decode cX6_keenest 10 = .ok (.aload_n 0, 1) := dk_42 (dk_at dksX6_keenest_0 10 rfl rfl)
theorem dX6_keenest_11 : decode cX6_keenest 11 = .ok (.getfield 7, 3) := dk_180 0 7 (dk_at dksX6_keenest_0 11 rfl rfl)
theorem dX6_keenest_14 : decode cX6_keenest 14 = .ok (.iconst 3, 1) := dk_6 (dk_at dksX6_keenest_0 14 rfl rfl)
theorem dX6_keenest_15 : decode cX6_keenest 15 = .ok (.iaload, 1) := dk_46 (dk_at dksX6_keenest_0 15 rfl rfl)
theorem dX6_keenest_16 : decode cX6_keenest 16 = .ok (.if_icmp .ge 37, 3) := dk_162 0 37 (dk_at dksX6_keenest_0 16 rfl rfl)
theorem dX6_keenest_19 : decode cX6_keenest 19 = .ok (.aload_n 0, 1) := dk_42 (dk_at dksX6_keenest_0 19 rfl rfl)
theorem dX6_keenest_20 : decode cX6_keenest 20 = .ok (.iload_n 2, 1) := dk_28 (dk_at dksX6_keenest_0 20 rfl rfl)
theorem dX6_keenest_21 : decode cX6_keenest 21 = .ok (.invokevirtual 236, 3) := dk_182 0 236 (dk_at dksX6_keenest_0 21 rfl rfl)
theorem dX6_keenest_24 : decode cX6_keenest 24 = .ok (.ifCond .eq 23, 3) := dk_153 0 23 (dk_at dksX6_keenest_1 0 rfl rfl)
theorem dX6_keenest_27 : decode cX6_keenest 27 = .ok (.iload_n 1, 1) := dk_27 (dk_at dksX6_keenest_1 3 rfl rfl)
theorem dX6_keenest_28 : decode cX6_keenest 28 = .ok (.iconst (-1), 1) := dk_2 (dk_at dksX6_keenest_1 4 rfl rfl)
theorem dX6_keenest_29 : decode cX6_keenest 29 = .ok (.if_icmp .eq 16, 3) := dk_159 0 16 (dk_at dksX6_keenest_1 5 rfl rfl)
theorem dX6_keenest_32 : decode cX6_keenest 32 = .ok (.aload_n 0, 1) := dk_42 (dk_at dksX6_keenest_1 8 rfl rfl)
theorem dX6_keenest_33 : decode cX6_keenest 33 = .ok (.iload_n 2, 1) := dk_28 (dk_at dksX6_keenest_1 9 rfl rfl)
theorem dX6_keenest_34 : decode cX6_keenest 34 = .ok (.invokevirtual 258, 3) := dk_182 1 2 (dk_at dksX6_keenest_1 10 rfl rfl)
theorem dX6_keenest_37 : decode cX6_keenest 37 = .ok (.aload_n 0, 1) := dk_42 (dk_at dksX6_keenest_1 13 rfl rfl)
theorem dX6_keenest_38 : decode cX6_keenest 38 = .ok (.iload_n 1, 1) := dk_27 (dk_at dksX6_keenest_1 14 rfl rfl)
theorem dX6_keenest_39 : decode cX6_keenest 39 = .ok (.invokevirtual 258, 3) := dk_182 1 2 (dk_at dksX6_keenest_1 15 rfl rfl)
theorem dX6_keenest_42 : decode cX6_keenest 42 = .ok (.if_icmp .le 5, 3) := dk_164 0 5 (dk_at dksX6_keenest_1 18 rfl rfl)
theorem dX6_keenest_45 : decode cX6_keenest 45 = .ok (.iload_n 2, 1) := dk_28 (dk_at dksX6_keenest_1 21 rfl rfl)
theorem dX6_keenest_46 : decode cX6_keenest 46 = .ok (.istore_n 1, 1) := dk_60 (dk_at dksX6_keenest_1 22 rfl rfl)
theorem dX6_keenest_47 : decode cX6_keenest 47 = .ok (.iinc 2 1, 3) := dk_132 2 1 (dk_at dksX6_keenest_2 0 rfl rfl)
theorem dX6_keenest_50 : decode cX6_keenest 50 = .ok (.goto (-41), 3) := dk_167 255 215 (dk_at dksX6_keenest_2 3 rfl rfl)
theorem dX6_keenest_53 : decode cX6_keenest 53 = .ok (.iload_n 1, 1) := dk_27 (dk_at dksX6_keenest_2 6 rfl rfl)
theorem dX6_keenest_54 : decode cX6_keenest 54 = .ok (.ireturn, 1) := dk_172 (dk_at dksX6_keenest_2 7 rfl rfl)
abbrev cX6_alike : ByteArray := prog_18_method_102_code
def yX6_alike : MethodName := ⟨RX6, "alike", "()I"⟩
def dkwX6_alike_3 : List UInt8 := [60, 132, 3, 1, 167, 255, 205, 132, 2, 1, 167, 255, 185, 27, 172]
abbrev dktX6_alike_3 : List UInt8 := dkwX6_alike_3 ++ []
def dkwX6_alike_2 : List UInt8 := [160, 0, 22, 42, 28, 3, 182, 0, 49, 42, 29, 3, 182, 0, 49, 160, 0, 7, 4, 167, 0, 4, 3, 96]
abbrev dktX6_alike_2 : List UInt8 := dkwX6_alike_2 ++ dktX6_alike_3
def dkwX6_alike_1 : List UInt8 := [42, 180, 0, 7, 6, 46, 162, 0, 47, 27, 42, 28, 4, 182, 0, 49, 42, 29, 4, 182, 0, 49]
abbrev dktX6_alike_1 : List UInt8 := dkwX6_alike_1 ++ dktX6_alike_2
def dkwX6_alike_0 : List UInt8 := [42, 3, 181, 0, 42, 3, 60, 3, 61, 28, 42, 180, 0, 7, 6, 46, 162, 0, 67, 28, 4, 96, 62, 29]
abbrev dktX6_alike_0 : List UInt8 := dkwX6_alike_0 ++ dktX6_alike_1
theorem dksX6_alike_0 : cX6_alike.data.toList.drop 0 = dktX6_alike_0 := by decide +kernel
theorem dksX6_alike_1 : cX6_alike.data.toList.drop 24 = dktX6_alike_1 := dk_seg dksX6_alike_0 24 rfl rfl
theorem dksX6_alike_2 : cX6_alike.data.toList.drop 46 = dktX6_alike_2 := dk_seg dksX6_alike_1 22 rfl rfl
theorem dksX6_alike_3 : cX6_alike.data.toList.drop 70 = dktX6_alike_3 := dk_seg dksX6_alike_2 24 rfl rfl
theorem dX6_alike_0 : decode cX6_alike 0 = .ok (.aload_n 0, 1) := dk_42 (dk_at dksX6_alike_0 0 rfl rfl)
theorem dX6_alike_1 : decode cX6_alike 1 = .ok (.iconst 0, 1) := dk_3 (dk_at dksX6_alike_0 1 rfl rfl)
theorem dX6_alike_2 : decode cX6_alike 2 = .ok (.putfield 42, 3) := dk_181 0 42 (dk_at dksX6_alike_0 2 rfl rfl)
theorem dX6_alike_5 : decode cX6_alike 5 = .ok (.iconst 0, 1) := dk_3 (dk_at dksX6_alike_0 5 rfl rfl)
theorem dX6_alike_6 : decode cX6_alike 6 = .ok (.istore_n 1, 1) := dk_60 (dk_at dksX6_alike_0 6 rfl rfl)
theorem dX6_alike_7 : decode cX6_alike 7 = .ok (.iconst 0, 1) := dk_3 (dk_at dksX6_alike_0 7 rfl rfl)
theorem dX6_alike_8 : decode cX6_alike 8 = .ok (.istore_n 2, 1) := dk_61 (dk_at dksX6_alike_0 8 rfl rfl)
theorem dX6_alike_9 : decode cX6_alike 9 = .ok (.iload_n 2, 1) := dk_28 (dk_at dksX6_alike_0 9 rfl rfl)
theorem dX6_alike_10 : decode cX6_alike 10 = .ok (.aload_n 0, 1) := dk_42 (dk_at dksX6_alike_0 10 rfl rfl)
theorem dX6_alike_11 : decode cX6_alike 11 = .ok (.getfield 7, 3) := dk_180 0 7 (dk_at dksX6_alike_0 11 rfl rfl)
theorem dX6_alike_14 : decode cX6_alike 14 = .ok (.iconst 3, 1) := dk_6 (dk_at dksX6_alike_0 14 rfl rfl)
theorem dX6_alike_15 : decode cX6_alike 15 = .ok (.iaload, 1) := dk_46 (dk_at dksX6_alike_0 15 rfl rfl)
theorem dX6_alike_16 : decode cX6_alike 16 = .ok (.if_icmp .ge 67, 3) := dk_162 0 67 (dk_at dksX6_alike_0 16 rfl rfl)
theorem dX6_alike_19 : decode cX6_alike 19 = .ok (.iload_n 2, 1) := dk_28 (dk_at dksX6_alike_0 19 rfl rfl)
theorem dX6_alike_20 : decode cX6_alike 20 = .ok (.iconst 1, 1) := dk_4 (dk_at dksX6_alike_0 20 rfl rfl)
theorem dX6_alike_21 : decode cX6_alike 21 = .ok (.iadd, 1) := dk_96 (dk_at dksX6_alike_0 21 rfl rfl)
theorem dX6_alike_22 : decode cX6_alike 22 = .ok (.istore_n 3, 1) := dk_62 (dk_at dksX6_alike_0 22 rfl rfl)
theorem dX6_alike_23 : decode cX6_alike 23 = .ok (.iload_n 3, 1) := dk_29 (dk_at dksX6_alike_0 23 rfl rfl)
theorem dX6_alike_24 : decode cX6_alike 24 = .ok (.aload_n 0, 1) := dk_42 (dk_at dksX6_alike_1 0 rfl rfl)
theorem dX6_alike_25 : decode cX6_alike 25 = .ok (.getfield 7, 3) := dk_180 0 7 (dk_at dksX6_alike_1 1 rfl rfl)
theorem dX6_alike_28 : decode cX6_alike 28 = .ok (.iconst 3, 1) := dk_6 (dk_at dksX6_alike_1 4 rfl rfl)
theorem dX6_alike_29 : decode cX6_alike 29 = .ok (.iaload, 1) := dk_46 (dk_at dksX6_alike_1 5 rfl rfl)
theorem dX6_alike_30 : decode cX6_alike 30 = .ok (.if_icmp .ge 47, 3) := dk_162 0 47 (dk_at dksX6_alike_1 6 rfl rfl)
theorem dX6_alike_33 : decode cX6_alike 33 = .ok (.iload_n 1, 1) := dk_27 (dk_at dksX6_alike_1 9 rfl rfl)
theorem dX6_alike_34 : decode cX6_alike 34 = .ok (.aload_n 0, 1) := dk_42 (dk_at dksX6_alike_1 10 rfl rfl)
theorem dX6_alike_35 : decode cX6_alike 35 = .ok (.iload_n 2, 1) := dk_28 (dk_at dksX6_alike_1 11 rfl rfl)
theorem dX6_alike_36 : decode cX6_alike 36 = .ok (.iconst 1, 1) := dk_4 (dk_at dksX6_alike_1 12 rfl rfl)
theorem dX6_alike_37 : decode cX6_alike 37 = .ok (.invokevirtual 49, 3) := dk_182 0 49 (dk_at dksX6_alike_1 13 rfl rfl)
theorem dX6_alike_40 : decode cX6_alike 40 = .ok (.aload_n 0, 1) := dk_42 (dk_at dksX6_alike_1 16 rfl rfl)
theorem dX6_alike_41 : decode cX6_alike 41 = .ok (.iload_n 3, 1) := dk_29 (dk_at dksX6_alike_1 17 rfl rfl)
theorem dX6_alike_42 : decode cX6_alike 42 = .ok (.iconst 1, 1) := dk_4 (dk_at dksX6_alike_1 18 rfl rfl)
theorem dX6_alike_43 : decode cX6_alike 43 = .ok (.invokevirtual 49, 3) := dk_182 0 49 (dk_at dksX6_alike_1 19 rfl rfl)
theorem dX6_alike_46 : decode cX6_alike 46 = .ok (.if_icmp .ne 22, 3) := dk_160 0 22 (dk_at dksX6_alike_2 0 rfl rfl)
theorem dX6_alike_49 : decode cX6_alike 49 = .ok (.aload_n 0, 1) := dk_42 (dk_at dksX6_alike_2 3 rfl rfl)
theorem dX6_alike_50 : decode cX6_alike 50 = .ok (.iload_n 2, 1) := dk_28 (dk_at dksX6_alike_2 4 rfl rfl)
theorem dX6_alike_51 : decode cX6_alike 51 = .ok (.iconst 0, 1) := dk_3 (dk_at dksX6_alike_2 5 rfl rfl)
theorem dX6_alike_52 : decode cX6_alike 52 = .ok (.invokevirtual 49, 3) := dk_182 0 49 (dk_at dksX6_alike_2 6 rfl rfl)
theorem dX6_alike_55 : decode cX6_alike 55 = .ok (.aload_n 0, 1) := dk_42 (dk_at dksX6_alike_2 9 rfl rfl)
theorem dX6_alike_56 : decode cX6_alike 56 = .ok (.iload_n 3, 1) := dk_29 (dk_at dksX6_alike_2 10 rfl rfl)
theorem dX6_alike_57 : decode cX6_alike 57 = .ok (.iconst 0, 1) := dk_3 (dk_at dksX6_alike_2 11 rfl rfl)
theorem dX6_alike_58 : decode cX6_alike 58 = .ok (.invokevirtual 49, 3) := dk_182 0 49 (dk_at dksX6_alike_2 12 rfl rfl)
theorem dX6_alike_61 : decode cX6_alike 61 = .ok (.if_icmp .ne 7, 3) := dk_160 0 7 (dk_at dksX6_alike_2 15 rfl rfl)
theorem dX6_alike_64 : decode cX6_alike 64 = .ok (.iconst 1, 1) := dk_4 (dk_at dksX6_alike_2 18 rfl rfl)
theorem dX6_alike_65 : decode cX6_alike 65 = .ok (.goto 4, 3) := dk_167 0 4 (dk_at dksX6_alike_2 19 rfl rfl)
theorem dX6_alike_68 : decode cX6_alike 68 = .ok (.iconst 0, 1) := dk_3 (dk_at dksX6_alike_2 22 rfl rfl)
theorem dX6_alike_69 : decode cX6_alike 69 = .ok (.iadd, 1) := dk_96 (dk_at dksX6_alike_2 23 rfl rfl)
theorem dX6_alike_70 : decode cX6_alike 70 = .ok (.istore_n 1, 1) := dk_60 (dk_at dksX6_alike_3 0 rfl rfl)
theorem dX6_alike_71 : decode cX6_alike 71 = .ok (.iinc 3 1, 3) := dk_132 3 1 (dk_at dksX6_alike_3 1 rfl rfl)
theorem dX6_alike_74 : decode cX6_alike 74 = .ok (.goto (-51), 3) := dk_167 255 205 (dk_at dksX6_alike_3 4 rfl rfl)
theorem dX6_alike_77 : decode cX6_alike 77 = .ok (.iinc 2 1, 3) := dk_132 2 1 (dk_at dksX6_alike_3 7 rfl rfl)
theorem dX6_alike_80 : decode cX6_alike 80 = .ok (.goto (-71), 3) := dk_167 255 185 (dk_at dksX6_alike_3 10 rfl rfl)
theorem dX6_alike_83 : decode cX6_alike 83 = .ok (.iload_n 1, 1) := dk_27 (dk_at dksX6_alike_3 13 rfl rfl)
theorem dX6_alike_84 : decode cX6_alike 84 = .ok (.ireturn, 1) := dk_172 (dk_at dksX6_alike_3 14 rfl rfl)
abbrev cX6_line : ByteArray := prog_18_method_103_code
def yX6_line : MethodName := ⟨RX6, "line", "(II)I"⟩
def dkwX6_line_4 : List UInt8 := [167, 255, 223, 132, 4, 1, 167, 255, 193, 2, 172]
abbrev dktX6_line_4 : List UInt8 := dkwX6_line_4 ++ []
def dkwX6_line_3 : List UInt8 := [21, 6, 184, 0, 53, 153, 0, 16, 29, 42, 180, 0, 7, 16, 16, 21, 6, 96, 46, 128, 62, 132, 6, 1]
abbrev dktX6_line_3 : List UInt8 := dkwX6_line_3 ++ dktX6_line_4
def dkwX6_line_2 : List UInt8 := [184, 0, 53, 153, 0, 6, 21, 4, 172, 29, 54, 5, 3, 54, 6, 21, 6, 16, 8, 162, 0, 32, 21, 5]
abbrev dktX6_line_2 : List UInt8 := dkwX6_line_2 ++ dktX6_line_3
def dkwX6_line_1 : List UInt8 := [180, 0, 42, 158, 0, 5, 3, 172, 4, 27, 120, 62, 3, 54, 4, 21, 4, 16, 8, 162, 0, 62, 29, 28]
abbrev dktX6_line_1 : List UInt8 := dkwX6_line_1 ++ dktX6_line_2
def dkwX6_line_0 : List UInt8 := [42, 27, 184, 1, 17, 153, 0, 10, 28, 184, 1, 17, 154, 0, 7, 4, 167, 0, 4, 3, 181, 0, 42, 42]
abbrev dktX6_line_0 : List UInt8 := dkwX6_line_0 ++ dktX6_line_1
theorem dksX6_line_0 : cX6_line.data.toList.drop 0 = dktX6_line_0 := by decide +kernel
theorem dksX6_line_1 : cX6_line.data.toList.drop 24 = dktX6_line_1 := dk_seg dksX6_line_0 24 rfl rfl
theorem dksX6_line_2 : cX6_line.data.toList.drop 48 = dktX6_line_2 := dk_seg dksX6_line_1 24 rfl rfl
theorem dksX6_line_3 : cX6_line.data.toList.drop 72 = dktX6_line_3 := dk_seg dksX6_line_2 24 rfl rfl
theorem dksX6_line_4 : cX6_line.data.toList.drop 96 = dktX6_line_4 := dk_seg dksX6_line_3 24 rfl rfl
theorem dX6_line_0 : decode cX6_line 0 = .ok (.aload_n 0, 1) := dk_42 (dk_at dksX6_line_0 0 rfl rfl)
theorem dX6_line_1 : decode cX6_line 1 = .ok (.iload_n 1, 1) := dk_27 (dk_at dksX6_line_0 1 rfl rfl)
theorem dX6_line_2 : decode cX6_line 2 = .ok (.invokestatic 273, 3) := dk_184 1 17 (dk_at dksX6_line_0 2 rfl rfl)
theorem dX6_line_5 : decode cX6_line 5 = .ok (.ifCond .eq 10, 3) := dk_153 0 10 (dk_at dksX6_line_0 5 rfl rfl)
theorem dX6_line_8 : decode cX6_line 8 = .ok (.iload_n 2, 1) := dk_28 (dk_at dksX6_line_0 8 rfl rfl)
theorem dX6_line_9 : decode cX6_line 9 = .ok (.invokestatic 273, 3) := dk_184 1 17 (dk_at dksX6_line_0 9 rfl rfl)
theorem dX6_line_12 : decode cX6_line 12 = .ok (.ifCond .ne 7, 3) := dk_154 0 7 (dk_at dksX6_line_0 12 rfl rfl)
theorem dX6_line_15 : decode cX6_line 15 = .ok (.iconst 1, 1) := dk_4 (dk_at dksX6_line_0 15 rfl rfl)
theorem dX6_line_16 : decode cX6_line 16 = .ok (.goto 4, 3) := dk_167 0 4 (dk_at dksX6_line_0 16 rfl rfl)
theorem dX6_line_19 : decode cX6_line 19 = .ok (.iconst 0, 1) := dk_3 (dk_at dksX6_line_0 19 rfl rfl)
theorem dX6_line_20 : decode cX6_line 20 = .ok (.putfield 42, 3) := dk_181 0 42 (dk_at dksX6_line_0 20 rfl rfl)
theorem dX6_line_23 : decode cX6_line 23 = .ok (.aload_n 0, 1) := dk_42 (dk_at dksX6_line_0 23 rfl rfl)
theorem dX6_line_24 : decode cX6_line 24 = .ok (.getfield 42, 3) := dk_180 0 42 (dk_at dksX6_line_1 0 rfl rfl)
theorem dX6_line_27 : decode cX6_line 27 = .ok (.ifCond .le 5, 3) := dk_158 0 5 (dk_at dksX6_line_1 3 rfl rfl)
theorem dX6_line_30 : decode cX6_line 30 = .ok (.iconst 0, 1) := dk_3 (dk_at dksX6_line_1 6 rfl rfl)
theorem dX6_line_31 : decode cX6_line 31 = .ok (.ireturn, 1) := dk_172 (dk_at dksX6_line_1 7 rfl rfl)
theorem dX6_line_32 : decode cX6_line 32 = .ok (.iconst 1, 1) := dk_4 (dk_at dksX6_line_1 8 rfl rfl)
theorem dX6_line_33 : decode cX6_line 33 = .ok (.iload_n 1, 1) := dk_27 (dk_at dksX6_line_1 9 rfl rfl)
theorem dX6_line_34 : decode cX6_line 34 = .ok (.ishl, 1) := dk_120 (dk_at dksX6_line_1 10 rfl rfl)
theorem dX6_line_35 : decode cX6_line 35 = .ok (.istore_n 3, 1) := dk_62 (dk_at dksX6_line_1 11 rfl rfl)
theorem dX6_line_36 : decode cX6_line 36 = .ok (.iconst 0, 1) := dk_3 (dk_at dksX6_line_1 12 rfl rfl)
theorem dX6_line_37 : decode cX6_line 37 = .ok (.istore 4, 2) := dk_54 4 (dk_at dksX6_line_1 13 rfl rfl)
theorem dX6_line_39 : decode cX6_line 39 = .ok (.iload 4, 2) := dk_21 4 (dk_at dksX6_line_1 15 rfl rfl)
theorem dX6_line_41 : decode cX6_line 41 = .ok (.bipush 8, 2) := dk_16 8 (dk_at dksX6_line_1 17 rfl rfl)
theorem dX6_line_43 : decode cX6_line 43 = .ok (.if_icmp .ge 62, 3) := dk_162 0 62 (dk_at dksX6_line_1 19 rfl rfl)
theorem dX6_line_46 : decode cX6_line 46 = .ok (.iload_n 3, 1) := dk_29 (dk_at dksX6_line_1 22 rfl rfl)
theorem dX6_line_47 : decode cX6_line 47 = .ok (.iload_n 2, 1) := dk_28 (dk_at dksX6_line_1 23 rfl rfl)
theorem dX6_line_48 : decode cX6_line 48 = .ok (.invokestatic 53, 3) := dk_184 0 53 (dk_at dksX6_line_2 0 rfl rfl)
theorem dX6_line_51 : decode cX6_line 51 = .ok (.ifCond .eq 6, 3) := dk_153 0 6 (dk_at dksX6_line_2 3 rfl rfl)
theorem dX6_line_54 : decode cX6_line 54 = .ok (.iload 4, 2) := dk_21 4 (dk_at dksX6_line_2 6 rfl rfl)
theorem dX6_line_56 : decode cX6_line 56 = .ok (.ireturn, 1) := dk_172 (dk_at dksX6_line_2 8 rfl rfl)
theorem dX6_line_57 : decode cX6_line 57 = .ok (.iload_n 3, 1) := dk_29 (dk_at dksX6_line_2 9 rfl rfl)
theorem dX6_line_58 : decode cX6_line 58 = .ok (.istore 5, 2) := dk_54 5 (dk_at dksX6_line_2 10 rfl rfl)
theorem dX6_line_60 : decode cX6_line 60 = .ok (.iconst 0, 1) := dk_3 (dk_at dksX6_line_2 12 rfl rfl)
theorem dX6_line_61 : decode cX6_line 61 = .ok (.istore 6, 2) := dk_54 6 (dk_at dksX6_line_2 13 rfl rfl)
theorem dX6_line_63 : decode cX6_line 63 = .ok (.iload 6, 2) := dk_21 6 (dk_at dksX6_line_2 15 rfl rfl)
theorem dX6_line_65 : decode cX6_line 65 = .ok (.bipush 8, 2) := dk_16 8 (dk_at dksX6_line_2 17 rfl rfl)
theorem dX6_line_67 : decode cX6_line 67 = .ok (.if_icmp .ge 32, 3) := dk_162 0 32 (dk_at dksX6_line_2 19 rfl rfl)
theorem dX6_line_70 : decode cX6_line 70 = .ok (.iload 5, 2) := dk_21 5 (dk_at dksX6_line_2 22 rfl rfl)
theorem dX6_line_72 : decode cX6_line 72 = .ok (.iload 6, 2) := dk_21 6 (dk_at dksX6_line_3 0 rfl rfl)
theorem dX6_line_74 : decode cX6_line 74 = .ok (.invokestatic 53, 3) := dk_184 0 53 (dk_at dksX6_line_3 2 rfl rfl)
theorem dX6_line_77 : decode cX6_line 77 = .ok (.ifCond .eq 16, 3) := dk_153 0 16 (dk_at dksX6_line_3 5 rfl rfl)
theorem dX6_line_80 : decode cX6_line 80 = .ok (.iload_n 3, 1) := dk_29 (dk_at dksX6_line_3 8 rfl rfl)
theorem dX6_line_81 : decode cX6_line 81 = .ok (.aload_n 0, 1) := dk_42 (dk_at dksX6_line_3 9 rfl rfl)
theorem dX6_line_82 : decode cX6_line 82 = .ok (.getfield 7, 3) := dk_180 0 7 (dk_at dksX6_line_3 10 rfl rfl)
theorem dX6_line_85 : decode cX6_line 85 = .ok (.bipush 16, 2) := dk_16 16 (dk_at dksX6_line_3 13 rfl rfl)
theorem dX6_line_87 : decode cX6_line 87 = .ok (.iload 6, 2) := dk_21 6 (dk_at dksX6_line_3 15 rfl rfl)
theorem dX6_line_89 : decode cX6_line 89 = .ok (.iadd, 1) := dk_96 (dk_at dksX6_line_3 17 rfl rfl)
theorem dX6_line_90 : decode cX6_line 90 = .ok (.iaload, 1) := dk_46 (dk_at dksX6_line_3 18 rfl rfl)
theorem dX6_line_91 : decode cX6_line 91 = .ok (.ior, 1) := dk_128 (dk_at dksX6_line_3 19 rfl rfl)
theorem dX6_line_92 : decode cX6_line 92 = .ok (.istore_n 3, 1) := dk_62 (dk_at dksX6_line_3 20 rfl rfl)
theorem dX6_line_93 : decode cX6_line 93 = .ok (.iinc 6 1, 3) := dk_132 6 1 (dk_at dksX6_line_3 21 rfl rfl)
theorem dX6_line_96 : decode cX6_line 96 = .ok (.goto (-33), 3) := dk_167 255 223 (dk_at dksX6_line_4 0 rfl rfl)
theorem dX6_line_99 : decode cX6_line 99 = .ok (.iinc 4 1, 3) := dk_132 4 1 (dk_at dksX6_line_4 3 rfl rfl)
theorem dX6_line_102 : decode cX6_line 102 = .ok (.goto (-63), 3) := dk_167 255 193 (dk_at dksX6_line_4 6 rfl rfl)
theorem dX6_line_105 : decode cX6_line 105 = .ok (.iconst (-1), 1) := dk_2 (dk_at dksX6_line_4 9 rfl rfl)
theorem dX6_line_106 : decode cX6_line 106 = .ok (.ireturn, 1) := dk_172 (dk_at dksX6_line_4 10 rfl rfl)
abbrev cX6_well : ByteArray := prog_18_method_104_code
def yX6_well : MethodName := ⟨RX6, "well", "()I"⟩
def dkwX6_well_2 : List UInt8 := [167, 255, 221, 27, 172]
abbrev dktX6_well_2 : List UInt8 := dkwX6_well_2 ++ []
def dkwX6_well_1 : List UInt8 := [184, 0, 57, 28, 163, 0, 6, 167, 0, 14, 42, 29, 182, 1, 20, 184, 0, 57, 61, 29, 60, 132, 3, 1]
abbrev dktX6_well_1 : List UInt8 := dkwX6_well_1 ++ dktX6_well_2
def dkwX6_well_0 : List UInt8 := [42, 3, 181, 0, 42, 2, 60, 3, 61, 3, 62, 29, 16, 8, 162, 0, 35, 42, 29, 182, 1, 20]
abbrev dktX6_well_0 : List UInt8 := dkwX6_well_0 ++ dktX6_well_1
theorem dksX6_well_0 : cX6_well.data.toList.drop 0 = dktX6_well_0 := by decide +kernel
theorem dksX6_well_1 : cX6_well.data.toList.drop 22 = dktX6_well_1 := dk_seg dksX6_well_0 22 rfl rfl
theorem dksX6_well_2 : cX6_well.data.toList.drop 46 = dktX6_well_2 := dk_seg dksX6_well_1 24 rfl rfl
theorem dX6_well_0 : decode cX6_well 0 = .ok (.aload_n 0, 1) := dk_42 (dk_at dksX6_well_0 0 rfl rfl)
theorem dX6_well_1 : decode cX6_well 1 = .ok (.iconst 0, 1) := dk_3 (dk_at dksX6_well_0 1 rfl rfl)
theorem dX6_well_2 : decode cX6_well 2 = .ok (.putfield 42, 3) := dk_181 0 42 (dk_at dksX6_well_0 2 rfl rfl)
theorem dX6_well_5 : decode cX6_well 5 = .ok (.iconst (-1), 1) := dk_2 (dk_at dksX6_well_0 5 rfl rfl)
theorem dX6_well_6 : decode cX6_well 6 = .ok (.istore_n 1, 1) := dk_60 (dk_at dksX6_well_0 6 rfl rfl)
theorem dX6_well_7 : decode cX6_well 7 = .ok (.iconst 0, 1) := dk_3 (dk_at dksX6_well_0 7 rfl rfl)
theorem dX6_well_8 : decode cX6_well 8 = .ok (.istore_n 2, 1) := dk_61 (dk_at dksX6_well_0 8 rfl rfl)
theorem dX6_well_9 : decode cX6_well 9 = .ok (.iconst 0, 1) := dk_3 (dk_at dksX6_well_0 9 rfl rfl)
theorem dX6_well_10 : decode cX6_well 10 = .ok (.istore_n 3, 1) := dk_62 (dk_at dksX6_well_0 10 rfl rfl)
theorem dX6_well_11 : decode cX6_well 11 = .ok (.iload_n 3, 1) := dk_29 (dk_at dksX6_well_0 11 rfl rfl)
theorem dX6_well_12 : decode cX6_well 12 = .ok (.bipush 8, 2) := dk_16 8 (dk_at dksX6_well_0 12 rfl rfl)
theorem dX6_well_14 : decode cX6_well 14 = .ok (.if_icmp .ge 35, 3) := dk_162 0 35 (dk_at dksX6_well_0 14 rfl rfl)
theorem dX6_well_17 : decode cX6_well 17 = .ok (.aload_n 0, 1) := dk_42 (dk_at dksX6_well_0 17 rfl rfl)
theorem dX6_well_18 : decode cX6_well 18 = .ok (.iload_n 3, 1) := dk_29 (dk_at dksX6_well_0 18 rfl rfl)
theorem dX6_well_19 : decode cX6_well 19 = .ok (.invokevirtual 276, 3) := dk_182 1 20 (dk_at dksX6_well_0 19 rfl rfl)
theorem dX6_well_22 : decode cX6_well 22 = .ok (.invokestatic 57, 3) := dk_184 0 57 (dk_at dksX6_well_1 0 rfl rfl)
theorem dX6_well_25 : decode cX6_well 25 = .ok (.iload_n 2, 1) := dk_28 (dk_at dksX6_well_1 3 rfl rfl)
theorem dX6_well_26 : decode cX6_well 26 = .ok (.if_icmp .gt 6, 3) := dk_163 0 6 (dk_at dksX6_well_1 4 rfl rfl)
theorem dX6_well_29 : decode cX6_well 29 = .ok (.goto 14, 3) := dk_167 0 14 (dk_at dksX6_well_1 7 rfl rfl)
theorem dX6_well_32 : decode cX6_well 32 = .ok (.aload_n 0, 1) := dk_42 (dk_at dksX6_well_1 10 rfl rfl)
theorem dX6_well_33 : decode cX6_well 33 = .ok (.iload_n 3, 1) := dk_29 (dk_at dksX6_well_1 11 rfl rfl)
theorem dX6_well_34 : decode cX6_well 34 = .ok (.invokevirtual 276, 3) := dk_182 1 20 (dk_at dksX6_well_1 12 rfl rfl)
theorem dX6_well_37 : decode cX6_well 37 = .ok (.invokestatic 57, 3) := dk_184 0 57 (dk_at dksX6_well_1 15 rfl rfl)
theorem dX6_well_40 : decode cX6_well 40 = .ok (.istore_n 2, 1) := dk_61 (dk_at dksX6_well_1 18 rfl rfl)
theorem dX6_well_41 : decode cX6_well 41 = .ok (.iload_n 3, 1) := dk_29 (dk_at dksX6_well_1 19 rfl rfl)
theorem dX6_well_42 : decode cX6_well 42 = .ok (.istore_n 1, 1) := dk_60 (dk_at dksX6_well_1 20 rfl rfl)
theorem dX6_well_43 : decode cX6_well 43 = .ok (.iinc 3 1, 3) := dk_132 3 1 (dk_at dksX6_well_1 21 rfl rfl)
theorem dX6_well_46 : decode cX6_well 46 = .ok (.goto (-35), 3) := dk_167 255 221 (dk_at dksX6_well_2 0 rfl rfl)
theorem dX6_well_49 : decode cX6_well 49 = .ok (.iload_n 1, 1) := dk_27 (dk_at dksX6_well_2 3 rfl rfl)
theorem dX6_well_50 : decode cX6_well 50 = .ok (.ireturn, 1) := dk_172 (dk_at dksX6_well_2 4 rfl rfl)
abbrev cX6_pass : ByteArray := prog_18_method_106_code
def yX6_pass : MethodName := ⟨RX6, "pass", "(II)I"⟩
def dkwX6_pass_2 : List UInt8 := [184, 0, 243, 62, 29, 19, 1, 52, 160, 0, 7, 2, 167, 0, 4, 29, 172]
abbrev dktX6_pass_2 : List UInt8 := dkwX6_pass_2 ++ []
def dkwX6_pass_1 : List UInt8 := [180, 0, 42, 158, 0, 5, 3, 172, 42, 27, 28, 4, 182, 1, 77, 42, 27, 28, 2, 182, 1, 77]
abbrev dktX6_pass_1 : List UInt8 := dkwX6_pass_1 ++ dktX6_pass_2
def dkwX6_pass_0 : List UInt8 := [42, 27, 184, 1, 17, 153, 0, 10, 28, 184, 1, 17, 154, 0, 7, 4, 167, 0, 4, 3, 181, 0, 42, 42]
abbrev dktX6_pass_0 : List UInt8 := dkwX6_pass_0 ++ dktX6_pass_1
theorem dksX6_pass_0 : cX6_pass.data.toList.drop 0 = dktX6_pass_0 := by decide +kernel
theorem dksX6_pass_1 : cX6_pass.data.toList.drop 24 = dktX6_pass_1 := dk_seg dksX6_pass_0 24 rfl rfl
theorem dksX6_pass_2 : cX6_pass.data.toList.drop 46 = dktX6_pass_2 := dk_seg dksX6_pass_1 22 rfl rfl
theorem dX6_pass_0 : decode cX6_pass 0 = .ok (.aload_n 0, 1) := dk_42 (dk_at dksX6_pass_0 0 rfl rfl)
theorem dX6_pass_1 : decode cX6_pass 1 = .ok (.iload_n 1, 1) := dk_27 (dk_at dksX6_pass_0 1 rfl rfl)
theorem dX6_pass_2 : decode cX6_pass 2 = .ok (.invokestatic 273, 3) := dk_184 1 17 (dk_at dksX6_pass_0 2 rfl rfl)
theorem dX6_pass_5 : decode cX6_pass 5 = .ok (.ifCond .eq 10, 3) := dk_153 0 10 (dk_at dksX6_pass_0 5 rfl rfl)
theorem dX6_pass_8 : decode cX6_pass 8 = .ok (.iload_n 2, 1) := dk_28 (dk_at dksX6_pass_0 8 rfl rfl)
theorem dX6_pass_9 : decode cX6_pass 9 = .ok (.invokestatic 273, 3) := dk_184 1 17 (dk_at dksX6_pass_0 9 rfl rfl)
theorem dX6_pass_12 : decode cX6_pass 12 = .ok (.ifCond .ne 7, 3) := dk_154 0 7 (dk_at dksX6_pass_0 12 rfl rfl)
theorem dX6_pass_15 : decode cX6_pass 15 = .ok (.iconst 1, 1) := dk_4 (dk_at dksX6_pass_0 15 rfl rfl)
theorem dX6_pass_16 : decode cX6_pass 16 = .ok (.goto 4, 3) := dk_167 0 4 (dk_at dksX6_pass_0 16 rfl rfl)
theorem dX6_pass_19 : decode cX6_pass 19 = .ok (.iconst 0, 1) := dk_3 (dk_at dksX6_pass_0 19 rfl rfl)
theorem dX6_pass_20 : decode cX6_pass 20 = .ok (.putfield 42, 3) := dk_181 0 42 (dk_at dksX6_pass_0 20 rfl rfl)
theorem dX6_pass_23 : decode cX6_pass 23 = .ok (.aload_n 0, 1) := dk_42 (dk_at dksX6_pass_0 23 rfl rfl)
theorem dX6_pass_24 : decode cX6_pass 24 = .ok (.getfield 42, 3) := dk_180 0 42 (dk_at dksX6_pass_1 0 rfl rfl)
theorem dX6_pass_27 : decode cX6_pass 27 = .ok (.ifCond .le 5, 3) := dk_158 0 5 (dk_at dksX6_pass_1 3 rfl rfl)
theorem dX6_pass_30 : decode cX6_pass 30 = .ok (.iconst 0, 1) := dk_3 (dk_at dksX6_pass_1 6 rfl rfl)
theorem dX6_pass_31 : decode cX6_pass 31 = .ok (.ireturn, 1) := dk_172 (dk_at dksX6_pass_1 7 rfl rfl)
theorem dX6_pass_32 : decode cX6_pass 32 = .ok (.aload_n 0, 1) := dk_42 (dk_at dksX6_pass_1 8 rfl rfl)
theorem dX6_pass_33 : decode cX6_pass 33 = .ok (.iload_n 1, 1) := dk_27 (dk_at dksX6_pass_1 9 rfl rfl)
theorem dX6_pass_34 : decode cX6_pass 34 = .ok (.iload_n 2, 1) := dk_28 (dk_at dksX6_pass_1 10 rfl rfl)
theorem dX6_pass_35 : decode cX6_pass 35 = .ok (.iconst 1, 1) := dk_4 (dk_at dksX6_pass_1 11 rfl rfl)
theorem dX6_pass_36 : decode cX6_pass 36 = .ok (.invokevirtual 333, 3) := dk_182 1 77 (dk_at dksX6_pass_1 12 rfl rfl)
theorem dX6_pass_39 : decode cX6_pass 39 = .ok (.aload_n 0, 1) := dk_42 (dk_at dksX6_pass_1 15 rfl rfl)
theorem dX6_pass_40 : decode cX6_pass 40 = .ok (.iload_n 1, 1) := dk_27 (dk_at dksX6_pass_1 16 rfl rfl)
theorem dX6_pass_41 : decode cX6_pass 41 = .ok (.iload_n 2, 1) := dk_28 (dk_at dksX6_pass_1 17 rfl rfl)
theorem dX6_pass_42 : decode cX6_pass 42 = .ok (.iconst (-1), 1) := dk_2 (dk_at dksX6_pass_1 18 rfl rfl)
theorem dX6_pass_43 : decode cX6_pass 43 = .ok (.invokevirtual 333, 3) := dk_182 1 77 (dk_at dksX6_pass_1 19 rfl rfl)
theorem dX6_pass_46 : decode cX6_pass 46 = .ok (.invokestatic 243, 3) := dk_184 0 243 (dk_at dksX6_pass_2 0 rfl rfl)
theorem dX6_pass_49 : decode cX6_pass 49 = .ok (.istore_n 3, 1) := dk_62 (dk_at dksX6_pass_2 3 rfl rfl)
theorem dX6_pass_50 : decode cX6_pass 50 = .ok (.iload_n 3, 1) := dk_29 (dk_at dksX6_pass_2 4 rfl rfl)
theorem dX6_pass_51 : decode cX6_pass 51 = .ok (.ldc_w 308, 3) := dk_19 1 52 (dk_at dksX6_pass_2 5 rfl rfl)
theorem dX6_pass_54 : decode cX6_pass 54 = .ok (.if_icmp .ne 7, 3) := dk_160 0 7 (dk_at dksX6_pass_2 8 rfl rfl)
theorem dX6_pass_57 : decode cX6_pass 57 = .ok (.iconst (-1), 1) := dk_2 (dk_at dksX6_pass_2 11 rfl rfl)
theorem dX6_pass_58 : decode cX6_pass 58 = .ok (.goto 4, 3) := dk_167 0 4 (dk_at dksX6_pass_2 12 rfl rfl)
theorem dX6_pass_61 : decode cX6_pass 61 = .ok (.iload_n 3, 1) := dk_29 (dk_at dksX6_pass_2 15 rfl rfl)
theorem dX6_pass_62 : decode cX6_pass 62 = .ok (.ireturn, 1) := dk_172 (dk_at dksX6_pass_2 16 rfl rfl)
abbrev cX6_round : ByteArray := prog_18_method_105_code
def yX6_round : MethodName := ⟨RX6, "round", "(III)I"⟩
def dkwX6_round_1 : List UInt8 := [42, 21, 5, 182, 1, 23, 153, 0, 7, 19, 1, 52, 172, 132, 4, 1, 167, 255, 222, 21, 4, 172]
abbrev dktX6_round_1 : List UInt8 := dkwX6_round_1 ++ []
def dkwX6_round_0 : List UInt8 := [3, 54, 4, 27, 54, 5, 21, 5, 28, 159, 0, 34, 21, 5, 29, 96, 16, 8, 96, 16, 8, 112, 54, 5]
abbrev dktX6_round_0 : List UInt8 := dkwX6_round_0 ++ dktX6_round_1
theorem dksX6_round_0 : cX6_round.data.toList.drop 0 = dktX6_round_0 := by decide +kernel
theorem dksX6_round_1 : cX6_round.data.toList.drop 24 = dktX6_round_1 := dk_seg dksX6_round_0 24 rfl rfl
theorem dX6_round_0 : decode cX6_round 0 = .ok (.iconst 0, 1) := dk_3 (dk_at dksX6_round_0 0 rfl rfl)
theorem dX6_round_1 : decode cX6_round 1 = .ok (.istore 4, 2) := dk_54 4 (dk_at dksX6_round_0 1 rfl rfl)
theorem dX6_round_3 : decode cX6_round 3 = .ok (.iload_n 1, 1) := dk_27 (dk_at dksX6_round_0 3 rfl rfl)
theorem dX6_round_4 : decode cX6_round 4 = .ok (.istore 5, 2) := dk_54 5 (dk_at dksX6_round_0 4 rfl rfl)
theorem dX6_round_6 : decode cX6_round 6 = .ok (.iload 5, 2) := dk_21 5 (dk_at dksX6_round_0 6 rfl rfl)
theorem dX6_round_8 : decode cX6_round 8 = .ok (.iload_n 2, 1) := dk_28 (dk_at dksX6_round_0 8 rfl rfl)
theorem dX6_round_9 : decode cX6_round 9 = .ok (.if_icmp .eq 34, 3) := dk_159 0 34 (dk_at dksX6_round_0 9 rfl rfl)
theorem dX6_round_12 : decode cX6_round 12 = .ok (.iload 5, 2) := dk_21 5 (dk_at dksX6_round_0 12 rfl rfl)
theorem dX6_round_14 : decode cX6_round 14 = .ok (.iload_n 3, 1) := dk_29 (dk_at dksX6_round_0 14 rfl rfl)
theorem dX6_round_15 : decode cX6_round 15 = .ok (.iadd, 1) := dk_96 (dk_at dksX6_round_0 15 rfl rfl)
theorem dX6_round_16 : decode cX6_round 16 = .ok (.bipush 8, 2) := dk_16 8 (dk_at dksX6_round_0 16 rfl rfl)
theorem dX6_round_18 : decode cX6_round 18 = .ok (.iadd, 1) := dk_96 (dk_at dksX6_round_0 18 rfl rfl)
theorem dX6_round_19 : decode cX6_round 19 = .ok (.bipush 8, 2) := dk_16 8 (dk_at dksX6_round_0 19 rfl rfl)
theorem dX6_round_21 : decode cX6_round 21 = .ok (.irem, 1) := dk_112 (dk_at dksX6_round_0 21 rfl rfl)
theorem dX6_round_22 : decode cX6_round 22 = .ok (.istore 5, 2) := dk_54 5 (dk_at dksX6_round_0 22 rfl rfl)
theorem dX6_round_24 : decode cX6_round 24 = .ok (.aload_n 0, 1) := dk_42 (dk_at dksX6_round_1 0 rfl rfl)
theorem dX6_round_25 : decode cX6_round 25 = .ok (.iload 5, 2) := dk_21 5 (dk_at dksX6_round_1 1 rfl rfl)
theorem dX6_round_27 : decode cX6_round 27 = .ok (.invokevirtual 279, 3) := dk_182 1 23 (dk_at dksX6_round_1 3 rfl rfl)
theorem dX6_round_30 : decode cX6_round 30 = .ok (.ifCond .eq 7, 3) := dk_153 0 7 (dk_at dksX6_round_1 6 rfl rfl)
theorem dX6_round_33 : decode cX6_round 33 = .ok (.ldc_w 308, 3) := dk_19 1 52 (dk_at dksX6_round_1 9 rfl rfl)
theorem dX6_round_36 : decode cX6_round 36 = .ok (.ireturn, 1) := dk_172 (dk_at dksX6_round_1 12 rfl rfl)
theorem dX6_round_37 : decode cX6_round 37 = .ok (.iinc 4 1, 3) := dk_132 4 1 (dk_at dksX6_round_1 13 rfl rfl)
theorem dX6_round_40 : decode cX6_round 40 = .ok (.goto (-34), 3) := dk_167 255 222 (dk_at dksX6_round_1 16 rfl rfl)
theorem dX6_round_43 : decode cX6_round 43 = .ok (.iload 4, 2) := dk_21 4 (dk_at dksX6_round_1 19 rfl rfl)
theorem dX6_round_45 : decode cX6_round 45 = .ok (.ireturn, 1) := dk_172 (dk_at dksX6_round_1 21 rfl rfl)
abbrev cX6_crowd : ByteArray := prog_18_method_107_code
def yX6_crowd : MethodName := ⟨RX6, "crowd", "()I"⟩
def dkwX6_crowd_2 : List UInt8 := [167, 255, 221, 27, 172]
abbrev dktX6_crowd_2 : List UInt8 := dkwX6_crowd_2 ++ []
def dkwX6_crowd_1 : List UInt8 := [184, 0, 57, 28, 163, 0, 6, 167, 0, 14, 42, 29, 182, 1, 23, 184, 0, 57, 61, 29, 60, 132, 3, 1]
abbrev dktX6_crowd_1 : List UInt8 := dkwX6_crowd_1 ++ dktX6_crowd_2
def dkwX6_crowd_0 : List UInt8 := [42, 3, 181, 0, 42, 2, 60, 3, 61, 3, 62, 29, 16, 8, 162, 0, 35, 42, 29, 182, 1, 23]
abbrev dktX6_crowd_0 : List UInt8 := dkwX6_crowd_0 ++ dktX6_crowd_1
theorem dksX6_crowd_0 : cX6_crowd.data.toList.drop 0 = dktX6_crowd_0 := by decide +kernel
theorem dksX6_crowd_1 : cX6_crowd.data.toList.drop 22 = dktX6_crowd_1 := dk_seg dksX6_crowd_0 22 rfl rfl
theorem dksX6_crowd_2 : cX6_crowd.data.toList.drop 46 = dktX6_crowd_2 := dk_seg dksX6_crowd_1 24 rfl rfl
theorem dX6_crowd_0 : decode cX6_crowd 0 = .ok (.aload_n 0, 1) := dk_42 (dk_at dksX6_crowd_0 0 rfl rfl)
theorem dX6_crowd_1 : decode cX6_crowd 1 = .ok (.iconst 0, 1) := dk_3 (dk_at dksX6_crowd_0 1 rfl rfl)
theorem dX6_crowd_2 : decode cX6_crowd 2 = .ok (.putfield 42, 3) := dk_181 0 42 (dk_at dksX6_crowd_0 2 rfl rfl)
theorem dX6_crowd_5 : decode cX6_crowd 5 = .ok (.iconst (-1), 1) := dk_2 (dk_at dksX6_crowd_0 5 rfl rfl)
theorem dX6_crowd_6 : decode cX6_crowd 6 = .ok (.istore_n 1, 1) := dk_60 (dk_at dksX6_crowd_0 6 rfl rfl)
theorem dX6_crowd_7 : decode cX6_crowd 7 = .ok (.iconst 0, 1) := dk_3 (dk_at dksX6_crowd_0 7 rfl rfl)
theorem dX6_crowd_8 : decode cX6_crowd 8 = .ok (.istore_n 2, 1) := dk_61 (dk_at dksX6_crowd_0 8 rfl rfl)
theorem dX6_crowd_9 : decode cX6_crowd 9 = .ok (.iconst 0, 1) := dk_3 (dk_at dksX6_crowd_0 9 rfl rfl)
theorem dX6_crowd_10 : decode cX6_crowd 10 = .ok (.istore_n 3, 1) := dk_62 (dk_at dksX6_crowd_0 10 rfl rfl)
theorem dX6_crowd_11 : decode cX6_crowd 11 = .ok (.iload_n 3, 1) := dk_29 (dk_at dksX6_crowd_0 11 rfl rfl)
theorem dX6_crowd_12 : decode cX6_crowd 12 = .ok (.bipush 8, 2) := dk_16 8 (dk_at dksX6_crowd_0 12 rfl rfl)
theorem dX6_crowd_14 : decode cX6_crowd 14 = .ok (.if_icmp .ge 35, 3) := dk_162 0 35 (dk_at dksX6_crowd_0 14 rfl rfl)
theorem dX6_crowd_17 : decode cX6_crowd 17 = .ok (.aload_n 0, 1) := dk_42 (dk_at dksX6_crowd_0 17 rfl rfl)
theorem dX6_crowd_18 : decode cX6_crowd 18 = .ok (.iload_n 3, 1) := dk_29 (dk_at dksX6_crowd_0 18 rfl rfl)
theorem dX6_crowd_19 : decode cX6_crowd 19 = .ok (.invokevirtual 279, 3) := dk_182 1 23 (dk_at dksX6_crowd_0 19 rfl rfl)
theorem dX6_crowd_22 : decode cX6_crowd 22 = .ok (.invokestatic 57, 3) := dk_184 0 57 (dk_at dksX6_crowd_1 0 rfl rfl)
theorem dX6_crowd_25 : decode cX6_crowd 25 = .ok (.iload_n 2, 1) := dk_28 (dk_at dksX6_crowd_1 3 rfl rfl)
theorem dX6_crowd_26 : decode cX6_crowd 26 = .ok (.if_icmp .gt 6, 3) := dk_163 0 6 (dk_at dksX6_crowd_1 4 rfl rfl)
theorem dX6_crowd_29 : decode cX6_crowd 29 = .ok (.goto 14, 3) := dk_167 0 14 (dk_at dksX6_crowd_1 7 rfl rfl)
theorem dX6_crowd_32 : decode cX6_crowd 32 = .ok (.aload_n 0, 1) := dk_42 (dk_at dksX6_crowd_1 10 rfl rfl)
theorem dX6_crowd_33 : decode cX6_crowd 33 = .ok (.iload_n 3, 1) := dk_29 (dk_at dksX6_crowd_1 11 rfl rfl)
theorem dX6_crowd_34 : decode cX6_crowd 34 = .ok (.invokevirtual 279, 3) := dk_182 1 23 (dk_at dksX6_crowd_1 12 rfl rfl)
theorem dX6_crowd_37 : decode cX6_crowd 37 = .ok (.invokestatic 57, 3) := dk_184 0 57 (dk_at dksX6_crowd_1 15 rfl rfl)
theorem dX6_crowd_40 : decode cX6_crowd 40 = .ok (.istore_n 2, 1) := dk_61 (dk_at dksX6_crowd_1 18 rfl rfl)
theorem dX6_crowd_41 : decode cX6_crowd 41 = .ok (.iload_n 3, 1) := dk_29 (dk_at dksX6_crowd_1 19 rfl rfl)
theorem dX6_crowd_42 : decode cX6_crowd 42 = .ok (.istore_n 1, 1) := dk_60 (dk_at dksX6_crowd_1 20 rfl rfl)
theorem dX6_crowd_43 : decode cX6_crowd 43 = .ok (.iinc 3 1, 3) := dk_132 3 1 (dk_at dksX6_crowd_1 21 rfl rfl)
theorem dX6_crowd_46 : decode cX6_crowd 46 = .ok (.goto (-35), 3) := dk_167 255 221 (dk_at dksX6_crowd_2 0 rfl rfl)
theorem dX6_crowd_49 : decode cX6_crowd 49 = .ok (.iload_n 1, 1) := dk_27 (dk_at dksX6_crowd_2 3 rfl rfl)
theorem dX6_crowd_50 : decode cX6_crowd 50 = .ok (.ireturn, 1) := dk_172 (dk_at dksX6_crowd_2 4 rfl rfl)
abbrev cX6_locked : ByteArray := prog_18_method_108_code
def yX6_locked : MethodName := ⟨RX6, "locked", "()I"⟩
def dkwX6_locked_3 : List UInt8 := [167, 255, 196, 27, 172]
abbrev dktX6_locked_3 : List UInt8 := dkwX6_locked_3 ++ []
def dkwX6_locked_2 : List UInt8 := [180, 0, 7, 7, 46, 182, 0, 232, 154, 0, 9, 4, 28, 120, 167, 0, 4, 3, 128, 60, 132, 2, 1]
abbrev dktX6_locked_2 : List UInt8 := dkwX6_locked_2 ++ dktX6_locked_3
def dkwX6_locked_1 : List UInt8 := [180, 0, 7, 7, 46, 182, 0, 252, 28, 184, 0, 53, 153, 0, 29, 42, 42, 28, 3, 182, 0, 49, 3, 42]
abbrev dktX6_locked_1 : List UInt8 := dkwX6_locked_1 ++ dktX6_locked_2
def dkwX6_locked_0 : List UInt8 := [42, 3, 181, 0, 42, 3, 60, 3, 61, 28, 42, 180, 0, 7, 6, 46, 162, 0, 56, 27, 42, 42]
abbrev dktX6_locked_0 : List UInt8 := dkwX6_locked_0 ++ dktX6_locked_1
theorem dksX6_locked_0 : cX6_locked.data.toList.drop 0 = dktX6_locked_0 := by decide +kernel
theorem dksX6_locked_1 : cX6_locked.data.toList.drop 22 = dktX6_locked_1 := dk_seg dksX6_locked_0 22 rfl rfl
theorem dksX6_locked_2 : cX6_locked.data.toList.drop 46 = dktX6_locked_2 := dk_seg dksX6_locked_1 24 rfl rfl
theorem dksX6_locked_3 : cX6_locked.data.toList.drop 69 = dktX6_locked_3 := dk_seg dksX6_locked_2 23 rfl rfl
theorem dX6_locked_0 : decode cX6_locked 0 = .ok (.aload_n 0, 1) := dk_42 (dk_at dksX6_locked_0 0 rfl rfl)
theorem dX6_locked_1 : decode cX6_locked 1 = .ok (.iconst 0, 1) := dk_3 (dk_at dksX6_locked_0 1 rfl rfl)
theorem dX6_locked_2 : decode cX6_locked 2 = .ok (.putfield 42, 3) := dk_181 0 42 (dk_at dksX6_locked_0 2 rfl rfl)
theorem dX6_locked_5 : decode cX6_locked 5 = .ok (.iconst 0, 1) := dk_3 (dk_at dksX6_locked_0 5 rfl rfl)
theorem dX6_locked_6 : decode cX6_locked 6 = .ok (.istore_n 1, 1) := dk_60 (dk_at dksX6_locked_0 6 rfl rfl)
theorem dX6_locked_7 : decode cX6_locked 7 = .ok (.iconst 0, 1) := dk_3 (dk_at dksX6_locked_0 7 rfl rfl)
theorem dX6_locked_8 : decode cX6_locked 8 = .ok (.istore_n 2, 1) := dk_61 (dk_at dksX6_locked_0 8 rfl rfl)
theorem dX6_locked_9 : decode cX6_locked 9 = .ok (.iload_n 2, 1) := dk_28 (dk_at dksX6_locked_0 9 rfl rfl)
theorem dX6_locked_10 : decode cX6_locked 10 = .ok (.aload_n 0, 1) := dk_42 (dk_at dksX6_locked_0 10 rfl rfl)
theorem dX6_locked_11 : decode cX6_locked 11 = .ok (.getfield 7, 3) := dk_180 0 7 (dk_at dksX6_locked_0 11 rfl rfl)
theorem dX6_locked_14 : decode cX6_locked 14 = .ok (.iconst 3, 1) := dk_6 (dk_at dksX6_locked_0 14 rfl rfl)
theorem dX6_locked_15 : decode cX6_locked 15 = .ok (.iaload, 1) := dk_46 (dk_at dksX6_locked_0 15 rfl rfl)
theorem dX6_locked_16 : decode cX6_locked 16 = .ok (.if_icmp .ge 56, 3) := dk_162 0 56 (dk_at dksX6_locked_0 16 rfl rfl)
theorem dX6_locked_19 : decode cX6_locked 19 = .ok (.iload_n 1, 1) := dk_27 (dk_at dksX6_locked_0 19 rfl rfl)
theorem dX6_locked_20 : decode cX6_locked 20 = .ok (.aload_n 0, 1) := dk_42 (dk_at dksX6_locked_0 20 rfl rfl)
theorem dX6_locked_21 : decode cX6_locked 21 = .ok (.aload_n 0, 1) := dk_42 (dk_at dksX6_locked_0 21 rfl rfl)
theorem dX6_locked_22 : decode cX6_locked 22 = .ok (.getfield 7, 3) := dk_180 0 7 (dk_at dksX6_locked_1 0 rfl rfl)
theorem dX6_locked_25 : decode cX6_locked 25 = .ok (.iconst 4, 1) := dk_7 (dk_at dksX6_locked_1 3 rfl rfl)
theorem dX6_locked_26 : decode cX6_locked 26 = .ok (.iaload, 1) := dk_46 (dk_at dksX6_locked_1 4 rfl rfl)
theorem dX6_locked_27 : decode cX6_locked 27 = .ok (.invokevirtual 252, 3) := dk_182 0 252 (dk_at dksX6_locked_1 5 rfl rfl)
theorem dX6_locked_30 : decode cX6_locked 30 = .ok (.iload_n 2, 1) := dk_28 (dk_at dksX6_locked_1 8 rfl rfl)
theorem dX6_locked_31 : decode cX6_locked 31 = .ok (.invokestatic 53, 3) := dk_184 0 53 (dk_at dksX6_locked_1 9 rfl rfl)
theorem dX6_locked_34 : decode cX6_locked 34 = .ok (.ifCond .eq 29, 3) := dk_153 0 29 (dk_at dksX6_locked_1 12 rfl rfl)
theorem dX6_locked_37 : decode cX6_locked 37 = .ok (.aload_n 0, 1) := dk_42 (dk_at dksX6_locked_1 15 rfl rfl)
theorem dX6_locked_38 : decode cX6_locked 38 = .ok (.aload_n 0, 1) := dk_42 (dk_at dksX6_locked_1 16 rfl rfl)
theorem dX6_locked_39 : decode cX6_locked 39 = .ok (.iload_n 2, 1) := dk_28 (dk_at dksX6_locked_1 17 rfl rfl)
theorem dX6_locked_40 : decode cX6_locked 40 = .ok (.iconst 0, 1) := dk_3 (dk_at dksX6_locked_1 18 rfl rfl)
theorem dX6_locked_41 : decode cX6_locked 41 = .ok (.invokevirtual 49, 3) := dk_182 0 49 (dk_at dksX6_locked_1 19 rfl rfl)
theorem dX6_locked_44 : decode cX6_locked 44 = .ok (.iconst 0, 1) := dk_3 (dk_at dksX6_locked_1 22 rfl rfl)
theorem dX6_locked_45 : decode cX6_locked 45 = .ok (.aload_n 0, 1) := dk_42 (dk_at dksX6_locked_1 23 rfl rfl)
theorem dX6_locked_46 : decode cX6_locked 46 = .ok (.getfield 7, 3) := dk_180 0 7 (dk_at dksX6_locked_2 0 rfl rfl)
theorem dX6_locked_49 : decode cX6_locked 49 = .ok (.iconst 4, 1) := dk_7 (dk_at dksX6_locked_2 3 rfl rfl)
theorem dX6_locked_50 : decode cX6_locked 50 = .ok (.iaload, 1) := dk_46 (dk_at dksX6_locked_2 4 rfl rfl)
theorem dX6_locked_51 : decode cX6_locked 51 = .ok (.invokevirtual 232, 3) := dk_182 0 232 (dk_at dksX6_locked_2 5 rfl rfl)
theorem dX6_locked_54 : decode cX6_locked 54 = .ok (.ifCond .ne 9, 3) := dk_154 0 9 (dk_at dksX6_locked_2 8 rfl rfl)
theorem dX6_locked_57 : decode cX6_locked 57 = .ok (.iconst 1, 1) := dk_4 (dk_at dksX6_locked_2 11 rfl rfl)
theorem dX6_locked_58 : decode cX6_locked 58 = .ok (.iload_n 2, 1) := dk_28 (dk_at dksX6_locked_2 12 rfl rfl)
theorem dX6_locked_59 : decode cX6_locked 59 = .ok (.ishl, 1) := dk_120 (dk_at dksX6_locked_2 13 rfl rfl)
theorem dX6_locked_60 : decode cX6_locked 60 = .ok (.goto 4, 3) := dk_167 0 4 (dk_at dksX6_locked_2 14 rfl rfl)
theorem dX6_locked_63 : decode cX6_locked 63 = .ok (.iconst 0, 1) := dk_3 (dk_at dksX6_locked_2 17 rfl rfl)
theorem dX6_locked_64 : decode cX6_locked 64 = .ok (.ior, 1) := dk_128 (dk_at dksX6_locked_2 18 rfl rfl)
theorem dX6_locked_65 : decode cX6_locked 65 = .ok (.istore_n 1, 1) := dk_60 (dk_at dksX6_locked_2 19 rfl rfl)
theorem dX6_locked_66 : decode cX6_locked 66 = .ok (.iinc 2 1, 3) := dk_132 2 1 (dk_at dksX6_locked_2 20 rfl rfl)
theorem dX6_locked_69 : decode cX6_locked 69 = .ok (.goto (-60), 3) := dk_167 255 196 (dk_at dksX6_locked_3 0 rfl rfl)
theorem dX6_locked_72 : decode cX6_locked 72 = .ok (.iload_n 1, 1) := dk_27 (dk_at dksX6_locked_3 3 rfl rfl)
theorem dX6_locked_73 : decode cX6_locked 73 = .ok (.ireturn, 1) := dk_172 (dk_at dksX6_locked_3 4 rfl rfl)
abbrev cX6_agree : ByteArray := prog_18_method_109_code
def yX6_agree : MethodName := ⟨RX6, "agree", "(I)I"⟩
def dkwX6_agree_3 : List UInt8 := [3, 96, 61, 132, 3, 1, 167, 255, 202, 28, 172]
abbrev dktX6_agree_3 : List UInt8 := dkwX6_agree_3 ++ []
def dkwX6_agree_2 : List UInt8 := [182, 0, 226, 42, 4, 42, 180, 0, 7, 16, 10, 46, 29, 96, 182, 0, 226, 160, 0, 7, 4, 167, 0, 4]
abbrev dktX6_agree_2 : List UInt8 := dkwX6_agree_2 ++ dktX6_agree_3
def dkwX6_agree_1 : List UInt8 := [29, 27, 162, 0, 55, 42, 180, 0, 42, 154, 0, 48, 28, 42, 3, 42, 180, 0, 7, 16, 10, 46, 29, 96]
abbrev dktX6_agree_1 : List UInt8 := dkwX6_agree_1 ++ dktX6_agree_2
def dkwX6_agree_0 : List UInt8 := [42, 27, 3, 17, 1, 144, 184, 0, 45, 154, 0, 7, 4, 167, 0, 4, 3, 181, 0, 42, 3, 61, 3, 62]
abbrev dktX6_agree_0 : List UInt8 := dkwX6_agree_0 ++ dktX6_agree_1
theorem dksX6_agree_0 : cX6_agree.data.toList.drop 0 = dktX6_agree_0 := by decide +kernel
theorem dksX6_agree_1 : cX6_agree.data.toList.drop 24 = dktX6_agree_1 := dk_seg dksX6_agree_0 24 rfl rfl
theorem dksX6_agree_2 : cX6_agree.data.toList.drop 48 = dktX6_agree_2 := dk_seg dksX6_agree_1 24 rfl rfl
theorem dksX6_agree_3 : cX6_agree.data.toList.drop 72 = dktX6_agree_3 := dk_seg dksX6_agree_2 24 rfl rfl
theorem dX6_agree_0 : decode cX6_agree 0 = .ok (.aload_n 0, 1) := dk_42 (dk_at dksX6_agree_0 0 rfl rfl)
theorem dX6_agree_1 : decode cX6_agree 1 = .ok (.iload_n 1, 1) := dk_27 (dk_at dksX6_agree_0 1 rfl rfl)
theorem dX6_agree_2 : decode cX6_agree 2 = .ok (.iconst 0, 1) := dk_3 (dk_at dksX6_agree_0 2 rfl rfl)
theorem dX6_agree_3 : decode cX6_agree 3 = .ok (.sipush 400, 3) := dk_17 1 144 (dk_at dksX6_agree_0 3 rfl rfl)
theorem dX6_agree_6 : decode cX6_agree 6 = .ok (.invokestatic 45, 3) := dk_184 0 45 (dk_at dksX6_agree_0 6 rfl rfl)
theorem dX6_agree_9 : decode cX6_agree 9 = .ok (.ifCond .ne 7, 3) := dk_154 0 7 (dk_at dksX6_agree_0 9 rfl rfl)
theorem dX6_agree_12 : decode cX6_agree 12 = .ok (.iconst 1, 1) := dk_4 (dk_at dksX6_agree_0 12 rfl rfl)
theorem dX6_agree_13 : decode cX6_agree 13 = .ok (.goto 4, 3) := dk_167 0 4 (dk_at dksX6_agree_0 13 rfl rfl)
theorem dX6_agree_16 : decode cX6_agree 16 = .ok (.iconst 0, 1) := dk_3 (dk_at dksX6_agree_0 16 rfl rfl)
theorem dX6_agree_17 : decode cX6_agree 17 = .ok (.putfield 42, 3) := dk_181 0 42 (dk_at dksX6_agree_0 17 rfl rfl)
theorem dX6_agree_20 : decode cX6_agree 20 = .ok (.iconst 0, 1) := dk_3 (dk_at dksX6_agree_0 20 rfl rfl)
theorem dX6_agree_21 : decode cX6_agree 21 = .ok (.istore_n 2, 1) := dk_61 (dk_at dksX6_agree_0 21 rfl rfl)
theorem dX6_agree_22 : decode cX6_agree 22 = .ok (.iconst 0, 1) := dk_3 (dk_at dksX6_agree_0 22 rfl rfl)
theorem dX6_agree_23 : decode cX6_agree 23 = .ok (.istore_n 3, 1) := dk_62 (dk_at dksX6_agree_0 23 rfl rfl)
theorem dX6_agree_24 : decode cX6_agree 24 = .ok (.iload_n 3, 1) := dk_29 (dk_at dksX6_agree_1 0 rfl rfl)
theorem dX6_agree_25 : decode cX6_agree 25 = .ok (.iload_n 1, 1) := dk_27 (dk_at dksX6_agree_1 1 rfl rfl)
theorem dX6_agree_26 : decode cX6_agree 26 = .ok (.if_icmp .ge 55, 3) := dk_162 0 55 (dk_at dksX6_agree_1 2 rfl rfl)
theorem dX6_agree_29 : decode cX6_agree 29 = .ok (.aload_n 0, 1) := dk_42 (dk_at dksX6_agree_1 5 rfl rfl)
theorem dX6_agree_30 : decode cX6_agree 30 = .ok (.getfield 42, 3) := dk_180 0 42 (dk_at dksX6_agree_1 6 rfl rfl)
theorem dX6_agree_33 : decode cX6_agree 33 = .ok (.ifCond .ne 48, 3) := dk_154 0 48 (dk_at dksX6_agree_1 9 rfl rfl)
theorem dX6_agree_36 : decode cX6_agree 36 = .ok (.iload_n 2, 1) := dk_28 (dk_at dksX6_agree_1 12 rfl rfl)
theorem dX6_agree_37 : decode cX6_agree 37 = .ok (.aload_n 0, 1) := dk_42 (dk_at dksX6_agree_1 13 rfl rfl)
theorem dX6_agree_38 : decode cX6_agree 38 = .ok (.iconst 0, 1) := dk_3 (dk_at dksX6_agree_1 14 rfl rfl)
theorem dX6_agree_39 : decode cX6_agree 39 = .ok (.aload_n 0, 1) := dk_42 (dk_at dksX6_agree_1 15 rfl rfl)
theorem dX6_agree_40 : decode cX6_agree 40 = .ok (.getfield 7, 3) := dk_180 0 7 (dk_at dksX6_agree_1 16 rfl rfl)
theorem dX6_agree_43 : decode cX6_agree 43 = .ok (.bipush 10, 2) := dk_16 10 (dk_at dksX6_agree_1 19 rfl rfl)
theorem dX6_agree_45 : decode cX6_agree 45 = .ok (.iaload, 1) := dk_46 (dk_at dksX6_agree_1 21 rfl rfl)
theorem dX6_agree_46 : decode cX6_agree 46 = .ok (.iload_n 3, 1) := dk_29 (dk_at dksX6_agree_1 22 rfl rfl)
theorem dX6_agree_47 : decode cX6_agree 47 = .ok (.iadd, 1) := dk_96 (dk_at dksX6_agree_1 23 rfl rfl)
theorem dX6_agree_48 : decode cX6_agree 48 = .ok (.invokevirtual 226, 3) := dk_182 0 226 (dk_at dksX6_agree_2 0 rfl rfl)
theorem dX6_agree_51 : decode cX6_agree 51 = .ok (.aload_n 0, 1) := dk_42 (dk_at dksX6_agree_2 3 rfl rfl)
theorem dX6_agree_52 : decode cX6_agree 52 = .ok (.iconst 1, 1) := dk_4 (dk_at dksX6_agree_2 4 rfl rfl)
theorem dX6_agree_53 : decode cX6_agree 53 = .ok (.aload_n 0, 1) := dk_42 (dk_at dksX6_agree_2 5 rfl rfl)
theorem dX6_agree_54 : decode cX6_agree 54 = .ok (.getfield 7, 3) := dk_180 0 7 (dk_at dksX6_agree_2 6 rfl rfl)
theorem dX6_agree_57 : decode cX6_agree 57 = .ok (.bipush 10, 2) := dk_16 10 (dk_at dksX6_agree_2 9 rfl rfl)
theorem dX6_agree_59 : decode cX6_agree 59 = .ok (.iaload, 1) := dk_46 (dk_at dksX6_agree_2 11 rfl rfl)
theorem dX6_agree_60 : decode cX6_agree 60 = .ok (.iload_n 3, 1) := dk_29 (dk_at dksX6_agree_2 12 rfl rfl)
theorem dX6_agree_61 : decode cX6_agree 61 = .ok (.iadd, 1) := dk_96 (dk_at dksX6_agree_2 13 rfl rfl)
theorem dX6_agree_62 : decode cX6_agree 62 = .ok (.invokevirtual 226, 3) := dk_182 0 226 (dk_at dksX6_agree_2 14 rfl rfl)
theorem dX6_agree_65 : decode cX6_agree 65 = .ok (.if_icmp .ne 7, 3) := dk_160 0 7 (dk_at dksX6_agree_2 17 rfl rfl)
theorem dX6_agree_68 : decode cX6_agree 68 = .ok (.iconst 1, 1) := dk_4 (dk_at dksX6_agree_2 20 rfl rfl)
theorem dX6_agree_69 : decode cX6_agree 69 = .ok (.goto 4, 3) := dk_167 0 4 (dk_at dksX6_agree_2 21 rfl rfl)
theorem dX6_agree_72 : decode cX6_agree 72 = .ok (.iconst 0, 1) := dk_3 (dk_at dksX6_agree_3 0 rfl rfl)
theorem dX6_agree_73 : decode cX6_agree 73 = .ok (.iadd, 1) := dk_96 (dk_at dksX6_agree_3 1 rfl rfl)
theorem dX6_agree_74 : decode cX6_agree 74 = .ok (.istore_n 2, 1) := dk_61 (dk_at dksX6_agree_3 2 rfl rfl)
theorem dX6_agree_75 : decode cX6_agree 75 = .ok (.iinc 3 1, 3) := dk_132 3 1 (dk_at dksX6_agree_3 3 rfl rfl)
theorem dX6_agree_78 : decode cX6_agree 78 = .ok (.goto (-54), 3) := dk_167 255 202 (dk_at dksX6_agree_3 6 rfl rfl)
theorem dX6_agree_81 : decode cX6_agree 81 = .ok (.iload_n 2, 1) := dk_28 (dk_at dksX6_agree_3 9 rfl rfl)
theorem dX6_agree_82 : decode cX6_agree 82 = .ok (.ireturn, 1) := dk_172 (dk_at dksX6_agree_3 10 rfl rfl)
abbrev cX6_need : ByteArray := prog_18_method_110_code
def yX6_need : MethodName := ⟨RX6, "need", "(I)I"⟩
def dkwX6_need_2 : List UInt8 := [100, 184, 0, 249, 172]
abbrev dktX6_need_2 : List UInt8 := dkwX6_need_2 ++ []
def dkwX6_need_1 : List UInt8 := [158, 0, 7, 3, 167, 0, 24, 3, 27, 42, 180, 0, 7, 16, 8, 46, 100, 42, 180, 0, 7, 16, 7, 46]
abbrev dktX6_need_1 : List UInt8 := dkwX6_need_1 ++ dktX6_need_2
def dkwX6_need_0 : List UInt8 := [42, 27, 4, 17, 39, 15, 184, 0, 45, 154, 0, 7, 4, 167, 0, 4, 3, 181, 0, 42, 42, 180, 0, 42]
abbrev dktX6_need_0 : List UInt8 := dkwX6_need_0 ++ dktX6_need_1
theorem dksX6_need_0 : cX6_need.data.toList.drop 0 = dktX6_need_0 := by decide +kernel
theorem dksX6_need_1 : cX6_need.data.toList.drop 24 = dktX6_need_1 := dk_seg dksX6_need_0 24 rfl rfl
theorem dksX6_need_2 : cX6_need.data.toList.drop 48 = dktX6_need_2 := dk_seg dksX6_need_1 24 rfl rfl
theorem dX6_need_0 : decode cX6_need 0 = .ok (.aload_n 0, 1) := dk_42 (dk_at dksX6_need_0 0 rfl rfl)
theorem dX6_need_1 : decode cX6_need 1 = .ok (.iload_n 1, 1) := dk_27 (dk_at dksX6_need_0 1 rfl rfl)
theorem dX6_need_2 : decode cX6_need 2 = .ok (.iconst 1, 1) := dk_4 (dk_at dksX6_need_0 2 rfl rfl)
theorem dX6_need_3 : decode cX6_need 3 = .ok (.sipush 9999, 3) := dk_17 39 15 (dk_at dksX6_need_0 3 rfl rfl)
theorem dX6_need_6 : decode cX6_need 6 = .ok (.invokestatic 45, 3) := dk_184 0 45 (dk_at dksX6_need_0 6 rfl rfl)
theorem dX6_need_9 : decode cX6_need 9 = .ok (.ifCond .ne 7, 3) := dk_154 0 7 (dk_at dksX6_need_0 9 rfl rfl)
theorem dX6_need_12 : decode cX6_need 12 = .ok (.iconst 1, 1) := dk_4 (dk_at dksX6_need_0 12 rfl rfl)
theorem dX6_need_13 : decode cX6_need 13 = .ok (.goto 4, 3) := dk_167 0 4 (dk_at dksX6_need_0 13 rfl rfl)
theorem dX6_need_16 : decode cX6_need 16 = .ok (.iconst 0, 1) := dk_3 (dk_at dksX6_need_0 16 rfl rfl)
theorem dX6_need_17 : decode cX6_need 17 = .ok (.putfield 42, 3) := dk_181 0 42 (dk_at dksX6_need_0 17 rfl rfl)
theorem dX6_need_20 : decode cX6_need 20 = .ok (.aload_n 0, 1) := dk_42 (dk_at dksX6_need_0 20 rfl rfl)
theorem dX6_need_21 : decode cX6_need 21 = .ok (.getfield 42, 3) := dk_180 0 42 (dk_at dksX6_need_0 21 rfl rfl)
theorem dX6_need_24 : decode cX6_need 24 = .ok (.ifCond .le 7, 3) := dk_158 0 7 (dk_at dksX6_need_1 0 rfl rfl)
theorem dX6_need_27 : decode cX6_need 27 = .ok (.iconst 0, 1) := dk_3 (dk_at dksX6_need_1 3 rfl rfl)
theorem dX6_need_28 : decode cX6_need 28 = .ok (.goto 24, 3) := dk_167 0 24 (dk_at dksX6_need_1 4 rfl rfl)
theorem dX6_need_31 : decode cX6_need 31 = .ok (.iconst 0, 1) := dk_3 (dk_at dksX6_need_1 7 rfl rfl)
theorem dX6_need_32 : decode cX6_need 32 = .ok (.iload_n 1, 1) := dk_27 (dk_at dksX6_need_1 8 rfl rfl)
theorem dX6_need_33 : decode cX6_need 33 = .ok (.aload_n 0, 1) := dk_42 (dk_at dksX6_need_1 9 rfl rfl)
theorem dX6_need_34 : decode cX6_need 34 = .ok (.getfield 7, 3) := dk_180 0 7 (dk_at dksX6_need_1 10 rfl rfl)
theorem dX6_need_37 : decode cX6_need 37 = .ok (.bipush 8, 2) := dk_16 8 (dk_at dksX6_need_1 13 rfl rfl)
theorem dX6_need_39 : decode cX6_need 39 = .ok (.iaload, 1) := dk_46 (dk_at dksX6_need_1 15 rfl rfl)
theorem dX6_need_40 : decode cX6_need 40 = .ok (.isub, 1) := dk_100 (dk_at dksX6_need_1 16 rfl rfl)
theorem dX6_need_41 : decode cX6_need 41 = .ok (.aload_n 0, 1) := dk_42 (dk_at dksX6_need_1 17 rfl rfl)
theorem dX6_need_42 : decode cX6_need 42 = .ok (.getfield 7, 3) := dk_180 0 7 (dk_at dksX6_need_1 18 rfl rfl)
theorem dX6_need_45 : decode cX6_need 45 = .ok (.bipush 7, 2) := dk_16 7 (dk_at dksX6_need_1 21 rfl rfl)
theorem dX6_need_47 : decode cX6_need 47 = .ok (.iaload, 1) := dk_46 (dk_at dksX6_need_1 23 rfl rfl)
theorem dX6_need_48 : decode cX6_need 48 = .ok (.isub, 1) := dk_100 (dk_at dksX6_need_2 0 rfl rfl)
theorem dX6_need_49 : decode cX6_need 49 = .ok (.invokestatic 249, 3) := dk_184 0 249 (dk_at dksX6_need_2 1 rfl rfl)
theorem dX6_need_52 : decode cX6_need 52 = .ok (.ireturn, 1) := dk_172 (dk_at dksX6_need_2 4 rfl rfl)
abbrev cX6_spread : ByteArray := prog_18_method_111_code
def yX6_spread : MethodName := ⟨RX6, "spread", "(I)I"⟩
def dkwX6_spread_5 : List UInt8 := [153, 0, 10, 21, 4, 29, 100, 167, 0, 4, 3, 172]
abbrev dktX6_spread_5 : List UInt8 := dkwX6_spread_5 ++ []
def dkwX6_spread_4 : List UInt8 := [21, 6, 5, 182, 0, 49, 184, 0, 249, 54, 4, 132, 6, 1, 167, 255, 201, 42, 182, 0, 169, 21, 5]
abbrev dktX6_spread_4 : List UInt8 := dkwX6_spread_4 ++ dktX6_spread_5
def dkwX6_spread_3 : List UInt8 := [154, 0, 6, 167, 0, 32, 4, 54, 5, 29, 42, 21, 6, 5, 182, 0, 49, 184, 0, 243, 62, 21, 4, 42]
abbrev dktX6_spread_3 : List UInt8 := dkwX6_spread_3 ++ dktX6_spread_4
def dkwX6_spread_2 : List UInt8 := [54, 5, 3, 54, 6, 21, 6, 42, 180, 0, 7, 6, 46, 162, 0, 50, 42, 21, 6, 182, 0, 236]
abbrev dktX6_spread_2 : List UInt8 := dkwX6_spread_2 ++ dktX6_spread_3
def dkwX6_spread_1 : List UInt8 := [158, 0, 5, 3, 172, 42, 182, 0, 159, 42, 27, 3, 182, 1, 32, 61, 16, 99, 62, 3, 54, 4, 3]
abbrev dktX6_spread_1 : List UInt8 := dkwX6_spread_1 ++ dktX6_spread_2
def dkwX6_spread_0 : List UInt8 := [42, 27, 3, 17, 1, 144, 184, 0, 45, 154, 0, 7, 4, 167, 0, 4, 3, 181, 0, 42, 42, 180, 0, 42]
abbrev dktX6_spread_0 : List UInt8 := dkwX6_spread_0 ++ dktX6_spread_1
theorem dksX6_spread_0 : cX6_spread.data.toList.drop 0 = dktX6_spread_0 := by decide +kernel
theorem dksX6_spread_1 : cX6_spread.data.toList.drop 24 = dktX6_spread_1 := dk_seg dksX6_spread_0 24 rfl rfl
theorem dksX6_spread_2 : cX6_spread.data.toList.drop 47 = dktX6_spread_2 := dk_seg dksX6_spread_1 23 rfl rfl
theorem dksX6_spread_3 : cX6_spread.data.toList.drop 69 = dktX6_spread_3 := dk_seg dksX6_spread_2 22 rfl rfl
theorem dksX6_spread_4 : cX6_spread.data.toList.drop 93 = dktX6_spread_4 := dk_seg dksX6_spread_3 24 rfl rfl
theorem dksX6_spread_5 : cX6_spread.data.toList.drop 116 = dktX6_spread_5 := dk_seg dksX6_spread_4 23 rfl rfl
theorem dX6_spread_0 : decode cX6_spread 0 = .ok (.aload_n 0, 1) := dk_42 (dk_at dksX6_spread_0 0 rfl rfl)
theorem dX6_spread_1 : decode cX6_spread 1 = .ok (.iload_n 1, 1) := dk_27 (dk_at dksX6_spread_0 1 rfl rfl)
theorem dX6_spread_2 : decode cX6_spread 2 = .ok (.iconst 0, 1) := dk_3 (dk_at dksX6_spread_0 2 rfl rfl)
theorem dX6_spread_3 : decode cX6_spread 3 = .ok (.sipush 400, 3) := dk_17 1 144 (dk_at dksX6_spread_0 3 rfl rfl)
theorem dX6_spread_6 : decode cX6_spread 6 = .ok (.invokestatic 45, 3) := dk_184 0 45 (dk_at dksX6_spread_0 6 rfl rfl)
theorem dX6_spread_9 : decode cX6_spread 9 = .ok (.ifCond .ne 7, 3) := dk_154 0 7 (dk_at dksX6_spread_0 9 rfl rfl)
theorem dX6_spread_12 : decode cX6_spread 12 = .ok (.iconst 1, 1) := dk_4 (dk_at dksX6_spread_0 12 rfl rfl)
theorem dX6_spread_13 : decode cX6_spread 13 = .ok (.goto 4, 3) := dk_167 0 4 (dk_at dksX6_spread_0 13 rfl rfl)
theorem dX6_spread_16 : decode cX6_spread 16 = .ok (.iconst 0, 1) := dk_3 (dk_at dksX6_spread_0 16 rfl rfl)
theorem dX6_spread_17 : decode cX6_spread 17 = .ok (.putfield 42, 3) := dk_181 0 42 (dk_at dksX6_spread_0 17 rfl rfl)
theorem dX6_spread_20 : decode cX6_spread 20 = .ok (.aload_n 0, 1) := dk_42 (dk_at dksX6_spread_0 20 rfl rfl)
theorem dX6_spread_21 : decode cX6_spread 21 = .ok (.getfield 42, 3) := dk_180 0 42 (dk_at dksX6_spread_0 21 rfl rfl)
theorem dX6_spread_24 : decode cX6_spread 24 = .ok (.ifCond .le 5, 3) := dk_158 0 5 (dk_at dksX6_spread_1 0 rfl rfl)
theorem dX6_spread_27 : decode cX6_spread 27 = .ok (.iconst 0, 1) := dk_3 (dk_at dksX6_spread_1 3 rfl rfl)
theorem dX6_spread_28 : decode cX6_spread 28 = .ok (.ireturn, 1) := dk_172 (dk_at dksX6_spread_1 4 rfl rfl)
theorem dX6_spread_29 : decode cX6_spread 29 = .ok (.aload_n 0, 1) := dk_42 (dk_at dksX6_spread_1 5 rfl rfl)
theorem dX6_spread_30 : decode cX6_spread 30 = .ok (.invokevirtual 159, 3) := dk_182 0 159 (dk_at dksX6_spread_1 6 rfl rfl)
theorem dX6_spread_33 : decode cX6_spread 33 = .ok (.aload_n 0, 1) := dk_42 (dk_at dksX6_spread_1 9 rfl rfl)
theorem dX6_spread_34 : decode cX6_spread 34 = .ok (.iload_n 1, 1) := dk_27 (dk_at dksX6_spread_1 10 rfl rfl)
theorem dX6_spread_35 : decode cX6_spread 35 = .ok (.iconst 0, 1) := dk_3 (dk_at dksX6_spread_1 11 rfl rfl)
theorem dX6_spread_36 : decode cX6_spread 36 = .ok (.invokevirtual 288, 3) := dk_182 1 32 (dk_at dksX6_spread_1 12 rfl rfl)
theorem dX6_spread_39 : decode cX6_spread 39 = .ok (.istore_n 2, 1) := dk_61 (dk_at dksX6_spread_1 15 rfl rfl)
theorem dX6_spread_40 : decode cX6_spread 40 = .ok (.bipush 99, 2) := dk_16 99 (dk_at dksX6_spread_1 16 rfl rfl)
theorem dX6_spread_42 : decode cX6_spread 42 = .ok (.istore_n 3, 1) := dk_62 (dk_at dksX6_spread_1 18 rfl rfl)
theorem dX6_spread_43 : decode cX6_spread 43 = .ok (.iconst 0, 1) := dk_3 (dk_at dksX6_spread_1 19 rfl rfl)
theorem dX6_spread_44 : decode cX6_spread 44 = .ok (.istore 4, 2) := dk_54 4 (dk_at dksX6_spread_1 20 rfl rfl)
theorem dX6_spread_46 : decode cX6_spread 46 = .ok (.iconst 0, 1) := dk_3 (dk_at dksX6_spread_1 22 rfl rfl)
theorem dX6_spread_47 : decode cX6_spread 47 = .ok (.istore 5, 2) := dk_54 5 (dk_at dksX6_spread_2 0 rfl rfl)
theorem dX6_spread_49 : decode cX6_spread 49 = .ok (.iconst 0, 1) := dk_3 (dk_at dksX6_spread_2 2 rfl rfl)
theorem dX6_spread_50 : decode cX6_spread 50 = .ok (.istore 6, 2) := dk_54 6 (dk_at dksX6_spread_2 3 rfl rfl)
theorem dX6_spread_52 : decode cX6_spread 52 = .ok (.iload 6, 2) := dk_21 6 (dk_at dksX6_spread_2 5 rfl rfl)
theorem dX6_spread_54 : decode cX6_spread 54 = .ok (.aload_n 0, 1) := dk_42 (dk_at dksX6_spread_2 7 rfl rfl)
theorem dX6_spread_55 : decode cX6_spread 55 = .ok (.getfield 7, 3) := dk_180 0 7 (dk_at dksX6_spread_2 8 rfl rfl)
theorem dX6_spread_58 : decode cX6_spread 58 = .ok (.iconst 3, 1) := dk_6 (dk_at dksX6_spread_2 11 rfl rfl)
theorem dX6_spread_59 : decode cX6_spread 59 = .ok (.iaload, 1) := dk_46 (dk_at dksX6_spread_2 12 rfl rfl)
theorem dX6_spread_60 : decode cX6_spread 60 = .ok (.if_icmp .ge 50, 3) := dk_162 0 50 (dk_at dksX6_spread_2 13 rfl rfl)
theorem dX6_spread_63 : decode cX6_spread 63 = .ok (.aload_n 0, 1) := dk_42 (dk_at dksX6_spread_2 16 rfl rfl)
theorem dX6_spread_64 : decode cX6_spread 64 = .ok (.iload 6, 2) := dk_21 6 (dk_at dksX6_spread_2 17 rfl rfl)
theorem dX6_spread_66 : decode cX6_spread 66 = .ok (.invokevirtual 236, 3) := dk_182 0 236 (dk_at dksX6_spread_2 19 rfl rfl)
theorem dX6_spread_69 : decode cX6_spread 69 = .ok (.ifCond .ne 6, 3) := dk_154 0 6 (dk_at dksX6_spread_3 0 rfl rfl)
theorem dX6_spread_72 : decode cX6_spread 72 = .ok (.goto 32, 3) := dk_167 0 32 (dk_at dksX6_spread_3 3 rfl rfl)
theorem dX6_spread_75 : decode cX6_spread 75 = .ok (.iconst 1, 1) := dk_4 (dk_at dksX6_spread_3 6 rfl rfl)
theorem dX6_spread_76 : decode cX6_spread 76 = .ok (.istore 5, 2) := dk_54 5 (dk_at dksX6_spread_3 7 rfl rfl)
theorem dX6_spread_78 : decode cX6_spread 78 = .ok (.iload_n 3, 1) := dk_29 (dk_at dksX6_spread_3 9 rfl rfl)
theorem dX6_spread_79 : decode cX6_spread 79 = .ok (.aload_n 0, 1) := dk_42 (dk_at dksX6_spread_3 10 rfl rfl)
theorem dX6_spread_80 : decode cX6_spread 80 = .ok (.iload 6, 2) := dk_21 6 (dk_at dksX6_spread_3 11 rfl rfl)
theorem dX6_spread_82 : decode cX6_spread 82 = .ok (.iconst 2, 1) := dk_5 (dk_at dksX6_spread_3 13 rfl rfl)
theorem dX6_spread_83 : decode cX6_spread 83 = .ok (.invokevirtual 49, 3) := dk_182 0 49 (dk_at dksX6_spread_3 14 rfl rfl)
theorem dX6_spread_86 : decode cX6_spread 86 = .ok (.invokestatic 243, 3) := dk_184 0 243 (dk_at dksX6_spread_3 17 rfl rfl)
theorem dX6_spread_89 : decode cX6_spread 89 = .ok (.istore_n 3, 1) := dk_62 (dk_at dksX6_spread_3 20 rfl rfl)
theorem dX6_spread_90 : decode cX6_spread 90 = .ok (.iload 4, 2) := dk_21 4 (dk_at dksX6_spread_3 21 rfl rfl)
theorem dX6_spread_92 : decode cX6_spread 92 = .ok (.aload_n 0, 1) := dk_42 (dk_at dksX6_spread_3 23 rfl rfl)
theorem dX6_spread_93 : decode cX6_spread 93 = .ok (.iload 6, 2) := dk_21 6 (dk_at dksX6_spread_4 0 rfl rfl)
theorem dX6_spread_95 : decode cX6_spread 95 = .ok (.iconst 2, 1) := dk_5 (dk_at dksX6_spread_4 2 rfl rfl)
theorem dX6_spread_96 : decode cX6_spread 96 = .ok (.invokevirtual 49, 3) := dk_182 0 49 (dk_at dksX6_spread_4 3 rfl rfl)
theorem dX6_spread_99 : decode cX6_spread 99 = .ok (.invokestatic 249, 3) := dk_184 0 249 (dk_at dksX6_spread_4 6 rfl rfl)
theorem dX6_spread_102 : decode cX6_spread 102 = .ok (.istore 4, 2) := dk_54 4 (dk_at dksX6_spread_4 9 rfl rfl)
theorem dX6_spread_104 : decode cX6_spread 104 = .ok (.iinc 6 1, 3) := dk_132 6 1 (dk_at dksX6_spread_4 11 rfl rfl)
theorem dX6_spread_107 : decode cX6_spread 107 = .ok (.goto (-55), 3) := dk_167 255 201 (dk_at dksX6_spread_4 14 rfl rfl)
theorem dX6_spread_110 : decode cX6_spread 110 = .ok (.aload_n 0, 1) := dk_42 (dk_at dksX6_spread_4 17 rfl rfl)
theorem dX6_spread_111 : decode cX6_spread 111 = .ok (.invokevirtual 169, 3) := dk_182 0 169 (dk_at dksX6_spread_4 18 rfl rfl)
theorem dX6_spread_114 : decode cX6_spread 114 = .ok (.iload 5, 2) := dk_21 5 (dk_at dksX6_spread_4 21 rfl rfl)
theorem dX6_spread_116 : decode cX6_spread 116 = .ok (.ifCond .eq 10, 3) := dk_153 0 10 (dk_at dksX6_spread_5 0 rfl rfl)
theorem dX6_spread_119 : decode cX6_spread 119 = .ok (.iload 4, 2) := dk_21 4 (dk_at dksX6_spread_5 3 rfl rfl)
theorem dX6_spread_121 : decode cX6_spread 121 = .ok (.iload_n 3, 1) := dk_29 (dk_at dksX6_spread_5 5 rfl rfl)
theorem dX6_spread_122 : decode cX6_spread 122 = .ok (.isub, 1) := dk_100 (dk_at dksX6_spread_5 6 rfl rfl)
theorem dX6_spread_123 : decode cX6_spread 123 = .ok (.goto 4, 3) := dk_167 0 4 (dk_at dksX6_spread_5 7 rfl rfl)
theorem dX6_spread_126 : decode cX6_spread 126 = .ok (.iconst 0, 1) := dk_3 (dk_at dksX6_spread_5 10 rfl rfl)
theorem dX6_spread_127 : decode cX6_spread 127 = .ok (.ireturn, 1) := dk_172 (dk_at dksX6_spread_5 11 rfl rfl)
abbrev cX6_mutual : ByteArray := prog_18_method_112_code
def yX6_mutual : MethodName := ⟨RX6, "mutual", "()I"⟩
def dkwX6_mutual_4 : List UInt8 := [132, 2, 1, 167, 255, 171, 27, 172]
abbrev dktX6_mutual_4 : List UInt8 := dkwX6_mutual_4 ++ []
def dkwX6_mutual_3 : List UInt8 := [182, 0, 49, 182, 0, 239, 153, 0, 7, 4, 167, 0, 4, 3, 96, 60, 132, 3, 1, 167, 255, 191]
abbrev dktX6_mutual_3 : List UInt8 := dkwX6_mutual_3 ++ dktX6_mutual_4
def dkwX6_mutual_2 : List UInt8 := [153, 0, 35, 42, 28, 42, 29, 3, 182, 0, 49, 182, 0, 239, 153, 0, 21, 42, 29, 42, 28, 3]
abbrev dktX6_mutual_2 : List UInt8 := dkwX6_mutual_2 ++ dktX6_mutual_3
def dkwX6_mutual_1 : List UInt8 := [42, 180, 0, 7, 6, 46, 162, 0, 61, 27, 42, 28, 182, 0, 236, 153, 0, 43, 42, 29, 182, 0, 236]
abbrev dktX6_mutual_1 : List UInt8 := dkwX6_mutual_1 ++ dktX6_mutual_2
def dkwX6_mutual_0 : List UInt8 := [42, 3, 181, 0, 42, 3, 60, 3, 61, 28, 42, 180, 0, 7, 6, 46, 162, 0, 81, 28, 4, 96, 62, 29]
abbrev dktX6_mutual_0 : List UInt8 := dkwX6_mutual_0 ++ dktX6_mutual_1
theorem dksX6_mutual_0 : cX6_mutual.data.toList.drop 0 = dktX6_mutual_0 := by decide +kernel
theorem dksX6_mutual_1 : cX6_mutual.data.toList.drop 24 = dktX6_mutual_1 := dk_seg dksX6_mutual_0 24 rfl rfl
theorem dksX6_mutual_2 : cX6_mutual.data.toList.drop 47 = dktX6_mutual_2 := dk_seg dksX6_mutual_1 23 rfl rfl
theorem dksX6_mutual_3 : cX6_mutual.data.toList.drop 69 = dktX6_mutual_3 := dk_seg dksX6_mutual_2 22 rfl rfl
theorem dksX6_mutual_4 : cX6_mutual.data.toList.drop 91 = dktX6_mutual_4 := dk_seg dksX6_mutual_3 22 rfl rfl
theorem dX6_mutual_0 : decode cX6_mutual 0 = .ok (.aload_n 0, 1) := dk_42 (dk_at dksX6_mutual_0 0 rfl rfl)
theorem dX6_mutual_1 : decode cX6_mutual 1 = .ok (.iconst 0, 1) := dk_3 (dk_at dksX6_mutual_0 1 rfl rfl)
theorem dX6_mutual_2 : decode cX6_mutual 2 = .ok (.putfield 42, 3) := dk_181 0 42 (dk_at dksX6_mutual_0 2 rfl rfl)
theorem dX6_mutual_5 : decode cX6_mutual 5 = .ok (.iconst 0, 1) := dk_3 (dk_at dksX6_mutual_0 5 rfl rfl)
theorem dX6_mutual_6 : decode cX6_mutual 6 = .ok (.istore_n 1, 1) := dk_60 (dk_at dksX6_mutual_0 6 rfl rfl)
theorem dX6_mutual_7 : decode cX6_mutual 7 = .ok (.iconst 0, 1) := dk_3 (dk_at dksX6_mutual_0 7 rfl rfl)
theorem dX6_mutual_8 : decode cX6_mutual 8 = .ok (.istore_n 2, 1) := dk_61 (dk_at dksX6_mutual_0 8 rfl rfl)
theorem dX6_mutual_9 : decode cX6_mutual 9 = .ok (.iload_n 2, 1) := dk_28 (dk_at dksX6_mutual_0 9 rfl rfl)
theorem dX6_mutual_10 : decode cX6_mutual 10 = .ok (.aload_n 0, 1) := dk_42 (dk_at dksX6_mutual_0 10 rfl rfl)
theorem dX6_mutual_11 : decode cX6_mutual 11 = .ok (.getfield 7, 3) := dk_180 0 7 (dk_at dksX6_mutual_0 11 rfl rfl)
theorem dX6_mutual_14 : decode cX6_mutual 14 = .ok (.iconst 3, 1) := dk_6 (dk_at dksX6_mutual_0 14 rfl rfl)
theorem dX6_mutual_15 : decode cX6_mutual 15 = .ok (.iaload, 1) := dk_46 (dk_at dksX6_mutual_0 15 rfl rfl)
theorem dX6_mutual_16 : decode cX6_mutual 16 = .ok (.if_icmp .ge 81, 3) := dk_162 0 81 (dk_at dksX6_mutual_0 16 rfl rfl)
theorem dX6_mutual_19 : decode cX6_mutual 19 = .ok (.iload_n 2, 1) := dk_28 (dk_at dksX6_mutual_0 19 rfl rfl)
theorem dX6_mutual_20 : decode cX6_mutual 20 = .ok (.iconst 1, 1) := dk_4 (dk_at dksX6_mutual_0 20 rfl rfl)
theorem dX6_mutual_21 : decode cX6_mutual 21 = .ok (.iadd, 1) := dk_96 (dk_at dksX6_mutual_0 21 rfl rfl)
theorem dX6_mutual_22 : decode cX6_mutual 22 = .ok (.istore_n 3, 1) := dk_62 (dk_at dksX6_mutual_0 22 rfl rfl)
theorem dX6_mutual_23 : decode cX6_mutual 23 = .ok (.iload_n 3, 1) := dk_29 (dk_at dksX6_mutual_0 23 rfl rfl)
theorem dX6_mutual_24 : decode cX6_mutual 24 = .ok (.aload_n 0, 1) := dk_42 (dk_at dksX6_mutual_1 0 rfl rfl)
theorem dX6_mutual_25 : decode cX6_mutual 25 = .ok (.getfield 7, 3) := dk_180 0 7 (dk_at dksX6_mutual_1 1 rfl rfl)
theorem dX6_mutual_28 : decode cX6_mutual 28 = .ok (.iconst 3, 1) := dk_6 (dk_at dksX6_mutual_1 4 rfl rfl)
theorem dX6_mutual_29 : decode cX6_mutual 29 = .ok (.iaload, 1) := dk_46 (dk_at dksX6_mutual_1 5 rfl rfl)
theorem dX6_mutual_30 : decode cX6_mutual 30 = .ok (.if_icmp .ge 61, 3) := dk_162 0 61 (dk_at dksX6_mutual_1 6 rfl rfl)
theorem dX6_mutual_33 : decode cX6_mutual 33 = .ok (.iload_n 1, 1) := dk_27 (dk_at dksX6_mutual_1 9 rfl rfl)
theorem dX6_mutual_34 : decode cX6_mutual 34 = .ok (.aload_n 0, 1) := dk_42 (dk_at dksX6_mutual_1 10 rfl rfl)
theorem dX6_mutual_35 : decode cX6_mutual 35 = .ok (.iload_n 2, 1) := dk_28 (dk_at dksX6_mutual_1 11 rfl rfl)
theorem dX6_mutual_36 : decode cX6_mutual 36 = .ok (.invokevirtual 236, 3) := dk_182 0 236 (dk_at dksX6_mutual_1 12 rfl rfl)
theorem dX6_mutual_39 : decode cX6_mutual 39 = .ok (.ifCond .eq 43, 3) := dk_153 0 43 (dk_at dksX6_mutual_1 15 rfl rfl)
theorem dX6_mutual_42 : decode cX6_mutual 42 = .ok (.aload_n 0, 1) := dk_42 (dk_at dksX6_mutual_1 18 rfl rfl)
theorem dX6_mutual_43 : decode cX6_mutual 43 = .ok (.iload_n 3, 1) := dk_29 (dk_at dksX6_mutual_1 19 rfl rfl)
theorem dX6_mutual_44 : decode cX6_mutual 44 = .ok (.invokevirtual 236, 3) := dk_182 0 236 (dk_at dksX6_mutual_1 20 rfl rfl)
theorem dX6_mutual_47 : decode cX6_mutual 47 = .ok (.ifCond .eq 35, 3) := dk_153 0 35 (dk_at dksX6_mutual_2 0 rfl rfl)
theorem dX6_mutual_50 : decode cX6_mutual 50 = .ok (.aload_n 0, 1) := dk_42 (dk_at dksX6_mutual_2 3 rfl rfl)
theorem dX6_mutual_51 : decode cX6_mutual 51 = .ok (.iload_n 2, 1) := dk_28 (dk_at dksX6_mutual_2 4 rfl rfl)
theorem dX6_mutual_52 : decode cX6_mutual 52 = .ok (.aload_n 0, 1) := dk_42 (dk_at dksX6_mutual_2 5 rfl rfl)
theorem dX6_mutual_53 : decode cX6_mutual 53 = .ok (.iload_n 3, 1) := dk_29 (dk_at dksX6_mutual_2 6 rfl rfl)
theorem dX6_mutual_54 : decode cX6_mutual 54 = .ok (.iconst 0, 1) := dk_3 (dk_at dksX6_mutual_2 7 rfl rfl)
theorem dX6_mutual_55 : decode cX6_mutual 55 = .ok (.invokevirtual 49, 3) := dk_182 0 49 (dk_at dksX6_mutual_2 8 rfl rfl)
theorem dX6_mutual_58 : decode cX6_mutual 58 = .ok (.invokevirtual 239, 3) := dk_182 0 239 (dk_at dksX6_mutual_2 11 rfl rfl)
theorem dX6_mutual_61 : decode cX6_mutual 61 = .ok (.ifCond .eq 21, 3) := dk_153 0 21 (dk_at dksX6_mutual_2 14 rfl rfl)
theorem dX6_mutual_64 : decode cX6_mutual 64 = .ok (.aload_n 0, 1) := dk_42 (dk_at dksX6_mutual_2 17 rfl rfl)
theorem dX6_mutual_65 : decode cX6_mutual 65 = .ok (.iload_n 3, 1) := dk_29 (dk_at dksX6_mutual_2 18 rfl rfl)
theorem dX6_mutual_66 : decode cX6_mutual 66 = .ok (.aload_n 0, 1) := dk_42 (dk_at dksX6_mutual_2 19 rfl rfl)
theorem dX6_mutual_67 : decode cX6_mutual 67 = .ok (.iload_n 2, 1) := dk_28 (dk_at dksX6_mutual_2 20 rfl rfl)
theorem dX6_mutual_68 : decode cX6_mutual 68 = .ok (.iconst 0, 1) := dk_3 (dk_at dksX6_mutual_2 21 rfl rfl)
theorem dX6_mutual_69 : decode cX6_mutual 69 = .ok (.invokevirtual 49, 3) := dk_182 0 49 (dk_at dksX6_mutual_3 0 rfl rfl)
theorem dX6_mutual_72 : decode cX6_mutual 72 = .ok (.invokevirtual 239, 3) := dk_182 0 239 (dk_at dksX6_mutual_3 3 rfl rfl)
theorem dX6_mutual_75 : decode cX6_mutual 75 = .ok (.ifCond .eq 7, 3) := dk_153 0 7 (dk_at dksX6_mutual_3 6 rfl rfl)
theorem dX6_mutual_78 : decode cX6_mutual 78 = .ok (.iconst 1, 1) := dk_4 (dk_at dksX6_mutual_3 9 rfl rfl)
theorem dX6_mutual_79 : decode cX6_mutual 79 = .ok (.goto 4, 3) := dk_167 0 4 (dk_at dksX6_mutual_3 10 rfl rfl)
theorem dX6_mutual_82 : decode cX6_mutual 82 = .ok (.iconst 0, 1) := dk_3 (dk_at dksX6_mutual_3 13 rfl rfl)
theorem dX6_mutual_83 : decode cX6_mutual 83 = .ok (.iadd, 1) := dk_96 (dk_at dksX6_mutual_3 14 rfl rfl)
theorem dX6_mutual_84 : decode cX6_mutual 84 = .ok (.istore_n 1, 1) := dk_60 (dk_at dksX6_mutual_3 15 rfl rfl)
theorem dX6_mutual_85 : decode cX6_mutual 85 = .ok (.iinc 3 1, 3) := dk_132 3 1 (dk_at dksX6_mutual_3 16 rfl rfl)
theorem dX6_mutual_88 : decode cX6_mutual 88 = .ok (.goto (-65), 3) := dk_167 255 191 (dk_at dksX6_mutual_3 19 rfl rfl)
theorem dX6_mutual_91 : decode cX6_mutual 91 = .ok (.iinc 2 1, 3) := dk_132 2 1 (dk_at dksX6_mutual_4 0 rfl rfl)
theorem dX6_mutual_94 : decode cX6_mutual 94 = .ok (.goto (-85), 3) := dk_167 255 171 (dk_at dksX6_mutual_4 3 rfl rfl)
theorem dX6_mutual_97 : decode cX6_mutual 97 = .ok (.iload_n 1, 1) := dk_27 (dk_at dksX6_mutual_4 6 rfl rfl)
theorem dX6_mutual_98 : decode cX6_mutual 98 = .ok (.ireturn, 1) := dk_172 (dk_at dksX6_mutual_4 7 rfl rfl)
abbrev cX6_trial : ByteArray := prog_18_method_113_code
def yX6_trial : MethodName := ⟨RX6, "trial", "(IZ)I"⟩
def dkwX6_trial_2 : List UInt8 := [167, 0, 4, 29, 54, 4, 42, 182, 0, 169, 21, 4, 172]
abbrev dktX6_trial_2 : List UInt8 := dkwX6_trial_2 ++ []
def dkwX6_trial_1 : List UInt8 := [158, 0, 5, 3, 172, 42, 182, 0, 159, 42, 27, 4, 182, 1, 32, 62, 28, 153, 0, 10, 42, 182, 1, 80]
abbrev dktX6_trial_1 : List UInt8 := dkwX6_trial_1 ++ dktX6_trial_2
def dkwX6_trial_0 : List UInt8 := [42, 27, 3, 16, 60, 184, 0, 45, 154, 0, 7, 4, 167, 0, 4, 3, 181, 0, 42, 42, 180, 0, 42]
abbrev dktX6_trial_0 : List UInt8 := dkwX6_trial_0 ++ dktX6_trial_1
theorem dksX6_trial_0 : cX6_trial.data.toList.drop 0 = dktX6_trial_0 := by decide +kernel
theorem dksX6_trial_1 : cX6_trial.data.toList.drop 23 = dktX6_trial_1 := dk_seg dksX6_trial_0 23 rfl rfl
theorem dksX6_trial_2 : cX6_trial.data.toList.drop 47 = dktX6_trial_2 := dk_seg dksX6_trial_1 24 rfl rfl
theorem dX6_trial_0 : decode cX6_trial 0 = .ok (.aload_n 0, 1) := dk_42 (dk_at dksX6_trial_0 0 rfl rfl)
theorem dX6_trial_1 : decode cX6_trial 1 = .ok (.iload_n 1, 1) := dk_27 (dk_at dksX6_trial_0 1 rfl rfl)
theorem dX6_trial_2 : decode cX6_trial 2 = .ok (.iconst 0, 1) := dk_3 (dk_at dksX6_trial_0 2 rfl rfl)
theorem dX6_trial_3 : decode cX6_trial 3 = .ok (.bipush 60, 2) := dk_16 60 (dk_at dksX6_trial_0 3 rfl rfl)
theorem dX6_trial_5 : decode cX6_trial 5 = .ok (.invokestatic 45, 3) := dk_184 0 45 (dk_at dksX6_trial_0 5 rfl rfl)
theorem dX6_trial_8 : decode cX6_trial 8 = .ok (.ifCond .ne 7, 3) := dk_154 0 7 (dk_at dksX6_trial_0 8 rfl rfl)
theorem dX6_trial_11 : decode cX6_trial 11 = .ok (.iconst 1, 1) := dk_4 (dk_at dksX6_trial_0 11 rfl rfl)
theorem dX6_trial_12 : decode cX6_trial 12 = .ok (.goto 4, 3) := dk_167 0 4 (dk_at dksX6_trial_0 12 rfl rfl)
theorem dX6_trial_15 : decode cX6_trial 15 = .ok (.iconst 0, 1) := dk_3 (dk_at dksX6_trial_0 15 rfl rfl)
theorem dX6_trial_16 : decode cX6_trial 16 = .ok (.putfield 42, 3) := dk_181 0 42 (dk_at dksX6_trial_0 16 rfl rfl)
theorem dX6_trial_19 : decode cX6_trial 19 = .ok (.aload_n 0, 1) := dk_42 (dk_at dksX6_trial_0 19 rfl rfl)
theorem dX6_trial_20 : decode cX6_trial 20 = .ok (.getfield 42, 3) := dk_180 0 42 (dk_at dksX6_trial_0 20 rfl rfl)
theorem dX6_trial_23 : decode cX6_trial 23 = .ok (.ifCond .le 5, 3) := dk_158 0 5 (dk_at dksX6_trial_1 0 rfl rfl)
theorem dX6_trial_26 : decode cX6_trial 26 = .ok (.iconst 0, 1) := dk_3 (dk_at dksX6_trial_1 3 rfl rfl)
theorem dX6_trial_27 : decode cX6_trial 27 = .ok (.ireturn, 1) := dk_172 (dk_at dksX6_trial_1 4 rfl rfl)
theorem dX6_trial_28 : decode cX6_trial 28 = .ok (.aload_n 0, 1) := dk_42 (dk_at dksX6_trial_1 5 rfl rfl)
theorem dX6_trial_29 : decode cX6_trial 29 = .ok (.invokevirtual 159, 3) := dk_182 0 159 (dk_at dksX6_trial_1 6 rfl rfl)
theorem dX6_trial_32 : decode cX6_trial 32 = .ok (.aload_n 0, 1) := dk_42 (dk_at dksX6_trial_1 9 rfl rfl)
theorem dX6_trial_33 : decode cX6_trial 33 = .ok (.iload_n 1, 1) := dk_27 (dk_at dksX6_trial_1 10 rfl rfl)
theorem dX6_trial_34 : decode cX6_trial 34 = .ok (.iconst 1, 1) := dk_4 (dk_at dksX6_trial_1 11 rfl rfl)
theorem dX6_trial_35 : decode cX6_trial 35 = .ok (.invokevirtual 288, 3) := dk_182 1 32 (dk_at dksX6_trial_1 12 rfl rfl)
theorem dX6_trial_38 : decode cX6_trial 38 = .ok (.istore_n 3, 1) := dk_62 (dk_at dksX6_trial_1 15 rfl rfl)
theorem dX6_trial_39 : decode cX6_trial 39 = .ok (.iload_n 2, 1) := dk_28 (dk_at dksX6_trial_1 16 rfl rfl)
theorem dX6_trial_40 : decode cX6_trial 40 = .ok (.ifCond .eq 10, 3) := dk_153 0 10 (dk_at dksX6_trial_1 17 rfl rfl)
theorem dX6_trial_43 : decode cX6_trial 43 = .ok (.aload_n 0, 1) := dk_42 (dk_at dksX6_trial_1 20 rfl rfl)
theorem dX6_trial_44 : decode cX6_trial 44 = .ok (.invokevirtual 336, 3) := dk_182 1 80 (dk_at dksX6_trial_1 21 rfl rfl)
theorem dX6_trial_47 : decode cX6_trial 47 = .ok (.goto 4, 3) := dk_167 0 4 (dk_at dksX6_trial_2 0 rfl rfl)
theorem dX6_trial_50 : decode cX6_trial 50 = .ok (.iload_n 3, 1) := dk_29 (dk_at dksX6_trial_2 3 rfl rfl)
theorem dX6_trial_51 : decode cX6_trial 51 = .ok (.istore 4, 2) := dk_54 4 (dk_at dksX6_trial_2 4 rfl rfl)
theorem dX6_trial_53 : decode cX6_trial 53 = .ok (.aload_n 0, 1) := dk_42 (dk_at dksX6_trial_2 6 rfl rfl)
theorem dX6_trial_54 : decode cX6_trial 54 = .ok (.invokevirtual 169, 3) := dk_182 0 169 (dk_at dksX6_trial_2 7 rfl rfl)
theorem dX6_trial_57 : decode cX6_trial 57 = .ok (.iload 4, 2) := dk_21 4 (dk_at dksX6_trial_2 10 rfl rfl)
theorem dX6_trial_59 : decode cX6_trial 59 = .ok (.ireturn, 1) := dk_172 (dk_at dksX6_trial_2 12 rfl rfl)
abbrev cX6_holes : ByteArray := prog_18_method_14_code
def yX6_holes : MethodName := ⟨RX6, "holes", "()I"⟩
def dkwX6_holes_1 : List UInt8 := [60, 132, 2, 1, 167, 255, 232, 27, 172]
abbrev dktX6_holes_1 : List UInt8 := dkwX6_holes_1 ++ []
def dkwX6_holes_0 : List UInt8 := [3, 60, 3, 61, 28, 16, 8, 162, 0, 24, 27, 42, 180, 0, 7, 16, 16, 28, 96, 46, 184, 0, 57, 96]
abbrev dktX6_holes_0 : List UInt8 := dkwX6_holes_0 ++ dktX6_holes_1
theorem dksX6_holes_0 : cX6_holes.data.toList.drop 0 = dktX6_holes_0 := by decide +kernel
theorem dksX6_holes_1 : cX6_holes.data.toList.drop 24 = dktX6_holes_1 := dk_seg dksX6_holes_0 24 rfl rfl
theorem dX6_holes_0 : decode cX6_holes 0 = .ok (.iconst 0, 1) := dk_3 (dk_at dksX6_holes_0 0 rfl rfl)
theorem dX6_holes_1 : decode cX6_holes 1 = .ok (.istore_n 1, 1) := dk_60 (dk_at dksX6_holes_0 1 rfl rfl)
theorem dX6_holes_2 : decode cX6_holes 2 = .ok (.iconst 0, 1) := dk_3 (dk_at dksX6_holes_0 2 rfl rfl)
theorem dX6_holes_3 : decode cX6_holes 3 = .ok (.istore_n 2, 1) := dk_61 (dk_at dksX6_holes_0 3 rfl rfl)
theorem dX6_holes_4 : decode cX6_holes 4 = .ok (.iload_n 2, 1) := dk_28 (dk_at dksX6_holes_0 4 rfl rfl)
theorem dX6_holes_5 : decode cX6_holes 5 = .ok (.bipush 8, 2) := dk_16 8 (dk_at dksX6_holes_0 5 rfl rfl)
theorem dX6_holes_7 : decode cX6_holes 7 = .ok (.if_icmp .ge 24, 3) := dk_162 0 24 (dk_at dksX6_holes_0 7 rfl rfl)
theorem dX6_holes_10 : decode cX6_holes 10 = .ok (.iload_n 1, 1) := dk_27 (dk_at dksX6_holes_0 10 rfl rfl)
theorem dX6_holes_11 : decode cX6_holes 11 = .ok (.aload_n 0, 1) := dk_42 (dk_at dksX6_holes_0 11 rfl rfl)
theorem dX6_holes_12 : decode cX6_holes 12 = .ok (.getfield 7, 3) := dk_180 0 7 (dk_at dksX6_holes_0 12 rfl rfl)
theorem dX6_holes_15 : decode cX6_holes 15 = .ok (.bipush 16, 2) := dk_16 16 (dk_at dksX6_holes_0 15 rfl rfl)
theorem dX6_holes_17 : decode cX6_holes 17 = .ok (.iload_n 2, 1) := dk_28 (dk_at dksX6_holes_0 17 rfl rfl)
theorem dX6_holes_18 : decode cX6_holes 18 = .ok (.iadd, 1) := dk_96 (dk_at dksX6_holes_0 18 rfl rfl)
theorem dX6_holes_19 : decode cX6_holes 19 = .ok (.iaload, 1) := dk_46 (dk_at dksX6_holes_0 19 rfl rfl)
theorem dX6_holes_20 : decode cX6_holes 20 = .ok (.invokestatic 57, 3) := dk_184 0 57 (dk_at dksX6_holes_0 20 rfl rfl)
theorem dX6_holes_23 : decode cX6_holes 23 = .ok (.iadd, 1) := dk_96 (dk_at dksX6_holes_0 23 rfl rfl)
theorem dX6_holes_24 : decode cX6_holes 24 = .ok (.istore_n 1, 1) := dk_60 (dk_at dksX6_holes_1 0 rfl rfl)
theorem dX6_holes_25 : decode cX6_holes 25 = .ok (.iinc 2 1, 3) := dk_132 2 1 (dk_at dksX6_holes_1 1 rfl rfl)
theorem dX6_holes_28 : decode cX6_holes 28 = .ok (.goto (-24), 3) := dk_167 255 232 (dk_at dksX6_holes_1 4 rfl rfl)
theorem dX6_holes_31 : decode cX6_holes 31 = .ok (.iload_n 1, 1) := dk_27 (dk_at dksX6_holes_1 7 rfl rfl)
theorem dX6_holes_32 : decode cX6_holes 32 = .ok (.ireturn, 1) := dk_172 (dk_at dksX6_holes_1 8 rfl rfl)
abbrev cX6_span : ByteArray := prog_18_method_114_code
def yX6_span : MethodName := ⟨RX6, "span", "(IZ)I"⟩
def dkwX6_span_4 : List UInt8 := [184, 0, 243, 62, 132, 4, 1, 167, 255, 195, 29, 172]
abbrev dktX6_span_4 : List UInt8 := dkwX6_span_4 ++ []
def dkwX6_span_3 : List UInt8 := [160, 0, 8, 21, 5, 167, 0, 22, 28, 153, 0, 12, 29, 21, 5, 184, 0, 249, 167, 0, 9, 29, 21, 5]
abbrev dktX6_span_3 : List UInt8 := dkwX6_span_3 ++ dktX6_span_4
def dkwX6_span_2 : List UInt8 := [180, 0, 7, 16, 15, 21, 4, 79, 42, 27, 4, 182, 1, 32, 54, 5, 42, 182, 0, 169, 29, 2]
abbrev dktX6_span_2 : List UInt8 := dkwX6_span_2 ++ dktX6_span_3
def dkwX6_span_1 : List UInt8 := [158, 0, 5, 3, 172, 42, 182, 0, 159, 2, 62, 4, 54, 4, 21, 4, 16, 6, 163, 0, 60, 42]
abbrev dktX6_span_1 : List UInt8 := dkwX6_span_1 ++ dktX6_span_2
def dkwX6_span_0 : List UInt8 := [42, 27, 3, 16, 60, 184, 0, 45, 154, 0, 7, 4, 167, 0, 4, 3, 181, 0, 42, 42, 180, 0, 42]
abbrev dktX6_span_0 : List UInt8 := dkwX6_span_0 ++ dktX6_span_1
theorem dksX6_span_0 : cX6_span.data.toList.drop 0 = dktX6_span_0 := by decide +kernel
theorem dksX6_span_1 : cX6_span.data.toList.drop 23 = dktX6_span_1 := dk_seg dksX6_span_0 23 rfl rfl
theorem dksX6_span_2 : cX6_span.data.toList.drop 45 = dktX6_span_2 := dk_seg dksX6_span_1 22 rfl rfl
theorem dksX6_span_3 : cX6_span.data.toList.drop 67 = dktX6_span_3 := dk_seg dksX6_span_2 22 rfl rfl
theorem dksX6_span_4 : cX6_span.data.toList.drop 91 = dktX6_span_4 := dk_seg dksX6_span_3 24 rfl rfl
theorem dX6_span_0 : decode cX6_span 0 = .ok (.aload_n 0, 1) := dk_42 (dk_at dksX6_span_0 0 rfl rfl)
theorem dX6_span_1 : decode cX6_span 1 = .ok (.iload_n 1, 1) := dk_27 (dk_at dksX6_span_0 1 rfl rfl)
theorem dX6_span_2 : decode cX6_span 2 = .ok (.iconst 0, 1) := dk_3 (dk_at dksX6_span_0 2 rfl rfl)
theorem dX6_span_3 : decode cX6_span 3 = .ok (.bipush 60, 2) := dk_16 60 (dk_at dksX6_span_0 3 rfl rfl)
theorem dX6_span_5 : decode cX6_span 5 = .ok (.invokestatic 45, 3) := dk_184 0 45 (dk_at dksX6_span_0 5 rfl rfl)
theorem dX6_span_8 : decode cX6_span 8 = .ok (.ifCond .ne 7, 3) := dk_154 0 7 (dk_at dksX6_span_0 8 rfl rfl)
theorem dX6_span_11 : decode cX6_span 11 = .ok (.iconst 1, 1) := dk_4 (dk_at dksX6_span_0 11 rfl rfl)
theorem dX6_span_12 : decode cX6_span 12 = .ok (.goto 4, 3) := dk_167 0 4 (dk_at dksX6_span_0 12 rfl rfl)
theorem dX6_span_15 : decode cX6_span 15 = .ok (.iconst 0, 1) := dk_3 (dk_at dksX6_span_0 15 rfl rfl)
theorem dX6_span_16 : decode cX6_span 16 = .ok (.putfield 42, 3) := dk_181 0 42 (dk_at dksX6_span_0 16 rfl rfl)
theorem dX6_span_19 : decode cX6_span 19 = .ok (.aload_n 0, 1) := dk_42 (dk_at dksX6_span_0 19 rfl rfl)
theorem dX6_span_20 : decode cX6_span 20 = .ok (.getfield 42, 3) := dk_180 0 42 (dk_at dksX6_span_0 20 rfl rfl)
theorem dX6_span_23 : decode cX6_span 23 = .ok (.ifCond .le 5, 3) := dk_158 0 5 (dk_at dksX6_span_1 0 rfl rfl)
theorem dX6_span_26 : decode cX6_span 26 = .ok (.iconst 0, 1) := dk_3 (dk_at dksX6_span_1 3 rfl rfl)
theorem dX6_span_27 : decode cX6_span 27 = .ok (.ireturn, 1) := dk_172 (dk_at dksX6_span_1 4 rfl rfl)
theorem dX6_span_28 : decode cX6_span 28 = .ok (.aload_n 0, 1) := dk_42 (dk_at dksX6_span_1 5 rfl rfl)
theorem dX6_span_29 : decode cX6_span 29 = .ok (.invokevirtual 159, 3) := dk_182 0 159 (dk_at dksX6_span_1 6 rfl rfl)
theorem dX6_span_32 : decode cX6_span 32 = .ok (.iconst (-1), 1) := dk_2 (dk_at dksX6_span_1 9 rfl rfl)
theorem dX6_span_33 : decode cX6_span 33 = .ok (.istore_n 3, 1) := dk_62 (dk_at dksX6_span_1 10 rfl rfl)
theorem dX6_span_34 : decode cX6_span 34 = .ok (.iconst 1, 1) := dk_4 (dk_at dksX6_span_1 11 rfl rfl)
theorem dX6_span_35 : decode cX6_span 35 = .ok (.istore 4, 2) := dk_54 4 (dk_at dksX6_span_1 12 rfl rfl)
theorem dX6_span_37 : decode cX6_span 37 = .ok (.iload 4, 2) := dk_21 4 (dk_at dksX6_span_1 14 rfl rfl)
theorem dX6_span_39 : decode cX6_span 39 = .ok (.bipush 6, 2) := dk_16 6 (dk_at dksX6_span_1 16 rfl rfl)
theorem dX6_span_41 : decode cX6_span 41 = .ok (.if_icmp .gt 60, 3) := dk_163 0 60 (dk_at dksX6_span_1 18 rfl rfl)
theorem dX6_span_44 : decode cX6_span 44 = .ok (.aload_n 0, 1) := dk_42 (dk_at dksX6_span_1 21 rfl rfl)
theorem dX6_span_45 : decode cX6_span 45 = .ok (.getfield 7, 3) := dk_180 0 7 (dk_at dksX6_span_2 0 rfl rfl)
theorem dX6_span_48 : decode cX6_span 48 = .ok (.bipush 15, 2) := dk_16 15 (dk_at dksX6_span_2 3 rfl rfl)
theorem dX6_span_50 : decode cX6_span 50 = .ok (.iload 4, 2) := dk_21 4 (dk_at dksX6_span_2 5 rfl rfl)
theorem dX6_span_52 : decode cX6_span 52 = .ok (.iastore, 1) := dk_79 (dk_at dksX6_span_2 7 rfl rfl)
theorem dX6_span_53 : decode cX6_span 53 = .ok (.aload_n 0, 1) := dk_42 (dk_at dksX6_span_2 8 rfl rfl)
theorem dX6_span_54 : decode cX6_span 54 = .ok (.iload_n 1, 1) := dk_27 (dk_at dksX6_span_2 9 rfl rfl)
theorem dX6_span_55 : decode cX6_span 55 = .ok (.iconst 1, 1) := dk_4 (dk_at dksX6_span_2 10 rfl rfl)
theorem dX6_span_56 : decode cX6_span 56 = .ok (.invokevirtual 288, 3) := dk_182 1 32 (dk_at dksX6_span_2 11 rfl rfl)
theorem dX6_span_59 : decode cX6_span 59 = .ok (.istore 5, 2) := dk_54 5 (dk_at dksX6_span_2 14 rfl rfl)
theorem dX6_span_61 : decode cX6_span 61 = .ok (.aload_n 0, 1) := dk_42 (dk_at dksX6_span_2 16 rfl rfl)
theorem dX6_span_62 : decode cX6_span 62 = .ok (.invokevirtual 169, 3) := dk_182 0 169 (dk_at dksX6_span_2 17 rfl rfl)
theorem dX6_span_65 : decode cX6_span 65 = .ok (.iload_n 3, 1) := dk_29 (dk_at dksX6_span_2 20 rfl rfl)
theorem dX6_span_66 : decode cX6_span 66 = .ok (.iconst (-1), 1) := dk_2 (dk_at dksX6_span_2 21 rfl rfl)
theorem dX6_span_67 : decode cX6_span 67 = .ok (.if_icmp .ne 8, 3) := dk_160 0 8 (dk_at dksX6_span_3 0 rfl rfl)
theorem dX6_span_70 : decode cX6_span 70 = .ok (.iload 5, 2) := dk_21 5 (dk_at dksX6_span_3 3 rfl rfl)
theorem dX6_span_72 : decode cX6_span 72 = .ok (.goto 22, 3) := dk_167 0 22 (dk_at dksX6_span_3 5 rfl rfl)
theorem dX6_span_75 : decode cX6_span 75 = .ok (.iload_n 2, 1) := dk_28 (dk_at dksX6_span_3 8 rfl rfl)
theorem dX6_span_76 : decode cX6_span 76 = .ok (.ifCond .eq 12, 3) := dk_153 0 12 (dk_at dksX6_span_3 9 rfl rfl)
theorem dX6_span_79 : decode cX6_span 79 = .ok (.iload_n 3, 1) := dk_29 (dk_at dksX6_span_3 12 rfl rfl)
theorem dX6_span_80 : decode cX6_span 80 = .ok (.iload 5, 2) := dk_21 5 (dk_at dksX6_span_3 13 rfl rfl)
theorem dX6_span_82 : decode cX6_span 82 = .ok (.invokestatic 249, 3) := dk_184 0 249 (dk_at dksX6_span_3 15 rfl rfl)
theorem dX6_span_85 : decode cX6_span 85 = .ok (.goto 9, 3) := dk_167 0 9 (dk_at dksX6_span_3 18 rfl rfl)
theorem dX6_span_88 : decode cX6_span 88 = .ok (.iload_n 3, 1) := dk_29 (dk_at dksX6_span_3 21 rfl rfl)
theorem dX6_span_89 : decode cX6_span 89 = .ok (.iload 5, 2) := dk_21 5 (dk_at dksX6_span_3 22 rfl rfl)
theorem dX6_span_91 : decode cX6_span 91 = .ok (.invokestatic 243, 3) := dk_184 0 243 (dk_at dksX6_span_4 0 rfl rfl)
theorem dX6_span_94 : decode cX6_span 94 = .ok (.istore_n 3, 1) := dk_62 (dk_at dksX6_span_4 3 rfl rfl)
theorem dX6_span_95 : decode cX6_span 95 = .ok (.iinc 4 1, 3) := dk_132 4 1 (dk_at dksX6_span_4 4 rfl rfl)
theorem dX6_span_98 : decode cX6_span 98 = .ok (.goto (-61), 3) := dk_167 255 195 (dk_at dksX6_span_4 7 rfl rfl)
theorem dX6_span_101 : decode cX6_span 101 = .ok (.iload_n 3, 1) := dk_29 (dk_at dksX6_span_4 10 rfl rfl)
theorem dX6_span_102 : decode cX6_span 102 = .ok (.ireturn, 1) := dk_172 (dk_at dksX6_span_4 11 rfl rfl)
abbrev cX6_led : ByteArray := prog_18_method_116_code
def yX6_led : MethodName := ⟨RX6, "led", "(IZ)I"⟩
def dkwX6_led_3 : List UInt8 := [54, 4, 132, 5, 255, 167, 255, 222, 28, 153, 0, 8, 21, 4, 167, 0, 4, 29, 172]
abbrev dktX6_led_3 : List UInt8 := dkwX6_led_3 ++ []
def dkwX6_led_2 : List UInt8 := [21, 5, 4, 182, 1, 82, 27, 159, 0, 6, 167, 0, 15, 132, 3, 1, 42, 21, 5, 3, 182, 1, 82]
abbrev dktX6_led_2 : List UInt8 := dkwX6_led_2 ++ dktX6_led_3
def dkwX6_led_1 : List UInt8 := [3, 172, 3, 62, 2, 54, 4, 42, 180, 0, 7, 16, 14, 46, 4, 100, 54, 5, 21, 5, 155, 0, 35, 42]
abbrev dktX6_led_1 : List UInt8 := dkwX6_led_1 ++ dktX6_led_2
def dkwX6_led_0 : List UInt8 := [42, 42, 27, 182, 1, 11, 154, 0, 7, 4, 167, 0, 4, 3, 181, 0, 42, 42, 180, 0, 42, 158, 0, 5]
abbrev dktX6_led_0 : List UInt8 := dkwX6_led_0 ++ dktX6_led_1
theorem dksX6_led_0 : cX6_led.data.toList.drop 0 = dktX6_led_0 := by decide +kernel
theorem dksX6_led_1 : cX6_led.data.toList.drop 24 = dktX6_led_1 := dk_seg dksX6_led_0 24 rfl rfl
theorem dksX6_led_2 : cX6_led.data.toList.drop 48 = dktX6_led_2 := dk_seg dksX6_led_1 24 rfl rfl
theorem dksX6_led_3 : cX6_led.data.toList.drop 71 = dktX6_led_3 := dk_seg dksX6_led_2 23 rfl rfl
theorem dX6_led_0 : decode cX6_led 0 = .ok (.aload_n 0, 1) := dk_42 (dk_at dksX6_led_0 0 rfl rfl)
theorem dX6_led_1 : decode cX6_led 1 = .ok (.aload_n 0, 1) := dk_42 (dk_at dksX6_led_0 1 rfl rfl)
theorem dX6_led_2 : decode cX6_led 2 = .ok (.iload_n 1, 1) := dk_27 (dk_at dksX6_led_0 2 rfl rfl)
theorem dX6_led_3 : decode cX6_led 3 = .ok (.invokevirtual 267, 3) := dk_182 1 11 (dk_at dksX6_led_0 3 rfl rfl)
theorem dX6_led_6 : decode cX6_led 6 = .ok (.ifCond .ne 7, 3) := dk_154 0 7 (dk_at dksX6_led_0 6 rfl rfl)
theorem dX6_led_9 : decode cX6_led 9 = .ok (.iconst 1, 1) := dk_4 (dk_at dksX6_led_0 9 rfl rfl)
theorem dX6_led_10 : decode cX6_led 10 = .ok (.goto 4, 3) := dk_167 0 4 (dk_at dksX6_led_0 10 rfl rfl)
theorem dX6_led_13 : decode cX6_led 13 = .ok (.iconst 0, 1) := dk_3 (dk_at dksX6_led_0 13 rfl rfl)
theorem dX6_led_14 : decode cX6_led 14 = .ok (.putfield 42, 3) := dk_181 0 42 (dk_at dksX6_led_0 14 rfl rfl)
theorem dX6_led_17 : decode cX6_led 17 = .ok (.aload_n 0, 1) := dk_42 (dk_at dksX6_led_0 17 rfl rfl)
theorem dX6_led_18 : decode cX6_led 18 = .ok (.getfield 42, 3) := dk_180 0 42 (dk_at dksX6_led_0 18 rfl rfl)
theorem dX6_led_21 : decode cX6_led 21 = .ok (.ifCond .le 5, 3) := dk_158 0 5 (dk_at dksX6_led_0 21 rfl rfl)
theorem dX6_led_24 : decode cX6_led 24 = .ok (.iconst 0, 1) := dk_3 (dk_at dksX6_led_1 0 rfl rfl)
theorem dX6_led_25 : decode cX6_led 25 = .ok (.ireturn, 1) := dk_172 (dk_at dksX6_led_1 1 rfl rfl)
theorem dX6_led_26 : decode cX6_led 26 = .ok (.iconst 0, 1) := dk_3 (dk_at dksX6_led_1 2 rfl rfl)
theorem dX6_led_27 : decode cX6_led 27 = .ok (.istore_n 3, 1) := dk_62 (dk_at dksX6_led_1 3 rfl rfl)
theorem dX6_led_28 : decode cX6_led 28 = .ok (.iconst (-1), 1) := dk_2 (dk_at dksX6_led_1 4 rfl rfl)
theorem dX6_led_29 : decode cX6_led 29 = .ok (.istore 4, 2) := dk_54 4 (dk_at dksX6_led_1 5 rfl rfl)
theorem dX6_led_31 : decode cX6_led 31 = .ok (.aload_n 0, 1) := dk_42 (dk_at dksX6_led_1 7 rfl rfl)
theorem dX6_led_32 : decode cX6_led 32 = .ok (.getfield 7, 3) := dk_180 0 7 (dk_at dksX6_led_1 8 rfl rfl)
theorem dX6_led_35 : decode cX6_led 35 = .ok (.bipush 14, 2) := dk_16 14 (dk_at dksX6_led_1 11 rfl rfl)
theorem dX6_led_37 : decode cX6_led 37 = .ok (.iaload, 1) := dk_46 (dk_at dksX6_led_1 13 rfl rfl)
theorem dX6_led_38 : decode cX6_led 38 = .ok (.iconst 1, 1) := dk_4 (dk_at dksX6_led_1 14 rfl rfl)
theorem dX6_led_39 : decode cX6_led 39 = .ok (.isub, 1) := dk_100 (dk_at dksX6_led_1 15 rfl rfl)
theorem dX6_led_40 : decode cX6_led 40 = .ok (.istore 5, 2) := dk_54 5 (dk_at dksX6_led_1 16 rfl rfl)
theorem dX6_led_42 : decode cX6_led 42 = .ok (.iload 5, 2) := dk_21 5 (dk_at dksX6_led_1 18 rfl rfl)
theorem dX6_led_44 : decode cX6_led 44 = .ok (.ifCond .lt 35, 3) := dk_155 0 35 (dk_at dksX6_led_1 20 rfl rfl)
theorem dX6_led_47 : decode cX6_led 47 = .ok (.aload_n 0, 1) := dk_42 (dk_at dksX6_led_1 23 rfl rfl)
theorem dX6_led_48 : decode cX6_led 48 = .ok (.iload 5, 2) := dk_21 5 (dk_at dksX6_led_2 0 rfl rfl)
theorem dX6_led_50 : decode cX6_led 50 = .ok (.iconst 1, 1) := dk_4 (dk_at dksX6_led_2 2 rfl rfl)
theorem dX6_led_51 : decode cX6_led 51 = .ok (.invokevirtual 338, 3) := dk_182 1 82 (dk_at dksX6_led_2 3 rfl rfl)
theorem dX6_led_54 : decode cX6_led 54 = .ok (.iload_n 1, 1) := dk_27 (dk_at dksX6_led_2 6 rfl rfl)
theorem dX6_led_55 : decode cX6_led 55 = .ok (.if_icmp .eq 6, 3) := dk_159 0 6 (dk_at dksX6_led_2 7 rfl rfl)
theorem dX6_led_58 : decode cX6_led 58 = .ok (.goto 15, 3) := dk_167 0 15 (dk_at dksX6_led_2 10 rfl rfl)
theorem dX6_led_61 : decode cX6_led 61 = .ok (.iinc 3 1, 3) := dk_132 3 1 (dk_at dksX6_led_2 13 rfl rfl)
theorem dX6_led_64 : decode cX6_led 64 = .ok (.aload_n 0, 1) := dk_42 (dk_at dksX6_led_2 16 rfl rfl)
theorem dX6_led_65 : decode cX6_led 65 = .ok (.iload 5, 2) := dk_21 5 (dk_at dksX6_led_2 17 rfl rfl)
theorem dX6_led_67 : decode cX6_led 67 = .ok (.iconst 0, 1) := dk_3 (dk_at dksX6_led_2 19 rfl rfl)
theorem dX6_led_68 : decode cX6_led 68 = .ok (.invokevirtual 338, 3) := dk_182 1 82 (dk_at dksX6_led_2 20 rfl rfl)
theorem dX6_led_71 : decode cX6_led 71 = .ok (.istore 4, 2) := dk_54 4 (dk_at dksX6_led_3 0 rfl rfl)
theorem dX6_led_73 : decode cX6_led 73 = .ok (.iinc 5 (-1), 3) := dk_132 5 255 (dk_at dksX6_led_3 2 rfl rfl)
theorem dX6_led_76 : decode cX6_led 76 = .ok (.goto (-34), 3) := dk_167 255 222 (dk_at dksX6_led_3 5 rfl rfl)
theorem dX6_led_79 : decode cX6_led 79 = .ok (.iload_n 2, 1) := dk_28 (dk_at dksX6_led_3 8 rfl rfl)
theorem dX6_led_80 : decode cX6_led 80 = .ok (.ifCond .eq 8, 3) := dk_153 0 8 (dk_at dksX6_led_3 9 rfl rfl)
theorem dX6_led_83 : decode cX6_led 83 = .ok (.iload 4, 2) := dk_21 4 (dk_at dksX6_led_3 12 rfl rfl)
theorem dX6_led_85 : decode cX6_led 85 = .ok (.goto 4, 3) := dk_167 0 4 (dk_at dksX6_led_3 14 rfl rfl)
theorem dX6_led_88 : decode cX6_led 88 = .ok (.iload_n 3, 1) := dk_29 (dk_at dksX6_led_3 17 rfl rfl)
theorem dX6_led_89 : decode cX6_led 89 = .ok (.ireturn, 1) := dk_172 (dk_at dksX6_led_3 18 rfl rfl)
abbrev cX6_logged : ByteArray := prog_18_method_115_code
def yX6_logged : MethodName := ⟨RX6, "logged", "(II)I"⟩
def dkwX6_logged_0 : List UInt8 := [42, 180, 0, 7, 16, 64, 7, 27, 104, 96, 28, 96, 46, 172]
abbrev dktX6_logged_0 : List UInt8 := dkwX6_logged_0 ++ []
theorem dksX6_logged_0 : cX6_logged.data.toList.drop 0 = dktX6_logged_0 := by decide +kernel
theorem dX6_logged_0 : decode cX6_logged 0 = .ok (.aload_n 0, 1) := dk_42 (dk_at dksX6_logged_0 0 rfl rfl)
theorem dX6_logged_1 : decode cX6_logged 1 = .ok (.getfield 7, 3) := dk_180 0 7 (dk_at dksX6_logged_0 1 rfl rfl)
theorem dX6_logged_4 : decode cX6_logged 4 = .ok (.bipush 64, 2) := dk_16 64 (dk_at dksX6_logged_0 4 rfl rfl)
theorem dX6_logged_6 : decode cX6_logged 6 = .ok (.iconst 4, 1) := dk_7 (dk_at dksX6_logged_0 6 rfl rfl)
theorem dX6_logged_7 : decode cX6_logged 7 = .ok (.iload_n 1, 1) := dk_27 (dk_at dksX6_logged_0 7 rfl rfl)
theorem dX6_logged_8 : decode cX6_logged 8 = .ok (.imul, 1) := dk_104 (dk_at dksX6_logged_0 8 rfl rfl)
theorem dX6_logged_9 : decode cX6_logged 9 = .ok (.iadd, 1) := dk_96 (dk_at dksX6_logged_0 9 rfl rfl)
theorem dX6_logged_10 : decode cX6_logged 10 = .ok (.iload_n 2, 1) := dk_28 (dk_at dksX6_logged_0 10 rfl rfl)
theorem dX6_logged_11 : decode cX6_logged 11 = .ok (.iadd, 1) := dk_96 (dk_at dksX6_logged_0 11 rfl rfl)
theorem dX6_logged_12 : decode cX6_logged 12 = .ok (.iaload, 1) := dk_46 (dk_at dksX6_logged_0 12 rfl rfl)
theorem dX6_logged_13 : decode cX6_logged 13 = .ok (.ireturn, 1) := dk_172 (dk_at dksX6_logged_0 13 rfl rfl)
abbrev cX6_log : ByteArray := prog_18_method_117_code
def yX6_log : MethodName := ⟨RX6, "log", "(II)I"⟩
def dkwX6_log_2 : List UInt8 := [28, 182, 1, 82, 167, 0, 4, 2, 172]
abbrev dktX6_log_2 : List UInt8 := dkwX6_log_2 ++ []
def dkwX6_log_1 : List UInt8 := [158, 0, 5, 3, 172, 27, 3, 42, 180, 0, 7, 16, 14, 46, 4, 100, 184, 0, 45, 153, 0, 12, 42, 27]
abbrev dktX6_log_1 : List UInt8 := dkwX6_log_1 ++ dktX6_log_2
def dkwX6_log_0 : List UInt8 := [42, 28, 3, 6, 184, 0, 45, 154, 0, 7, 4, 167, 0, 4, 3, 181, 0, 42, 42, 180, 0, 42]
abbrev dktX6_log_0 : List UInt8 := dkwX6_log_0 ++ dktX6_log_1
theorem dksX6_log_0 : cX6_log.data.toList.drop 0 = dktX6_log_0 := by decide +kernel
theorem dksX6_log_1 : cX6_log.data.toList.drop 22 = dktX6_log_1 := dk_seg dksX6_log_0 22 rfl rfl
theorem dksX6_log_2 : cX6_log.data.toList.drop 46 = dktX6_log_2 := dk_seg dksX6_log_1 24 rfl rfl
theorem dX6_log_0 : decode cX6_log 0 = .ok (.aload_n 0, 1) := dk_42 (dk_at dksX6_log_0 0 rfl rfl)
theorem dX6_log_1 : decode cX6_log 1 = .ok (.iload_n 2, 1) := dk_28 (dk_at dksX6_log_0 1 rfl rfl)
theorem dX6_log_2 : decode cX6_log 2 = .ok (.iconst 0, 1) := dk_3 (dk_at dksX6_log_0 2 rfl rfl)
theorem dX6_log_3 : decode cX6_log 3 = .ok (.iconst 3, 1) := dk_6 (dk_at dksX6_log_0 3 rfl rfl)
theorem dX6_log_4 : decode cX6_log 4 = .ok (.invokestatic 45, 3) := dk_184 0 45 (dk_at dksX6_log_0 4 rfl rfl)
theorem dX6_log_7 : decode cX6_log 7 = .ok (.ifCond .ne 7, 3) := dk_154 0 7 (dk_at dksX6_log_0 7 rfl rfl)
theorem dX6_log_10 : decode cX6_log 10 = .ok (.iconst 1, 1) := dk_4 (dk_at dksX6_log_0 10 rfl rfl)
theorem dX6_log_11 : decode cX6_log 11 = .ok (.goto 4, 3) := dk_167 0 4 (dk_at dksX6_log_0 11 rfl rfl)
theorem dX6_log_14 : decode cX6_log 14 = .ok (.iconst 0, 1) := dk_3 (dk_at dksX6_log_0 14 rfl rfl)
theorem dX6_log_15 : decode cX6_log 15 = .ok (.putfield 42, 3) := dk_181 0 42 (dk_at dksX6_log_0 15 rfl rfl)
theorem dX6_log_18 : decode cX6_log 18 = .ok (.aload_n 0, 1) := dk_42 (dk_at dksX6_log_0 18 rfl rfl)
theorem dX6_log_19 : decode cX6_log 19 = .ok (.getfield 42, 3) := dk_180 0 42 (dk_at dksX6_log_0 19 rfl rfl)
theorem dX6_log_22 : decode cX6_log 22 = .ok (.ifCond .le 5, 3) := dk_158 0 5 (dk_at dksX6_log_1 0 rfl rfl)
theorem dX6_log_25 : decode cX6_log 25 = .ok (.iconst 0, 1) := dk_3 (dk_at dksX6_log_1 3 rfl rfl)
theorem dX6_log_26 : decode cX6_log 26 = .ok (.ireturn, 1) := dk_172 (dk_at dksX6_log_1 4 rfl rfl)
theorem dX6_log_27 : decode cX6_log 27 = .ok (.iload_n 1, 1) := dk_27 (dk_at dksX6_log_1 5 rfl rfl)
theorem dX6_log_28 : decode cX6_log 28 = .ok (.iconst 0, 1) := dk_3 (dk_at dksX6_log_1 6 rfl rfl)
theorem dX6_log_29 : decode cX6_log 29 = .ok (.aload_n 0, 1) := dk_42 (dk_at dksX6_log_1 7 rfl rfl)
theorem dX6_log_30 : decode cX6_log 30 = .ok (.getfield 7, 3) := dk_180 0 7 (dk_at dksX6_log_1 8 rfl rfl)
theorem dX6_log_33 : decode cX6_log 33 = .ok (.bipush 14, 2) := dk_16 14 (dk_at dksX6_log_1 11 rfl rfl)
theorem dX6_log_35 : decode cX6_log 35 = .ok (.iaload, 1) := dk_46 (dk_at dksX6_log_1 13 rfl rfl)
theorem dX6_log_36 : decode cX6_log 36 = .ok (.iconst 1, 1) := dk_4 (dk_at dksX6_log_1 14 rfl rfl)
theorem dX6_log_37 : decode cX6_log 37 = .ok (.isub, 1) := dk_100 (dk_at dksX6_log_1 15 rfl rfl)
theorem dX6_log_38 : decode cX6_log 38 = .ok (.invokestatic 45, 3) := dk_184 0 45 (dk_at dksX6_log_1 16 rfl rfl)
theorem dX6_log_41 : decode cX6_log 41 = .ok (.ifCond .eq 12, 3) := dk_153 0 12 (dk_at dksX6_log_1 19 rfl rfl)
theorem dX6_log_44 : decode cX6_log 44 = .ok (.aload_n 0, 1) := dk_42 (dk_at dksX6_log_1 22 rfl rfl)
theorem dX6_log_45 : decode cX6_log 45 = .ok (.iload_n 1, 1) := dk_27 (dk_at dksX6_log_1 23 rfl rfl)
theorem dX6_log_46 : decode cX6_log 46 = .ok (.iload_n 2, 1) := dk_28 (dk_at dksX6_log_2 0 rfl rfl)
theorem dX6_log_47 : decode cX6_log 47 = .ok (.invokevirtual 338, 3) := dk_182 1 82 (dk_at dksX6_log_2 1 rfl rfl)
theorem dX6_log_50 : decode cX6_log 50 = .ok (.goto 4, 3) := dk_167 0 4 (dk_at dksX6_log_2 4 rfl rfl)
theorem dX6_log_53 : decode cX6_log 53 = .ok (.iconst (-1), 1) := dk_2 (dk_at dksX6_log_2 7 rfl rfl)
theorem dX6_log_54 : decode cX6_log 54 = .ok (.ireturn, 1) := dk_172 (dk_at dksX6_log_2 8 rfl rfl)
abbrev cX6_seed : ByteArray := prog_18_method_118_code
def yX6_seed : MethodName := ⟨RX6, "seed", "(I)I"⟩
def dkwX6_seed_0 : List UInt8 := [42, 3, 181, 0, 42, 42, 180, 0, 7, 16, 15, 46, 61, 42, 180, 0, 7, 16, 15, 27, 79, 28, 172]
abbrev dktX6_seed_0 : List UInt8 := dkwX6_seed_0 ++ []
theorem dksX6_seed_0 : cX6_seed.data.toList.drop 0 = dktX6_seed_0 := by decide +kernel
theorem dX6_seed_0 : decode cX6_seed 0 = .ok (.aload_n 0, 1) := dk_42 (dk_at dksX6_seed_0 0 rfl rfl)
theorem dX6_seed_1 : decode cX6_seed 1 = .ok (.iconst 0, 1) := dk_3 (dk_at dksX6_seed_0 1 rfl rfl)
theorem dX6_seed_2 : decode cX6_seed 2 = .ok (.putfield 42, 3) := dk_181 0 42 (dk_at dksX6_seed_0 2 rfl rfl)
theorem dX6_seed_5 : decode cX6_seed 5 = .ok (.aload_n 0, 1) := dk_42 (dk_at dksX6_seed_0 5 rfl rfl)
theorem dX6_seed_6 : decode cX6_seed 6 = .ok (.getfield 7, 3) := dk_180 0 7 (dk_at dksX6_seed_0 6 rfl rfl)
theorem dX6_seed_9 : decode cX6_seed 9 = .ok (.bipush 15, 2) := dk_16 15 (dk_at dksX6_seed_0 9 rfl rfl)
theorem dX6_seed_11 : decode cX6_seed 11 = .ok (.iaload, 1) := dk_46 (dk_at dksX6_seed_0 11 rfl rfl)
theorem dX6_seed_12 : decode cX6_seed 12 = .ok (.istore_n 2, 1) := dk_61 (dk_at dksX6_seed_0 12 rfl rfl)
theorem dX6_seed_13 : decode cX6_seed 13 = .ok (.aload_n 0, 1) := dk_42 (dk_at dksX6_seed_0 13 rfl rfl)
theorem dX6_seed_14 : decode cX6_seed 14 = .ok (.getfield 7, 3) := dk_180 0 7 (dk_at dksX6_seed_0 14 rfl rfl)
theorem dX6_seed_17 : decode cX6_seed 17 = .ok (.bipush 15, 2) := dk_16 15 (dk_at dksX6_seed_0 17 rfl rfl)
theorem dX6_seed_19 : decode cX6_seed 19 = .ok (.iload_n 1, 1) := dk_27 (dk_at dksX6_seed_0 19 rfl rfl)
theorem dX6_seed_20 : decode cX6_seed 20 = .ok (.iastore, 1) := dk_79 (dk_at dksX6_seed_0 20 rfl rfl)
theorem dX6_seed_21 : decode cX6_seed 21 = .ok (.iload_n 2, 1) := dk_28 (dk_at dksX6_seed_0 21 rfl rfl)
theorem dX6_seed_22 : decode cX6_seed 22 = .ok (.ireturn, 1) := dk_172 (dk_at dksX6_seed_0 22 rfl rfl)
abbrev cX6_undo : ByteArray := prog_18_method_119_code
def yX6_undo : MethodName := ⟨RX6, "undo", "()Z"⟩
def dkwX6_undo_2 : List UInt8 := [180, 0, 172, 104, 27, 96, 46, 79, 132, 1, 1, 167, 255, 225, 4, 172]
abbrev dktX6_undo_2 : List UInt8 := dkwX6_undo_2 ++ []
def dkwX6_undo_1 : List UInt8 := [3, 60, 27, 17, 1, 48, 162, 0, 30, 42, 180, 0, 7, 27, 42, 180, 0, 19, 17, 1, 48, 42]
abbrev dktX6_undo_1 : List UInt8 := dkwX6_undo_1 ++ dktX6_undo_2
def dkwX6_undo_0 : List UInt8 := [42, 3, 181, 0, 42, 42, 180, 0, 172, 154, 0, 5, 3, 172, 42, 89, 180, 0, 172, 4, 100, 181, 0, 172]
abbrev dktX6_undo_0 : List UInt8 := dkwX6_undo_0 ++ dktX6_undo_1
theorem dksX6_undo_0 : cX6_undo.data.toList.drop 0 = dktX6_undo_0 := by decide +kernel
theorem dksX6_undo_1 : cX6_undo.data.toList.drop 24 = dktX6_undo_1 := dk_seg dksX6_undo_0 24 rfl rfl
theorem dksX6_undo_2 : cX6_undo.data.toList.drop 46 = dktX6_undo_2 := dk_seg dksX6_undo_1 22 rfl rfl
theorem dX6_undo_0 : decode cX6_undo 0 = .ok (.aload_n 0, 1) := dk_42 (dk_at dksX6_undo_0 0 rfl rfl)
theorem dX6_undo_1 : decode cX6_undo 1 = .ok (.iconst 0, 1) := dk_3 (dk_at dksX6_undo_0 1 rfl rfl)
theorem dX6_undo_2 : decode cX6_undo 2 = .ok (.putfield 42, 3) := dk_181 0 42 (dk_at dksX6_undo_0 2 rfl rfl)
theorem dX6_undo_5 : decode cX6_undo 5 = .ok (.aload_n 0, 1) := dk_42 (dk_at dksX6_undo_0 5 rfl rfl)
theorem dX6_undo_6 : decode cX6_undo 6 = .ok (.getfield 172, 3) := dk_180 0 172 (dk_at dksX6_undo_0 6 rfl rfl)
theorem dX6_undo_9 : decode cX6_undo 9 = .ok (.ifCond .ne 5, 3) := dk_154 0 5 (dk_at dksX6_undo_0 9 rfl rfl)
theorem dX6_undo_12 : decode cX6_undo 12 = .ok (.iconst 0, 1) := dk_3 (dk_at dksX6_undo_0 12 rfl rfl)
theorem dX6_undo_13 : decode cX6_undo 13 = .ok (.ireturn, 1) := dk_172 (dk_at dksX6_undo_0 13 rfl rfl)
theorem dX6_undo_14 : decode cX6_undo 14 = .ok (.aload_n 0, 1) := dk_42 (dk_at dksX6_undo_0 14 rfl rfl)
theorem dX6_undo_15 : decode cX6_undo 15 = .ok (.dup, 1) := dk_89 (dk_at dksX6_undo_0 15 rfl rfl)
theorem dX6_undo_16 : decode cX6_undo 16 = .ok (.getfield 172, 3) := dk_180 0 172 (dk_at dksX6_undo_0 16 rfl rfl)
theorem dX6_undo_19 : decode cX6_undo 19 = .ok (.iconst 1, 1) := dk_4 (dk_at dksX6_undo_0 19 rfl rfl)
theorem dX6_undo_20 : decode cX6_undo 20 = .ok (.isub, 1) := dk_100 (dk_at dksX6_undo_0 20 rfl rfl)
theorem dX6_undo_21 : decode cX6_undo 21 = .ok (.putfield 172, 3) := dk_181 0 172 (dk_at dksX6_undo_0 21 rfl rfl)
theorem dX6_undo_24 : decode cX6_undo 24 = .ok (.iconst 0, 1) := dk_3 (dk_at dksX6_undo_1 0 rfl rfl)
theorem dX6_undo_25 : decode cX6_undo 25 = .ok (.istore_n 1, 1) := dk_60 (dk_at dksX6_undo_1 1 rfl rfl)
theorem dX6_undo_26 : decode cX6_undo 26 = .ok (.iload_n 1, 1) := dk_27 (dk_at dksX6_undo_1 2 rfl rfl)
theorem dX6_undo_27 : decode cX6_undo 27 = .ok (.sipush 304, 3) := dk_17 1 48 (dk_at dksX6_undo_1 3 rfl rfl)
theorem dX6_undo_30 : decode cX6_undo 30 = .ok (.if_icmp .ge 30, 3) := dk_162 0 30 (dk_at dksX6_undo_1 6 rfl rfl)
theorem dX6_undo_33 : decode cX6_undo 33 = .ok (.aload_n 0, 1) := dk_42 (dk_at dksX6_undo_1 9 rfl rfl)
theorem dX6_undo_34 : decode cX6_undo 34 = .ok (.getfield 7, 3) := dk_180 0 7 (dk_at dksX6_undo_1 10 rfl rfl)
theorem dX6_undo_37 : decode cX6_undo 37 = .ok (.iload_n 1, 1) := dk_27 (dk_at dksX6_undo_1 13 rfl rfl)
theorem dX6_undo_38 : decode cX6_undo 38 = .ok (.aload_n 0, 1) := dk_42 (dk_at dksX6_undo_1 14 rfl rfl)
theorem dX6_undo_39 : decode cX6_undo 39 = .ok (.getfield 19, 3) := dk_180 0 19 (dk_at dksX6_undo_1 15 rfl rfl)
theorem dX6_undo_42 : decode cX6_undo 42 = .ok (.sipush 304, 3) := dk_17 1 48 (dk_at dksX6_undo_1 18 rfl rfl)
theorem dX6_undo_45 : decode cX6_undo 45 = .ok (.aload_n 0, 1) := dk_42 (dk_at dksX6_undo_1 21 rfl rfl)
theorem dX6_undo_46 : decode cX6_undo 46 = .ok (.getfield 172, 3) := dk_180 0 172 (dk_at dksX6_undo_2 0 rfl rfl)
theorem dX6_undo_49 : decode cX6_undo 49 = .ok (.imul, 1) := dk_104 (dk_at dksX6_undo_2 3 rfl rfl)
theorem dX6_undo_50 : decode cX6_undo 50 = .ok (.iload_n 1, 1) := dk_27 (dk_at dksX6_undo_2 4 rfl rfl)
theorem dX6_undo_51 : decode cX6_undo 51 = .ok (.iadd, 1) := dk_96 (dk_at dksX6_undo_2 5 rfl rfl)
theorem dX6_undo_52 : decode cX6_undo 52 = .ok (.iaload, 1) := dk_46 (dk_at dksX6_undo_2 6 rfl rfl)
theorem dX6_undo_53 : decode cX6_undo 53 = .ok (.iastore, 1) := dk_79 (dk_at dksX6_undo_2 7 rfl rfl)
theorem dX6_undo_54 : decode cX6_undo 54 = .ok (.iinc 1 1, 3) := dk_132 1 1 (dk_at dksX6_undo_2 8 rfl rfl)
theorem dX6_undo_57 : decode cX6_undo 57 = .ok (.goto (-31), 3) := dk_167 255 225 (dk_at dksX6_undo_2 11 rfl rfl)
theorem dX6_undo_60 : decode cX6_undo 60 = .ok (.iconst 1, 1) := dk_4 (dk_at dksX6_undo_2 14 rfl rfl)
theorem dX6_undo_61 : decode cX6_undo 61 = .ok (.ireturn, 1) := dk_172 (dk_at dksX6_undo_2 15 rfl rfl)
abbrev cX6_image : ByteArray := prog_18_method_120_code
def yX6_image : MethodName := ⟨RX6, "image", "()V"⟩
def dkwX6_image_1 : List UInt8 := [46, 79, 132, 1, 1, 167, 255, 234, 42, 4, 181, 1, 85, 177]
abbrev dktX6_image_1 : List UInt8 := dkwX6_image_1 ++ []
def dkwX6_image_0 : List UInt8 := [42, 3, 181, 0, 42, 3, 60, 27, 17, 2, 192, 162, 0, 21, 42, 180, 0, 13, 27, 42, 180, 0, 7, 27]
abbrev dktX6_image_0 : List UInt8 := dkwX6_image_0 ++ dktX6_image_1
theorem dksX6_image_0 : cX6_image.data.toList.drop 0 = dktX6_image_0 := by decide +kernel
theorem dksX6_image_1 : cX6_image.data.toList.drop 24 = dktX6_image_1 := dk_seg dksX6_image_0 24 rfl rfl
theorem dX6_image_0 : decode cX6_image 0 = .ok (.aload_n 0, 1) := dk_42 (dk_at dksX6_image_0 0 rfl rfl)
theorem dX6_image_1 : decode cX6_image 1 = .ok (.iconst 0, 1) := dk_3 (dk_at dksX6_image_0 1 rfl rfl)
theorem dX6_image_2 : decode cX6_image 2 = .ok (.putfield 42, 3) := dk_181 0 42 (dk_at dksX6_image_0 2 rfl rfl)
theorem dX6_image_5 : decode cX6_image 5 = .ok (.iconst 0, 1) := dk_3 (dk_at dksX6_image_0 5 rfl rfl)
theorem dX6_image_6 : decode cX6_image 6 = .ok (.istore_n 1, 1) := dk_60 (dk_at dksX6_image_0 6 rfl rfl)
theorem dX6_image_7 : decode cX6_image 7 = .ok (.iload_n 1, 1) := dk_27 (dk_at dksX6_image_0 7 rfl rfl)
theorem dX6_image_8 : decode cX6_image 8 = .ok (.sipush 704, 3) := dk_17 2 192 (dk_at dksX6_image_0 8 rfl rfl)
theorem dX6_image_11 : decode cX6_image 11 = .ok (.if_icmp .ge 21, 3) := dk_162 0 21 (dk_at dksX6_image_0 11 rfl rfl)
theorem dX6_image_14 : decode cX6_image 14 = .ok (.aload_n 0, 1) := dk_42 (dk_at dksX6_image_0 14 rfl rfl)
theorem dX6_image_15 : decode cX6_image 15 = .ok (.getfield 13, 3) := dk_180 0 13 (dk_at dksX6_image_0 15 rfl rfl)
theorem dX6_image_18 : decode cX6_image 18 = .ok (.iload_n 1, 1) := dk_27 (dk_at dksX6_image_0 18 rfl rfl)
theorem dX6_image_19 : decode cX6_image 19 = .ok (.aload_n 0, 1) := dk_42 (dk_at dksX6_image_0 19 rfl rfl)
theorem dX6_image_20 : decode cX6_image 20 = .ok (.getfield 7, 3) := dk_180 0 7 (dk_at dksX6_image_0 20 rfl rfl)
theorem dX6_image_23 : decode cX6_image 23 = .ok (.iload_n 1, 1) := dk_27 (dk_at dksX6_image_0 23 rfl rfl)
theorem dX6_image_24 : decode cX6_image 24 = .ok (.iaload, 1) := dk_46 (dk_at dksX6_image_1 0 rfl rfl)
theorem dX6_image_25 : decode cX6_image 25 = .ok (.iastore, 1) := dk_79 (dk_at dksX6_image_1 1 rfl rfl)
theorem dX6_image_26 : decode cX6_image 26 = .ok (.iinc 1 1, 3) := dk_132 1 1 (dk_at dksX6_image_1 2 rfl rfl)
theorem dX6_image_29 : decode cX6_image 29 = .ok (.goto (-22), 3) := dk_167 255 234 (dk_at dksX6_image_1 5 rfl rfl)
theorem dX6_image_32 : decode cX6_image 32 = .ok (.aload_n 0, 1) := dk_42 (dk_at dksX6_image_1 8 rfl rfl)
theorem dX6_image_33 : decode cX6_image 33 = .ok (.iconst 1, 1) := dk_4 (dk_at dksX6_image_1 9 rfl rfl)
theorem dX6_image_34 : decode cX6_image 34 = .ok (.putfield 341, 3) := dk_181 1 85 (dk_at dksX6_image_1 10 rfl rfl)
theorem dX6_image_37 : decode cX6_image 37 = .ok (.return_, 1) := dk_177 (dk_at dksX6_image_1 13 rfl rfl)
abbrev cX6_back : ByteArray := prog_18_method_121_code
def yX6_back : MethodName := ⟨RX6, "back", "()Z"⟩
def dkwX6_back_1 : List UInt8 := [180, 0, 7, 27, 42, 180, 0, 13, 27, 46, 79, 132, 1, 1, 167, 255, 234, 42, 3, 181, 0, 172, 4, 172]
abbrev dktX6_back_1 : List UInt8 := dkwX6_back_1 ++ []
def dkwX6_back_0 : List UInt8 := [42, 3, 181, 0, 42, 42, 180, 1, 85, 154, 0, 5, 3, 172, 3, 60, 27, 17, 2, 192, 162, 0, 21, 42]
abbrev dktX6_back_0 : List UInt8 := dkwX6_back_0 ++ dktX6_back_1
theorem dksX6_back_0 : cX6_back.data.toList.drop 0 = dktX6_back_0 := by decide +kernel
theorem dksX6_back_1 : cX6_back.data.toList.drop 24 = dktX6_back_1 := dk_seg dksX6_back_0 24 rfl rfl
theorem dX6_back_0 : decode cX6_back 0 = .ok (.aload_n 0, 1) := dk_42 (dk_at dksX6_back_0 0 rfl rfl)
theorem dX6_back_1 : decode cX6_back 1 = .ok (.iconst 0, 1) := dk_3 (dk_at dksX6_back_0 1 rfl rfl)
theorem dX6_back_2 : decode cX6_back 2 = .ok (.putfield 42, 3) := dk_181 0 42 (dk_at dksX6_back_0 2 rfl rfl)
theorem dX6_back_5 : decode cX6_back 5 = .ok (.aload_n 0, 1) := dk_42 (dk_at dksX6_back_0 5 rfl rfl)
theorem dX6_back_6 : decode cX6_back 6 = .ok (.getfield 341, 3) := dk_180 1 85 (dk_at dksX6_back_0 6 rfl rfl)
theorem dX6_back_9 : decode cX6_back 9 = .ok (.ifCond .ne 5, 3) := dk_154 0 5 (dk_at dksX6_back_0 9 rfl rfl)
theorem dX6_back_12 : decode cX6_back 12 = .ok (.iconst 0, 1) := dk_3 (dk_at dksX6_back_0 12 rfl rfl)
theorem dX6_back_13 : decode cX6_back 13 = .ok (.ireturn, 1) := dk_172 (dk_at dksX6_back_0 13 rfl rfl)
theorem dX6_back_14 : decode cX6_back 14 = .ok (.iconst 0, 1) := dk_3 (dk_at dksX6_back_0 14 rfl rfl)
theorem dX6_back_15 : decode cX6_back 15 = .ok (.istore_n 1, 1) := dk_60 (dk_at dksX6_back_0 15 rfl rfl)
theorem dX6_back_16 : decode cX6_back 16 = .ok (.iload_n 1, 1) := dk_27 (dk_at dksX6_back_0 16 rfl rfl)
theorem dX6_back_17 : decode cX6_back 17 = .ok (.sipush 704, 3) := dk_17 2 192 (dk_at dksX6_back_0 17 rfl rfl)
theorem dX6_back_20 : decode cX6_back 20 = .ok (.if_icmp .ge 21, 3) := dk_162 0 21 (dk_at dksX6_back_0 20 rfl rfl)
theorem dX6_back_23 : decode cX6_back 23 = .ok (.aload_n 0, 1) := dk_42 (dk_at dksX6_back_0 23 rfl rfl)
theorem dX6_back_24 : decode cX6_back 24 = .ok (.getfield 7, 3) := dk_180 0 7 (dk_at dksX6_back_1 0 rfl rfl)
theorem dX6_back_27 : decode cX6_back 27 = .ok (.iload_n 1, 1) := dk_27 (dk_at dksX6_back_1 3 rfl rfl)
theorem dX6_back_28 : decode cX6_back 28 = .ok (.aload_n 0, 1) := dk_42 (dk_at dksX6_back_1 4 rfl rfl)
theorem dX6_back_29 : decode cX6_back 29 = .ok (.getfield 13, 3) := dk_180 0 13 (dk_at dksX6_back_1 5 rfl rfl)
theorem dX6_back_32 : decode cX6_back 32 = .ok (.iload_n 1, 1) := dk_27 (dk_at dksX6_back_1 8 rfl rfl)
theorem dX6_back_33 : decode cX6_back 33 = .ok (.iaload, 1) := dk_46 (dk_at dksX6_back_1 9 rfl rfl)
theorem dX6_back_34 : decode cX6_back 34 = .ok (.iastore, 1) := dk_79 (dk_at dksX6_back_1 10 rfl rfl)
theorem dX6_back_35 : decode cX6_back 35 = .ok (.iinc 1 1, 3) := dk_132 1 1 (dk_at dksX6_back_1 11 rfl rfl)
theorem dX6_back_38 : decode cX6_back 38 = .ok (.goto (-22), 3) := dk_167 255 234 (dk_at dksX6_back_1 14 rfl rfl)
theorem dX6_back_41 : decode cX6_back 41 = .ok (.aload_n 0, 1) := dk_42 (dk_at dksX6_back_1 17 rfl rfl)
theorem dX6_back_42 : decode cX6_back 42 = .ok (.iconst 0, 1) := dk_3 (dk_at dksX6_back_1 18 rfl rfl)
theorem dX6_back_43 : decode cX6_back 43 = .ok (.putfield 172, 3) := dk_181 0 172 (dk_at dksX6_back_1 19 rfl rfl)
theorem dX6_back_46 : decode cX6_back 46 = .ok (.iconst 1, 1) := dk_4 (dk_at dksX6_back_1 22 rfl rfl)
theorem dX6_back_47 : decode cX6_back 47 = .ok (.ireturn, 1) := dk_172 (dk_at dksX6_back_1 23 rfl rfl)
abbrev cX6_count : ByteArray := prog_18_method_123_code
def yX6_count : MethodName := ⟨RX6, "count", "(I)I"⟩
def dkwX6_count_6 : List UInt8 := [42, 180, 0, 172, 167, 0, 4, 2, 172]
abbrev dktX6_count_6 : List UInt8 := dkwX6_count_6 ++ []
def dkwX6_count_5 : List UInt8 := [182, 1, 14, 172, 27, 16, 14, 160, 0, 11, 42, 180, 0, 7, 16, 14, 46, 172, 27, 16, 15, 160, 0, 10]
abbrev dktX6_count_5 : List UInt8 := dkwX6_count_5 ++ dktX6_count_6
def dkwX6_count_4 : List UInt8 := [42, 182, 1, 80, 172, 27, 16, 12, 160, 0, 8, 42, 182, 1, 88, 172, 27, 16, 13, 160, 0, 8, 42]
abbrev dktX6_count_4 : List UInt8 := dkwX6_count_4 ++ dktX6_count_5
def dkwX6_count_3 : List UInt8 := [7, 100, 46, 172, 27, 16, 10, 160, 0, 11, 42, 180, 0, 7, 16, 11, 46, 172, 27, 16, 11, 160, 0, 8]
abbrev dktX6_count_3 : List UInt8 := dkwX6_count_3 ++ dktX6_count_4
def dkwX6_count_2 : List UInt8 := [180, 0, 7, 16, 10, 46, 172, 27, 7, 16, 9, 184, 0, 45, 153, 0, 14, 42, 180, 0, 7, 7, 27, 96]
abbrev dktX6_count_2 : List UInt8 := dkwX6_count_2 ++ dktX6_count_3
def dkwX6_count_1 : List UInt8 := [180, 0, 7, 3, 46, 172, 27, 5, 160, 0, 10, 42, 180, 0, 7, 4, 46, 172, 27, 6, 160, 0, 11, 42]
abbrev dktX6_count_1 : List UInt8 := dkwX6_count_1 ++ dktX6_count_2
def dkwX6_count_0 : List UInt8 := [42, 3, 181, 0, 42, 27, 154, 0, 10, 42, 180, 0, 7, 6, 46, 172, 27, 4, 160, 0, 10, 42]
abbrev dktX6_count_0 : List UInt8 := dkwX6_count_0 ++ dktX6_count_1
theorem dksX6_count_0 : cX6_count.data.toList.drop 0 = dktX6_count_0 := by decide +kernel
theorem dksX6_count_1 : cX6_count.data.toList.drop 22 = dktX6_count_1 := dk_seg dksX6_count_0 22 rfl rfl
theorem dksX6_count_2 : cX6_count.data.toList.drop 46 = dktX6_count_2 := dk_seg dksX6_count_1 24 rfl rfl
theorem dksX6_count_3 : cX6_count.data.toList.drop 70 = dktX6_count_3 := dk_seg dksX6_count_2 24 rfl rfl
theorem dksX6_count_4 : cX6_count.data.toList.drop 94 = dktX6_count_4 := dk_seg dksX6_count_3 24 rfl rfl
theorem dksX6_count_5 : cX6_count.data.toList.drop 117 = dktX6_count_5 := dk_seg dksX6_count_4 23 rfl rfl
theorem dksX6_count_6 : cX6_count.data.toList.drop 141 = dktX6_count_6 := dk_seg dksX6_count_5 24 rfl rfl
theorem dX6_count_0 : decode cX6_count 0 = .ok (.aload_n 0, 1) := dk_42 (dk_at dksX6_count_0 0 rfl rfl)
theorem dX6_count_1 : decode cX6_count 1 = .ok (.iconst 0, 1) := dk_3 (dk_at dksX6_count_0 1 rfl rfl)
theorem dX6_count_2 : decode cX6_count 2 = .ok (.putfield 42, 3) := dk_181 0 42 (dk_at dksX6_count_0 2 rfl rfl)
theorem dX6_count_5 : decode cX6_count 5 = .ok (.iload_n 1, 1) := dk_27 (dk_at dksX6_count_0 5 rfl rfl)
theorem dX6_count_6 : decode cX6_count 6 = .ok (.ifCond .ne 10, 3) := dk_154 0 10 (dk_at dksX6_count_0 6 rfl rfl)
theorem dX6_count_9 : decode cX6_count 9 = .ok (.aload_n 0, 1) := dk_42 (dk_at dksX6_count_0 9 rfl rfl)
theorem dX6_count_10 : decode cX6_count 10 = .ok (.getfield 7, 3) := dk_180 0 7 (dk_at dksX6_count_0 10 rfl rfl)
theorem dX6_count_13 : decode cX6_count 13 = .ok (.iconst 3, 1) := dk_6 (dk_at dksX6_count_0 13 rfl rfl)
theorem dX6_count_14 : decode cX6_count 14 = .ok (.iaload, 1) := dk_46 (dk_at dksX6_count_0 14 rfl rfl)
theorem dX6_count_15 : decode cX6_count 15 = .ok (.ireturn, 1) := dk_172 (dk_at dksX6_count_0 15 rfl rfl)
theorem dX6_count_16 : decode cX6_count 16 = .ok (.iload_n 1, 1) := dk_27 (dk_at dksX6_count_0 16 rfl rfl)
theorem dX6_count_17 : decode cX6_count 17 = .ok (.iconst 1, 1) := dk_4 (dk_at dksX6_count_0 17 rfl rfl)
theorem dX6_count_18 : decode cX6_count 18 = .ok (.if_icmp .ne 10, 3) := dk_160 0 10 (dk_at dksX6_count_0 18 rfl rfl)
theorem dX6_count_21 : decode cX6_count 21 = .ok (.aload_n 0, 1) := dk_42 (dk_at dksX6_count_0 21 rfl rfl)
theorem dX6_count_22 : decode cX6_count 22 = .ok (.getfield 7, 3) := dk_180 0 7 (dk_at dksX6_count_1 0 rfl rfl)
theorem dX6_count_25 : decode cX6_count 25 = .ok (.iconst 0, 1) := dk_3 (dk_at dksX6_count_1 3 rfl rfl)
theorem dX6_count_26 : decode cX6_count 26 = .ok (.iaload, 1) := dk_46 (dk_at dksX6_count_1 4 rfl rfl)
theorem dX6_count_27 : decode cX6_count 27 = .ok (.ireturn, 1) := dk_172 (dk_at dksX6_count_1 5 rfl rfl)
theorem dX6_count_28 : decode cX6_count 28 = .ok (.iload_n 1, 1) := dk_27 (dk_at dksX6_count_1 6 rfl rfl)
theorem dX6_count_29 : decode cX6_count 29 = .ok (.iconst 2, 1) := dk_5 (dk_at dksX6_count_1 7 rfl rfl)
theorem dX6_count_30 : decode cX6_count 30 = .ok (.if_icmp .ne 10, 3) := dk_160 0 10 (dk_at dksX6_count_1 8 rfl rfl)
theorem dX6_count_33 : decode cX6_count 33 = .ok (.aload_n 0, 1) := dk_42 (dk_at dksX6_count_1 11 rfl rfl)
theorem dX6_count_34 : decode cX6_count 34 = .ok (.getfield 7, 3) := dk_180 0 7 (dk_at dksX6_count_1 12 rfl rfl)
theorem dX6_count_37 : decode cX6_count 37 = .ok (.iconst 1, 1) := dk_4 (dk_at dksX6_count_1 15 rfl rfl)
theorem dX6_count_38 : decode cX6_count 38 = .ok (.iaload, 1) := dk_46 (dk_at dksX6_count_1 16 rfl rfl)
theorem dX6_count_39 : decode cX6_count 39 = .ok (.ireturn, 1) := dk_172 (dk_at dksX6_count_1 17 rfl rfl)
theorem dX6_count_40 : decode cX6_count 40 = .ok (.iload_n 1, 1) := dk_27 (dk_at dksX6_count_1 18 rfl rfl)
theorem dX6_count_41 : decode cX6_count 41 = .ok (.iconst 3, 1) := dk_6 (dk_at dksX6_count_1 19 rfl rfl)
theorem dX6_count_42 : decode cX6_count 42 = .ok (.if_icmp .ne 11, 3) := dk_160 0 11 (dk_at dksX6_count_1 20 rfl rfl)
theorem dX6_count_45 : decode cX6_count 45 = .ok (.aload_n 0, 1) := dk_42 (dk_at dksX6_count_1 23 rfl rfl)
theorem dX6_count_46 : decode cX6_count 46 = .ok (.getfield 7, 3) := dk_180 0 7 (dk_at dksX6_count_2 0 rfl rfl)
theorem dX6_count_49 : decode cX6_count 49 = .ok (.bipush 10, 2) := dk_16 10 (dk_at dksX6_count_2 3 rfl rfl)
theorem dX6_count_51 : decode cX6_count 51 = .ok (.iaload, 1) := dk_46 (dk_at dksX6_count_2 5 rfl rfl)
theorem dX6_count_52 : decode cX6_count 52 = .ok (.ireturn, 1) := dk_172 (dk_at dksX6_count_2 6 rfl rfl)
theorem dX6_count_53 : decode cX6_count 53 = .ok (.iload_n 1, 1) := dk_27 (dk_at dksX6_count_2 7 rfl rfl)
theorem dX6_count_54 : decode cX6_count 54 = .ok (.iconst 4, 1) := dk_7 (dk_at dksX6_count_2 8 rfl rfl)
theorem dX6_count_55 : decode cX6_count 55 = .ok (.bipush 9, 2) := dk_16 9 (dk_at dksX6_count_2 9 rfl rfl)
theorem dX6_count_57 : decode cX6_count 57 = .ok (.invokestatic 45, 3) := dk_184 0 45 (dk_at dksX6_count_2 11 rfl rfl)
theorem dX6_count_60 : decode cX6_count 60 = .ok (.ifCond .eq 14, 3) := dk_153 0 14 (dk_at dksX6_count_2 14 rfl rfl)
theorem dX6_count_63 : decode cX6_count 63 = .ok (.aload_n 0, 1) := dk_42 (dk_at dksX6_count_2 17 rfl rfl)
theorem dX6_count_64 : decode cX6_count 64 = .ok (.getfield 7, 3) := dk_180 0 7 (dk_at dksX6_count_2 18 rfl rfl)
theorem dX6_count_67 : decode cX6_count 67 = .ok (.iconst 4, 1) := dk_7 (dk_at dksX6_count_2 21 rfl rfl)
theorem dX6_count_68 : decode cX6_count 68 = .ok (.iload_n 1, 1) := dk_27 (dk_at dksX6_count_2 22 rfl rfl)
theorem dX6_count_69 : decode cX6_count 69 = .ok (.iadd, 1) := dk_96 (dk_at dksX6_count_2 23 rfl rfl)
theorem dX6_count_70 : decode cX6_count 70 = .ok (.iconst 4, 1) := dk_7 (dk_at dksX6_count_3 0 rfl rfl)
theorem dX6_count_71 : decode cX6_count 71 = .ok (.isub, 1) := dk_100 (dk_at dksX6_count_3 1 rfl rfl)
theorem dX6_count_72 : decode cX6_count 72 = .ok (.iaload, 1) := dk_46 (dk_at dksX6_count_3 2 rfl rfl)
theorem dX6_count_73 : decode cX6_count 73 = .ok (.ireturn, 1) := dk_172 (dk_at dksX6_count_3 3 rfl rfl)
theorem dX6_count_74 : decode cX6_count 74 = .ok (.iload_n 1, 1) := dk_27 (dk_at dksX6_count_3 4 rfl rfl)
theorem dX6_count_75 : decode cX6_count 75 = .ok (.bipush 10, 2) := dk_16 10 (dk_at dksX6_count_3 5 rfl rfl)
theorem dX6_count_77 : decode cX6_count 77 = .ok (.if_icmp .ne 11, 3) := dk_160 0 11 (dk_at dksX6_count_3 7 rfl rfl)
theorem dX6_count_80 : decode cX6_count 80 = .ok (.aload_n 0, 1) := dk_42 (dk_at dksX6_count_3 10 rfl rfl)
theorem dX6_count_81 : decode cX6_count 81 = .ok (.getfield 7, 3) := dk_180 0 7 (dk_at dksX6_count_3 11 rfl rfl)
theorem dX6_count_84 : decode cX6_count 84 = .ok (.bipush 11, 2) := dk_16 11 (dk_at dksX6_count_3 14 rfl rfl)
theorem dX6_count_86 : decode cX6_count 86 = .ok (.iaload, 1) := dk_46 (dk_at dksX6_count_3 16 rfl rfl)
theorem dX6_count_87 : decode cX6_count 87 = .ok (.ireturn, 1) := dk_172 (dk_at dksX6_count_3 17 rfl rfl)
theorem dX6_count_88 : decode cX6_count 88 = .ok (.iload_n 1, 1) := dk_27 (dk_at dksX6_count_3 18 rfl rfl)
theorem dX6_count_89 : decode cX6_count 89 = .ok (.bipush 11, 2) := dk_16 11 (dk_at dksX6_count_3 19 rfl rfl)
theorem dX6_count_91 : decode cX6_count 91 = .ok (.if_icmp .ne 8, 3) := dk_160 0 8 (dk_at dksX6_count_3 21 rfl rfl)
theorem dX6_count_94 : decode cX6_count 94 = .ok (.aload_n 0, 1) := dk_42 (dk_at dksX6_count_4 0 rfl rfl)
theorem dX6_count_95 : decode cX6_count 95 = .ok (.invokevirtual 336, 3) := dk_182 1 80 (dk_at dksX6_count_4 1 rfl rfl)
theorem dX6_count_98 : decode cX6_count 98 = .ok (.ireturn, 1) := dk_172 (dk_at dksX6_count_4 4 rfl rfl)
theorem dX6_count_99 : decode cX6_count 99 = .ok (.iload_n 1, 1) := dk_27 (dk_at dksX6_count_4 5 rfl rfl)
theorem dX6_count_100 : decode cX6_count 100 = .ok (.bipush 12, 2) := dk_16 12 (dk_at dksX6_count_4 6 rfl rfl)
theorem dX6_count_102 : decode cX6_count 102 = .ok (.if_icmp .ne 8, 3) := dk_160 0 8 (dk_at dksX6_count_4 8 rfl rfl)
theorem dX6_count_105 : decode cX6_count 105 = .ok (.aload_n 0, 1) := dk_42 (dk_at dksX6_count_4 11 rfl rfl)
theorem dX6_count_106 : decode cX6_count 106 = .ok (.invokevirtual 344, 3) := dk_182 1 88 (dk_at dksX6_count_4 12 rfl rfl)
theorem dX6_count_109 : decode cX6_count 109 = .ok (.ireturn, 1) := dk_172 (dk_at dksX6_count_4 15 rfl rfl)
theorem dX6_count_110 : decode cX6_count 110 = .ok (.iload_n 1, 1) := dk_27 (dk_at dksX6_count_4 16 rfl rfl)
theorem dX6_count_111 : decode cX6_count 111 = .ok (.bipush 13, 2) := dk_16 13 (dk_at dksX6_count_4 17 rfl rfl)
theorem dX6_count_113 : decode cX6_count 113 = .ok (.if_icmp .ne 8, 3) := dk_160 0 8 (dk_at dksX6_count_4 19 rfl rfl)
theorem dX6_count_116 : decode cX6_count 116 = .ok (.aload_n 0, 1) := dk_42 (dk_at dksX6_count_4 22 rfl rfl)
theorem dX6_count_117 : decode cX6_count 117 = .ok (.invokevirtual 270, 3) := dk_182 1 14 (dk_at dksX6_count_5 0 rfl rfl)
theorem dX6_count_120 : decode cX6_count 120 = .ok (.ireturn, 1) := dk_172 (dk_at dksX6_count_5 3 rfl rfl)
theorem dX6_count_121 : decode cX6_count 121 = .ok (.iload_n 1, 1) := dk_27 (dk_at dksX6_count_5 4 rfl rfl)
theorem dX6_count_122 : decode cX6_count 122 = .ok (.bipush 14, 2) := dk_16 14 (dk_at dksX6_count_5 5 rfl rfl)
theorem dX6_count_124 : decode cX6_count 124 = .ok (.if_icmp .ne 11, 3) := dk_160 0 11 (dk_at dksX6_count_5 7 rfl rfl)
theorem dX6_count_127 : decode cX6_count 127 = .ok (.aload_n 0, 1) := dk_42 (dk_at dksX6_count_5 10 rfl rfl)
theorem dX6_count_128 : decode cX6_count 128 = .ok (.getfield 7, 3) := dk_180 0 7 (dk_at dksX6_count_5 11 rfl rfl)
theorem dX6_count_131 : decode cX6_count 131 = .ok (.bipush 14, 2) := dk_16 14 (dk_at dksX6_count_5 14 rfl rfl)
theorem dX6_count_133 : decode cX6_count 133 = .ok (.iaload, 1) := dk_46 (dk_at dksX6_count_5 16 rfl rfl)
theorem dX6_count_134 : decode cX6_count 134 = .ok (.ireturn, 1) := dk_172 (dk_at dksX6_count_5 17 rfl rfl)
theorem dX6_count_135 : decode cX6_count 135 = .ok (.iload_n 1, 1) := dk_27 (dk_at dksX6_count_5 18 rfl rfl)
theorem dX6_count_136 : decode cX6_count 136 = .ok (.bipush 15, 2) := dk_16 15 (dk_at dksX6_count_5 19 rfl rfl)
theorem dX6_count_138 : decode cX6_count 138 = .ok (.if_icmp .ne 10, 3) := dk_160 0 10 (dk_at dksX6_count_5 21 rfl rfl)
theorem dX6_count_141 : decode cX6_count 141 = .ok (.aload_n 0, 1) := dk_42 (dk_at dksX6_count_6 0 rfl rfl)
theorem dX6_count_142 : decode cX6_count 142 = .ok (.getfield 172, 3) := dk_180 0 172 (dk_at dksX6_count_6 1 rfl rfl)
theorem dX6_count_145 : decode cX6_count 145 = .ok (.goto 4, 3) := dk_167 0 4 (dk_at dksX6_count_6 4 rfl rfl)
theorem dX6_count_148 : decode cX6_count 148 = .ok (.iconst (-1), 1) := dk_2 (dk_at dksX6_count_6 7 rfl rfl)
theorem dX6_count_149 : decode cX6_count 149 = .ok (.ireturn, 1) := dk_172 (dk_at dksX6_count_6 8 rfl rfl)
abbrev cX6_hereOnes : ByteArray := prog_18_method_122_code
def yX6_hereOnes : MethodName := ⟨RX6, "hereOnes", "()I"⟩
def dkwX6_hereOnes_1 : List UInt8 := [28, 120, 167, 0, 4, 3, 128, 60, 132, 2, 1, 167, 255, 225, 27, 172]
abbrev dktX6_hereOnes_1 : List UInt8 := dkwX6_hereOnes_1 ++ []
def dkwX6_hereOnes_0 : List UInt8 := [3, 60, 3, 61, 28, 42, 180, 0, 7, 6, 46, 162, 0, 27, 27, 42, 28, 182, 0, 236, 153, 0, 9, 4]
abbrev dktX6_hereOnes_0 : List UInt8 := dkwX6_hereOnes_0 ++ dktX6_hereOnes_1
theorem dksX6_hereOnes_0 : cX6_hereOnes.data.toList.drop 0 = dktX6_hereOnes_0 := by decide +kernel
theorem dksX6_hereOnes_1 : cX6_hereOnes.data.toList.drop 24 = dktX6_hereOnes_1 := dk_seg dksX6_hereOnes_0 24 rfl rfl
theorem dX6_hereOnes_0 : decode cX6_hereOnes 0 = .ok (.iconst 0, 1) := dk_3 (dk_at dksX6_hereOnes_0 0 rfl rfl)
theorem dX6_hereOnes_1 : decode cX6_hereOnes 1 = .ok (.istore_n 1, 1) := dk_60 (dk_at dksX6_hereOnes_0 1 rfl rfl)
theorem dX6_hereOnes_2 : decode cX6_hereOnes 2 = .ok (.iconst 0, 1) := dk_3 (dk_at dksX6_hereOnes_0 2 rfl rfl)
theorem dX6_hereOnes_3 : decode cX6_hereOnes 3 = .ok (.istore_n 2, 1) := dk_61 (dk_at dksX6_hereOnes_0 3 rfl rfl)
theorem dX6_hereOnes_4 : decode cX6_hereOnes 4 = .ok (.iload_n 2, 1) := dk_28 (dk_at dksX6_hereOnes_0 4 rfl rfl)
theorem dX6_hereOnes_5 : decode cX6_hereOnes 5 = .ok (.aload_n 0, 1) := dk_42 (dk_at dksX6_hereOnes_0 5 rfl rfl)
theorem dX6_hereOnes_6 : decode cX6_hereOnes 6 = .ok (.getfield 7, 3) := dk_180 0 7 (dk_at dksX6_hereOnes_0 6 rfl rfl)
theorem dX6_hereOnes_9 : decode cX6_hereOnes 9 = .ok (.iconst 3, 1) := dk_6 (dk_at dksX6_hereOnes_0 9 rfl rfl)
theorem dX6_hereOnes_10 : decode cX6_hereOnes 10 = .ok (.iaload, 1) := dk_46 (dk_at dksX6_hereOnes_0 10 rfl rfl)
theorem dX6_hereOnes_11 : decode cX6_hereOnes 11 = .ok (.if_icmp .ge 27, 3) := dk_162 0 27 (dk_at dksX6_hereOnes_0 11 rfl rfl)
theorem dX6_hereOnes_14 : decode cX6_hereOnes 14 = .ok (.iload_n 1, 1) := dk_27 (dk_at dksX6_hereOnes_0 14 rfl rfl)
theorem dX6_hereOnes_15 : decode cX6_hereOnes 15 = .ok (.aload_n 0, 1) := dk_42 (dk_at dksX6_hereOnes_0 15 rfl rfl)
theorem dX6_hereOnes_16 : decode cX6_hereOnes 16 = .ok (.iload_n 2, 1) := dk_28 (dk_at dksX6_hereOnes_0 16 rfl rfl)
theorem dX6_hereOnes_17 : decode cX6_hereOnes 17 = .ok (.invokevirtual 236, 3) := dk_182 0 236 (dk_at dksX6_hereOnes_0 17 rfl rfl)
theorem dX6_hereOnes_20 : decode cX6_hereOnes 20 = .ok (.ifCond .eq 9, 3) := dk_153 0 9 (dk_at dksX6_hereOnes_0 20 rfl rfl)
theorem dX6_hereOnes_23 : decode cX6_hereOnes 23 = .ok (.iconst 1, 1) := dk_4 (dk_at dksX6_hereOnes_0 23 rfl rfl)
theorem dX6_hereOnes_24 : decode cX6_hereOnes 24 = .ok (.iload_n 2, 1) := dk_28 (dk_at dksX6_hereOnes_1 0 rfl rfl)
theorem dX6_hereOnes_25 : decode cX6_hereOnes 25 = .ok (.ishl, 1) := dk_120 (dk_at dksX6_hereOnes_1 1 rfl rfl)
theorem dX6_hereOnes_26 : decode cX6_hereOnes 26 = .ok (.goto 4, 3) := dk_167 0 4 (dk_at dksX6_hereOnes_1 2 rfl rfl)
theorem dX6_hereOnes_29 : decode cX6_hereOnes 29 = .ok (.iconst 0, 1) := dk_3 (dk_at dksX6_hereOnes_1 5 rfl rfl)
theorem dX6_hereOnes_30 : decode cX6_hereOnes 30 = .ok (.ior, 1) := dk_128 (dk_at dksX6_hereOnes_1 6 rfl rfl)
theorem dX6_hereOnes_31 : decode cX6_hereOnes 31 = .ok (.istore_n 1, 1) := dk_60 (dk_at dksX6_hereOnes_1 7 rfl rfl)
theorem dX6_hereOnes_32 : decode cX6_hereOnes 32 = .ok (.iinc 2 1, 3) := dk_132 2 1 (dk_at dksX6_hereOnes_1 8 rfl rfl)
theorem dX6_hereOnes_35 : decode cX6_hereOnes 35 = .ok (.goto (-31), 3) := dk_167 255 225 (dk_at dksX6_hereOnes_1 11 rfl rfl)
theorem dX6_hereOnes_38 : decode cX6_hereOnes 38 = .ok (.iload_n 1, 1) := dk_27 (dk_at dksX6_hereOnes_1 14 rfl rfl)
theorem dX6_hereOnes_39 : decode cX6_hereOnes 39 = .ok (.ireturn, 1) := dk_172 (dk_at dksX6_hereOnes_1 15 rfl rfl)
theorem q115 : (Jvm.Cond.initialized "SaturdayKeepModel") ∈ lw_all := lw_g (lw_at lw_m1 9 rfl) rfl
theorem q1477 : (Jvm.Cond.selects "SaturdayKeepModel" ({ cls := "java/lang/Object", name := "getClass", desc := "()Ljava/lang/Class;" } : Jvm.MethodName) ({ cls := "java/lang/Object", name := "getClass", desc := "()Ljava/lang/Class;" } : Jvm.MethodName)) ∈ lw_all := lw_g (lw_at lw_m6 171 rfl) rfl
theorem q1897 : (Jvm.Cond.instantiable "SaturdayKeepModel" (22 : Nat)) ∈ lw_all := lw_g (lw_at lw_m8 111 rfl) rfl
theorem q1899 : (Jvm.Cond.instanceMethod ({ cls := "SaturdayKeepModel", name := "<init>", desc := "()V" } : Jvm.MethodName)) ∈ lw_all := lw_g (lw_at lw_m8 113 rfl) rfl
theorem q1900 : (Jvm.Cond.code ({ cls := "SaturdayKeepModel", name := "<init>", desc := "()V" } : Jvm.MethodName) prog_18_method_1_code (1 : Nat) (Option.none : Option Jvm.ClassFile.FieldType)) ∈ lw_all := lw_g (lw_at lw_m8 114 rfl) rfl
theorem q1901 : (Jvm.Cond.methodLink "SaturdayKeepModel" (1 : Nat) ({ cls := "java/lang/Object", name := "<init>", desc := "()V" } : Jvm.MethodName)) ∈ lw_all := lw_g (lw_at lw_m8 115 rfl) rfl
theorem q1902 : (Jvm.Cond.fieldLink "SaturdayKeepModel" (42 : Nat) "SaturdayKeepModel" "thrown" "I") ∈ lw_all := lw_g (lw_at lw_m8 116 rfl) rfl
theorem q1903 : (Jvm.Cond.fieldLink "SaturdayKeepModel" (7 : Nat) "SaturdayKeepModel" "m" "[I") ∈ lw_all := lw_g (lw_at lw_m8 117 rfl) rfl
theorem q1904 : (Jvm.Cond.fieldLink "SaturdayKeepModel" (13 : Nat) "SaturdayKeepModel" "kept" "[I") ∈ lw_all := lw_g (lw_at lw_m8 118 rfl) rfl
theorem q1905 : (Jvm.Cond.fieldLink "SaturdayKeepModel" (341 : Nat) "SaturdayKeepModel" "hasImage" "Z") ∈ lw_all := lw_g (lw_at lw_m8 119 rfl) rfl
theorem q1906 : (Jvm.Cond.fieldLink "SaturdayKeepModel" (16 : Nat) "SaturdayKeepModel" "aside" "[I") ∈ lw_all := lw_g (lw_at lw_m8 120 rfl) rfl
theorem q1907 : (Jvm.Cond.fieldLink "SaturdayKeepModel" (19 : Nat) "SaturdayKeepModel" "acts" "[I") ∈ lw_all := lw_g (lw_at lw_m8 121 rfl) rfl
theorem q1908 : (Jvm.Cond.fieldLink "SaturdayKeepModel" (172 : Nat) "SaturdayKeepModel" "acted" "I") ∈ lw_all := lw_g (lw_at lw_m8 122 rfl) rfl
theorem q1909 : (Jvm.Cond.fieldLink "SaturdayKeepModel" (22 : Nat) "SaturdayKeepModel" "tape" "[I") ∈ lw_all := lw_g (lw_at lw_m8 123 rfl) rfl
theorem q1910 : (Jvm.Cond.fieldLink "SaturdayKeepModel" (61 : Nat) "SaturdayKeepModel" "taped" "I") ∈ lw_all := lw_g (lw_at lw_m8 124 rfl) rfl
theorem q1911 : (Jvm.Cond.fieldLink "SaturdayKeepModel" (64 : Nat) "SaturdayKeepModel" "base" "I") ∈ lw_all := lw_g (lw_at lw_m8 125 rfl) rfl
theorem q1912 : (Jvm.Cond.fieldLink "SaturdayKeepModel" (70 : Nat) "SaturdayKeepModel" "end" "I") ∈ lw_all := lw_g (lw_at lw_m8 126 rfl) rfl
theorem q1913 : (Jvm.Cond.fieldLink "SaturdayKeepModel" (67 : Nat) "SaturdayKeepModel" "at" "I") ∈ lw_all := lw_g (lw_at lw_m8 127 rfl) rfl
theorem q1914 : (Jvm.Cond.fieldLink "SaturdayKeepModel" (25 : Nat) "SaturdayKeepModel" "fault" "I") ∈ lw_all := lw_g (lw_at lw_m8 128 rfl) rfl
theorem q1915 : (Jvm.Cond.fieldLink "SaturdayKeepModel" (146 : Nat) "SaturdayKeepModel" "deep" "I") ∈ lw_all := lw_g (lw_at lw_m8 129 rfl) rfl
theorem q1916 : (Jvm.Cond.fieldLink "SaturdayKeepModel" (29 : Nat) "SaturdayKeepModel" "fact" "[I") ∈ lw_all := lw_g (lw_at lw_m8 130 rfl) rfl
theorem q1917 : (Jvm.Cond.fieldLink "SaturdayKeepModel" (188 : Nat) "SaturdayKeepModel" "hasKey" "Z") ∈ lw_all := lw_g (lw_at lw_m8 131 rfl) rfl
theorem q1918 : (Jvm.Cond.fieldLink "SaturdayKeepModel" (194 : Nat) "SaturdayKeepModel" "isEve" "Z") ∈ lw_all := lw_g (lw_at lw_m8 132 rfl) rfl
theorem q1919 : (Jvm.Cond.fieldLink "SaturdayKeepModel" (223 : Nat) "SaturdayKeepModel" "turns" "I") ∈ lw_all := lw_g (lw_at lw_m8 133 rfl) rfl
theorem q1920 : (Jvm.Cond.fieldLink "SaturdayKeepModel" (32 : Nat) "SaturdayKeepModel" "here" "[I") ∈ lw_all := lw_g (lw_at lw_m8 134 rfl) rfl
theorem q1921 : (Jvm.Cond.fieldLink "SaturdayKeepModel" (309 : Nat) "SaturdayKeepModel" "hereMany" "I") ∈ lw_all := lw_g (lw_at lw_m8 135 rfl) rfl
theorem q1922 : (Jvm.Cond.fieldLink "SaturdayKeepModel" (35 : Nat) "SaturdayKeepModel" "fewest" "[I") ∈ lw_all := lw_g (lw_at lw_m8 136 rfl) rfl
theorem q1923 : (Jvm.Cond.fieldLink "SaturdayKeepModel" (38 : Nat) "SaturdayKeepModel" "fits" "[Z") ∈ lw_all := lw_g (lw_at lw_m8 137 rfl) rfl
theorem q1924 : (Jvm.Cond.lays "SaturdayKeepModel" "SaturdayKeepModel" "thrown" "I") ∈ lw_all := lw_g (lw_at lw_m8 138 rfl) rfl
theorem q1925 : (Jvm.Cond.soleField "SaturdayKeepModel" "thrown") ∈ lw_all := lw_g (lw_at lw_m8 139 rfl) rfl
theorem q1926 : (Jvm.Cond.laysFinal "SaturdayKeepModel" "SaturdayKeepModel" "m" "[I") ∈ lw_all := lw_g (lw_at lw_m8 140 rfl) rfl
theorem q1927 : (Jvm.Cond.soleField "SaturdayKeepModel" "m") ∈ lw_all := lw_g (lw_at lw_m8 141 rfl) rfl
theorem q1928 : (Jvm.Cond.laysFinal "SaturdayKeepModel" "SaturdayKeepModel" "kept" "[I") ∈ lw_all := lw_g (lw_at lw_m8 142 rfl) rfl
theorem q1929 : (Jvm.Cond.soleField "SaturdayKeepModel" "kept") ∈ lw_all := lw_g (lw_at lw_m8 143 rfl) rfl
theorem q1930 : (Jvm.Cond.lays "SaturdayKeepModel" "SaturdayKeepModel" "hasImage" "Z") ∈ lw_all := lw_g (lw_at lw_m8 144 rfl) rfl
theorem q1931 : (Jvm.Cond.soleField "SaturdayKeepModel" "hasImage") ∈ lw_all := lw_g (lw_at lw_m8 145 rfl) rfl
theorem q1932 : (Jvm.Cond.laysFinal "SaturdayKeepModel" "SaturdayKeepModel" "aside" "[I") ∈ lw_all := lw_g (lw_at lw_m8 146 rfl) rfl
theorem q1933 : (Jvm.Cond.soleField "SaturdayKeepModel" "aside") ∈ lw_all := lw_g (lw_at lw_m8 147 rfl) rfl
theorem q1934 : (Jvm.Cond.laysFinal "SaturdayKeepModel" "SaturdayKeepModel" "acts" "[I") ∈ lw_all := lw_g (lw_at lw_m8 148 rfl) rfl
theorem q1935 : (Jvm.Cond.soleField "SaturdayKeepModel" "acts") ∈ lw_all := lw_g (lw_at lw_m8 149 rfl) rfl
theorem q1936 : (Jvm.Cond.lays "SaturdayKeepModel" "SaturdayKeepModel" "acted" "I") ∈ lw_all := lw_g (lw_at lw_m8 150 rfl) rfl
theorem q1937 : (Jvm.Cond.soleField "SaturdayKeepModel" "acted") ∈ lw_all := lw_g (lw_at lw_m8 151 rfl) rfl
theorem q1938 : (Jvm.Cond.laysFinal "SaturdayKeepModel" "SaturdayKeepModel" "tape" "[I") ∈ lw_all := lw_g (lw_at lw_m8 152 rfl) rfl
theorem q1939 : (Jvm.Cond.soleField "SaturdayKeepModel" "tape") ∈ lw_all := lw_g (lw_at lw_m8 153 rfl) rfl
theorem q1940 : (Jvm.Cond.lays "SaturdayKeepModel" "SaturdayKeepModel" "taped" "I") ∈ lw_all := lw_g (lw_at lw_m8 154 rfl) rfl
theorem q1941 : (Jvm.Cond.soleField "SaturdayKeepModel" "taped") ∈ lw_all := lw_g (lw_at lw_m8 155 rfl) rfl
theorem q1942 : (Jvm.Cond.lays "SaturdayKeepModel" "SaturdayKeepModel" "base" "I") ∈ lw_all := lw_g (lw_at lw_m8 156 rfl) rfl
theorem q1943 : (Jvm.Cond.soleField "SaturdayKeepModel" "base") ∈ lw_all := lw_g (lw_at lw_m8 157 rfl) rfl
theorem q1944 : (Jvm.Cond.lays "SaturdayKeepModel" "SaturdayKeepModel" "end" "I") ∈ lw_all := lw_g (lw_at lw_m8 158 rfl) rfl
theorem q1945 : (Jvm.Cond.soleField "SaturdayKeepModel" "end") ∈ lw_all := lw_g (lw_at lw_m8 159 rfl) rfl
theorem q1946 : (Jvm.Cond.lays "SaturdayKeepModel" "SaturdayKeepModel" "at" "I") ∈ lw_all := lw_g (lw_at lw_m8 160 rfl) rfl
theorem q1947 : (Jvm.Cond.soleField "SaturdayKeepModel" "at") ∈ lw_all := lw_g (lw_at lw_m8 161 rfl) rfl
theorem q1948 : (Jvm.Cond.lays "SaturdayKeepModel" "SaturdayKeepModel" "fault" "I") ∈ lw_all := lw_g (lw_at lw_m8 162 rfl) rfl
theorem q1949 : (Jvm.Cond.soleField "SaturdayKeepModel" "fault") ∈ lw_all := lw_g (lw_at lw_m8 163 rfl) rfl
theorem q1950 : (Jvm.Cond.lays "SaturdayKeepModel" "SaturdayKeepModel" "deep" "I") ∈ lw_all := lw_g (lw_at lw_m8 164 rfl) rfl
theorem q1951 : (Jvm.Cond.soleField "SaturdayKeepModel" "deep") ∈ lw_all := lw_g (lw_at lw_m8 165 rfl) rfl
theorem q1952 : (Jvm.Cond.laysFinal "SaturdayKeepModel" "SaturdayKeepModel" "fact" "[I") ∈ lw_all := lw_g (lw_at lw_m8 166 rfl) rfl
theorem q1953 : (Jvm.Cond.soleField "SaturdayKeepModel" "fact") ∈ lw_all := lw_g (lw_at lw_m8 167 rfl) rfl
theorem q1954 : (Jvm.Cond.lays "SaturdayKeepModel" "SaturdayKeepModel" "hasKey" "Z") ∈ lw_all := lw_g (lw_at lw_m8 168 rfl) rfl
theorem q1955 : (Jvm.Cond.soleField "SaturdayKeepModel" "hasKey") ∈ lw_all := lw_g (lw_at lw_m8 169 rfl) rfl
theorem q1956 : (Jvm.Cond.lays "SaturdayKeepModel" "SaturdayKeepModel" "isEve" "Z") ∈ lw_all := lw_g (lw_at lw_m8 170 rfl) rfl
theorem q1957 : (Jvm.Cond.soleField "SaturdayKeepModel" "isEve") ∈ lw_all := lw_g (lw_at lw_m8 171 rfl) rfl
theorem q1958 : (Jvm.Cond.lays "SaturdayKeepModel" "SaturdayKeepModel" "turns" "I") ∈ lw_all := lw_g (lw_at lw_m8 172 rfl) rfl
theorem q1959 : (Jvm.Cond.soleField "SaturdayKeepModel" "turns") ∈ lw_all := lw_g (lw_at lw_m8 173 rfl) rfl
theorem q1960 : (Jvm.Cond.laysFinal "SaturdayKeepModel" "SaturdayKeepModel" "here" "[I") ∈ lw_all := lw_g (lw_at lw_m8 174 rfl) rfl
theorem q1961 : (Jvm.Cond.soleField "SaturdayKeepModel" "here") ∈ lw_all := lw_g (lw_at lw_m8 175 rfl) rfl
theorem q1962 : (Jvm.Cond.lays "SaturdayKeepModel" "SaturdayKeepModel" "hereMany" "I") ∈ lw_all := lw_g (lw_at lw_m8 176 rfl) rfl
theorem q1963 : (Jvm.Cond.soleField "SaturdayKeepModel" "hereMany") ∈ lw_all := lw_g (lw_at lw_m8 177 rfl) rfl
theorem q1964 : (Jvm.Cond.laysFinal "SaturdayKeepModel" "SaturdayKeepModel" "fewest" "[I") ∈ lw_all := lw_g (lw_at lw_m8 178 rfl) rfl
theorem q1965 : (Jvm.Cond.soleField "SaturdayKeepModel" "fewest") ∈ lw_all := lw_g (lw_at lw_m8 179 rfl) rfl
theorem q1966 : (Jvm.Cond.laysFinal "SaturdayKeepModel" "SaturdayKeepModel" "fits" "[Z") ∈ lw_all := lw_g (lw_at lw_m8 180 rfl) rfl
theorem q1967 : (Jvm.Cond.soleField "SaturdayKeepModel" "fits") ∈ lw_all := lw_g (lw_at lw_m8 181 rfl) rfl
theorem q1968 : (Jvm.Cond.superclass "SaturdayKeepModel" "java/lang/Object") ∈ lw_all := lw_g (lw_at lw_m8 182 rfl) rfl
theorem q1970 : (Jvm.Cond.instanceMethod ({ cls := "SaturdayKeepModel", name := "thrown", desc := "()I" } : Jvm.MethodName)) ∈ lw_all := lw_g (lw_at lw_m8 184 rfl) rfl
theorem q1971 : (Jvm.Cond.selects "SaturdayKeepModel" ({ cls := "SaturdayKeepModel", name := "thrown", desc := "()I" } : Jvm.MethodName) ({ cls := "SaturdayKeepModel", name := "thrown", desc := "()I" } : Jvm.MethodName)) ∈ lw_all := lw_g (lw_at lw_m8 185 rfl) rfl
theorem q1972 : (Jvm.Cond.code ({ cls := "SaturdayKeepModel", name := "thrown", desc := "()I" } : Jvm.MethodName) prog_18_method_2_code (1 : Nat) (Option.some Jvm.ClassFile.FieldType.int)) ∈ lw_all := lw_g (lw_at lw_m8 186 rfl) rfl
theorem q1974 : (Jvm.Cond.instanceMethod ({ cls := "SaturdayKeepModel", name := "feed", desc := "(IIIII)I" } : Jvm.MethodName)) ∈ lw_all := lw_g (lw_at lw_m8 188 rfl) rfl
theorem q1975 : (Jvm.Cond.selects "SaturdayKeepModel" ({ cls := "SaturdayKeepModel", name := "feed", desc := "(IIIII)I" } : Jvm.MethodName) ({ cls := "SaturdayKeepModel", name := "feed", desc := "(IIIII)I" } : Jvm.MethodName)) ∈ lw_all := lw_g (lw_at lw_m8 189 rfl) rfl
theorem q1976 : (Jvm.Cond.code ({ cls := "SaturdayKeepModel", name := "feed", desc := "(IIIII)I" } : Jvm.MethodName) prog_18_method_16_code (8 : Nat) (Option.some Jvm.ClassFile.FieldType.int)) ∈ lw_all := lw_g (lw_at lw_m8 190 rfl) rfl
theorem q1978 : (Jvm.Cond.instanceMethod ({ cls := "SaturdayKeepModel", name := "end", desc := "(I)Z" } : Jvm.MethodName)) ∈ lw_all := lw_g (lw_at lw_m8 192 rfl) rfl
theorem q1979 : (Jvm.Cond.selects "SaturdayKeepModel" ({ cls := "SaturdayKeepModel", name := "end", desc := "(I)Z" } : Jvm.MethodName) ({ cls := "SaturdayKeepModel", name := "end", desc := "(I)Z" } : Jvm.MethodName)) ∈ lw_all := lw_g (lw_at lw_m8 193 rfl) rfl
theorem q1980 : (Jvm.Cond.code ({ cls := "SaturdayKeepModel", name := "end", desc := "(I)Z" } : Jvm.MethodName) prog_18_method_17_code (2 : Nat) (Option.some Jvm.ClassFile.FieldType.boolean)) ∈ lw_all := lw_g (lw_at lw_m8 194 rfl) rfl
theorem q1981 : (Jvm.Cond.methodLink "SaturdayKeepModel" (45 : Nat) ({ cls := "SaturdayKeepModel", name := "isIn", desc := "(III)Z" } : Jvm.MethodName)) ∈ lw_all := lw_g (lw_at lw_m8 195 rfl) rfl
theorem q1982 : (Jvm.Cond.static ({ cls := "SaturdayKeepModel", name := "isIn", desc := "(III)Z" } : Jvm.MethodName)) ∈ lw_all := lw_g (lw_at lw_m8 196 rfl) rfl
theorem q1983 : (Jvm.Cond.code ({ cls := "SaturdayKeepModel", name := "isIn", desc := "(III)Z" } : Jvm.MethodName) prog_18_method_3_code (3 : Nat) (Option.some Jvm.ClassFile.FieldType.boolean)) ∈ lw_all := lw_g (lw_at lw_m8 197 rfl) rfl
theorem q1985 : (Jvm.Cond.instanceMethod ({ cls := "SaturdayKeepModel", name := "house", desc := "()I" } : Jvm.MethodName)) ∈ lw_all := lw_g (lw_at lw_m8 199 rfl) rfl
theorem q1986 : (Jvm.Cond.selects "SaturdayKeepModel" ({ cls := "SaturdayKeepModel", name := "house", desc := "()I" } : Jvm.MethodName) ({ cls := "SaturdayKeepModel", name := "house", desc := "()I" } : Jvm.MethodName)) ∈ lw_all := lw_g (lw_at lw_m8 200 rfl) rfl
theorem q1987 : (Jvm.Cond.code ({ cls := "SaturdayKeepModel", name := "house", desc := "()I" } : Jvm.MethodName) prog_18_method_34_code (2 : Nat) (Option.some Jvm.ClassFile.FieldType.int)) ∈ lw_all := lw_g (lw_at lw_m8 201 rfl) rfl
theorem q1988 : (Jvm.Cond.methodLink "SaturdayKeepModel" (159 : Nat) ({ cls := "SaturdayKeepModel", name := "putsAside", desc := "()V" } : Jvm.MethodName)) ∈ lw_all := lw_g (lw_at lw_m8 202 rfl) rfl
theorem q1989 : (Jvm.Cond.privateMethod ({ cls := "SaturdayKeepModel", name := "putsAside", desc := "()V" } : Jvm.MethodName)) ∈ lw_tbl := lw_at lw_m8 203 rfl
theorem q1990 : (Jvm.Cond.instanceMethod ({ cls := "SaturdayKeepModel", name := "putsAside", desc := "()V" } : Jvm.MethodName)) ∈ lw_all := lw_g (lw_at lw_m8 204 rfl) rfl
theorem q1991 : (Jvm.Cond.code ({ cls := "SaturdayKeepModel", name := "putsAside", desc := "()V" } : Jvm.MethodName) prog_18_method_32_code (2 : Nat) (Option.none : Option Jvm.ClassFile.FieldType)) ∈ lw_all := lw_g (lw_at lw_m8 205 rfl) rfl
theorem q1992 : (Jvm.Cond.methodLink "SaturdayKeepModel" (162 : Nat) ({ cls := "SaturdayKeepModel", name := "begins", desc := "()V" } : Jvm.MethodName)) ∈ lw_all := lw_g (lw_at lw_m8 206 rfl) rfl
theorem q1993 : (Jvm.Cond.privateMethod ({ cls := "SaturdayKeepModel", name := "begins", desc := "()V" } : Jvm.MethodName)) ∈ lw_tbl := lw_at lw_m8 207 rfl
theorem q1994 : (Jvm.Cond.instanceMethod ({ cls := "SaturdayKeepModel", name := "begins", desc := "()V" } : Jvm.MethodName)) ∈ lw_all := lw_g (lw_at lw_m8 208 rfl) rfl
theorem q1995 : (Jvm.Cond.code ({ cls := "SaturdayKeepModel", name := "begins", desc := "()V" } : Jvm.MethodName) prog_18_method_30_code (1 : Nat) (Option.none : Option Jvm.ClassFile.FieldType)) ∈ lw_all := lw_g (lw_at lw_m8 209 rfl) rfl
theorem q1996 : (Jvm.Cond.methodLink "SaturdayKeepModel" (165 : Nat) ({ cls := "SaturdayKeepModel", name := "read", desc := "(Z)I" } : Jvm.MethodName)) ∈ lw_all := lw_g (lw_at lw_m8 210 rfl) rfl
theorem q1997 : (Jvm.Cond.privateMethod ({ cls := "SaturdayKeepModel", name := "read", desc := "(Z)I" } : Jvm.MethodName)) ∈ lw_tbl := lw_at lw_m8 211 rfl
theorem q1998 : (Jvm.Cond.instanceMethod ({ cls := "SaturdayKeepModel", name := "read", desc := "(Z)I" } : Jvm.MethodName)) ∈ lw_all := lw_g (lw_at lw_m8 212 rfl) rfl
theorem q1999 : (Jvm.Cond.code ({ cls := "SaturdayKeepModel", name := "read", desc := "(Z)I" } : Jvm.MethodName) prog_18_method_31_code (4 : Nat) (Option.some Jvm.ClassFile.FieldType.int)) ∈ lw_all := lw_g (lw_at lw_m8 213 rfl) rfl
theorem q2000 : (Jvm.Cond.methodLink "SaturdayKeepModel" (76 : Nat) ({ cls := "SaturdayKeepModel", name := "skip", desc := "()V" } : Jvm.MethodName)) ∈ lw_all := lw_g (lw_at lw_m8 214 rfl) rfl
theorem q2001 : (Jvm.Cond.privateMethod ({ cls := "SaturdayKeepModel", name := "skip", desc := "()V" } : Jvm.MethodName)) ∈ lw_tbl := lw_at lw_m8 215 rfl
theorem q2002 : (Jvm.Cond.instanceMethod ({ cls := "SaturdayKeepModel", name := "skip", desc := "()V" } : Jvm.MethodName)) ∈ lw_all := lw_g (lw_at lw_m8 216 rfl) rfl
theorem q2003 : (Jvm.Cond.code ({ cls := "SaturdayKeepModel", name := "skip", desc := "()V" } : Jvm.MethodName) prog_18_method_19_code (1 : Nat) (Option.none : Option Jvm.ClassFile.FieldType)) ∈ lw_all := lw_g (lw_at lw_m8 217 rfl) rfl
theorem q2004 : (Jvm.Cond.methodLink "SaturdayKeepModel" (73 : Nat) ({ cls := "SaturdayKeepModel", name := "letter", desc := "(I)I" } : Jvm.MethodName)) ∈ lw_all := lw_g (lw_at lw_m8 218 rfl) rfl
theorem q2005 : (Jvm.Cond.privateMethod ({ cls := "SaturdayKeepModel", name := "letter", desc := "(I)I" } : Jvm.MethodName)) ∈ lw_tbl := lw_at lw_m8 219 rfl
theorem q2006 : (Jvm.Cond.instanceMethod ({ cls := "SaturdayKeepModel", name := "letter", desc := "(I)I" } : Jvm.MethodName)) ∈ lw_all := lw_g (lw_at lw_m8 220 rfl) rfl
theorem q2007 : (Jvm.Cond.code ({ cls := "SaturdayKeepModel", name := "letter", desc := "(I)I" } : Jvm.MethodName) prog_18_method_18_code (2 : Nat) (Option.some Jvm.ClassFile.FieldType.int)) ∈ lw_all := lw_g (lw_at lw_m8 221 rfl) rfl
theorem q2008 : (Jvm.Cond.methodLink "SaturdayKeepModel" (92 : Nat) ({ cls := "SaturdayKeepModel", name := "wrong", desc := "(I)V" } : Jvm.MethodName)) ∈ lw_all := lw_g (lw_at lw_m8 222 rfl) rfl
theorem q2009 : (Jvm.Cond.privateMethod ({ cls := "SaturdayKeepModel", name := "wrong", desc := "(I)V" } : Jvm.MethodName)) ∈ lw_tbl := lw_at lw_m8 223 rfl
theorem q2010 : (Jvm.Cond.instanceMethod ({ cls := "SaturdayKeepModel", name := "wrong", desc := "(I)V" } : Jvm.MethodName)) ∈ lw_all := lw_g (lw_at lw_m8 224 rfl) rfl
theorem q2011 : (Jvm.Cond.code ({ cls := "SaturdayKeepModel", name := "wrong", desc := "(I)V" } : Jvm.MethodName) prog_18_method_22_code (2 : Nat) (Option.none : Option Jvm.ClassFile.FieldType)) ∈ lw_all := lw_g (lw_at lw_m8 225 rfl) rfl
theorem q2012 : (Jvm.Cond.methodLink "SaturdayKeepModel" (149 : Nat) ({ cls := "SaturdayKeepModel", name := "lawLine", desc := "()V" } : Jvm.MethodName)) ∈ lw_all := lw_g (lw_at lw_m8 226 rfl) rfl
theorem q2013 : (Jvm.Cond.privateMethod ({ cls := "SaturdayKeepModel", name := "lawLine", desc := "()V" } : Jvm.MethodName)) ∈ lw_tbl := lw_at lw_m8 227 rfl
theorem q2014 : (Jvm.Cond.instanceMethod ({ cls := "SaturdayKeepModel", name := "lawLine", desc := "()V" } : Jvm.MethodName)) ∈ lw_all := lw_g (lw_at lw_m8 228 rfl) rfl
theorem q2015 : (Jvm.Cond.code ({ cls := "SaturdayKeepModel", name := "lawLine", desc := "()V" } : Jvm.MethodName) prog_18_method_41_code (4 : Nat) (Option.none : Option Jvm.ClassFile.FieldType)) ∈ lw_all := lw_g (lw_at lw_m8 229 rfl) rfl
theorem q2016 : (Jvm.Cond.stringRef "SaturdayKeepModel" (110 : Nat) "doubt") ∈ lw_tbl := lw_at lw_m8 230 rfl
theorem q2017 : (Jvm.Cond.methodLink "SaturdayKeepModel" (96 : Nat) ({ cls := "SaturdayKeepModel", name := "has", desc := "(Ljava/lang/String;)Z" } : Jvm.MethodName)) ∈ lw_all := lw_g (lw_at lw_m8 231 rfl) rfl
theorem q2018 : (Jvm.Cond.privateMethod ({ cls := "SaturdayKeepModel", name := "has", desc := "(Ljava/lang/String;)Z" } : Jvm.MethodName)) ∈ lw_tbl := lw_at lw_m8 232 rfl
theorem q2019 : (Jvm.Cond.instanceMethod ({ cls := "SaturdayKeepModel", name := "has", desc := "(Ljava/lang/String;)Z" } : Jvm.MethodName)) ∈ lw_all := lw_g (lw_at lw_m8 233 rfl) rfl
theorem q2020 : (Jvm.Cond.code ({ cls := "SaturdayKeepModel", name := "has", desc := "(Ljava/lang/String;)Z" } : Jvm.MethodName) prog_18_method_21_code (4 : Nat) (Option.some Jvm.ClassFile.FieldType.boolean)) ∈ lw_all := lw_g (lw_at lw_m8 234 rfl) rfl
theorem q2021 : (Jvm.Cond.methodLink "SaturdayKeepModel" (79 : Nat) ({ cls := "java/lang/String", name := "length", desc := "()I" } : Jvm.MethodName)) ∈ lw_all := lw_g (lw_at lw_m8 235 rfl) rfl
theorem q2022 : (Jvm.Cond.methodLink "SaturdayKeepModel" (85 : Nat) ({ cls := "java/lang/String", name := "charAt", desc := "(I)C" } : Jvm.MethodName)) ∈ lw_all := lw_g (lw_at lw_m8 236 rfl) rfl
theorem q2033 : (Jvm.Cond.stringRef "SaturdayKeepModel" (219 : Nat) "calm") ∈ lw_tbl := lw_at lw_m9 7 rfl
theorem q2034 : (Jvm.Cond.methodLink "SaturdayKeepModel" (100 : Nat) ({ cls := "SaturdayKeepModel", name := "figures", desc := "(II)I" } : Jvm.MethodName)) ∈ lw_all := lw_g (lw_at lw_m9 8 rfl) rfl
theorem q2035 : (Jvm.Cond.privateMethod ({ cls := "SaturdayKeepModel", name := "figures", desc := "(II)I" } : Jvm.MethodName)) ∈ lw_tbl := lw_at lw_m9 9 rfl
theorem q2036 : (Jvm.Cond.instanceMethod ({ cls := "SaturdayKeepModel", name := "figures", desc := "(II)I" } : Jvm.MethodName)) ∈ lw_all := lw_g (lw_at lw_m9 10 rfl) rfl
theorem q2037 : (Jvm.Cond.code ({ cls := "SaturdayKeepModel", name := "figures", desc := "(II)I" } : Jvm.MethodName) prog_18_method_24_code (5 : Nat) (Option.some Jvm.ClassFile.FieldType.int)) ∈ lw_all := lw_g (lw_at lw_m9 11 rfl) rfl
theorem q2038 : (Jvm.Cond.methodLink "SaturdayKeepModel" (89 : Nat) ({ cls := "SaturdayKeepModel", name := "place", desc := "()I" } : Jvm.MethodName)) ∈ lw_all := lw_g (lw_at lw_m9 12 rfl) rfl
theorem q2039 : (Jvm.Cond.privateMethod ({ cls := "SaturdayKeepModel", name := "place", desc := "()I" } : Jvm.MethodName)) ∈ lw_tbl := lw_at lw_m9 13 rfl
theorem q2040 : (Jvm.Cond.instanceMethod ({ cls := "SaturdayKeepModel", name := "place", desc := "()I" } : Jvm.MethodName)) ∈ lw_all := lw_g (lw_at lw_m9 14 rfl) rfl
theorem q2041 : (Jvm.Cond.code ({ cls := "SaturdayKeepModel", name := "place", desc := "()I" } : Jvm.MethodName) prog_18_method_23_code (1 : Nat) (Option.some Jvm.ClassFile.FieldType.int)) ∈ lw_all := lw_g (lw_at lw_m9 15 rfl) rfl
theorem q2042 : (Jvm.Cond.stringRef "SaturdayKeepModel" (221 : Nat) "if") ∈ lw_tbl := lw_at lw_m9 16 rfl
theorem q2043 : (Jvm.Cond.methodLink "SaturdayKeepModel" (209 : Nat) ({ cls := "SaturdayKeepModel", name := "some", desc := "()Z" } : Jvm.MethodName)) ∈ lw_all := lw_g (lw_at lw_m9 17 rfl) rfl
theorem q2044 : (Jvm.Cond.privateMethod ({ cls := "SaturdayKeepModel", name := "some", desc := "()Z" } : Jvm.MethodName)) ∈ lw_tbl := lw_at lw_m9 18 rfl
theorem q2045 : (Jvm.Cond.instanceMethod ({ cls := "SaturdayKeepModel", name := "some", desc := "()Z" } : Jvm.MethodName)) ∈ lw_all := lw_g (lw_at lw_m9 19 rfl) rfl
theorem q2046 : (Jvm.Cond.code ({ cls := "SaturdayKeepModel", name := "some", desc := "()Z" } : Jvm.MethodName) prog_18_method_40_code (3 : Nat) (Option.some Jvm.ClassFile.FieldType.boolean)) ∈ lw_all := lw_g (lw_at lw_m9 20 rfl) rfl
theorem q2047 : (Jvm.Cond.methodLink "SaturdayKeepModel" (214 : Nat) ({ cls := "SaturdayKeepModel", name := "every", desc := "()Z" } : Jvm.MethodName)) ∈ lw_all := lw_g (lw_at lw_m9 21 rfl) rfl
theorem q2048 : (Jvm.Cond.privateMethod ({ cls := "SaturdayKeepModel", name := "every", desc := "()Z" } : Jvm.MethodName)) ∈ lw_tbl := lw_at lw_m9 22 rfl
theorem q2049 : (Jvm.Cond.instanceMethod ({ cls := "SaturdayKeepModel", name := "every", desc := "()Z" } : Jvm.MethodName)) ∈ lw_all := lw_g (lw_at lw_m9 23 rfl) rfl
theorem q2050 : (Jvm.Cond.code ({ cls := "SaturdayKeepModel", name := "every", desc := "()Z" } : Jvm.MethodName) prog_18_method_39_code (3 : Nat) (Option.some Jvm.ClassFile.FieldType.boolean)) ∈ lw_all := lw_g (lw_at lw_m9 24 rfl) rfl
theorem q2051 : (Jvm.Cond.methodLink "SaturdayKeepModel" (206 : Nat) ({ cls := "SaturdayKeepModel", name := "atom", desc := "()Z" } : Jvm.MethodName)) ∈ lw_all := lw_g (lw_at lw_m9 25 rfl) rfl
theorem q2052 : (Jvm.Cond.privateMethod ({ cls := "SaturdayKeepModel", name := "atom", desc := "()Z" } : Jvm.MethodName)) ∈ lw_tbl := lw_at lw_m9 26 rfl
theorem q2053 : (Jvm.Cond.instanceMethod ({ cls := "SaturdayKeepModel", name := "atom", desc := "()Z" } : Jvm.MethodName)) ∈ lw_all := lw_g (lw_at lw_m9 27 rfl) rfl
theorem q2054 : (Jvm.Cond.code ({ cls := "SaturdayKeepModel", name := "atom", desc := "()Z" } : Jvm.MethodName) prog_18_method_38_code (4 : Nat) (Option.some Jvm.ClassFile.FieldType.boolean)) ∈ lw_all := lw_g (lw_at lw_m9 28 rfl) rfl
theorem q2055 : (Jvm.Cond.stringRef "SaturdayKeepModel" (200 : Nat) "not") ∈ lw_tbl := lw_at lw_m9 29 rfl
theorem q2056 : (Jvm.Cond.methodLink "SaturdayKeepModel" (155 : Nat) ({ cls := "SaturdayKeepModel", name := "isSign", desc := "(I)Z" } : Jvm.MethodName)) ∈ lw_all := lw_g (lw_at lw_m9 30 rfl) rfl
theorem q2057 : (Jvm.Cond.privateMethod ({ cls := "SaturdayKeepModel", name := "isSign", desc := "(I)Z" } : Jvm.MethodName)) ∈ lw_tbl := lw_at lw_m9 31 rfl
theorem q2058 : (Jvm.Cond.instanceMethod ({ cls := "SaturdayKeepModel", name := "isSign", desc := "(I)Z" } : Jvm.MethodName)) ∈ lw_all := lw_g (lw_at lw_m9 32 rfl) rfl
theorem q2059 : (Jvm.Cond.code ({ cls := "SaturdayKeepModel", name := "isSign", desc := "(I)Z" } : Jvm.MethodName) prog_18_method_20_code (2 : Nat) (Option.some Jvm.ClassFile.FieldType.boolean)) ∈ lw_all := lw_g (lw_at lw_m9 33 rfl) rfl
theorem q2060 : (Jvm.Cond.methodLink "SaturdayKeepModel" (202 : Nat) ({ cls := "SaturdayKeepModel", name := "plain", desc := "()Z" } : Jvm.MethodName)) ∈ lw_all := lw_g (lw_at lw_m9 34 rfl) rfl
theorem q2061 : (Jvm.Cond.privateMethod ({ cls := "SaturdayKeepModel", name := "plain", desc := "()Z" } : Jvm.MethodName)) ∈ lw_tbl := lw_at lw_m9 35 rfl
theorem q2062 : (Jvm.Cond.instanceMethod ({ cls := "SaturdayKeepModel", name := "plain", desc := "()Z" } : Jvm.MethodName)) ∈ lw_all := lw_g (lw_at lw_m9 36 rfl) rfl
theorem q2063 : (Jvm.Cond.code ({ cls := "SaturdayKeepModel", name := "plain", desc := "()Z" } : Jvm.MethodName) prog_18_method_37_code (4 : Nat) (Option.some Jvm.ClassFile.FieldType.boolean)) ∈ lw_all := lw_g (lw_at lw_m9 37 rfl) rfl
theorem q2064 : (Jvm.Cond.stringRef "SaturdayKeepModel" (112 : Nat) "key") ∈ lw_tbl := lw_at lw_m9 38 rfl
theorem q2065 : (Jvm.Cond.stringRef "SaturdayKeepModel" (192 : Nat) "eve") ∈ lw_tbl := lw_at lw_m9 39 rfl
theorem q2066 : (Jvm.Cond.methodLink "SaturdayKeepModel" (197 : Nat) ({ cls := "SaturdayKeepModel", name := "sum", desc := "()I" } : Jvm.MethodName)) ∈ lw_all := lw_g (lw_at lw_m9 40 rfl) rfl
theorem q2067 : (Jvm.Cond.privateMethod ({ cls := "SaturdayKeepModel", name := "sum", desc := "()I" } : Jvm.MethodName)) ∈ lw_tbl := lw_at lw_m9 41 rfl
theorem q2068 : (Jvm.Cond.instanceMethod ({ cls := "SaturdayKeepModel", name := "sum", desc := "()I" } : Jvm.MethodName)) ∈ lw_all := lw_g (lw_at lw_m9 42 rfl) rfl
theorem q2069 : (Jvm.Cond.code ({ cls := "SaturdayKeepModel", name := "sum", desc := "()I" } : Jvm.MethodName) prog_18_method_36_code (2 : Nat) (Option.some Jvm.ClassFile.FieldType.int)) ∈ lw_all := lw_g (lw_at lw_m9 43 rfl) rfl
theorem q2070 : (Jvm.Cond.methodLink "SaturdayKeepModel" (185 : Nat) ({ cls := "SaturdayKeepModel", name := "part", desc := "()I" } : Jvm.MethodName)) ∈ lw_all := lw_g (lw_at lw_m9 44 rfl) rfl
theorem q2071 : (Jvm.Cond.privateMethod ({ cls := "SaturdayKeepModel", name := "part", desc := "()I" } : Jvm.MethodName)) ∈ lw_tbl := lw_at lw_m9 45 rfl
theorem q2072 : (Jvm.Cond.instanceMethod ({ cls := "SaturdayKeepModel", name := "part", desc := "()I" } : Jvm.MethodName)) ∈ lw_all := lw_g (lw_at lw_m9 46 rfl) rfl
theorem q2073 : (Jvm.Cond.code ({ cls := "SaturdayKeepModel", name := "part", desc := "()I" } : Jvm.MethodName) prog_18_method_35_code (2 : Nat) (Option.some Jvm.ClassFile.FieldType.int)) ∈ lw_all := lw_g (lw_at lw_m9 47 rfl) rfl
theorem q2074 : (Jvm.Cond.stringRef "SaturdayKeepModel" (118 : Nat) "guest") ∈ lw_tbl := lw_at lw_m9 48 rfl
theorem q2075 : (Jvm.Cond.stringRef "SaturdayKeepModel" (175 : Nat) "room") ∈ lw_tbl := lw_at lw_m9 49 rfl
theorem q2076 : (Jvm.Cond.stringRef "SaturdayKeepModel" (103 : Nat) "wish") ∈ lw_tbl := lw_at lw_m9 50 rfl
theorem q2077 : (Jvm.Cond.stringRef "SaturdayKeepModel" (177 : Nat) "doubted") ∈ lw_tbl := lw_at lw_m9 51 rfl
theorem q2078 : (Jvm.Cond.stringRef "SaturdayKeepModel" (179 : Nat) "towers") ∈ lw_tbl := lw_at lw_m9 52 rfl
theorem q2079 : (Jvm.Cond.stringRef "SaturdayKeepModel" (181 : Nat) "holes") ∈ lw_tbl := lw_at lw_m9 53 rfl
theorem q2080 : (Jvm.Cond.stringRef "SaturdayKeepModel" (183 : Nat) "week") ∈ lw_tbl := lw_at lw_m9 54 rfl
theorem q2081 : (Jvm.Cond.stringRef "SaturdayKeepModel" (212 : Nat) "and") ∈ lw_tbl := lw_at lw_m9 55 rfl
theorem q2082 : (Jvm.Cond.stringRef "SaturdayKeepModel" (217 : Nat) "or") ∈ lw_tbl := lw_at lw_m9 56 rfl
theorem q2083 : (Jvm.Cond.methodLink "SaturdayKeepModel" (152 : Nat) ({ cls := "SaturdayKeepModel", name := "houseLine", desc := "()V" } : Jvm.MethodName)) ∈ lw_all := lw_g (lw_at lw_m9 57 rfl) rfl
theorem q2084 : (Jvm.Cond.privateMethod ({ cls := "SaturdayKeepModel", name := "houseLine", desc := "()V" } : Jvm.MethodName)) ∈ lw_tbl := lw_at lw_m9 58 rfl
theorem q2085 : (Jvm.Cond.instanceMethod ({ cls := "SaturdayKeepModel", name := "houseLine", desc := "()V" } : Jvm.MethodName)) ∈ lw_all := lw_g (lw_at lw_m9 59 rfl) rfl
theorem q2086 : (Jvm.Cond.code ({ cls := "SaturdayKeepModel", name := "houseLine", desc := "()V" } : Jvm.MethodName) prog_18_method_29_code (3 : Nat) (Option.none : Option Jvm.ClassFile.FieldType)) ∈ lw_all := lw_g (lw_at lw_m9 60 rfl) rfl
theorem q2087 : (Jvm.Cond.methodLink "SaturdayKeepModel" (120 : Nat) ({ cls := "SaturdayKeepModel", name := "guestLine", desc := "(I)V" } : Jvm.MethodName)) ∈ lw_all := lw_g (lw_at lw_m9 61 rfl) rfl
theorem q2088 : (Jvm.Cond.privateMethod ({ cls := "SaturdayKeepModel", name := "guestLine", desc := "(I)V" } : Jvm.MethodName)) ∈ lw_tbl := lw_at lw_m9 62 rfl
theorem q2089 : (Jvm.Cond.instanceMethod ({ cls := "SaturdayKeepModel", name := "guestLine", desc := "(I)V" } : Jvm.MethodName)) ∈ lw_all := lw_g (lw_at lw_m9 63 rfl) rfl
theorem q2090 : (Jvm.Cond.code ({ cls := "SaturdayKeepModel", name := "guestLine", desc := "(I)V" } : Jvm.MethodName) prog_18_method_26_code (7 : Nat) (Option.none : Option Jvm.ClassFile.FieldType)) ∈ lw_all := lw_g (lw_at lw_m9 64 rfl) rfl
theorem q2091 : (Jvm.Cond.methodLink "SaturdayKeepModel" (105 : Nat) ({ cls := "SaturdayKeepModel", name := "after", desc := "(Ljava/lang/String;II)I" } : Jvm.MethodName)) ∈ lw_all := lw_g (lw_at lw_m9 65 rfl) rfl
theorem q2092 : (Jvm.Cond.privateMethod ({ cls := "SaturdayKeepModel", name := "after", desc := "(Ljava/lang/String;II)I" } : Jvm.MethodName)) ∈ lw_tbl := lw_at lw_m9 66 rfl
theorem q2093 : (Jvm.Cond.instanceMethod ({ cls := "SaturdayKeepModel", name := "after", desc := "(Ljava/lang/String;II)I" } : Jvm.MethodName)) ∈ lw_all := lw_g (lw_at lw_m9 67 rfl) rfl
theorem q2094 : (Jvm.Cond.code ({ cls := "SaturdayKeepModel", name := "after", desc := "(Ljava/lang/String;II)I" } : Jvm.MethodName) prog_18_method_25_code (4 : Nat) (Option.some Jvm.ClassFile.FieldType.int)) ∈ lw_all := lw_g (lw_at lw_m9 68 rfl) rfl
theorem q2095 : (Jvm.Cond.stringRef "SaturdayKeepModel" (109 : Nat) "at") ∈ lw_tbl := lw_at lw_m9 69 rfl
theorem q2096 : (Jvm.Cond.methodLink "SaturdayKeepModel" (114 : Nat) ({ cls := "SaturdayKeepModel", name := "put", desc := "(III)V" } : Jvm.MethodName)) ∈ lw_all := lw_g (lw_at lw_m9 70 rfl) rfl
theorem q2097 : (Jvm.Cond.privateMethod ({ cls := "SaturdayKeepModel", name := "put", desc := "(III)V" } : Jvm.MethodName)) ∈ lw_tbl := lw_at lw_m9 71 rfl
theorem q2098 : (Jvm.Cond.instanceMethod ({ cls := "SaturdayKeepModel", name := "put", desc := "(III)V" } : Jvm.MethodName)) ∈ lw_all := lw_g (lw_at lw_m9 72 rfl) rfl
theorem q2099 : (Jvm.Cond.code ({ cls := "SaturdayKeepModel", name := "put", desc := "(III)V" } : Jvm.MethodName) prog_18_method_9_code (4 : Nat) (Option.none : Option Jvm.ClassFile.FieldType)) ∈ lw_all := lw_g (lw_at lw_m9 73 rfl) rfl
theorem q2100 : (Jvm.Cond.stringRef "SaturdayKeepModel" (123 : Nat) "hole") ∈ lw_tbl := lw_at lw_m9 74 rfl
theorem q2101 : (Jvm.Cond.methodLink "SaturdayKeepModel" (125 : Nat) ({ cls := "SaturdayKeepModel", name := "holeLine", desc := "()V" } : Jvm.MethodName)) ∈ lw_all := lw_g (lw_at lw_m9 75 rfl) rfl
theorem q2102 : (Jvm.Cond.privateMethod ({ cls := "SaturdayKeepModel", name := "holeLine", desc := "()V" } : Jvm.MethodName)) ∈ lw_tbl := lw_at lw_m9 76 rfl
theorem q2103 : (Jvm.Cond.instanceMethod ({ cls := "SaturdayKeepModel", name := "holeLine", desc := "()V" } : Jvm.MethodName)) ∈ lw_all := lw_g (lw_at lw_m9 77 rfl) rfl
theorem q2104 : (Jvm.Cond.code ({ cls := "SaturdayKeepModel", name := "holeLine", desc := "()V" } : Jvm.MethodName) prog_18_method_27_code (4 : Nat) (Option.none : Option Jvm.ClassFile.FieldType)) ∈ lw_all := lw_g (lw_at lw_m9 78 rfl) rfl
theorem q2105 : (Jvm.Cond.stringRef "SaturdayKeepModel" (128 : Nat) "bath") ∈ lw_tbl := lw_at lw_m9 79 rfl
theorem q2106 : (Jvm.Cond.methodLink "SaturdayKeepModel" (130 : Nat) ({ cls := "SaturdayKeepModel", name := "tells", desc := "(II)V" } : Jvm.MethodName)) ∈ lw_all := lw_g (lw_at lw_m9 80 rfl) rfl
theorem q2107 : (Jvm.Cond.privateMethod ({ cls := "SaturdayKeepModel", name := "tells", desc := "(II)V" } : Jvm.MethodName)) ∈ lw_tbl := lw_at lw_m9 81 rfl
theorem q2108 : (Jvm.Cond.instanceMethod ({ cls := "SaturdayKeepModel", name := "tells", desc := "(II)V" } : Jvm.MethodName)) ∈ lw_all := lw_g (lw_at lw_m9 82 rfl) rfl
theorem q2109 : (Jvm.Cond.code ({ cls := "SaturdayKeepModel", name := "tells", desc := "(II)V" } : Jvm.MethodName) prog_18_method_28_code (4 : Nat) (Option.none : Option Jvm.ClassFile.FieldType)) ∈ lw_all := lw_g (lw_at lw_m9 83 rfl) rfl
theorem q2110 : (Jvm.Cond.stringRef "SaturdayKeepModel" (134 : Nat) "shift") ∈ lw_tbl := lw_at lw_m9 84 rfl
theorem q2111 : (Jvm.Cond.stringRef "SaturdayKeepModel" (136 : Nat) "keep") ∈ lw_tbl := lw_at lw_m9 85 rfl
theorem q2112 : (Jvm.Cond.stringRef "SaturdayKeepModel" (138 : Nat) "masons") ∈ lw_tbl := lw_at lw_m9 86 rfl
theorem q2113 : (Jvm.Cond.stringRef "SaturdayKeepModel" (140 : Nat) "stones") ∈ lw_tbl := lw_at lw_m9 87 rfl
theorem q2114 : (Jvm.Cond.stringRef "SaturdayKeepModel" (142 : Nat) "bore") ∈ lw_tbl := lw_at lw_m9 88 rfl
theorem q2115 : (Jvm.Cond.stringRef "SaturdayKeepModel" (144 : Nat) "day") ∈ lw_tbl := lw_at lw_m9 89 rfl
theorem q2116 : (Jvm.Cond.methodLink "SaturdayKeepModel" (169 : Nat) ({ cls := "SaturdayKeepModel", name := "comesBack", desc := "()V" } : Jvm.MethodName)) ∈ lw_all := lw_g (lw_at lw_m9 90 rfl) rfl
theorem q2117 : (Jvm.Cond.privateMethod ({ cls := "SaturdayKeepModel", name := "comesBack", desc := "()V" } : Jvm.MethodName)) ∈ lw_tbl := lw_at lw_m9 91 rfl
theorem q2118 : (Jvm.Cond.instanceMethod ({ cls := "SaturdayKeepModel", name := "comesBack", desc := "()V" } : Jvm.MethodName)) ∈ lw_all := lw_g (lw_at lw_m9 92 rfl) rfl
theorem q2119 : (Jvm.Cond.code ({ cls := "SaturdayKeepModel", name := "comesBack", desc := "()V" } : Jvm.MethodName) prog_18_method_33_code (2 : Nat) (Option.none : Option Jvm.ClassFile.FieldType)) ∈ lw_all := lw_g (lw_at lw_m9 93 rfl) rfl
theorem q2121 : (Jvm.Cond.instanceMethod ({ cls := "SaturdayKeepModel", name := "law", desc := "()I" } : Jvm.MethodName)) ∈ lw_all := lw_g (lw_at lw_m9 95 rfl) rfl
theorem q2122 : (Jvm.Cond.selects "SaturdayKeepModel" ({ cls := "SaturdayKeepModel", name := "law", desc := "()I" } : Jvm.MethodName) ({ cls := "SaturdayKeepModel", name := "law", desc := "()I" } : Jvm.MethodName)) ∈ lw_all := lw_g (lw_at lw_m9 96 rfl) rfl
theorem q2123 : (Jvm.Cond.code ({ cls := "SaturdayKeepModel", name := "law", desc := "()I" } : Jvm.MethodName) prog_18_method_42_code (3 : Nat) (Option.some Jvm.ClassFile.FieldType.int)) ∈ lw_all := lw_g (lw_at lw_m9 97 rfl) rfl
theorem q2125 : (Jvm.Cond.instanceMethod ({ cls := "SaturdayKeepModel", name := "fault", desc := "()I" } : Jvm.MethodName)) ∈ lw_all := lw_g (lw_at lw_m9 99 rfl) rfl
theorem q2126 : (Jvm.Cond.selects "SaturdayKeepModel" ({ cls := "SaturdayKeepModel", name := "fault", desc := "()I" } : Jvm.MethodName) ({ cls := "SaturdayKeepModel", name := "fault", desc := "()I" } : Jvm.MethodName)) ∈ lw_all := lw_g (lw_at lw_m9 100 rfl) rfl
theorem q2127 : (Jvm.Cond.code ({ cls := "SaturdayKeepModel", name := "fault", desc := "()I" } : Jvm.MethodName) prog_18_method_43_code (1 : Nat) (Option.some Jvm.ClassFile.FieldType.int)) ∈ lw_all := lw_g (lw_at lw_m9 101 rfl) rfl
theorem q2129 : (Jvm.Cond.instanceMethod ({ cls := "SaturdayKeepModel", name := "guest", desc := "(II)I" } : Jvm.MethodName)) ∈ lw_all := lw_g (lw_at lw_m9 103 rfl) rfl
theorem q2130 : (Jvm.Cond.selects "SaturdayKeepModel" ({ cls := "SaturdayKeepModel", name := "guest", desc := "(II)I" } : Jvm.MethodName) ({ cls := "SaturdayKeepModel", name := "guest", desc := "(II)I" } : Jvm.MethodName)) ∈ lw_all := lw_g (lw_at lw_m9 104 rfl) rfl
theorem q2131 : (Jvm.Cond.code ({ cls := "SaturdayKeepModel", name := "guest", desc := "(II)I" } : Jvm.MethodName) prog_18_method_54_code (5 : Nat) (Option.some Jvm.ClassFile.FieldType.int)) ∈ lw_all := lw_g (lw_at lw_m9 105 rfl) rfl
theorem q2132 : (Jvm.Cond.methodLink "SaturdayKeepModel" (267 : Nat) ({ cls := "SaturdayKeepModel", name := "isGuest", desc := "(I)Z" } : Jvm.MethodName)) ∈ lw_all := lw_g (lw_at lw_m9 106 rfl) rfl
theorem q2133 : (Jvm.Cond.privateMethod ({ cls := "SaturdayKeepModel", name := "isGuest", desc := "(I)Z" } : Jvm.MethodName)) ∈ lw_tbl := lw_at lw_m9 107 rfl
theorem q2134 : (Jvm.Cond.instanceMethod ({ cls := "SaturdayKeepModel", name := "isGuest", desc := "(I)Z" } : Jvm.MethodName)) ∈ lw_all := lw_g (lw_at lw_m9 108 rfl) rfl
theorem q2135 : (Jvm.Cond.code ({ cls := "SaturdayKeepModel", name := "isGuest", desc := "(I)Z" } : Jvm.MethodName) prog_18_method_10_code (2 : Nat) (Option.some Jvm.ClassFile.FieldType.boolean)) ∈ lw_all := lw_g (lw_at lw_m9 109 rfl) rfl
theorem q2136 : (Jvm.Cond.methodLink "SaturdayKeepModel" (49 : Nat) ({ cls := "SaturdayKeepModel", name := "of", desc := "(II)I" } : Jvm.MethodName)) ∈ lw_all := lw_g (lw_at lw_m9 110 rfl) rfl
theorem q2137 : (Jvm.Cond.privateMethod ({ cls := "SaturdayKeepModel", name := "of", desc := "(II)I" } : Jvm.MethodName)) ∈ lw_tbl := lw_at lw_m9 111 rfl
theorem q2138 : (Jvm.Cond.instanceMethod ({ cls := "SaturdayKeepModel", name := "of", desc := "(II)I" } : Jvm.MethodName)) ∈ lw_all := lw_g (lw_at lw_m9 112 rfl) rfl
theorem q2139 : (Jvm.Cond.code ({ cls := "SaturdayKeepModel", name := "of", desc := "(II)I" } : Jvm.MethodName) prog_18_method_8_code (3 : Nat) (Option.some Jvm.ClassFile.FieldType.int)) ∈ lw_all := lw_g (lw_at lw_m9 113 rfl) rfl
theorem q2140 : (Jvm.Cond.methodLink "SaturdayKeepModel" (258 : Nat) ({ cls := "SaturdayKeepModel", name := "risk", desc := "(I)I" } : Jvm.MethodName)) ∈ lw_all := lw_g (lw_at lw_m9 114 rfl) rfl
theorem q2141 : (Jvm.Cond.privateMethod ({ cls := "SaturdayKeepModel", name := "risk", desc := "(I)I" } : Jvm.MethodName)) ∈ lw_tbl := lw_at lw_m9 115 rfl
theorem q2142 : (Jvm.Cond.instanceMethod ({ cls := "SaturdayKeepModel", name := "risk", desc := "(I)I" } : Jvm.MethodName)) ∈ lw_all := lw_g (lw_at lw_m9 116 rfl) rfl
theorem q2143 : (Jvm.Cond.code ({ cls := "SaturdayKeepModel", name := "risk", desc := "(I)I" } : Jvm.MethodName) prog_18_method_48_code (2 : Nat) (Option.some Jvm.ClassFile.FieldType.int)) ∈ lw_all := lw_g (lw_at lw_m9 117 rfl) rfl
theorem q2144 : (Jvm.Cond.methodLink "SaturdayKeepModel" (246 : Nat) ({ cls := "SaturdayKeepModel", name := "turnsBy", desc := "(I)I" } : Jvm.MethodName)) ∈ lw_all := lw_g (lw_at lw_m9 118 rfl) rfl
theorem q2145 : (Jvm.Cond.privateMethod ({ cls := "SaturdayKeepModel", name := "turnsBy", desc := "(I)I" } : Jvm.MethodName)) ∈ lw_tbl := lw_at lw_m9 119 rfl
theorem q2146 : (Jvm.Cond.instanceMethod ({ cls := "SaturdayKeepModel", name := "turnsBy", desc := "(I)I" } : Jvm.MethodName)) ∈ lw_all := lw_g (lw_at lw_m9 120 rfl) rfl
theorem q2147 : (Jvm.Cond.code ({ cls := "SaturdayKeepModel", name := "turnsBy", desc := "(I)I" } : Jvm.MethodName) prog_18_method_44_code (4 : Nat) (Option.some Jvm.ClassFile.FieldType.int)) ∈ lw_all := lw_g (lw_at lw_m9 121 rfl) rfl
theorem q2148 : (Jvm.Cond.methodLink "SaturdayKeepModel" (57 : Nat) ({ cls := "SaturdayKeepModel", name := "bits", desc := "(I)I" } : Jvm.MethodName)) ∈ lw_all := lw_g (lw_at lw_m9 122 rfl) rfl
theorem q2149 : (Jvm.Cond.static ({ cls := "SaturdayKeepModel", name := "bits", desc := "(I)I" } : Jvm.MethodName)) ∈ lw_all := lw_g (lw_at lw_m9 123 rfl) rfl
theorem q2150 : (Jvm.Cond.code ({ cls := "SaturdayKeepModel", name := "bits", desc := "(I)I" } : Jvm.MethodName) prog_18_method_7_code (3 : Nat) (Option.some Jvm.ClassFile.FieldType.int)) ∈ lw_all := lw_g (lw_at lw_m9 124 rfl) rfl
theorem q2151 : (Jvm.Cond.methodLink "SaturdayKeepModel" (226 : Nat) ({ cls := "SaturdayKeepModel", name := "isSaturday", desc := "(II)Z" } : Jvm.MethodName)) ∈ lw_all := lw_g (lw_at lw_m9 125 rfl) rfl
theorem q2152 : (Jvm.Cond.privateMethod ({ cls := "SaturdayKeepModel", name := "isSaturday", desc := "(II)Z" } : Jvm.MethodName)) ∈ lw_tbl := lw_at lw_m9 126 rfl
theorem q2153 : (Jvm.Cond.instanceMethod ({ cls := "SaturdayKeepModel", name := "isSaturday", desc := "(II)Z" } : Jvm.MethodName)) ∈ lw_all := lw_g (lw_at lw_m9 127 rfl) rfl
theorem q2154 : (Jvm.Cond.code ({ cls := "SaturdayKeepModel", name := "isSaturday", desc := "(II)Z" } : Jvm.MethodName) prog_18_method_15_code (3 : Nat) (Option.some Jvm.ClassFile.FieldType.boolean)) ∈ lw_all := lw_g (lw_at lw_m9 128 rfl) rfl
theorem q2155 : (Jvm.Cond.methodLink "SaturdayKeepModel" (236 : Nat) ({ cls := "SaturdayKeepModel", name := "isHere", desc := "(I)Z" } : Jvm.MethodName)) ∈ lw_all := lw_g (lw_at lw_m9 129 rfl) rfl
theorem q2156 : (Jvm.Cond.privateMethod ({ cls := "SaturdayKeepModel", name := "isHere", desc := "(I)Z" } : Jvm.MethodName)) ∈ lw_tbl := lw_at lw_m9 130 rfl
theorem q2157 : (Jvm.Cond.instanceMethod ({ cls := "SaturdayKeepModel", name := "isHere", desc := "(I)Z" } : Jvm.MethodName)) ∈ lw_all := lw_g (lw_at lw_m9 131 rfl) rfl
theorem q2158 : (Jvm.Cond.code ({ cls := "SaturdayKeepModel", name := "isHere", desc := "(I)Z" } : Jvm.MethodName) prog_18_method_11_code (2 : Nat) (Option.some Jvm.ClassFile.FieldType.boolean)) ∈ lw_all := lw_g (lw_at lw_m9 132 rfl) rfl
theorem q2159 : (Jvm.Cond.methodLink "SaturdayKeepModel" (270 : Nat) ({ cls := "SaturdayKeepModel", name := "doubts", desc := "()I" } : Jvm.MethodName)) ∈ lw_all := lw_g (lw_at lw_m9 133 rfl) rfl
theorem q2160 : (Jvm.Cond.privateMethod ({ cls := "SaturdayKeepModel", name := "doubts", desc := "()I" } : Jvm.MethodName)) ∈ lw_tbl := lw_at lw_m9 134 rfl
theorem q2161 : (Jvm.Cond.instanceMethod ({ cls := "SaturdayKeepModel", name := "doubts", desc := "()I" } : Jvm.MethodName)) ∈ lw_all := lw_g (lw_at lw_m9 135 rfl) rfl
theorem q2162 : (Jvm.Cond.code ({ cls := "SaturdayKeepModel", name := "doubts", desc := "()I" } : Jvm.MethodName) prog_18_method_53_code (3 : Nat) (Option.some Jvm.ClassFile.FieldType.int)) ∈ lw_all := lw_g (lw_at lw_m9 136 rfl) rfl
theorem q2163 : (Jvm.Cond.methodLink "SaturdayKeepModel" (239 : Nat) ({ cls := "SaturdayKeepModel", name := "sees", desc := "(II)Z" } : Jvm.MethodName)) ∈ lw_all := lw_g (lw_at lw_m9 137 rfl) rfl
theorem q2164 : (Jvm.Cond.privateMethod ({ cls := "SaturdayKeepModel", name := "sees", desc := "(II)Z" } : Jvm.MethodName)) ∈ lw_tbl := lw_at lw_m9 138 rfl
theorem q2165 : (Jvm.Cond.instanceMethod ({ cls := "SaturdayKeepModel", name := "sees", desc := "(II)Z" } : Jvm.MethodName)) ∈ lw_all := lw_g (lw_at lw_m9 139 rfl) rfl
theorem q2166 : (Jvm.Cond.code ({ cls := "SaturdayKeepModel", name := "sees", desc := "(II)Z" } : Jvm.MethodName) prog_18_method_46_code (3 : Nat) (Option.some Jvm.ClassFile.FieldType.boolean)) ∈ lw_all := lw_g (lw_at lw_m9 140 rfl) rfl
theorem q2167 : (Jvm.Cond.methodLink "SaturdayKeepModel" (232 : Nat) ({ cls := "SaturdayKeepModel", name := "seesFrom", desc := "(IZI)Z" } : Jvm.MethodName)) ∈ lw_all := lw_g (lw_at lw_m9 141 rfl) rfl
theorem q2168 : (Jvm.Cond.privateMethod ({ cls := "SaturdayKeepModel", name := "seesFrom", desc := "(IZI)Z" } : Jvm.MethodName)) ∈ lw_tbl := lw_at lw_m9 142 rfl
theorem q2169 : (Jvm.Cond.instanceMethod ({ cls := "SaturdayKeepModel", name := "seesFrom", desc := "(IZI)Z" } : Jvm.MethodName)) ∈ lw_all := lw_g (lw_at lw_m9 143 rfl) rfl
theorem q2170 : (Jvm.Cond.code ({ cls := "SaturdayKeepModel", name := "seesFrom", desc := "(IZI)Z" } : Jvm.MethodName) prog_18_method_45_code (5 : Nat) (Option.some Jvm.ClassFile.FieldType.boolean)) ∈ lw_all := lw_g (lw_at lw_m9 144 rfl) rfl
theorem q2171 : (Jvm.Cond.methodLink "SaturdayKeepModel" (229 : Nat) ({ cls := "SaturdayKeepModel", name := "isHole", desc := "(II)Z" } : Jvm.MethodName)) ∈ lw_all := lw_g (lw_at lw_m9 145 rfl) rfl
theorem q2172 : (Jvm.Cond.privateMethod ({ cls := "SaturdayKeepModel", name := "isHole", desc := "(II)Z" } : Jvm.MethodName)) ∈ lw_tbl := lw_at lw_m9 146 rfl
theorem q2173 : (Jvm.Cond.instanceMethod ({ cls := "SaturdayKeepModel", name := "isHole", desc := "(II)Z" } : Jvm.MethodName)) ∈ lw_all := lw_g (lw_at lw_m9 147 rfl) rfl
theorem q2174 : (Jvm.Cond.code ({ cls := "SaturdayKeepModel", name := "isHole", desc := "(II)Z" } : Jvm.MethodName) prog_18_method_13_code (3 : Nat) (Option.some Jvm.ClassFile.FieldType.boolean)) ∈ lw_all := lw_g (lw_at lw_m9 148 rfl) rfl
theorem q2175 : (Jvm.Cond.methodLink "SaturdayKeepModel" (53 : Nat) ({ cls := "SaturdayKeepModel", name := "isOf", desc := "(II)Z" } : Jvm.MethodName)) ∈ lw_all := lw_g (lw_at lw_m9 149 rfl) rfl
theorem q2176 : (Jvm.Cond.static ({ cls := "SaturdayKeepModel", name := "isOf", desc := "(II)Z" } : Jvm.MethodName)) ∈ lw_all := lw_g (lw_at lw_m9 150 rfl) rfl
theorem q2177 : (Jvm.Cond.code ({ cls := "SaturdayKeepModel", name := "isOf", desc := "(II)Z" } : Jvm.MethodName) prog_18_method_6_code (2 : Nat) (Option.some Jvm.ClassFile.FieldType.boolean)) ∈ lw_all := lw_g (lw_at lw_m9 151 rfl) rfl
theorem q2179 : (Jvm.Cond.instanceMethod ({ cls := "SaturdayKeepModel", name := "room", desc := "(II)I" } : Jvm.MethodName)) ∈ lw_all := lw_g (lw_at lw_m9 153 rfl) rfl
theorem q2180 : (Jvm.Cond.selects "SaturdayKeepModel" ({ cls := "SaturdayKeepModel", name := "room", desc := "(II)I" } : Jvm.MethodName) ({ cls := "SaturdayKeepModel", name := "room", desc := "(II)I" } : Jvm.MethodName)) ∈ lw_all := lw_g (lw_at lw_m9 154 rfl) rfl
theorem q2181 : (Jvm.Cond.code ({ cls := "SaturdayKeepModel", name := "room", desc := "(II)I" } : Jvm.MethodName) prog_18_method_57_code (3 : Nat) (Option.some Jvm.ClassFile.FieldType.int)) ∈ lw_all := lw_g (lw_at lw_m9 155 rfl) rfl
theorem q2182 : (Jvm.Cond.methodLink "SaturdayKeepModel" (273 : Nat) ({ cls := "SaturdayKeepModel", name := "isRoom", desc := "(I)Z" } : Jvm.MethodName)) ∈ lw_all := lw_g (lw_at lw_m9 156 rfl) rfl
theorem q2183 : (Jvm.Cond.static ({ cls := "SaturdayKeepModel", name := "isRoom", desc := "(I)Z" } : Jvm.MethodName)) ∈ lw_all := lw_g (lw_at lw_m9 157 rfl) rfl
theorem q2184 : (Jvm.Cond.code ({ cls := "SaturdayKeepModel", name := "isRoom", desc := "(I)Z" } : Jvm.MethodName) prog_18_method_12_code (1 : Nat) (Option.some Jvm.ClassFile.FieldType.boolean)) ∈ lw_all := lw_g (lw_at lw_m9 158 rfl) rfl
theorem q2185 : (Jvm.Cond.methodLink "SaturdayKeepModel" (276 : Nat) ({ cls := "SaturdayKeepModel", name := "from", desc := "(I)I" } : Jvm.MethodName)) ∈ lw_all := lw_g (lw_at lw_m9 159 rfl) rfl
theorem q2186 : (Jvm.Cond.privateMethod ({ cls := "SaturdayKeepModel", name := "from", desc := "(I)I" } : Jvm.MethodName)) ∈ lw_tbl := lw_at lw_m9 160 rfl
theorem q2187 : (Jvm.Cond.instanceMethod ({ cls := "SaturdayKeepModel", name := "from", desc := "(I)I" } : Jvm.MethodName)) ∈ lw_all := lw_g (lw_at lw_m9 161 rfl) rfl
theorem q2188 : (Jvm.Cond.code ({ cls := "SaturdayKeepModel", name := "from", desc := "(I)I" } : Jvm.MethodName) prog_18_method_55_code (4 : Nat) (Option.some Jvm.ClassFile.FieldType.int)) ∈ lw_all := lw_g (lw_at lw_m9 162 rfl) rfl
theorem q2189 : (Jvm.Cond.methodLink "SaturdayKeepModel" (279 : Nat) ({ cls := "SaturdayKeepModel", name := "guestsIn", desc := "(I)I" } : Jvm.MethodName)) ∈ lw_all := lw_g (lw_at lw_m9 163 rfl) rfl
theorem q2190 : (Jvm.Cond.privateMethod ({ cls := "SaturdayKeepModel", name := "guestsIn", desc := "(I)I" } : Jvm.MethodName)) ∈ lw_tbl := lw_at lw_m9 164 rfl
theorem q2191 : (Jvm.Cond.instanceMethod ({ cls := "SaturdayKeepModel", name := "guestsIn", desc := "(I)I" } : Jvm.MethodName)) ∈ lw_all := lw_g (lw_at lw_m9 165 rfl) rfl
theorem q2192 : (Jvm.Cond.code ({ cls := "SaturdayKeepModel", name := "guestsIn", desc := "(I)I" } : Jvm.MethodName) prog_18_method_56_code (4 : Nat) (Option.some Jvm.ClassFile.FieldType.int)) ∈ lw_all := lw_g (lw_at lw_m9 166 rfl) rfl
theorem q2193 : (Jvm.Cond.methodLink "SaturdayKeepModel" (252 : Nat) ({ cls := "SaturdayKeepModel", name := "watchers", desc := "(I)I" } : Jvm.MethodName)) ∈ lw_all := lw_g (lw_at lw_m9 167 rfl) rfl
theorem q2194 : (Jvm.Cond.privateMethod ({ cls := "SaturdayKeepModel", name := "watchers", desc := "(I)I" } : Jvm.MethodName)) ∈ lw_tbl := lw_at lw_m9 168 rfl
theorem q2195 : (Jvm.Cond.instanceMethod ({ cls := "SaturdayKeepModel", name := "watchers", desc := "(I)I" } : Jvm.MethodName)) ∈ lw_all := lw_g (lw_at lw_m9 169 rfl) rfl
theorem q2196 : (Jvm.Cond.code ({ cls := "SaturdayKeepModel", name := "watchers", desc := "(I)I" } : Jvm.MethodName) prog_18_method_47_code (4 : Nat) (Option.some Jvm.ClassFile.FieldType.int)) ∈ lw_all := lw_g (lw_at lw_m9 170 rfl) rfl
theorem q2198 : (Jvm.Cond.instanceMethod ({ cls := "SaturdayKeepModel", name := "calendar", desc := "(IZ)I" } : Jvm.MethodName)) ∈ lw_all := lw_g (lw_at lw_m9 172 rfl) rfl
theorem q2199 : (Jvm.Cond.selects "SaturdayKeepModel" ({ cls := "SaturdayKeepModel", name := "calendar", desc := "(IZ)I" } : Jvm.MethodName) ({ cls := "SaturdayKeepModel", name := "calendar", desc := "(IZ)I" } : Jvm.MethodName)) ∈ lw_all := lw_g (lw_at lw_m9 173 rfl) rfl
theorem q2200 : (Jvm.Cond.code ({ cls := "SaturdayKeepModel", name := "calendar", desc := "(IZ)I" } : Jvm.MethodName) prog_18_method_58_code (4 : Nat) (Option.some Jvm.ClassFile.FieldType.int)) ∈ lw_all := lw_g (lw_at lw_m9 174 rfl) rfl
theorem q2202 : (Jvm.Cond.instanceMethod ({ cls := "SaturdayKeepModel", name := "saturday", desc := "(II)Z" } : Jvm.MethodName)) ∈ lw_all := lw_g (lw_at lw_m9 176 rfl) rfl
theorem q2203 : (Jvm.Cond.selects "SaturdayKeepModel" ({ cls := "SaturdayKeepModel", name := "saturday", desc := "(II)Z" } : Jvm.MethodName) ({ cls := "SaturdayKeepModel", name := "saturday", desc := "(II)Z" } : Jvm.MethodName)) ∈ lw_all := lw_g (lw_at lw_m9 177 rfl) rfl
theorem q2204 : (Jvm.Cond.code ({ cls := "SaturdayKeepModel", name := "saturday", desc := "(II)Z" } : Jvm.MethodName) prog_18_method_59_code (3 : Nat) (Option.some Jvm.ClassFile.FieldType.boolean)) ∈ lw_all := lw_g (lw_at lw_m9 178 rfl) rfl
theorem q2206 : (Jvm.Cond.instanceMethod ({ cls := "SaturdayKeepModel", name := "go", desc := "(II)I" } : Jvm.MethodName)) ∈ lw_all := lw_g (lw_at lw_m9 180 rfl) rfl
theorem q2207 : (Jvm.Cond.selects "SaturdayKeepModel" ({ cls := "SaturdayKeepModel", name := "go", desc := "(II)I" } : Jvm.MethodName) ({ cls := "SaturdayKeepModel", name := "go", desc := "(II)I" } : Jvm.MethodName)) ∈ lw_all := lw_g (lw_at lw_m9 181 rfl) rfl
theorem q2208 : (Jvm.Cond.code ({ cls := "SaturdayKeepModel", name := "go", desc := "(II)I" } : Jvm.MethodName) prog_18_method_62_code (3 : Nat) (Option.some Jvm.ClassFile.FieldType.int)) ∈ lw_all := lw_g (lw_at lw_m9 182 rfl) rfl
theorem q2209 : (Jvm.Cond.methodLink "SaturdayKeepModel" (285 : Nat) ({ cls := "SaturdayKeepModel", name := "sets", desc := "(II)I" } : Jvm.MethodName)) ∈ lw_all := lw_g (lw_at lw_m9 183 rfl) rfl
theorem q2210 : (Jvm.Cond.privateMethod ({ cls := "SaturdayKeepModel", name := "sets", desc := "(II)I" } : Jvm.MethodName)) ∈ lw_tbl := lw_at lw_m9 184 rfl
theorem q2211 : (Jvm.Cond.instanceMethod ({ cls := "SaturdayKeepModel", name := "sets", desc := "(II)I" } : Jvm.MethodName)) ∈ lw_all := lw_g (lw_at lw_m9 185 rfl) rfl
theorem q2212 : (Jvm.Cond.code ({ cls := "SaturdayKeepModel", name := "sets", desc := "(II)I" } : Jvm.MethodName) prog_18_method_61_code (4 : Nat) (Option.some Jvm.ClassFile.FieldType.int)) ∈ lw_all := lw_g (lw_at lw_m9 186 rfl) rfl
theorem q2213 : (Jvm.Cond.methodLink "SaturdayKeepModel" (282 : Nat) ({ cls := "SaturdayKeepModel", name := "remembers", desc := "()V" } : Jvm.MethodName)) ∈ lw_all := lw_g (lw_at lw_m9 187 rfl) rfl
theorem q2214 : (Jvm.Cond.privateMethod ({ cls := "SaturdayKeepModel", name := "remembers", desc := "()V" } : Jvm.MethodName)) ∈ lw_tbl := lw_at lw_m9 188 rfl
theorem q2215 : (Jvm.Cond.instanceMethod ({ cls := "SaturdayKeepModel", name := "remembers", desc := "()V" } : Jvm.MethodName)) ∈ lw_all := lw_g (lw_at lw_m9 189 rfl) rfl
theorem q2216 : (Jvm.Cond.code ({ cls := "SaturdayKeepModel", name := "remembers", desc := "()V" } : Jvm.MethodName) prog_18_method_60_code (2 : Nat) (Option.none : Option Jvm.ClassFile.FieldType)) ∈ lw_all := lw_g (lw_at lw_m9 190 rfl) rfl
theorem q2218 : (Jvm.Cond.instanceMethod ({ cls := "SaturdayKeepModel", name := "come", desc := "(IZ)Z" } : Jvm.MethodName)) ∈ lw_all := lw_g (lw_at lw_m9 192 rfl) rfl
theorem q2219 : (Jvm.Cond.selects "SaturdayKeepModel" ({ cls := "SaturdayKeepModel", name := "come", desc := "(IZ)Z" } : Jvm.MethodName) ({ cls := "SaturdayKeepModel", name := "come", desc := "(IZ)Z" } : Jvm.MethodName)) ∈ lw_all := lw_g (lw_at lw_m9 193 rfl) rfl
theorem q2220 : (Jvm.Cond.code ({ cls := "SaturdayKeepModel", name := "come", desc := "(IZ)Z" } : Jvm.MethodName) prog_18_method_63_code (3 : Nat) (Option.some Jvm.ClassFile.FieldType.boolean)) ∈ lw_all := lw_g (lw_at lw_m9 194 rfl) rfl
theorem q2222 : (Jvm.Cond.instanceMethod ({ cls := "SaturdayKeepModel", name := "key", desc := "(IZ)Z" } : Jvm.MethodName)) ∈ lw_all := lw_g (lw_at lw_m9 196 rfl) rfl
theorem q2223 : (Jvm.Cond.selects "SaturdayKeepModel" ({ cls := "SaturdayKeepModel", name := "key", desc := "(IZ)Z" } : Jvm.MethodName) ({ cls := "SaturdayKeepModel", name := "key", desc := "(IZ)Z" } : Jvm.MethodName)) ∈ lw_all := lw_g (lw_at lw_m9 197 rfl) rfl
theorem q2224 : (Jvm.Cond.code ({ cls := "SaturdayKeepModel", name := "key", desc := "(IZ)Z" } : Jvm.MethodName) prog_18_method_64_code (3 : Nat) (Option.some Jvm.ClassFile.FieldType.boolean)) ∈ lw_all := lw_g (lw_at lw_m9 198 rfl) rfl
theorem q2226 : (Jvm.Cond.instanceMethod ({ cls := "SaturdayKeepModel", name := "hole", desc := "(IIZ)Z" } : Jvm.MethodName)) ∈ lw_all := lw_g (lw_at lw_m9 200 rfl) rfl
theorem q2227 : (Jvm.Cond.selects "SaturdayKeepModel" ({ cls := "SaturdayKeepModel", name := "hole", desc := "(IIZ)Z" } : Jvm.MethodName) ({ cls := "SaturdayKeepModel", name := "hole", desc := "(IIZ)Z" } : Jvm.MethodName)) ∈ lw_all := lw_g (lw_at lw_m9 201 rfl) rfl
theorem q2228 : (Jvm.Cond.code ({ cls := "SaturdayKeepModel", name := "hole", desc := "(IIZ)Z" } : Jvm.MethodName) prog_18_method_65_code (6 : Nat) (Option.some Jvm.ClassFile.FieldType.boolean)) ∈ lw_all := lw_g (lw_at lw_m9 202 rfl) rfl
theorem q2230 : (Jvm.Cond.instanceMethod ({ cls := "SaturdayKeepModel", name := "bath", desc := "(I)I" } : Jvm.MethodName)) ∈ lw_all := lw_g (lw_at lw_m9 204 rfl) rfl
theorem q2231 : (Jvm.Cond.selects "SaturdayKeepModel" ({ cls := "SaturdayKeepModel", name := "bath", desc := "(I)I" } : Jvm.MethodName) ({ cls := "SaturdayKeepModel", name := "bath", desc := "(I)I" } : Jvm.MethodName)) ∈ lw_all := lw_g (lw_at lw_m9 205 rfl) rfl
theorem q2232 : (Jvm.Cond.code ({ cls := "SaturdayKeepModel", name := "bath", desc := "(I)I" } : Jvm.MethodName) prog_18_method_66_code (2 : Nat) (Option.some Jvm.ClassFile.FieldType.int)) ∈ lw_all := lw_g (lw_at lw_m9 206 rfl) rfl
theorem q2234 : (Jvm.Cond.instanceMethod ({ cls := "SaturdayKeepModel", name := "keep", desc := "(I)I" } : Jvm.MethodName)) ∈ lw_all := lw_g (lw_at lw_m9 208 rfl) rfl
theorem q2235 : (Jvm.Cond.selects "SaturdayKeepModel" ({ cls := "SaturdayKeepModel", name := "keep", desc := "(I)I" } : Jvm.MethodName) ({ cls := "SaturdayKeepModel", name := "keep", desc := "(I)I" } : Jvm.MethodName)) ∈ lw_all := lw_g (lw_at lw_m9 209 rfl) rfl
theorem q2236 : (Jvm.Cond.code ({ cls := "SaturdayKeepModel", name := "keep", desc := "(I)I" } : Jvm.MethodName) prog_18_method_67_code (2 : Nat) (Option.some Jvm.ClassFile.FieldType.int)) ∈ lw_all := lw_g (lw_at lw_m9 210 rfl) rfl
theorem q2238 : (Jvm.Cond.instanceMethod ({ cls := "SaturdayKeepModel", name := "masons", desc := "(I)I" } : Jvm.MethodName)) ∈ lw_all := lw_g (lw_at lw_m9 212 rfl) rfl
theorem q2239 : (Jvm.Cond.selects "SaturdayKeepModel" ({ cls := "SaturdayKeepModel", name := "masons", desc := "(I)I" } : Jvm.MethodName) ({ cls := "SaturdayKeepModel", name := "masons", desc := "(I)I" } : Jvm.MethodName)) ∈ lw_all := lw_g (lw_at lw_m9 213 rfl) rfl
theorem q2240 : (Jvm.Cond.code ({ cls := "SaturdayKeepModel", name := "masons", desc := "(I)I" } : Jvm.MethodName) prog_18_method_68_code (2 : Nat) (Option.some Jvm.ClassFile.FieldType.int)) ∈ lw_all := lw_g (lw_at lw_m9 214 rfl) rfl
theorem q2242 : (Jvm.Cond.instanceMethod ({ cls := "SaturdayKeepModel", name := "buy", desc := "(I)I" } : Jvm.MethodName)) ∈ lw_all := lw_g (lw_at lw_m9 216 rfl) rfl
theorem q2243 : (Jvm.Cond.selects "SaturdayKeepModel" ({ cls := "SaturdayKeepModel", name := "buy", desc := "(I)I" } : Jvm.MethodName) ({ cls := "SaturdayKeepModel", name := "buy", desc := "(I)I" } : Jvm.MethodName)) ∈ lw_all := lw_g (lw_at lw_m9 217 rfl) rfl
theorem q2244 : (Jvm.Cond.code ({ cls := "SaturdayKeepModel", name := "buy", desc := "(I)I" } : Jvm.MethodName) prog_18_method_69_code (3 : Nat) (Option.some Jvm.ClassFile.FieldType.int)) ∈ lw_all := lw_g (lw_at lw_m9 218 rfl) rfl
theorem q2245 : (Jvm.Cond.methodLink "SaturdayKeepModel" (243 : Nat) ({ cls := "SaturdayKeepModel", name := "lesser", desc := "(II)I" } : Jvm.MethodName)) ∈ lw_all := lw_g (lw_at lw_m9 219 rfl) rfl
theorem q2246 : (Jvm.Cond.static ({ cls := "SaturdayKeepModel", name := "lesser", desc := "(II)I" } : Jvm.MethodName)) ∈ lw_all := lw_g (lw_at lw_m9 220 rfl) rfl
theorem q2247 : (Jvm.Cond.code ({ cls := "SaturdayKeepModel", name := "lesser", desc := "(II)I" } : Jvm.MethodName) prog_18_method_4_code (2 : Nat) (Option.some Jvm.ClassFile.FieldType.int)) ∈ lw_all := lw_g (lw_at lw_m9 221 rfl) rfl
theorem q2249 : (Jvm.Cond.instanceMethod ({ cls := "SaturdayKeepModel", name := "calm", desc := "(I)I" } : Jvm.MethodName)) ∈ lw_all := lw_g (lw_at lw_m9 223 rfl) rfl
theorem q2250 : (Jvm.Cond.selects "SaturdayKeepModel" ({ cls := "SaturdayKeepModel", name := "calm", desc := "(I)I" } : Jvm.MethodName) ({ cls := "SaturdayKeepModel", name := "calm", desc := "(I)I" } : Jvm.MethodName)) ∈ lw_all := lw_g (lw_at lw_m9 224 rfl) rfl
theorem q2251 : (Jvm.Cond.code ({ cls := "SaturdayKeepModel", name := "calm", desc := "(I)I" } : Jvm.MethodName) prog_18_method_70_code (3 : Nat) (Option.some Jvm.ClassFile.FieldType.int)) ∈ lw_all := lw_g (lw_at lw_m9 225 rfl) rfl
theorem q2253 : (Jvm.Cond.instanceMethod ({ cls := "SaturdayKeepModel", name := "days", desc := "(I)I" } : Jvm.MethodName)) ∈ lw_all := lw_g (lw_at lw_m9 227 rfl) rfl
theorem q2254 : (Jvm.Cond.selects "SaturdayKeepModel" ({ cls := "SaturdayKeepModel", name := "days", desc := "(I)I" } : Jvm.MethodName) ({ cls := "SaturdayKeepModel", name := "days", desc := "(I)I" } : Jvm.MethodName)) ∈ lw_all := lw_g (lw_at lw_m9 228 rfl) rfl
theorem q2255 : (Jvm.Cond.code ({ cls := "SaturdayKeepModel", name := "days", desc := "(I)I" } : Jvm.MethodName) prog_18_method_71_code (2 : Nat) (Option.some Jvm.ClassFile.FieldType.int)) ∈ lw_all := lw_g (lw_at lw_m9 229 rfl) rfl
theorem q2256 : (Jvm.Cond.methodLink "SaturdayKeepModel" (288 : Nat) ({ cls := "SaturdayKeepModel", name := "goes", desc := "(IZ)I" } : Jvm.MethodName)) ∈ lw_all := lw_g (lw_at lw_m9 230 rfl) rfl
theorem q2257 : (Jvm.Cond.privateMethod ({ cls := "SaturdayKeepModel", name := "goes", desc := "(IZ)I" } : Jvm.MethodName)) ∈ lw_tbl := lw_at lw_m9 231 rfl
theorem q2258 : (Jvm.Cond.instanceMethod ({ cls := "SaturdayKeepModel", name := "goes", desc := "(IZ)I" } : Jvm.MethodName)) ∈ lw_all := lw_g (lw_at lw_m9 232 rfl) rfl
theorem q2259 : (Jvm.Cond.code ({ cls := "SaturdayKeepModel", name := "goes", desc := "(IZ)I" } : Jvm.MethodName) prog_18_method_52_code (7 : Nat) (Option.some Jvm.ClassFile.FieldType.int)) ∈ lw_all := lw_g (lw_at lw_m9 233 rfl) rfl
theorem q2260 : (Jvm.Cond.methodLink "SaturdayKeepModel" (249 : Nat) ({ cls := "SaturdayKeepModel", name := "greater", desc := "(II)I" } : Jvm.MethodName)) ∈ lw_all := lw_g (lw_at lw_m9 234 rfl) rfl
theorem q2261 : (Jvm.Cond.static ({ cls := "SaturdayKeepModel", name := "greater", desc := "(II)I" } : Jvm.MethodName)) ∈ lw_all := lw_g (lw_at lw_m9 235 rfl) rfl
theorem q2262 : (Jvm.Cond.code ({ cls := "SaturdayKeepModel", name := "greater", desc := "(II)I" } : Jvm.MethodName) prog_18_method_5_code (2 : Nat) (Option.some Jvm.ClassFile.FieldType.int)) ∈ lw_all := lw_g (lw_at lw_m9 236 rfl) rfl
theorem q2263 : (Jvm.Cond.methodLink "SaturdayKeepModel" (255 : Nat) ({ cls := "SaturdayKeepModel", name := "draw", desc := "(I)I" } : Jvm.MethodName)) ∈ lw_all := lw_g (lw_at lw_m9 237 rfl) rfl
theorem q2264 : (Jvm.Cond.privateMethod ({ cls := "SaturdayKeepModel", name := "draw", desc := "(I)I" } : Jvm.MethodName)) ∈ lw_tbl := lw_at lw_m9 238 rfl
theorem q2265 : (Jvm.Cond.instanceMethod ({ cls := "SaturdayKeepModel", name := "draw", desc := "(I)I" } : Jvm.MethodName)) ∈ lw_all := lw_g (lw_at lw_m9 239 rfl) rfl
theorem q2266 : (Jvm.Cond.code ({ cls := "SaturdayKeepModel", name := "draw", desc := "(I)I" } : Jvm.MethodName) prog_18_method_49_code (2 : Nat) (Option.some Jvm.ClassFile.FieldType.int)) ∈ lw_all := lw_g (lw_at lw_m10 0 rfl) rfl
theorem q2267 : (Jvm.Cond.constant "SaturdayKeepModel" (242 : Nat) (1103515245 : Int32)) ∈ lw_all := lw_g (lw_at lw_m10 1 rfl) rfl
theorem q2268 : (Jvm.Cond.methodLink "SaturdayKeepModel" (261 : Nat) ({ cls := "SaturdayKeepModel", name := "looks", desc := "(I)V" } : Jvm.MethodName)) ∈ lw_all := lw_g (lw_at lw_m10 2 rfl) rfl
theorem q2269 : (Jvm.Cond.privateMethod ({ cls := "SaturdayKeepModel", name := "looks", desc := "(I)V" } : Jvm.MethodName)) ∈ lw_tbl := lw_at lw_m10 3 rfl
theorem q2270 : (Jvm.Cond.instanceMethod ({ cls := "SaturdayKeepModel", name := "looks", desc := "(I)V" } : Jvm.MethodName)) ∈ lw_all := lw_g (lw_at lw_m10 4 rfl) rfl
theorem q2271 : (Jvm.Cond.code ({ cls := "SaturdayKeepModel", name := "looks", desc := "(I)V" } : Jvm.MethodName) prog_18_method_50_code (3 : Nat) (Option.none : Option Jvm.ClassFile.FieldType)) ∈ lw_all := lw_g (lw_at lw_m10 5 rfl) rfl
theorem q2272 : (Jvm.Cond.methodLink "SaturdayKeepModel" (264 : Nat) ({ cls := "SaturdayKeepModel", name := "builds", desc := "()V" } : Jvm.MethodName)) ∈ lw_all := lw_g (lw_at lw_m10 6 rfl) rfl
theorem q2273 : (Jvm.Cond.privateMethod ({ cls := "SaturdayKeepModel", name := "builds", desc := "()V" } : Jvm.MethodName)) ∈ lw_tbl := lw_at lw_m10 7 rfl
theorem q2274 : (Jvm.Cond.instanceMethod ({ cls := "SaturdayKeepModel", name := "builds", desc := "()V" } : Jvm.MethodName)) ∈ lw_all := lw_g (lw_at lw_m10 8 rfl) rfl
theorem q2275 : (Jvm.Cond.code ({ cls := "SaturdayKeepModel", name := "builds", desc := "()V" } : Jvm.MethodName) prog_18_method_51_code (2 : Nat) (Option.none : Option Jvm.ClassFile.FieldType)) ∈ lw_all := lw_g (lw_at lw_m10 9 rfl) rfl
theorem q2277 : (Jvm.Cond.instanceMethod ({ cls := "SaturdayKeepModel", name := "ahead", desc := "(III)I" } : Jvm.MethodName)) ∈ lw_all := lw_g (lw_at lw_m10 11 rfl) rfl
theorem q2278 : (Jvm.Cond.selects "SaturdayKeepModel" ({ cls := "SaturdayKeepModel", name := "ahead", desc := "(III)I" } : Jvm.MethodName) ({ cls := "SaturdayKeepModel", name := "ahead", desc := "(III)I" } : Jvm.MethodName)) ∈ lw_all := lw_g (lw_at lw_m10 12 rfl) rfl
theorem q2279 : (Jvm.Cond.code ({ cls := "SaturdayKeepModel", name := "ahead", desc := "(III)I" } : Jvm.MethodName) prog_18_method_72_code (6 : Nat) (Option.some Jvm.ClassFile.FieldType.int)) ∈ lw_all := lw_g (lw_at lw_m10 13 rfl) rfl
theorem q2281 : (Jvm.Cond.instanceMethod ({ cls := "SaturdayKeepModel", name := "both", desc := "()I" } : Jvm.MethodName)) ∈ lw_all := lw_g (lw_at lw_m10 15 rfl) rfl
theorem q2282 : (Jvm.Cond.selects "SaturdayKeepModel" ({ cls := "SaturdayKeepModel", name := "both", desc := "()I" } : Jvm.MethodName) ({ cls := "SaturdayKeepModel", name := "both", desc := "()I" } : Jvm.MethodName)) ∈ lw_all := lw_g (lw_at lw_m10 16 rfl) rfl
theorem q2283 : (Jvm.Cond.code ({ cls := "SaturdayKeepModel", name := "both", desc := "()I" } : Jvm.MethodName) prog_18_method_73_code (2 : Nat) (Option.some Jvm.ClassFile.FieldType.int)) ∈ lw_all := lw_g (lw_at lw_m10 17 rfl) rfl
theorem q2285 : (Jvm.Cond.instanceMethod ({ cls := "SaturdayKeepModel", name := "saturdays", desc := "(I)I" } : Jvm.MethodName)) ∈ lw_all := lw_g (lw_at lw_m10 19 rfl) rfl
theorem q2286 : (Jvm.Cond.selects "SaturdayKeepModel" ({ cls := "SaturdayKeepModel", name := "saturdays", desc := "(I)I" } : Jvm.MethodName) ({ cls := "SaturdayKeepModel", name := "saturdays", desc := "(I)I" } : Jvm.MethodName)) ∈ lw_all := lw_g (lw_at lw_m10 20 rfl) rfl
theorem q2287 : (Jvm.Cond.code ({ cls := "SaturdayKeepModel", name := "saturdays", desc := "(I)I" } : Jvm.MethodName) prog_18_method_74_code (4 : Nat) (Option.some Jvm.ClassFile.FieldType.int)) ∈ lw_all := lw_g (lw_at lw_m10 21 rfl) rfl
theorem q2289 : (Jvm.Cond.instanceMethod ({ cls := "SaturdayKeepModel", name := "first", desc := "(II)I" } : Jvm.MethodName)) ∈ lw_all := lw_g (lw_at lw_m10 23 rfl) rfl
theorem q2290 : (Jvm.Cond.selects "SaturdayKeepModel" ({ cls := "SaturdayKeepModel", name := "first", desc := "(II)I" } : Jvm.MethodName) ({ cls := "SaturdayKeepModel", name := "first", desc := "(II)I" } : Jvm.MethodName)) ∈ lw_all := lw_g (lw_at lw_m10 24 rfl) rfl
theorem q2291 : (Jvm.Cond.code ({ cls := "SaturdayKeepModel", name := "first", desc := "(II)I" } : Jvm.MethodName) prog_18_method_75_code (6 : Nat) (Option.some Jvm.ClassFile.FieldType.int)) ∈ lw_all := lw_g (lw_at lw_m10 25 rfl) rfl
theorem q2293 : (Jvm.Cond.instanceMethod ({ cls := "SaturdayKeepModel", name := "gone", desc := "()I" } : Jvm.MethodName)) ∈ lw_all := lw_g (lw_at lw_m10 27 rfl) rfl
theorem q2294 : (Jvm.Cond.selects "SaturdayKeepModel" ({ cls := "SaturdayKeepModel", name := "gone", desc := "()I" } : Jvm.MethodName) ({ cls := "SaturdayKeepModel", name := "gone", desc := "()I" } : Jvm.MethodName)) ∈ lw_all := lw_g (lw_at lw_m10 28 rfl) rfl
theorem q2295 : (Jvm.Cond.code ({ cls := "SaturdayKeepModel", name := "gone", desc := "()I" } : Jvm.MethodName) prog_18_method_77_code (1 : Nat) (Option.some Jvm.ClassFile.FieldType.int)) ∈ lw_all := lw_g (lw_at lw_m10 29 rfl) rfl
theorem q2296 : (Jvm.Cond.methodLink "SaturdayKeepModel" (292 : Nat) ({ cls := "SaturdayKeepModel", name := "builtBy", desc := "(I)I" } : Jvm.MethodName)) ∈ lw_all := lw_g (lw_at lw_m10 30 rfl) rfl
theorem q2297 : (Jvm.Cond.privateMethod ({ cls := "SaturdayKeepModel", name := "builtBy", desc := "(I)I" } : Jvm.MethodName)) ∈ lw_tbl := lw_at lw_m10 31 rfl
theorem q2298 : (Jvm.Cond.instanceMethod ({ cls := "SaturdayKeepModel", name := "builtBy", desc := "(I)I" } : Jvm.MethodName)) ∈ lw_all := lw_g (lw_at lw_m10 32 rfl) rfl
theorem q2299 : (Jvm.Cond.code ({ cls := "SaturdayKeepModel", name := "builtBy", desc := "(I)I" } : Jvm.MethodName) prog_18_method_76_code (4 : Nat) (Option.some Jvm.ClassFile.FieldType.int)) ∈ lw_all := lw_g (lw_at lw_m10 33 rfl) rfl
theorem q2301 : (Jvm.Cond.instanceMethod ({ cls := "SaturdayKeepModel", name := "stand", desc := "(I)I" } : Jvm.MethodName)) ∈ lw_all := lw_g (lw_at lw_m10 35 rfl) rfl
theorem q2302 : (Jvm.Cond.selects "SaturdayKeepModel" ({ cls := "SaturdayKeepModel", name := "stand", desc := "(I)I" } : Jvm.MethodName) ({ cls := "SaturdayKeepModel", name := "stand", desc := "(I)I" } : Jvm.MethodName)) ∈ lw_all := lw_g (lw_at lw_m10 36 rfl) rfl
theorem q2303 : (Jvm.Cond.code ({ cls := "SaturdayKeepModel", name := "stand", desc := "(I)I" } : Jvm.MethodName) prog_18_method_78_code (2 : Nat) (Option.some Jvm.ClassFile.FieldType.int)) ∈ lw_all := lw_g (lw_at lw_m10 37 rfl) rfl
theorem q2305 : (Jvm.Cond.instanceMethod ({ cls := "SaturdayKeepModel", name := "odds", desc := "()I" } : Jvm.MethodName)) ∈ lw_all := lw_g (lw_at lw_m10 39 rfl) rfl
theorem q2306 : (Jvm.Cond.selects "SaturdayKeepModel" ({ cls := "SaturdayKeepModel", name := "odds", desc := "()I" } : Jvm.MethodName) ({ cls := "SaturdayKeepModel", name := "odds", desc := "()I" } : Jvm.MethodName)) ∈ lw_all := lw_g (lw_at lw_m10 40 rfl) rfl
theorem q2307 : (Jvm.Cond.code ({ cls := "SaturdayKeepModel", name := "odds", desc := "()I" } : Jvm.MethodName) prog_18_method_80_code (1 : Nat) (Option.some Jvm.ClassFile.FieldType.int)) ∈ lw_all := lw_g (lw_at lw_m10 41 rfl) rfl
theorem q2308 : (Jvm.Cond.methodLink "SaturdayKeepModel" (299 : Nat) ({ cls := "SaturdayKeepModel", name := "oddsOf", desc := "(I)I" } : Jvm.MethodName)) ∈ lw_all := lw_g (lw_at lw_m10 42 rfl) rfl
theorem q2309 : (Jvm.Cond.privateMethod ({ cls := "SaturdayKeepModel", name := "oddsOf", desc := "(I)I" } : Jvm.MethodName)) ∈ lw_tbl := lw_at lw_m10 43 rfl
theorem q2310 : (Jvm.Cond.instanceMethod ({ cls := "SaturdayKeepModel", name := "oddsOf", desc := "(I)I" } : Jvm.MethodName)) ∈ lw_all := lw_g (lw_at lw_m10 44 rfl) rfl
theorem q2311 : (Jvm.Cond.code ({ cls := "SaturdayKeepModel", name := "oddsOf", desc := "(I)I" } : Jvm.MethodName) prog_18_method_79_code (7 : Nat) (Option.some Jvm.ClassFile.FieldType.int)) ∈ lw_all := lw_g (lw_at lw_m10 45 rfl) rfl
theorem q2312 : (Jvm.Cond.constantLong "SaturdayKeepModel" (295 : Nat) (10 : Int64)) ∈ lw_all := lw_g (lw_at lw_m10 46 rfl) rfl
theorem q2313 : (Jvm.Cond.constantLong "SaturdayKeepModel" (297 : Nat) (10000 : Int64)) ∈ lw_all := lw_g (lw_at lw_m10 47 rfl) rfl
theorem q2315 : (Jvm.Cond.instanceMethod ({ cls := "SaturdayKeepModel", name := "send", desc := "()I" } : Jvm.MethodName)) ∈ lw_all := lw_g (lw_at lw_m10 49 rfl) rfl
theorem q2316 : (Jvm.Cond.selects "SaturdayKeepModel" ({ cls := "SaturdayKeepModel", name := "send", desc := "()I" } : Jvm.MethodName) ({ cls := "SaturdayKeepModel", name := "send", desc := "()I" } : Jvm.MethodName)) ∈ lw_all := lw_g (lw_at lw_m10 50 rfl) rfl
theorem q2317 : (Jvm.Cond.code ({ cls := "SaturdayKeepModel", name := "send", desc := "()I" } : Jvm.MethodName) prog_18_method_81_code (1 : Nat) (Option.some Jvm.ClassFile.FieldType.int)) ∈ lw_all := lw_g (lw_at lw_m10 51 rfl) rfl
theorem q2319 : (Jvm.Cond.instanceMethod ({ cls := "SaturdayKeepModel", name := "sent", desc := "(I)I" } : Jvm.MethodName)) ∈ lw_all := lw_g (lw_at lw_m10 53 rfl) rfl
theorem q2320 : (Jvm.Cond.selects "SaturdayKeepModel" ({ cls := "SaturdayKeepModel", name := "sent", desc := "(I)I" } : Jvm.MethodName) ({ cls := "SaturdayKeepModel", name := "sent", desc := "(I)I" } : Jvm.MethodName)) ∈ lw_all := lw_g (lw_at lw_m10 54 rfl) rfl
theorem q2321 : (Jvm.Cond.code ({ cls := "SaturdayKeepModel", name := "sent", desc := "(I)I" } : Jvm.MethodName) prog_18_method_82_code (7 : Nat) (Option.some Jvm.ClassFile.FieldType.int)) ∈ lw_all := lw_g (lw_at lw_m10 55 rfl) rfl
theorem q2323 : (Jvm.Cond.instanceMethod ({ cls := "SaturdayKeepModel", name := "mend", desc := "()I" } : Jvm.MethodName)) ∈ lw_all := lw_g (lw_at lw_m10 57 rfl) rfl
theorem q2324 : (Jvm.Cond.selects "SaturdayKeepModel" ({ cls := "SaturdayKeepModel", name := "mend", desc := "()I" } : Jvm.MethodName) ({ cls := "SaturdayKeepModel", name := "mend", desc := "()I" } : Jvm.MethodName)) ∈ lw_all := lw_g (lw_at lw_m10 58 rfl) rfl
theorem q2325 : (Jvm.Cond.code ({ cls := "SaturdayKeepModel", name := "mend", desc := "()I" } : Jvm.MethodName) prog_18_method_83_code (3 : Nat) (Option.some Jvm.ClassFile.FieldType.int)) ∈ lw_all := lw_g (lw_at lw_m10 59 rfl) rfl
theorem q2327 : (Jvm.Cond.instanceMethod ({ cls := "SaturdayKeepModel", name := "shut", desc := "()I" } : Jvm.MethodName)) ∈ lw_all := lw_g (lw_at lw_m10 61 rfl) rfl
theorem q2328 : (Jvm.Cond.selects "SaturdayKeepModel" ({ cls := "SaturdayKeepModel", name := "shut", desc := "()I" } : Jvm.MethodName) ({ cls := "SaturdayKeepModel", name := "shut", desc := "()I" } : Jvm.MethodName)) ∈ lw_all := lw_g (lw_at lw_m10 62 rfl) rfl
theorem q2329 : (Jvm.Cond.code ({ cls := "SaturdayKeepModel", name := "shut", desc := "()I" } : Jvm.MethodName) prog_18_method_85_code (3 : Nat) (Option.some Jvm.ClassFile.FieldType.int)) ∈ lw_all := lw_g (lw_at lw_m10 63 rfl) rfl
theorem q2330 : (Jvm.Cond.methodLink "SaturdayKeepModel" (302 : Nat) ({ cls := "SaturdayKeepModel", name := "shuts", desc := "(I)Z" } : Jvm.MethodName)) ∈ lw_all := lw_g (lw_at lw_m10 64 rfl) rfl
theorem q2331 : (Jvm.Cond.privateMethod ({ cls := "SaturdayKeepModel", name := "shuts", desc := "(I)Z" } : Jvm.MethodName)) ∈ lw_tbl := lw_at lw_m10 65 rfl
theorem q2332 : (Jvm.Cond.instanceMethod ({ cls := "SaturdayKeepModel", name := "shuts", desc := "(I)Z" } : Jvm.MethodName)) ∈ lw_all := lw_g (lw_at lw_m10 66 rfl) rfl
theorem q2333 : (Jvm.Cond.code ({ cls := "SaturdayKeepModel", name := "shuts", desc := "(I)Z" } : Jvm.MethodName) prog_18_method_84_code (3 : Nat) (Option.some Jvm.ClassFile.FieldType.boolean)) ∈ lw_all := lw_g (lw_at lw_m10 67 rfl) rfl
theorem q2335 : (Jvm.Cond.instanceMethod ({ cls := "SaturdayKeepModel", name := "quiet", desc := "()I" } : Jvm.MethodName)) ∈ lw_all := lw_g (lw_at lw_m10 69 rfl) rfl
theorem q2336 : (Jvm.Cond.selects "SaturdayKeepModel" ({ cls := "SaturdayKeepModel", name := "quiet", desc := "()I" } : Jvm.MethodName) ({ cls := "SaturdayKeepModel", name := "quiet", desc := "()I" } : Jvm.MethodName)) ∈ lw_all := lw_g (lw_at lw_m10 70 rfl) rfl
theorem q2337 : (Jvm.Cond.code ({ cls := "SaturdayKeepModel", name := "quiet", desc := "()I" } : Jvm.MethodName) prog_18_method_86_code (3 : Nat) (Option.some Jvm.ClassFile.FieldType.int)) ∈ lw_all := lw_g (lw_at lw_m10 71 rfl) rfl
theorem q2339 : (Jvm.Cond.instanceMethod ({ cls := "SaturdayKeepModel", name := "best", desc := "()I" } : Jvm.MethodName)) ∈ lw_all := lw_g (lw_at lw_m10 73 rfl) rfl
theorem q2340 : (Jvm.Cond.selects "SaturdayKeepModel" ({ cls := "SaturdayKeepModel", name := "best", desc := "()I" } : Jvm.MethodName) ({ cls := "SaturdayKeepModel", name := "best", desc := "()I" } : Jvm.MethodName)) ∈ lw_all := lw_g (lw_at lw_m10 74 rfl) rfl
theorem q2341 : (Jvm.Cond.code ({ cls := "SaturdayKeepModel", name := "best", desc := "()I" } : Jvm.MethodName) prog_18_method_88_code (4 : Nat) (Option.some Jvm.ClassFile.FieldType.int)) ∈ lw_all := lw_g (lw_at lw_m10 75 rfl) rfl
theorem q2342 : (Jvm.Cond.methodLink "SaturdayKeepModel" (305 : Nat) ({ cls := "SaturdayKeepModel", name := "risksOf", desc := "(I)I" } : Jvm.MethodName)) ∈ lw_all := lw_g (lw_at lw_m10 76 rfl) rfl
theorem q2343 : (Jvm.Cond.privateMethod ({ cls := "SaturdayKeepModel", name := "risksOf", desc := "(I)I" } : Jvm.MethodName)) ∈ lw_tbl := lw_at lw_m10 77 rfl
theorem q2344 : (Jvm.Cond.instanceMethod ({ cls := "SaturdayKeepModel", name := "risksOf", desc := "(I)I" } : Jvm.MethodName)) ∈ lw_all := lw_g (lw_at lw_m10 78 rfl) rfl
theorem q2345 : (Jvm.Cond.code ({ cls := "SaturdayKeepModel", name := "risksOf", desc := "(I)I" } : Jvm.MethodName) prog_18_method_87_code (4 : Nat) (Option.some Jvm.ClassFile.FieldType.int)) ∈ lw_all := lw_g (lw_at lw_m10 79 rfl) rfl
theorem q2347 : (Jvm.Cond.instanceMethod ({ cls := "SaturdayKeepModel", name := "lodge", desc := "(I)I" } : Jvm.MethodName)) ∈ lw_all := lw_g (lw_at lw_m10 81 rfl) rfl
theorem q2348 : (Jvm.Cond.selects "SaturdayKeepModel" ({ cls := "SaturdayKeepModel", name := "lodge", desc := "(I)I" } : Jvm.MethodName) ({ cls := "SaturdayKeepModel", name := "lodge", desc := "(I)I" } : Jvm.MethodName)) ∈ lw_all := lw_g (lw_at lw_m10 82 rfl) rfl
theorem q2349 : (Jvm.Cond.code ({ cls := "SaturdayKeepModel", name := "lodge", desc := "(I)I" } : Jvm.MethodName) prog_18_method_90_code (6 : Nat) (Option.some Jvm.ClassFile.FieldType.int)) ∈ lw_all := lw_g (lw_at lw_m10 83 rfl) rfl
theorem q2350 : (Jvm.Cond.constant "SaturdayKeepModel" (308 : Nat) (2000000000 : Int32)) ∈ lw_all := lw_g (lw_at lw_m10 84 rfl) rfl
theorem q2351 : (Jvm.Cond.methodLink "SaturdayKeepModel" (312 : Nat) ({ cls := "SaturdayKeepModel", name := "by", desc := "(III)I" } : Jvm.MethodName)) ∈ lw_all := lw_g (lw_at lw_m10 85 rfl) rfl
theorem q2352 : (Jvm.Cond.privateMethod ({ cls := "SaturdayKeepModel", name := "by", desc := "(III)I" } : Jvm.MethodName)) ∈ lw_tbl := lw_at lw_m10 86 rfl
theorem q2353 : (Jvm.Cond.instanceMethod ({ cls := "SaturdayKeepModel", name := "by", desc := "(III)I" } : Jvm.MethodName)) ∈ lw_all := lw_g (lw_at lw_m10 87 rfl) rfl
theorem q2354 : (Jvm.Cond.code ({ cls := "SaturdayKeepModel", name := "by", desc := "(III)I" } : Jvm.MethodName) prog_18_method_89_code (5 : Nat) (Option.some Jvm.ClassFile.FieldType.int)) ∈ lw_all := lw_g (lw_at lw_m10 88 rfl) rfl
theorem q2356 : (Jvm.Cond.instanceMethod ({ cls := "SaturdayKeepModel", name := "rests", desc := "(I)I" } : Jvm.MethodName)) ∈ lw_all := lw_g (lw_at lw_m10 90 rfl) rfl
theorem q2357 : (Jvm.Cond.selects "SaturdayKeepModel" ({ cls := "SaturdayKeepModel", name := "rests", desc := "(I)I" } : Jvm.MethodName) ({ cls := "SaturdayKeepModel", name := "rests", desc := "(I)I" } : Jvm.MethodName)) ∈ lw_all := lw_g (lw_at lw_m10 91 rfl) rfl
theorem q2358 : (Jvm.Cond.code ({ cls := "SaturdayKeepModel", name := "rests", desc := "(I)I" } : Jvm.MethodName) prog_18_method_93_code (7 : Nat) (Option.some Jvm.ClassFile.FieldType.int)) ∈ lw_all := lw_g (lw_at lw_m10 92 rfl) rfl
theorem q2359 : (Jvm.Cond.methodLink "SaturdayKeepModel" (316 : Nat) ({ cls := "SaturdayKeepModel", name := "hostHas", desc := "(ZII)I" } : Jvm.MethodName)) ∈ lw_all := lw_g (lw_at lw_m10 93 rfl) rfl
theorem q2360 : (Jvm.Cond.privateMethod ({ cls := "SaturdayKeepModel", name := "hostHas", desc := "(ZII)I" } : Jvm.MethodName)) ∈ lw_tbl := lw_at lw_m10 94 rfl
theorem q2361 : (Jvm.Cond.instanceMethod ({ cls := "SaturdayKeepModel", name := "hostHas", desc := "(ZII)I" } : Jvm.MethodName)) ∈ lw_all := lw_g (lw_at lw_m10 95 rfl) rfl
theorem q2362 : (Jvm.Cond.code ({ cls := "SaturdayKeepModel", name := "hostHas", desc := "(ZII)I" } : Jvm.MethodName) prog_18_method_91_code (4 : Nat) (Option.some Jvm.ClassFile.FieldType.int)) ∈ lw_all := lw_g (lw_at lw_m10 96 rfl) rfl
theorem q2363 : (Jvm.Cond.methodLink "SaturdayKeepModel" (320 : Nat) ({ cls := "SaturdayKeepModel", name := "guestHas", desc := "(IZII)I" } : Jvm.MethodName)) ∈ lw_all := lw_g (lw_at lw_m10 97 rfl) rfl
theorem q2364 : (Jvm.Cond.privateMethod ({ cls := "SaturdayKeepModel", name := "guestHas", desc := "(IZII)I" } : Jvm.MethodName)) ∈ lw_tbl := lw_at lw_m10 98 rfl
theorem q2365 : (Jvm.Cond.instanceMethod ({ cls := "SaturdayKeepModel", name := "guestHas", desc := "(IZII)I" } : Jvm.MethodName)) ∈ lw_all := lw_g (lw_at lw_m10 99 rfl) rfl
theorem q2366 : (Jvm.Cond.code ({ cls := "SaturdayKeepModel", name := "guestHas", desc := "(IZII)I" } : Jvm.MethodName) prog_18_method_92_code (5 : Nat) (Option.some Jvm.ClassFile.FieldType.int)) ∈ lw_all := lw_g (lw_at lw_m10 100 rfl) rfl
theorem q2368 : (Jvm.Cond.instanceMethod ({ cls := "SaturdayKeepModel", name := "shifts", desc := "()I" } : Jvm.MethodName)) ∈ lw_all := lw_g (lw_at lw_m10 102 rfl) rfl
theorem q2369 : (Jvm.Cond.selects "SaturdayKeepModel" ({ cls := "SaturdayKeepModel", name := "shifts", desc := "()I" } : Jvm.MethodName) ({ cls := "SaturdayKeepModel", name := "shifts", desc := "()I" } : Jvm.MethodName)) ∈ lw_all := lw_g (lw_at lw_m10 103 rfl) rfl
theorem q2370 : (Jvm.Cond.code ({ cls := "SaturdayKeepModel", name := "shifts", desc := "()I" } : Jvm.MethodName) prog_18_method_96_code (2 : Nat) (Option.some Jvm.ClassFile.FieldType.int)) ∈ lw_all := lw_g (lw_at lw_m10 104 rfl) rfl
theorem q2371 : (Jvm.Cond.methodLink "SaturdayKeepModel" (324 : Nat) ({ cls := "SaturdayKeepModel", name := "heard", desc := "(I)I" } : Jvm.MethodName)) ∈ lw_all := lw_g (lw_at lw_m10 105 rfl) rfl
theorem q2372 : (Jvm.Cond.privateMethod ({ cls := "SaturdayKeepModel", name := "heard", desc := "(I)I" } : Jvm.MethodName)) ∈ lw_tbl := lw_at lw_m10 106 rfl
theorem q2373 : (Jvm.Cond.instanceMethod ({ cls := "SaturdayKeepModel", name := "heard", desc := "(I)I" } : Jvm.MethodName)) ∈ lw_all := lw_g (lw_at lw_m10 107 rfl) rfl
theorem q2374 : (Jvm.Cond.code ({ cls := "SaturdayKeepModel", name := "heard", desc := "(I)I" } : Jvm.MethodName) prog_18_method_94_code (5 : Nat) (Option.some Jvm.ClassFile.FieldType.int)) ∈ lw_all := lw_g (lw_at lw_m10 108 rfl) rfl
theorem q2375 : (Jvm.Cond.methodLink "SaturdayKeepModel" (327 : Nat) ({ cls := "SaturdayKeepModel", name := "shiftsBy", desc := "(I)I" } : Jvm.MethodName)) ∈ lw_all := lw_g (lw_at lw_m10 109 rfl) rfl
theorem q2376 : (Jvm.Cond.privateMethod ({ cls := "SaturdayKeepModel", name := "shiftsBy", desc := "(I)I" } : Jvm.MethodName)) ∈ lw_tbl := lw_at lw_m10 110 rfl
theorem q2377 : (Jvm.Cond.instanceMethod ({ cls := "SaturdayKeepModel", name := "shiftsBy", desc := "(I)I" } : Jvm.MethodName)) ∈ lw_all := lw_g (lw_at lw_m10 111 rfl) rfl
theorem q2378 : (Jvm.Cond.code ({ cls := "SaturdayKeepModel", name := "shiftsBy", desc := "(I)I" } : Jvm.MethodName) prog_18_method_95_code (6 : Nat) (Option.some Jvm.ClassFile.FieldType.int)) ∈ lw_all := lw_g (lw_at lw_m10 112 rfl) rfl
theorem q2380 : (Jvm.Cond.instanceMethod ({ cls := "SaturdayKeepModel", name := "ask", desc := "()I" } : Jvm.MethodName)) ∈ lw_all := lw_g (lw_at lw_m10 114 rfl) rfl
theorem q2381 : (Jvm.Cond.selects "SaturdayKeepModel" ({ cls := "SaturdayKeepModel", name := "ask", desc := "()I" } : Jvm.MethodName) ({ cls := "SaturdayKeepModel", name := "ask", desc := "()I" } : Jvm.MethodName)) ∈ lw_all := lw_g (lw_at lw_m10 115 rfl) rfl
theorem q2382 : (Jvm.Cond.code ({ cls := "SaturdayKeepModel", name := "ask", desc := "()I" } : Jvm.MethodName) prog_18_method_97_code (7 : Nat) (Option.some Jvm.ClassFile.FieldType.int)) ∈ lw_all := lw_g (lw_at lw_m10 116 rfl) rfl
theorem q2384 : (Jvm.Cond.instanceMethod ({ cls := "SaturdayKeepModel", name := "bored", desc := "(Z)I" } : Jvm.MethodName)) ∈ lw_all := lw_g (lw_at lw_m10 118 rfl) rfl
theorem q2385 : (Jvm.Cond.selects "SaturdayKeepModel" ({ cls := "SaturdayKeepModel", name := "bored", desc := "(Z)I" } : Jvm.MethodName) ({ cls := "SaturdayKeepModel", name := "bored", desc := "(Z)I" } : Jvm.MethodName)) ∈ lw_all := lw_g (lw_at lw_m10 119 rfl) rfl
theorem q2386 : (Jvm.Cond.code ({ cls := "SaturdayKeepModel", name := "bored", desc := "(Z)I" } : Jvm.MethodName) prog_18_method_99_code (5 : Nat) (Option.some Jvm.ClassFile.FieldType.int)) ∈ lw_all := lw_g (lw_at lw_m10 120 rfl) rfl
theorem q2387 : (Jvm.Cond.methodLink "SaturdayKeepModel" (330 : Nat) ({ cls := "SaturdayKeepModel", name := "weeksBy", desc := "(I)I" } : Jvm.MethodName)) ∈ lw_all := lw_g (lw_at lw_m10 121 rfl) rfl
theorem q2388 : (Jvm.Cond.privateMethod ({ cls := "SaturdayKeepModel", name := "weeksBy", desc := "(I)I" } : Jvm.MethodName)) ∈ lw_tbl := lw_at lw_m10 122 rfl
theorem q2389 : (Jvm.Cond.instanceMethod ({ cls := "SaturdayKeepModel", name := "weeksBy", desc := "(I)I" } : Jvm.MethodName)) ∈ lw_all := lw_g (lw_at lw_m10 123 rfl) rfl
theorem q2390 : (Jvm.Cond.code ({ cls := "SaturdayKeepModel", name := "weeksBy", desc := "(I)I" } : Jvm.MethodName) prog_18_method_98_code (5 : Nat) (Option.some Jvm.ClassFile.FieldType.int)) ∈ lw_all := lw_g (lw_at lw_m10 124 rfl) rfl
theorem q2392 : (Jvm.Cond.instanceMethod ({ cls := "SaturdayKeepModel", name := "look", desc := "()I" } : Jvm.MethodName)) ∈ lw_all := lw_g (lw_at lw_m10 126 rfl) rfl
theorem q2393 : (Jvm.Cond.selects "SaturdayKeepModel" ({ cls := "SaturdayKeepModel", name := "look", desc := "()I" } : Jvm.MethodName) ({ cls := "SaturdayKeepModel", name := "look", desc := "()I" } : Jvm.MethodName)) ∈ lw_all := lw_g (lw_at lw_m10 127 rfl) rfl
theorem q2394 : (Jvm.Cond.code ({ cls := "SaturdayKeepModel", name := "look", desc := "()I" } : Jvm.MethodName) prog_18_method_100_code (7 : Nat) (Option.some Jvm.ClassFile.FieldType.int)) ∈ lw_all := lw_g (lw_at lw_m10 128 rfl) rfl
theorem q2396 : (Jvm.Cond.instanceMethod ({ cls := "SaturdayKeepModel", name := "keenest", desc := "()I" } : Jvm.MethodName)) ∈ lw_all := lw_g (lw_at lw_m10 130 rfl) rfl
theorem q2397 : (Jvm.Cond.selects "SaturdayKeepModel" ({ cls := "SaturdayKeepModel", name := "keenest", desc := "()I" } : Jvm.MethodName) ({ cls := "SaturdayKeepModel", name := "keenest", desc := "()I" } : Jvm.MethodName)) ∈ lw_all := lw_g (lw_at lw_m10 131 rfl) rfl
theorem q2398 : (Jvm.Cond.code ({ cls := "SaturdayKeepModel", name := "keenest", desc := "()I" } : Jvm.MethodName) prog_18_method_101_code (3 : Nat) (Option.some Jvm.ClassFile.FieldType.int)) ∈ lw_all := lw_g (lw_at lw_m10 132 rfl) rfl
theorem q2400 : (Jvm.Cond.instanceMethod ({ cls := "SaturdayKeepModel", name := "alike", desc := "()I" } : Jvm.MethodName)) ∈ lw_all := lw_g (lw_at lw_m10 134 rfl) rfl
theorem q2401 : (Jvm.Cond.selects "SaturdayKeepModel" ({ cls := "SaturdayKeepModel", name := "alike", desc := "()I" } : Jvm.MethodName) ({ cls := "SaturdayKeepModel", name := "alike", desc := "()I" } : Jvm.MethodName)) ∈ lw_all := lw_g (lw_at lw_m10 135 rfl) rfl
theorem q2402 : (Jvm.Cond.code ({ cls := "SaturdayKeepModel", name := "alike", desc := "()I" } : Jvm.MethodName) prog_18_method_102_code (4 : Nat) (Option.some Jvm.ClassFile.FieldType.int)) ∈ lw_all := lw_g (lw_at lw_m10 136 rfl) rfl
theorem q2404 : (Jvm.Cond.instanceMethod ({ cls := "SaturdayKeepModel", name := "line", desc := "(II)I" } : Jvm.MethodName)) ∈ lw_all := lw_g (lw_at lw_m10 138 rfl) rfl
theorem q2405 : (Jvm.Cond.selects "SaturdayKeepModel" ({ cls := "SaturdayKeepModel", name := "line", desc := "(II)I" } : Jvm.MethodName) ({ cls := "SaturdayKeepModel", name := "line", desc := "(II)I" } : Jvm.MethodName)) ∈ lw_all := lw_g (lw_at lw_m10 139 rfl) rfl
theorem q2406 : (Jvm.Cond.code ({ cls := "SaturdayKeepModel", name := "line", desc := "(II)I" } : Jvm.MethodName) prog_18_method_103_code (7 : Nat) (Option.some Jvm.ClassFile.FieldType.int)) ∈ lw_all := lw_g (lw_at lw_m10 140 rfl) rfl
theorem q2408 : (Jvm.Cond.instanceMethod ({ cls := "SaturdayKeepModel", name := "well", desc := "()I" } : Jvm.MethodName)) ∈ lw_all := lw_g (lw_at lw_m10 142 rfl) rfl
theorem q2409 : (Jvm.Cond.selects "SaturdayKeepModel" ({ cls := "SaturdayKeepModel", name := "well", desc := "()I" } : Jvm.MethodName) ({ cls := "SaturdayKeepModel", name := "well", desc := "()I" } : Jvm.MethodName)) ∈ lw_all := lw_g (lw_at lw_m10 143 rfl) rfl
theorem q2410 : (Jvm.Cond.code ({ cls := "SaturdayKeepModel", name := "well", desc := "()I" } : Jvm.MethodName) prog_18_method_104_code (4 : Nat) (Option.some Jvm.ClassFile.FieldType.int)) ∈ lw_all := lw_g (lw_at lw_m10 144 rfl) rfl
theorem q2412 : (Jvm.Cond.instanceMethod ({ cls := "SaturdayKeepModel", name := "pass", desc := "(II)I" } : Jvm.MethodName)) ∈ lw_all := lw_g (lw_at lw_m10 146 rfl) rfl
theorem q2413 : (Jvm.Cond.selects "SaturdayKeepModel" ({ cls := "SaturdayKeepModel", name := "pass", desc := "(II)I" } : Jvm.MethodName) ({ cls := "SaturdayKeepModel", name := "pass", desc := "(II)I" } : Jvm.MethodName)) ∈ lw_all := lw_g (lw_at lw_m10 147 rfl) rfl
theorem q2414 : (Jvm.Cond.code ({ cls := "SaturdayKeepModel", name := "pass", desc := "(II)I" } : Jvm.MethodName) prog_18_method_106_code (4 : Nat) (Option.some Jvm.ClassFile.FieldType.int)) ∈ lw_all := lw_g (lw_at lw_m10 148 rfl) rfl
theorem q2415 : (Jvm.Cond.methodLink "SaturdayKeepModel" (333 : Nat) ({ cls := "SaturdayKeepModel", name := "round", desc := "(III)I" } : Jvm.MethodName)) ∈ lw_all := lw_g (lw_at lw_m10 149 rfl) rfl
theorem q2416 : (Jvm.Cond.privateMethod ({ cls := "SaturdayKeepModel", name := "round", desc := "(III)I" } : Jvm.MethodName)) ∈ lw_tbl := lw_at lw_m10 150 rfl
theorem q2417 : (Jvm.Cond.instanceMethod ({ cls := "SaturdayKeepModel", name := "round", desc := "(III)I" } : Jvm.MethodName)) ∈ lw_all := lw_g (lw_at lw_m10 151 rfl) rfl
theorem q2418 : (Jvm.Cond.code ({ cls := "SaturdayKeepModel", name := "round", desc := "(III)I" } : Jvm.MethodName) prog_18_method_105_code (6 : Nat) (Option.some Jvm.ClassFile.FieldType.int)) ∈ lw_all := lw_g (lw_at lw_m10 152 rfl) rfl
theorem q2420 : (Jvm.Cond.instanceMethod ({ cls := "SaturdayKeepModel", name := "crowd", desc := "()I" } : Jvm.MethodName)) ∈ lw_all := lw_g (lw_at lw_m10 154 rfl) rfl
theorem q2421 : (Jvm.Cond.selects "SaturdayKeepModel" ({ cls := "SaturdayKeepModel", name := "crowd", desc := "()I" } : Jvm.MethodName) ({ cls := "SaturdayKeepModel", name := "crowd", desc := "()I" } : Jvm.MethodName)) ∈ lw_all := lw_g (lw_at lw_m10 155 rfl) rfl
theorem q2422 : (Jvm.Cond.code ({ cls := "SaturdayKeepModel", name := "crowd", desc := "()I" } : Jvm.MethodName) prog_18_method_107_code (4 : Nat) (Option.some Jvm.ClassFile.FieldType.int)) ∈ lw_all := lw_g (lw_at lw_m10 156 rfl) rfl
theorem q2424 : (Jvm.Cond.instanceMethod ({ cls := "SaturdayKeepModel", name := "locked", desc := "()I" } : Jvm.MethodName)) ∈ lw_all := lw_g (lw_at lw_m10 158 rfl) rfl
theorem q2425 : (Jvm.Cond.selects "SaturdayKeepModel" ({ cls := "SaturdayKeepModel", name := "locked", desc := "()I" } : Jvm.MethodName) ({ cls := "SaturdayKeepModel", name := "locked", desc := "()I" } : Jvm.MethodName)) ∈ lw_all := lw_g (lw_at lw_m10 159 rfl) rfl
theorem q2426 : (Jvm.Cond.code ({ cls := "SaturdayKeepModel", name := "locked", desc := "()I" } : Jvm.MethodName) prog_18_method_108_code (3 : Nat) (Option.some Jvm.ClassFile.FieldType.int)) ∈ lw_all := lw_g (lw_at lw_m10 160 rfl) rfl
theorem q2428 : (Jvm.Cond.instanceMethod ({ cls := "SaturdayKeepModel", name := "agree", desc := "(I)I" } : Jvm.MethodName)) ∈ lw_all := lw_g (lw_at lw_m10 162 rfl) rfl
theorem q2429 : (Jvm.Cond.selects "SaturdayKeepModel" ({ cls := "SaturdayKeepModel", name := "agree", desc := "(I)I" } : Jvm.MethodName) ({ cls := "SaturdayKeepModel", name := "agree", desc := "(I)I" } : Jvm.MethodName)) ∈ lw_all := lw_g (lw_at lw_m10 163 rfl) rfl
theorem q2430 : (Jvm.Cond.code ({ cls := "SaturdayKeepModel", name := "agree", desc := "(I)I" } : Jvm.MethodName) prog_18_method_109_code (4 : Nat) (Option.some Jvm.ClassFile.FieldType.int)) ∈ lw_all := lw_g (lw_at lw_m10 164 rfl) rfl
theorem q2432 : (Jvm.Cond.instanceMethod ({ cls := "SaturdayKeepModel", name := "need", desc := "(I)I" } : Jvm.MethodName)) ∈ lw_all := lw_g (lw_at lw_m10 166 rfl) rfl
theorem q2433 : (Jvm.Cond.selects "SaturdayKeepModel" ({ cls := "SaturdayKeepModel", name := "need", desc := "(I)I" } : Jvm.MethodName) ({ cls := "SaturdayKeepModel", name := "need", desc := "(I)I" } : Jvm.MethodName)) ∈ lw_all := lw_g (lw_at lw_m10 167 rfl) rfl
theorem q2434 : (Jvm.Cond.code ({ cls := "SaturdayKeepModel", name := "need", desc := "(I)I" } : Jvm.MethodName) prog_18_method_110_code (2 : Nat) (Option.some Jvm.ClassFile.FieldType.int)) ∈ lw_all := lw_g (lw_at lw_m10 168 rfl) rfl
theorem q2436 : (Jvm.Cond.instanceMethod ({ cls := "SaturdayKeepModel", name := "spread", desc := "(I)I" } : Jvm.MethodName)) ∈ lw_all := lw_g (lw_at lw_m10 170 rfl) rfl
theorem q2437 : (Jvm.Cond.selects "SaturdayKeepModel" ({ cls := "SaturdayKeepModel", name := "spread", desc := "(I)I" } : Jvm.MethodName) ({ cls := "SaturdayKeepModel", name := "spread", desc := "(I)I" } : Jvm.MethodName)) ∈ lw_all := lw_g (lw_at lw_m10 171 rfl) rfl
theorem q2438 : (Jvm.Cond.code ({ cls := "SaturdayKeepModel", name := "spread", desc := "(I)I" } : Jvm.MethodName) prog_18_method_111_code (7 : Nat) (Option.some Jvm.ClassFile.FieldType.int)) ∈ lw_all := lw_g (lw_at lw_m10 172 rfl) rfl
theorem q2440 : (Jvm.Cond.instanceMethod ({ cls := "SaturdayKeepModel", name := "mutual", desc := "()I" } : Jvm.MethodName)) ∈ lw_all := lw_g (lw_at lw_m10 174 rfl) rfl
theorem q2441 : (Jvm.Cond.selects "SaturdayKeepModel" ({ cls := "SaturdayKeepModel", name := "mutual", desc := "()I" } : Jvm.MethodName) ({ cls := "SaturdayKeepModel", name := "mutual", desc := "()I" } : Jvm.MethodName)) ∈ lw_all := lw_g (lw_at lw_m10 175 rfl) rfl
theorem q2442 : (Jvm.Cond.code ({ cls := "SaturdayKeepModel", name := "mutual", desc := "()I" } : Jvm.MethodName) prog_18_method_112_code (4 : Nat) (Option.some Jvm.ClassFile.FieldType.int)) ∈ lw_all := lw_g (lw_at lw_m10 176 rfl) rfl
theorem q2444 : (Jvm.Cond.instanceMethod ({ cls := "SaturdayKeepModel", name := "trial", desc := "(IZ)I" } : Jvm.MethodName)) ∈ lw_all := lw_g (lw_at lw_m10 178 rfl) rfl
theorem q2445 : (Jvm.Cond.selects "SaturdayKeepModel" ({ cls := "SaturdayKeepModel", name := "trial", desc := "(IZ)I" } : Jvm.MethodName) ({ cls := "SaturdayKeepModel", name := "trial", desc := "(IZ)I" } : Jvm.MethodName)) ∈ lw_all := lw_g (lw_at lw_m10 179 rfl) rfl
theorem q2446 : (Jvm.Cond.code ({ cls := "SaturdayKeepModel", name := "trial", desc := "(IZ)I" } : Jvm.MethodName) prog_18_method_113_code (5 : Nat) (Option.some Jvm.ClassFile.FieldType.int)) ∈ lw_all := lw_g (lw_at lw_m10 180 rfl) rfl
theorem q2447 : (Jvm.Cond.methodLink "SaturdayKeepModel" (336 : Nat) ({ cls := "SaturdayKeepModel", name := "holes", desc := "()I" } : Jvm.MethodName)) ∈ lw_all := lw_g (lw_at lw_m10 181 rfl) rfl
theorem q2448 : (Jvm.Cond.privateMethod ({ cls := "SaturdayKeepModel", name := "holes", desc := "()I" } : Jvm.MethodName)) ∈ lw_tbl := lw_at lw_m10 182 rfl
theorem q2449 : (Jvm.Cond.instanceMethod ({ cls := "SaturdayKeepModel", name := "holes", desc := "()I" } : Jvm.MethodName)) ∈ lw_all := lw_g (lw_at lw_m10 183 rfl) rfl
theorem q2450 : (Jvm.Cond.code ({ cls := "SaturdayKeepModel", name := "holes", desc := "()I" } : Jvm.MethodName) prog_18_method_14_code (3 : Nat) (Option.some Jvm.ClassFile.FieldType.int)) ∈ lw_all := lw_g (lw_at lw_m10 184 rfl) rfl
theorem q2452 : (Jvm.Cond.instanceMethod ({ cls := "SaturdayKeepModel", name := "span", desc := "(IZ)I" } : Jvm.MethodName)) ∈ lw_all := lw_g (lw_at lw_m10 186 rfl) rfl
theorem q2453 : (Jvm.Cond.selects "SaturdayKeepModel" ({ cls := "SaturdayKeepModel", name := "span", desc := "(IZ)I" } : Jvm.MethodName) ({ cls := "SaturdayKeepModel", name := "span", desc := "(IZ)I" } : Jvm.MethodName)) ∈ lw_all := lw_g (lw_at lw_m10 187 rfl) rfl
theorem q2454 : (Jvm.Cond.code ({ cls := "SaturdayKeepModel", name := "span", desc := "(IZ)I" } : Jvm.MethodName) prog_18_method_114_code (6 : Nat) (Option.some Jvm.ClassFile.FieldType.int)) ∈ lw_all := lw_g (lw_at lw_m10 188 rfl) rfl
theorem q2456 : (Jvm.Cond.instanceMethod ({ cls := "SaturdayKeepModel", name := "led", desc := "(IZ)I" } : Jvm.MethodName)) ∈ lw_all := lw_g (lw_at lw_m10 190 rfl) rfl
theorem q2457 : (Jvm.Cond.selects "SaturdayKeepModel" ({ cls := "SaturdayKeepModel", name := "led", desc := "(IZ)I" } : Jvm.MethodName) ({ cls := "SaturdayKeepModel", name := "led", desc := "(IZ)I" } : Jvm.MethodName)) ∈ lw_all := lw_g (lw_at lw_m10 191 rfl) rfl
theorem q2458 : (Jvm.Cond.code ({ cls := "SaturdayKeepModel", name := "led", desc := "(IZ)I" } : Jvm.MethodName) prog_18_method_116_code (6 : Nat) (Option.some Jvm.ClassFile.FieldType.int)) ∈ lw_all := lw_g (lw_at lw_m10 192 rfl) rfl
theorem q2459 : (Jvm.Cond.methodLink "SaturdayKeepModel" (338 : Nat) ({ cls := "SaturdayKeepModel", name := "logged", desc := "(II)I" } : Jvm.MethodName)) ∈ lw_all := lw_g (lw_at lw_m10 193 rfl) rfl
theorem q2460 : (Jvm.Cond.privateMethod ({ cls := "SaturdayKeepModel", name := "logged", desc := "(II)I" } : Jvm.MethodName)) ∈ lw_tbl := lw_at lw_m10 194 rfl
theorem q2461 : (Jvm.Cond.instanceMethod ({ cls := "SaturdayKeepModel", name := "logged", desc := "(II)I" } : Jvm.MethodName)) ∈ lw_all := lw_g (lw_at lw_m10 195 rfl) rfl
theorem q2462 : (Jvm.Cond.code ({ cls := "SaturdayKeepModel", name := "logged", desc := "(II)I" } : Jvm.MethodName) prog_18_method_115_code (3 : Nat) (Option.some Jvm.ClassFile.FieldType.int)) ∈ lw_all := lw_g (lw_at lw_m10 196 rfl) rfl
theorem q2464 : (Jvm.Cond.instanceMethod ({ cls := "SaturdayKeepModel", name := "log", desc := "(II)I" } : Jvm.MethodName)) ∈ lw_all := lw_g (lw_at lw_m10 198 rfl) rfl
theorem q2465 : (Jvm.Cond.selects "SaturdayKeepModel" ({ cls := "SaturdayKeepModel", name := "log", desc := "(II)I" } : Jvm.MethodName) ({ cls := "SaturdayKeepModel", name := "log", desc := "(II)I" } : Jvm.MethodName)) ∈ lw_all := lw_g (lw_at lw_m10 199 rfl) rfl
theorem q2466 : (Jvm.Cond.code ({ cls := "SaturdayKeepModel", name := "log", desc := "(II)I" } : Jvm.MethodName) prog_18_method_117_code (3 : Nat) (Option.some Jvm.ClassFile.FieldType.int)) ∈ lw_all := lw_g (lw_at lw_m10 200 rfl) rfl
theorem q2468 : (Jvm.Cond.instanceMethod ({ cls := "SaturdayKeepModel", name := "seed", desc := "(I)I" } : Jvm.MethodName)) ∈ lw_all := lw_g (lw_at lw_m10 202 rfl) rfl
theorem q2469 : (Jvm.Cond.selects "SaturdayKeepModel" ({ cls := "SaturdayKeepModel", name := "seed", desc := "(I)I" } : Jvm.MethodName) ({ cls := "SaturdayKeepModel", name := "seed", desc := "(I)I" } : Jvm.MethodName)) ∈ lw_all := lw_g (lw_at lw_m10 203 rfl) rfl
theorem q2470 : (Jvm.Cond.code ({ cls := "SaturdayKeepModel", name := "seed", desc := "(I)I" } : Jvm.MethodName) prog_18_method_118_code (3 : Nat) (Option.some Jvm.ClassFile.FieldType.int)) ∈ lw_all := lw_g (lw_at lw_m10 204 rfl) rfl
theorem q2472 : (Jvm.Cond.instanceMethod ({ cls := "SaturdayKeepModel", name := "undo", desc := "()Z" } : Jvm.MethodName)) ∈ lw_all := lw_g (lw_at lw_m10 206 rfl) rfl
theorem q2473 : (Jvm.Cond.selects "SaturdayKeepModel" ({ cls := "SaturdayKeepModel", name := "undo", desc := "()Z" } : Jvm.MethodName) ({ cls := "SaturdayKeepModel", name := "undo", desc := "()Z" } : Jvm.MethodName)) ∈ lw_all := lw_g (lw_at lw_m10 207 rfl) rfl
theorem q2474 : (Jvm.Cond.code ({ cls := "SaturdayKeepModel", name := "undo", desc := "()Z" } : Jvm.MethodName) prog_18_method_119_code (2 : Nat) (Option.some Jvm.ClassFile.FieldType.boolean)) ∈ lw_all := lw_g (lw_at lw_m10 208 rfl) rfl
theorem q2476 : (Jvm.Cond.instanceMethod ({ cls := "SaturdayKeepModel", name := "image", desc := "()V" } : Jvm.MethodName)) ∈ lw_all := lw_g (lw_at lw_m10 210 rfl) rfl
theorem q2477 : (Jvm.Cond.selects "SaturdayKeepModel" ({ cls := "SaturdayKeepModel", name := "image", desc := "()V" } : Jvm.MethodName) ({ cls := "SaturdayKeepModel", name := "image", desc := "()V" } : Jvm.MethodName)) ∈ lw_all := lw_g (lw_at lw_m10 211 rfl) rfl
theorem q2478 : (Jvm.Cond.code ({ cls := "SaturdayKeepModel", name := "image", desc := "()V" } : Jvm.MethodName) prog_18_method_120_code (2 : Nat) (Option.none : Option Jvm.ClassFile.FieldType)) ∈ lw_all := lw_g (lw_at lw_m10 212 rfl) rfl
theorem q2480 : (Jvm.Cond.instanceMethod ({ cls := "SaturdayKeepModel", name := "back", desc := "()Z" } : Jvm.MethodName)) ∈ lw_all := lw_g (lw_at lw_m10 214 rfl) rfl
theorem q2481 : (Jvm.Cond.selects "SaturdayKeepModel" ({ cls := "SaturdayKeepModel", name := "back", desc := "()Z" } : Jvm.MethodName) ({ cls := "SaturdayKeepModel", name := "back", desc := "()Z" } : Jvm.MethodName)) ∈ lw_all := lw_g (lw_at lw_m10 215 rfl) rfl
theorem q2482 : (Jvm.Cond.code ({ cls := "SaturdayKeepModel", name := "back", desc := "()Z" } : Jvm.MethodName) prog_18_method_121_code (2 : Nat) (Option.some Jvm.ClassFile.FieldType.boolean)) ∈ lw_all := lw_g (lw_at lw_m10 216 rfl) rfl
theorem q2484 : (Jvm.Cond.instanceMethod ({ cls := "SaturdayKeepModel", name := "count", desc := "(I)I" } : Jvm.MethodName)) ∈ lw_all := lw_g (lw_at lw_m10 218 rfl) rfl
theorem q2485 : (Jvm.Cond.selects "SaturdayKeepModel" ({ cls := "SaturdayKeepModel", name := "count", desc := "(I)I" } : Jvm.MethodName) ({ cls := "SaturdayKeepModel", name := "count", desc := "(I)I" } : Jvm.MethodName)) ∈ lw_all := lw_g (lw_at lw_m10 219 rfl) rfl
theorem q2486 : (Jvm.Cond.code ({ cls := "SaturdayKeepModel", name := "count", desc := "(I)I" } : Jvm.MethodName) prog_18_method_123_code (2 : Nat) (Option.some Jvm.ClassFile.FieldType.int)) ∈ lw_all := lw_g (lw_at lw_m10 220 rfl) rfl
theorem q2487 : (Jvm.Cond.methodLink "SaturdayKeepModel" (344 : Nat) ({ cls := "SaturdayKeepModel", name := "hereOnes", desc := "()I" } : Jvm.MethodName)) ∈ lw_all := lw_g (lw_at lw_m10 221 rfl) rfl
theorem q2488 : (Jvm.Cond.privateMethod ({ cls := "SaturdayKeepModel", name := "hereOnes", desc := "()I" } : Jvm.MethodName)) ∈ lw_tbl := lw_at lw_m10 222 rfl
theorem q2489 : (Jvm.Cond.instanceMethod ({ cls := "SaturdayKeepModel", name := "hereOnes", desc := "()I" } : Jvm.MethodName)) ∈ lw_all := lw_g (lw_at lw_m10 223 rfl) rfl
theorem q2490 : (Jvm.Cond.code ({ cls := "SaturdayKeepModel", name := "hereOnes", desc := "()I" } : Jvm.MethodName) prog_18_method_122_code (3 : Nat) (Option.some Jvm.ClassFile.FieldType.int)) ∈ lw_all := lw_g (lw_at lw_m10 224 rfl) rfl
theorem q2511 : (Jvm.Cond.castable "SaturdayKeepModel" "java/lang/Object") ∈ lw_tbl := lw_at lw_m11 5 rfl
theorem in_X6 : ∀ w ∈ wsX60, w ∈ lw_all := lw_in wsX60 [1924, 1926, 1928, 1930, 1932, 1934, 1936, 1938, 1940, 1942, 1944, 1946, 1948, 1950, 1952, 1954, 1956, 1958, 1960, 1962, 1964, 1966] (by decide +kernel) (by decide +kernel)
