/-! SaturdayKeep -/
set_option maxRecDepth 100000
def RX1 : String := "SaturdayKeep"
def TX1 : u_T := fun k => match k with
  | 0 => ("SaturdayKeep", "world", "LSaturdayKeep$World;", true)
  | 1 => ("SaturdayKeep", "draft", "LSaturdayKeep$World;", true)
  | 2 => ("SaturdayKeep", "image", "LSaturdayKeep$World;", true)
  | 3 => ("SaturdayKeep", "hasImage", "Z", false)
  | 4 => ("SaturdayKeep", "reader", "LSaturdayKeep$Reader;", true)
  | 5 => ("SaturdayKeep", "scene", "LSaturdayKeep$Scene;", true)
  | 6 => ("SaturdayKeep", "then", "LSaturdayKeep$World;", true)
  | 7 => ("SaturdayKeep", "worlds", "Ljava/util/ArrayList;", true)
  | 8 => ("SaturdayKeep", "lodging", "LSaturdayKeep$Lodge;", true)
  | _ => ("SaturdayKeep", "trial", "LSaturdayKeep$World;", true)
def tyX1 : Nat → FieldType := fun k => match k with
  | 0 => .object "SaturdayKeep$World"
  | 1 => .object "SaturdayKeep$World"
  | 2 => .object "SaturdayKeep$World"
  | 3 => .boolean
  | 4 => .object "SaturdayKeep$Reader"
  | 5 => .object "SaturdayKeep$Scene"
  | 6 => .object "SaturdayKeep$World"
  | 7 => .object "java/util/ArrayList"
  | 8 => .object "SaturdayKeep$Lodge"
  | _ => .object "SaturdayKeep$World"
abbrev wsX10 : List Cond := u_ws RX1 TX1 10
theorem nmX1 : ∀ a, a < 10 → ∀ b, b < 10 → a ≠ b → (TX1 a).2.1 ≠ (TX1 b).2.1 := by decide +kernel
theorem tyX1_ok : ∀ k, k < 10 → parseFieldDescriptor (TX1 k).2.2.1 = some (tyX1 k) := by decide +kernel
abbrev cX1_init : ByteArray := prog_1_method_1_code
def yX1_init : MethodName := ⟨RX1, "<init>", "()V"⟩
def dkwX1_init_4 : List UInt8 := [181, 0, 51, 42, 187, 0, 7, 89, 183, 0, 9, 181, 0, 55, 177]
abbrev dktX1_init_4 : List UInt8 := dkwX1_init_4 ++ []
def dkwX1_init_3 : List UInt8 := [181, 0, 36, 42, 187, 0, 39, 89, 183, 0, 41, 181, 0, 42, 42, 187, 0, 46, 89, 42, 183, 0, 48]
abbrev dktX1_init_3 : List UInt8 := dkwX1_init_3 ++ dktX1_init_4
def dkwX1_init_2 : List UInt8 := [181, 0, 25, 42, 187, 0, 29, 89, 183, 0, 31, 181, 0, 32, 42, 187, 0, 7, 89, 183, 0, 9]
abbrev dktX1_init_2 : List UInt8 := dkwX1_init_2 ++ dktX1_init_3
def dkwX1_init_1 : List UInt8 := [181, 0, 16, 42, 187, 0, 7, 89, 183, 0, 9, 181, 0, 19, 42, 187, 0, 22, 89, 183, 0, 24]
abbrev dktX1_init_1 : List UInt8 := dkwX1_init_1 ++ dktX1_init_2
def dkwX1_init_0 : List UInt8 := [42, 183, 0, 1, 42, 187, 0, 7, 89, 183, 0, 9, 181, 0, 10, 42, 187, 0, 7, 89, 183, 0, 9]
abbrev dktX1_init_0 : List UInt8 := dkwX1_init_0 ++ dktX1_init_1
theorem dksX1_init_0 : cX1_init.data.toList.drop 0 = dktX1_init_0 := by decide +kernel
theorem dksX1_init_1 : cX1_init.data.toList.drop 23 = dktX1_init_1 := dk_seg dksX1_init_0 23 rfl rfl
theorem dksX1_init_2 : cX1_init.data.toList.drop 45 = dktX1_init_2 := dk_seg dksX1_init_1 22 rfl rfl
theorem dksX1_init_3 : cX1_init.data.toList.drop 67 = dktX1_init_3 := dk_seg dksX1_init_2 22 rfl rfl
theorem dksX1_init_4 : cX1_init.data.toList.drop 90 = dktX1_init_4 := dk_seg dksX1_init_3 23 rfl rfl
theorem dX1_init_0 : decode cX1_init 0 = .ok (.aload_n 0, 1) := dk_42 (dk_at dksX1_init_0 0 rfl rfl)
theorem dX1_init_1 : decode cX1_init 1 = .ok (.invokespecial 1, 3) := dk_183 0 1 (dk_at dksX1_init_0 1 rfl rfl)
theorem dX1_init_4 : decode cX1_init 4 = .ok (.aload_n 0, 1) := dk_42 (dk_at dksX1_init_0 4 rfl rfl)
theorem dX1_init_5 : decode cX1_init 5 = .ok (.new 7, 3) := dk_187 0 7 (dk_at dksX1_init_0 5 rfl rfl)
theorem dX1_init_8 : decode cX1_init 8 = .ok (.dup, 1) := dk_89 (dk_at dksX1_init_0 8 rfl rfl)
theorem dX1_init_9 : decode cX1_init 9 = .ok (.invokespecial 9, 3) := dk_183 0 9 (dk_at dksX1_init_0 9 rfl rfl)
theorem dX1_init_12 : decode cX1_init 12 = .ok (.putfield 10, 3) := dk_181 0 10 (dk_at dksX1_init_0 12 rfl rfl)
theorem dX1_init_15 : decode cX1_init 15 = .ok (.aload_n 0, 1) := dk_42 (dk_at dksX1_init_0 15 rfl rfl)
theorem dX1_init_16 : decode cX1_init 16 = .ok (.new 7, 3) := dk_187 0 7 (dk_at dksX1_init_0 16 rfl rfl)
theorem dX1_init_19 : decode cX1_init 19 = .ok (.dup, 1) := dk_89 (dk_at dksX1_init_0 19 rfl rfl)
theorem dX1_init_20 : decode cX1_init 20 = .ok (.invokespecial 9, 3) := dk_183 0 9 (dk_at dksX1_init_0 20 rfl rfl)
theorem dX1_init_23 : decode cX1_init 23 = .ok (.putfield 16, 3) := dk_181 0 16 (dk_at dksX1_init_1 0 rfl rfl)
theorem dX1_init_26 : decode cX1_init 26 = .ok (.aload_n 0, 1) := dk_42 (dk_at dksX1_init_1 3 rfl rfl)
theorem dX1_init_27 : decode cX1_init 27 = .ok (.new 7, 3) := dk_187 0 7 (dk_at dksX1_init_1 4 rfl rfl)
theorem dX1_init_30 : decode cX1_init 30 = .ok (.dup, 1) := dk_89 (dk_at dksX1_init_1 7 rfl rfl)
theorem dX1_init_31 : decode cX1_init 31 = .ok (.invokespecial 9, 3) := dk_183 0 9 (dk_at dksX1_init_1 8 rfl rfl)
theorem dX1_init_34 : decode cX1_init 34 = .ok (.putfield 19, 3) := dk_181 0 19 (dk_at dksX1_init_1 11 rfl rfl)
theorem dX1_init_37 : decode cX1_init 37 = .ok (.aload_n 0, 1) := dk_42 (dk_at dksX1_init_1 14 rfl rfl)
theorem dX1_init_38 : decode cX1_init 38 = .ok (.new 22, 3) := dk_187 0 22 (dk_at dksX1_init_1 15 rfl rfl)
theorem dX1_init_41 : decode cX1_init 41 = .ok (.dup, 1) := dk_89 (dk_at dksX1_init_1 18 rfl rfl)
theorem dX1_init_42 : decode cX1_init 42 = .ok (.invokespecial 24, 3) := dk_183 0 24 (dk_at dksX1_init_1 19 rfl rfl)
theorem dX1_init_45 : decode cX1_init 45 = .ok (.putfield 25, 3) := dk_181 0 25 (dk_at dksX1_init_2 0 rfl rfl)
theorem dX1_init_48 : decode cX1_init 48 = .ok (.aload_n 0, 1) := dk_42 (dk_at dksX1_init_2 3 rfl rfl)
theorem dX1_init_49 : decode cX1_init 49 = .ok (.new 29, 3) := dk_187 0 29 (dk_at dksX1_init_2 4 rfl rfl)
theorem dX1_init_52 : decode cX1_init 52 = .ok (.dup, 1) := dk_89 (dk_at dksX1_init_2 7 rfl rfl)
theorem dX1_init_53 : decode cX1_init 53 = .ok (.invokespecial 31, 3) := dk_183 0 31 (dk_at dksX1_init_2 8 rfl rfl)
theorem dX1_init_56 : decode cX1_init 56 = .ok (.putfield 32, 3) := dk_181 0 32 (dk_at dksX1_init_2 11 rfl rfl)
theorem dX1_init_59 : decode cX1_init 59 = .ok (.aload_n 0, 1) := dk_42 (dk_at dksX1_init_2 14 rfl rfl)
theorem dX1_init_60 : decode cX1_init 60 = .ok (.new 7, 3) := dk_187 0 7 (dk_at dksX1_init_2 15 rfl rfl)
theorem dX1_init_63 : decode cX1_init 63 = .ok (.dup, 1) := dk_89 (dk_at dksX1_init_2 18 rfl rfl)
theorem dX1_init_64 : decode cX1_init 64 = .ok (.invokespecial 9, 3) := dk_183 0 9 (dk_at dksX1_init_2 19 rfl rfl)
theorem dX1_init_67 : decode cX1_init 67 = .ok (.putfield 36, 3) := dk_181 0 36 (dk_at dksX1_init_3 0 rfl rfl)
theorem dX1_init_70 : decode cX1_init 70 = .ok (.aload_n 0, 1) := dk_42 (dk_at dksX1_init_3 3 rfl rfl)
theorem dX1_init_71 : decode cX1_init 71 = .ok (.new 39, 3) := dk_187 0 39 (dk_at dksX1_init_3 4 rfl rfl)
theorem dX1_init_74 : decode cX1_init 74 = .ok (.dup, 1) := dk_89 (dk_at dksX1_init_3 7 rfl rfl)
theorem dX1_init_75 : decode cX1_init 75 = .ok (.invokespecial 41, 3) := dk_183 0 41 (dk_at dksX1_init_3 8 rfl rfl)
theorem dX1_init_78 : decode cX1_init 78 = .ok (.putfield 42, 3) := dk_181 0 42 (dk_at dksX1_init_3 11 rfl rfl)
theorem dX1_init_81 : decode cX1_init 81 = .ok (.aload_n 0, 1) := dk_42 (dk_at dksX1_init_3 14 rfl rfl)
theorem dX1_init_82 : decode cX1_init 82 = .ok (.new 46, 3) := dk_187 0 46 (dk_at dksX1_init_3 15 rfl rfl)
theorem dX1_init_85 : decode cX1_init 85 = .ok (.dup, 1) := dk_89 (dk_at dksX1_init_3 18 rfl rfl)
theorem dX1_init_86 : decode cX1_init 86 = .ok (.aload_n 0, 1) := dk_42 (dk_at dksX1_init_3 19 rfl rfl)
theorem dX1_init_87 : decode cX1_init 87 = .ok (.invokespecial 48, 3) := dk_183 0 48 (dk_at dksX1_init_3 20 rfl rfl)
theorem dX1_init_90 : decode cX1_init 90 = .ok (.putfield 51, 3) := dk_181 0 51 (dk_at dksX1_init_4 0 rfl rfl)
theorem dX1_init_93 : decode cX1_init 93 = .ok (.aload_n 0, 1) := dk_42 (dk_at dksX1_init_4 3 rfl rfl)
theorem dX1_init_94 : decode cX1_init 94 = .ok (.new 7, 3) := dk_187 0 7 (dk_at dksX1_init_4 4 rfl rfl)
theorem dX1_init_97 : decode cX1_init 97 = .ok (.dup, 1) := dk_89 (dk_at dksX1_init_4 7 rfl rfl)
theorem dX1_init_98 : decode cX1_init 98 = .ok (.invokespecial 9, 3) := dk_183 0 9 (dk_at dksX1_init_4 8 rfl rfl)
theorem dX1_init_101 : decode cX1_init 101 = .ok (.putfield 55, 3) := dk_181 0 55 (dk_at dksX1_init_4 11 rfl rfl)
theorem dX1_init_104 : decode cX1_init 104 = .ok (.return_, 1) := dk_177 (dk_at dksX1_init_4 14 rfl rfl)
abbrev cX1_feed : ByteArray := prog_1_method_3_code
def yX1_feed : MethodName := ⟨RX1, "feed", "(IIIII)I"⟩
def dkwX1_feed_1 : List UInt8 := [89, 7, 21, 5, 79, 182, 0, 58, 172]
abbrev dktX1_feed_1 : List UInt8 := dkwX1_feed_1 ++ []
def dkwX1_feed_0 : List UInt8 := [42, 180, 0, 25, 8, 188, 10, 89, 3, 27, 79, 89, 4, 28, 79, 89, 5, 29, 79, 89, 6, 21, 4, 79]
abbrev dktX1_feed_0 : List UInt8 := dkwX1_feed_0 ++ dktX1_feed_1
theorem dksX1_feed_0 : cX1_feed.data.toList.drop 0 = dktX1_feed_0 := by decide +kernel
theorem dksX1_feed_1 : cX1_feed.data.toList.drop 24 = dktX1_feed_1 := dk_seg dksX1_feed_0 24 rfl rfl
theorem dX1_feed_0 : decode cX1_feed 0 = .ok (.aload_n 0, 1) := dk_42 (dk_at dksX1_feed_0 0 rfl rfl)
theorem dX1_feed_1 : decode cX1_feed 1 = .ok (.getfield 25, 3) := dk_180 0 25 (dk_at dksX1_feed_0 1 rfl rfl)
theorem dX1_feed_4 : decode cX1_feed 4 = .ok (.iconst 5, 1) := dk_8 (dk_at dksX1_feed_0 4 rfl rfl)
theorem dX1_feed_5 : decode cX1_feed 5 = .ok (.newarray .int, 2) := dk_188_10 (dk_at dksX1_feed_0 5 rfl rfl)
theorem dX1_feed_7 : decode cX1_feed 7 = .ok (.dup, 1) := dk_89 (dk_at dksX1_feed_0 7 rfl rfl)
theorem dX1_feed_8 : decode cX1_feed 8 = .ok (.iconst 0, 1) := dk_3 (dk_at dksX1_feed_0 8 rfl rfl)
theorem dX1_feed_9 : decode cX1_feed 9 = .ok (.iload_n 1, 1) := dk_27 (dk_at dksX1_feed_0 9 rfl rfl)
theorem dX1_feed_10 : decode cX1_feed 10 = .ok (.iastore, 1) := dk_79 (dk_at dksX1_feed_0 10 rfl rfl)
theorem dX1_feed_11 : decode cX1_feed 11 = .ok (.dup, 1) := dk_89 (dk_at dksX1_feed_0 11 rfl rfl)
theorem dX1_feed_12 : decode cX1_feed 12 = .ok (.iconst 1, 1) := dk_4 (dk_at dksX1_feed_0 12 rfl rfl)
theorem dX1_feed_13 : decode cX1_feed 13 = .ok (.iload_n 2, 1) := dk_28 (dk_at dksX1_feed_0 13 rfl rfl)
theorem dX1_feed_14 : decode cX1_feed 14 = .ok (.iastore, 1) := dk_79 (dk_at dksX1_feed_0 14 rfl rfl)
theorem dX1_feed_15 : decode cX1_feed 15 = .ok (.dup, 1) := dk_89 (dk_at dksX1_feed_0 15 rfl rfl)
theorem dX1_feed_16 : decode cX1_feed 16 = .ok (.iconst 2, 1) := dk_5 (dk_at dksX1_feed_0 16 rfl rfl)
theorem dX1_feed_17 : decode cX1_feed 17 = .ok (.iload_n 3, 1) := dk_29 (dk_at dksX1_feed_0 17 rfl rfl)
theorem dX1_feed_18 : decode cX1_feed 18 = .ok (.iastore, 1) := dk_79 (dk_at dksX1_feed_0 18 rfl rfl)
theorem dX1_feed_19 : decode cX1_feed 19 = .ok (.dup, 1) := dk_89 (dk_at dksX1_feed_0 19 rfl rfl)
theorem dX1_feed_20 : decode cX1_feed 20 = .ok (.iconst 3, 1) := dk_6 (dk_at dksX1_feed_0 20 rfl rfl)
theorem dX1_feed_21 : decode cX1_feed 21 = .ok (.iload 4, 2) := dk_21 4 (dk_at dksX1_feed_0 21 rfl rfl)
theorem dX1_feed_23 : decode cX1_feed 23 = .ok (.iastore, 1) := dk_79 (dk_at dksX1_feed_0 23 rfl rfl)
theorem dX1_feed_24 : decode cX1_feed 24 = .ok (.dup, 1) := dk_89 (dk_at dksX1_feed_1 0 rfl rfl)
theorem dX1_feed_25 : decode cX1_feed 25 = .ok (.iconst 4, 1) := dk_7 (dk_at dksX1_feed_1 1 rfl rfl)
theorem dX1_feed_26 : decode cX1_feed 26 = .ok (.iload 5, 2) := dk_21 5 (dk_at dksX1_feed_1 2 rfl rfl)
theorem dX1_feed_28 : decode cX1_feed 28 = .ok (.iastore, 1) := dk_79 (dk_at dksX1_feed_1 4 rfl rfl)
theorem dX1_feed_29 : decode cX1_feed 29 = .ok (.invokevirtual 58, 3) := dk_182 0 58 (dk_at dksX1_feed_1 5 rfl rfl)
theorem dX1_feed_32 : decode cX1_feed 32 = .ok (.ireturn, 1) := dk_172 (dk_at dksX1_feed_1 8 rfl rfl)
abbrev cX1_end : ByteArray := prog_1_method_4_code
def yX1_end : MethodName := ⟨RX1, "end", "(I)Z"⟩
def dkwX1_end_0 : List UInt8 := [42, 180, 0, 25, 27, 182, 0, 62, 172]
abbrev dktX1_end_0 : List UInt8 := dkwX1_end_0 ++ []
theorem dksX1_end_0 : cX1_end.data.toList.drop 0 = dktX1_end_0 := by decide +kernel
theorem dX1_end_0 : decode cX1_end 0 = .ok (.aload_n 0, 1) := dk_42 (dk_at dksX1_end_0 0 rfl rfl)
theorem dX1_end_1 : decode cX1_end 1 = .ok (.getfield 25, 3) := dk_180 0 25 (dk_at dksX1_end_0 1 rfl rfl)
theorem dX1_end_4 : decode cX1_end 4 = .ok (.iload_n 1, 1) := dk_27 (dk_at dksX1_end_0 4 rfl rfl)
theorem dX1_end_5 : decode cX1_end 5 = .ok (.invokevirtual 62, 3) := dk_182 0 62 (dk_at dksX1_end_0 5 rfl rfl)
theorem dX1_end_8 : decode cX1_end 8 = .ok (.ireturn, 1) := dk_172 (dk_at dksX1_end_0 8 rfl rfl)
abbrev cX1_fault : ByteArray := prog_1_method_5_code
def yX1_fault : MethodName := ⟨RX1, "fault", "()I"⟩
def dkwX1_fault_0 : List UInt8 := [42, 180, 0, 25, 180, 0, 66, 172]
abbrev dktX1_fault_0 : List UInt8 := dkwX1_fault_0 ++ []
theorem dksX1_fault_0 : cX1_fault.data.toList.drop 0 = dktX1_fault_0 := by decide +kernel
theorem dX1_fault_0 : decode cX1_fault 0 = .ok (.aload_n 0, 1) := dk_42 (dk_at dksX1_fault_0 0 rfl rfl)
theorem dX1_fault_1 : decode cX1_fault 1 = .ok (.getfield 25, 3) := dk_180 0 25 (dk_at dksX1_fault_0 1 rfl rfl)
theorem dX1_fault_4 : decode cX1_fault 4 = .ok (.getfield 66, 3) := dk_180 0 66 (dk_at dksX1_fault_0 4 rfl rfl)
theorem dX1_fault_7 : decode cX1_fault 7 = .ok (.ireturn, 1) := dk_172 (dk_at dksX1_fault_0 7 rfl rfl)
abbrev cX1_both : ByteArray := prog_1_method_56_code
def yX1_both : MethodName := ⟨RX1, "both", "()I"⟩
def dkwX1_both_2 : List UInt8 := [153, 0, 5, 27, 172, 132, 1, 1, 167, 255, 204, 2, 172]
abbrev dktX1_both_2 : List UInt8 := dkwX1_both_2 ++ []
def dkwX1_both_1 : List UInt8 := [182, 1, 98, 153, 0, 25, 42, 180, 0, 10, 4, 42, 180, 0, 10, 180, 0, 173, 27, 96, 182, 1, 98]
abbrev dktX1_both_1 : List UInt8 := dkwX1_both_1 ++ dktX1_both_2
def dkwX1_both_0 : List UInt8 := [3, 60, 27, 17, 1, 144, 163, 0, 51, 42, 180, 0, 10, 3, 42, 180, 0, 10, 180, 0, 173, 27, 96]
abbrev dktX1_both_0 : List UInt8 := dkwX1_both_0 ++ dktX1_both_1
theorem dksX1_both_0 : cX1_both.data.toList.drop 0 = dktX1_both_0 := by decide +kernel
theorem dksX1_both_1 : cX1_both.data.toList.drop 23 = dktX1_both_1 := dk_seg dksX1_both_0 23 rfl rfl
theorem dksX1_both_2 : cX1_both.data.toList.drop 46 = dktX1_both_2 := dk_seg dksX1_both_1 23 rfl rfl
theorem dX1_both_0 : decode cX1_both 0 = .ok (.iconst 0, 1) := dk_3 (dk_at dksX1_both_0 0 rfl rfl)
theorem dX1_both_1 : decode cX1_both 1 = .ok (.istore_n 1, 1) := dk_60 (dk_at dksX1_both_0 1 rfl rfl)
theorem dX1_both_2 : decode cX1_both 2 = .ok (.iload_n 1, 1) := dk_27 (dk_at dksX1_both_0 2 rfl rfl)
theorem dX1_both_3 : decode cX1_both 3 = .ok (.sipush 400, 3) := dk_17 1 144 (dk_at dksX1_both_0 3 rfl rfl)
theorem dX1_both_6 : decode cX1_both 6 = .ok (.if_icmp .gt 51, 3) := dk_163 0 51 (dk_at dksX1_both_0 6 rfl rfl)
theorem dX1_both_9 : decode cX1_both 9 = .ok (.aload_n 0, 1) := dk_42 (dk_at dksX1_both_0 9 rfl rfl)
theorem dX1_both_10 : decode cX1_both 10 = .ok (.getfield 10, 3) := dk_180 0 10 (dk_at dksX1_both_0 10 rfl rfl)
theorem dX1_both_13 : decode cX1_both 13 = .ok (.iconst 0, 1) := dk_3 (dk_at dksX1_both_0 13 rfl rfl)
theorem dX1_both_14 : decode cX1_both 14 = .ok (.aload_n 0, 1) := dk_42 (dk_at dksX1_both_0 14 rfl rfl)
theorem dX1_both_15 : decode cX1_both 15 = .ok (.getfield 10, 3) := dk_180 0 10 (dk_at dksX1_both_0 15 rfl rfl)
theorem dX1_both_18 : decode cX1_both 18 = .ok (.getfield 173, 3) := dk_180 0 173 (dk_at dksX1_both_0 18 rfl rfl)
theorem dX1_both_21 : decode cX1_both 21 = .ok (.iload_n 1, 1) := dk_27 (dk_at dksX1_both_0 21 rfl rfl)
theorem dX1_both_22 : decode cX1_both 22 = .ok (.iadd, 1) := dk_96 (dk_at dksX1_both_0 22 rfl rfl)
theorem dX1_both_23 : decode cX1_both 23 = .ok (.invokevirtual 354, 3) := dk_182 1 98 (dk_at dksX1_both_1 0 rfl rfl)
theorem dX1_both_26 : decode cX1_both 26 = .ok (.ifCond .eq 25, 3) := dk_153 0 25 (dk_at dksX1_both_1 3 rfl rfl)
theorem dX1_both_29 : decode cX1_both 29 = .ok (.aload_n 0, 1) := dk_42 (dk_at dksX1_both_1 6 rfl rfl)
theorem dX1_both_30 : decode cX1_both 30 = .ok (.getfield 10, 3) := dk_180 0 10 (dk_at dksX1_both_1 7 rfl rfl)
theorem dX1_both_33 : decode cX1_both 33 = .ok (.iconst 1, 1) := dk_4 (dk_at dksX1_both_1 10 rfl rfl)
theorem dX1_both_34 : decode cX1_both 34 = .ok (.aload_n 0, 1) := dk_42 (dk_at dksX1_both_1 11 rfl rfl)
theorem dX1_both_35 : decode cX1_both 35 = .ok (.getfield 10, 3) := dk_180 0 10 (dk_at dksX1_both_1 12 rfl rfl)
theorem dX1_both_38 : decode cX1_both 38 = .ok (.getfield 173, 3) := dk_180 0 173 (dk_at dksX1_both_1 15 rfl rfl)
theorem dX1_both_41 : decode cX1_both 41 = .ok (.iload_n 1, 1) := dk_27 (dk_at dksX1_both_1 18 rfl rfl)
theorem dX1_both_42 : decode cX1_both 42 = .ok (.iadd, 1) := dk_96 (dk_at dksX1_both_1 19 rfl rfl)
theorem dX1_both_43 : decode cX1_both 43 = .ok (.invokevirtual 354, 3) := dk_182 1 98 (dk_at dksX1_both_1 20 rfl rfl)
theorem dX1_both_46 : decode cX1_both 46 = .ok (.ifCond .eq 5, 3) := dk_153 0 5 (dk_at dksX1_both_2 0 rfl rfl)
theorem dX1_both_49 : decode cX1_both 49 = .ok (.iload_n 1, 1) := dk_27 (dk_at dksX1_both_2 3 rfl rfl)
theorem dX1_both_50 : decode cX1_both 50 = .ok (.ireturn, 1) := dk_172 (dk_at dksX1_both_2 4 rfl rfl)
theorem dX1_both_51 : decode cX1_both 51 = .ok (.iinc 1 1, 3) := dk_132 1 1 (dk_at dksX1_both_2 5 rfl rfl)
theorem dX1_both_54 : decode cX1_both 54 = .ok (.goto (-52), 3) := dk_167 255 204 (dk_at dksX1_both_2 8 rfl rfl)
theorem dX1_both_57 : decode cX1_both 57 = .ok (.iconst (-1), 1) := dk_2 (dk_at dksX1_both_2 11 rfl rfl)
theorem dX1_both_58 : decode cX1_both 58 = .ok (.ireturn, 1) := dk_172 (dk_at dksX1_both_2 12 rfl rfl)
abbrev cX1_gone : ByteArray := prog_1_method_60_code
def yX1_gone : MethodName := ⟨RX1, "gone", "()I"⟩
def dkwX1_gone_1 : List UInt8 := [180, 0, 36, 180, 0, 169, 154, 0, 5, 27, 172, 42, 182, 1, 143, 132, 1, 1, 167, 255, 230, 2, 172]
abbrev dktX1_gone_1 : List UInt8 := dkwX1_gone_1 ++ []
def dkwX1_gone_0 : List UInt8 := [42, 180, 0, 36, 42, 180, 0, 10, 182, 0, 201, 87, 3, 60, 27, 17, 1, 144, 163, 0, 25, 42]
abbrev dktX1_gone_0 : List UInt8 := dkwX1_gone_0 ++ dktX1_gone_1
theorem dksX1_gone_0 : cX1_gone.data.toList.drop 0 = dktX1_gone_0 := by decide +kernel
theorem dksX1_gone_1 : cX1_gone.data.toList.drop 22 = dktX1_gone_1 := dk_seg dksX1_gone_0 22 rfl rfl
theorem dX1_gone_0 : decode cX1_gone 0 = .ok (.aload_n 0, 1) := dk_42 (dk_at dksX1_gone_0 0 rfl rfl)
theorem dX1_gone_1 : decode cX1_gone 1 = .ok (.getfield 36, 3) := dk_180 0 36 (dk_at dksX1_gone_0 1 rfl rfl)
theorem dX1_gone_4 : decode cX1_gone 4 = .ok (.aload_n 0, 1) := dk_42 (dk_at dksX1_gone_0 4 rfl rfl)
theorem dX1_gone_5 : decode cX1_gone 5 = .ok (.getfield 10, 3) := dk_180 0 10 (dk_at dksX1_gone_0 5 rfl rfl)
theorem dX1_gone_8 : decode cX1_gone 8 = .ok (.invokevirtual 201, 3) := dk_182 0 201 (dk_at dksX1_gone_0 8 rfl rfl)
theorem dX1_gone_11 : decode cX1_gone 11 = .ok (.pop, 1) := dk_87 (dk_at dksX1_gone_0 11 rfl rfl)
theorem dX1_gone_12 : decode cX1_gone 12 = .ok (.iconst 0, 1) := dk_3 (dk_at dksX1_gone_0 12 rfl rfl)
theorem dX1_gone_13 : decode cX1_gone 13 = .ok (.istore_n 1, 1) := dk_60 (dk_at dksX1_gone_0 13 rfl rfl)
theorem dX1_gone_14 : decode cX1_gone 14 = .ok (.iload_n 1, 1) := dk_27 (dk_at dksX1_gone_0 14 rfl rfl)
theorem dX1_gone_15 : decode cX1_gone 15 = .ok (.sipush 400, 3) := dk_17 1 144 (dk_at dksX1_gone_0 15 rfl rfl)
theorem dX1_gone_18 : decode cX1_gone 18 = .ok (.if_icmp .gt 25, 3) := dk_163 0 25 (dk_at dksX1_gone_0 18 rfl rfl)
theorem dX1_gone_21 : decode cX1_gone 21 = .ok (.aload_n 0, 1) := dk_42 (dk_at dksX1_gone_0 21 rfl rfl)
theorem dX1_gone_22 : decode cX1_gone 22 = .ok (.getfield 36, 3) := dk_180 0 36 (dk_at dksX1_gone_1 0 rfl rfl)
theorem dX1_gone_25 : decode cX1_gone 25 = .ok (.getfield 169, 3) := dk_180 0 169 (dk_at dksX1_gone_1 3 rfl rfl)
theorem dX1_gone_28 : decode cX1_gone 28 = .ok (.ifCond .ne 5, 3) := dk_154 0 5 (dk_at dksX1_gone_1 6 rfl rfl)
theorem dX1_gone_31 : decode cX1_gone 31 = .ok (.iload_n 1, 1) := dk_27 (dk_at dksX1_gone_1 9 rfl rfl)
theorem dX1_gone_32 : decode cX1_gone 32 = .ok (.ireturn, 1) := dk_172 (dk_at dksX1_gone_1 10 rfl rfl)
theorem dX1_gone_33 : decode cX1_gone 33 = .ok (.aload_n 0, 1) := dk_42 (dk_at dksX1_gone_1 11 rfl rfl)
theorem dX1_gone_34 : decode cX1_gone 34 = .ok (.invokevirtual 399, 3) := dk_182 1 143 (dk_at dksX1_gone_1 12 rfl rfl)
theorem dX1_gone_37 : decode cX1_gone 37 = .ok (.iinc 1 1, 3) := dk_132 1 1 (dk_at dksX1_gone_1 15 rfl rfl)
theorem dX1_gone_40 : decode cX1_gone 40 = .ok (.goto (-26), 3) := dk_167 255 230 (dk_at dksX1_gone_1 18 rfl rfl)
theorem dX1_gone_43 : decode cX1_gone 43 = .ok (.iconst (-1), 1) := dk_2 (dk_at dksX1_gone_1 21 rfl rfl)
theorem dX1_gone_44 : decode cX1_gone 44 = .ok (.ireturn, 1) := dk_172 (dk_at dksX1_gone_1 22 rfl rfl)
abbrev cX1_oneAhead : ByteArray := prog_1_method_29_code
def yX1_oneAhead : MethodName := ⟨RX1, "oneAhead", "()V"⟩
def dkwX1_oneAhead_0 : List UInt8 := [42, 42, 180, 0, 36, 182, 1, 131, 42, 180, 0, 36, 182, 1, 137, 42, 180, 0, 36, 182, 1, 140, 177]
abbrev dktX1_oneAhead_0 : List UInt8 := dkwX1_oneAhead_0 ++ []
theorem dksX1_oneAhead_0 : cX1_oneAhead.data.toList.drop 0 = dktX1_oneAhead_0 := by decide +kernel
theorem dX1_oneAhead_0 : decode cX1_oneAhead 0 = .ok (.aload_n 0, 1) := dk_42 (dk_at dksX1_oneAhead_0 0 rfl rfl)
theorem dX1_oneAhead_1 : decode cX1_oneAhead 1 = .ok (.aload_n 0, 1) := dk_42 (dk_at dksX1_oneAhead_0 1 rfl rfl)
theorem dX1_oneAhead_2 : decode cX1_oneAhead 2 = .ok (.getfield 36, 3) := dk_180 0 36 (dk_at dksX1_oneAhead_0 2 rfl rfl)
theorem dX1_oneAhead_5 : decode cX1_oneAhead 5 = .ok (.invokevirtual 387, 3) := dk_182 1 131 (dk_at dksX1_oneAhead_0 5 rfl rfl)
theorem dX1_oneAhead_8 : decode cX1_oneAhead 8 = .ok (.aload_n 0, 1) := dk_42 (dk_at dksX1_oneAhead_0 8 rfl rfl)
theorem dX1_oneAhead_9 : decode cX1_oneAhead 9 = .ok (.getfield 36, 3) := dk_180 0 36 (dk_at dksX1_oneAhead_0 9 rfl rfl)
theorem dX1_oneAhead_12 : decode cX1_oneAhead 12 = .ok (.invokevirtual 393, 3) := dk_182 1 137 (dk_at dksX1_oneAhead_0 12 rfl rfl)
theorem dX1_oneAhead_15 : decode cX1_oneAhead 15 = .ok (.aload_n 0, 1) := dk_42 (dk_at dksX1_oneAhead_0 15 rfl rfl)
theorem dX1_oneAhead_16 : decode cX1_oneAhead 16 = .ok (.getfield 36, 3) := dk_180 0 36 (dk_at dksX1_oneAhead_0 16 rfl rfl)
theorem dX1_oneAhead_19 : decode cX1_oneAhead 19 = .ok (.invokevirtual 396, 3) := dk_182 1 140 (dk_at dksX1_oneAhead_0 19 rfl rfl)
theorem dX1_oneAhead_22 : decode cX1_oneAhead 22 = .ok (.return_, 1) := dk_177 (dk_at dksX1_oneAhead_0 22 rfl rfl)
abbrev cX1_allTurn : ByteArray := prog_1_method_26_code
def yX1_allTurn : MethodName := ⟨RX1, "allTurn", "(LSaturdayKeep$World;)V"⟩
def dkwX1_allTurn_1 : List UInt8 := [180, 0, 109, 28, 46, 42, 43, 28, 182, 1, 108, 96, 182, 1, 112, 132, 2, 1, 167, 255, 218, 177]
abbrev dktX1_allTurn_1 : List UInt8 := dkwX1_allTurn_1 ++ []
def dkwX1_allTurn_0 : List UInt8 := [3, 61, 28, 43, 180, 0, 92, 162, 0, 36, 43, 180, 0, 122, 28, 51, 153, 0, 21, 43, 28, 43]
abbrev dktX1_allTurn_0 : List UInt8 := dkwX1_allTurn_0 ++ dktX1_allTurn_1
theorem dksX1_allTurn_0 : cX1_allTurn.data.toList.drop 0 = dktX1_allTurn_0 := by decide +kernel
theorem dksX1_allTurn_1 : cX1_allTurn.data.toList.drop 22 = dktX1_allTurn_1 := dk_seg dksX1_allTurn_0 22 rfl rfl
theorem dX1_allTurn_0 : decode cX1_allTurn 0 = .ok (.iconst 0, 1) := dk_3 (dk_at dksX1_allTurn_0 0 rfl rfl)
theorem dX1_allTurn_1 : decode cX1_allTurn 1 = .ok (.istore_n 2, 1) := dk_61 (dk_at dksX1_allTurn_0 1 rfl rfl)
theorem dX1_allTurn_2 : decode cX1_allTurn 2 = .ok (.iload_n 2, 1) := dk_28 (dk_at dksX1_allTurn_0 2 rfl rfl)
theorem dX1_allTurn_3 : decode cX1_allTurn 3 = .ok (.aload_n 1, 1) := dk_43 (dk_at dksX1_allTurn_0 3 rfl rfl)
theorem dX1_allTurn_4 : decode cX1_allTurn 4 = .ok (.getfield 92, 3) := dk_180 0 92 (dk_at dksX1_allTurn_0 4 rfl rfl)
theorem dX1_allTurn_7 : decode cX1_allTurn 7 = .ok (.if_icmp .ge 36, 3) := dk_162 0 36 (dk_at dksX1_allTurn_0 7 rfl rfl)
theorem dX1_allTurn_10 : decode cX1_allTurn 10 = .ok (.aload_n 1, 1) := dk_43 (dk_at dksX1_allTurn_0 10 rfl rfl)
theorem dX1_allTurn_11 : decode cX1_allTurn 11 = .ok (.getfield 122, 3) := dk_180 0 122 (dk_at dksX1_allTurn_0 11 rfl rfl)
theorem dX1_allTurn_14 : decode cX1_allTurn 14 = .ok (.iload_n 2, 1) := dk_28 (dk_at dksX1_allTurn_0 14 rfl rfl)
theorem dX1_allTurn_15 : decode cX1_allTurn 15 = .ok (.baload, 1) := dk_51 (dk_at dksX1_allTurn_0 15 rfl rfl)
theorem dX1_allTurn_16 : decode cX1_allTurn 16 = .ok (.ifCond .eq 21, 3) := dk_153 0 21 (dk_at dksX1_allTurn_0 16 rfl rfl)
theorem dX1_allTurn_19 : decode cX1_allTurn 19 = .ok (.aload_n 1, 1) := dk_43 (dk_at dksX1_allTurn_0 19 rfl rfl)
theorem dX1_allTurn_20 : decode cX1_allTurn 20 = .ok (.iload_n 2, 1) := dk_28 (dk_at dksX1_allTurn_0 20 rfl rfl)
theorem dX1_allTurn_21 : decode cX1_allTurn 21 = .ok (.aload_n 1, 1) := dk_43 (dk_at dksX1_allTurn_0 21 rfl rfl)
theorem dX1_allTurn_22 : decode cX1_allTurn 22 = .ok (.getfield 109, 3) := dk_180 0 109 (dk_at dksX1_allTurn_1 0 rfl rfl)
theorem dX1_allTurn_25 : decode cX1_allTurn 25 = .ok (.iload_n 2, 1) := dk_28 (dk_at dksX1_allTurn_1 3 rfl rfl)
theorem dX1_allTurn_26 : decode cX1_allTurn 26 = .ok (.iaload, 1) := dk_46 (dk_at dksX1_allTurn_1 4 rfl rfl)
theorem dX1_allTurn_27 : decode cX1_allTurn 27 = .ok (.aload_n 0, 1) := dk_42 (dk_at dksX1_allTurn_1 5 rfl rfl)
theorem dX1_allTurn_28 : decode cX1_allTurn 28 = .ok (.aload_n 1, 1) := dk_43 (dk_at dksX1_allTurn_1 6 rfl rfl)
theorem dX1_allTurn_29 : decode cX1_allTurn 29 = .ok (.iload_n 2, 1) := dk_28 (dk_at dksX1_allTurn_1 7 rfl rfl)
theorem dX1_allTurn_30 : decode cX1_allTurn 30 = .ok (.invokevirtual 364, 3) := dk_182 1 108 (dk_at dksX1_allTurn_1 8 rfl rfl)
theorem dX1_allTurn_33 : decode cX1_allTurn 33 = .ok (.iadd, 1) := dk_96 (dk_at dksX1_allTurn_1 11 rfl rfl)
theorem dX1_allTurn_34 : decode cX1_allTurn 34 = .ok (.invokevirtual 368, 3) := dk_182 1 112 (dk_at dksX1_allTurn_1 12 rfl rfl)
theorem dX1_allTurn_37 : decode cX1_allTurn 37 = .ok (.iinc 2 1, 3) := dk_132 2 1 (dk_at dksX1_allTurn_1 15 rfl rfl)
theorem dX1_allTurn_40 : decode cX1_allTurn 40 = .ok (.goto (-38), 3) := dk_167 255 218 (dk_at dksX1_allTurn_1 18 rfl rfl)
theorem dX1_allTurn_43 : decode cX1_allTurn 43 = .ok (.return_, 1) := dk_177 (dk_at dksX1_allTurn_1 21 rfl rfl)
abbrev cX1_turnsBy : ByteArray := prog_1_method_25_code
def yX1_turnsBy : MethodName := ⟨RX1, "turnsBy", "(LSaturdayKeep$World;I)I"⟩
def dkwX1_turnsBy_6 : List UInt8 := [42, 180, 0, 32, 182, 1, 104, 172]
abbrev dktX1_turnsBy_6 : List UInt8 := dkwX1_turnsBy_6 ++ []
def dkwX1_turnsBy_5 : List UInt8 := [180, 0, 32, 43, 43, 180, 0, 164, 43, 180, 0, 173, 4, 96, 182, 1, 98, 181, 1, 102, 43, 180, 1, 67]
abbrev dktX1_turnsBy_5 : List UInt8 := dkwX1_turnsBy_5 ++ dktX1_turnsBy_6
def dkwX1_turnsBy_4 : List UInt8 := [43, 180, 0, 173, 16, 7, 108, 181, 1, 92, 42, 180, 0, 32, 43, 180, 0, 117, 28, 51, 181, 1, 95, 42]
abbrev dktX1_turnsBy_4 : List UInt8 := dkwX1_turnsBy_4 ++ dktX1_turnsBy_5
def dkwX1_turnsBy_3 : List UInt8 := [180, 0, 32, 43, 180, 0, 129, 43, 180, 0, 104, 28, 46, 46, 184, 1, 84, 181, 1, 90, 42, 180, 0, 32]
abbrev dktX1_turnsBy_3 : List UInt8 := dkwX1_turnsBy_3 ++ dktX1_turnsBy_4
def dkwX1_turnsBy_2 : List UInt8 := [180, 0, 32, 43, 180, 0, 109, 28, 46, 181, 1, 77, 42, 180, 0, 32, 43, 180, 1, 80, 181, 1, 83, 42]
abbrev dktX1_turnsBy_2 : List UInt8 := dkwX1_turnsBy_2 ++ dktX1_turnsBy_3
def dkwX1_turnsBy_1 : List UInt8 := [180, 0, 104, 28, 46, 181, 1, 73, 42, 180, 0, 32, 43, 180, 0, 95, 28, 46, 181, 1, 75, 42]
abbrev dktX1_turnsBy_1 : List UInt8 := dkwX1_turnsBy_1 ++ dktX1_turnsBy_2
def dkwX1_turnsBy_0 : List UInt8 := [43, 180, 1, 67, 199, 0, 5, 4, 172, 42, 180, 0, 32, 28, 181, 1, 71, 42, 180, 0, 32, 43]
abbrev dktX1_turnsBy_0 : List UInt8 := dkwX1_turnsBy_0 ++ dktX1_turnsBy_1
theorem dksX1_turnsBy_0 : cX1_turnsBy.data.toList.drop 0 = dktX1_turnsBy_0 := by decide +kernel
theorem dksX1_turnsBy_1 : cX1_turnsBy.data.toList.drop 22 = dktX1_turnsBy_1 := dk_seg dksX1_turnsBy_0 22 rfl rfl
theorem dksX1_turnsBy_2 : cX1_turnsBy.data.toList.drop 44 = dktX1_turnsBy_2 := dk_seg dksX1_turnsBy_1 22 rfl rfl
theorem dksX1_turnsBy_3 : cX1_turnsBy.data.toList.drop 68 = dktX1_turnsBy_3 := dk_seg dksX1_turnsBy_2 24 rfl rfl
theorem dksX1_turnsBy_4 : cX1_turnsBy.data.toList.drop 92 = dktX1_turnsBy_4 := dk_seg dksX1_turnsBy_3 24 rfl rfl
theorem dksX1_turnsBy_5 : cX1_turnsBy.data.toList.drop 116 = dktX1_turnsBy_5 := dk_seg dksX1_turnsBy_4 24 rfl rfl
theorem dksX1_turnsBy_6 : cX1_turnsBy.data.toList.drop 140 = dktX1_turnsBy_6 := dk_seg dksX1_turnsBy_5 24 rfl rfl
theorem dX1_turnsBy_0 : decode cX1_turnsBy 0 = .ok (.aload_n 1, 1) := dk_43 (dk_at dksX1_turnsBy_0 0 rfl rfl)
theorem dX1_turnsBy_1 : decode cX1_turnsBy 1 = .ok (.getfield 323, 3) := dk_180 1 67 (dk_at dksX1_turnsBy_0 1 rfl rfl)
theorem dX1_turnsBy_4 : decode cX1_turnsBy 4 = .ok (.ifnonnull 5, 3) := dk_199 0 5 (dk_at dksX1_turnsBy_0 4 rfl rfl)
theorem dX1_turnsBy_7 : decode cX1_turnsBy 7 = .ok (.iconst 1, 1) := dk_4 (dk_at dksX1_turnsBy_0 7 rfl rfl)
theorem dX1_turnsBy_8 : decode cX1_turnsBy 8 = .ok (.ireturn, 1) := dk_172 (dk_at dksX1_turnsBy_0 8 rfl rfl)
theorem dX1_turnsBy_9 : decode cX1_turnsBy 9 = .ok (.aload_n 0, 1) := dk_42 (dk_at dksX1_turnsBy_0 9 rfl rfl)
theorem dX1_turnsBy_10 : decode cX1_turnsBy 10 = .ok (.getfield 32, 3) := dk_180 0 32 (dk_at dksX1_turnsBy_0 10 rfl rfl)
theorem dX1_turnsBy_13 : decode cX1_turnsBy 13 = .ok (.iload_n 2, 1) := dk_28 (dk_at dksX1_turnsBy_0 13 rfl rfl)
theorem dX1_turnsBy_14 : decode cX1_turnsBy 14 = .ok (.putfield 327, 3) := dk_181 1 71 (dk_at dksX1_turnsBy_0 14 rfl rfl)
theorem dX1_turnsBy_17 : decode cX1_turnsBy 17 = .ok (.aload_n 0, 1) := dk_42 (dk_at dksX1_turnsBy_0 17 rfl rfl)
theorem dX1_turnsBy_18 : decode cX1_turnsBy 18 = .ok (.getfield 32, 3) := dk_180 0 32 (dk_at dksX1_turnsBy_0 18 rfl rfl)
theorem dX1_turnsBy_21 : decode cX1_turnsBy 21 = .ok (.aload_n 1, 1) := dk_43 (dk_at dksX1_turnsBy_0 21 rfl rfl)
theorem dX1_turnsBy_22 : decode cX1_turnsBy 22 = .ok (.getfield 104, 3) := dk_180 0 104 (dk_at dksX1_turnsBy_1 0 rfl rfl)
theorem dX1_turnsBy_25 : decode cX1_turnsBy 25 = .ok (.iload_n 2, 1) := dk_28 (dk_at dksX1_turnsBy_1 3 rfl rfl)
theorem dX1_turnsBy_26 : decode cX1_turnsBy 26 = .ok (.iaload, 1) := dk_46 (dk_at dksX1_turnsBy_1 4 rfl rfl)
theorem dX1_turnsBy_27 : decode cX1_turnsBy 27 = .ok (.putfield 329, 3) := dk_181 1 73 (dk_at dksX1_turnsBy_1 5 rfl rfl)
theorem dX1_turnsBy_30 : decode cX1_turnsBy 30 = .ok (.aload_n 0, 1) := dk_42 (dk_at dksX1_turnsBy_1 8 rfl rfl)
theorem dX1_turnsBy_31 : decode cX1_turnsBy 31 = .ok (.getfield 32, 3) := dk_180 0 32 (dk_at dksX1_turnsBy_1 9 rfl rfl)
theorem dX1_turnsBy_34 : decode cX1_turnsBy 34 = .ok (.aload_n 1, 1) := dk_43 (dk_at dksX1_turnsBy_1 12 rfl rfl)
theorem dX1_turnsBy_35 : decode cX1_turnsBy 35 = .ok (.getfield 95, 3) := dk_180 0 95 (dk_at dksX1_turnsBy_1 13 rfl rfl)
theorem dX1_turnsBy_38 : decode cX1_turnsBy 38 = .ok (.iload_n 2, 1) := dk_28 (dk_at dksX1_turnsBy_1 16 rfl rfl)
theorem dX1_turnsBy_39 : decode cX1_turnsBy 39 = .ok (.iaload, 1) := dk_46 (dk_at dksX1_turnsBy_1 17 rfl rfl)
theorem dX1_turnsBy_40 : decode cX1_turnsBy 40 = .ok (.putfield 331, 3) := dk_181 1 75 (dk_at dksX1_turnsBy_1 18 rfl rfl)
theorem dX1_turnsBy_43 : decode cX1_turnsBy 43 = .ok (.aload_n 0, 1) := dk_42 (dk_at dksX1_turnsBy_1 21 rfl rfl)
theorem dX1_turnsBy_44 : decode cX1_turnsBy 44 = .ok (.getfield 32, 3) := dk_180 0 32 (dk_at dksX1_turnsBy_2 0 rfl rfl)
theorem dX1_turnsBy_47 : decode cX1_turnsBy 47 = .ok (.aload_n 1, 1) := dk_43 (dk_at dksX1_turnsBy_2 3 rfl rfl)
theorem dX1_turnsBy_48 : decode cX1_turnsBy 48 = .ok (.getfield 109, 3) := dk_180 0 109 (dk_at dksX1_turnsBy_2 4 rfl rfl)
theorem dX1_turnsBy_51 : decode cX1_turnsBy 51 = .ok (.iload_n 2, 1) := dk_28 (dk_at dksX1_turnsBy_2 7 rfl rfl)
theorem dX1_turnsBy_52 : decode cX1_turnsBy 52 = .ok (.iaload, 1) := dk_46 (dk_at dksX1_turnsBy_2 8 rfl rfl)
theorem dX1_turnsBy_53 : decode cX1_turnsBy 53 = .ok (.putfield 333, 3) := dk_181 1 77 (dk_at dksX1_turnsBy_2 9 rfl rfl)
theorem dX1_turnsBy_56 : decode cX1_turnsBy 56 = .ok (.aload_n 0, 1) := dk_42 (dk_at dksX1_turnsBy_2 12 rfl rfl)
theorem dX1_turnsBy_57 : decode cX1_turnsBy 57 = .ok (.getfield 32, 3) := dk_180 0 32 (dk_at dksX1_turnsBy_2 13 rfl rfl)
theorem dX1_turnsBy_60 : decode cX1_turnsBy 60 = .ok (.aload_n 1, 1) := dk_43 (dk_at dksX1_turnsBy_2 16 rfl rfl)
theorem dX1_turnsBy_61 : decode cX1_turnsBy 61 = .ok (.getfield 336, 3) := dk_180 1 80 (dk_at dksX1_turnsBy_2 17 rfl rfl)
theorem dX1_turnsBy_64 : decode cX1_turnsBy 64 = .ok (.putfield 339, 3) := dk_181 1 83 (dk_at dksX1_turnsBy_2 20 rfl rfl)
theorem dX1_turnsBy_67 : decode cX1_turnsBy 67 = .ok (.aload_n 0, 1) := dk_42 (dk_at dksX1_turnsBy_2 23 rfl rfl)
theorem dX1_turnsBy_68 : decode cX1_turnsBy 68 = .ok (.getfield 32, 3) := dk_180 0 32 (dk_at dksX1_turnsBy_3 0 rfl rfl)
theorem dX1_turnsBy_71 : decode cX1_turnsBy 71 = .ok (.aload_n 1, 1) := dk_43 (dk_at dksX1_turnsBy_3 3 rfl rfl)
theorem dX1_turnsBy_72 : decode cX1_turnsBy 72 = .ok (.getfield 129, 3) := dk_180 0 129 (dk_at dksX1_turnsBy_3 4 rfl rfl)
theorem dX1_turnsBy_75 : decode cX1_turnsBy 75 = .ok (.aload_n 1, 1) := dk_43 (dk_at dksX1_turnsBy_3 7 rfl rfl)
theorem dX1_turnsBy_76 : decode cX1_turnsBy 76 = .ok (.getfield 104, 3) := dk_180 0 104 (dk_at dksX1_turnsBy_3 8 rfl rfl)
theorem dX1_turnsBy_79 : decode cX1_turnsBy 79 = .ok (.iload_n 2, 1) := dk_28 (dk_at dksX1_turnsBy_3 11 rfl rfl)
theorem dX1_turnsBy_80 : decode cX1_turnsBy 80 = .ok (.iaload, 1) := dk_46 (dk_at dksX1_turnsBy_3 12 rfl rfl)
theorem dX1_turnsBy_81 : decode cX1_turnsBy 81 = .ok (.iaload, 1) := dk_46 (dk_at dksX1_turnsBy_3 13 rfl rfl)
theorem dX1_turnsBy_82 : decode cX1_turnsBy 82 = .ok (.invokestatic 340, 3) := dk_184 1 84 (dk_at dksX1_turnsBy_3 14 rfl rfl)
theorem dX1_turnsBy_85 : decode cX1_turnsBy 85 = .ok (.putfield 346, 3) := dk_181 1 90 (dk_at dksX1_turnsBy_3 17 rfl rfl)
theorem dX1_turnsBy_88 : decode cX1_turnsBy 88 = .ok (.aload_n 0, 1) := dk_42 (dk_at dksX1_turnsBy_3 20 rfl rfl)
theorem dX1_turnsBy_89 : decode cX1_turnsBy 89 = .ok (.getfield 32, 3) := dk_180 0 32 (dk_at dksX1_turnsBy_3 21 rfl rfl)
theorem dX1_turnsBy_92 : decode cX1_turnsBy 92 = .ok (.aload_n 1, 1) := dk_43 (dk_at dksX1_turnsBy_4 0 rfl rfl)
theorem dX1_turnsBy_93 : decode cX1_turnsBy 93 = .ok (.getfield 173, 3) := dk_180 0 173 (dk_at dksX1_turnsBy_4 1 rfl rfl)
theorem dX1_turnsBy_96 : decode cX1_turnsBy 96 = .ok (.bipush 7, 2) := dk_16 7 (dk_at dksX1_turnsBy_4 4 rfl rfl)
theorem dX1_turnsBy_98 : decode cX1_turnsBy 98 = .ok (.idiv, 1) := dk_108 (dk_at dksX1_turnsBy_4 6 rfl rfl)
theorem dX1_turnsBy_99 : decode cX1_turnsBy 99 = .ok (.putfield 348, 3) := dk_181 1 92 (dk_at dksX1_turnsBy_4 7 rfl rfl)
theorem dX1_turnsBy_102 : decode cX1_turnsBy 102 = .ok (.aload_n 0, 1) := dk_42 (dk_at dksX1_turnsBy_4 10 rfl rfl)
theorem dX1_turnsBy_103 : decode cX1_turnsBy 103 = .ok (.getfield 32, 3) := dk_180 0 32 (dk_at dksX1_turnsBy_4 11 rfl rfl)
theorem dX1_turnsBy_106 : decode cX1_turnsBy 106 = .ok (.aload_n 1, 1) := dk_43 (dk_at dksX1_turnsBy_4 14 rfl rfl)
theorem dX1_turnsBy_107 : decode cX1_turnsBy 107 = .ok (.getfield 117, 3) := dk_180 0 117 (dk_at dksX1_turnsBy_4 15 rfl rfl)
theorem dX1_turnsBy_110 : decode cX1_turnsBy 110 = .ok (.iload_n 2, 1) := dk_28 (dk_at dksX1_turnsBy_4 18 rfl rfl)
theorem dX1_turnsBy_111 : decode cX1_turnsBy 111 = .ok (.baload, 1) := dk_51 (dk_at dksX1_turnsBy_4 19 rfl rfl)
theorem dX1_turnsBy_112 : decode cX1_turnsBy 112 = .ok (.putfield 351, 3) := dk_181 1 95 (dk_at dksX1_turnsBy_4 20 rfl rfl)
theorem dX1_turnsBy_115 : decode cX1_turnsBy 115 = .ok (.aload_n 0, 1) := dk_42 (dk_at dksX1_turnsBy_4 23 rfl rfl)
theorem dX1_turnsBy_116 : decode cX1_turnsBy 116 = .ok (.getfield 32, 3) := dk_180 0 32 (dk_at dksX1_turnsBy_5 0 rfl rfl)
theorem dX1_turnsBy_119 : decode cX1_turnsBy 119 = .ok (.aload_n 1, 1) := dk_43 (dk_at dksX1_turnsBy_5 3 rfl rfl)
theorem dX1_turnsBy_120 : decode cX1_turnsBy 120 = .ok (.aload_n 1, 1) := dk_43 (dk_at dksX1_turnsBy_5 4 rfl rfl)
theorem dX1_turnsBy_121 : decode cX1_turnsBy 121 = .ok (.getfield 164, 3) := dk_180 0 164 (dk_at dksX1_turnsBy_5 5 rfl rfl)
theorem dX1_turnsBy_124 : decode cX1_turnsBy 124 = .ok (.aload_n 1, 1) := dk_43 (dk_at dksX1_turnsBy_5 8 rfl rfl)
theorem dX1_turnsBy_125 : decode cX1_turnsBy 125 = .ok (.getfield 173, 3) := dk_180 0 173 (dk_at dksX1_turnsBy_5 9 rfl rfl)
theorem dX1_turnsBy_128 : decode cX1_turnsBy 128 = .ok (.iconst 1, 1) := dk_4 (dk_at dksX1_turnsBy_5 12 rfl rfl)
theorem dX1_turnsBy_129 : decode cX1_turnsBy 129 = .ok (.iadd, 1) := dk_96 (dk_at dksX1_turnsBy_5 13 rfl rfl)
theorem dX1_turnsBy_130 : decode cX1_turnsBy 130 = .ok (.invokevirtual 354, 3) := dk_182 1 98 (dk_at dksX1_turnsBy_5 14 rfl rfl)
theorem dX1_turnsBy_133 : decode cX1_turnsBy 133 = .ok (.putfield 358, 3) := dk_181 1 102 (dk_at dksX1_turnsBy_5 17 rfl rfl)
theorem dX1_turnsBy_136 : decode cX1_turnsBy 136 = .ok (.aload_n 1, 1) := dk_43 (dk_at dksX1_turnsBy_5 20 rfl rfl)
theorem dX1_turnsBy_137 : decode cX1_turnsBy 137 = .ok (.getfield 323, 3) := dk_180 1 67 (dk_at dksX1_turnsBy_5 21 rfl rfl)
theorem dX1_turnsBy_140 : decode cX1_turnsBy 140 = .ok (.aload_n 0, 1) := dk_42 (dk_at dksX1_turnsBy_6 0 rfl rfl)
theorem dX1_turnsBy_141 : decode cX1_turnsBy 141 = .ok (.getfield 32, 3) := dk_180 0 32 (dk_at dksX1_turnsBy_6 1 rfl rfl)
theorem dX1_turnsBy_144 : decode cX1_turnsBy 144 = .ok (.invokevirtual 360, 3) := dk_182 1 104 (dk_at dksX1_turnsBy_6 4 rfl rfl)
theorem dX1_turnsBy_147 : decode cX1_turnsBy 147 = .ok (.ireturn, 1) := dk_172 (dk_at dksX1_turnsBy_6 7 rfl rfl)
abbrev cX1_odds : ByteArray := prog_1_method_65_code
def yX1_odds : MethodName := ⟨RX1, "odds", "()I"⟩
def dkwX1_odds_0 : List UInt8 := [42, 42, 180, 0, 10, 42, 180, 0, 10, 180, 0, 160, 182, 1, 115, 182, 1, 223, 172]
abbrev dktX1_odds_0 : List UInt8 := dkwX1_odds_0 ++ []
theorem dksX1_odds_0 : cX1_odds.data.toList.drop 0 = dktX1_odds_0 := by decide +kernel
theorem dX1_odds_0 : decode cX1_odds 0 = .ok (.aload_n 0, 1) := dk_42 (dk_at dksX1_odds_0 0 rfl rfl)
theorem dX1_odds_1 : decode cX1_odds 1 = .ok (.aload_n 0, 1) := dk_42 (dk_at dksX1_odds_0 1 rfl rfl)
theorem dX1_odds_2 : decode cX1_odds 2 = .ok (.getfield 10, 3) := dk_180 0 10 (dk_at dksX1_odds_0 2 rfl rfl)
theorem dX1_odds_5 : decode cX1_odds 5 = .ok (.aload_n 0, 1) := dk_42 (dk_at dksX1_odds_0 5 rfl rfl)
theorem dX1_odds_6 : decode cX1_odds 6 = .ok (.getfield 10, 3) := dk_180 0 10 (dk_at dksX1_odds_0 6 rfl rfl)
theorem dX1_odds_9 : decode cX1_odds 9 = .ok (.getfield 160, 3) := dk_180 0 160 (dk_at dksX1_odds_0 9 rfl rfl)
theorem dX1_odds_12 : decode cX1_odds 12 = .ok (.invokevirtual 371, 3) := dk_182 1 115 (dk_at dksX1_odds_0 12 rfl rfl)
theorem dX1_odds_15 : decode cX1_odds 15 = .ok (.invokevirtual 479, 3) := dk_182 1 223 (dk_at dksX1_odds_0 15 rfl rfl)
theorem dX1_odds_18 : decode cX1_odds 18 = .ok (.ireturn, 1) := dk_172 (dk_at dksX1_odds_0 18 rfl rfl)
abbrev cX1_has : ByteArray := prog_1_method_37_code
def yX1_has : MethodName := ⟨RX1, "has", "(II)Z"⟩
def dkwX1_has_0 : List UInt8 := [26, 27, 122, 4, 126, 4, 160, 0, 7, 4, 167, 0, 4, 3, 172]
abbrev dktX1_has_0 : List UInt8 := dkwX1_has_0 ++ []
theorem dksX1_has_0 : cX1_has.data.toList.drop 0 = dktX1_has_0 := by decide +kernel
theorem dX1_has_0 : decode cX1_has 0 = .ok (.iload_n 0, 1) := dk_26 (dk_at dksX1_has_0 0 rfl rfl)
theorem dX1_has_1 : decode cX1_has 1 = .ok (.iload_n 1, 1) := dk_27 (dk_at dksX1_has_0 1 rfl rfl)
theorem dX1_has_2 : decode cX1_has 2 = .ok (.ishr, 1) := dk_122 (dk_at dksX1_has_0 2 rfl rfl)
theorem dX1_has_3 : decode cX1_has 3 = .ok (.iconst 1, 1) := dk_4 (dk_at dksX1_has_0 3 rfl rfl)
theorem dX1_has_4 : decode cX1_has 4 = .ok (.iand, 1) := dk_126 (dk_at dksX1_has_0 4 rfl rfl)
theorem dX1_has_5 : decode cX1_has 5 = .ok (.iconst 1, 1) := dk_4 (dk_at dksX1_has_0 5 rfl rfl)
theorem dX1_has_6 : decode cX1_has 6 = .ok (.if_icmp .ne 7, 3) := dk_160 0 7 (dk_at dksX1_has_0 6 rfl rfl)
theorem dX1_has_9 : decode cX1_has 9 = .ok (.iconst 1, 1) := dk_4 (dk_at dksX1_has_0 9 rfl rfl)
theorem dX1_has_10 : decode cX1_has 10 = .ok (.goto 4, 3) := dk_167 0 4 (dk_at dksX1_has_0 10 rfl rfl)
theorem dX1_has_13 : decode cX1_has 13 = .ok (.iconst 0, 1) := dk_3 (dk_at dksX1_has_0 13 rfl rfl)
theorem dX1_has_14 : decode cX1_has 14 = .ok (.ireturn, 1) := dk_172 (dk_at dksX1_has_0 14 rfl rfl)
abbrev cX1_oddsOf : ByteArray := prog_1_method_64_code
def yX1_oddsOf : MethodName := ⟨RX1, "oddsOf", "(I)I"⟩
def dkwX1_oddsOf_3 : List UInt8 := [22, 4, 109, 136, 172]
abbrev dktX1_oddsOf_3 : List UInt8 := dkwX1_oddsOf_3 ++ []
def dkwX1_oddsOf_2 : List UInt8 := [65, 22, 4, 20, 1, 219, 105, 55, 4, 132, 6, 1, 167, 255, 205, 20, 1, 221, 22, 4, 32, 101, 105]
abbrev dktX1_oddsOf_2 : List UInt8 := dkwX1_oddsOf_2 ++ dktX1_oddsOf_3
def dkwX1_oddsOf_1 : List UInt8 := [184, 1, 118, 154, 0, 6, 167, 0, 27, 32, 16, 10, 42, 180, 0, 10, 21, 6, 182, 1, 124, 100, 133, 105]
abbrev dktX1_oddsOf_1 : List UInt8 := dkwX1_oddsOf_1 ++ dktX1_oddsOf_2
def dkwX1_oddsOf_0 : List UInt8 := [10, 65, 10, 55, 4, 3, 54, 6, 21, 6, 42, 180, 0, 10, 180, 0, 92, 162, 0, 45, 27, 21, 6]
abbrev dktX1_oddsOf_0 : List UInt8 := dkwX1_oddsOf_0 ++ dktX1_oddsOf_1
theorem dksX1_oddsOf_0 : cX1_oddsOf.data.toList.drop 0 = dktX1_oddsOf_0 := by decide +kernel
theorem dksX1_oddsOf_1 : cX1_oddsOf.data.toList.drop 23 = dktX1_oddsOf_1 := dk_seg dksX1_oddsOf_0 23 rfl rfl
theorem dksX1_oddsOf_2 : cX1_oddsOf.data.toList.drop 47 = dktX1_oddsOf_2 := dk_seg dksX1_oddsOf_1 24 rfl rfl
theorem dksX1_oddsOf_3 : cX1_oddsOf.data.toList.drop 70 = dktX1_oddsOf_3 := dk_seg dksX1_oddsOf_2 23 rfl rfl
theorem dX1_oddsOf_0 : decode cX1_oddsOf 0 = .ok (.lconst 1, 1) := dk_10 (dk_at dksX1_oddsOf_0 0 rfl rfl)
theorem dX1_oddsOf_1 : decode cX1_oddsOf 1 = .ok (.lstore_n 2, 1) := dk_65 (dk_at dksX1_oddsOf_0 1 rfl rfl)
theorem dX1_oddsOf_2 : decode cX1_oddsOf 2 = .ok (.lconst 1, 1) := dk_10 (dk_at dksX1_oddsOf_0 2 rfl rfl)
theorem dX1_oddsOf_3 : decode cX1_oddsOf 3 = .ok (.lstore 4, 2) := dk_55 4 (dk_at dksX1_oddsOf_0 3 rfl rfl)
theorem dX1_oddsOf_5 : decode cX1_oddsOf 5 = .ok (.iconst 0, 1) := dk_3 (dk_at dksX1_oddsOf_0 5 rfl rfl)
theorem dX1_oddsOf_6 : decode cX1_oddsOf 6 = .ok (.istore 6, 2) := dk_54 6 (dk_at dksX1_oddsOf_0 6 rfl rfl)
theorem dX1_oddsOf_8 : decode cX1_oddsOf 8 = .ok (.iload 6, 2) := dk_21 6 (dk_at dksX1_oddsOf_0 8 rfl rfl)
theorem dX1_oddsOf_10 : decode cX1_oddsOf 10 = .ok (.aload_n 0, 1) := dk_42 (dk_at dksX1_oddsOf_0 10 rfl rfl)
theorem dX1_oddsOf_11 : decode cX1_oddsOf 11 = .ok (.getfield 10, 3) := dk_180 0 10 (dk_at dksX1_oddsOf_0 11 rfl rfl)
theorem dX1_oddsOf_14 : decode cX1_oddsOf 14 = .ok (.getfield 92, 3) := dk_180 0 92 (dk_at dksX1_oddsOf_0 14 rfl rfl)
theorem dX1_oddsOf_17 : decode cX1_oddsOf 17 = .ok (.if_icmp .ge 45, 3) := dk_162 0 45 (dk_at dksX1_oddsOf_0 17 rfl rfl)
theorem dX1_oddsOf_20 : decode cX1_oddsOf 20 = .ok (.iload_n 1, 1) := dk_27 (dk_at dksX1_oddsOf_0 20 rfl rfl)
theorem dX1_oddsOf_21 : decode cX1_oddsOf 21 = .ok (.iload 6, 2) := dk_21 6 (dk_at dksX1_oddsOf_0 21 rfl rfl)
theorem dX1_oddsOf_23 : decode cX1_oddsOf 23 = .ok (.invokestatic 374, 3) := dk_184 1 118 (dk_at dksX1_oddsOf_1 0 rfl rfl)
theorem dX1_oddsOf_26 : decode cX1_oddsOf 26 = .ok (.ifCond .ne 6, 3) := dk_154 0 6 (dk_at dksX1_oddsOf_1 3 rfl rfl)
theorem dX1_oddsOf_29 : decode cX1_oddsOf 29 = .ok (.goto 27, 3) := dk_167 0 27 (dk_at dksX1_oddsOf_1 6 rfl rfl)
theorem dX1_oddsOf_32 : decode cX1_oddsOf 32 = .ok (.lload_n 2, 1) := dk_32 (dk_at dksX1_oddsOf_1 9 rfl rfl)
theorem dX1_oddsOf_33 : decode cX1_oddsOf 33 = .ok (.bipush 10, 2) := dk_16 10 (dk_at dksX1_oddsOf_1 10 rfl rfl)
theorem dX1_oddsOf_35 : decode cX1_oddsOf 35 = .ok (.aload_n 0, 1) := dk_42 (dk_at dksX1_oddsOf_1 12 rfl rfl)
theorem dX1_oddsOf_36 : decode cX1_oddsOf 36 = .ok (.getfield 10, 3) := dk_180 0 10 (dk_at dksX1_oddsOf_1 13 rfl rfl)
theorem dX1_oddsOf_39 : decode cX1_oddsOf 39 = .ok (.iload 6, 2) := dk_21 6 (dk_at dksX1_oddsOf_1 16 rfl rfl)
theorem dX1_oddsOf_41 : decode cX1_oddsOf 41 = .ok (.invokevirtual 380, 3) := dk_182 1 124 (dk_at dksX1_oddsOf_1 18 rfl rfl)
theorem dX1_oddsOf_44 : decode cX1_oddsOf 44 = .ok (.isub, 1) := dk_100 (dk_at dksX1_oddsOf_1 21 rfl rfl)
theorem dX1_oddsOf_45 : decode cX1_oddsOf 45 = .ok (.i2l, 1) := dk_133 (dk_at dksX1_oddsOf_1 22 rfl rfl)
theorem dX1_oddsOf_46 : decode cX1_oddsOf 46 = .ok (.lmul, 1) := dk_105 (dk_at dksX1_oddsOf_1 23 rfl rfl)
theorem dX1_oddsOf_47 : decode cX1_oddsOf 47 = .ok (.lstore_n 2, 1) := dk_65 (dk_at dksX1_oddsOf_2 0 rfl rfl)
theorem dX1_oddsOf_48 : decode cX1_oddsOf 48 = .ok (.lload 4, 2) := dk_22 4 (dk_at dksX1_oddsOf_2 1 rfl rfl)
theorem dX1_oddsOf_50 : decode cX1_oddsOf 50 = .ok (.ldc2_w 475, 3) := dk_20 1 219 (dk_at dksX1_oddsOf_2 3 rfl rfl)
theorem dX1_oddsOf_53 : decode cX1_oddsOf 53 = .ok (.lmul, 1) := dk_105 (dk_at dksX1_oddsOf_2 6 rfl rfl)
theorem dX1_oddsOf_54 : decode cX1_oddsOf 54 = .ok (.lstore 4, 2) := dk_55 4 (dk_at dksX1_oddsOf_2 7 rfl rfl)
theorem dX1_oddsOf_56 : decode cX1_oddsOf 56 = .ok (.iinc 6 1, 3) := dk_132 6 1 (dk_at dksX1_oddsOf_2 9 rfl rfl)
theorem dX1_oddsOf_59 : decode cX1_oddsOf 59 = .ok (.goto (-51), 3) := dk_167 255 205 (dk_at dksX1_oddsOf_2 12 rfl rfl)
theorem dX1_oddsOf_62 : decode cX1_oddsOf 62 = .ok (.ldc2_w 477, 3) := dk_20 1 221 (dk_at dksX1_oddsOf_2 15 rfl rfl)
theorem dX1_oddsOf_65 : decode cX1_oddsOf 65 = .ok (.lload 4, 2) := dk_22 4 (dk_at dksX1_oddsOf_2 18 rfl rfl)
theorem dX1_oddsOf_67 : decode cX1_oddsOf 67 = .ok (.lload_n 2, 1) := dk_32 (dk_at dksX1_oddsOf_2 20 rfl rfl)
theorem dX1_oddsOf_68 : decode cX1_oddsOf 68 = .ok (.lsub, 1) := dk_101 (dk_at dksX1_oddsOf_2 21 rfl rfl)
theorem dX1_oddsOf_69 : decode cX1_oddsOf 69 = .ok (.lmul, 1) := dk_105 (dk_at dksX1_oddsOf_2 22 rfl rfl)
theorem dX1_oddsOf_70 : decode cX1_oddsOf 70 = .ok (.lload 4, 2) := dk_22 4 (dk_at dksX1_oddsOf_3 0 rfl rfl)
theorem dX1_oddsOf_72 : decode cX1_oddsOf 72 = .ok (.ldiv, 1) := dk_109 (dk_at dksX1_oddsOf_3 2 rfl rfl)
theorem dX1_oddsOf_73 : decode cX1_oddsOf 73 = .ok (.l2i, 1) := dk_136 (dk_at dksX1_oddsOf_3 3 rfl rfl)
theorem dX1_oddsOf_74 : decode cX1_oddsOf 74 = .ok (.ireturn, 1) := dk_172 (dk_at dksX1_oddsOf_3 4 rfl rfl)
abbrev cX1_send : ByteArray := prog_1_method_66_code
def yX1_send : MethodName := ⟨RX1, "send", "()I"⟩
def dkwX1_send_0 : List UInt8 := [42, 180, 0, 10, 42, 180, 0, 10, 180, 0, 160, 182, 1, 115, 172]
abbrev dktX1_send_0 : List UInt8 := dkwX1_send_0 ++ []
theorem dksX1_send_0 : cX1_send.data.toList.drop 0 = dktX1_send_0 := by decide +kernel
theorem dX1_send_0 : decode cX1_send 0 = .ok (.aload_n 0, 1) := dk_42 (dk_at dksX1_send_0 0 rfl rfl)
theorem dX1_send_1 : decode cX1_send 1 = .ok (.getfield 10, 3) := dk_180 0 10 (dk_at dksX1_send_0 1 rfl rfl)
theorem dX1_send_4 : decode cX1_send 4 = .ok (.aload_n 0, 1) := dk_42 (dk_at dksX1_send_0 4 rfl rfl)
theorem dX1_send_5 : decode cX1_send 5 = .ok (.getfield 10, 3) := dk_180 0 10 (dk_at dksX1_send_0 5 rfl rfl)
theorem dX1_send_8 : decode cX1_send 8 = .ok (.getfield 160, 3) := dk_180 0 160 (dk_at dksX1_send_0 8 rfl rfl)
theorem dX1_send_11 : decode cX1_send 11 = .ok (.invokevirtual 371, 3) := dk_182 1 115 (dk_at dksX1_send_0 11 rfl rfl)
theorem dX1_send_14 : decode cX1_send 14 = .ok (.ireturn, 1) := dk_172 (dk_at dksX1_send_0 14 rfl rfl)
abbrev cX1_mend : ByteArray := prog_1_method_68_code
def yX1_mend : MethodName := ⟨RX1, "mend", "()I"⟩
def dkwX1_mend_2 : List UInt8 := [167, 0, 4, 3, 96, 60, 132, 2, 1, 167, 255, 206, 27, 172]
abbrev dktX1_mend_2 : List UInt8 := dkwX1_mend_2 ++ []
def dkwX1_mend_1 : List UInt8 := [180, 0, 10, 180, 0, 129, 28, 46, 42, 180, 0, 10, 180, 0, 160, 184, 1, 118, 153, 0, 7, 4]
abbrev dktX1_mend_1 : List UInt8 := dkwX1_mend_1 ++ dktX1_mend_2
def dkwX1_mend_0 : List UInt8 := [3, 60, 3, 61, 28, 16, 8, 162, 0, 50, 27, 42, 180, 0, 10, 28, 182, 1, 181, 153, 0, 29, 42]
abbrev dktX1_mend_0 : List UInt8 := dkwX1_mend_0 ++ dktX1_mend_1
theorem dksX1_mend_0 : cX1_mend.data.toList.drop 0 = dktX1_mend_0 := by decide +kernel
theorem dksX1_mend_1 : cX1_mend.data.toList.drop 23 = dktX1_mend_1 := dk_seg dksX1_mend_0 23 rfl rfl
theorem dksX1_mend_2 : cX1_mend.data.toList.drop 45 = dktX1_mend_2 := dk_seg dksX1_mend_1 22 rfl rfl
theorem dX1_mend_0 : decode cX1_mend 0 = .ok (.iconst 0, 1) := dk_3 (dk_at dksX1_mend_0 0 rfl rfl)
theorem dX1_mend_1 : decode cX1_mend 1 = .ok (.istore_n 1, 1) := dk_60 (dk_at dksX1_mend_0 1 rfl rfl)
theorem dX1_mend_2 : decode cX1_mend 2 = .ok (.iconst 0, 1) := dk_3 (dk_at dksX1_mend_0 2 rfl rfl)
theorem dX1_mend_3 : decode cX1_mend 3 = .ok (.istore_n 2, 1) := dk_61 (dk_at dksX1_mend_0 3 rfl rfl)
theorem dX1_mend_4 : decode cX1_mend 4 = .ok (.iload_n 2, 1) := dk_28 (dk_at dksX1_mend_0 4 rfl rfl)
theorem dX1_mend_5 : decode cX1_mend 5 = .ok (.bipush 8, 2) := dk_16 8 (dk_at dksX1_mend_0 5 rfl rfl)
theorem dX1_mend_7 : decode cX1_mend 7 = .ok (.if_icmp .ge 50, 3) := dk_162 0 50 (dk_at dksX1_mend_0 7 rfl rfl)
theorem dX1_mend_10 : decode cX1_mend 10 = .ok (.iload_n 1, 1) := dk_27 (dk_at dksX1_mend_0 10 rfl rfl)
theorem dX1_mend_11 : decode cX1_mend 11 = .ok (.aload_n 0, 1) := dk_42 (dk_at dksX1_mend_0 11 rfl rfl)
theorem dX1_mend_12 : decode cX1_mend 12 = .ok (.getfield 10, 3) := dk_180 0 10 (dk_at dksX1_mend_0 12 rfl rfl)
theorem dX1_mend_15 : decode cX1_mend 15 = .ok (.iload_n 2, 1) := dk_28 (dk_at dksX1_mend_0 15 rfl rfl)
theorem dX1_mend_16 : decode cX1_mend 16 = .ok (.invokevirtual 437, 3) := dk_182 1 181 (dk_at dksX1_mend_0 16 rfl rfl)
theorem dX1_mend_19 : decode cX1_mend 19 = .ok (.ifCond .eq 29, 3) := dk_153 0 29 (dk_at dksX1_mend_0 19 rfl rfl)
theorem dX1_mend_22 : decode cX1_mend 22 = .ok (.aload_n 0, 1) := dk_42 (dk_at dksX1_mend_0 22 rfl rfl)
theorem dX1_mend_23 : decode cX1_mend 23 = .ok (.getfield 10, 3) := dk_180 0 10 (dk_at dksX1_mend_1 0 rfl rfl)
theorem dX1_mend_26 : decode cX1_mend 26 = .ok (.getfield 129, 3) := dk_180 0 129 (dk_at dksX1_mend_1 3 rfl rfl)
theorem dX1_mend_29 : decode cX1_mend 29 = .ok (.iload_n 2, 1) := dk_28 (dk_at dksX1_mend_1 6 rfl rfl)
theorem dX1_mend_30 : decode cX1_mend 30 = .ok (.iaload, 1) := dk_46 (dk_at dksX1_mend_1 7 rfl rfl)
theorem dX1_mend_31 : decode cX1_mend 31 = .ok (.aload_n 0, 1) := dk_42 (dk_at dksX1_mend_1 8 rfl rfl)
theorem dX1_mend_32 : decode cX1_mend 32 = .ok (.getfield 10, 3) := dk_180 0 10 (dk_at dksX1_mend_1 9 rfl rfl)
theorem dX1_mend_35 : decode cX1_mend 35 = .ok (.getfield 160, 3) := dk_180 0 160 (dk_at dksX1_mend_1 12 rfl rfl)
theorem dX1_mend_38 : decode cX1_mend 38 = .ok (.invokestatic 374, 3) := dk_184 1 118 (dk_at dksX1_mend_1 15 rfl rfl)
theorem dX1_mend_41 : decode cX1_mend 41 = .ok (.ifCond .eq 7, 3) := dk_153 0 7 (dk_at dksX1_mend_1 18 rfl rfl)
theorem dX1_mend_44 : decode cX1_mend 44 = .ok (.iconst 1, 1) := dk_4 (dk_at dksX1_mend_1 21 rfl rfl)
theorem dX1_mend_45 : decode cX1_mend 45 = .ok (.goto 4, 3) := dk_167 0 4 (dk_at dksX1_mend_2 0 rfl rfl)
theorem dX1_mend_48 : decode cX1_mend 48 = .ok (.iconst 0, 1) := dk_3 (dk_at dksX1_mend_2 3 rfl rfl)
theorem dX1_mend_49 : decode cX1_mend 49 = .ok (.iadd, 1) := dk_96 (dk_at dksX1_mend_2 4 rfl rfl)
theorem dX1_mend_50 : decode cX1_mend 50 = .ok (.istore_n 1, 1) := dk_60 (dk_at dksX1_mend_2 5 rfl rfl)
theorem dX1_mend_51 : decode cX1_mend 51 = .ok (.iinc 2 1, 3) := dk_132 2 1 (dk_at dksX1_mend_2 6 rfl rfl)
theorem dX1_mend_54 : decode cX1_mend 54 = .ok (.goto (-50), 3) := dk_167 255 206 (dk_at dksX1_mend_2 9 rfl rfl)
theorem dX1_mend_57 : decode cX1_mend 57 = .ok (.iload_n 1, 1) := dk_27 (dk_at dksX1_mend_2 12 rfl rfl)
theorem dX1_mend_58 : decode cX1_mend 58 = .ok (.ireturn, 1) := dk_172 (dk_at dksX1_mend_2 13 rfl rfl)
abbrev cX1_shut : ByteArray := prog_1_method_70_code
def yX1_shut : MethodName := ⟨RX1, "shut", "()I"⟩
def dkwX1_shut_1 : List UInt8 := [28, 182, 1, 229, 153, 0, 7, 28, 167, 0, 4, 27, 60, 132, 2, 255, 167, 255, 224, 27, 172]
abbrev dktX1_shut_1 : List UInt8 := dkwX1_shut_1 ++ []
def dkwX1_shut_0 : List UInt8 := [17, 0, 255, 60, 17, 0, 254, 61, 28, 155, 0, 34, 28, 184, 1, 84, 27, 184, 1, 84, 163, 0, 15, 42]
abbrev dktX1_shut_0 : List UInt8 := dkwX1_shut_0 ++ dktX1_shut_1
theorem dksX1_shut_0 : cX1_shut.data.toList.drop 0 = dktX1_shut_0 := by decide +kernel
theorem dksX1_shut_1 : cX1_shut.data.toList.drop 24 = dktX1_shut_1 := dk_seg dksX1_shut_0 24 rfl rfl
theorem dX1_shut_0 : decode cX1_shut 0 = .ok (.sipush 255, 3) := dk_17 0 255 (dk_at dksX1_shut_0 0 rfl rfl)
theorem dX1_shut_3 : decode cX1_shut 3 = .ok (.istore_n 1, 1) := dk_60 (dk_at dksX1_shut_0 3 rfl rfl)
theorem dX1_shut_4 : decode cX1_shut 4 = .ok (.sipush 254, 3) := dk_17 0 254 (dk_at dksX1_shut_0 4 rfl rfl)
theorem dX1_shut_7 : decode cX1_shut 7 = .ok (.istore_n 2, 1) := dk_61 (dk_at dksX1_shut_0 7 rfl rfl)
theorem dX1_shut_8 : decode cX1_shut 8 = .ok (.iload_n 2, 1) := dk_28 (dk_at dksX1_shut_0 8 rfl rfl)
theorem dX1_shut_9 : decode cX1_shut 9 = .ok (.ifCond .lt 34, 3) := dk_155 0 34 (dk_at dksX1_shut_0 9 rfl rfl)
theorem dX1_shut_12 : decode cX1_shut 12 = .ok (.iload_n 2, 1) := dk_28 (dk_at dksX1_shut_0 12 rfl rfl)
theorem dX1_shut_13 : decode cX1_shut 13 = .ok (.invokestatic 340, 3) := dk_184 1 84 (dk_at dksX1_shut_0 13 rfl rfl)
theorem dX1_shut_16 : decode cX1_shut 16 = .ok (.iload_n 1, 1) := dk_27 (dk_at dksX1_shut_0 16 rfl rfl)
theorem dX1_shut_17 : decode cX1_shut 17 = .ok (.invokestatic 340, 3) := dk_184 1 84 (dk_at dksX1_shut_0 17 rfl rfl)
theorem dX1_shut_20 : decode cX1_shut 20 = .ok (.if_icmp .gt 15, 3) := dk_163 0 15 (dk_at dksX1_shut_0 20 rfl rfl)
theorem dX1_shut_23 : decode cX1_shut 23 = .ok (.aload_n 0, 1) := dk_42 (dk_at dksX1_shut_0 23 rfl rfl)
theorem dX1_shut_24 : decode cX1_shut 24 = .ok (.iload_n 2, 1) := dk_28 (dk_at dksX1_shut_1 0 rfl rfl)
theorem dX1_shut_25 : decode cX1_shut 25 = .ok (.invokevirtual 485, 3) := dk_182 1 229 (dk_at dksX1_shut_1 1 rfl rfl)
theorem dX1_shut_28 : decode cX1_shut 28 = .ok (.ifCond .eq 7, 3) := dk_153 0 7 (dk_at dksX1_shut_1 4 rfl rfl)
theorem dX1_shut_31 : decode cX1_shut 31 = .ok (.iload_n 2, 1) := dk_28 (dk_at dksX1_shut_1 7 rfl rfl)
theorem dX1_shut_32 : decode cX1_shut 32 = .ok (.goto 4, 3) := dk_167 0 4 (dk_at dksX1_shut_1 8 rfl rfl)
theorem dX1_shut_35 : decode cX1_shut 35 = .ok (.iload_n 1, 1) := dk_27 (dk_at dksX1_shut_1 11 rfl rfl)
theorem dX1_shut_36 : decode cX1_shut 36 = .ok (.istore_n 1, 1) := dk_60 (dk_at dksX1_shut_1 12 rfl rfl)
theorem dX1_shut_37 : decode cX1_shut 37 = .ok (.iinc 2 (-1), 3) := dk_132 2 255 (dk_at dksX1_shut_1 13 rfl rfl)
theorem dX1_shut_40 : decode cX1_shut 40 = .ok (.goto (-32), 3) := dk_167 255 224 (dk_at dksX1_shut_1 16 rfl rfl)
theorem dX1_shut_43 : decode cX1_shut 43 = .ok (.iload_n 1, 1) := dk_27 (dk_at dksX1_shut_1 19 rfl rfl)
theorem dX1_shut_44 : decode cX1_shut 44 = .ok (.ireturn, 1) := dk_172 (dk_at dksX1_shut_1 20 rfl rfl)
abbrev cX1_areShut : ByteArray := prog_1_method_69_code
def yX1_areShut : MethodName := ⟨RX1, "areShut", "(I)Z"⟩
def dkwX1_areShut_1 : List UInt8 := [46, 27, 2, 130, 126, 153, 0, 5, 3, 172, 132, 2, 1, 167, 255, 221, 4, 172]
abbrev dktX1_areShut_1 : List UInt8 := dkwX1_areShut_1 ++ []
def dkwX1_areShut_0 : List UInt8 := [3, 61, 28, 16, 8, 162, 0, 35, 27, 28, 184, 1, 118, 154, 0, 21, 42, 180, 0, 10, 180, 0, 129, 28]
abbrev dktX1_areShut_0 : List UInt8 := dkwX1_areShut_0 ++ dktX1_areShut_1
theorem dksX1_areShut_0 : cX1_areShut.data.toList.drop 0 = dktX1_areShut_0 := by decide +kernel
theorem dksX1_areShut_1 : cX1_areShut.data.toList.drop 24 = dktX1_areShut_1 := dk_seg dksX1_areShut_0 24 rfl rfl
theorem dX1_areShut_0 : decode cX1_areShut 0 = .ok (.iconst 0, 1) := dk_3 (dk_at dksX1_areShut_0 0 rfl rfl)
theorem dX1_areShut_1 : decode cX1_areShut 1 = .ok (.istore_n 2, 1) := dk_61 (dk_at dksX1_areShut_0 1 rfl rfl)
theorem dX1_areShut_2 : decode cX1_areShut 2 = .ok (.iload_n 2, 1) := dk_28 (dk_at dksX1_areShut_0 2 rfl rfl)
theorem dX1_areShut_3 : decode cX1_areShut 3 = .ok (.bipush 8, 2) := dk_16 8 (dk_at dksX1_areShut_0 3 rfl rfl)
theorem dX1_areShut_5 : decode cX1_areShut 5 = .ok (.if_icmp .ge 35, 3) := dk_162 0 35 (dk_at dksX1_areShut_0 5 rfl rfl)
theorem dX1_areShut_8 : decode cX1_areShut 8 = .ok (.iload_n 1, 1) := dk_27 (dk_at dksX1_areShut_0 8 rfl rfl)
theorem dX1_areShut_9 : decode cX1_areShut 9 = .ok (.iload_n 2, 1) := dk_28 (dk_at dksX1_areShut_0 9 rfl rfl)
theorem dX1_areShut_10 : decode cX1_areShut 10 = .ok (.invokestatic 374, 3) := dk_184 1 118 (dk_at dksX1_areShut_0 10 rfl rfl)
theorem dX1_areShut_13 : decode cX1_areShut 13 = .ok (.ifCond .ne 21, 3) := dk_154 0 21 (dk_at dksX1_areShut_0 13 rfl rfl)
theorem dX1_areShut_16 : decode cX1_areShut 16 = .ok (.aload_n 0, 1) := dk_42 (dk_at dksX1_areShut_0 16 rfl rfl)
theorem dX1_areShut_17 : decode cX1_areShut 17 = .ok (.getfield 10, 3) := dk_180 0 10 (dk_at dksX1_areShut_0 17 rfl rfl)
theorem dX1_areShut_20 : decode cX1_areShut 20 = .ok (.getfield 129, 3) := dk_180 0 129 (dk_at dksX1_areShut_0 20 rfl rfl)
theorem dX1_areShut_23 : decode cX1_areShut 23 = .ok (.iload_n 2, 1) := dk_28 (dk_at dksX1_areShut_0 23 rfl rfl)
theorem dX1_areShut_24 : decode cX1_areShut 24 = .ok (.iaload, 1) := dk_46 (dk_at dksX1_areShut_1 0 rfl rfl)
theorem dX1_areShut_25 : decode cX1_areShut 25 = .ok (.iload_n 1, 1) := dk_27 (dk_at dksX1_areShut_1 1 rfl rfl)
theorem dX1_areShut_26 : decode cX1_areShut 26 = .ok (.iconst (-1), 1) := dk_2 (dk_at dksX1_areShut_1 2 rfl rfl)
theorem dX1_areShut_27 : decode cX1_areShut 27 = .ok (.ixor, 1) := dk_130 (dk_at dksX1_areShut_1 3 rfl rfl)
theorem dX1_areShut_28 : decode cX1_areShut 28 = .ok (.iand, 1) := dk_126 (dk_at dksX1_areShut_1 4 rfl rfl)
theorem dX1_areShut_29 : decode cX1_areShut 29 = .ok (.ifCond .eq 5, 3) := dk_153 0 5 (dk_at dksX1_areShut_1 5 rfl rfl)
theorem dX1_areShut_32 : decode cX1_areShut 32 = .ok (.iconst 0, 1) := dk_3 (dk_at dksX1_areShut_1 8 rfl rfl)
theorem dX1_areShut_33 : decode cX1_areShut 33 = .ok (.ireturn, 1) := dk_172 (dk_at dksX1_areShut_1 9 rfl rfl)
theorem dX1_areShut_34 : decode cX1_areShut 34 = .ok (.iinc 2 1, 3) := dk_132 2 1 (dk_at dksX1_areShut_1 10 rfl rfl)
theorem dX1_areShut_37 : decode cX1_areShut 37 = .ok (.goto (-35), 3) := dk_167 255 221 (dk_at dksX1_areShut_1 13 rfl rfl)
theorem dX1_areShut_40 : decode cX1_areShut 40 = .ok (.iconst 1, 1) := dk_4 (dk_at dksX1_areShut_1 16 rfl rfl)
theorem dX1_areShut_41 : decode cX1_areShut 41 = .ok (.ireturn, 1) := dk_172 (dk_at dksX1_areShut_1 17 rfl rfl)
abbrev cX1_quiet : ByteArray := prog_1_method_71_code
def yX1_quiet : MethodName := ⟨RX1, "quiet", "()I"⟩
def dkwX1_quiet_1 : List UInt8 := [120, 167, 0, 4, 3, 128, 60, 132, 2, 1, 167, 255, 226, 27, 172]
abbrev dktX1_quiet_1 : List UInt8 := dkwX1_quiet_1 ++ []
def dkwX1_quiet_0 : List UInt8 := [3, 60, 3, 61, 28, 16, 8, 162, 0, 30, 27, 42, 180, 0, 10, 28, 182, 1, 115, 154, 0, 9, 4, 28]
abbrev dktX1_quiet_0 : List UInt8 := dkwX1_quiet_0 ++ dktX1_quiet_1
theorem dksX1_quiet_0 : cX1_quiet.data.toList.drop 0 = dktX1_quiet_0 := by decide +kernel
theorem dksX1_quiet_1 : cX1_quiet.data.toList.drop 24 = dktX1_quiet_1 := dk_seg dksX1_quiet_0 24 rfl rfl
theorem dX1_quiet_0 : decode cX1_quiet 0 = .ok (.iconst 0, 1) := dk_3 (dk_at dksX1_quiet_0 0 rfl rfl)
theorem dX1_quiet_1 : decode cX1_quiet 1 = .ok (.istore_n 1, 1) := dk_60 (dk_at dksX1_quiet_0 1 rfl rfl)
theorem dX1_quiet_2 : decode cX1_quiet 2 = .ok (.iconst 0, 1) := dk_3 (dk_at dksX1_quiet_0 2 rfl rfl)
theorem dX1_quiet_3 : decode cX1_quiet 3 = .ok (.istore_n 2, 1) := dk_61 (dk_at dksX1_quiet_0 3 rfl rfl)
theorem dX1_quiet_4 : decode cX1_quiet 4 = .ok (.iload_n 2, 1) := dk_28 (dk_at dksX1_quiet_0 4 rfl rfl)
theorem dX1_quiet_5 : decode cX1_quiet 5 = .ok (.bipush 8, 2) := dk_16 8 (dk_at dksX1_quiet_0 5 rfl rfl)
theorem dX1_quiet_7 : decode cX1_quiet 7 = .ok (.if_icmp .ge 30, 3) := dk_162 0 30 (dk_at dksX1_quiet_0 7 rfl rfl)
theorem dX1_quiet_10 : decode cX1_quiet 10 = .ok (.iload_n 1, 1) := dk_27 (dk_at dksX1_quiet_0 10 rfl rfl)
theorem dX1_quiet_11 : decode cX1_quiet 11 = .ok (.aload_n 0, 1) := dk_42 (dk_at dksX1_quiet_0 11 rfl rfl)
theorem dX1_quiet_12 : decode cX1_quiet 12 = .ok (.getfield 10, 3) := dk_180 0 10 (dk_at dksX1_quiet_0 12 rfl rfl)
theorem dX1_quiet_15 : decode cX1_quiet 15 = .ok (.iload_n 2, 1) := dk_28 (dk_at dksX1_quiet_0 15 rfl rfl)
theorem dX1_quiet_16 : decode cX1_quiet 16 = .ok (.invokevirtual 371, 3) := dk_182 1 115 (dk_at dksX1_quiet_0 16 rfl rfl)
theorem dX1_quiet_19 : decode cX1_quiet 19 = .ok (.ifCond .ne 9, 3) := dk_154 0 9 (dk_at dksX1_quiet_0 19 rfl rfl)
theorem dX1_quiet_22 : decode cX1_quiet 22 = .ok (.iconst 1, 1) := dk_4 (dk_at dksX1_quiet_0 22 rfl rfl)
theorem dX1_quiet_23 : decode cX1_quiet 23 = .ok (.iload_n 2, 1) := dk_28 (dk_at dksX1_quiet_0 23 rfl rfl)
theorem dX1_quiet_24 : decode cX1_quiet 24 = .ok (.ishl, 1) := dk_120 (dk_at dksX1_quiet_1 0 rfl rfl)
theorem dX1_quiet_25 : decode cX1_quiet 25 = .ok (.goto 4, 3) := dk_167 0 4 (dk_at dksX1_quiet_1 1 rfl rfl)
theorem dX1_quiet_28 : decode cX1_quiet 28 = .ok (.iconst 0, 1) := dk_3 (dk_at dksX1_quiet_1 4 rfl rfl)
theorem dX1_quiet_29 : decode cX1_quiet 29 = .ok (.ior, 1) := dk_128 (dk_at dksX1_quiet_1 5 rfl rfl)
theorem dX1_quiet_30 : decode cX1_quiet 30 = .ok (.istore_n 1, 1) := dk_60 (dk_at dksX1_quiet_1 6 rfl rfl)
theorem dX1_quiet_31 : decode cX1_quiet 31 = .ok (.iinc 2 1, 3) := dk_132 2 1 (dk_at dksX1_quiet_1 7 rfl rfl)
theorem dX1_quiet_34 : decode cX1_quiet 34 = .ok (.goto (-30), 3) := dk_167 255 226 (dk_at dksX1_quiet_1 10 rfl rfl)
theorem dX1_quiet_37 : decode cX1_quiet 37 = .ok (.iload_n 1, 1) := dk_27 (dk_at dksX1_quiet_1 13 rfl rfl)
theorem dX1_quiet_38 : decode cX1_quiet 38 = .ok (.ireturn, 1) := dk_172 (dk_at dksX1_quiet_1 14 rfl rfl)
abbrev cX1_best : ByteArray := prog_1_method_74_code
def yX1_best : MethodName := ⟨RX1, "best", "()I"⟩
def dkwX1_best_1 : List UInt8 := [167, 0, 4, 27, 60, 132, 2, 1, 167, 255, 228, 27, 172]
abbrev dktX1_best_1 : List UInt8 := dkwX1_best_1 ++ []
def dkwX1_best_0 : List UInt8 := [3, 60, 4, 61, 28, 16, 8, 162, 0, 28, 42, 28, 182, 1, 235, 42, 27, 182, 1, 235, 162, 0, 7, 28]
abbrev dktX1_best_0 : List UInt8 := dkwX1_best_0 ++ dktX1_best_1
theorem dksX1_best_0 : cX1_best.data.toList.drop 0 = dktX1_best_0 := by decide +kernel
theorem dksX1_best_1 : cX1_best.data.toList.drop 24 = dktX1_best_1 := dk_seg dksX1_best_0 24 rfl rfl
theorem dX1_best_0 : decode cX1_best 0 = .ok (.iconst 0, 1) := dk_3 (dk_at dksX1_best_0 0 rfl rfl)
theorem dX1_best_1 : decode cX1_best 1 = .ok (.istore_n 1, 1) := dk_60 (dk_at dksX1_best_0 1 rfl rfl)
theorem dX1_best_2 : decode cX1_best 2 = .ok (.iconst 1, 1) := dk_4 (dk_at dksX1_best_0 2 rfl rfl)
theorem dX1_best_3 : decode cX1_best 3 = .ok (.istore_n 2, 1) := dk_61 (dk_at dksX1_best_0 3 rfl rfl)
theorem dX1_best_4 : decode cX1_best 4 = .ok (.iload_n 2, 1) := dk_28 (dk_at dksX1_best_0 4 rfl rfl)
theorem dX1_best_5 : decode cX1_best 5 = .ok (.bipush 8, 2) := dk_16 8 (dk_at dksX1_best_0 5 rfl rfl)
theorem dX1_best_7 : decode cX1_best 7 = .ok (.if_icmp .ge 28, 3) := dk_162 0 28 (dk_at dksX1_best_0 7 rfl rfl)
theorem dX1_best_10 : decode cX1_best 10 = .ok (.aload_n 0, 1) := dk_42 (dk_at dksX1_best_0 10 rfl rfl)
theorem dX1_best_11 : decode cX1_best 11 = .ok (.iload_n 2, 1) := dk_28 (dk_at dksX1_best_0 11 rfl rfl)
theorem dX1_best_12 : decode cX1_best 12 = .ok (.invokevirtual 491, 3) := dk_182 1 235 (dk_at dksX1_best_0 12 rfl rfl)
theorem dX1_best_15 : decode cX1_best 15 = .ok (.aload_n 0, 1) := dk_42 (dk_at dksX1_best_0 15 rfl rfl)
theorem dX1_best_16 : decode cX1_best 16 = .ok (.iload_n 1, 1) := dk_27 (dk_at dksX1_best_0 16 rfl rfl)
theorem dX1_best_17 : decode cX1_best 17 = .ok (.invokevirtual 491, 3) := dk_182 1 235 (dk_at dksX1_best_0 17 rfl rfl)
theorem dX1_best_20 : decode cX1_best 20 = .ok (.if_icmp .ge 7, 3) := dk_162 0 7 (dk_at dksX1_best_0 20 rfl rfl)
theorem dX1_best_23 : decode cX1_best 23 = .ok (.iload_n 2, 1) := dk_28 (dk_at dksX1_best_0 23 rfl rfl)
theorem dX1_best_24 : decode cX1_best 24 = .ok (.goto 4, 3) := dk_167 0 4 (dk_at dksX1_best_1 0 rfl rfl)
theorem dX1_best_27 : decode cX1_best 27 = .ok (.iload_n 1, 1) := dk_27 (dk_at dksX1_best_1 3 rfl rfl)
theorem dX1_best_28 : decode cX1_best 28 = .ok (.istore_n 1, 1) := dk_60 (dk_at dksX1_best_1 4 rfl rfl)
theorem dX1_best_29 : decode cX1_best 29 = .ok (.iinc 2 1, 3) := dk_132 2 1 (dk_at dksX1_best_1 5 rfl rfl)
theorem dX1_best_32 : decode cX1_best 32 = .ok (.goto (-28), 3) := dk_167 255 228 (dk_at dksX1_best_1 8 rfl rfl)
theorem dX1_best_35 : decode cX1_best 35 = .ok (.iload_n 1, 1) := dk_27 (dk_at dksX1_best_1 11 rfl rfl)
theorem dX1_best_36 : decode cX1_best 36 = .ok (.ireturn, 1) := dk_172 (dk_at dksX1_best_1 12 rfl rfl)
abbrev cX1_weightOf : ByteArray := prog_1_method_73_code
def yX1_weightOf : MethodName := ⟨RX1, "weightOf", "(I)I"⟩
def dkwX1_weightOf_0 : List UInt8 := [42, 180, 0, 10, 27, 182, 1, 115, 61, 17, 3, 231, 28, 184, 1, 84, 104, 42, 28, 182, 1, 232, 96, 172]
abbrev dktX1_weightOf_0 : List UInt8 := dkwX1_weightOf_0 ++ []
theorem dksX1_weightOf_0 : cX1_weightOf.data.toList.drop 0 = dktX1_weightOf_0 := by decide +kernel
theorem dX1_weightOf_0 : decode cX1_weightOf 0 = .ok (.aload_n 0, 1) := dk_42 (dk_at dksX1_weightOf_0 0 rfl rfl)
theorem dX1_weightOf_1 : decode cX1_weightOf 1 = .ok (.getfield 10, 3) := dk_180 0 10 (dk_at dksX1_weightOf_0 1 rfl rfl)
theorem dX1_weightOf_4 : decode cX1_weightOf 4 = .ok (.iload_n 1, 1) := dk_27 (dk_at dksX1_weightOf_0 4 rfl rfl)
theorem dX1_weightOf_5 : decode cX1_weightOf 5 = .ok (.invokevirtual 371, 3) := dk_182 1 115 (dk_at dksX1_weightOf_0 5 rfl rfl)
theorem dX1_weightOf_8 : decode cX1_weightOf 8 = .ok (.istore_n 2, 1) := dk_61 (dk_at dksX1_weightOf_0 8 rfl rfl)
theorem dX1_weightOf_9 : decode cX1_weightOf 9 = .ok (.sipush 999, 3) := dk_17 3 231 (dk_at dksX1_weightOf_0 9 rfl rfl)
theorem dX1_weightOf_12 : decode cX1_weightOf 12 = .ok (.iload_n 2, 1) := dk_28 (dk_at dksX1_weightOf_0 12 rfl rfl)
theorem dX1_weightOf_13 : decode cX1_weightOf 13 = .ok (.invokestatic 340, 3) := dk_184 1 84 (dk_at dksX1_weightOf_0 13 rfl rfl)
theorem dX1_weightOf_16 : decode cX1_weightOf 16 = .ok (.imul, 1) := dk_104 (dk_at dksX1_weightOf_0 16 rfl rfl)
theorem dX1_weightOf_17 : decode cX1_weightOf 17 = .ok (.aload_n 0, 1) := dk_42 (dk_at dksX1_weightOf_0 17 rfl rfl)
theorem dX1_weightOf_18 : decode cX1_weightOf 18 = .ok (.iload_n 2, 1) := dk_28 (dk_at dksX1_weightOf_0 18 rfl rfl)
theorem dX1_weightOf_19 : decode cX1_weightOf 19 = .ok (.invokevirtual 488, 3) := dk_182 1 232 (dk_at dksX1_weightOf_0 19 rfl rfl)
theorem dX1_weightOf_22 : decode cX1_weightOf 22 = .ok (.iadd, 1) := dk_96 (dk_at dksX1_weightOf_0 22 rfl rfl)
theorem dX1_weightOf_23 : decode cX1_weightOf 23 = .ok (.ireturn, 1) := dk_172 (dk_at dksX1_weightOf_0 23 rfl rfl)
abbrev cX1_riskOf : ByteArray := prog_1_method_72_code
def yX1_riskOf : MethodName := ⟨RX1, "riskOf", "(I)I"⟩
def dkwX1_riskOf_1 : List UInt8 := [42, 180, 0, 10, 29, 182, 1, 124, 167, 0, 4, 3, 96, 61, 132, 3, 1, 167, 255, 219, 28, 172]
abbrev dktX1_riskOf_1 : List UInt8 := dkwX1_riskOf_1 ++ []
def dkwX1_riskOf_0 : List UInt8 := [3, 61, 3, 62, 29, 42, 180, 0, 10, 180, 0, 92, 162, 0, 32, 28, 27, 29, 184, 1, 118, 153, 0, 14]
abbrev dktX1_riskOf_0 : List UInt8 := dkwX1_riskOf_0 ++ dktX1_riskOf_1
theorem dksX1_riskOf_0 : cX1_riskOf.data.toList.drop 0 = dktX1_riskOf_0 := by decide +kernel
theorem dksX1_riskOf_1 : cX1_riskOf.data.toList.drop 24 = dktX1_riskOf_1 := dk_seg dksX1_riskOf_0 24 rfl rfl
theorem dX1_riskOf_0 : decode cX1_riskOf 0 = .ok (.iconst 0, 1) := dk_3 (dk_at dksX1_riskOf_0 0 rfl rfl)
theorem dX1_riskOf_1 : decode cX1_riskOf 1 = .ok (.istore_n 2, 1) := dk_61 (dk_at dksX1_riskOf_0 1 rfl rfl)
theorem dX1_riskOf_2 : decode cX1_riskOf 2 = .ok (.iconst 0, 1) := dk_3 (dk_at dksX1_riskOf_0 2 rfl rfl)
theorem dX1_riskOf_3 : decode cX1_riskOf 3 = .ok (.istore_n 3, 1) := dk_62 (dk_at dksX1_riskOf_0 3 rfl rfl)
theorem dX1_riskOf_4 : decode cX1_riskOf 4 = .ok (.iload_n 3, 1) := dk_29 (dk_at dksX1_riskOf_0 4 rfl rfl)
theorem dX1_riskOf_5 : decode cX1_riskOf 5 = .ok (.aload_n 0, 1) := dk_42 (dk_at dksX1_riskOf_0 5 rfl rfl)
theorem dX1_riskOf_6 : decode cX1_riskOf 6 = .ok (.getfield 10, 3) := dk_180 0 10 (dk_at dksX1_riskOf_0 6 rfl rfl)
theorem dX1_riskOf_9 : decode cX1_riskOf 9 = .ok (.getfield 92, 3) := dk_180 0 92 (dk_at dksX1_riskOf_0 9 rfl rfl)
theorem dX1_riskOf_12 : decode cX1_riskOf 12 = .ok (.if_icmp .ge 32, 3) := dk_162 0 32 (dk_at dksX1_riskOf_0 12 rfl rfl)
theorem dX1_riskOf_15 : decode cX1_riskOf 15 = .ok (.iload_n 2, 1) := dk_28 (dk_at dksX1_riskOf_0 15 rfl rfl)
theorem dX1_riskOf_16 : decode cX1_riskOf 16 = .ok (.iload_n 1, 1) := dk_27 (dk_at dksX1_riskOf_0 16 rfl rfl)
theorem dX1_riskOf_17 : decode cX1_riskOf 17 = .ok (.iload_n 3, 1) := dk_29 (dk_at dksX1_riskOf_0 17 rfl rfl)
theorem dX1_riskOf_18 : decode cX1_riskOf 18 = .ok (.invokestatic 374, 3) := dk_184 1 118 (dk_at dksX1_riskOf_0 18 rfl rfl)
theorem dX1_riskOf_21 : decode cX1_riskOf 21 = .ok (.ifCond .eq 14, 3) := dk_153 0 14 (dk_at dksX1_riskOf_0 21 rfl rfl)
theorem dX1_riskOf_24 : decode cX1_riskOf 24 = .ok (.aload_n 0, 1) := dk_42 (dk_at dksX1_riskOf_1 0 rfl rfl)
theorem dX1_riskOf_25 : decode cX1_riskOf 25 = .ok (.getfield 10, 3) := dk_180 0 10 (dk_at dksX1_riskOf_1 1 rfl rfl)
theorem dX1_riskOf_28 : decode cX1_riskOf 28 = .ok (.iload_n 3, 1) := dk_29 (dk_at dksX1_riskOf_1 4 rfl rfl)
theorem dX1_riskOf_29 : decode cX1_riskOf 29 = .ok (.invokevirtual 380, 3) := dk_182 1 124 (dk_at dksX1_riskOf_1 5 rfl rfl)
theorem dX1_riskOf_32 : decode cX1_riskOf 32 = .ok (.goto 4, 3) := dk_167 0 4 (dk_at dksX1_riskOf_1 8 rfl rfl)
theorem dX1_riskOf_35 : decode cX1_riskOf 35 = .ok (.iconst 0, 1) := dk_3 (dk_at dksX1_riskOf_1 11 rfl rfl)
theorem dX1_riskOf_36 : decode cX1_riskOf 36 = .ok (.iadd, 1) := dk_96 (dk_at dksX1_riskOf_1 12 rfl rfl)
theorem dX1_riskOf_37 : decode cX1_riskOf 37 = .ok (.istore_n 2, 1) := dk_61 (dk_at dksX1_riskOf_1 13 rfl rfl)
theorem dX1_riskOf_38 : decode cX1_riskOf 38 = .ok (.iinc 3 1, 3) := dk_132 3 1 (dk_at dksX1_riskOf_1 14 rfl rfl)
theorem dX1_riskOf_41 : decode cX1_riskOf 41 = .ok (.goto (-37), 3) := dk_167 255 219 (dk_at dksX1_riskOf_1 17 rfl rfl)
theorem dX1_riskOf_44 : decode cX1_riskOf 44 = .ok (.iload_n 2, 1) := dk_28 (dk_at dksX1_riskOf_1 20 rfl rfl)
theorem dX1_riskOf_45 : decode cX1_riskOf 45 = .ok (.ireturn, 1) := dk_172 (dk_at dksX1_riskOf_1 21 rfl rfl)
abbrev cX1_locked : ByteArray := prog_1_method_75_code
def yX1_locked : MethodName := ⟨RX1, "locked", "()I"⟩
def dkwX1_locked_3 : List UInt8 := [184, 1, 118, 154, 0, 9, 4, 28, 120, 167, 0, 4, 3, 128, 60, 132, 2, 1, 167, 255, 172, 27, 172]
abbrev dktX1_locked_3 : List UInt8 := dkwX1_locked_3 ++ []
def dkwX1_locked_2 : List UInt8 := [180, 0, 10, 42, 180, 0, 10, 180, 0, 104, 28, 46, 3, 182, 1, 168, 42, 180, 0, 10, 180, 0, 160]
abbrev dktX1_locked_2 : List UInt8 := dkwX1_locked_2 ++ dktX1_locked_3
def dkwX1_locked_1 : List UInt8 := [51, 153, 0, 57, 42, 180, 0, 10, 28, 42, 180, 0, 10, 180, 0, 160, 182, 1, 238, 153, 0, 39, 42]
abbrev dktX1_locked_1 : List UInt8 := dkwX1_locked_1 ++ dktX1_locked_2
def dkwX1_locked_0 : List UInt8 := [3, 60, 3, 61, 28, 42, 180, 0, 10, 180, 0, 92, 162, 0, 79, 27, 42, 180, 0, 10, 180, 0, 122, 28]
abbrev dktX1_locked_0 : List UInt8 := dkwX1_locked_0 ++ dktX1_locked_1
theorem dksX1_locked_0 : cX1_locked.data.toList.drop 0 = dktX1_locked_0 := by decide +kernel
theorem dksX1_locked_1 : cX1_locked.data.toList.drop 24 = dktX1_locked_1 := dk_seg dksX1_locked_0 24 rfl rfl
theorem dksX1_locked_2 : cX1_locked.data.toList.drop 47 = dktX1_locked_2 := dk_seg dksX1_locked_1 23 rfl rfl
theorem dksX1_locked_3 : cX1_locked.data.toList.drop 70 = dktX1_locked_3 := dk_seg dksX1_locked_2 23 rfl rfl
theorem dX1_locked_0 : decode cX1_locked 0 = .ok (.iconst 0, 1) := dk_3 (dk_at dksX1_locked_0 0 rfl rfl)
theorem dX1_locked_1 : decode cX1_locked 1 = .ok (.istore_n 1, 1) := dk_60 (dk_at dksX1_locked_0 1 rfl rfl)
theorem dX1_locked_2 : decode cX1_locked 2 = .ok (.iconst 0, 1) := dk_3 (dk_at dksX1_locked_0 2 rfl rfl)
theorem dX1_locked_3 : decode cX1_locked 3 = .ok (.istore_n 2, 1) := dk_61 (dk_at dksX1_locked_0 3 rfl rfl)
theorem dX1_locked_4 : decode cX1_locked 4 = .ok (.iload_n 2, 1) := dk_28 (dk_at dksX1_locked_0 4 rfl rfl)
theorem dX1_locked_5 : decode cX1_locked 5 = .ok (.aload_n 0, 1) := dk_42 (dk_at dksX1_locked_0 5 rfl rfl)
theorem dX1_locked_6 : decode cX1_locked 6 = .ok (.getfield 10, 3) := dk_180 0 10 (dk_at dksX1_locked_0 6 rfl rfl)
theorem dX1_locked_9 : decode cX1_locked 9 = .ok (.getfield 92, 3) := dk_180 0 92 (dk_at dksX1_locked_0 9 rfl rfl)
theorem dX1_locked_12 : decode cX1_locked 12 = .ok (.if_icmp .ge 79, 3) := dk_162 0 79 (dk_at dksX1_locked_0 12 rfl rfl)
theorem dX1_locked_15 : decode cX1_locked 15 = .ok (.iload_n 1, 1) := dk_27 (dk_at dksX1_locked_0 15 rfl rfl)
theorem dX1_locked_16 : decode cX1_locked 16 = .ok (.aload_n 0, 1) := dk_42 (dk_at dksX1_locked_0 16 rfl rfl)
theorem dX1_locked_17 : decode cX1_locked 17 = .ok (.getfield 10, 3) := dk_180 0 10 (dk_at dksX1_locked_0 17 rfl rfl)
theorem dX1_locked_20 : decode cX1_locked 20 = .ok (.getfield 122, 3) := dk_180 0 122 (dk_at dksX1_locked_0 20 rfl rfl)
theorem dX1_locked_23 : decode cX1_locked 23 = .ok (.iload_n 2, 1) := dk_28 (dk_at dksX1_locked_0 23 rfl rfl)
theorem dX1_locked_24 : decode cX1_locked 24 = .ok (.baload, 1) := dk_51 (dk_at dksX1_locked_1 0 rfl rfl)
theorem dX1_locked_25 : decode cX1_locked 25 = .ok (.ifCond .eq 57, 3) := dk_153 0 57 (dk_at dksX1_locked_1 1 rfl rfl)
theorem dX1_locked_28 : decode cX1_locked 28 = .ok (.aload_n 0, 1) := dk_42 (dk_at dksX1_locked_1 4 rfl rfl)
theorem dX1_locked_29 : decode cX1_locked 29 = .ok (.getfield 10, 3) := dk_180 0 10 (dk_at dksX1_locked_1 5 rfl rfl)
theorem dX1_locked_32 : decode cX1_locked 32 = .ok (.iload_n 2, 1) := dk_28 (dk_at dksX1_locked_1 8 rfl rfl)
theorem dX1_locked_33 : decode cX1_locked 33 = .ok (.aload_n 0, 1) := dk_42 (dk_at dksX1_locked_1 9 rfl rfl)
theorem dX1_locked_34 : decode cX1_locked 34 = .ok (.getfield 10, 3) := dk_180 0 10 (dk_at dksX1_locked_1 10 rfl rfl)
theorem dX1_locked_37 : decode cX1_locked 37 = .ok (.getfield 160, 3) := dk_180 0 160 (dk_at dksX1_locked_1 13 rfl rfl)
theorem dX1_locked_40 : decode cX1_locked 40 = .ok (.invokevirtual 494, 3) := dk_182 1 238 (dk_at dksX1_locked_1 16 rfl rfl)
theorem dX1_locked_43 : decode cX1_locked 43 = .ok (.ifCond .eq 39, 3) := dk_153 0 39 (dk_at dksX1_locked_1 19 rfl rfl)
theorem dX1_locked_46 : decode cX1_locked 46 = .ok (.aload_n 0, 1) := dk_42 (dk_at dksX1_locked_1 22 rfl rfl)
theorem dX1_locked_47 : decode cX1_locked 47 = .ok (.getfield 10, 3) := dk_180 0 10 (dk_at dksX1_locked_2 0 rfl rfl)
theorem dX1_locked_50 : decode cX1_locked 50 = .ok (.aload_n 0, 1) := dk_42 (dk_at dksX1_locked_2 3 rfl rfl)
theorem dX1_locked_51 : decode cX1_locked 51 = .ok (.getfield 10, 3) := dk_180 0 10 (dk_at dksX1_locked_2 4 rfl rfl)
theorem dX1_locked_54 : decode cX1_locked 54 = .ok (.getfield 104, 3) := dk_180 0 104 (dk_at dksX1_locked_2 7 rfl rfl)
theorem dX1_locked_57 : decode cX1_locked 57 = .ok (.iload_n 2, 1) := dk_28 (dk_at dksX1_locked_2 10 rfl rfl)
theorem dX1_locked_58 : decode cX1_locked 58 = .ok (.iaload, 1) := dk_46 (dk_at dksX1_locked_2 11 rfl rfl)
theorem dX1_locked_59 : decode cX1_locked 59 = .ok (.iconst 0, 1) := dk_3 (dk_at dksX1_locked_2 12 rfl rfl)
theorem dX1_locked_60 : decode cX1_locked 60 = .ok (.invokevirtual 424, 3) := dk_182 1 168 (dk_at dksX1_locked_2 13 rfl rfl)
theorem dX1_locked_63 : decode cX1_locked 63 = .ok (.aload_n 0, 1) := dk_42 (dk_at dksX1_locked_2 16 rfl rfl)
theorem dX1_locked_64 : decode cX1_locked 64 = .ok (.getfield 10, 3) := dk_180 0 10 (dk_at dksX1_locked_2 17 rfl rfl)
theorem dX1_locked_67 : decode cX1_locked 67 = .ok (.getfield 160, 3) := dk_180 0 160 (dk_at dksX1_locked_2 20 rfl rfl)
theorem dX1_locked_70 : decode cX1_locked 70 = .ok (.invokestatic 374, 3) := dk_184 1 118 (dk_at dksX1_locked_3 0 rfl rfl)
theorem dX1_locked_73 : decode cX1_locked 73 = .ok (.ifCond .ne 9, 3) := dk_154 0 9 (dk_at dksX1_locked_3 3 rfl rfl)
theorem dX1_locked_76 : decode cX1_locked 76 = .ok (.iconst 1, 1) := dk_4 (dk_at dksX1_locked_3 6 rfl rfl)
theorem dX1_locked_77 : decode cX1_locked 77 = .ok (.iload_n 2, 1) := dk_28 (dk_at dksX1_locked_3 7 rfl rfl)
theorem dX1_locked_78 : decode cX1_locked 78 = .ok (.ishl, 1) := dk_120 (dk_at dksX1_locked_3 8 rfl rfl)
theorem dX1_locked_79 : decode cX1_locked 79 = .ok (.goto 4, 3) := dk_167 0 4 (dk_at dksX1_locked_3 9 rfl rfl)
theorem dX1_locked_82 : decode cX1_locked 82 = .ok (.iconst 0, 1) := dk_3 (dk_at dksX1_locked_3 12 rfl rfl)
theorem dX1_locked_83 : decode cX1_locked 83 = .ok (.ior, 1) := dk_128 (dk_at dksX1_locked_3 13 rfl rfl)
theorem dX1_locked_84 : decode cX1_locked 84 = .ok (.istore_n 1, 1) := dk_60 (dk_at dksX1_locked_3 14 rfl rfl)
theorem dX1_locked_85 : decode cX1_locked 85 = .ok (.iinc 2 1, 3) := dk_132 2 1 (dk_at dksX1_locked_3 15 rfl rfl)
theorem dX1_locked_88 : decode cX1_locked 88 = .ok (.goto (-84), 3) := dk_167 255 172 (dk_at dksX1_locked_3 18 rfl rfl)
theorem dX1_locked_91 : decode cX1_locked 91 = .ok (.iload_n 1, 1) := dk_27 (dk_at dksX1_locked_3 21 rfl rfl)
theorem dX1_locked_92 : decode cX1_locked 92 = .ok (.ireturn, 1) := dk_172 (dk_at dksX1_locked_3 22 rfl rfl)
abbrev cX1_mutual : ByteArray := prog_1_method_76_code
def yX1_mutual : MethodName := ⟨RX1, "mutual", "()I"⟩
def dkwX1_mutual_4 : List UInt8 := [153, 0, 7, 4, 167, 0, 4, 3, 96, 60, 132, 3, 1, 167, 255, 170, 132, 2, 1, 167, 255, 149, 27, 172]
abbrev dktX1_mutual_4 : List UInt8 := dkwX1_mutual_4 ++ []
def dkwX1_mutual_3 : List UInt8 := [182, 1, 238, 153, 0, 27, 42, 180, 0, 10, 29, 42, 180, 0, 10, 180, 0, 104, 28, 46, 182, 1, 238]
abbrev dktX1_mutual_3 : List UInt8 := dkwX1_mutual_3 ++ dktX1_mutual_4
def dkwX1_mutual_2 : List UInt8 := [180, 0, 122, 29, 51, 153, 0, 47, 42, 180, 0, 10, 28, 42, 180, 0, 10, 180, 0, 104, 29, 46]
abbrev dktX1_mutual_2 : List UInt8 := dkwX1_mutual_2 ++ dktX1_mutual_3
def dkwX1_mutual_1 : List UInt8 := [180, 0, 92, 162, 0, 81, 27, 42, 180, 0, 10, 180, 0, 122, 28, 51, 153, 0, 59, 42, 180, 0, 10]
abbrev dktX1_mutual_1 : List UInt8 := dkwX1_mutual_1 ++ dktX1_mutual_2
def dkwX1_mutual_0 : List UInt8 := [3, 60, 3, 61, 28, 42, 180, 0, 10, 180, 0, 92, 162, 0, 102, 28, 4, 96, 62, 29, 42, 180, 0, 10]
abbrev dktX1_mutual_0 : List UInt8 := dkwX1_mutual_0 ++ dktX1_mutual_1
theorem dksX1_mutual_0 : cX1_mutual.data.toList.drop 0 = dktX1_mutual_0 := by decide +kernel
theorem dksX1_mutual_1 : cX1_mutual.data.toList.drop 24 = dktX1_mutual_1 := dk_seg dksX1_mutual_0 24 rfl rfl
theorem dksX1_mutual_2 : cX1_mutual.data.toList.drop 47 = dktX1_mutual_2 := dk_seg dksX1_mutual_1 23 rfl rfl
theorem dksX1_mutual_3 : cX1_mutual.data.toList.drop 69 = dktX1_mutual_3 := dk_seg dksX1_mutual_2 22 rfl rfl
theorem dksX1_mutual_4 : cX1_mutual.data.toList.drop 92 = dktX1_mutual_4 := dk_seg dksX1_mutual_3 23 rfl rfl
theorem dX1_mutual_0 : decode cX1_mutual 0 = .ok (.iconst 0, 1) := dk_3 (dk_at dksX1_mutual_0 0 rfl rfl)
theorem dX1_mutual_1 : decode cX1_mutual 1 = .ok (.istore_n 1, 1) := dk_60 (dk_at dksX1_mutual_0 1 rfl rfl)
theorem dX1_mutual_2 : decode cX1_mutual 2 = .ok (.iconst 0, 1) := dk_3 (dk_at dksX1_mutual_0 2 rfl rfl)
theorem dX1_mutual_3 : decode cX1_mutual 3 = .ok (.istore_n 2, 1) := dk_61 (dk_at dksX1_mutual_0 3 rfl rfl)
theorem dX1_mutual_4 : decode cX1_mutual 4 = .ok (.iload_n 2, 1) := dk_28 (dk_at dksX1_mutual_0 4 rfl rfl)
theorem dX1_mutual_5 : decode cX1_mutual 5 = .ok (.aload_n 0, 1) := dk_42 (dk_at dksX1_mutual_0 5 rfl rfl)
theorem dX1_mutual_6 : decode cX1_mutual 6 = .ok (.getfield 10, 3) := dk_180 0 10 (dk_at dksX1_mutual_0 6 rfl rfl)
theorem dX1_mutual_9 : decode cX1_mutual 9 = .ok (.getfield 92, 3) := dk_180 0 92 (dk_at dksX1_mutual_0 9 rfl rfl)
theorem dX1_mutual_12 : decode cX1_mutual 12 = .ok (.if_icmp .ge 102, 3) := dk_162 0 102 (dk_at dksX1_mutual_0 12 rfl rfl)
theorem dX1_mutual_15 : decode cX1_mutual 15 = .ok (.iload_n 2, 1) := dk_28 (dk_at dksX1_mutual_0 15 rfl rfl)
theorem dX1_mutual_16 : decode cX1_mutual 16 = .ok (.iconst 1, 1) := dk_4 (dk_at dksX1_mutual_0 16 rfl rfl)
theorem dX1_mutual_17 : decode cX1_mutual 17 = .ok (.iadd, 1) := dk_96 (dk_at dksX1_mutual_0 17 rfl rfl)
theorem dX1_mutual_18 : decode cX1_mutual 18 = .ok (.istore_n 3, 1) := dk_62 (dk_at dksX1_mutual_0 18 rfl rfl)
theorem dX1_mutual_19 : decode cX1_mutual 19 = .ok (.iload_n 3, 1) := dk_29 (dk_at dksX1_mutual_0 19 rfl rfl)
theorem dX1_mutual_20 : decode cX1_mutual 20 = .ok (.aload_n 0, 1) := dk_42 (dk_at dksX1_mutual_0 20 rfl rfl)
theorem dX1_mutual_21 : decode cX1_mutual 21 = .ok (.getfield 10, 3) := dk_180 0 10 (dk_at dksX1_mutual_0 21 rfl rfl)
theorem dX1_mutual_24 : decode cX1_mutual 24 = .ok (.getfield 92, 3) := dk_180 0 92 (dk_at dksX1_mutual_1 0 rfl rfl)
theorem dX1_mutual_27 : decode cX1_mutual 27 = .ok (.if_icmp .ge 81, 3) := dk_162 0 81 (dk_at dksX1_mutual_1 3 rfl rfl)
theorem dX1_mutual_30 : decode cX1_mutual 30 = .ok (.iload_n 1, 1) := dk_27 (dk_at dksX1_mutual_1 6 rfl rfl)
theorem dX1_mutual_31 : decode cX1_mutual 31 = .ok (.aload_n 0, 1) := dk_42 (dk_at dksX1_mutual_1 7 rfl rfl)
theorem dX1_mutual_32 : decode cX1_mutual 32 = .ok (.getfield 10, 3) := dk_180 0 10 (dk_at dksX1_mutual_1 8 rfl rfl)
theorem dX1_mutual_35 : decode cX1_mutual 35 = .ok (.getfield 122, 3) := dk_180 0 122 (dk_at dksX1_mutual_1 11 rfl rfl)
theorem dX1_mutual_38 : decode cX1_mutual 38 = .ok (.iload_n 2, 1) := dk_28 (dk_at dksX1_mutual_1 14 rfl rfl)
theorem dX1_mutual_39 : decode cX1_mutual 39 = .ok (.baload, 1) := dk_51 (dk_at dksX1_mutual_1 15 rfl rfl)
theorem dX1_mutual_40 : decode cX1_mutual 40 = .ok (.ifCond .eq 59, 3) := dk_153 0 59 (dk_at dksX1_mutual_1 16 rfl rfl)
theorem dX1_mutual_43 : decode cX1_mutual 43 = .ok (.aload_n 0, 1) := dk_42 (dk_at dksX1_mutual_1 19 rfl rfl)
theorem dX1_mutual_44 : decode cX1_mutual 44 = .ok (.getfield 10, 3) := dk_180 0 10 (dk_at dksX1_mutual_1 20 rfl rfl)
theorem dX1_mutual_47 : decode cX1_mutual 47 = .ok (.getfield 122, 3) := dk_180 0 122 (dk_at dksX1_mutual_2 0 rfl rfl)
theorem dX1_mutual_50 : decode cX1_mutual 50 = .ok (.iload_n 3, 1) := dk_29 (dk_at dksX1_mutual_2 3 rfl rfl)
theorem dX1_mutual_51 : decode cX1_mutual 51 = .ok (.baload, 1) := dk_51 (dk_at dksX1_mutual_2 4 rfl rfl)
theorem dX1_mutual_52 : decode cX1_mutual 52 = .ok (.ifCond .eq 47, 3) := dk_153 0 47 (dk_at dksX1_mutual_2 5 rfl rfl)
theorem dX1_mutual_55 : decode cX1_mutual 55 = .ok (.aload_n 0, 1) := dk_42 (dk_at dksX1_mutual_2 8 rfl rfl)
theorem dX1_mutual_56 : decode cX1_mutual 56 = .ok (.getfield 10, 3) := dk_180 0 10 (dk_at dksX1_mutual_2 9 rfl rfl)
theorem dX1_mutual_59 : decode cX1_mutual 59 = .ok (.iload_n 2, 1) := dk_28 (dk_at dksX1_mutual_2 12 rfl rfl)
theorem dX1_mutual_60 : decode cX1_mutual 60 = .ok (.aload_n 0, 1) := dk_42 (dk_at dksX1_mutual_2 13 rfl rfl)
theorem dX1_mutual_61 : decode cX1_mutual 61 = .ok (.getfield 10, 3) := dk_180 0 10 (dk_at dksX1_mutual_2 14 rfl rfl)
theorem dX1_mutual_64 : decode cX1_mutual 64 = .ok (.getfield 104, 3) := dk_180 0 104 (dk_at dksX1_mutual_2 17 rfl rfl)
theorem dX1_mutual_67 : decode cX1_mutual 67 = .ok (.iload_n 3, 1) := dk_29 (dk_at dksX1_mutual_2 20 rfl rfl)
theorem dX1_mutual_68 : decode cX1_mutual 68 = .ok (.iaload, 1) := dk_46 (dk_at dksX1_mutual_2 21 rfl rfl)
theorem dX1_mutual_69 : decode cX1_mutual 69 = .ok (.invokevirtual 494, 3) := dk_182 1 238 (dk_at dksX1_mutual_3 0 rfl rfl)
theorem dX1_mutual_72 : decode cX1_mutual 72 = .ok (.ifCond .eq 27, 3) := dk_153 0 27 (dk_at dksX1_mutual_3 3 rfl rfl)
theorem dX1_mutual_75 : decode cX1_mutual 75 = .ok (.aload_n 0, 1) := dk_42 (dk_at dksX1_mutual_3 6 rfl rfl)
theorem dX1_mutual_76 : decode cX1_mutual 76 = .ok (.getfield 10, 3) := dk_180 0 10 (dk_at dksX1_mutual_3 7 rfl rfl)
theorem dX1_mutual_79 : decode cX1_mutual 79 = .ok (.iload_n 3, 1) := dk_29 (dk_at dksX1_mutual_3 10 rfl rfl)
theorem dX1_mutual_80 : decode cX1_mutual 80 = .ok (.aload_n 0, 1) := dk_42 (dk_at dksX1_mutual_3 11 rfl rfl)
theorem dX1_mutual_81 : decode cX1_mutual 81 = .ok (.getfield 10, 3) := dk_180 0 10 (dk_at dksX1_mutual_3 12 rfl rfl)
theorem dX1_mutual_84 : decode cX1_mutual 84 = .ok (.getfield 104, 3) := dk_180 0 104 (dk_at dksX1_mutual_3 15 rfl rfl)
theorem dX1_mutual_87 : decode cX1_mutual 87 = .ok (.iload_n 2, 1) := dk_28 (dk_at dksX1_mutual_3 18 rfl rfl)
theorem dX1_mutual_88 : decode cX1_mutual 88 = .ok (.iaload, 1) := dk_46 (dk_at dksX1_mutual_3 19 rfl rfl)
theorem dX1_mutual_89 : decode cX1_mutual 89 = .ok (.invokevirtual 494, 3) := dk_182 1 238 (dk_at dksX1_mutual_3 20 rfl rfl)
theorem dX1_mutual_92 : decode cX1_mutual 92 = .ok (.ifCond .eq 7, 3) := dk_153 0 7 (dk_at dksX1_mutual_4 0 rfl rfl)
theorem dX1_mutual_95 : decode cX1_mutual 95 = .ok (.iconst 1, 1) := dk_4 (dk_at dksX1_mutual_4 3 rfl rfl)
theorem dX1_mutual_96 : decode cX1_mutual 96 = .ok (.goto 4, 3) := dk_167 0 4 (dk_at dksX1_mutual_4 4 rfl rfl)
theorem dX1_mutual_99 : decode cX1_mutual 99 = .ok (.iconst 0, 1) := dk_3 (dk_at dksX1_mutual_4 7 rfl rfl)
theorem dX1_mutual_100 : decode cX1_mutual 100 = .ok (.iadd, 1) := dk_96 (dk_at dksX1_mutual_4 8 rfl rfl)
theorem dX1_mutual_101 : decode cX1_mutual 101 = .ok (.istore_n 1, 1) := dk_60 (dk_at dksX1_mutual_4 9 rfl rfl)
theorem dX1_mutual_102 : decode cX1_mutual 102 = .ok (.iinc 3 1, 3) := dk_132 3 1 (dk_at dksX1_mutual_4 10 rfl rfl)
theorem dX1_mutual_105 : decode cX1_mutual 105 = .ok (.goto (-86), 3) := dk_167 255 170 (dk_at dksX1_mutual_4 13 rfl rfl)
theorem dX1_mutual_108 : decode cX1_mutual 108 = .ok (.iinc 2 1, 3) := dk_132 2 1 (dk_at dksX1_mutual_4 16 rfl rfl)
theorem dX1_mutual_111 : decode cX1_mutual 111 = .ok (.goto (-107), 3) := dk_167 255 149 (dk_at dksX1_mutual_4 19 rfl rfl)
theorem dX1_mutual_114 : decode cX1_mutual 114 = .ok (.iload_n 1, 1) := dk_27 (dk_at dksX1_mutual_4 22 rfl rfl)
theorem dX1_mutual_115 : decode cX1_mutual 115 = .ok (.ireturn, 1) := dk_172 (dk_at dksX1_mutual_4 23 rfl rfl)
abbrev cX1_lodge : ByteArray := prog_1_method_77_code
def yX1_lodge : MethodName := ⟨RX1, "lodge", "(I)I"⟩
def dkwX1_lodge_3 : List UInt8 := [27, 182, 1, 251, 172]
abbrev dktX1_lodge_3 : List UInt8 := dkwX1_lodge_3 ++ []
def dkwX1_lodge_2 : List UInt8 := [167, 0, 28, 27, 2, 160, 0, 15, 42, 180, 0, 51, 180, 1, 248, 3, 46, 167, 0, 11, 42, 180, 0, 51]
abbrev dktX1_lodge_2 : List UInt8 := dkwX1_lodge_2 ++ dktX1_lodge_3
def dkwX1_lodge_1 : List UInt8 := [154, 0, 5, 2, 172, 42, 180, 0, 51, 182, 1, 241, 87, 42, 180, 0, 51, 182, 1, 245, 153, 0, 7, 2]
abbrev dktX1_lodge_1 : List UInt8 := dkwX1_lodge_1 ++ dktX1_lodge_2
def dkwX1_lodge_0 : List UInt8 := [27, 2, 159, 0, 25, 27, 3, 42, 180, 0, 10, 182, 1, 226, 184, 1, 84, 4, 100, 184, 1, 146]
abbrev dktX1_lodge_0 : List UInt8 := dkwX1_lodge_0 ++ dktX1_lodge_1
theorem dksX1_lodge_0 : cX1_lodge.data.toList.drop 0 = dktX1_lodge_0 := by decide +kernel
theorem dksX1_lodge_1 : cX1_lodge.data.toList.drop 22 = dktX1_lodge_1 := dk_seg dksX1_lodge_0 22 rfl rfl
theorem dksX1_lodge_2 : cX1_lodge.data.toList.drop 46 = dktX1_lodge_2 := dk_seg dksX1_lodge_1 24 rfl rfl
theorem dksX1_lodge_3 : cX1_lodge.data.toList.drop 70 = dktX1_lodge_3 := dk_seg dksX1_lodge_2 24 rfl rfl
theorem dX1_lodge_0 : decode cX1_lodge 0 = .ok (.iload_n 1, 1) := dk_27 (dk_at dksX1_lodge_0 0 rfl rfl)
theorem dX1_lodge_1 : decode cX1_lodge 1 = .ok (.iconst (-1), 1) := dk_2 (dk_at dksX1_lodge_0 1 rfl rfl)
theorem dX1_lodge_2 : decode cX1_lodge 2 = .ok (.if_icmp .eq 25, 3) := dk_159 0 25 (dk_at dksX1_lodge_0 2 rfl rfl)
theorem dX1_lodge_5 : decode cX1_lodge 5 = .ok (.iload_n 1, 1) := dk_27 (dk_at dksX1_lodge_0 5 rfl rfl)
theorem dX1_lodge_6 : decode cX1_lodge 6 = .ok (.iconst 0, 1) := dk_3 (dk_at dksX1_lodge_0 6 rfl rfl)
theorem dX1_lodge_7 : decode cX1_lodge 7 = .ok (.aload_n 0, 1) := dk_42 (dk_at dksX1_lodge_0 7 rfl rfl)
theorem dX1_lodge_8 : decode cX1_lodge 8 = .ok (.getfield 10, 3) := dk_180 0 10 (dk_at dksX1_lodge_0 8 rfl rfl)
theorem dX1_lodge_11 : decode cX1_lodge 11 = .ok (.invokevirtual 482, 3) := dk_182 1 226 (dk_at dksX1_lodge_0 11 rfl rfl)
theorem dX1_lodge_14 : decode cX1_lodge 14 = .ok (.invokestatic 340, 3) := dk_184 1 84 (dk_at dksX1_lodge_0 14 rfl rfl)
theorem dX1_lodge_17 : decode cX1_lodge 17 = .ok (.iconst 1, 1) := dk_4 (dk_at dksX1_lodge_0 17 rfl rfl)
theorem dX1_lodge_18 : decode cX1_lodge 18 = .ok (.isub, 1) := dk_100 (dk_at dksX1_lodge_0 18 rfl rfl)
theorem dX1_lodge_19 : decode cX1_lodge 19 = .ok (.invokestatic 402, 3) := dk_184 1 146 (dk_at dksX1_lodge_0 19 rfl rfl)
theorem dX1_lodge_22 : decode cX1_lodge 22 = .ok (.ifCond .ne 5, 3) := dk_154 0 5 (dk_at dksX1_lodge_1 0 rfl rfl)
theorem dX1_lodge_25 : decode cX1_lodge 25 = .ok (.iconst (-1), 1) := dk_2 (dk_at dksX1_lodge_1 3 rfl rfl)
theorem dX1_lodge_26 : decode cX1_lodge 26 = .ok (.ireturn, 1) := dk_172 (dk_at dksX1_lodge_1 4 rfl rfl)
theorem dX1_lodge_27 : decode cX1_lodge 27 = .ok (.aload_n 0, 1) := dk_42 (dk_at dksX1_lodge_1 5 rfl rfl)
theorem dX1_lodge_28 : decode cX1_lodge 28 = .ok (.getfield 51, 3) := dk_180 0 51 (dk_at dksX1_lodge_1 6 rfl rfl)
theorem dX1_lodge_31 : decode cX1_lodge 31 = .ok (.invokevirtual 497, 3) := dk_182 1 241 (dk_at dksX1_lodge_1 9 rfl rfl)
theorem dX1_lodge_34 : decode cX1_lodge 34 = .ok (.pop, 1) := dk_87 (dk_at dksX1_lodge_1 12 rfl rfl)
theorem dX1_lodge_35 : decode cX1_lodge 35 = .ok (.aload_n 0, 1) := dk_42 (dk_at dksX1_lodge_1 13 rfl rfl)
theorem dX1_lodge_36 : decode cX1_lodge 36 = .ok (.getfield 51, 3) := dk_180 0 51 (dk_at dksX1_lodge_1 14 rfl rfl)
theorem dX1_lodge_39 : decode cX1_lodge 39 = .ok (.invokevirtual 501, 3) := dk_182 1 245 (dk_at dksX1_lodge_1 17 rfl rfl)
theorem dX1_lodge_42 : decode cX1_lodge 42 = .ok (.ifCond .eq 7, 3) := dk_153 0 7 (dk_at dksX1_lodge_1 20 rfl rfl)
theorem dX1_lodge_45 : decode cX1_lodge 45 = .ok (.iconst (-1), 1) := dk_2 (dk_at dksX1_lodge_1 23 rfl rfl)
theorem dX1_lodge_46 : decode cX1_lodge 46 = .ok (.goto 28, 3) := dk_167 0 28 (dk_at dksX1_lodge_2 0 rfl rfl)
theorem dX1_lodge_49 : decode cX1_lodge 49 = .ok (.iload_n 1, 1) := dk_27 (dk_at dksX1_lodge_2 3 rfl rfl)
theorem dX1_lodge_50 : decode cX1_lodge 50 = .ok (.iconst (-1), 1) := dk_2 (dk_at dksX1_lodge_2 4 rfl rfl)
theorem dX1_lodge_51 : decode cX1_lodge 51 = .ok (.if_icmp .ne 15, 3) := dk_160 0 15 (dk_at dksX1_lodge_2 5 rfl rfl)
theorem dX1_lodge_54 : decode cX1_lodge 54 = .ok (.aload_n 0, 1) := dk_42 (dk_at dksX1_lodge_2 8 rfl rfl)
theorem dX1_lodge_55 : decode cX1_lodge 55 = .ok (.getfield 51, 3) := dk_180 0 51 (dk_at dksX1_lodge_2 9 rfl rfl)
theorem dX1_lodge_58 : decode cX1_lodge 58 = .ok (.getfield 504, 3) := dk_180 1 248 (dk_at dksX1_lodge_2 12 rfl rfl)
theorem dX1_lodge_61 : decode cX1_lodge 61 = .ok (.iconst 0, 1) := dk_3 (dk_at dksX1_lodge_2 15 rfl rfl)
theorem dX1_lodge_62 : decode cX1_lodge 62 = .ok (.iaload, 1) := dk_46 (dk_at dksX1_lodge_2 16 rfl rfl)
theorem dX1_lodge_63 : decode cX1_lodge 63 = .ok (.goto 11, 3) := dk_167 0 11 (dk_at dksX1_lodge_2 17 rfl rfl)
theorem dX1_lodge_66 : decode cX1_lodge 66 = .ok (.aload_n 0, 1) := dk_42 (dk_at dksX1_lodge_2 20 rfl rfl)
theorem dX1_lodge_67 : decode cX1_lodge 67 = .ok (.getfield 51, 3) := dk_180 0 51 (dk_at dksX1_lodge_2 21 rfl rfl)
theorem dX1_lodge_70 : decode cX1_lodge 70 = .ok (.iload_n 1, 1) := dk_27 (dk_at dksX1_lodge_3 0 rfl rfl)
theorem dX1_lodge_71 : decode cX1_lodge 71 = .ok (.invokevirtual 507, 3) := dk_182 1 251 (dk_at dksX1_lodge_3 1 rfl rfl)
theorem dX1_lodge_74 : decode cX1_lodge 74 = .ok (.ireturn, 1) := dk_172 (dk_at dksX1_lodge_3 4 rfl rfl)
abbrev cX1_in : ByteArray := prog_1_method_2_code
def yX1_in : MethodName := ⟨RX1, "in", "(III)Z"⟩
def dkwX1_in_0 : List UInt8 := [26, 27, 161, 0, 12, 26, 28, 163, 0, 7, 4, 167, 0, 4, 3, 172]
abbrev dktX1_in_0 : List UInt8 := dkwX1_in_0 ++ []
theorem dksX1_in_0 : cX1_in.data.toList.drop 0 = dktX1_in_0 := by decide +kernel
theorem dX1_in_0 : decode cX1_in 0 = .ok (.iload_n 0, 1) := dk_26 (dk_at dksX1_in_0 0 rfl rfl)
theorem dX1_in_1 : decode cX1_in 1 = .ok (.iload_n 1, 1) := dk_27 (dk_at dksX1_in_0 1 rfl rfl)
theorem dX1_in_2 : decode cX1_in 2 = .ok (.if_icmp .lt 12, 3) := dk_161 0 12 (dk_at dksX1_in_0 2 rfl rfl)
theorem dX1_in_5 : decode cX1_in 5 = .ok (.iload_n 0, 1) := dk_26 (dk_at dksX1_in_0 5 rfl rfl)
theorem dX1_in_6 : decode cX1_in 6 = .ok (.iload_n 2, 1) := dk_28 (dk_at dksX1_in_0 6 rfl rfl)
theorem dX1_in_7 : decode cX1_in 7 = .ok (.if_icmp .gt 7, 3) := dk_163 0 7 (dk_at dksX1_in_0 7 rfl rfl)
theorem dX1_in_10 : decode cX1_in 10 = .ok (.iconst 1, 1) := dk_4 (dk_at dksX1_in_0 10 rfl rfl)
theorem dX1_in_11 : decode cX1_in 11 = .ok (.goto 4, 3) := dk_167 0 4 (dk_at dksX1_in_0 11 rfl rfl)
theorem dX1_in_14 : decode cX1_in 14 = .ok (.iconst 0, 1) := dk_3 (dk_at dksX1_in_0 14 rfl rfl)
theorem dX1_in_15 : decode cX1_in 15 = .ok (.ireturn, 1) := dk_172 (dk_at dksX1_in_0 15 rfl rfl)
abbrev cX1_keenest : ByteArray := prog_1_method_89_code
def yX1_keenest : MethodName := ⟨RX1, "keenest", "()I"⟩
def dkwX1_keenest_2 : List UInt8 := [164, 0, 5, 28, 60, 132, 2, 1, 167, 255, 204, 27, 172]
abbrev dktX1_keenest_2 : List UInt8 := dkwX1_keenest_2 ++ []
def dkwX1_keenest_1 : List UInt8 := [153, 0, 29, 27, 2, 159, 0, 22, 42, 180, 0, 10, 28, 182, 1, 124, 42, 180, 0, 10, 27, 182, 1, 124]
abbrev dktX1_keenest_1 : List UInt8 := dkwX1_keenest_1 ++ dktX1_keenest_2
def dkwX1_keenest_0 : List UInt8 := [2, 60, 3, 61, 28, 42, 180, 0, 10, 180, 0, 92, 162, 0, 47, 42, 180, 0, 10, 180, 0, 122, 28, 51]
abbrev dktX1_keenest_0 : List UInt8 := dkwX1_keenest_0 ++ dktX1_keenest_1
theorem dksX1_keenest_0 : cX1_keenest.data.toList.drop 0 = dktX1_keenest_0 := by decide +kernel
theorem dksX1_keenest_1 : cX1_keenest.data.toList.drop 24 = dktX1_keenest_1 := dk_seg dksX1_keenest_0 24 rfl rfl
theorem dksX1_keenest_2 : cX1_keenest.data.toList.drop 48 = dktX1_keenest_2 := dk_seg dksX1_keenest_1 24 rfl rfl
theorem dX1_keenest_0 : decode cX1_keenest 0 = .ok (.iconst (-1), 1) := dk_2 (dk_at dksX1_keenest_0 0 rfl rfl)
theorem dX1_keenest_1 : decode cX1_keenest 1 = .ok (.istore_n 1, 1) := dk_60 (dk_at dksX1_keenest_0 1 rfl rfl)
theorem dX1_keenest_2 : decode cX1_keenest 2 = .ok (.iconst 0, 1) := dk_3 (dk_at dksX1_keenest_0 2 rfl rfl)
theorem dX1_keenest_3 : decode cX1_keenest 3 = .ok (.istore_n 2, 1) := dk_61 (dk_at dksX1_keenest_0 3 rfl rfl)
theorem dX1_keenest_4 : decode cX1_keenest 4 = .ok (.iload_n 2, 1) := dk_28 (dk_at dksX1_keenest_0 4 rfl rfl)
theorem dX1_keenest_5 : decode cX1_keenest 5 = .ok (.aload_n 0, 1) := dk_42 (dk_at dksX1_keenest_0 5 rfl rfl)
theorem dX1_keenest_6 : decode cX1_keenest 6 = .ok (.getfield 10, 3) := dk_180 0 10 (dk_at dksX1_keenest_0 6 rfl rfl)
theorem dX1_keenest_9 : decode cX1_keenest 9 = .ok (.getfield 92, 3) := dk_180 0 92 (dk_at dksX1_keenest_0 9 rfl rfl)
theorem dX1_keenest_12 : decode cX1_keenest 12 = .ok (.if_icmp .ge 47, 3) := dk_162 0 47 (dk_at dksX1_keenest_0 12 rfl rfl)
theorem dX1_keenest_15 : decode cX1_keenest 15 = .ok (.aload_n 0, 1) := dk_42 (dk_at dksX1_keenest_0 15 rfl rfl)
theorem dX1_keenest_16 : decode cX1_keenest 16 = .ok (.getfield 10, 3) := dk_180 0 10 (dk_at dksX1_keenest_0 16 rfl rfl)
theorem dX1_keenest_19 : decode cX1_keenest 19 = .ok (.getfield 122, 3) := dk_180 0 122 (dk_at dksX1_keenest_0 19 rfl rfl)
theorem dX1_keenest_22 : decode cX1_keenest 22 = .ok (.iload_n 2, 1) := dk_28 (dk_at dksX1_keenest_0 22 rfl rfl)
theorem dX1_keenest_23 : decode cX1_keenest 23 = .ok (.baload, 1) := dk_51 (dk_at dksX1_keenest_0 23 rfl rfl)
theorem dX1_keenest_24 : decode cX1_keenest 24 = .ok (.ifCond .eq 29, 3) := dk_153 0 29 (dk_at dksX1_keenest_1 0 rfl rfl)
theorem dX1_keenest_27 : decode cX1_keenest 27 = .ok (.iload_n 1, 1) := dk_27 (dk_at dksX1_keenest_1 3 rfl rfl)
theorem dX1_keenest_28 : decode cX1_keenest 28 = .ok (.iconst (-1), 1) := dk_2 (dk_at dksX1_keenest_1 4 rfl rfl)
theorem dX1_keenest_29 : decode cX1_keenest 29 = .ok (.if_icmp .eq 22, 3) := dk_159 0 22 (dk_at dksX1_keenest_1 5 rfl rfl)
theorem dX1_keenest_32 : decode cX1_keenest 32 = .ok (.aload_n 0, 1) := dk_42 (dk_at dksX1_keenest_1 8 rfl rfl)
theorem dX1_keenest_33 : decode cX1_keenest 33 = .ok (.getfield 10, 3) := dk_180 0 10 (dk_at dksX1_keenest_1 9 rfl rfl)
theorem dX1_keenest_36 : decode cX1_keenest 36 = .ok (.iload_n 2, 1) := dk_28 (dk_at dksX1_keenest_1 12 rfl rfl)
theorem dX1_keenest_37 : decode cX1_keenest 37 = .ok (.invokevirtual 380, 3) := dk_182 1 124 (dk_at dksX1_keenest_1 13 rfl rfl)
theorem dX1_keenest_40 : decode cX1_keenest 40 = .ok (.aload_n 0, 1) := dk_42 (dk_at dksX1_keenest_1 16 rfl rfl)
theorem dX1_keenest_41 : decode cX1_keenest 41 = .ok (.getfield 10, 3) := dk_180 0 10 (dk_at dksX1_keenest_1 17 rfl rfl)
theorem dX1_keenest_44 : decode cX1_keenest 44 = .ok (.iload_n 1, 1) := dk_27 (dk_at dksX1_keenest_1 20 rfl rfl)
theorem dX1_keenest_45 : decode cX1_keenest 45 = .ok (.invokevirtual 380, 3) := dk_182 1 124 (dk_at dksX1_keenest_1 21 rfl rfl)
theorem dX1_keenest_48 : decode cX1_keenest 48 = .ok (.if_icmp .le 5, 3) := dk_164 0 5 (dk_at dksX1_keenest_2 0 rfl rfl)
theorem dX1_keenest_51 : decode cX1_keenest 51 = .ok (.iload_n 2, 1) := dk_28 (dk_at dksX1_keenest_2 3 rfl rfl)
theorem dX1_keenest_52 : decode cX1_keenest 52 = .ok (.istore_n 1, 1) := dk_60 (dk_at dksX1_keenest_2 4 rfl rfl)
theorem dX1_keenest_53 : decode cX1_keenest 53 = .ok (.iinc 2 1, 3) := dk_132 2 1 (dk_at dksX1_keenest_2 5 rfl rfl)
theorem dX1_keenest_56 : decode cX1_keenest 56 = .ok (.goto (-52), 3) := dk_167 255 204 (dk_at dksX1_keenest_2 8 rfl rfl)
theorem dX1_keenest_59 : decode cX1_keenest 59 = .ok (.iload_n 1, 1) := dk_27 (dk_at dksX1_keenest_2 11 rfl rfl)
theorem dX1_keenest_60 : decode cX1_keenest 60 = .ok (.ireturn, 1) := dk_172 (dk_at dksX1_keenest_2 12 rfl rfl)
abbrev cX1_alike : ByteArray := prog_1_method_90_code
def yX1_alike : MethodName := ⟨RX1, "alike", "()I"⟩
def dkwX1_alike_3 : List UInt8 := [160, 0, 7, 4, 167, 0, 4, 3, 96, 60, 132, 3, 1, 167, 255, 192, 132, 2, 1, 167, 255, 171, 27, 172]
abbrev dktX1_alike_3 : List UInt8 := dkwX1_alike_3 ++ []
def dkwX1_alike_2 : List UInt8 := [46, 160, 0, 28, 42, 180, 0, 10, 180, 0, 104, 28, 46, 42, 180, 0, 10, 180, 0, 104, 29, 46]
abbrev dktX1_alike_2 : List UInt8 := dkwX1_alike_2 ++ dktX1_alike_3
def dkwX1_alike_1 : List UInt8 := [180, 0, 92, 162, 0, 59, 27, 42, 180, 0, 10, 180, 0, 95, 28, 46, 42, 180, 0, 10, 180, 0, 95, 29]
abbrev dktX1_alike_1 : List UInt8 := dkwX1_alike_1 ++ dktX1_alike_2
def dkwX1_alike_0 : List UInt8 := [3, 60, 3, 61, 28, 42, 180, 0, 10, 180, 0, 92, 162, 0, 80, 28, 4, 96, 62, 29, 42, 180, 0, 10]
abbrev dktX1_alike_0 : List UInt8 := dkwX1_alike_0 ++ dktX1_alike_1
theorem dksX1_alike_0 : cX1_alike.data.toList.drop 0 = dktX1_alike_0 := by decide +kernel
theorem dksX1_alike_1 : cX1_alike.data.toList.drop 24 = dktX1_alike_1 := dk_seg dksX1_alike_0 24 rfl rfl
theorem dksX1_alike_2 : cX1_alike.data.toList.drop 48 = dktX1_alike_2 := dk_seg dksX1_alike_1 24 rfl rfl
theorem dksX1_alike_3 : cX1_alike.data.toList.drop 70 = dktX1_alike_3 := dk_seg dksX1_alike_2 22 rfl rfl
theorem dX1_alike_0 : decode cX1_alike 0 = .ok (.iconst 0, 1) := dk_3 (dk_at dksX1_alike_0 0 rfl rfl)
theorem dX1_alike_1 : decode cX1_alike 1 = .ok (.istore_n 1, 1) := dk_60 (dk_at dksX1_alike_0 1 rfl rfl)
theorem dX1_alike_2 : decode cX1_alike 2 = .ok (.iconst 0, 1) := dk_3 (dk_at dksX1_alike_0 2 rfl rfl)
theorem dX1_alike_3 : decode cX1_alike 3 = .ok (.istore_n 2, 1) := dk_61 (dk_at dksX1_alike_0 3 rfl rfl)
theorem dX1_alike_4 : decode cX1_alike 4 = .ok (.iload_n 2, 1) := dk_28 (dk_at dksX1_alike_0 4 rfl rfl)
theorem dX1_alike_5 : decode cX1_alike 5 = .ok (.aload_n 0, 1) := dk_42 (dk_at dksX1_alike_0 5 rfl rfl)
theorem dX1_alike_6 : decode cX1_alike 6 = .ok (.getfield 10, 3) := dk_180 0 10 (dk_at dksX1_alike_0 6 rfl rfl)
theorem dX1_alike_9 : decode cX1_alike 9 = .ok (.getfield 92, 3) := dk_180 0 92 (dk_at dksX1_alike_0 9 rfl rfl)
theorem dX1_alike_12 : decode cX1_alike 12 = .ok (.if_icmp .ge 80, 3) := dk_162 0 80 (dk_at dksX1_alike_0 12 rfl rfl)
theorem dX1_alike_15 : decode cX1_alike 15 = .ok (.iload_n 2, 1) := dk_28 (dk_at dksX1_alike_0 15 rfl rfl)
theorem dX1_alike_16 : decode cX1_alike 16 = .ok (.iconst 1, 1) := dk_4 (dk_at dksX1_alike_0 16 rfl rfl)
theorem dX1_alike_17 : decode cX1_alike 17 = .ok (.iadd, 1) := dk_96 (dk_at dksX1_alike_0 17 rfl rfl)
theorem dX1_alike_18 : decode cX1_alike 18 = .ok (.istore_n 3, 1) := dk_62 (dk_at dksX1_alike_0 18 rfl rfl)
theorem dX1_alike_19 : decode cX1_alike 19 = .ok (.iload_n 3, 1) := dk_29 (dk_at dksX1_alike_0 19 rfl rfl)
theorem dX1_alike_20 : decode cX1_alike 20 = .ok (.aload_n 0, 1) := dk_42 (dk_at dksX1_alike_0 20 rfl rfl)
theorem dX1_alike_21 : decode cX1_alike 21 = .ok (.getfield 10, 3) := dk_180 0 10 (dk_at dksX1_alike_0 21 rfl rfl)
theorem dX1_alike_24 : decode cX1_alike 24 = .ok (.getfield 92, 3) := dk_180 0 92 (dk_at dksX1_alike_1 0 rfl rfl)
theorem dX1_alike_27 : decode cX1_alike 27 = .ok (.if_icmp .ge 59, 3) := dk_162 0 59 (dk_at dksX1_alike_1 3 rfl rfl)
theorem dX1_alike_30 : decode cX1_alike 30 = .ok (.iload_n 1, 1) := dk_27 (dk_at dksX1_alike_1 6 rfl rfl)
theorem dX1_alike_31 : decode cX1_alike 31 = .ok (.aload_n 0, 1) := dk_42 (dk_at dksX1_alike_1 7 rfl rfl)
theorem dX1_alike_32 : decode cX1_alike 32 = .ok (.getfield 10, 3) := dk_180 0 10 (dk_at dksX1_alike_1 8 rfl rfl)
theorem dX1_alike_35 : decode cX1_alike 35 = .ok (.getfield 95, 3) := dk_180 0 95 (dk_at dksX1_alike_1 11 rfl rfl)
theorem dX1_alike_38 : decode cX1_alike 38 = .ok (.iload_n 2, 1) := dk_28 (dk_at dksX1_alike_1 14 rfl rfl)
theorem dX1_alike_39 : decode cX1_alike 39 = .ok (.iaload, 1) := dk_46 (dk_at dksX1_alike_1 15 rfl rfl)
theorem dX1_alike_40 : decode cX1_alike 40 = .ok (.aload_n 0, 1) := dk_42 (dk_at dksX1_alike_1 16 rfl rfl)
theorem dX1_alike_41 : decode cX1_alike 41 = .ok (.getfield 10, 3) := dk_180 0 10 (dk_at dksX1_alike_1 17 rfl rfl)
theorem dX1_alike_44 : decode cX1_alike 44 = .ok (.getfield 95, 3) := dk_180 0 95 (dk_at dksX1_alike_1 20 rfl rfl)
theorem dX1_alike_47 : decode cX1_alike 47 = .ok (.iload_n 3, 1) := dk_29 (dk_at dksX1_alike_1 23 rfl rfl)
theorem dX1_alike_48 : decode cX1_alike 48 = .ok (.iaload, 1) := dk_46 (dk_at dksX1_alike_2 0 rfl rfl)
theorem dX1_alike_49 : decode cX1_alike 49 = .ok (.if_icmp .ne 28, 3) := dk_160 0 28 (dk_at dksX1_alike_2 1 rfl rfl)
theorem dX1_alike_52 : decode cX1_alike 52 = .ok (.aload_n 0, 1) := dk_42 (dk_at dksX1_alike_2 4 rfl rfl)
theorem dX1_alike_53 : decode cX1_alike 53 = .ok (.getfield 10, 3) := dk_180 0 10 (dk_at dksX1_alike_2 5 rfl rfl)
theorem dX1_alike_56 : decode cX1_alike 56 = .ok (.getfield 104, 3) := dk_180 0 104 (dk_at dksX1_alike_2 8 rfl rfl)
theorem dX1_alike_59 : decode cX1_alike 59 = .ok (.iload_n 2, 1) := dk_28 (dk_at dksX1_alike_2 11 rfl rfl)
theorem dX1_alike_60 : decode cX1_alike 60 = .ok (.iaload, 1) := dk_46 (dk_at dksX1_alike_2 12 rfl rfl)
theorem dX1_alike_61 : decode cX1_alike 61 = .ok (.aload_n 0, 1) := dk_42 (dk_at dksX1_alike_2 13 rfl rfl)
theorem dX1_alike_62 : decode cX1_alike 62 = .ok (.getfield 10, 3) := dk_180 0 10 (dk_at dksX1_alike_2 14 rfl rfl)
theorem dX1_alike_65 : decode cX1_alike 65 = .ok (.getfield 104, 3) := dk_180 0 104 (dk_at dksX1_alike_2 17 rfl rfl)
theorem dX1_alike_68 : decode cX1_alike 68 = .ok (.iload_n 3, 1) := dk_29 (dk_at dksX1_alike_2 20 rfl rfl)
theorem dX1_alike_69 : decode cX1_alike 69 = .ok (.iaload, 1) := dk_46 (dk_at dksX1_alike_2 21 rfl rfl)
theorem dX1_alike_70 : decode cX1_alike 70 = .ok (.if_icmp .ne 7, 3) := dk_160 0 7 (dk_at dksX1_alike_3 0 rfl rfl)
theorem dX1_alike_73 : decode cX1_alike 73 = .ok (.iconst 1, 1) := dk_4 (dk_at dksX1_alike_3 3 rfl rfl)
theorem dX1_alike_74 : decode cX1_alike 74 = .ok (.goto 4, 3) := dk_167 0 4 (dk_at dksX1_alike_3 4 rfl rfl)
theorem dX1_alike_77 : decode cX1_alike 77 = .ok (.iconst 0, 1) := dk_3 (dk_at dksX1_alike_3 7 rfl rfl)
theorem dX1_alike_78 : decode cX1_alike 78 = .ok (.iadd, 1) := dk_96 (dk_at dksX1_alike_3 8 rfl rfl)
theorem dX1_alike_79 : decode cX1_alike 79 = .ok (.istore_n 1, 1) := dk_60 (dk_at dksX1_alike_3 9 rfl rfl)
theorem dX1_alike_80 : decode cX1_alike 80 = .ok (.iinc 3 1, 3) := dk_132 3 1 (dk_at dksX1_alike_3 10 rfl rfl)
theorem dX1_alike_83 : decode cX1_alike 83 = .ok (.goto (-64), 3) := dk_167 255 192 (dk_at dksX1_alike_3 13 rfl rfl)
theorem dX1_alike_86 : decode cX1_alike 86 = .ok (.iinc 2 1, 3) := dk_132 2 1 (dk_at dksX1_alike_3 16 rfl rfl)
theorem dX1_alike_89 : decode cX1_alike 89 = .ok (.goto (-85), 3) := dk_167 255 171 (dk_at dksX1_alike_3 19 rfl rfl)
theorem dX1_alike_92 : decode cX1_alike 92 = .ok (.iload_n 1, 1) := dk_27 (dk_at dksX1_alike_3 22 rfl rfl)
theorem dX1_alike_93 : decode cX1_alike 93 = .ok (.ireturn, 1) := dk_172 (dk_at dksX1_alike_3 23 rfl rfl)
abbrev cX1_well : ByteArray := prog_1_method_92_code
def yX1_well : MethodName := ⟨RX1, "well", "()I"⟩
def dkwX1_well_1 : List UInt8 := [54, 4, 21, 4, 28, 163, 0, 6, 167, 0, 8, 29, 60, 21, 4, 61, 132, 3, 1, 167, 255, 220, 27, 172]
abbrev dktX1_well_1 : List UInt8 := dkwX1_well_1 ++ []
def dkwX1_well_0 : List UInt8 := [2, 60, 3, 61, 3, 62, 29, 16, 8, 162, 0, 36, 42, 180, 0, 10, 29, 182, 1, 178, 184, 1, 84]
abbrev dktX1_well_0 : List UInt8 := dkwX1_well_0 ++ dktX1_well_1
theorem dksX1_well_0 : cX1_well.data.toList.drop 0 = dktX1_well_0 := by decide +kernel
theorem dksX1_well_1 : cX1_well.data.toList.drop 23 = dktX1_well_1 := dk_seg dksX1_well_0 23 rfl rfl
theorem dX1_well_0 : decode cX1_well 0 = .ok (.iconst (-1), 1) := dk_2 (dk_at dksX1_well_0 0 rfl rfl)
theorem dX1_well_1 : decode cX1_well 1 = .ok (.istore_n 1, 1) := dk_60 (dk_at dksX1_well_0 1 rfl rfl)
theorem dX1_well_2 : decode cX1_well 2 = .ok (.iconst 0, 1) := dk_3 (dk_at dksX1_well_0 2 rfl rfl)
theorem dX1_well_3 : decode cX1_well 3 = .ok (.istore_n 2, 1) := dk_61 (dk_at dksX1_well_0 3 rfl rfl)
theorem dX1_well_4 : decode cX1_well 4 = .ok (.iconst 0, 1) := dk_3 (dk_at dksX1_well_0 4 rfl rfl)
theorem dX1_well_5 : decode cX1_well 5 = .ok (.istore_n 3, 1) := dk_62 (dk_at dksX1_well_0 5 rfl rfl)
theorem dX1_well_6 : decode cX1_well 6 = .ok (.iload_n 3, 1) := dk_29 (dk_at dksX1_well_0 6 rfl rfl)
theorem dX1_well_7 : decode cX1_well 7 = .ok (.bipush 8, 2) := dk_16 8 (dk_at dksX1_well_0 7 rfl rfl)
theorem dX1_well_9 : decode cX1_well 9 = .ok (.if_icmp .ge 36, 3) := dk_162 0 36 (dk_at dksX1_well_0 9 rfl rfl)
theorem dX1_well_12 : decode cX1_well 12 = .ok (.aload_n 0, 1) := dk_42 (dk_at dksX1_well_0 12 rfl rfl)
theorem dX1_well_13 : decode cX1_well 13 = .ok (.getfield 10, 3) := dk_180 0 10 (dk_at dksX1_well_0 13 rfl rfl)
theorem dX1_well_16 : decode cX1_well 16 = .ok (.iload_n 3, 1) := dk_29 (dk_at dksX1_well_0 16 rfl rfl)
theorem dX1_well_17 : decode cX1_well 17 = .ok (.invokevirtual 434, 3) := dk_182 1 178 (dk_at dksX1_well_0 17 rfl rfl)
theorem dX1_well_20 : decode cX1_well 20 = .ok (.invokestatic 340, 3) := dk_184 1 84 (dk_at dksX1_well_0 20 rfl rfl)
theorem dX1_well_23 : decode cX1_well 23 = .ok (.istore 4, 2) := dk_54 4 (dk_at dksX1_well_1 0 rfl rfl)
theorem dX1_well_25 : decode cX1_well 25 = .ok (.iload 4, 2) := dk_21 4 (dk_at dksX1_well_1 2 rfl rfl)
theorem dX1_well_27 : decode cX1_well 27 = .ok (.iload_n 2, 1) := dk_28 (dk_at dksX1_well_1 4 rfl rfl)
theorem dX1_well_28 : decode cX1_well 28 = .ok (.if_icmp .gt 6, 3) := dk_163 0 6 (dk_at dksX1_well_1 5 rfl rfl)
theorem dX1_well_31 : decode cX1_well 31 = .ok (.goto 8, 3) := dk_167 0 8 (dk_at dksX1_well_1 8 rfl rfl)
theorem dX1_well_34 : decode cX1_well 34 = .ok (.iload_n 3, 1) := dk_29 (dk_at dksX1_well_1 11 rfl rfl)
theorem dX1_well_35 : decode cX1_well 35 = .ok (.istore_n 1, 1) := dk_60 (dk_at dksX1_well_1 12 rfl rfl)
theorem dX1_well_36 : decode cX1_well 36 = .ok (.iload 4, 2) := dk_21 4 (dk_at dksX1_well_1 13 rfl rfl)
theorem dX1_well_38 : decode cX1_well 38 = .ok (.istore_n 2, 1) := dk_61 (dk_at dksX1_well_1 15 rfl rfl)
theorem dX1_well_39 : decode cX1_well 39 = .ok (.iinc 3 1, 3) := dk_132 3 1 (dk_at dksX1_well_1 16 rfl rfl)
theorem dX1_well_42 : decode cX1_well 42 = .ok (.goto (-36), 3) := dk_167 255 220 (dk_at dksX1_well_1 19 rfl rfl)
theorem dX1_well_45 : decode cX1_well 45 = .ok (.iload_n 1, 1) := dk_27 (dk_at dksX1_well_1 22 rfl rfl)
theorem dX1_well_46 : decode cX1_well 46 = .ok (.ireturn, 1) := dk_172 (dk_at dksX1_well_1 23 rfl rfl)
abbrev cX1_crowd : ByteArray := prog_1_method_95_code
def yX1_crowd : MethodName := ⟨RX1, "crowd", "()I"⟩
def dkwX1_crowd_1 : List UInt8 := [54, 4, 21, 4, 28, 163, 0, 6, 167, 0, 8, 29, 60, 21, 4, 61, 132, 3, 1, 167, 255, 220, 27, 172]
abbrev dktX1_crowd_1 : List UInt8 := dkwX1_crowd_1 ++ []
def dkwX1_crowd_0 : List UInt8 := [2, 60, 3, 61, 3, 62, 29, 16, 8, 162, 0, 36, 42, 180, 0, 10, 29, 182, 1, 181, 184, 1, 84]
abbrev dktX1_crowd_0 : List UInt8 := dkwX1_crowd_0 ++ dktX1_crowd_1
theorem dksX1_crowd_0 : cX1_crowd.data.toList.drop 0 = dktX1_crowd_0 := by decide +kernel
theorem dksX1_crowd_1 : cX1_crowd.data.toList.drop 23 = dktX1_crowd_1 := dk_seg dksX1_crowd_0 23 rfl rfl
theorem dX1_crowd_0 : decode cX1_crowd 0 = .ok (.iconst (-1), 1) := dk_2 (dk_at dksX1_crowd_0 0 rfl rfl)
theorem dX1_crowd_1 : decode cX1_crowd 1 = .ok (.istore_n 1, 1) := dk_60 (dk_at dksX1_crowd_0 1 rfl rfl)
theorem dX1_crowd_2 : decode cX1_crowd 2 = .ok (.iconst 0, 1) := dk_3 (dk_at dksX1_crowd_0 2 rfl rfl)
theorem dX1_crowd_3 : decode cX1_crowd 3 = .ok (.istore_n 2, 1) := dk_61 (dk_at dksX1_crowd_0 3 rfl rfl)
theorem dX1_crowd_4 : decode cX1_crowd 4 = .ok (.iconst 0, 1) := dk_3 (dk_at dksX1_crowd_0 4 rfl rfl)
theorem dX1_crowd_5 : decode cX1_crowd 5 = .ok (.istore_n 3, 1) := dk_62 (dk_at dksX1_crowd_0 5 rfl rfl)
theorem dX1_crowd_6 : decode cX1_crowd 6 = .ok (.iload_n 3, 1) := dk_29 (dk_at dksX1_crowd_0 6 rfl rfl)
theorem dX1_crowd_7 : decode cX1_crowd 7 = .ok (.bipush 8, 2) := dk_16 8 (dk_at dksX1_crowd_0 7 rfl rfl)
theorem dX1_crowd_9 : decode cX1_crowd 9 = .ok (.if_icmp .ge 36, 3) := dk_162 0 36 (dk_at dksX1_crowd_0 9 rfl rfl)
theorem dX1_crowd_12 : decode cX1_crowd 12 = .ok (.aload_n 0, 1) := dk_42 (dk_at dksX1_crowd_0 12 rfl rfl)
theorem dX1_crowd_13 : decode cX1_crowd 13 = .ok (.getfield 10, 3) := dk_180 0 10 (dk_at dksX1_crowd_0 13 rfl rfl)
theorem dX1_crowd_16 : decode cX1_crowd 16 = .ok (.iload_n 3, 1) := dk_29 (dk_at dksX1_crowd_0 16 rfl rfl)
theorem dX1_crowd_17 : decode cX1_crowd 17 = .ok (.invokevirtual 437, 3) := dk_182 1 181 (dk_at dksX1_crowd_0 17 rfl rfl)
theorem dX1_crowd_20 : decode cX1_crowd 20 = .ok (.invokestatic 340, 3) := dk_184 1 84 (dk_at dksX1_crowd_0 20 rfl rfl)
theorem dX1_crowd_23 : decode cX1_crowd 23 = .ok (.istore 4, 2) := dk_54 4 (dk_at dksX1_crowd_1 0 rfl rfl)
theorem dX1_crowd_25 : decode cX1_crowd 25 = .ok (.iload 4, 2) := dk_21 4 (dk_at dksX1_crowd_1 2 rfl rfl)
theorem dX1_crowd_27 : decode cX1_crowd 27 = .ok (.iload_n 2, 1) := dk_28 (dk_at dksX1_crowd_1 4 rfl rfl)
theorem dX1_crowd_28 : decode cX1_crowd 28 = .ok (.if_icmp .gt 6, 3) := dk_163 0 6 (dk_at dksX1_crowd_1 5 rfl rfl)
theorem dX1_crowd_31 : decode cX1_crowd 31 = .ok (.goto 8, 3) := dk_167 0 8 (dk_at dksX1_crowd_1 8 rfl rfl)
theorem dX1_crowd_34 : decode cX1_crowd 34 = .ok (.iload_n 3, 1) := dk_29 (dk_at dksX1_crowd_1 11 rfl rfl)
theorem dX1_crowd_35 : decode cX1_crowd 35 = .ok (.istore_n 1, 1) := dk_60 (dk_at dksX1_crowd_1 12 rfl rfl)
theorem dX1_crowd_36 : decode cX1_crowd 36 = .ok (.iload 4, 2) := dk_21 4 (dk_at dksX1_crowd_1 13 rfl rfl)
theorem dX1_crowd_38 : decode cX1_crowd 38 = .ok (.istore_n 2, 1) := dk_61 (dk_at dksX1_crowd_1 15 rfl rfl)
theorem dX1_crowd_39 : decode cX1_crowd 39 = .ok (.iinc 3 1, 3) := dk_132 3 1 (dk_at dksX1_crowd_1 16 rfl rfl)
theorem dX1_crowd_42 : decode cX1_crowd 42 = .ok (.goto (-36), 3) := dk_167 255 220 (dk_at dksX1_crowd_1 19 rfl rfl)
theorem dX1_crowd_45 : decode cX1_crowd 45 = .ok (.iload_n 1, 1) := dk_27 (dk_at dksX1_crowd_1 22 rfl rfl)
theorem dX1_crowd_46 : decode cX1_crowd 46 = .ok (.ireturn, 1) := dk_172 (dk_at dksX1_crowd_1 23 rfl rfl)
abbrev cX1_seed : ByteArray := prog_1_method_102_code
def yX1_seed : MethodName := ⟨RX1, "seed", "(I)I"⟩
def dkwX1_seed_0 : List UInt8 := [42, 180, 0, 10, 180, 2, 35, 61, 42, 180, 0, 10, 27, 181, 2, 35, 28, 172]
abbrev dktX1_seed_0 : List UInt8 := dkwX1_seed_0 ++ []
theorem dksX1_seed_0 : cX1_seed.data.toList.drop 0 = dktX1_seed_0 := by decide +kernel
theorem dX1_seed_0 : decode cX1_seed 0 = .ok (.aload_n 0, 1) := dk_42 (dk_at dksX1_seed_0 0 rfl rfl)
theorem dX1_seed_1 : decode cX1_seed 1 = .ok (.getfield 10, 3) := dk_180 0 10 (dk_at dksX1_seed_0 1 rfl rfl)
theorem dX1_seed_4 : decode cX1_seed 4 = .ok (.getfield 547, 3) := dk_180 2 35 (dk_at dksX1_seed_0 4 rfl rfl)
theorem dX1_seed_7 : decode cX1_seed 7 = .ok (.istore_n 2, 1) := dk_61 (dk_at dksX1_seed_0 7 rfl rfl)
theorem dX1_seed_8 : decode cX1_seed 8 = .ok (.aload_n 0, 1) := dk_42 (dk_at dksX1_seed_0 8 rfl rfl)
theorem dX1_seed_9 : decode cX1_seed 9 = .ok (.getfield 10, 3) := dk_180 0 10 (dk_at dksX1_seed_0 9 rfl rfl)
theorem dX1_seed_12 : decode cX1_seed 12 = .ok (.iload_n 1, 1) := dk_27 (dk_at dksX1_seed_0 12 rfl rfl)
theorem dX1_seed_13 : decode cX1_seed 13 = .ok (.putfield 547, 3) := dk_181 2 35 (dk_at dksX1_seed_0 13 rfl rfl)
theorem dX1_seed_16 : decode cX1_seed 16 = .ok (.iload_n 2, 1) := dk_28 (dk_at dksX1_seed_0 16 rfl rfl)
theorem dX1_seed_17 : decode cX1_seed 17 = .ok (.ireturn, 1) := dk_172 (dk_at dksX1_seed_0 17 rfl rfl)
abbrev cX1_undo : ByteArray := prog_1_method_103_code
def yX1_undo : MethodName := ⟨RX1, "undo", "()Z"⟩
def dkwX1_undo_1 : List UInt8 := [182, 1, 56, 4, 100, 182, 1, 193, 192, 0, 7, 182, 0, 201, 87, 4, 172]
abbrev dktX1_undo_1 : List UInt8 := dkwX1_undo_1 ++ []
def dkwX1_undo_0 : List UInt8 := [42, 180, 0, 42, 182, 2, 47, 153, 0, 5, 3, 172, 42, 180, 0, 10, 42, 180, 0, 42, 42, 180, 0, 42]
abbrev dktX1_undo_0 : List UInt8 := dkwX1_undo_0 ++ dktX1_undo_1
theorem dksX1_undo_0 : cX1_undo.data.toList.drop 0 = dktX1_undo_0 := by decide +kernel
theorem dksX1_undo_1 : cX1_undo.data.toList.drop 24 = dktX1_undo_1 := dk_seg dksX1_undo_0 24 rfl rfl
theorem dX1_undo_0 : decode cX1_undo 0 = .ok (.aload_n 0, 1) := dk_42 (dk_at dksX1_undo_0 0 rfl rfl)
theorem dX1_undo_1 : decode cX1_undo 1 = .ok (.getfield 42, 3) := dk_180 0 42 (dk_at dksX1_undo_0 1 rfl rfl)
theorem dX1_undo_4 : decode cX1_undo 4 = .ok (.invokevirtual 559, 3) := dk_182 2 47 (dk_at dksX1_undo_0 4 rfl rfl)
theorem dX1_undo_7 : decode cX1_undo 7 = .ok (.ifCond .eq 5, 3) := dk_153 0 5 (dk_at dksX1_undo_0 7 rfl rfl)
theorem dX1_undo_10 : decode cX1_undo 10 = .ok (.iconst 0, 1) := dk_3 (dk_at dksX1_undo_0 10 rfl rfl)
theorem dX1_undo_11 : decode cX1_undo 11 = .ok (.ireturn, 1) := dk_172 (dk_at dksX1_undo_0 11 rfl rfl)
theorem dX1_undo_12 : decode cX1_undo 12 = .ok (.aload_n 0, 1) := dk_42 (dk_at dksX1_undo_0 12 rfl rfl)
theorem dX1_undo_13 : decode cX1_undo 13 = .ok (.getfield 10, 3) := dk_180 0 10 (dk_at dksX1_undo_0 13 rfl rfl)
theorem dX1_undo_16 : decode cX1_undo 16 = .ok (.aload_n 0, 1) := dk_42 (dk_at dksX1_undo_0 16 rfl rfl)
theorem dX1_undo_17 : decode cX1_undo 17 = .ok (.getfield 42, 3) := dk_180 0 42 (dk_at dksX1_undo_0 17 rfl rfl)
theorem dX1_undo_20 : decode cX1_undo 20 = .ok (.aload_n 0, 1) := dk_42 (dk_at dksX1_undo_0 20 rfl rfl)
theorem dX1_undo_21 : decode cX1_undo 21 = .ok (.getfield 42, 3) := dk_180 0 42 (dk_at dksX1_undo_0 21 rfl rfl)
theorem dX1_undo_24 : decode cX1_undo 24 = .ok (.invokevirtual 312, 3) := dk_182 1 56 (dk_at dksX1_undo_1 0 rfl rfl)
theorem dX1_undo_27 : decode cX1_undo 27 = .ok (.iconst 1, 1) := dk_4 (dk_at dksX1_undo_1 3 rfl rfl)
theorem dX1_undo_28 : decode cX1_undo 28 = .ok (.isub, 1) := dk_100 (dk_at dksX1_undo_1 4 rfl rfl)
theorem dX1_undo_29 : decode cX1_undo 29 = .ok (.invokevirtual 449, 3) := dk_182 1 193 (dk_at dksX1_undo_1 5 rfl rfl)
theorem dX1_undo_32 : decode cX1_undo 32 = .ok (.checkcast 7, 3) := dk_192 0 7 (dk_at dksX1_undo_1 8 rfl rfl)
theorem dX1_undo_35 : decode cX1_undo 35 = .ok (.invokevirtual 201, 3) := dk_182 0 201 (dk_at dksX1_undo_1 11 rfl rfl)
theorem dX1_undo_38 : decode cX1_undo 38 = .ok (.pop, 1) := dk_87 (dk_at dksX1_undo_1 14 rfl rfl)
theorem dX1_undo_39 : decode cX1_undo 39 = .ok (.iconst 1, 1) := dk_4 (dk_at dksX1_undo_1 15 rfl rfl)
theorem dX1_undo_40 : decode cX1_undo 40 = .ok (.ireturn, 1) := dk_172 (dk_at dksX1_undo_1 16 rfl rfl)
abbrev cX1_image : ByteArray := prog_1_method_104_code
def yX1_image : MethodName := ⟨RX1, "image", "()V"⟩
def dkwX1_image_0 : List UInt8 := [42, 4, 181, 2, 50, 42, 180, 0, 19, 42, 180, 0, 10, 182, 0, 201, 87, 177]
abbrev dktX1_image_0 : List UInt8 := dkwX1_image_0 ++ []
theorem dksX1_image_0 : cX1_image.data.toList.drop 0 = dktX1_image_0 := by decide +kernel
theorem dX1_image_0 : decode cX1_image 0 = .ok (.aload_n 0, 1) := dk_42 (dk_at dksX1_image_0 0 rfl rfl)
theorem dX1_image_1 : decode cX1_image 1 = .ok (.iconst 1, 1) := dk_4 (dk_at dksX1_image_0 1 rfl rfl)
theorem dX1_image_2 : decode cX1_image 2 = .ok (.putfield 562, 3) := dk_181 2 50 (dk_at dksX1_image_0 2 rfl rfl)
theorem dX1_image_5 : decode cX1_image 5 = .ok (.aload_n 0, 1) := dk_42 (dk_at dksX1_image_0 5 rfl rfl)
theorem dX1_image_6 : decode cX1_image 6 = .ok (.getfield 19, 3) := dk_180 0 19 (dk_at dksX1_image_0 6 rfl rfl)
theorem dX1_image_9 : decode cX1_image 9 = .ok (.aload_n 0, 1) := dk_42 (dk_at dksX1_image_0 9 rfl rfl)
theorem dX1_image_10 : decode cX1_image 10 = .ok (.getfield 10, 3) := dk_180 0 10 (dk_at dksX1_image_0 10 rfl rfl)
theorem dX1_image_13 : decode cX1_image 13 = .ok (.invokevirtual 201, 3) := dk_182 0 201 (dk_at dksX1_image_0 13 rfl rfl)
theorem dX1_image_16 : decode cX1_image 16 = .ok (.pop, 1) := dk_87 (dk_at dksX1_image_0 16 rfl rfl)
theorem dX1_image_17 : decode cX1_image 17 = .ok (.return_, 1) := dk_177 (dk_at dksX1_image_0 17 rfl rfl)
abbrev cX1_back : ByteArray := prog_1_method_105_code
def yX1_back : MethodName := ⟨RX1, "back", "()Z"⟩
def dkwX1_back_1 : List UInt8 := [180, 0, 42, 182, 0, 219, 4, 172]
abbrev dktX1_back_1 : List UInt8 := dkwX1_back_1 ++ []
def dkwX1_back_0 : List UInt8 := [42, 180, 2, 50, 154, 0, 5, 3, 172, 42, 180, 0, 10, 42, 180, 0, 19, 182, 0, 201, 87, 42]
abbrev dktX1_back_0 : List UInt8 := dkwX1_back_0 ++ dktX1_back_1
theorem dksX1_back_0 : cX1_back.data.toList.drop 0 = dktX1_back_0 := by decide +kernel
theorem dksX1_back_1 : cX1_back.data.toList.drop 22 = dktX1_back_1 := dk_seg dksX1_back_0 22 rfl rfl
theorem dX1_back_0 : decode cX1_back 0 = .ok (.aload_n 0, 1) := dk_42 (dk_at dksX1_back_0 0 rfl rfl)
theorem dX1_back_1 : decode cX1_back 1 = .ok (.getfield 562, 3) := dk_180 2 50 (dk_at dksX1_back_0 1 rfl rfl)
theorem dX1_back_4 : decode cX1_back 4 = .ok (.ifCond .ne 5, 3) := dk_154 0 5 (dk_at dksX1_back_0 4 rfl rfl)
theorem dX1_back_7 : decode cX1_back 7 = .ok (.iconst 0, 1) := dk_3 (dk_at dksX1_back_0 7 rfl rfl)
theorem dX1_back_8 : decode cX1_back 8 = .ok (.ireturn, 1) := dk_172 (dk_at dksX1_back_0 8 rfl rfl)
theorem dX1_back_9 : decode cX1_back 9 = .ok (.aload_n 0, 1) := dk_42 (dk_at dksX1_back_0 9 rfl rfl)
theorem dX1_back_10 : decode cX1_back 10 = .ok (.getfield 10, 3) := dk_180 0 10 (dk_at dksX1_back_0 10 rfl rfl)
theorem dX1_back_13 : decode cX1_back 13 = .ok (.aload_n 0, 1) := dk_42 (dk_at dksX1_back_0 13 rfl rfl)
theorem dX1_back_14 : decode cX1_back 14 = .ok (.getfield 19, 3) := dk_180 0 19 (dk_at dksX1_back_0 14 rfl rfl)
theorem dX1_back_17 : decode cX1_back 17 = .ok (.invokevirtual 201, 3) := dk_182 0 201 (dk_at dksX1_back_0 17 rfl rfl)
theorem dX1_back_20 : decode cX1_back 20 = .ok (.pop, 1) := dk_87 (dk_at dksX1_back_0 20 rfl rfl)
theorem dX1_back_21 : decode cX1_back 21 = .ok (.aload_n 0, 1) := dk_42 (dk_at dksX1_back_0 21 rfl rfl)
theorem dX1_back_22 : decode cX1_back 22 = .ok (.getfield 42, 3) := dk_180 0 42 (dk_at dksX1_back_1 0 rfl rfl)
theorem dX1_back_25 : decode cX1_back 25 = .ok (.invokevirtual 219, 3) := dk_182 0 219 (dk_at dksX1_back_1 3 rfl rfl)
theorem dX1_back_28 : decode cX1_back 28 = .ok (.iconst 1, 1) := dk_4 (dk_at dksX1_back_1 6 rfl rfl)
theorem dX1_back_29 : decode cX1_back 29 = .ok (.ireturn, 1) := dk_172 (dk_at dksX1_back_1 7 rfl rfl)
abbrev cX1_count : ByteArray := prog_1_method_106_code
def yX1_count : MethodName := ⟨RX1, "count", "(I)I"⟩
def dkwX1_count_6 : List UInt8 := [42, 180, 0, 42, 182, 1, 56, 172, 2, 172]
abbrev dktX1_count_6 : List UInt8 := dkwX1_count_6 ++ []
def dkwX1_count_5 : List UInt8 := [180, 1, 205, 172, 44, 182, 2, 32, 172, 44, 182, 1, 226, 172, 44, 182, 1, 159, 172, 44, 180, 2, 41, 172]
abbrev dktX1_count_5 : List UInt8 := dkwX1_count_5 ++ dktX1_count_6
def dkwX1_count_4 : List UInt8 := [172, 44, 180, 0, 167, 172, 44, 180, 0, 169, 172, 44, 180, 1, 80, 172, 44, 180, 0, 171, 172, 44]
abbrev dktX1_count_4 : List UInt8 := dkwX1_count_4 ++ dktX1_count_5
def dkwX1_count_3 : List UInt8 := [180, 1, 67, 180, 1, 53, 182, 1, 56, 172, 44, 180, 0, 173, 172, 44, 180, 0, 160, 172, 44, 180, 0, 164]
abbrev dktX1_count_3 : List UInt8 := dkwX1_count_3 ++ dktX1_count_4
def dkwX1_count_2 : List UInt8 := [44, 180, 0, 92, 172, 44, 180, 0, 213, 172, 44, 180, 1, 67, 199, 0, 7, 2, 167, 0, 13, 44]
abbrev dktX1_count_2 : List UInt8 := dkwX1_count_2 ++ dktX1_count_3
def dkwX1_count_1 : List UInt8 := [170, 0, 0, 0, 0, 178, 0, 0, 0, 0, 0, 0, 0, 15, 0, 0, 0, 78, 0, 0, 0, 83, 0, 0, 0, 88, 0, 0, 0, 110, 0, 0, 0, 115, 0, 0, 0, 120, 0, 0, 0, 125, 0, 0, 0, 130, 0, 0, 0, 135, 0, 0, 0, 140, 0, 0, 0, 145, 0, 0, 0, 150, 0, 0, 0, 155, 0, 0, 0, 160, 0, 0, 0, 165, 0, 0, 0, 170]
abbrev dktX1_count_1 : List UInt8 := dkwX1_count_1 ++ dktX1_count_2
def dkwX1_count_0 : List UInt8 := [42, 180, 0, 10, 77, 27]
abbrev dktX1_count_0 : List UInt8 := dkwX1_count_0 ++ dktX1_count_1
theorem dksX1_count_0 : cX1_count.data.toList.drop 0 = dktX1_count_0 := by decide +kernel
theorem dksX1_count_1 : cX1_count.data.toList.drop 6 = dktX1_count_1 := dk_seg dksX1_count_0 6 rfl rfl
theorem dksX1_count_2 : cX1_count.data.toList.drop 84 = dktX1_count_2 := dk_seg dksX1_count_1 78 rfl rfl
theorem dksX1_count_3 : cX1_count.data.toList.drop 106 = dktX1_count_3 := dk_seg dksX1_count_2 22 rfl rfl
theorem dksX1_count_4 : cX1_count.data.toList.drop 130 = dktX1_count_4 := dk_seg dksX1_count_3 24 rfl rfl
theorem dksX1_count_5 : cX1_count.data.toList.drop 152 = dktX1_count_5 := dk_seg dksX1_count_4 22 rfl rfl
theorem dksX1_count_6 : cX1_count.data.toList.drop 176 = dktX1_count_6 := dk_seg dksX1_count_5 24 rfl rfl
theorem dX1_count_0 : decode cX1_count 0 = .ok (.aload_n 0, 1) := dk_42 (dk_at dksX1_count_0 0 rfl rfl)
theorem dX1_count_1 : decode cX1_count 1 = .ok (.getfield 10, 3) := dk_180 0 10 (dk_at dksX1_count_0 1 rfl rfl)
theorem dX1_count_4 : decode cX1_count 4 = .ok (.astore_n 2, 1) := dk_77 (dk_at dksX1_count_0 4 rfl rfl)
theorem dX1_count_5 : decode cX1_count 5 = .ok (.iload_n 1, 1) := dk_27 (dk_at dksX1_count_0 5 rfl rfl)
theorem dX1_count_6 : decode cX1_count 6 = .ok (.tableswitch 178 0 15 #[78, 83, 88, 110, 115, 120, 125, 130, 135, 140, 145, 150, 155, 160, 165, 170], 78) := by decide +kernel
theorem dX1_count_84 : decode cX1_count 84 = .ok (.aload_n 2, 1) := dk_44 (dk_at dksX1_count_2 0 rfl rfl)
theorem dX1_count_85 : decode cX1_count 85 = .ok (.getfield 92, 3) := dk_180 0 92 (dk_at dksX1_count_2 1 rfl rfl)
theorem dX1_count_88 : decode cX1_count 88 = .ok (.ireturn, 1) := dk_172 (dk_at dksX1_count_2 4 rfl rfl)
theorem dX1_count_89 : decode cX1_count 89 = .ok (.aload_n 2, 1) := dk_44 (dk_at dksX1_count_2 5 rfl rfl)
theorem dX1_count_90 : decode cX1_count 90 = .ok (.getfield 213, 3) := dk_180 0 213 (dk_at dksX1_count_2 6 rfl rfl)
theorem dX1_count_93 : decode cX1_count 93 = .ok (.ireturn, 1) := dk_172 (dk_at dksX1_count_2 9 rfl rfl)
theorem dX1_count_94 : decode cX1_count 94 = .ok (.aload_n 2, 1) := dk_44 (dk_at dksX1_count_2 10 rfl rfl)
theorem dX1_count_95 : decode cX1_count 95 = .ok (.getfield 323, 3) := dk_180 1 67 (dk_at dksX1_count_2 11 rfl rfl)
theorem dX1_count_98 : decode cX1_count 98 = .ok (.ifnonnull 7, 3) := dk_199 0 7 (dk_at dksX1_count_2 14 rfl rfl)
theorem dX1_count_101 : decode cX1_count 101 = .ok (.iconst (-1), 1) := dk_2 (dk_at dksX1_count_2 17 rfl rfl)
theorem dX1_count_102 : decode cX1_count 102 = .ok (.goto 13, 3) := dk_167 0 13 (dk_at dksX1_count_2 18 rfl rfl)
theorem dX1_count_105 : decode cX1_count 105 = .ok (.aload_n 2, 1) := dk_44 (dk_at dksX1_count_2 21 rfl rfl)
theorem dX1_count_106 : decode cX1_count 106 = .ok (.getfield 323, 3) := dk_180 1 67 (dk_at dksX1_count_3 0 rfl rfl)
theorem dX1_count_109 : decode cX1_count 109 = .ok (.getfield 309, 3) := dk_180 1 53 (dk_at dksX1_count_3 3 rfl rfl)
theorem dX1_count_112 : decode cX1_count 112 = .ok (.invokevirtual 312, 3) := dk_182 1 56 (dk_at dksX1_count_3 6 rfl rfl)
theorem dX1_count_115 : decode cX1_count 115 = .ok (.ireturn, 1) := dk_172 (dk_at dksX1_count_3 9 rfl rfl)
theorem dX1_count_116 : decode cX1_count 116 = .ok (.aload_n 2, 1) := dk_44 (dk_at dksX1_count_3 10 rfl rfl)
theorem dX1_count_117 : decode cX1_count 117 = .ok (.getfield 173, 3) := dk_180 0 173 (dk_at dksX1_count_3 11 rfl rfl)
theorem dX1_count_120 : decode cX1_count 120 = .ok (.ireturn, 1) := dk_172 (dk_at dksX1_count_3 14 rfl rfl)
theorem dX1_count_121 : decode cX1_count 121 = .ok (.aload_n 2, 1) := dk_44 (dk_at dksX1_count_3 15 rfl rfl)
theorem dX1_count_122 : decode cX1_count 122 = .ok (.getfield 160, 3) := dk_180 0 160 (dk_at dksX1_count_3 16 rfl rfl)
theorem dX1_count_125 : decode cX1_count 125 = .ok (.ireturn, 1) := dk_172 (dk_at dksX1_count_3 19 rfl rfl)
theorem dX1_count_126 : decode cX1_count 126 = .ok (.aload_n 2, 1) := dk_44 (dk_at dksX1_count_3 20 rfl rfl)
theorem dX1_count_127 : decode cX1_count 127 = .ok (.getfield 164, 3) := dk_180 0 164 (dk_at dksX1_count_3 21 rfl rfl)
theorem dX1_count_130 : decode cX1_count 130 = .ok (.ireturn, 1) := dk_172 (dk_at dksX1_count_4 0 rfl rfl)
theorem dX1_count_131 : decode cX1_count 131 = .ok (.aload_n 2, 1) := dk_44 (dk_at dksX1_count_4 1 rfl rfl)
theorem dX1_count_132 : decode cX1_count 132 = .ok (.getfield 167, 3) := dk_180 0 167 (dk_at dksX1_count_4 2 rfl rfl)
theorem dX1_count_135 : decode cX1_count 135 = .ok (.ireturn, 1) := dk_172 (dk_at dksX1_count_4 5 rfl rfl)
theorem dX1_count_136 : decode cX1_count 136 = .ok (.aload_n 2, 1) := dk_44 (dk_at dksX1_count_4 6 rfl rfl)
theorem dX1_count_137 : decode cX1_count 137 = .ok (.getfield 169, 3) := dk_180 0 169 (dk_at dksX1_count_4 7 rfl rfl)
theorem dX1_count_140 : decode cX1_count 140 = .ok (.ireturn, 1) := dk_172 (dk_at dksX1_count_4 10 rfl rfl)
theorem dX1_count_141 : decode cX1_count 141 = .ok (.aload_n 2, 1) := dk_44 (dk_at dksX1_count_4 11 rfl rfl)
theorem dX1_count_142 : decode cX1_count 142 = .ok (.getfield 336, 3) := dk_180 1 80 (dk_at dksX1_count_4 12 rfl rfl)
theorem dX1_count_145 : decode cX1_count 145 = .ok (.ireturn, 1) := dk_172 (dk_at dksX1_count_4 15 rfl rfl)
theorem dX1_count_146 : decode cX1_count 146 = .ok (.aload_n 2, 1) := dk_44 (dk_at dksX1_count_4 16 rfl rfl)
theorem dX1_count_147 : decode cX1_count 147 = .ok (.getfield 171, 3) := dk_180 0 171 (dk_at dksX1_count_4 17 rfl rfl)
theorem dX1_count_150 : decode cX1_count 150 = .ok (.ireturn, 1) := dk_172 (dk_at dksX1_count_4 20 rfl rfl)
theorem dX1_count_151 : decode cX1_count 151 = .ok (.aload_n 2, 1) := dk_44 (dk_at dksX1_count_4 21 rfl rfl)
theorem dX1_count_152 : decode cX1_count 152 = .ok (.getfield 461, 3) := dk_180 1 205 (dk_at dksX1_count_5 0 rfl rfl)
theorem dX1_count_155 : decode cX1_count 155 = .ok (.ireturn, 1) := dk_172 (dk_at dksX1_count_5 3 rfl rfl)
theorem dX1_count_156 : decode cX1_count 156 = .ok (.aload_n 2, 1) := dk_44 (dk_at dksX1_count_5 4 rfl rfl)
theorem dX1_count_157 : decode cX1_count 157 = .ok (.invokevirtual 544, 3) := dk_182 2 32 (dk_at dksX1_count_5 5 rfl rfl)
theorem dX1_count_160 : decode cX1_count 160 = .ok (.ireturn, 1) := dk_172 (dk_at dksX1_count_5 8 rfl rfl)
theorem dX1_count_161 : decode cX1_count 161 = .ok (.aload_n 2, 1) := dk_44 (dk_at dksX1_count_5 9 rfl rfl)
theorem dX1_count_162 : decode cX1_count 162 = .ok (.invokevirtual 482, 3) := dk_182 1 226 (dk_at dksX1_count_5 10 rfl rfl)
theorem dX1_count_165 : decode cX1_count 165 = .ok (.ireturn, 1) := dk_172 (dk_at dksX1_count_5 13 rfl rfl)
theorem dX1_count_166 : decode cX1_count 166 = .ok (.aload_n 2, 1) := dk_44 (dk_at dksX1_count_5 14 rfl rfl)
theorem dX1_count_167 : decode cX1_count 167 = .ok (.invokevirtual 415, 3) := dk_182 1 159 (dk_at dksX1_count_5 15 rfl rfl)
theorem dX1_count_170 : decode cX1_count 170 = .ok (.ireturn, 1) := dk_172 (dk_at dksX1_count_5 18 rfl rfl)
theorem dX1_count_171 : decode cX1_count 171 = .ok (.aload_n 2, 1) := dk_44 (dk_at dksX1_count_5 19 rfl rfl)
theorem dX1_count_172 : decode cX1_count 172 = .ok (.getfield 553, 3) := dk_180 2 41 (dk_at dksX1_count_5 20 rfl rfl)
theorem dX1_count_175 : decode cX1_count 175 = .ok (.ireturn, 1) := dk_172 (dk_at dksX1_count_5 23 rfl rfl)
theorem dX1_count_176 : decode cX1_count 176 = .ok (.aload_n 0, 1) := dk_42 (dk_at dksX1_count_6 0 rfl rfl)
theorem dX1_count_177 : decode cX1_count 177 = .ok (.getfield 42, 3) := dk_180 0 42 (dk_at dksX1_count_6 1 rfl rfl)
theorem dX1_count_180 : decode cX1_count 180 = .ok (.invokevirtual 312, 3) := dk_182 1 56 (dk_at dksX1_count_6 4 rfl rfl)
theorem dX1_count_183 : decode cX1_count 183 = .ok (.ireturn, 1) := dk_172 (dk_at dksX1_count_6 7 rfl rfl)
theorem dX1_count_184 : decode cX1_count 184 = .ok (.iconst (-1), 1) := dk_2 (dk_at dksX1_count_6 8 rfl rfl)
theorem dX1_count_185 : decode cX1_count 185 = .ok (.ireturn, 1) := dk_172 (dk_at dksX1_count_6 9 rfl rfl)
abbrev cX1_house : ByteArray := prog_1_method_16_code
def yX1_house : MethodName := ⟨RX1, "house", "()I"⟩
def dkwX1_house_4 : List UInt8 := [42, 180, 0, 10, 180, 0, 213, 172]
abbrev dktX1_house_4 : List UInt8 := dkwX1_house_4 ++ []
def dkwX1_house_3 : List UInt8 := [4, 96, 181, 0, 213, 42, 180, 0, 10, 42, 180, 0, 16, 182, 0, 201, 87, 42, 180, 0, 42, 182, 0, 219]
abbrev dktX1_house_3 : List UInt8 := dkwX1_house_3 ++ dktX1_house_4
def dkwX1_house_2 : List UInt8 := [180, 0, 213, 16, 12, 160, 0, 11, 187, 0, 216, 89, 183, 0, 218, 191, 42, 180, 0, 16, 89, 180, 0, 213]
abbrev dktX1_house_2 : List UInt8 := dkwX1_house_2 ++ dktX1_house_3
def dkwX1_house_1 : List UInt8 := [182, 0, 205, 42, 180, 0, 25, 2, 181, 0, 66, 167, 0, 8, 76, 42, 182, 0, 210, 42, 180, 0, 10]
abbrev dktX1_house_1 : List UInt8 := dkwX1_house_1 ++ dktX1_house_2
def dkwX1_house_0 : List UInt8 := [42, 180, 0, 25, 182, 0, 198, 42, 180, 0, 16, 42, 180, 0, 10, 182, 0, 201, 87, 42, 42, 180, 0, 16]
abbrev dktX1_house_0 : List UInt8 := dkwX1_house_0 ++ dktX1_house_1
theorem dksX1_house_0 : cX1_house.data.toList.drop 0 = dktX1_house_0 := by decide +kernel
theorem dksX1_house_1 : cX1_house.data.toList.drop 24 = dktX1_house_1 := dk_seg dksX1_house_0 24 rfl rfl
theorem dksX1_house_2 : cX1_house.data.toList.drop 47 = dktX1_house_2 := dk_seg dksX1_house_1 23 rfl rfl
theorem dksX1_house_3 : cX1_house.data.toList.drop 71 = dktX1_house_3 := dk_seg dksX1_house_2 24 rfl rfl
theorem dksX1_house_4 : cX1_house.data.toList.drop 95 = dktX1_house_4 := dk_seg dksX1_house_3 24 rfl rfl
theorem dX1_house_0 : decode cX1_house 0 = .ok (.aload_n 0, 1) := dk_42 (dk_at dksX1_house_0 0 rfl rfl)
theorem dX1_house_1 : decode cX1_house 1 = .ok (.getfield 25, 3) := dk_180 0 25 (dk_at dksX1_house_0 1 rfl rfl)
theorem dX1_house_4 : decode cX1_house 4 = .ok (.invokevirtual 198, 3) := dk_182 0 198 (dk_at dksX1_house_0 4 rfl rfl)
theorem dX1_house_7 : decode cX1_house 7 = .ok (.aload_n 0, 1) := dk_42 (dk_at dksX1_house_0 7 rfl rfl)
theorem dX1_house_8 : decode cX1_house 8 = .ok (.getfield 16, 3) := dk_180 0 16 (dk_at dksX1_house_0 8 rfl rfl)
theorem dX1_house_11 : decode cX1_house 11 = .ok (.aload_n 0, 1) := dk_42 (dk_at dksX1_house_0 11 rfl rfl)
theorem dX1_house_12 : decode cX1_house 12 = .ok (.getfield 10, 3) := dk_180 0 10 (dk_at dksX1_house_0 12 rfl rfl)
theorem dX1_house_15 : decode cX1_house 15 = .ok (.invokevirtual 201, 3) := dk_182 0 201 (dk_at dksX1_house_0 15 rfl rfl)
theorem dX1_house_18 : decode cX1_house 18 = .ok (.pop, 1) := dk_87 (dk_at dksX1_house_0 18 rfl rfl)
theorem dX1_house_19 : decode cX1_house 19 = .ok (.aload_n 0, 1) := dk_42 (dk_at dksX1_house_0 19 rfl rfl)
theorem dX1_house_20 : decode cX1_house 20 = .ok (.aload_n 0, 1) := dk_42 (dk_at dksX1_house_0 20 rfl rfl)
theorem dX1_house_21 : decode cX1_house 21 = .ok (.getfield 16, 3) := dk_180 0 16 (dk_at dksX1_house_0 21 rfl rfl)
theorem dX1_house_24 : decode cX1_house 24 = .ok (.invokevirtual 205, 3) := dk_182 0 205 (dk_at dksX1_house_1 0 rfl rfl)
theorem dX1_house_27 : decode cX1_house 27 = .ok (.aload_n 0, 1) := dk_42 (dk_at dksX1_house_1 3 rfl rfl)
theorem dX1_house_28 : decode cX1_house 28 = .ok (.getfield 25, 3) := dk_180 0 25 (dk_at dksX1_house_1 4 rfl rfl)
theorem dX1_house_31 : decode cX1_house 31 = .ok (.iconst (-1), 1) := dk_2 (dk_at dksX1_house_1 7 rfl rfl)
theorem dX1_house_32 : decode cX1_house 32 = .ok (.putfield 66, 3) := dk_181 0 66 (dk_at dksX1_house_1 8 rfl rfl)
theorem dX1_house_35 : decode cX1_house 35 = .ok (.goto 8, 3) := dk_167 0 8 (dk_at dksX1_house_1 11 rfl rfl)
theorem dX1_house_38 : decode cX1_house 38 = .ok (.astore_n 1, 1) := dk_76 (dk_at dksX1_house_1 14 rfl rfl)
theorem dX1_house_39 : decode cX1_house 39 = .ok (.aload_n 0, 1) := dk_42 (dk_at dksX1_house_1 15 rfl rfl)
theorem dX1_house_40 : decode cX1_house 40 = .ok (.invokevirtual 210, 3) := dk_182 0 210 (dk_at dksX1_house_1 16 rfl rfl)
theorem dX1_house_43 : decode cX1_house 43 = .ok (.aload_n 0, 1) := dk_42 (dk_at dksX1_house_1 19 rfl rfl)
theorem dX1_house_44 : decode cX1_house 44 = .ok (.getfield 10, 3) := dk_180 0 10 (dk_at dksX1_house_1 20 rfl rfl)
theorem dX1_house_47 : decode cX1_house 47 = .ok (.getfield 213, 3) := dk_180 0 213 (dk_at dksX1_house_2 0 rfl rfl)
theorem dX1_house_50 : decode cX1_house 50 = .ok (.bipush 12, 2) := dk_16 12 (dk_at dksX1_house_2 3 rfl rfl)
theorem dX1_house_52 : decode cX1_house 52 = .ok (.if_icmp .ne 11, 3) := dk_160 0 11 (dk_at dksX1_house_2 5 rfl rfl)
theorem dX1_house_55 : decode cX1_house 55 = .ok (.new 216, 3) := dk_187 0 216 (dk_at dksX1_house_2 8 rfl rfl)
theorem dX1_house_58 : decode cX1_house 58 = .ok (.dup, 1) := dk_89 (dk_at dksX1_house_2 11 rfl rfl)
theorem dX1_house_59 : decode cX1_house 59 = .ok (.invokespecial 218, 3) := dk_183 0 218 (dk_at dksX1_house_2 12 rfl rfl)
theorem dX1_house_62 : decode cX1_house 62 = .ok (.athrow, 1) := dk_191 (dk_at dksX1_house_2 15 rfl rfl)
theorem dX1_house_63 : decode cX1_house 63 = .ok (.aload_n 0, 1) := dk_42 (dk_at dksX1_house_2 16 rfl rfl)
theorem dX1_house_64 : decode cX1_house 64 = .ok (.getfield 16, 3) := dk_180 0 16 (dk_at dksX1_house_2 17 rfl rfl)
theorem dX1_house_67 : decode cX1_house 67 = .ok (.dup, 1) := dk_89 (dk_at dksX1_house_2 20 rfl rfl)
theorem dX1_house_68 : decode cX1_house 68 = .ok (.getfield 213, 3) := dk_180 0 213 (dk_at dksX1_house_2 21 rfl rfl)
theorem dX1_house_71 : decode cX1_house 71 = .ok (.iconst 1, 1) := dk_4 (dk_at dksX1_house_3 0 rfl rfl)
theorem dX1_house_72 : decode cX1_house 72 = .ok (.iadd, 1) := dk_96 (dk_at dksX1_house_3 1 rfl rfl)
theorem dX1_house_73 : decode cX1_house 73 = .ok (.putfield 213, 3) := dk_181 0 213 (dk_at dksX1_house_3 2 rfl rfl)
theorem dX1_house_76 : decode cX1_house 76 = .ok (.aload_n 0, 1) := dk_42 (dk_at dksX1_house_3 5 rfl rfl)
theorem dX1_house_77 : decode cX1_house 77 = .ok (.getfield 10, 3) := dk_180 0 10 (dk_at dksX1_house_3 6 rfl rfl)
theorem dX1_house_80 : decode cX1_house 80 = .ok (.aload_n 0, 1) := dk_42 (dk_at dksX1_house_3 9 rfl rfl)
theorem dX1_house_81 : decode cX1_house 81 = .ok (.getfield 16, 3) := dk_180 0 16 (dk_at dksX1_house_3 10 rfl rfl)
theorem dX1_house_84 : decode cX1_house 84 = .ok (.invokevirtual 201, 3) := dk_182 0 201 (dk_at dksX1_house_3 13 rfl rfl)
theorem dX1_house_87 : decode cX1_house 87 = .ok (.pop, 1) := dk_87 (dk_at dksX1_house_3 16 rfl rfl)
theorem dX1_house_88 : decode cX1_house 88 = .ok (.aload_n 0, 1) := dk_42 (dk_at dksX1_house_3 17 rfl rfl)
theorem dX1_house_89 : decode cX1_house 89 = .ok (.getfield 42, 3) := dk_180 0 42 (dk_at dksX1_house_3 18 rfl rfl)
theorem dX1_house_92 : decode cX1_house 92 = .ok (.invokevirtual 219, 3) := dk_182 0 219 (dk_at dksX1_house_3 21 rfl rfl)
theorem dX1_house_95 : decode cX1_house 95 = .ok (.aload_n 0, 1) := dk_42 (dk_at dksX1_house_4 0 rfl rfl)
theorem dX1_house_96 : decode cX1_house 96 = .ok (.getfield 10, 3) := dk_180 0 10 (dk_at dksX1_house_4 1 rfl rfl)
theorem dX1_house_99 : decode cX1_house 99 = .ok (.getfield 213, 3) := dk_180 0 213 (dk_at dksX1_house_4 4 rfl rfl)
theorem dX1_house_102 : decode cX1_house 102 = .ok (.ireturn, 1) := dk_172 (dk_at dksX1_house_4 7 rfl rfl)
abbrev cX1_houseText : ByteArray := prog_1_method_12_code
def yX1_houseText : MethodName := ⟨RX1, "houseText", "(LSaturdayKeep$World;)V"⟩
def dkwX1_houseText_1 : List UInt8 := [182, 0, 183, 132, 2, 1, 42, 182, 0, 186, 154, 255, 237, 177]
abbrev dktX1_houseText_1 : List UInt8 := dkwX1_houseText_1 ++ []
def dkwX1_houseText_0 : List UInt8 := [42, 180, 0, 25, 182, 0, 175, 153, 0, 4, 177, 3, 61, 42, 28, 16, 14, 182, 0, 179, 42, 43]
abbrev dktX1_houseText_0 : List UInt8 := dkwX1_houseText_0 ++ dktX1_houseText_1
theorem dksX1_houseText_0 : cX1_houseText.data.toList.drop 0 = dktX1_houseText_0 := by decide +kernel
theorem dksX1_houseText_1 : cX1_houseText.data.toList.drop 22 = dktX1_houseText_1 := dk_seg dksX1_houseText_0 22 rfl rfl
theorem dX1_houseText_0 : decode cX1_houseText 0 = .ok (.aload_n 0, 1) := dk_42 (dk_at dksX1_houseText_0 0 rfl rfl)
theorem dX1_houseText_1 : decode cX1_houseText 1 = .ok (.getfield 25, 3) := dk_180 0 25 (dk_at dksX1_houseText_0 1 rfl rfl)
theorem dX1_houseText_4 : decode cX1_houseText 4 = .ok (.invokevirtual 175, 3) := dk_182 0 175 (dk_at dksX1_houseText_0 4 rfl rfl)
theorem dX1_houseText_7 : decode cX1_houseText 7 = .ok (.ifCond .eq 4, 3) := dk_153 0 4 (dk_at dksX1_houseText_0 7 rfl rfl)
theorem dX1_houseText_10 : decode cX1_houseText 10 = .ok (.return_, 1) := dk_177 (dk_at dksX1_houseText_0 10 rfl rfl)
theorem dX1_houseText_11 : decode cX1_houseText 11 = .ok (.iconst 0, 1) := dk_3 (dk_at dksX1_houseText_0 11 rfl rfl)
theorem dX1_houseText_12 : decode cX1_houseText 12 = .ok (.istore_n 2, 1) := dk_61 (dk_at dksX1_houseText_0 12 rfl rfl)
theorem dX1_houseText_13 : decode cX1_houseText 13 = .ok (.aload_n 0, 1) := dk_42 (dk_at dksX1_houseText_0 13 rfl rfl)
theorem dX1_houseText_14 : decode cX1_houseText 14 = .ok (.iload_n 2, 1) := dk_28 (dk_at dksX1_houseText_0 14 rfl rfl)
theorem dX1_houseText_15 : decode cX1_houseText 15 = .ok (.bipush 14, 2) := dk_16 14 (dk_at dksX1_houseText_0 15 rfl rfl)
theorem dX1_houseText_17 : decode cX1_houseText 17 = .ok (.invokevirtual 179, 3) := dk_182 0 179 (dk_at dksX1_houseText_0 17 rfl rfl)
theorem dX1_houseText_20 : decode cX1_houseText 20 = .ok (.aload_n 0, 1) := dk_42 (dk_at dksX1_houseText_0 20 rfl rfl)
theorem dX1_houseText_21 : decode cX1_houseText 21 = .ok (.aload_n 1, 1) := dk_43 (dk_at dksX1_houseText_0 21 rfl rfl)
theorem dX1_houseText_22 : decode cX1_houseText 22 = .ok (.invokevirtual 183, 3) := dk_182 0 183 (dk_at dksX1_houseText_1 0 rfl rfl)
theorem dX1_houseText_25 : decode cX1_houseText 25 = .ok (.iinc 2 1, 3) := dk_132 2 1 (dk_at dksX1_houseText_1 3 rfl rfl)
theorem dX1_houseText_28 : decode cX1_houseText 28 = .ok (.aload_n 0, 1) := dk_42 (dk_at dksX1_houseText_1 6 rfl rfl)
theorem dX1_houseText_29 : decode cX1_houseText 29 = .ok (.invokevirtual 186, 3) := dk_182 0 186 (dk_at dksX1_houseText_1 7 rfl rfl)
theorem dX1_houseText_32 : decode cX1_houseText 32 = .ok (.ifCond .ne (-19), 3) := dk_154 255 237 (dk_at dksX1_houseText_1 10 rfl rfl)
theorem dX1_houseText_35 : decode cX1_houseText 35 = .ok (.return_, 1) := dk_177 (dk_at dksX1_houseText_1 13 rfl rfl)
abbrev cX1_noMore : ByteArray := prog_1_method_13_code
def yX1_noMore : MethodName := ⟨RX1, "noMore", "(II)V"⟩
def dkwX1_noMore_0 : List UInt8 := [27, 28, 162, 0, 4, 177, 42, 180, 0, 25, 182, 0, 70, 87, 42, 180, 0, 25, 182, 0, 80, 191]
abbrev dktX1_noMore_0 : List UInt8 := dkwX1_noMore_0 ++ []
theorem dksX1_noMore_0 : cX1_noMore.data.toList.drop 0 = dktX1_noMore_0 := by decide +kernel
theorem dX1_noMore_0 : decode cX1_noMore 0 = .ok (.iload_n 1, 1) := dk_27 (dk_at dksX1_noMore_0 0 rfl rfl)
theorem dX1_noMore_1 : decode cX1_noMore 1 = .ok (.iload_n 2, 1) := dk_28 (dk_at dksX1_noMore_0 1 rfl rfl)
theorem dX1_noMore_2 : decode cX1_noMore 2 = .ok (.if_icmp .ge 4, 3) := dk_162 0 4 (dk_at dksX1_noMore_0 2 rfl rfl)
theorem dX1_noMore_5 : decode cX1_noMore 5 = .ok (.return_, 1) := dk_177 (dk_at dksX1_noMore_0 5 rfl rfl)
theorem dX1_noMore_6 : decode cX1_noMore 6 = .ok (.aload_n 0, 1) := dk_42 (dk_at dksX1_noMore_0 6 rfl rfl)
theorem dX1_noMore_7 : decode cX1_noMore 7 = .ok (.getfield 25, 3) := dk_180 0 25 (dk_at dksX1_noMore_0 7 rfl rfl)
theorem dX1_noMore_10 : decode cX1_noMore 10 = .ok (.invokevirtual 70, 3) := dk_182 0 70 (dk_at dksX1_noMore_0 10 rfl rfl)
theorem dX1_noMore_13 : decode cX1_noMore 13 = .ok (.pop, 1) := dk_87 (dk_at dksX1_noMore_0 13 rfl rfl)
theorem dX1_noMore_14 : decode cX1_noMore 14 = .ok (.aload_n 0, 1) := dk_42 (dk_at dksX1_noMore_0 14 rfl rfl)
theorem dX1_noMore_15 : decode cX1_noMore 15 = .ok (.getfield 25, 3) := dk_180 0 25 (dk_at dksX1_noMore_0 15 rfl rfl)
theorem dX1_noMore_18 : decode cX1_noMore 18 = .ok (.invokevirtual 80, 3) := dk_182 0 80 (dk_at dksX1_noMore_0 18 rfl rfl)
theorem dX1_noMore_21 : decode cX1_noMore 21 = .ok (.athrow, 1) := dk_191 (dk_at dksX1_noMore_0 21 rfl rfl)
abbrev cX1_houseLine : ByteArray := prog_1_method_11_code
def yX1_houseLine : MethodName := ⟨RX1, "houseLine", "(LSaturdayKeep$World;)V"⟩
def dkwX1_houseLine_13 : List UInt8 := [3, 17, 3, 231, 182, 0, 88, 181, 0, 173, 177, 44, 182, 0, 80, 191]
abbrev dktX1_houseLine_13 : List UInt8 := dkwX1_houseLine_13 ++ []
def dkwX1_houseLine_12 : List UInt8 := [17, 3, 231, 182, 0, 88, 181, 0, 169, 177, 43, 44, 3, 16, 100, 182, 0, 88, 181, 0, 171, 177, 43, 44]
abbrev dktX1_houseLine_12 : List UInt8 := dkwX1_houseLine_12 ++ dktX1_houseLine_13
def dkwX1_houseLine_11 : List UInt8 := [182, 0, 88, 181, 0, 164, 177, 43, 44, 3, 16, 9, 182, 0, 88, 181, 0, 167, 177, 43, 44, 3]
abbrev dktX1_houseLine_11 : List UInt8 := dkwX1_houseLine_11 ++ dktX1_houseLine_12
def dkwX1_houseLine_10 : List UInt8 := [182, 0, 88, 54, 5, 43, 180, 0, 162, 21, 5, 44, 3, 16, 6, 182, 0, 88, 79, 177, 43, 44, 3, 4]
abbrev dktX1_houseLine_10 : List UInt8 := dkwX1_houseLine_10 ++ dktX1_houseLine_11
def dkwX1_houseLine_9 : List UInt8 := [42, 43, 182, 0, 153, 177, 42, 43, 182, 0, 157, 177, 43, 42, 182, 0, 125, 181, 0, 160, 177, 44, 3, 4]
abbrev dktX1_houseLine_9 : List UInt8 := dkwX1_houseLine_9 ++ dktX1_houseLine_10
def dkwX1_houseLine_8 : List UInt8 := [170, 0, 0, 0, 0, 0, 156, 0, 0, 0, 0, 0, 0, 0, 8, 0, 0, 0, 51, 0, 0, 0, 57, 0, 0, 0, 63, 0, 0, 0, 72, 0, 0, 0, 95, 0, 0, 0, 106, 0, 0, 0, 118, 0, 0, 0, 131, 0, 0, 0, 143]
abbrev dktX1_houseLine_8 : List UInt8 := dkwX1_houseLine_8 ++ dktX1_houseLine_9
def dkwX1_houseLine_7 : List UInt8 := [167, 0, 16, 45, 18, 151, 182, 0, 74, 153, 0, 7, 16, 8, 54, 4, 21, 4]
abbrev dktX1_houseLine_7 : List UInt8 := dkwX1_houseLine_7 ++ dktX1_houseLine_8
def dkwX1_houseLine_6 : List UInt8 := [153, 0, 39, 16, 6, 54, 4, 167, 0, 32, 45, 18, 149, 182, 0, 74, 153, 0, 23, 16, 7, 54, 4]
abbrev dktX1_houseLine_6 : List UInt8 := dkwX1_houseLine_6 ++ dktX1_houseLine_7
def dkwX1_houseLine_5 : List UInt8 := [167, 0, 63, 45, 18, 145, 182, 0, 74, 153, 0, 54, 8, 54, 4, 167, 0, 48, 45, 18, 147, 182, 0, 74]
abbrev dktX1_houseLine_5 : List UInt8 := dkwX1_houseLine_5 ++ dktX1_houseLine_6
def dkwX1_houseLine_4 : List UInt8 := [182, 0, 74, 153, 0, 84, 6, 54, 4, 167, 0, 78, 45, 18, 143, 182, 0, 74, 153, 0, 69, 7, 54, 4]
abbrev dktX1_houseLine_4 : List UInt8 := dkwX1_houseLine_4 ++ dktX1_houseLine_5
def dkwX1_houseLine_3 : List UInt8 := [4, 54, 4, 167, 0, 108, 45, 18, 139, 182, 0, 74, 153, 0, 99, 5, 54, 4, 167, 0, 93, 45, 18, 141]
abbrev dktX1_houseLine_3 : List UInt8 := dkwX1_houseLine_3 ++ dktX1_houseLine_4
def dkwX1_houseLine_2 : List UInt8 := [45, 18, 135, 182, 0, 74, 153, 0, 129, 3, 54, 4, 167, 0, 123, 45, 18, 137, 182, 0, 74, 153, 0, 114]
abbrev dktX1_houseLine_2 : List UInt8 := dkwX1_houseLine_2 ++ dktX1_houseLine_3
def dkwX1_houseLine_1 : List UInt8 := [171, 0, 0, 0, 0, 0, 218, 0, 0, 0, 9, 191, 141, 24, 181, 0, 0, 0, 158, 202, 212, 20, 174, 0, 0, 0, 173, 0, 1, 131, 156, 0, 0, 0, 205, 0, 46, 6, 243, 0, 0, 0, 113, 0, 46, 59, 64, 0, 0, 0, 189, 0, 48, 244, 192, 0, 0, 0, 98, 0, 50, 43, 133, 0, 0, 0, 143, 5, 226, 45, 216, 0, 0, 0, 83, 6, 133, 108, 130, 0, 0, 0, 128]
abbrev dktX1_houseLine_1 : List UInt8 := dkwX1_houseLine_1 ++ dktX1_houseLine_2
def dkwX1_houseLine_0 : List UInt8 := [42, 180, 0, 25, 77, 44, 182, 0, 70, 78, 2, 54, 4, 45, 182, 0, 132]
abbrev dktX1_houseLine_0 : List UInt8 := dkwX1_houseLine_0 ++ dktX1_houseLine_1
theorem dksX1_houseLine_0 : cX1_houseLine.data.toList.drop 0 = dktX1_houseLine_0 := by decide +kernel
theorem dksX1_houseLine_1 : cX1_houseLine.data.toList.drop 17 = dktX1_houseLine_1 := dk_seg dksX1_houseLine_0 17 rfl rfl
theorem dksX1_houseLine_2 : cX1_houseLine.data.toList.drop 100 = dktX1_houseLine_2 := dk_seg dksX1_houseLine_1 83 rfl rfl
theorem dksX1_houseLine_3 : cX1_houseLine.data.toList.drop 124 = dktX1_houseLine_3 := dk_seg dksX1_houseLine_2 24 rfl rfl
theorem dksX1_houseLine_4 : cX1_houseLine.data.toList.drop 148 = dktX1_houseLine_4 := dk_seg dksX1_houseLine_3 24 rfl rfl
theorem dksX1_houseLine_5 : cX1_houseLine.data.toList.drop 172 = dktX1_houseLine_5 := dk_seg dksX1_houseLine_4 24 rfl rfl
theorem dksX1_houseLine_6 : cX1_houseLine.data.toList.drop 196 = dktX1_houseLine_6 := dk_seg dksX1_houseLine_5 24 rfl rfl
theorem dksX1_houseLine_7 : cX1_houseLine.data.toList.drop 219 = dktX1_houseLine_7 := dk_seg dksX1_houseLine_6 23 rfl rfl
theorem dksX1_houseLine_8 : cX1_houseLine.data.toList.drop 237 = dktX1_houseLine_8 := dk_seg dksX1_houseLine_7 18 rfl rfl
theorem dksX1_houseLine_9 : cX1_houseLine.data.toList.drop 288 = dktX1_houseLine_9 := dk_seg dksX1_houseLine_8 51 rfl rfl
theorem dksX1_houseLine_10 : cX1_houseLine.data.toList.drop 312 = dktX1_houseLine_10 := dk_seg dksX1_houseLine_9 24 rfl rfl
theorem dksX1_houseLine_11 : cX1_houseLine.data.toList.drop 336 = dktX1_houseLine_11 := dk_seg dksX1_houseLine_10 24 rfl rfl
theorem dksX1_houseLine_12 : cX1_houseLine.data.toList.drop 358 = dktX1_houseLine_12 := dk_seg dksX1_houseLine_11 22 rfl rfl
theorem dksX1_houseLine_13 : cX1_houseLine.data.toList.drop 382 = dktX1_houseLine_13 := dk_seg dksX1_houseLine_12 24 rfl rfl
theorem dX1_houseLine_0 : decode cX1_houseLine 0 = .ok (.aload_n 0, 1) := dk_42 (dk_at dksX1_houseLine_0 0 rfl rfl)
theorem dX1_houseLine_1 : decode cX1_houseLine 1 = .ok (.getfield 25, 3) := dk_180 0 25 (dk_at dksX1_houseLine_0 1 rfl rfl)
theorem dX1_houseLine_4 : decode cX1_houseLine 4 = .ok (.astore_n 2, 1) := dk_77 (dk_at dksX1_houseLine_0 4 rfl rfl)
theorem dX1_houseLine_5 : decode cX1_houseLine 5 = .ok (.aload_n 2, 1) := dk_44 (dk_at dksX1_houseLine_0 5 rfl rfl)
theorem dX1_houseLine_6 : decode cX1_houseLine 6 = .ok (.invokevirtual 70, 3) := dk_182 0 70 (dk_at dksX1_houseLine_0 6 rfl rfl)
theorem dX1_houseLine_9 : decode cX1_houseLine 9 = .ok (.astore_n 3, 1) := dk_78 (dk_at dksX1_houseLine_0 9 rfl rfl)
theorem dX1_houseLine_10 : decode cX1_houseLine 10 = .ok (.iconst (-1), 1) := dk_2 (dk_at dksX1_houseLine_0 10 rfl rfl)
theorem dX1_houseLine_11 : decode cX1_houseLine 11 = .ok (.istore 4, 2) := dk_54 4 (dk_at dksX1_houseLine_0 11 rfl rfl)
theorem dX1_houseLine_13 : decode cX1_houseLine 13 = .ok (.aload_n 3, 1) := dk_45 (dk_at dksX1_houseLine_0 13 rfl rfl)
theorem dX1_houseLine_14 : decode cX1_houseLine 14 = .ok (.invokevirtual 132, 3) := dk_182 0 132 (dk_at dksX1_houseLine_0 14 rfl rfl)
theorem dX1_houseLine_17 : decode cX1_houseLine 17 = .ok (.lookupswitch 218 #[(-1081272139, 158), (-892070738, 173), (99228, 205), (3016435, 113), (3029824, 189), (3208384, 98), (3287941, 143), (98708952, 83), (109407362, 128)], 83) := by decide +kernel
theorem dX1_houseLine_100 : decode cX1_houseLine 100 = .ok (.aload_n 3, 1) := dk_45 (dk_at dksX1_houseLine_2 0 rfl rfl)
theorem dX1_houseLine_101 : decode cX1_houseLine 101 = .ok (.ldc 135, 2) := dk_18 135 (dk_at dksX1_houseLine_2 1 rfl rfl)
theorem dX1_houseLine_103 : decode cX1_houseLine 103 = .ok (.invokevirtual 74, 3) := dk_182 0 74 (dk_at dksX1_houseLine_2 3 rfl rfl)
theorem dX1_houseLine_106 : decode cX1_houseLine 106 = .ok (.ifCond .eq 129, 3) := dk_153 0 129 (dk_at dksX1_houseLine_2 6 rfl rfl)
theorem dX1_houseLine_109 : decode cX1_houseLine 109 = .ok (.iconst 0, 1) := dk_3 (dk_at dksX1_houseLine_2 9 rfl rfl)
theorem dX1_houseLine_110 : decode cX1_houseLine 110 = .ok (.istore 4, 2) := dk_54 4 (dk_at dksX1_houseLine_2 10 rfl rfl)
theorem dX1_houseLine_112 : decode cX1_houseLine 112 = .ok (.goto 123, 3) := dk_167 0 123 (dk_at dksX1_houseLine_2 12 rfl rfl)
theorem dX1_houseLine_115 : decode cX1_houseLine 115 = .ok (.aload_n 3, 1) := dk_45 (dk_at dksX1_houseLine_2 15 rfl rfl)
theorem dX1_houseLine_116 : decode cX1_houseLine 116 = .ok (.ldc 137, 2) := dk_18 137 (dk_at dksX1_houseLine_2 16 rfl rfl)
theorem dX1_houseLine_118 : decode cX1_houseLine 118 = .ok (.invokevirtual 74, 3) := dk_182 0 74 (dk_at dksX1_houseLine_2 18 rfl rfl)
theorem dX1_houseLine_121 : decode cX1_houseLine 121 = .ok (.ifCond .eq 114, 3) := dk_153 0 114 (dk_at dksX1_houseLine_2 21 rfl rfl)
theorem dX1_houseLine_124 : decode cX1_houseLine 124 = .ok (.iconst 1, 1) := dk_4 (dk_at dksX1_houseLine_3 0 rfl rfl)
theorem dX1_houseLine_125 : decode cX1_houseLine 125 = .ok (.istore 4, 2) := dk_54 4 (dk_at dksX1_houseLine_3 1 rfl rfl)
theorem dX1_houseLine_127 : decode cX1_houseLine 127 = .ok (.goto 108, 3) := dk_167 0 108 (dk_at dksX1_houseLine_3 3 rfl rfl)
theorem dX1_houseLine_130 : decode cX1_houseLine 130 = .ok (.aload_n 3, 1) := dk_45 (dk_at dksX1_houseLine_3 6 rfl rfl)
theorem dX1_houseLine_131 : decode cX1_houseLine 131 = .ok (.ldc 139, 2) := dk_18 139 (dk_at dksX1_houseLine_3 7 rfl rfl)
theorem dX1_houseLine_133 : decode cX1_houseLine 133 = .ok (.invokevirtual 74, 3) := dk_182 0 74 (dk_at dksX1_houseLine_3 9 rfl rfl)
theorem dX1_houseLine_136 : decode cX1_houseLine 136 = .ok (.ifCond .eq 99, 3) := dk_153 0 99 (dk_at dksX1_houseLine_3 12 rfl rfl)
theorem dX1_houseLine_139 : decode cX1_houseLine 139 = .ok (.iconst 2, 1) := dk_5 (dk_at dksX1_houseLine_3 15 rfl rfl)
theorem dX1_houseLine_140 : decode cX1_houseLine 140 = .ok (.istore 4, 2) := dk_54 4 (dk_at dksX1_houseLine_3 16 rfl rfl)
theorem dX1_houseLine_142 : decode cX1_houseLine 142 = .ok (.goto 93, 3) := dk_167 0 93 (dk_at dksX1_houseLine_3 18 rfl rfl)
theorem dX1_houseLine_145 : decode cX1_houseLine 145 = .ok (.aload_n 3, 1) := dk_45 (dk_at dksX1_houseLine_3 21 rfl rfl)
theorem dX1_houseLine_146 : decode cX1_houseLine 146 = .ok (.ldc 141, 2) := dk_18 141 (dk_at dksX1_houseLine_3 22 rfl rfl)
theorem dX1_houseLine_148 : decode cX1_houseLine 148 = .ok (.invokevirtual 74, 3) := dk_182 0 74 (dk_at dksX1_houseLine_4 0 rfl rfl)
theorem dX1_houseLine_151 : decode cX1_houseLine 151 = .ok (.ifCond .eq 84, 3) := dk_153 0 84 (dk_at dksX1_houseLine_4 3 rfl rfl)
theorem dX1_houseLine_154 : decode cX1_houseLine 154 = .ok (.iconst 3, 1) := dk_6 (dk_at dksX1_houseLine_4 6 rfl rfl)
theorem dX1_houseLine_155 : decode cX1_houseLine 155 = .ok (.istore 4, 2) := dk_54 4 (dk_at dksX1_houseLine_4 7 rfl rfl)
theorem dX1_houseLine_157 : decode cX1_houseLine 157 = .ok (.goto 78, 3) := dk_167 0 78 (dk_at dksX1_houseLine_4 9 rfl rfl)
theorem dX1_houseLine_160 : decode cX1_houseLine 160 = .ok (.aload_n 3, 1) := dk_45 (dk_at dksX1_houseLine_4 12 rfl rfl)
theorem dX1_houseLine_161 : decode cX1_houseLine 161 = .ok (.ldc 143, 2) := dk_18 143 (dk_at dksX1_houseLine_4 13 rfl rfl)
theorem dX1_houseLine_163 : decode cX1_houseLine 163 = .ok (.invokevirtual 74, 3) := dk_182 0 74 (dk_at dksX1_houseLine_4 15 rfl rfl)
theorem dX1_houseLine_166 : decode cX1_houseLine 166 = .ok (.ifCond .eq 69, 3) := dk_153 0 69 (dk_at dksX1_houseLine_4 18 rfl rfl)
theorem dX1_houseLine_169 : decode cX1_houseLine 169 = .ok (.iconst 4, 1) := dk_7 (dk_at dksX1_houseLine_4 21 rfl rfl)
theorem dX1_houseLine_170 : decode cX1_houseLine 170 = .ok (.istore 4, 2) := dk_54 4 (dk_at dksX1_houseLine_4 22 rfl rfl)
theorem dX1_houseLine_172 : decode cX1_houseLine 172 = .ok (.goto 63, 3) := dk_167 0 63 (dk_at dksX1_houseLine_5 0 rfl rfl)
theorem dX1_houseLine_175 : decode cX1_houseLine 175 = .ok (.aload_n 3, 1) := dk_45 (dk_at dksX1_houseLine_5 3 rfl rfl)
theorem dX1_houseLine_176 : decode cX1_houseLine 176 = .ok (.ldc 145, 2) := dk_18 145 (dk_at dksX1_houseLine_5 4 rfl rfl)
theorem dX1_houseLine_178 : decode cX1_houseLine 178 = .ok (.invokevirtual 74, 3) := dk_182 0 74 (dk_at dksX1_houseLine_5 6 rfl rfl)
theorem dX1_houseLine_181 : decode cX1_houseLine 181 = .ok (.ifCond .eq 54, 3) := dk_153 0 54 (dk_at dksX1_houseLine_5 9 rfl rfl)
theorem dX1_houseLine_184 : decode cX1_houseLine 184 = .ok (.iconst 5, 1) := dk_8 (dk_at dksX1_houseLine_5 12 rfl rfl)
theorem dX1_houseLine_185 : decode cX1_houseLine 185 = .ok (.istore 4, 2) := dk_54 4 (dk_at dksX1_houseLine_5 13 rfl rfl)
theorem dX1_houseLine_187 : decode cX1_houseLine 187 = .ok (.goto 48, 3) := dk_167 0 48 (dk_at dksX1_houseLine_5 15 rfl rfl)
theorem dX1_houseLine_190 : decode cX1_houseLine 190 = .ok (.aload_n 3, 1) := dk_45 (dk_at dksX1_houseLine_5 18 rfl rfl)
theorem dX1_houseLine_191 : decode cX1_houseLine 191 = .ok (.ldc 147, 2) := dk_18 147 (dk_at dksX1_houseLine_5 19 rfl rfl)
theorem dX1_houseLine_193 : decode cX1_houseLine 193 = .ok (.invokevirtual 74, 3) := dk_182 0 74 (dk_at dksX1_houseLine_5 21 rfl rfl)
theorem dX1_houseLine_196 : decode cX1_houseLine 196 = .ok (.ifCond .eq 39, 3) := dk_153 0 39 (dk_at dksX1_houseLine_6 0 rfl rfl)
theorem dX1_houseLine_199 : decode cX1_houseLine 199 = .ok (.bipush 6, 2) := dk_16 6 (dk_at dksX1_houseLine_6 3 rfl rfl)
theorem dX1_houseLine_201 : decode cX1_houseLine 201 = .ok (.istore 4, 2) := dk_54 4 (dk_at dksX1_houseLine_6 5 rfl rfl)
theorem dX1_houseLine_203 : decode cX1_houseLine 203 = .ok (.goto 32, 3) := dk_167 0 32 (dk_at dksX1_houseLine_6 7 rfl rfl)
theorem dX1_houseLine_206 : decode cX1_houseLine 206 = .ok (.aload_n 3, 1) := dk_45 (dk_at dksX1_houseLine_6 10 rfl rfl)
theorem dX1_houseLine_207 : decode cX1_houseLine 207 = .ok (.ldc 149, 2) := dk_18 149 (dk_at dksX1_houseLine_6 11 rfl rfl)
theorem dX1_houseLine_209 : decode cX1_houseLine 209 = .ok (.invokevirtual 74, 3) := dk_182 0 74 (dk_at dksX1_houseLine_6 13 rfl rfl)
theorem dX1_houseLine_212 : decode cX1_houseLine 212 = .ok (.ifCond .eq 23, 3) := dk_153 0 23 (dk_at dksX1_houseLine_6 16 rfl rfl)
theorem dX1_houseLine_215 : decode cX1_houseLine 215 = .ok (.bipush 7, 2) := dk_16 7 (dk_at dksX1_houseLine_6 19 rfl rfl)
theorem dX1_houseLine_217 : decode cX1_houseLine 217 = .ok (.istore 4, 2) := dk_54 4 (dk_at dksX1_houseLine_6 21 rfl rfl)
theorem dX1_houseLine_219 : decode cX1_houseLine 219 = .ok (.goto 16, 3) := dk_167 0 16 (dk_at dksX1_houseLine_7 0 rfl rfl)
theorem dX1_houseLine_222 : decode cX1_houseLine 222 = .ok (.aload_n 3, 1) := dk_45 (dk_at dksX1_houseLine_7 3 rfl rfl)
theorem dX1_houseLine_223 : decode cX1_houseLine 223 = .ok (.ldc 151, 2) := dk_18 151 (dk_at dksX1_houseLine_7 4 rfl rfl)
theorem dX1_houseLine_225 : decode cX1_houseLine 225 = .ok (.invokevirtual 74, 3) := dk_182 0 74 (dk_at dksX1_houseLine_7 6 rfl rfl)
theorem dX1_houseLine_228 : decode cX1_houseLine 228 = .ok (.ifCond .eq 7, 3) := dk_153 0 7 (dk_at dksX1_houseLine_7 9 rfl rfl)
theorem dX1_houseLine_231 : decode cX1_houseLine 231 = .ok (.bipush 8, 2) := dk_16 8 (dk_at dksX1_houseLine_7 12 rfl rfl)
theorem dX1_houseLine_233 : decode cX1_houseLine 233 = .ok (.istore 4, 2) := dk_54 4 (dk_at dksX1_houseLine_7 14 rfl rfl)
theorem dX1_houseLine_235 : decode cX1_houseLine 235 = .ok (.iload 4, 2) := dk_21 4 (dk_at dksX1_houseLine_7 16 rfl rfl)
theorem dX1_houseLine_237 : decode cX1_houseLine 237 = .ok (.tableswitch 156 0 8 #[51, 57, 63, 72, 95, 106, 118, 131, 143], 51) := by decide +kernel
theorem dX1_houseLine_288 : decode cX1_houseLine 288 = .ok (.aload_n 0, 1) := dk_42 (dk_at dksX1_houseLine_9 0 rfl rfl)
theorem dX1_houseLine_289 : decode cX1_houseLine 289 = .ok (.aload_n 1, 1) := dk_43 (dk_at dksX1_houseLine_9 1 rfl rfl)
theorem dX1_houseLine_290 : decode cX1_houseLine 290 = .ok (.invokevirtual 153, 3) := dk_182 0 153 (dk_at dksX1_houseLine_9 2 rfl rfl)
theorem dX1_houseLine_293 : decode cX1_houseLine 293 = .ok (.return_, 1) := dk_177 (dk_at dksX1_houseLine_9 5 rfl rfl)
theorem dX1_houseLine_294 : decode cX1_houseLine 294 = .ok (.aload_n 0, 1) := dk_42 (dk_at dksX1_houseLine_9 6 rfl rfl)
theorem dX1_houseLine_295 : decode cX1_houseLine 295 = .ok (.aload_n 1, 1) := dk_43 (dk_at dksX1_houseLine_9 7 rfl rfl)
theorem dX1_houseLine_296 : decode cX1_houseLine 296 = .ok (.invokevirtual 157, 3) := dk_182 0 157 (dk_at dksX1_houseLine_9 8 rfl rfl)
theorem dX1_houseLine_299 : decode cX1_houseLine 299 = .ok (.return_, 1) := dk_177 (dk_at dksX1_houseLine_9 11 rfl rfl)
theorem dX1_houseLine_300 : decode cX1_houseLine 300 = .ok (.aload_n 1, 1) := dk_43 (dk_at dksX1_houseLine_9 12 rfl rfl)
theorem dX1_houseLine_301 : decode cX1_houseLine 301 = .ok (.aload_n 0, 1) := dk_42 (dk_at dksX1_houseLine_9 13 rfl rfl)
theorem dX1_houseLine_302 : decode cX1_houseLine 302 = .ok (.invokevirtual 125, 3) := dk_182 0 125 (dk_at dksX1_houseLine_9 14 rfl rfl)
theorem dX1_houseLine_305 : decode cX1_houseLine 305 = .ok (.putfield 160, 3) := dk_181 0 160 (dk_at dksX1_houseLine_9 17 rfl rfl)
theorem dX1_houseLine_308 : decode cX1_houseLine 308 = .ok (.return_, 1) := dk_177 (dk_at dksX1_houseLine_9 20 rfl rfl)
theorem dX1_houseLine_309 : decode cX1_houseLine 309 = .ok (.aload_n 2, 1) := dk_44 (dk_at dksX1_houseLine_9 21 rfl rfl)
theorem dX1_houseLine_310 : decode cX1_houseLine 310 = .ok (.iconst 0, 1) := dk_3 (dk_at dksX1_houseLine_9 22 rfl rfl)
theorem dX1_houseLine_311 : decode cX1_houseLine 311 = .ok (.iconst 1, 1) := dk_4 (dk_at dksX1_houseLine_9 23 rfl rfl)
theorem dX1_houseLine_312 : decode cX1_houseLine 312 = .ok (.invokevirtual 88, 3) := dk_182 0 88 (dk_at dksX1_houseLine_10 0 rfl rfl)
theorem dX1_houseLine_315 : decode cX1_houseLine 315 = .ok (.istore 5, 2) := dk_54 5 (dk_at dksX1_houseLine_10 3 rfl rfl)
theorem dX1_houseLine_317 : decode cX1_houseLine 317 = .ok (.aload_n 1, 1) := dk_43 (dk_at dksX1_houseLine_10 5 rfl rfl)
theorem dX1_houseLine_318 : decode cX1_houseLine 318 = .ok (.getfield 162, 3) := dk_180 0 162 (dk_at dksX1_houseLine_10 6 rfl rfl)
theorem dX1_houseLine_321 : decode cX1_houseLine 321 = .ok (.iload 5, 2) := dk_21 5 (dk_at dksX1_houseLine_10 9 rfl rfl)
theorem dX1_houseLine_323 : decode cX1_houseLine 323 = .ok (.aload_n 2, 1) := dk_44 (dk_at dksX1_houseLine_10 11 rfl rfl)
theorem dX1_houseLine_324 : decode cX1_houseLine 324 = .ok (.iconst 0, 1) := dk_3 (dk_at dksX1_houseLine_10 12 rfl rfl)
theorem dX1_houseLine_325 : decode cX1_houseLine 325 = .ok (.bipush 6, 2) := dk_16 6 (dk_at dksX1_houseLine_10 13 rfl rfl)
theorem dX1_houseLine_327 : decode cX1_houseLine 327 = .ok (.invokevirtual 88, 3) := dk_182 0 88 (dk_at dksX1_houseLine_10 15 rfl rfl)
theorem dX1_houseLine_330 : decode cX1_houseLine 330 = .ok (.iastore, 1) := dk_79 (dk_at dksX1_houseLine_10 18 rfl rfl)
theorem dX1_houseLine_331 : decode cX1_houseLine 331 = .ok (.return_, 1) := dk_177 (dk_at dksX1_houseLine_10 19 rfl rfl)
theorem dX1_houseLine_332 : decode cX1_houseLine 332 = .ok (.aload_n 1, 1) := dk_43 (dk_at dksX1_houseLine_10 20 rfl rfl)
theorem dX1_houseLine_333 : decode cX1_houseLine 333 = .ok (.aload_n 2, 1) := dk_44 (dk_at dksX1_houseLine_10 21 rfl rfl)
theorem dX1_houseLine_334 : decode cX1_houseLine 334 = .ok (.iconst 0, 1) := dk_3 (dk_at dksX1_houseLine_10 22 rfl rfl)
theorem dX1_houseLine_335 : decode cX1_houseLine 335 = .ok (.iconst 1, 1) := dk_4 (dk_at dksX1_houseLine_10 23 rfl rfl)
theorem dX1_houseLine_336 : decode cX1_houseLine 336 = .ok (.invokevirtual 88, 3) := dk_182 0 88 (dk_at dksX1_houseLine_11 0 rfl rfl)
theorem dX1_houseLine_339 : decode cX1_houseLine 339 = .ok (.putfield 164, 3) := dk_181 0 164 (dk_at dksX1_houseLine_11 3 rfl rfl)
theorem dX1_houseLine_342 : decode cX1_houseLine 342 = .ok (.return_, 1) := dk_177 (dk_at dksX1_houseLine_11 6 rfl rfl)
theorem dX1_houseLine_343 : decode cX1_houseLine 343 = .ok (.aload_n 1, 1) := dk_43 (dk_at dksX1_houseLine_11 7 rfl rfl)
theorem dX1_houseLine_344 : decode cX1_houseLine 344 = .ok (.aload_n 2, 1) := dk_44 (dk_at dksX1_houseLine_11 8 rfl rfl)
theorem dX1_houseLine_345 : decode cX1_houseLine 345 = .ok (.iconst 0, 1) := dk_3 (dk_at dksX1_houseLine_11 9 rfl rfl)
theorem dX1_houseLine_346 : decode cX1_houseLine 346 = .ok (.bipush 9, 2) := dk_16 9 (dk_at dksX1_houseLine_11 10 rfl rfl)
theorem dX1_houseLine_348 : decode cX1_houseLine 348 = .ok (.invokevirtual 88, 3) := dk_182 0 88 (dk_at dksX1_houseLine_11 12 rfl rfl)
theorem dX1_houseLine_351 : decode cX1_houseLine 351 = .ok (.putfield 167, 3) := dk_181 0 167 (dk_at dksX1_houseLine_11 15 rfl rfl)
theorem dX1_houseLine_354 : decode cX1_houseLine 354 = .ok (.return_, 1) := dk_177 (dk_at dksX1_houseLine_11 18 rfl rfl)
theorem dX1_houseLine_355 : decode cX1_houseLine 355 = .ok (.aload_n 1, 1) := dk_43 (dk_at dksX1_houseLine_11 19 rfl rfl)
theorem dX1_houseLine_356 : decode cX1_houseLine 356 = .ok (.aload_n 2, 1) := dk_44 (dk_at dksX1_houseLine_11 20 rfl rfl)
theorem dX1_houseLine_357 : decode cX1_houseLine 357 = .ok (.iconst 0, 1) := dk_3 (dk_at dksX1_houseLine_11 21 rfl rfl)
theorem dX1_houseLine_358 : decode cX1_houseLine 358 = .ok (.sipush 999, 3) := dk_17 3 231 (dk_at dksX1_houseLine_12 0 rfl rfl)
theorem dX1_houseLine_361 : decode cX1_houseLine 361 = .ok (.invokevirtual 88, 3) := dk_182 0 88 (dk_at dksX1_houseLine_12 3 rfl rfl)
theorem dX1_houseLine_364 : decode cX1_houseLine 364 = .ok (.putfield 169, 3) := dk_181 0 169 (dk_at dksX1_houseLine_12 6 rfl rfl)
theorem dX1_houseLine_367 : decode cX1_houseLine 367 = .ok (.return_, 1) := dk_177 (dk_at dksX1_houseLine_12 9 rfl rfl)
theorem dX1_houseLine_368 : decode cX1_houseLine 368 = .ok (.aload_n 1, 1) := dk_43 (dk_at dksX1_houseLine_12 10 rfl rfl)
theorem dX1_houseLine_369 : decode cX1_houseLine 369 = .ok (.aload_n 2, 1) := dk_44 (dk_at dksX1_houseLine_12 11 rfl rfl)
theorem dX1_houseLine_370 : decode cX1_houseLine 370 = .ok (.iconst 0, 1) := dk_3 (dk_at dksX1_houseLine_12 12 rfl rfl)
theorem dX1_houseLine_371 : decode cX1_houseLine 371 = .ok (.bipush 100, 2) := dk_16 100 (dk_at dksX1_houseLine_12 13 rfl rfl)
theorem dX1_houseLine_373 : decode cX1_houseLine 373 = .ok (.invokevirtual 88, 3) := dk_182 0 88 (dk_at dksX1_houseLine_12 15 rfl rfl)
theorem dX1_houseLine_376 : decode cX1_houseLine 376 = .ok (.putfield 171, 3) := dk_181 0 171 (dk_at dksX1_houseLine_12 18 rfl rfl)
theorem dX1_houseLine_379 : decode cX1_houseLine 379 = .ok (.return_, 1) := dk_177 (dk_at dksX1_houseLine_12 21 rfl rfl)
theorem dX1_houseLine_380 : decode cX1_houseLine 380 = .ok (.aload_n 1, 1) := dk_43 (dk_at dksX1_houseLine_12 22 rfl rfl)
theorem dX1_houseLine_381 : decode cX1_houseLine 381 = .ok (.aload_n 2, 1) := dk_44 (dk_at dksX1_houseLine_12 23 rfl rfl)
theorem dX1_houseLine_382 : decode cX1_houseLine 382 = .ok (.iconst 0, 1) := dk_3 (dk_at dksX1_houseLine_13 0 rfl rfl)
theorem dX1_houseLine_383 : decode cX1_houseLine 383 = .ok (.sipush 999, 3) := dk_17 3 231 (dk_at dksX1_houseLine_13 1 rfl rfl)
theorem dX1_houseLine_386 : decode cX1_houseLine 386 = .ok (.invokevirtual 88, 3) := dk_182 0 88 (dk_at dksX1_houseLine_13 4 rfl rfl)
theorem dX1_houseLine_389 : decode cX1_houseLine 389 = .ok (.putfield 173, 3) := dk_181 0 173 (dk_at dksX1_houseLine_13 7 rfl rfl)
theorem dX1_houseLine_392 : decode cX1_houseLine 392 = .ok (.return_, 1) := dk_177 (dk_at dksX1_houseLine_13 10 rfl rfl)
theorem dX1_houseLine_393 : decode cX1_houseLine 393 = .ok (.aload_n 2, 1) := dk_44 (dk_at dksX1_houseLine_13 11 rfl rfl)
theorem dX1_houseLine_394 : decode cX1_houseLine 394 = .ok (.invokevirtual 80, 3) := dk_182 0 80 (dk_at dksX1_houseLine_13 12 rfl rfl)
theorem dX1_houseLine_397 : decode cX1_houseLine 397 = .ok (.athrow, 1) := dk_191 (dk_at dksX1_houseLine_13 15 rfl rfl)
abbrev cX1_aGuest : ByteArray := prog_1_method_9_code
def yX1_aGuest : MethodName := ⟨RX1, "aGuest", "(LSaturdayKeep$World;)V"⟩
def dkwX1_aGuest_4 : List UInt8 := [29, 4, 84, 43, 89, 180, 0, 92, 4, 96, 181, 0, 92, 177]
abbrev dktX1_aGuest_4 : List UInt8 := dkwX1_aGuest_4 ++ []
def dkwX1_aGuest_3 : List UInt8 := [182, 0, 88, 167, 0, 4, 3, 79, 43, 180, 0, 117, 29, 44, 18, 121, 182, 0, 113, 84, 43, 180, 0, 122]
abbrev dktX1_aGuest_3 : List UInt8 := dkwX1_aGuest_3 ++ dktX1_aGuest_4
def dkwX1_aGuest_2 : List UInt8 := [16, 7, 182, 0, 100, 79, 43, 180, 0, 109, 29, 44, 18, 112, 182, 0, 113, 153, 0, 13, 44, 3, 16, 99]
abbrev dktX1_aGuest_2 : List UInt8 := dkwX1_aGuest_2 ++ dktX1_aGuest_3
def dkwX1_aGuest_1 : List UInt8 := [180, 0, 95, 29, 42, 18, 99, 3, 16, 10, 182, 0, 100, 79, 43, 180, 0, 104, 29, 42, 18, 107, 3]
abbrev dktX1_aGuest_1 : List UInt8 := dkwX1_aGuest_1 ++ dktX1_aGuest_2
def dkwX1_aGuest_0 : List UInt8 := [42, 180, 0, 25, 77, 43, 180, 0, 92, 62, 29, 16, 8, 160, 0, 8, 44, 182, 0, 80, 191, 43]
abbrev dktX1_aGuest_0 : List UInt8 := dkwX1_aGuest_0 ++ dktX1_aGuest_1
theorem dksX1_aGuest_0 : cX1_aGuest.data.toList.drop 0 = dktX1_aGuest_0 := by decide +kernel
theorem dksX1_aGuest_1 : cX1_aGuest.data.toList.drop 22 = dktX1_aGuest_1 := dk_seg dksX1_aGuest_0 22 rfl rfl
theorem dksX1_aGuest_2 : cX1_aGuest.data.toList.drop 45 = dktX1_aGuest_2 := dk_seg dksX1_aGuest_1 23 rfl rfl
theorem dksX1_aGuest_3 : cX1_aGuest.data.toList.drop 69 = dktX1_aGuest_3 := dk_seg dksX1_aGuest_2 24 rfl rfl
theorem dksX1_aGuest_4 : cX1_aGuest.data.toList.drop 93 = dktX1_aGuest_4 := dk_seg dksX1_aGuest_3 24 rfl rfl
theorem dX1_aGuest_0 : decode cX1_aGuest 0 = .ok (.aload_n 0, 1) := dk_42 (dk_at dksX1_aGuest_0 0 rfl rfl)
theorem dX1_aGuest_1 : decode cX1_aGuest 1 = .ok (.getfield 25, 3) := dk_180 0 25 (dk_at dksX1_aGuest_0 1 rfl rfl)
theorem dX1_aGuest_4 : decode cX1_aGuest 4 = .ok (.astore_n 2, 1) := dk_77 (dk_at dksX1_aGuest_0 4 rfl rfl)
theorem dX1_aGuest_5 : decode cX1_aGuest 5 = .ok (.aload_n 1, 1) := dk_43 (dk_at dksX1_aGuest_0 5 rfl rfl)
theorem dX1_aGuest_6 : decode cX1_aGuest 6 = .ok (.getfield 92, 3) := dk_180 0 92 (dk_at dksX1_aGuest_0 6 rfl rfl)
theorem dX1_aGuest_9 : decode cX1_aGuest 9 = .ok (.istore_n 3, 1) := dk_62 (dk_at dksX1_aGuest_0 9 rfl rfl)
theorem dX1_aGuest_10 : decode cX1_aGuest 10 = .ok (.iload_n 3, 1) := dk_29 (dk_at dksX1_aGuest_0 10 rfl rfl)
theorem dX1_aGuest_11 : decode cX1_aGuest 11 = .ok (.bipush 8, 2) := dk_16 8 (dk_at dksX1_aGuest_0 11 rfl rfl)
theorem dX1_aGuest_13 : decode cX1_aGuest 13 = .ok (.if_icmp .ne 8, 3) := dk_160 0 8 (dk_at dksX1_aGuest_0 13 rfl rfl)
theorem dX1_aGuest_16 : decode cX1_aGuest 16 = .ok (.aload_n 2, 1) := dk_44 (dk_at dksX1_aGuest_0 16 rfl rfl)
theorem dX1_aGuest_17 : decode cX1_aGuest 17 = .ok (.invokevirtual 80, 3) := dk_182 0 80 (dk_at dksX1_aGuest_0 17 rfl rfl)
theorem dX1_aGuest_20 : decode cX1_aGuest 20 = .ok (.athrow, 1) := dk_191 (dk_at dksX1_aGuest_0 20 rfl rfl)
theorem dX1_aGuest_21 : decode cX1_aGuest 21 = .ok (.aload_n 1, 1) := dk_43 (dk_at dksX1_aGuest_0 21 rfl rfl)
theorem dX1_aGuest_22 : decode cX1_aGuest 22 = .ok (.getfield 95, 3) := dk_180 0 95 (dk_at dksX1_aGuest_1 0 rfl rfl)
theorem dX1_aGuest_25 : decode cX1_aGuest 25 = .ok (.iload_n 3, 1) := dk_29 (dk_at dksX1_aGuest_1 3 rfl rfl)
theorem dX1_aGuest_26 : decode cX1_aGuest 26 = .ok (.aload_n 0, 1) := dk_42 (dk_at dksX1_aGuest_1 4 rfl rfl)
theorem dX1_aGuest_27 : decode cX1_aGuest 27 = .ok (.ldc 99, 2) := dk_18 99 (dk_at dksX1_aGuest_1 5 rfl rfl)
theorem dX1_aGuest_29 : decode cX1_aGuest 29 = .ok (.iconst 0, 1) := dk_3 (dk_at dksX1_aGuest_1 7 rfl rfl)
theorem dX1_aGuest_30 : decode cX1_aGuest 30 = .ok (.bipush 10, 2) := dk_16 10 (dk_at dksX1_aGuest_1 8 rfl rfl)
theorem dX1_aGuest_32 : decode cX1_aGuest 32 = .ok (.invokevirtual 100, 3) := dk_182 0 100 (dk_at dksX1_aGuest_1 10 rfl rfl)
theorem dX1_aGuest_35 : decode cX1_aGuest 35 = .ok (.iastore, 1) := dk_79 (dk_at dksX1_aGuest_1 13 rfl rfl)
theorem dX1_aGuest_36 : decode cX1_aGuest 36 = .ok (.aload_n 1, 1) := dk_43 (dk_at dksX1_aGuest_1 14 rfl rfl)
theorem dX1_aGuest_37 : decode cX1_aGuest 37 = .ok (.getfield 104, 3) := dk_180 0 104 (dk_at dksX1_aGuest_1 15 rfl rfl)
theorem dX1_aGuest_40 : decode cX1_aGuest 40 = .ok (.iload_n 3, 1) := dk_29 (dk_at dksX1_aGuest_1 18 rfl rfl)
theorem dX1_aGuest_41 : decode cX1_aGuest 41 = .ok (.aload_n 0, 1) := dk_42 (dk_at dksX1_aGuest_1 19 rfl rfl)
theorem dX1_aGuest_42 : decode cX1_aGuest 42 = .ok (.ldc 107, 2) := dk_18 107 (dk_at dksX1_aGuest_1 20 rfl rfl)
theorem dX1_aGuest_44 : decode cX1_aGuest 44 = .ok (.iconst 0, 1) := dk_3 (dk_at dksX1_aGuest_1 22 rfl rfl)
theorem dX1_aGuest_45 : decode cX1_aGuest 45 = .ok (.bipush 7, 2) := dk_16 7 (dk_at dksX1_aGuest_2 0 rfl rfl)
theorem dX1_aGuest_47 : decode cX1_aGuest 47 = .ok (.invokevirtual 100, 3) := dk_182 0 100 (dk_at dksX1_aGuest_2 2 rfl rfl)
theorem dX1_aGuest_50 : decode cX1_aGuest 50 = .ok (.iastore, 1) := dk_79 (dk_at dksX1_aGuest_2 5 rfl rfl)
theorem dX1_aGuest_51 : decode cX1_aGuest 51 = .ok (.aload_n 1, 1) := dk_43 (dk_at dksX1_aGuest_2 6 rfl rfl)
theorem dX1_aGuest_52 : decode cX1_aGuest 52 = .ok (.getfield 109, 3) := dk_180 0 109 (dk_at dksX1_aGuest_2 7 rfl rfl)
theorem dX1_aGuest_55 : decode cX1_aGuest 55 = .ok (.iload_n 3, 1) := dk_29 (dk_at dksX1_aGuest_2 10 rfl rfl)
theorem dX1_aGuest_56 : decode cX1_aGuest 56 = .ok (.aload_n 2, 1) := dk_44 (dk_at dksX1_aGuest_2 11 rfl rfl)
theorem dX1_aGuest_57 : decode cX1_aGuest 57 = .ok (.ldc 112, 2) := dk_18 112 (dk_at dksX1_aGuest_2 12 rfl rfl)
theorem dX1_aGuest_59 : decode cX1_aGuest 59 = .ok (.invokevirtual 113, 3) := dk_182 0 113 (dk_at dksX1_aGuest_2 14 rfl rfl)
theorem dX1_aGuest_62 : decode cX1_aGuest 62 = .ok (.ifCond .eq 13, 3) := dk_153 0 13 (dk_at dksX1_aGuest_2 17 rfl rfl)
theorem dX1_aGuest_65 : decode cX1_aGuest 65 = .ok (.aload_n 2, 1) := dk_44 (dk_at dksX1_aGuest_2 20 rfl rfl)
theorem dX1_aGuest_66 : decode cX1_aGuest 66 = .ok (.iconst 0, 1) := dk_3 (dk_at dksX1_aGuest_2 21 rfl rfl)
theorem dX1_aGuest_67 : decode cX1_aGuest 67 = .ok (.bipush 99, 2) := dk_16 99 (dk_at dksX1_aGuest_2 22 rfl rfl)
theorem dX1_aGuest_69 : decode cX1_aGuest 69 = .ok (.invokevirtual 88, 3) := dk_182 0 88 (dk_at dksX1_aGuest_3 0 rfl rfl)
theorem dX1_aGuest_72 : decode cX1_aGuest 72 = .ok (.goto 4, 3) := dk_167 0 4 (dk_at dksX1_aGuest_3 3 rfl rfl)
theorem dX1_aGuest_75 : decode cX1_aGuest 75 = .ok (.iconst 0, 1) := dk_3 (dk_at dksX1_aGuest_3 6 rfl rfl)
theorem dX1_aGuest_76 : decode cX1_aGuest 76 = .ok (.iastore, 1) := dk_79 (dk_at dksX1_aGuest_3 7 rfl rfl)
theorem dX1_aGuest_77 : decode cX1_aGuest 77 = .ok (.aload_n 1, 1) := dk_43 (dk_at dksX1_aGuest_3 8 rfl rfl)
theorem dX1_aGuest_78 : decode cX1_aGuest 78 = .ok (.getfield 117, 3) := dk_180 0 117 (dk_at dksX1_aGuest_3 9 rfl rfl)
theorem dX1_aGuest_81 : decode cX1_aGuest 81 = .ok (.iload_n 3, 1) := dk_29 (dk_at dksX1_aGuest_3 12 rfl rfl)
theorem dX1_aGuest_82 : decode cX1_aGuest 82 = .ok (.aload_n 2, 1) := dk_44 (dk_at dksX1_aGuest_3 13 rfl rfl)
theorem dX1_aGuest_83 : decode cX1_aGuest 83 = .ok (.ldc 121, 2) := dk_18 121 (dk_at dksX1_aGuest_3 14 rfl rfl)
theorem dX1_aGuest_85 : decode cX1_aGuest 85 = .ok (.invokevirtual 113, 3) := dk_182 0 113 (dk_at dksX1_aGuest_3 16 rfl rfl)
theorem dX1_aGuest_88 : decode cX1_aGuest 88 = .ok (.bastore, 1) := dk_84 (dk_at dksX1_aGuest_3 19 rfl rfl)
theorem dX1_aGuest_89 : decode cX1_aGuest 89 = .ok (.aload_n 1, 1) := dk_43 (dk_at dksX1_aGuest_3 20 rfl rfl)
theorem dX1_aGuest_90 : decode cX1_aGuest 90 = .ok (.getfield 122, 3) := dk_180 0 122 (dk_at dksX1_aGuest_3 21 rfl rfl)
theorem dX1_aGuest_93 : decode cX1_aGuest 93 = .ok (.iload_n 3, 1) := dk_29 (dk_at dksX1_aGuest_4 0 rfl rfl)
theorem dX1_aGuest_94 : decode cX1_aGuest 94 = .ok (.iconst 1, 1) := dk_4 (dk_at dksX1_aGuest_4 1 rfl rfl)
theorem dX1_aGuest_95 : decode cX1_aGuest 95 = .ok (.bastore, 1) := dk_84 (dk_at dksX1_aGuest_4 2 rfl rfl)
theorem dX1_aGuest_96 : decode cX1_aGuest 96 = .ok (.aload_n 1, 1) := dk_43 (dk_at dksX1_aGuest_4 3 rfl rfl)
theorem dX1_aGuest_97 : decode cX1_aGuest 97 = .ok (.dup, 1) := dk_89 (dk_at dksX1_aGuest_4 4 rfl rfl)
theorem dX1_aGuest_98 : decode cX1_aGuest 98 = .ok (.getfield 92, 3) := dk_180 0 92 (dk_at dksX1_aGuest_4 5 rfl rfl)
theorem dX1_aGuest_101 : decode cX1_aGuest 101 = .ok (.iconst 1, 1) := dk_4 (dk_at dksX1_aGuest_4 8 rfl rfl)
theorem dX1_aGuest_102 : decode cX1_aGuest 102 = .ok (.iadd, 1) := dk_96 (dk_at dksX1_aGuest_4 9 rfl rfl)
theorem dX1_aGuest_103 : decode cX1_aGuest 103 = .ok (.putfield 92, 3) := dk_181 0 92 (dk_at dksX1_aGuest_4 10 rfl rfl)
theorem dX1_aGuest_106 : decode cX1_aGuest 106 = .ok (.return_, 1) := dk_177 (dk_at dksX1_aGuest_4 13 rfl rfl)
abbrev cX1_after : ByteArray := prog_1_method_7_code
def yX1_after : MethodName := ⟨RX1, "after", "(Ljava/lang/String;II)I"⟩
def dkwX1_after_0 : List UInt8 := [42, 43, 182, 0, 84, 42, 180, 0, 25, 28, 29, 182, 0, 88, 172]
abbrev dktX1_after_0 : List UInt8 := dkwX1_after_0 ++ []
theorem dksX1_after_0 : cX1_after.data.toList.drop 0 = dktX1_after_0 := by decide +kernel
theorem dX1_after_0 : decode cX1_after 0 = .ok (.aload_n 0, 1) := dk_42 (dk_at dksX1_after_0 0 rfl rfl)
theorem dX1_after_1 : decode cX1_after 1 = .ok (.aload_n 1, 1) := dk_43 (dk_at dksX1_after_0 1 rfl rfl)
theorem dX1_after_2 : decode cX1_after 2 = .ok (.invokevirtual 84, 3) := dk_182 0 84 (dk_at dksX1_after_0 2 rfl rfl)
theorem dX1_after_5 : decode cX1_after 5 = .ok (.aload_n 0, 1) := dk_42 (dk_at dksX1_after_0 5 rfl rfl)
theorem dX1_after_6 : decode cX1_after 6 = .ok (.getfield 25, 3) := dk_180 0 25 (dk_at dksX1_after_0 6 rfl rfl)
theorem dX1_after_9 : decode cX1_after 9 = .ok (.iload_n 2, 1) := dk_28 (dk_at dksX1_after_0 9 rfl rfl)
theorem dX1_after_10 : decode cX1_after 10 = .ok (.iload_n 3, 1) := dk_29 (dk_at dksX1_after_0 10 rfl rfl)
theorem dX1_after_11 : decode cX1_after 11 = .ok (.invokevirtual 88, 3) := dk_182 0 88 (dk_at dksX1_after_0 11 rfl rfl)
theorem dX1_after_14 : decode cX1_after 14 = .ok (.ireturn, 1) := dk_172 (dk_at dksX1_after_0 14 rfl rfl)
abbrev cX1_needs : ByteArray := prog_1_method_6_code
def yX1_needs : MethodName := ⟨RX1, "needs", "(Ljava/lang/String;)V"⟩
def dkwX1_needs_0 : List UInt8 := [42, 180, 0, 25, 182, 0, 70, 43, 182, 0, 74, 154, 0, 11, 42, 180, 0, 25, 182, 0, 80, 191, 177]
abbrev dktX1_needs_0 : List UInt8 := dkwX1_needs_0 ++ []
theorem dksX1_needs_0 : cX1_needs.data.toList.drop 0 = dktX1_needs_0 := by decide +kernel
theorem dX1_needs_0 : decode cX1_needs 0 = .ok (.aload_n 0, 1) := dk_42 (dk_at dksX1_needs_0 0 rfl rfl)
theorem dX1_needs_1 : decode cX1_needs 1 = .ok (.getfield 25, 3) := dk_180 0 25 (dk_at dksX1_needs_0 1 rfl rfl)
theorem dX1_needs_4 : decode cX1_needs 4 = .ok (.invokevirtual 70, 3) := dk_182 0 70 (dk_at dksX1_needs_0 4 rfl rfl)
theorem dX1_needs_7 : decode cX1_needs 7 = .ok (.aload_n 1, 1) := dk_43 (dk_at dksX1_needs_0 7 rfl rfl)
theorem dX1_needs_8 : decode cX1_needs 8 = .ok (.invokevirtual 74, 3) := dk_182 0 74 (dk_at dksX1_needs_0 8 rfl rfl)
theorem dX1_needs_11 : decode cX1_needs 11 = .ok (.ifCond .ne 11, 3) := dk_154 0 11 (dk_at dksX1_needs_0 11 rfl rfl)
theorem dX1_needs_14 : decode cX1_needs 14 = .ok (.aload_n 0, 1) := dk_42 (dk_at dksX1_needs_0 14 rfl rfl)
theorem dX1_needs_15 : decode cX1_needs 15 = .ok (.getfield 25, 3) := dk_180 0 25 (dk_at dksX1_needs_0 15 rfl rfl)
theorem dX1_needs_18 : decode cX1_needs 18 = .ok (.invokevirtual 80, 3) := dk_182 0 80 (dk_at dksX1_needs_0 18 rfl rfl)
theorem dX1_needs_21 : decode cX1_needs 21 = .ok (.athrow, 1) := dk_191 (dk_at dksX1_needs_0 21 rfl rfl)
theorem dX1_needs_22 : decode cX1_needs 22 = .ok (.return_, 1) := dk_177 (dk_at dksX1_needs_0 22 rfl rfl)
abbrev cX1_aHole : ByteArray := prog_1_method_10_code
def yX1_aHole : MethodName := ⟨RX1, "aHole", "(LSaturdayKeep$World;)V"⟩
def dkwX1_aHole_1 : List UInt8 := [180, 0, 129, 28, 92, 46, 4, 29, 120, 128, 79, 177]
abbrev dktX1_aHole_1 : List UInt8 := dkwX1_aHole_1 ++ []
def dkwX1_aHole_0 : List UInt8 := [42, 182, 0, 125, 61, 42, 182, 0, 125, 62, 29, 28, 160, 0, 11, 42, 180, 0, 25, 182, 0, 80, 191, 43]
abbrev dktX1_aHole_0 : List UInt8 := dkwX1_aHole_0 ++ dktX1_aHole_1
theorem dksX1_aHole_0 : cX1_aHole.data.toList.drop 0 = dktX1_aHole_0 := by decide +kernel
theorem dksX1_aHole_1 : cX1_aHole.data.toList.drop 24 = dktX1_aHole_1 := dk_seg dksX1_aHole_0 24 rfl rfl
theorem dX1_aHole_0 : decode cX1_aHole 0 = .ok (.aload_n 0, 1) := dk_42 (dk_at dksX1_aHole_0 0 rfl rfl)
theorem dX1_aHole_1 : decode cX1_aHole 1 = .ok (.invokevirtual 125, 3) := dk_182 0 125 (dk_at dksX1_aHole_0 1 rfl rfl)
theorem dX1_aHole_4 : decode cX1_aHole 4 = .ok (.istore_n 2, 1) := dk_61 (dk_at dksX1_aHole_0 4 rfl rfl)
theorem dX1_aHole_5 : decode cX1_aHole 5 = .ok (.aload_n 0, 1) := dk_42 (dk_at dksX1_aHole_0 5 rfl rfl)
theorem dX1_aHole_6 : decode cX1_aHole 6 = .ok (.invokevirtual 125, 3) := dk_182 0 125 (dk_at dksX1_aHole_0 6 rfl rfl)
theorem dX1_aHole_9 : decode cX1_aHole 9 = .ok (.istore_n 3, 1) := dk_62 (dk_at dksX1_aHole_0 9 rfl rfl)
theorem dX1_aHole_10 : decode cX1_aHole 10 = .ok (.iload_n 3, 1) := dk_29 (dk_at dksX1_aHole_0 10 rfl rfl)
theorem dX1_aHole_11 : decode cX1_aHole 11 = .ok (.iload_n 2, 1) := dk_28 (dk_at dksX1_aHole_0 11 rfl rfl)
theorem dX1_aHole_12 : decode cX1_aHole 12 = .ok (.if_icmp .ne 11, 3) := dk_160 0 11 (dk_at dksX1_aHole_0 12 rfl rfl)
theorem dX1_aHole_15 : decode cX1_aHole 15 = .ok (.aload_n 0, 1) := dk_42 (dk_at dksX1_aHole_0 15 rfl rfl)
theorem dX1_aHole_16 : decode cX1_aHole 16 = .ok (.getfield 25, 3) := dk_180 0 25 (dk_at dksX1_aHole_0 16 rfl rfl)
theorem dX1_aHole_19 : decode cX1_aHole 19 = .ok (.invokevirtual 80, 3) := dk_182 0 80 (dk_at dksX1_aHole_0 19 rfl rfl)
theorem dX1_aHole_22 : decode cX1_aHole 22 = .ok (.athrow, 1) := dk_191 (dk_at dksX1_aHole_0 22 rfl rfl)
theorem dX1_aHole_23 : decode cX1_aHole 23 = .ok (.aload_n 1, 1) := dk_43 (dk_at dksX1_aHole_0 23 rfl rfl)
theorem dX1_aHole_24 : decode cX1_aHole 24 = .ok (.getfield 129, 3) := dk_180 0 129 (dk_at dksX1_aHole_1 0 rfl rfl)
theorem dX1_aHole_27 : decode cX1_aHole 27 = .ok (.iload_n 2, 1) := dk_28 (dk_at dksX1_aHole_1 3 rfl rfl)
theorem dX1_aHole_28 : decode cX1_aHole 28 = .ok (.dup2, 1) := dk_92 (dk_at dksX1_aHole_1 4 rfl rfl)
theorem dX1_aHole_29 : decode cX1_aHole 29 = .ok (.iaload, 1) := dk_46 (dk_at dksX1_aHole_1 5 rfl rfl)
theorem dX1_aHole_30 : decode cX1_aHole 30 = .ok (.iconst 1, 1) := dk_4 (dk_at dksX1_aHole_1 6 rfl rfl)
theorem dX1_aHole_31 : decode cX1_aHole 31 = .ok (.iload_n 3, 1) := dk_29 (dk_at dksX1_aHole_1 7 rfl rfl)
theorem dX1_aHole_32 : decode cX1_aHole 32 = .ok (.ishl, 1) := dk_120 (dk_at dksX1_aHole_1 8 rfl rfl)
theorem dX1_aHole_33 : decode cX1_aHole 33 = .ok (.ior, 1) := dk_128 (dk_at dksX1_aHole_1 9 rfl rfl)
theorem dX1_aHole_34 : decode cX1_aHole 34 = .ok (.iastore, 1) := dk_79 (dk_at dksX1_aHole_1 10 rfl rfl)
theorem dX1_aHole_35 : decode cX1_aHole 35 = .ok (.return_, 1) := dk_177 (dk_at dksX1_aHole_1 11 rfl rfl)
abbrev cX1_roomTold : ByteArray := prog_1_method_8_code
def yX1_roomTold : MethodName := ⟨RX1, "roomTold", "()I"⟩
def dkwX1_roomTold_0 : List UInt8 := [42, 180, 0, 25, 3, 16, 7, 182, 0, 88, 172]
abbrev dktX1_roomTold_0 : List UInt8 := dkwX1_roomTold_0 ++ []
theorem dksX1_roomTold_0 : cX1_roomTold.data.toList.drop 0 = dktX1_roomTold_0 := by decide +kernel
theorem dX1_roomTold_0 : decode cX1_roomTold 0 = .ok (.aload_n 0, 1) := dk_42 (dk_at dksX1_roomTold_0 0 rfl rfl)
theorem dX1_roomTold_1 : decode cX1_roomTold 1 = .ok (.getfield 25, 3) := dk_180 0 25 (dk_at dksX1_roomTold_0 1 rfl rfl)
theorem dX1_roomTold_4 : decode cX1_roomTold 4 = .ok (.iconst 0, 1) := dk_3 (dk_at dksX1_roomTold_0 4 rfl rfl)
theorem dX1_roomTold_5 : decode cX1_roomTold 5 = .ok (.bipush 7, 2) := dk_16 7 (dk_at dksX1_roomTold_0 5 rfl rfl)
theorem dX1_roomTold_7 : decode cX1_roomTold 7 = .ok (.invokevirtual 88, 3) := dk_182 0 88 (dk_at dksX1_roomTold_0 7 rfl rfl)
theorem dX1_roomTold_10 : decode cX1_roomTold 10 = .ok (.ireturn, 1) := dk_172 (dk_at dksX1_roomTold_0 10 rfl rfl)
abbrev cX1_goesOn : ByteArray := prog_1_method_14_code
def yX1_goesOn : MethodName := ⟨RX1, "goesOn", "()Z"⟩
def dkwX1_goesOn_1 : List UInt8 := [4, 172, 42, 180, 0, 25, 182, 0, 80, 191]
abbrev dktX1_goesOn_1 : List UInt8 := dkwX1_goesOn_1 ++ []
def dkwX1_goesOn_0 : List UInt8 := [42, 180, 0, 25, 182, 0, 175, 153, 0, 5, 3, 172, 42, 180, 0, 25, 16, 59, 182, 0, 189, 153, 0, 5]
abbrev dktX1_goesOn_0 : List UInt8 := dkwX1_goesOn_0 ++ dktX1_goesOn_1
theorem dksX1_goesOn_0 : cX1_goesOn.data.toList.drop 0 = dktX1_goesOn_0 := by decide +kernel
theorem dksX1_goesOn_1 : cX1_goesOn.data.toList.drop 24 = dktX1_goesOn_1 := dk_seg dksX1_goesOn_0 24 rfl rfl
theorem dX1_goesOn_0 : decode cX1_goesOn 0 = .ok (.aload_n 0, 1) := dk_42 (dk_at dksX1_goesOn_0 0 rfl rfl)
theorem dX1_goesOn_1 : decode cX1_goesOn 1 = .ok (.getfield 25, 3) := dk_180 0 25 (dk_at dksX1_goesOn_0 1 rfl rfl)
theorem dX1_goesOn_4 : decode cX1_goesOn 4 = .ok (.invokevirtual 175, 3) := dk_182 0 175 (dk_at dksX1_goesOn_0 4 rfl rfl)
theorem dX1_goesOn_7 : decode cX1_goesOn 7 = .ok (.ifCond .eq 5, 3) := dk_153 0 5 (dk_at dksX1_goesOn_0 7 rfl rfl)
theorem dX1_goesOn_10 : decode cX1_goesOn 10 = .ok (.iconst 0, 1) := dk_3 (dk_at dksX1_goesOn_0 10 rfl rfl)
theorem dX1_goesOn_11 : decode cX1_goesOn 11 = .ok (.ireturn, 1) := dk_172 (dk_at dksX1_goesOn_0 11 rfl rfl)
theorem dX1_goesOn_12 : decode cX1_goesOn 12 = .ok (.aload_n 0, 1) := dk_42 (dk_at dksX1_goesOn_0 12 rfl rfl)
theorem dX1_goesOn_13 : decode cX1_goesOn 13 = .ok (.getfield 25, 3) := dk_180 0 25 (dk_at dksX1_goesOn_0 13 rfl rfl)
theorem dX1_goesOn_16 : decode cX1_goesOn 16 = .ok (.bipush 59, 2) := dk_16 59 (dk_at dksX1_goesOn_0 16 rfl rfl)
theorem dX1_goesOn_18 : decode cX1_goesOn 18 = .ok (.invokevirtual 189, 3) := dk_182 0 189 (dk_at dksX1_goesOn_0 18 rfl rfl)
theorem dX1_goesOn_21 : decode cX1_goesOn 21 = .ok (.ifCond .eq 5, 3) := dk_153 0 5 (dk_at dksX1_goesOn_0 21 rfl rfl)
theorem dX1_goesOn_24 : decode cX1_goesOn 24 = .ok (.iconst 1, 1) := dk_4 (dk_at dksX1_goesOn_1 0 rfl rfl)
theorem dX1_goesOn_25 : decode cX1_goesOn 25 = .ok (.ireturn, 1) := dk_172 (dk_at dksX1_goesOn_1 1 rfl rfl)
theorem dX1_goesOn_26 : decode cX1_goesOn 26 = .ok (.aload_n 0, 1) := dk_42 (dk_at dksX1_goesOn_1 2 rfl rfl)
theorem dX1_goesOn_27 : decode cX1_goesOn 27 = .ok (.getfield 25, 3) := dk_180 0 25 (dk_at dksX1_goesOn_1 3 rfl rfl)
theorem dX1_goesOn_30 : decode cX1_goesOn 30 = .ok (.invokevirtual 80, 3) := dk_182 0 80 (dk_at dksX1_goesOn_1 6 rfl rfl)
theorem dX1_goesOn_33 : decode cX1_goesOn 33 = .ok (.athrow, 1) := dk_191 (dk_at dksX1_goesOn_1 9 rfl rfl)
abbrev cX1_fails : ByteArray := prog_1_method_15_code
def yX1_fails : MethodName := ⟨RX1, "fails", "()V"⟩
def dkwX1_fails_0 : List UInt8 := [42, 180, 0, 25, 42, 180, 0, 25, 180, 0, 192, 181, 0, 66, 187, 0, 195, 89, 183, 0, 197, 191]
abbrev dktX1_fails_0 : List UInt8 := dkwX1_fails_0 ++ []
theorem dksX1_fails_0 : cX1_fails.data.toList.drop 0 = dktX1_fails_0 := by decide +kernel
theorem dX1_fails_0 : decode cX1_fails 0 = .ok (.aload_n 0, 1) := dk_42 (dk_at dksX1_fails_0 0 rfl rfl)
theorem dX1_fails_1 : decode cX1_fails 1 = .ok (.getfield 25, 3) := dk_180 0 25 (dk_at dksX1_fails_0 1 rfl rfl)
theorem dX1_fails_4 : decode cX1_fails 4 = .ok (.aload_n 0, 1) := dk_42 (dk_at dksX1_fails_0 4 rfl rfl)
theorem dX1_fails_5 : decode cX1_fails 5 = .ok (.getfield 25, 3) := dk_180 0 25 (dk_at dksX1_fails_0 5 rfl rfl)
theorem dX1_fails_8 : decode cX1_fails 8 = .ok (.getfield 192, 3) := dk_180 0 192 (dk_at dksX1_fails_0 8 rfl rfl)
theorem dX1_fails_11 : decode cX1_fails 11 = .ok (.putfield 66, 3) := dk_181 0 66 (dk_at dksX1_fails_0 11 rfl rfl)
theorem dX1_fails_14 : decode cX1_fails 14 = .ok (.new 195, 3) := dk_187 0 195 (dk_at dksX1_fails_0 14 rfl rfl)
theorem dX1_fails_17 : decode cX1_fails 17 = .ok (.dup, 1) := dk_89 (dk_at dksX1_fails_0 17 rfl rfl)
theorem dX1_fails_18 : decode cX1_fails 18 = .ok (.invokespecial 197, 3) := dk_183 0 197 (dk_at dksX1_fails_0 18 rfl rfl)
theorem dX1_fails_21 : decode cX1_fails 21 = .ok (.athrow, 1) := dk_191 (dk_at dksX1_fails_0 21 rfl rfl)
abbrev cX1_law : ByteArray := prog_1_method_24_code
def yX1_law : MethodName := ⟨RX1, "law", "()I"⟩
def dkwX1_law_2 : List UInt8 := [180, 1, 67, 180, 1, 53, 182, 1, 56, 172]
abbrev dktX1_law_2 : List UInt8 := dkwX1_law_2 ++ []
def dkwX1_law_1 : List UInt8 := [181, 0, 66, 167, 0, 8, 76, 42, 182, 0, 210, 42, 180, 0, 42, 182, 0, 219, 42, 180, 0, 10]
abbrev dktX1_law_1 : List UInt8 := dkwX1_law_1 ++ dktX1_law_2
def dkwX1_law_0 : List UInt8 := [42, 180, 0, 25, 182, 0, 198, 42, 180, 0, 10, 42, 182, 1, 63, 181, 1, 67, 42, 180, 0, 25, 2]
abbrev dktX1_law_0 : List UInt8 := dkwX1_law_0 ++ dktX1_law_1
theorem dksX1_law_0 : cX1_law.data.toList.drop 0 = dktX1_law_0 := by decide +kernel
theorem dksX1_law_1 : cX1_law.data.toList.drop 23 = dktX1_law_1 := dk_seg dksX1_law_0 23 rfl rfl
theorem dksX1_law_2 : cX1_law.data.toList.drop 45 = dktX1_law_2 := dk_seg dksX1_law_1 22 rfl rfl
theorem dX1_law_0 : decode cX1_law 0 = .ok (.aload_n 0, 1) := dk_42 (dk_at dksX1_law_0 0 rfl rfl)
theorem dX1_law_1 : decode cX1_law 1 = .ok (.getfield 25, 3) := dk_180 0 25 (dk_at dksX1_law_0 1 rfl rfl)
theorem dX1_law_4 : decode cX1_law 4 = .ok (.invokevirtual 198, 3) := dk_182 0 198 (dk_at dksX1_law_0 4 rfl rfl)
theorem dX1_law_7 : decode cX1_law 7 = .ok (.aload_n 0, 1) := dk_42 (dk_at dksX1_law_0 7 rfl rfl)
theorem dX1_law_8 : decode cX1_law 8 = .ok (.getfield 10, 3) := dk_180 0 10 (dk_at dksX1_law_0 8 rfl rfl)
theorem dX1_law_11 : decode cX1_law 11 = .ok (.aload_n 0, 1) := dk_42 (dk_at dksX1_law_0 11 rfl rfl)
theorem dX1_law_12 : decode cX1_law 12 = .ok (.invokevirtual 319, 3) := dk_182 1 63 (dk_at dksX1_law_0 12 rfl rfl)
theorem dX1_law_15 : decode cX1_law 15 = .ok (.putfield 323, 3) := dk_181 1 67 (dk_at dksX1_law_0 15 rfl rfl)
theorem dX1_law_18 : decode cX1_law 18 = .ok (.aload_n 0, 1) := dk_42 (dk_at dksX1_law_0 18 rfl rfl)
theorem dX1_law_19 : decode cX1_law 19 = .ok (.getfield 25, 3) := dk_180 0 25 (dk_at dksX1_law_0 19 rfl rfl)
theorem dX1_law_22 : decode cX1_law 22 = .ok (.iconst (-1), 1) := dk_2 (dk_at dksX1_law_0 22 rfl rfl)
theorem dX1_law_23 : decode cX1_law 23 = .ok (.putfield 66, 3) := dk_181 0 66 (dk_at dksX1_law_1 0 rfl rfl)
theorem dX1_law_26 : decode cX1_law 26 = .ok (.goto 8, 3) := dk_167 0 8 (dk_at dksX1_law_1 3 rfl rfl)
theorem dX1_law_29 : decode cX1_law 29 = .ok (.astore_n 1, 1) := dk_76 (dk_at dksX1_law_1 6 rfl rfl)
theorem dX1_law_30 : decode cX1_law 30 = .ok (.aload_n 0, 1) := dk_42 (dk_at dksX1_law_1 7 rfl rfl)
theorem dX1_law_31 : decode cX1_law 31 = .ok (.invokevirtual 210, 3) := dk_182 0 210 (dk_at dksX1_law_1 8 rfl rfl)
theorem dX1_law_34 : decode cX1_law 34 = .ok (.aload_n 0, 1) := dk_42 (dk_at dksX1_law_1 11 rfl rfl)
theorem dX1_law_35 : decode cX1_law 35 = .ok (.getfield 42, 3) := dk_180 0 42 (dk_at dksX1_law_1 12 rfl rfl)
theorem dX1_law_38 : decode cX1_law 38 = .ok (.invokevirtual 219, 3) := dk_182 0 219 (dk_at dksX1_law_1 15 rfl rfl)
theorem dX1_law_41 : decode cX1_law 41 = .ok (.aload_n 0, 1) := dk_42 (dk_at dksX1_law_1 18 rfl rfl)
theorem dX1_law_42 : decode cX1_law 42 = .ok (.getfield 10, 3) := dk_180 0 10 (dk_at dksX1_law_1 19 rfl rfl)
theorem dX1_law_45 : decode cX1_law 45 = .ok (.getfield 323, 3) := dk_180 1 67 (dk_at dksX1_law_2 0 rfl rfl)
theorem dX1_law_48 : decode cX1_law 48 = .ok (.getfield 309, 3) := dk_180 1 53 (dk_at dksX1_law_2 3 rfl rfl)
theorem dX1_law_51 : decode cX1_law 51 = .ok (.invokevirtual 312, 3) := dk_182 1 56 (dk_at dksX1_law_2 6 rfl rfl)
theorem dX1_law_54 : decode cX1_law 54 = .ok (.ireturn, 1) := dk_172 (dk_at dksX1_law_2 9 rfl rfl)
abbrev cX1_lawText : ByteArray := prog_1_method_23_code
def yX1_lawText : MethodName := ⟨RX1, "lawText", "()LSaturdayKeep$Law;"⟩
def dkwX1_lawText_2 : List UInt8 := [182, 0, 186, 154, 255, 227, 43, 176]
abbrev dktX1_lawText_2 : List UInt8 := dkwX1_lawText_2 ++ []
def dkwX1_lawText_1 : List UInt8 := [180, 1, 53, 182, 1, 56, 16, 12, 182, 0, 179, 43, 180, 1, 53, 42, 182, 1, 59, 182, 0, 246, 87, 42]
abbrev dktX1_lawText_1 : List UInt8 := dkwX1_lawText_1 ++ dktX1_lawText_2
def dkwX1_lawText_0 : List UInt8 := [187, 1, 50, 89, 183, 1, 52, 76, 42, 180, 0, 25, 182, 0, 175, 153, 0, 5, 43, 176, 42, 43]
abbrev dktX1_lawText_0 : List UInt8 := dkwX1_lawText_0 ++ dktX1_lawText_1
theorem dksX1_lawText_0 : cX1_lawText.data.toList.drop 0 = dktX1_lawText_0 := by decide +kernel
theorem dksX1_lawText_1 : cX1_lawText.data.toList.drop 22 = dktX1_lawText_1 := dk_seg dksX1_lawText_0 22 rfl rfl
theorem dksX1_lawText_2 : cX1_lawText.data.toList.drop 46 = dktX1_lawText_2 := dk_seg dksX1_lawText_1 24 rfl rfl
theorem dX1_lawText_0 : decode cX1_lawText 0 = .ok (.new 306, 3) := dk_187 1 50 (dk_at dksX1_lawText_0 0 rfl rfl)
theorem dX1_lawText_3 : decode cX1_lawText 3 = .ok (.dup, 1) := dk_89 (dk_at dksX1_lawText_0 3 rfl rfl)
theorem dX1_lawText_4 : decode cX1_lawText 4 = .ok (.invokespecial 308, 3) := dk_183 1 52 (dk_at dksX1_lawText_0 4 rfl rfl)
theorem dX1_lawText_7 : decode cX1_lawText 7 = .ok (.astore_n 1, 1) := dk_76 (dk_at dksX1_lawText_0 7 rfl rfl)
theorem dX1_lawText_8 : decode cX1_lawText 8 = .ok (.aload_n 0, 1) := dk_42 (dk_at dksX1_lawText_0 8 rfl rfl)
theorem dX1_lawText_9 : decode cX1_lawText 9 = .ok (.getfield 25, 3) := dk_180 0 25 (dk_at dksX1_lawText_0 9 rfl rfl)
theorem dX1_lawText_12 : decode cX1_lawText 12 = .ok (.invokevirtual 175, 3) := dk_182 0 175 (dk_at dksX1_lawText_0 12 rfl rfl)
theorem dX1_lawText_15 : decode cX1_lawText 15 = .ok (.ifCond .eq 5, 3) := dk_153 0 5 (dk_at dksX1_lawText_0 15 rfl rfl)
theorem dX1_lawText_18 : decode cX1_lawText 18 = .ok (.aload_n 1, 1) := dk_43 (dk_at dksX1_lawText_0 18 rfl rfl)
theorem dX1_lawText_19 : decode cX1_lawText 19 = .ok (.areturn, 1) := dk_176 (dk_at dksX1_lawText_0 19 rfl rfl)
theorem dX1_lawText_20 : decode cX1_lawText 20 = .ok (.aload_n 0, 1) := dk_42 (dk_at dksX1_lawText_0 20 rfl rfl)
theorem dX1_lawText_21 : decode cX1_lawText 21 = .ok (.aload_n 1, 1) := dk_43 (dk_at dksX1_lawText_0 21 rfl rfl)
theorem dX1_lawText_22 : decode cX1_lawText 22 = .ok (.getfield 309, 3) := dk_180 1 53 (dk_at dksX1_lawText_1 0 rfl rfl)
theorem dX1_lawText_25 : decode cX1_lawText 25 = .ok (.invokevirtual 312, 3) := dk_182 1 56 (dk_at dksX1_lawText_1 3 rfl rfl)
theorem dX1_lawText_28 : decode cX1_lawText 28 = .ok (.bipush 12, 2) := dk_16 12 (dk_at dksX1_lawText_1 6 rfl rfl)
theorem dX1_lawText_30 : decode cX1_lawText 30 = .ok (.invokevirtual 179, 3) := dk_182 0 179 (dk_at dksX1_lawText_1 8 rfl rfl)
theorem dX1_lawText_33 : decode cX1_lawText 33 = .ok (.aload_n 1, 1) := dk_43 (dk_at dksX1_lawText_1 11 rfl rfl)
theorem dX1_lawText_34 : decode cX1_lawText 34 = .ok (.getfield 309, 3) := dk_180 1 53 (dk_at dksX1_lawText_1 12 rfl rfl)
theorem dX1_lawText_37 : decode cX1_lawText 37 = .ok (.aload_n 0, 1) := dk_42 (dk_at dksX1_lawText_1 15 rfl rfl)
theorem dX1_lawText_38 : decode cX1_lawText 38 = .ok (.invokevirtual 315, 3) := dk_182 1 59 (dk_at dksX1_lawText_1 16 rfl rfl)
theorem dX1_lawText_41 : decode cX1_lawText 41 = .ok (.invokevirtual 246, 3) := dk_182 0 246 (dk_at dksX1_lawText_1 19 rfl rfl)
theorem dX1_lawText_44 : decode cX1_lawText 44 = .ok (.pop, 1) := dk_87 (dk_at dksX1_lawText_1 22 rfl rfl)
theorem dX1_lawText_45 : decode cX1_lawText 45 = .ok (.aload_n 0, 1) := dk_42 (dk_at dksX1_lawText_1 23 rfl rfl)
theorem dX1_lawText_46 : decode cX1_lawText 46 = .ok (.invokevirtual 186, 3) := dk_182 0 186 (dk_at dksX1_lawText_2 0 rfl rfl)
theorem dX1_lawText_49 : decode cX1_lawText 49 = .ok (.ifCond .ne (-29), 3) := dk_154 255 227 (dk_at dksX1_lawText_2 3 rfl rfl)
theorem dX1_lawText_52 : decode cX1_lawText 52 = .ok (.aload_n 1, 1) := dk_43 (dk_at dksX1_lawText_2 6 rfl rfl)
theorem dX1_lawText_53 : decode cX1_lawText 53 = .ok (.areturn, 1) := dk_176 (dk_at dksX1_lawText_2 7 rfl rfl)
abbrev cX1_lawLine : ByteArray := prog_1_method_22_code
def yX1_lawLine : MethodName := ⟨RX1, "lawLine", "()LSaturdayKeep$Line;"⟩
def dkwX1_lawLine_3 : List UInt8 := [167, 0, 4, 1, 183, 1, 47, 176]
abbrev dktX1_lawLine_3 : List UInt8 := dkwX1_lawLine_3 ++ []
def dkwX1_lawLine_2 : List UInt8 := [62, 187, 1, 43, 89, 28, 29, 42, 180, 0, 25, 19, 1, 45, 182, 0, 113, 153, 0, 10, 42, 182, 0, 251]
abbrev dktX1_lawLine_2 : List UInt8 := dkwX1_lawLine_2 ++ dktX1_lawLine_3
def dkwX1_lawLine_1 : List UInt8 := [182, 0, 74, 154, 0, 11, 42, 180, 0, 25, 182, 0, 80, 191, 42, 180, 0, 25, 3, 16, 30, 182, 0, 88]
abbrev dktX1_lawLine_1 : List UInt8 := dkwX1_lawLine_1 ++ dktX1_lawLine_2
def dkwX1_lawLine_0 : List UInt8 := [42, 180, 0, 25, 182, 0, 70, 76, 43, 18, 112, 182, 0, 74, 61, 28, 154, 0, 21, 43, 19, 1, 41]
abbrev dktX1_lawLine_0 : List UInt8 := dkwX1_lawLine_0 ++ dktX1_lawLine_1
theorem dksX1_lawLine_0 : cX1_lawLine.data.toList.drop 0 = dktX1_lawLine_0 := by decide +kernel
theorem dksX1_lawLine_1 : cX1_lawLine.data.toList.drop 23 = dktX1_lawLine_1 := dk_seg dksX1_lawLine_0 23 rfl rfl
theorem dksX1_lawLine_2 : cX1_lawLine.data.toList.drop 47 = dktX1_lawLine_2 := dk_seg dksX1_lawLine_1 24 rfl rfl
theorem dksX1_lawLine_3 : cX1_lawLine.data.toList.drop 71 = dktX1_lawLine_3 := dk_seg dksX1_lawLine_2 24 rfl rfl
theorem dX1_lawLine_0 : decode cX1_lawLine 0 = .ok (.aload_n 0, 1) := dk_42 (dk_at dksX1_lawLine_0 0 rfl rfl)
theorem dX1_lawLine_1 : decode cX1_lawLine 1 = .ok (.getfield 25, 3) := dk_180 0 25 (dk_at dksX1_lawLine_0 1 rfl rfl)
theorem dX1_lawLine_4 : decode cX1_lawLine 4 = .ok (.invokevirtual 70, 3) := dk_182 0 70 (dk_at dksX1_lawLine_0 4 rfl rfl)
theorem dX1_lawLine_7 : decode cX1_lawLine 7 = .ok (.astore_n 1, 1) := dk_76 (dk_at dksX1_lawLine_0 7 rfl rfl)
theorem dX1_lawLine_8 : decode cX1_lawLine 8 = .ok (.aload_n 1, 1) := dk_43 (dk_at dksX1_lawLine_0 8 rfl rfl)
theorem dX1_lawLine_9 : decode cX1_lawLine 9 = .ok (.ldc 112, 2) := dk_18 112 (dk_at dksX1_lawLine_0 9 rfl rfl)
theorem dX1_lawLine_11 : decode cX1_lawLine 11 = .ok (.invokevirtual 74, 3) := dk_182 0 74 (dk_at dksX1_lawLine_0 11 rfl rfl)
theorem dX1_lawLine_14 : decode cX1_lawLine 14 = .ok (.istore_n 2, 1) := dk_61 (dk_at dksX1_lawLine_0 14 rfl rfl)
theorem dX1_lawLine_15 : decode cX1_lawLine 15 = .ok (.iload_n 2, 1) := dk_28 (dk_at dksX1_lawLine_0 15 rfl rfl)
theorem dX1_lawLine_16 : decode cX1_lawLine 16 = .ok (.ifCond .ne 21, 3) := dk_154 0 21 (dk_at dksX1_lawLine_0 16 rfl rfl)
theorem dX1_lawLine_19 : decode cX1_lawLine 19 = .ok (.aload_n 1, 1) := dk_43 (dk_at dksX1_lawLine_0 19 rfl rfl)
theorem dX1_lawLine_20 : decode cX1_lawLine 20 = .ok (.ldc_w 297, 3) := dk_19 1 41 (dk_at dksX1_lawLine_0 20 rfl rfl)
theorem dX1_lawLine_23 : decode cX1_lawLine 23 = .ok (.invokevirtual 74, 3) := dk_182 0 74 (dk_at dksX1_lawLine_1 0 rfl rfl)
theorem dX1_lawLine_26 : decode cX1_lawLine 26 = .ok (.ifCond .ne 11, 3) := dk_154 0 11 (dk_at dksX1_lawLine_1 3 rfl rfl)
theorem dX1_lawLine_29 : decode cX1_lawLine 29 = .ok (.aload_n 0, 1) := dk_42 (dk_at dksX1_lawLine_1 6 rfl rfl)
theorem dX1_lawLine_30 : decode cX1_lawLine 30 = .ok (.getfield 25, 3) := dk_180 0 25 (dk_at dksX1_lawLine_1 7 rfl rfl)
theorem dX1_lawLine_33 : decode cX1_lawLine 33 = .ok (.invokevirtual 80, 3) := dk_182 0 80 (dk_at dksX1_lawLine_1 10 rfl rfl)
theorem dX1_lawLine_36 : decode cX1_lawLine 36 = .ok (.athrow, 1) := dk_191 (dk_at dksX1_lawLine_1 13 rfl rfl)
theorem dX1_lawLine_37 : decode cX1_lawLine 37 = .ok (.aload_n 0, 1) := dk_42 (dk_at dksX1_lawLine_1 14 rfl rfl)
theorem dX1_lawLine_38 : decode cX1_lawLine 38 = .ok (.getfield 25, 3) := dk_180 0 25 (dk_at dksX1_lawLine_1 15 rfl rfl)
theorem dX1_lawLine_41 : decode cX1_lawLine 41 = .ok (.iconst 0, 1) := dk_3 (dk_at dksX1_lawLine_1 18 rfl rfl)
theorem dX1_lawLine_42 : decode cX1_lawLine 42 = .ok (.bipush 30, 2) := dk_16 30 (dk_at dksX1_lawLine_1 19 rfl rfl)
theorem dX1_lawLine_44 : decode cX1_lawLine 44 = .ok (.invokevirtual 88, 3) := dk_182 0 88 (dk_at dksX1_lawLine_1 21 rfl rfl)
theorem dX1_lawLine_47 : decode cX1_lawLine 47 = .ok (.istore_n 3, 1) := dk_62 (dk_at dksX1_lawLine_2 0 rfl rfl)
theorem dX1_lawLine_48 : decode cX1_lawLine 48 = .ok (.new 299, 3) := dk_187 1 43 (dk_at dksX1_lawLine_2 1 rfl rfl)
theorem dX1_lawLine_51 : decode cX1_lawLine 51 = .ok (.dup, 1) := dk_89 (dk_at dksX1_lawLine_2 4 rfl rfl)
theorem dX1_lawLine_52 : decode cX1_lawLine 52 = .ok (.iload_n 2, 1) := dk_28 (dk_at dksX1_lawLine_2 5 rfl rfl)
theorem dX1_lawLine_53 : decode cX1_lawLine 53 = .ok (.iload_n 3, 1) := dk_29 (dk_at dksX1_lawLine_2 6 rfl rfl)
theorem dX1_lawLine_54 : decode cX1_lawLine 54 = .ok (.aload_n 0, 1) := dk_42 (dk_at dksX1_lawLine_2 7 rfl rfl)
theorem dX1_lawLine_55 : decode cX1_lawLine 55 = .ok (.getfield 25, 3) := dk_180 0 25 (dk_at dksX1_lawLine_2 8 rfl rfl)
theorem dX1_lawLine_58 : decode cX1_lawLine 58 = .ok (.ldc_w 301, 3) := dk_19 1 45 (dk_at dksX1_lawLine_2 11 rfl rfl)
theorem dX1_lawLine_61 : decode cX1_lawLine 61 = .ok (.invokevirtual 113, 3) := dk_182 0 113 (dk_at dksX1_lawLine_2 14 rfl rfl)
theorem dX1_lawLine_64 : decode cX1_lawLine 64 = .ok (.ifCond .eq 10, 3) := dk_153 0 10 (dk_at dksX1_lawLine_2 17 rfl rfl)
theorem dX1_lawLine_67 : decode cX1_lawLine 67 = .ok (.aload_n 0, 1) := dk_42 (dk_at dksX1_lawLine_2 20 rfl rfl)
theorem dX1_lawLine_68 : decode cX1_lawLine 68 = .ok (.invokevirtual 251, 3) := dk_182 0 251 (dk_at dksX1_lawLine_2 21 rfl rfl)
theorem dX1_lawLine_71 : decode cX1_lawLine 71 = .ok (.goto 4, 3) := dk_167 0 4 (dk_at dksX1_lawLine_3 0 rfl rfl)
theorem dX1_lawLine_74 : decode cX1_lawLine 74 = .ok (.aconst_null, 1) := dk_1 (dk_at dksX1_lawLine_3 3 rfl rfl)
theorem dX1_lawLine_75 : decode cX1_lawLine 75 = .ok (.invokespecial 303, 3) := dk_183 1 47 (dk_at dksX1_lawLine_3 4 rfl rfl)
theorem dX1_lawLine_78 : decode cX1_lawLine 78 = .ok (.areturn, 1) := dk_176 (dk_at dksX1_lawLine_3 7 rfl rfl)
abbrev cX1_cond : ByteArray := prog_1_method_21_code
def yX1_cond : MethodName := ⟨RX1, "cond", "()LSaturdayKeep$Cond;"⟩
def dkwX1_cond_1 : List UInt8 := [180, 0, 25, 19, 1, 39, 182, 0, 113, 154, 255, 234, 43, 176]
abbrev dktX1_cond_1 : List UInt8 := dkwX1_cond_1 ++ []
def dkwX1_cond_0 : List UInt8 := [187, 1, 28, 89, 3, 183, 1, 30, 76, 43, 180, 1, 31, 42, 182, 1, 36, 182, 0, 246, 87, 42]
abbrev dktX1_cond_0 : List UInt8 := dkwX1_cond_0 ++ dktX1_cond_1
theorem dksX1_cond_0 : cX1_cond.data.toList.drop 0 = dktX1_cond_0 := by decide +kernel
theorem dksX1_cond_1 : cX1_cond.data.toList.drop 22 = dktX1_cond_1 := dk_seg dksX1_cond_0 22 rfl rfl
theorem dX1_cond_0 : decode cX1_cond 0 = .ok (.new 284, 3) := dk_187 1 28 (dk_at dksX1_cond_0 0 rfl rfl)
theorem dX1_cond_3 : decode cX1_cond 3 = .ok (.dup, 1) := dk_89 (dk_at dksX1_cond_0 3 rfl rfl)
theorem dX1_cond_4 : decode cX1_cond 4 = .ok (.iconst 0, 1) := dk_3 (dk_at dksX1_cond_0 4 rfl rfl)
theorem dX1_cond_5 : decode cX1_cond 5 = .ok (.invokespecial 286, 3) := dk_183 1 30 (dk_at dksX1_cond_0 5 rfl rfl)
theorem dX1_cond_8 : decode cX1_cond 8 = .ok (.astore_n 1, 1) := dk_76 (dk_at dksX1_cond_0 8 rfl rfl)
theorem dX1_cond_9 : decode cX1_cond 9 = .ok (.aload_n 1, 1) := dk_43 (dk_at dksX1_cond_0 9 rfl rfl)
theorem dX1_cond_10 : decode cX1_cond 10 = .ok (.getfield 287, 3) := dk_180 1 31 (dk_at dksX1_cond_0 10 rfl rfl)
theorem dX1_cond_13 : decode cX1_cond 13 = .ok (.aload_n 0, 1) := dk_42 (dk_at dksX1_cond_0 13 rfl rfl)
theorem dX1_cond_14 : decode cX1_cond 14 = .ok (.invokevirtual 292, 3) := dk_182 1 36 (dk_at dksX1_cond_0 14 rfl rfl)
theorem dX1_cond_17 : decode cX1_cond 17 = .ok (.invokevirtual 246, 3) := dk_182 0 246 (dk_at dksX1_cond_0 17 rfl rfl)
theorem dX1_cond_20 : decode cX1_cond 20 = .ok (.pop, 1) := dk_87 (dk_at dksX1_cond_0 20 rfl rfl)
theorem dX1_cond_21 : decode cX1_cond 21 = .ok (.aload_n 0, 1) := dk_42 (dk_at dksX1_cond_0 21 rfl rfl)
theorem dX1_cond_22 : decode cX1_cond 22 = .ok (.getfield 25, 3) := dk_180 0 25 (dk_at dksX1_cond_1 0 rfl rfl)
theorem dX1_cond_25 : decode cX1_cond 25 = .ok (.ldc_w 295, 3) := dk_19 1 39 (dk_at dksX1_cond_1 3 rfl rfl)
theorem dX1_cond_28 : decode cX1_cond 28 = .ok (.invokevirtual 113, 3) := dk_182 0 113 (dk_at dksX1_cond_1 6 rfl rfl)
theorem dX1_cond_31 : decode cX1_cond 31 = .ok (.ifCond .ne (-22), 3) := dk_154 255 234 (dk_at dksX1_cond_1 9 rfl rfl)
theorem dX1_cond_34 : decode cX1_cond 34 = .ok (.aload_n 1, 1) := dk_43 (dk_at dksX1_cond_1 12 rfl rfl)
theorem dX1_cond_35 : decode cX1_cond 35 = .ok (.areturn, 1) := dk_176 (dk_at dksX1_cond_1 13 rfl rfl)
abbrev cX1_allOf : ByteArray := prog_1_method_20_code
def yX1_allOf : MethodName := ⟨RX1, "allOf", "()LSaturdayKeep$Cond;"⟩
def dkwX1_allOf_1 : List UInt8 := [180, 0, 25, 19, 1, 34, 182, 0, 113, 154, 255, 234, 43, 176]
abbrev dktX1_allOf_1 : List UInt8 := dkwX1_allOf_1 ++ []
def dkwX1_allOf_0 : List UInt8 := [187, 1, 28, 89, 4, 183, 1, 30, 76, 43, 180, 1, 31, 42, 182, 1, 4, 182, 0, 246, 87, 42]
abbrev dktX1_allOf_0 : List UInt8 := dkwX1_allOf_0 ++ dktX1_allOf_1
theorem dksX1_allOf_0 : cX1_allOf.data.toList.drop 0 = dktX1_allOf_0 := by decide +kernel
theorem dksX1_allOf_1 : cX1_allOf.data.toList.drop 22 = dktX1_allOf_1 := dk_seg dksX1_allOf_0 22 rfl rfl
theorem dX1_allOf_0 : decode cX1_allOf 0 = .ok (.new 284, 3) := dk_187 1 28 (dk_at dksX1_allOf_0 0 rfl rfl)
theorem dX1_allOf_3 : decode cX1_allOf 3 = .ok (.dup, 1) := dk_89 (dk_at dksX1_allOf_0 3 rfl rfl)
theorem dX1_allOf_4 : decode cX1_allOf 4 = .ok (.iconst 1, 1) := dk_4 (dk_at dksX1_allOf_0 4 rfl rfl)
theorem dX1_allOf_5 : decode cX1_allOf 5 = .ok (.invokespecial 286, 3) := dk_183 1 30 (dk_at dksX1_allOf_0 5 rfl rfl)
theorem dX1_allOf_8 : decode cX1_allOf 8 = .ok (.astore_n 1, 1) := dk_76 (dk_at dksX1_allOf_0 8 rfl rfl)
theorem dX1_allOf_9 : decode cX1_allOf 9 = .ok (.aload_n 1, 1) := dk_43 (dk_at dksX1_allOf_0 9 rfl rfl)
theorem dX1_allOf_10 : decode cX1_allOf 10 = .ok (.getfield 287, 3) := dk_180 1 31 (dk_at dksX1_allOf_0 10 rfl rfl)
theorem dX1_allOf_13 : decode cX1_allOf 13 = .ok (.aload_n 0, 1) := dk_42 (dk_at dksX1_allOf_0 13 rfl rfl)
theorem dX1_allOf_14 : decode cX1_allOf 14 = .ok (.invokevirtual 260, 3) := dk_182 1 4 (dk_at dksX1_allOf_0 14 rfl rfl)
theorem dX1_allOf_17 : decode cX1_allOf 17 = .ok (.invokevirtual 246, 3) := dk_182 0 246 (dk_at dksX1_allOf_0 17 rfl rfl)
theorem dX1_allOf_20 : decode cX1_allOf 20 = .ok (.pop, 1) := dk_87 (dk_at dksX1_allOf_0 20 rfl rfl)
theorem dX1_allOf_21 : decode cX1_allOf 21 = .ok (.aload_n 0, 1) := dk_42 (dk_at dksX1_allOf_0 21 rfl rfl)
theorem dX1_allOf_22 : decode cX1_allOf 22 = .ok (.getfield 25, 3) := dk_180 0 25 (dk_at dksX1_allOf_1 0 rfl rfl)
theorem dX1_allOf_25 : decode cX1_allOf 25 = .ok (.ldc_w 290, 3) := dk_19 1 34 (dk_at dksX1_allOf_1 3 rfl rfl)
theorem dX1_allOf_28 : decode cX1_allOf 28 = .ok (.invokevirtual 113, 3) := dk_182 0 113 (dk_at dksX1_allOf_1 6 rfl rfl)
theorem dX1_allOf_31 : decode cX1_allOf 31 = .ok (.ifCond .ne (-22), 3) := dk_154 255 234 (dk_at dksX1_allOf_1 9 rfl rfl)
theorem dX1_allOf_34 : decode cX1_allOf 34 = .ok (.aload_n 1, 1) := dk_43 (dk_at dksX1_allOf_1 12 rfl rfl)
theorem dX1_allOf_35 : decode cX1_allOf 35 = .ok (.areturn, 1) := dk_176 (dk_at dksX1_allOf_1 13 rfl rfl)
abbrev cX1_atom : ByteArray := prog_1_method_19_code
def yX1_atom : MethodName := ⟨RX1, "atom", "()LSaturdayKeep$Cond;"⟩
def dkwX1_atom_6 : List UInt8 := [182, 0, 189, 154, 0, 8, 43, 182, 0, 80, 191, 187, 1, 23, 89, 42, 182, 1, 19, 44, 183, 1, 25, 176]
abbrev dktX1_atom_6 : List UInt8 := dkwX1_atom_6 ++ []
def dkwX1_atom_5 : List UInt8 := [16, 60, 182, 0, 189, 153, 0, 16, 187, 1, 23, 89, 44, 42, 182, 1, 19, 183, 1, 25, 176, 43, 16, 62]
abbrev dktX1_atom_5 : List UInt8 := dkwX1_atom_5 ++ dktX1_atom_6
def dkwX1_atom_4 : List UInt8 := [19, 1, 17, 182, 0, 113, 153, 0, 12, 187, 1, 12, 89, 3, 183, 1, 14, 176, 42, 182, 1, 19, 77, 43]
abbrev dktX1_atom_4 : List UInt8 := dkwX1_atom_4 ++ dktX1_atom_5
def dkwX1_atom_3 : List UInt8 := [183, 1, 9, 176, 43, 18, 121, 182, 0, 113, 153, 0, 12, 187, 1, 12, 89, 4, 183, 1, 14, 176, 43]
abbrev dktX1_atom_3 : List UInt8 := dkwX1_atom_3 ++ dktX1_atom_4
def dkwX1_atom_2 : List UInt8 := [182, 0, 113, 153, 0, 25, 43, 182, 0, 248, 42, 182, 1, 4, 77, 43, 182, 0, 255, 187, 1, 7, 89, 44]
abbrev dktX1_atom_2 : List UInt8 := dkwX1_atom_2 ++ dktX1_atom_3
def dkwX1_atom_1 : List UInt8 := [182, 0, 255, 43, 16, 41, 182, 0, 189, 154, 0, 8, 43, 182, 0, 80, 191, 44, 176, 43, 19, 1, 2]
abbrev dktX1_atom_1 : List UInt8 := dkwX1_atom_1 ++ dktX1_atom_2
def dkwX1_atom_0 : List UInt8 := [42, 180, 0, 25, 76, 43, 16, 40, 182, 0, 189, 153, 0, 32, 43, 182, 0, 248, 42, 182, 0, 251, 77, 43]
abbrev dktX1_atom_0 : List UInt8 := dkwX1_atom_0 ++ dktX1_atom_1
theorem dksX1_atom_0 : cX1_atom.data.toList.drop 0 = dktX1_atom_0 := by decide +kernel
theorem dksX1_atom_1 : cX1_atom.data.toList.drop 24 = dktX1_atom_1 := dk_seg dksX1_atom_0 24 rfl rfl
theorem dksX1_atom_2 : cX1_atom.data.toList.drop 47 = dktX1_atom_2 := dk_seg dksX1_atom_1 23 rfl rfl
theorem dksX1_atom_3 : cX1_atom.data.toList.drop 71 = dktX1_atom_3 := dk_seg dksX1_atom_2 24 rfl rfl
theorem dksX1_atom_4 : cX1_atom.data.toList.drop 94 = dktX1_atom_4 := dk_seg dksX1_atom_3 23 rfl rfl
theorem dksX1_atom_5 : cX1_atom.data.toList.drop 118 = dktX1_atom_5 := dk_seg dksX1_atom_4 24 rfl rfl
theorem dksX1_atom_6 : cX1_atom.data.toList.drop 142 = dktX1_atom_6 := dk_seg dksX1_atom_5 24 rfl rfl
theorem dX1_atom_0 : decode cX1_atom 0 = .ok (.aload_n 0, 1) := dk_42 (dk_at dksX1_atom_0 0 rfl rfl)
theorem dX1_atom_1 : decode cX1_atom 1 = .ok (.getfield 25, 3) := dk_180 0 25 (dk_at dksX1_atom_0 1 rfl rfl)
theorem dX1_atom_4 : decode cX1_atom 4 = .ok (.astore_n 1, 1) := dk_76 (dk_at dksX1_atom_0 4 rfl rfl)
theorem dX1_atom_5 : decode cX1_atom 5 = .ok (.aload_n 1, 1) := dk_43 (dk_at dksX1_atom_0 5 rfl rfl)
theorem dX1_atom_6 : decode cX1_atom 6 = .ok (.bipush 40, 2) := dk_16 40 (dk_at dksX1_atom_0 6 rfl rfl)
theorem dX1_atom_8 : decode cX1_atom 8 = .ok (.invokevirtual 189, 3) := dk_182 0 189 (dk_at dksX1_atom_0 8 rfl rfl)
theorem dX1_atom_11 : decode cX1_atom 11 = .ok (.ifCond .eq 32, 3) := dk_153 0 32 (dk_at dksX1_atom_0 11 rfl rfl)
theorem dX1_atom_14 : decode cX1_atom 14 = .ok (.aload_n 1, 1) := dk_43 (dk_at dksX1_atom_0 14 rfl rfl)
theorem dX1_atom_15 : decode cX1_atom 15 = .ok (.invokevirtual 248, 3) := dk_182 0 248 (dk_at dksX1_atom_0 15 rfl rfl)
theorem dX1_atom_18 : decode cX1_atom 18 = .ok (.aload_n 0, 1) := dk_42 (dk_at dksX1_atom_0 18 rfl rfl)
theorem dX1_atom_19 : decode cX1_atom 19 = .ok (.invokevirtual 251, 3) := dk_182 0 251 (dk_at dksX1_atom_0 19 rfl rfl)
theorem dX1_atom_22 : decode cX1_atom 22 = .ok (.astore_n 2, 1) := dk_77 (dk_at dksX1_atom_0 22 rfl rfl)
theorem dX1_atom_23 : decode cX1_atom 23 = .ok (.aload_n 1, 1) := dk_43 (dk_at dksX1_atom_0 23 rfl rfl)
theorem dX1_atom_24 : decode cX1_atom 24 = .ok (.invokevirtual 255, 3) := dk_182 0 255 (dk_at dksX1_atom_1 0 rfl rfl)
theorem dX1_atom_27 : decode cX1_atom 27 = .ok (.aload_n 1, 1) := dk_43 (dk_at dksX1_atom_1 3 rfl rfl)
theorem dX1_atom_28 : decode cX1_atom 28 = .ok (.bipush 41, 2) := dk_16 41 (dk_at dksX1_atom_1 4 rfl rfl)
theorem dX1_atom_30 : decode cX1_atom 30 = .ok (.invokevirtual 189, 3) := dk_182 0 189 (dk_at dksX1_atom_1 6 rfl rfl)
theorem dX1_atom_33 : decode cX1_atom 33 = .ok (.ifCond .ne 8, 3) := dk_154 0 8 (dk_at dksX1_atom_1 9 rfl rfl)
theorem dX1_atom_36 : decode cX1_atom 36 = .ok (.aload_n 1, 1) := dk_43 (dk_at dksX1_atom_1 12 rfl rfl)
theorem dX1_atom_37 : decode cX1_atom 37 = .ok (.invokevirtual 80, 3) := dk_182 0 80 (dk_at dksX1_atom_1 13 rfl rfl)
theorem dX1_atom_40 : decode cX1_atom 40 = .ok (.athrow, 1) := dk_191 (dk_at dksX1_atom_1 16 rfl rfl)
theorem dX1_atom_41 : decode cX1_atom 41 = .ok (.aload_n 2, 1) := dk_44 (dk_at dksX1_atom_1 17 rfl rfl)
theorem dX1_atom_42 : decode cX1_atom 42 = .ok (.areturn, 1) := dk_176 (dk_at dksX1_atom_1 18 rfl rfl)
theorem dX1_atom_43 : decode cX1_atom 43 = .ok (.aload_n 1, 1) := dk_43 (dk_at dksX1_atom_1 19 rfl rfl)
theorem dX1_atom_44 : decode cX1_atom 44 = .ok (.ldc_w 258, 3) := dk_19 1 2 (dk_at dksX1_atom_1 20 rfl rfl)
theorem dX1_atom_47 : decode cX1_atom 47 = .ok (.invokevirtual 113, 3) := dk_182 0 113 (dk_at dksX1_atom_2 0 rfl rfl)
theorem dX1_atom_50 : decode cX1_atom 50 = .ok (.ifCond .eq 25, 3) := dk_153 0 25 (dk_at dksX1_atom_2 3 rfl rfl)
theorem dX1_atom_53 : decode cX1_atom 53 = .ok (.aload_n 1, 1) := dk_43 (dk_at dksX1_atom_2 6 rfl rfl)
theorem dX1_atom_54 : decode cX1_atom 54 = .ok (.invokevirtual 248, 3) := dk_182 0 248 (dk_at dksX1_atom_2 7 rfl rfl)
theorem dX1_atom_57 : decode cX1_atom 57 = .ok (.aload_n 0, 1) := dk_42 (dk_at dksX1_atom_2 10 rfl rfl)
theorem dX1_atom_58 : decode cX1_atom 58 = .ok (.invokevirtual 260, 3) := dk_182 1 4 (dk_at dksX1_atom_2 11 rfl rfl)
theorem dX1_atom_61 : decode cX1_atom 61 = .ok (.astore_n 2, 1) := dk_77 (dk_at dksX1_atom_2 14 rfl rfl)
theorem dX1_atom_62 : decode cX1_atom 62 = .ok (.aload_n 1, 1) := dk_43 (dk_at dksX1_atom_2 15 rfl rfl)
theorem dX1_atom_63 : decode cX1_atom 63 = .ok (.invokevirtual 255, 3) := dk_182 0 255 (dk_at dksX1_atom_2 16 rfl rfl)
theorem dX1_atom_66 : decode cX1_atom 66 = .ok (.new 263, 3) := dk_187 1 7 (dk_at dksX1_atom_2 19 rfl rfl)
theorem dX1_atom_69 : decode cX1_atom 69 = .ok (.dup, 1) := dk_89 (dk_at dksX1_atom_2 22 rfl rfl)
theorem dX1_atom_70 : decode cX1_atom 70 = .ok (.aload_n 2, 1) := dk_44 (dk_at dksX1_atom_2 23 rfl rfl)
theorem dX1_atom_71 : decode cX1_atom 71 = .ok (.invokespecial 265, 3) := dk_183 1 9 (dk_at dksX1_atom_3 0 rfl rfl)
theorem dX1_atom_74 : decode cX1_atom 74 = .ok (.areturn, 1) := dk_176 (dk_at dksX1_atom_3 3 rfl rfl)
theorem dX1_atom_75 : decode cX1_atom 75 = .ok (.aload_n 1, 1) := dk_43 (dk_at dksX1_atom_3 4 rfl rfl)
theorem dX1_atom_76 : decode cX1_atom 76 = .ok (.ldc 121, 2) := dk_18 121 (dk_at dksX1_atom_3 5 rfl rfl)
theorem dX1_atom_78 : decode cX1_atom 78 = .ok (.invokevirtual 113, 3) := dk_182 0 113 (dk_at dksX1_atom_3 7 rfl rfl)
theorem dX1_atom_81 : decode cX1_atom 81 = .ok (.ifCond .eq 12, 3) := dk_153 0 12 (dk_at dksX1_atom_3 10 rfl rfl)
theorem dX1_atom_84 : decode cX1_atom 84 = .ok (.new 268, 3) := dk_187 1 12 (dk_at dksX1_atom_3 13 rfl rfl)
theorem dX1_atom_87 : decode cX1_atom 87 = .ok (.dup, 1) := dk_89 (dk_at dksX1_atom_3 16 rfl rfl)
theorem dX1_atom_88 : decode cX1_atom 88 = .ok (.iconst 1, 1) := dk_4 (dk_at dksX1_atom_3 17 rfl rfl)
theorem dX1_atom_89 : decode cX1_atom 89 = .ok (.invokespecial 270, 3) := dk_183 1 14 (dk_at dksX1_atom_3 18 rfl rfl)
theorem dX1_atom_92 : decode cX1_atom 92 = .ok (.areturn, 1) := dk_176 (dk_at dksX1_atom_3 21 rfl rfl)
theorem dX1_atom_93 : decode cX1_atom 93 = .ok (.aload_n 1, 1) := dk_43 (dk_at dksX1_atom_3 22 rfl rfl)
theorem dX1_atom_94 : decode cX1_atom 94 = .ok (.ldc_w 273, 3) := dk_19 1 17 (dk_at dksX1_atom_4 0 rfl rfl)
theorem dX1_atom_97 : decode cX1_atom 97 = .ok (.invokevirtual 113, 3) := dk_182 0 113 (dk_at dksX1_atom_4 3 rfl rfl)
theorem dX1_atom_100 : decode cX1_atom 100 = .ok (.ifCond .eq 12, 3) := dk_153 0 12 (dk_at dksX1_atom_4 6 rfl rfl)
theorem dX1_atom_103 : decode cX1_atom 103 = .ok (.new 268, 3) := dk_187 1 12 (dk_at dksX1_atom_4 9 rfl rfl)
theorem dX1_atom_106 : decode cX1_atom 106 = .ok (.dup, 1) := dk_89 (dk_at dksX1_atom_4 12 rfl rfl)
theorem dX1_atom_107 : decode cX1_atom 107 = .ok (.iconst 0, 1) := dk_3 (dk_at dksX1_atom_4 13 rfl rfl)
theorem dX1_atom_108 : decode cX1_atom 108 = .ok (.invokespecial 270, 3) := dk_183 1 14 (dk_at dksX1_atom_4 14 rfl rfl)
theorem dX1_atom_111 : decode cX1_atom 111 = .ok (.areturn, 1) := dk_176 (dk_at dksX1_atom_4 17 rfl rfl)
theorem dX1_atom_112 : decode cX1_atom 112 = .ok (.aload_n 0, 1) := dk_42 (dk_at dksX1_atom_4 18 rfl rfl)
theorem dX1_atom_113 : decode cX1_atom 113 = .ok (.invokevirtual 275, 3) := dk_182 1 19 (dk_at dksX1_atom_4 19 rfl rfl)
theorem dX1_atom_116 : decode cX1_atom 116 = .ok (.astore_n 2, 1) := dk_77 (dk_at dksX1_atom_4 22 rfl rfl)
theorem dX1_atom_117 : decode cX1_atom 117 = .ok (.aload_n 1, 1) := dk_43 (dk_at dksX1_atom_4 23 rfl rfl)
theorem dX1_atom_118 : decode cX1_atom 118 = .ok (.bipush 60, 2) := dk_16 60 (dk_at dksX1_atom_5 0 rfl rfl)
theorem dX1_atom_120 : decode cX1_atom 120 = .ok (.invokevirtual 189, 3) := dk_182 0 189 (dk_at dksX1_atom_5 2 rfl rfl)
theorem dX1_atom_123 : decode cX1_atom 123 = .ok (.ifCond .eq 16, 3) := dk_153 0 16 (dk_at dksX1_atom_5 5 rfl rfl)
theorem dX1_atom_126 : decode cX1_atom 126 = .ok (.new 279, 3) := dk_187 1 23 (dk_at dksX1_atom_5 8 rfl rfl)
theorem dX1_atom_129 : decode cX1_atom 129 = .ok (.dup, 1) := dk_89 (dk_at dksX1_atom_5 11 rfl rfl)
theorem dX1_atom_130 : decode cX1_atom 130 = .ok (.aload_n 2, 1) := dk_44 (dk_at dksX1_atom_5 12 rfl rfl)
theorem dX1_atom_131 : decode cX1_atom 131 = .ok (.aload_n 0, 1) := dk_42 (dk_at dksX1_atom_5 13 rfl rfl)
theorem dX1_atom_132 : decode cX1_atom 132 = .ok (.invokevirtual 275, 3) := dk_182 1 19 (dk_at dksX1_atom_5 14 rfl rfl)
theorem dX1_atom_135 : decode cX1_atom 135 = .ok (.invokespecial 281, 3) := dk_183 1 25 (dk_at dksX1_atom_5 17 rfl rfl)
theorem dX1_atom_138 : decode cX1_atom 138 = .ok (.areturn, 1) := dk_176 (dk_at dksX1_atom_5 20 rfl rfl)
theorem dX1_atom_139 : decode cX1_atom 139 = .ok (.aload_n 1, 1) := dk_43 (dk_at dksX1_atom_5 21 rfl rfl)
theorem dX1_atom_140 : decode cX1_atom 140 = .ok (.bipush 62, 2) := dk_16 62 (dk_at dksX1_atom_5 22 rfl rfl)
theorem dX1_atom_142 : decode cX1_atom 142 = .ok (.invokevirtual 189, 3) := dk_182 0 189 (dk_at dksX1_atom_6 0 rfl rfl)
theorem dX1_atom_145 : decode cX1_atom 145 = .ok (.ifCond .ne 8, 3) := dk_154 0 8 (dk_at dksX1_atom_6 3 rfl rfl)
theorem dX1_atom_148 : decode cX1_atom 148 = .ok (.aload_n 1, 1) := dk_43 (dk_at dksX1_atom_6 6 rfl rfl)
theorem dX1_atom_149 : decode cX1_atom 149 = .ok (.invokevirtual 80, 3) := dk_182 0 80 (dk_at dksX1_atom_6 7 rfl rfl)
theorem dX1_atom_152 : decode cX1_atom 152 = .ok (.athrow, 1) := dk_191 (dk_at dksX1_atom_6 10 rfl rfl)
theorem dX1_atom_153 : decode cX1_atom 153 = .ok (.new 279, 3) := dk_187 1 23 (dk_at dksX1_atom_6 11 rfl rfl)
theorem dX1_atom_156 : decode cX1_atom 156 = .ok (.dup, 1) := dk_89 (dk_at dksX1_atom_6 14 rfl rfl)
theorem dX1_atom_157 : decode cX1_atom 157 = .ok (.aload_n 0, 1) := dk_42 (dk_at dksX1_atom_6 15 rfl rfl)
theorem dX1_atom_158 : decode cX1_atom 158 = .ok (.invokevirtual 275, 3) := dk_182 1 19 (dk_at dksX1_atom_6 16 rfl rfl)
theorem dX1_atom_161 : decode cX1_atom 161 = .ok (.aload_n 2, 1) := dk_44 (dk_at dksX1_atom_6 19 rfl rfl)
theorem dX1_atom_162 : decode cX1_atom 162 = .ok (.invokespecial 281, 3) := dk_183 1 25 (dk_at dksX1_atom_6 20 rfl rfl)
theorem dX1_atom_165 : decode cX1_atom 165 = .ok (.areturn, 1) := dk_176 (dk_at dksX1_atom_6 23 rfl rfl)
abbrev cX1_sum : ByteArray := prog_1_method_18_code
def yX1_sum : MethodName := ⟨RX1, "sum", "()LSaturdayKeep$Sum;"⟩
def dkwX1_sum_1 : List UInt8 := [16, 43, 182, 0, 189, 154, 255, 235, 43, 176]
abbrev dktX1_sum_1 : List UInt8 := dkwX1_sum_1 ++ []
def dkwX1_sum_0 : List UInt8 := [187, 0, 236, 89, 183, 0, 238, 76, 43, 180, 0, 239, 42, 182, 0, 242, 182, 0, 246, 87, 42, 180, 0, 25]
abbrev dktX1_sum_0 : List UInt8 := dkwX1_sum_0 ++ dktX1_sum_1
theorem dksX1_sum_0 : cX1_sum.data.toList.drop 0 = dktX1_sum_0 := by decide +kernel
theorem dksX1_sum_1 : cX1_sum.data.toList.drop 24 = dktX1_sum_1 := dk_seg dksX1_sum_0 24 rfl rfl
theorem dX1_sum_0 : decode cX1_sum 0 = .ok (.new 236, 3) := dk_187 0 236 (dk_at dksX1_sum_0 0 rfl rfl)
theorem dX1_sum_3 : decode cX1_sum 3 = .ok (.dup, 1) := dk_89 (dk_at dksX1_sum_0 3 rfl rfl)
theorem dX1_sum_4 : decode cX1_sum 4 = .ok (.invokespecial 238, 3) := dk_183 0 238 (dk_at dksX1_sum_0 4 rfl rfl)
theorem dX1_sum_7 : decode cX1_sum 7 = .ok (.astore_n 1, 1) := dk_76 (dk_at dksX1_sum_0 7 rfl rfl)
theorem dX1_sum_8 : decode cX1_sum 8 = .ok (.aload_n 1, 1) := dk_43 (dk_at dksX1_sum_0 8 rfl rfl)
theorem dX1_sum_9 : decode cX1_sum 9 = .ok (.getfield 239, 3) := dk_180 0 239 (dk_at dksX1_sum_0 9 rfl rfl)
theorem dX1_sum_12 : decode cX1_sum 12 = .ok (.aload_n 0, 1) := dk_42 (dk_at dksX1_sum_0 12 rfl rfl)
theorem dX1_sum_13 : decode cX1_sum 13 = .ok (.invokevirtual 242, 3) := dk_182 0 242 (dk_at dksX1_sum_0 13 rfl rfl)
theorem dX1_sum_16 : decode cX1_sum 16 = .ok (.invokevirtual 246, 3) := dk_182 0 246 (dk_at dksX1_sum_0 16 rfl rfl)
theorem dX1_sum_19 : decode cX1_sum 19 = .ok (.pop, 1) := dk_87 (dk_at dksX1_sum_0 19 rfl rfl)
theorem dX1_sum_20 : decode cX1_sum 20 = .ok (.aload_n 0, 1) := dk_42 (dk_at dksX1_sum_0 20 rfl rfl)
theorem dX1_sum_21 : decode cX1_sum 21 = .ok (.getfield 25, 3) := dk_180 0 25 (dk_at dksX1_sum_0 21 rfl rfl)
theorem dX1_sum_24 : decode cX1_sum 24 = .ok (.bipush 43, 2) := dk_16 43 (dk_at dksX1_sum_1 0 rfl rfl)
theorem dX1_sum_26 : decode cX1_sum 26 = .ok (.invokevirtual 189, 3) := dk_182 0 189 (dk_at dksX1_sum_1 2 rfl rfl)
theorem dX1_sum_29 : decode cX1_sum 29 = .ok (.ifCond .ne (-21), 3) := dk_154 255 235 (dk_at dksX1_sum_1 5 rfl rfl)
theorem dX1_sum_32 : decode cX1_sum 32 = .ok (.aload_n 1, 1) := dk_43 (dk_at dksX1_sum_1 8 rfl rfl)
theorem dX1_sum_33 : decode cX1_sum 33 = .ok (.areturn, 1) := dk_176 (dk_at dksX1_sum_1 9 rfl rfl)
abbrev cX1_onePart : ByteArray := prog_1_method_17_code
def yX1_onePart : MethodName := ⟨RX1, "onePart", "()LSaturdayKeep$Part;"⟩
def dkwX1_onePart_2 : List UInt8 := [180, 0, 25, 182, 0, 80, 191, 187, 0, 225, 89, 3, 43, 183, 0, 227, 176]
abbrev dktX1_onePart_2 : List UInt8 := dkwX1_onePart_2 ++ []
def dkwX1_onePart_1 : List UInt8 := [182, 0, 88, 1, 183, 0, 227, 176, 42, 180, 0, 25, 182, 0, 70, 184, 0, 230, 76, 43, 199, 0, 11, 42]
abbrev dktX1_onePart_1 : List UInt8 := dkwX1_onePart_1 ++ dktX1_onePart_2
def dkwX1_onePart_0 : List UInt8 := [42, 180, 0, 25, 182, 0, 222, 153, 0, 23, 187, 0, 225, 89, 42, 180, 0, 25, 3, 17, 3, 231]
abbrev dktX1_onePart_0 : List UInt8 := dkwX1_onePart_0 ++ dktX1_onePart_1
theorem dksX1_onePart_0 : cX1_onePart.data.toList.drop 0 = dktX1_onePart_0 := by decide +kernel
theorem dksX1_onePart_1 : cX1_onePart.data.toList.drop 22 = dktX1_onePart_1 := dk_seg dksX1_onePart_0 22 rfl rfl
theorem dksX1_onePart_2 : cX1_onePart.data.toList.drop 46 = dktX1_onePart_2 := dk_seg dksX1_onePart_1 24 rfl rfl
theorem dX1_onePart_0 : decode cX1_onePart 0 = .ok (.aload_n 0, 1) := dk_42 (dk_at dksX1_onePart_0 0 rfl rfl)
theorem dX1_onePart_1 : decode cX1_onePart 1 = .ok (.getfield 25, 3) := dk_180 0 25 (dk_at dksX1_onePart_0 1 rfl rfl)
theorem dX1_onePart_4 : decode cX1_onePart 4 = .ok (.invokevirtual 222, 3) := dk_182 0 222 (dk_at dksX1_onePart_0 4 rfl rfl)
theorem dX1_onePart_7 : decode cX1_onePart 7 = .ok (.ifCond .eq 23, 3) := dk_153 0 23 (dk_at dksX1_onePart_0 7 rfl rfl)
theorem dX1_onePart_10 : decode cX1_onePart 10 = .ok (.new 225, 3) := dk_187 0 225 (dk_at dksX1_onePart_0 10 rfl rfl)
theorem dX1_onePart_13 : decode cX1_onePart 13 = .ok (.dup, 1) := dk_89 (dk_at dksX1_onePart_0 13 rfl rfl)
theorem dX1_onePart_14 : decode cX1_onePart 14 = .ok (.aload_n 0, 1) := dk_42 (dk_at dksX1_onePart_0 14 rfl rfl)
theorem dX1_onePart_15 : decode cX1_onePart 15 = .ok (.getfield 25, 3) := dk_180 0 25 (dk_at dksX1_onePart_0 15 rfl rfl)
theorem dX1_onePart_18 : decode cX1_onePart 18 = .ok (.iconst 0, 1) := dk_3 (dk_at dksX1_onePart_0 18 rfl rfl)
theorem dX1_onePart_19 : decode cX1_onePart 19 = .ok (.sipush 999, 3) := dk_17 3 231 (dk_at dksX1_onePart_0 19 rfl rfl)
theorem dX1_onePart_22 : decode cX1_onePart 22 = .ok (.invokevirtual 88, 3) := dk_182 0 88 (dk_at dksX1_onePart_1 0 rfl rfl)
theorem dX1_onePart_25 : decode cX1_onePart 25 = .ok (.aconst_null, 1) := dk_1 (dk_at dksX1_onePart_1 3 rfl rfl)
theorem dX1_onePart_26 : decode cX1_onePart 26 = .ok (.invokespecial 227, 3) := dk_183 0 227 (dk_at dksX1_onePart_1 4 rfl rfl)
theorem dX1_onePart_29 : decode cX1_onePart 29 = .ok (.areturn, 1) := dk_176 (dk_at dksX1_onePart_1 7 rfl rfl)
theorem dX1_onePart_30 : decode cX1_onePart 30 = .ok (.aload_n 0, 1) := dk_42 (dk_at dksX1_onePart_1 8 rfl rfl)
theorem dX1_onePart_31 : decode cX1_onePart 31 = .ok (.getfield 25, 3) := dk_180 0 25 (dk_at dksX1_onePart_1 9 rfl rfl)
theorem dX1_onePart_34 : decode cX1_onePart 34 = .ok (.invokevirtual 70, 3) := dk_182 0 70 (dk_at dksX1_onePart_1 12 rfl rfl)
theorem dX1_onePart_37 : decode cX1_onePart 37 = .ok (.invokestatic 230, 3) := dk_184 0 230 (dk_at dksX1_onePart_1 15 rfl rfl)
theorem dX1_onePart_40 : decode cX1_onePart 40 = .ok (.astore_n 1, 1) := dk_76 (dk_at dksX1_onePart_1 18 rfl rfl)
theorem dX1_onePart_41 : decode cX1_onePart 41 = .ok (.aload_n 1, 1) := dk_43 (dk_at dksX1_onePart_1 19 rfl rfl)
theorem dX1_onePart_42 : decode cX1_onePart 42 = .ok (.ifnonnull 11, 3) := dk_199 0 11 (dk_at dksX1_onePart_1 20 rfl rfl)
theorem dX1_onePart_45 : decode cX1_onePart 45 = .ok (.aload_n 0, 1) := dk_42 (dk_at dksX1_onePart_1 23 rfl rfl)
theorem dX1_onePart_46 : decode cX1_onePart 46 = .ok (.getfield 25, 3) := dk_180 0 25 (dk_at dksX1_onePart_2 0 rfl rfl)
theorem dX1_onePart_49 : decode cX1_onePart 49 = .ok (.invokevirtual 80, 3) := dk_182 0 80 (dk_at dksX1_onePart_2 3 rfl rfl)
theorem dX1_onePart_52 : decode cX1_onePart 52 = .ok (.athrow, 1) := dk_191 (dk_at dksX1_onePart_2 6 rfl rfl)
theorem dX1_onePart_53 : decode cX1_onePart 53 = .ok (.new 225, 3) := dk_187 0 225 (dk_at dksX1_onePart_2 7 rfl rfl)
theorem dX1_onePart_56 : decode cX1_onePart 56 = .ok (.dup, 1) := dk_89 (dk_at dksX1_onePart_2 10 rfl rfl)
theorem dX1_onePart_57 : decode cX1_onePart 57 = .ok (.iconst 0, 1) := dk_3 (dk_at dksX1_onePart_2 11 rfl rfl)
theorem dX1_onePart_58 : decode cX1_onePart 58 = .ok (.aload_n 1, 1) := dk_43 (dk_at dksX1_onePart_2 12 rfl rfl)
theorem dX1_onePart_59 : decode cX1_onePart 59 = .ok (.invokespecial 227, 3) := dk_183 0 227 (dk_at dksX1_onePart_2 13 rfl rfl)
theorem dX1_onePart_62 : decode cX1_onePart 62 = .ok (.areturn, 1) := dk_176 (dk_at dksX1_onePart_2 16 rfl rfl)
abbrev cX1_guest : ByteArray := prog_1_method_39_code
def yX1_guest : MethodName := ⟨RX1, "guest", "(II)I"⟩
def dkwX1_guest_5 : List UInt8 := [46, 45, 180, 0, 117, 27, 51, 182, 1, 168, 172, 42, 27, 182, 1, 172, 172]
abbrev dktX1_guest_5 : List UInt8 := dkwX1_guest_5 ++ []
def dkwX1_guest_4 : List UInt8 := [167, 0, 4, 3, 172, 45, 27, 182, 1, 124, 172, 42, 45, 27, 182, 1, 108, 172, 45, 45, 180, 0, 104, 27]
abbrev dktX1_guest_4 : List UInt8 := dkwX1_guest_4 ++ dktX1_guest_5
def dkwX1_guest_3 : List UInt8 := [180, 0, 117, 27, 51, 153, 0, 7, 4, 167, 0, 4, 3, 172, 45, 180, 0, 122, 27, 51, 153, 0, 7, 4]
abbrev dktX1_guest_3 : List UInt8 := dkwX1_guest_3 ++ dktX1_guest_4
def dkwX1_guest_2 : List UInt8 := [45, 180, 0, 104, 27, 46, 172, 45, 180, 0, 95, 27, 46, 172, 45, 180, 0, 109, 27, 46, 172, 45]
abbrev dktX1_guest_2 : List UInt8 := dkwX1_guest_2 ++ dktX1_guest_3
def dkwX1_guest_1 : List UInt8 := [170, 0, 0, 0, 0, 0, 128, 0, 0, 0, 0, 0, 0, 0, 7, 0, 0, 0, 47, 0, 0, 0, 54, 0, 0, 0, 61, 0, 0, 0, 68, 0, 0, 0, 83, 0, 0, 0, 98, 0, 0, 0, 104, 0, 0, 0, 111]
abbrev dktX1_guest_1 : List UInt8 := dkwX1_guest_1 ++ dktX1_guest_2
def dkwX1_guest_0 : List UInt8 := [42, 27, 182, 1, 162, 28, 16, 8, 184, 1, 165, 42, 180, 0, 10, 78, 28]
abbrev dktX1_guest_0 : List UInt8 := dkwX1_guest_0 ++ dktX1_guest_1
theorem dksX1_guest_0 : cX1_guest.data.toList.drop 0 = dktX1_guest_0 := by decide +kernel
theorem dksX1_guest_1 : cX1_guest.data.toList.drop 17 = dktX1_guest_1 := dk_seg dksX1_guest_0 17 rfl rfl
theorem dksX1_guest_2 : cX1_guest.data.toList.drop 64 = dktX1_guest_2 := dk_seg dksX1_guest_1 47 rfl rfl
theorem dksX1_guest_3 : cX1_guest.data.toList.drop 86 = dktX1_guest_3 := dk_seg dksX1_guest_2 22 rfl rfl
theorem dksX1_guest_4 : cX1_guest.data.toList.drop 110 = dktX1_guest_4 := dk_seg dksX1_guest_3 24 rfl rfl
theorem dksX1_guest_5 : cX1_guest.data.toList.drop 134 = dktX1_guest_5 := dk_seg dksX1_guest_4 24 rfl rfl
theorem dX1_guest_0 : decode cX1_guest 0 = .ok (.aload_n 0, 1) := dk_42 (dk_at dksX1_guest_0 0 rfl rfl)
theorem dX1_guest_1 : decode cX1_guest 1 = .ok (.iload_n 1, 1) := dk_27 (dk_at dksX1_guest_0 1 rfl rfl)
theorem dX1_guest_2 : decode cX1_guest 2 = .ok (.invokevirtual 418, 3) := dk_182 1 162 (dk_at dksX1_guest_0 2 rfl rfl)
theorem dX1_guest_5 : decode cX1_guest 5 = .ok (.iload_n 2, 1) := dk_28 (dk_at dksX1_guest_0 5 rfl rfl)
theorem dX1_guest_6 : decode cX1_guest 6 = .ok (.bipush 8, 2) := dk_16 8 (dk_at dksX1_guest_0 6 rfl rfl)
theorem dX1_guest_8 : decode cX1_guest 8 = .ok (.invokestatic 421, 3) := dk_184 1 165 (dk_at dksX1_guest_0 8 rfl rfl)
theorem dX1_guest_11 : decode cX1_guest 11 = .ok (.aload_n 0, 1) := dk_42 (dk_at dksX1_guest_0 11 rfl rfl)
theorem dX1_guest_12 : decode cX1_guest 12 = .ok (.getfield 10, 3) := dk_180 0 10 (dk_at dksX1_guest_0 12 rfl rfl)
theorem dX1_guest_15 : decode cX1_guest 15 = .ok (.astore_n 3, 1) := dk_78 (dk_at dksX1_guest_0 15 rfl rfl)
theorem dX1_guest_16 : decode cX1_guest 16 = .ok (.iload_n 2, 1) := dk_28 (dk_at dksX1_guest_0 16 rfl rfl)
theorem dX1_guest_17 : decode cX1_guest 17 = .ok (.tableswitch 128 0 7 #[47, 54, 61, 68, 83, 98, 104, 111], 47) := by decide +kernel
theorem dX1_guest_64 : decode cX1_guest 64 = .ok (.aload_n 3, 1) := dk_45 (dk_at dksX1_guest_2 0 rfl rfl)
theorem dX1_guest_65 : decode cX1_guest 65 = .ok (.getfield 104, 3) := dk_180 0 104 (dk_at dksX1_guest_2 1 rfl rfl)
theorem dX1_guest_68 : decode cX1_guest 68 = .ok (.iload_n 1, 1) := dk_27 (dk_at dksX1_guest_2 4 rfl rfl)
theorem dX1_guest_69 : decode cX1_guest 69 = .ok (.iaload, 1) := dk_46 (dk_at dksX1_guest_2 5 rfl rfl)
theorem dX1_guest_70 : decode cX1_guest 70 = .ok (.ireturn, 1) := dk_172 (dk_at dksX1_guest_2 6 rfl rfl)
theorem dX1_guest_71 : decode cX1_guest 71 = .ok (.aload_n 3, 1) := dk_45 (dk_at dksX1_guest_2 7 rfl rfl)
theorem dX1_guest_72 : decode cX1_guest 72 = .ok (.getfield 95, 3) := dk_180 0 95 (dk_at dksX1_guest_2 8 rfl rfl)
theorem dX1_guest_75 : decode cX1_guest 75 = .ok (.iload_n 1, 1) := dk_27 (dk_at dksX1_guest_2 11 rfl rfl)
theorem dX1_guest_76 : decode cX1_guest 76 = .ok (.iaload, 1) := dk_46 (dk_at dksX1_guest_2 12 rfl rfl)
theorem dX1_guest_77 : decode cX1_guest 77 = .ok (.ireturn, 1) := dk_172 (dk_at dksX1_guest_2 13 rfl rfl)
theorem dX1_guest_78 : decode cX1_guest 78 = .ok (.aload_n 3, 1) := dk_45 (dk_at dksX1_guest_2 14 rfl rfl)
theorem dX1_guest_79 : decode cX1_guest 79 = .ok (.getfield 109, 3) := dk_180 0 109 (dk_at dksX1_guest_2 15 rfl rfl)
theorem dX1_guest_82 : decode cX1_guest 82 = .ok (.iload_n 1, 1) := dk_27 (dk_at dksX1_guest_2 18 rfl rfl)
theorem dX1_guest_83 : decode cX1_guest 83 = .ok (.iaload, 1) := dk_46 (dk_at dksX1_guest_2 19 rfl rfl)
theorem dX1_guest_84 : decode cX1_guest 84 = .ok (.ireturn, 1) := dk_172 (dk_at dksX1_guest_2 20 rfl rfl)
theorem dX1_guest_85 : decode cX1_guest 85 = .ok (.aload_n 3, 1) := dk_45 (dk_at dksX1_guest_2 21 rfl rfl)
theorem dX1_guest_86 : decode cX1_guest 86 = .ok (.getfield 117, 3) := dk_180 0 117 (dk_at dksX1_guest_3 0 rfl rfl)
theorem dX1_guest_89 : decode cX1_guest 89 = .ok (.iload_n 1, 1) := dk_27 (dk_at dksX1_guest_3 3 rfl rfl)
theorem dX1_guest_90 : decode cX1_guest 90 = .ok (.baload, 1) := dk_51 (dk_at dksX1_guest_3 4 rfl rfl)
theorem dX1_guest_91 : decode cX1_guest 91 = .ok (.ifCond .eq 7, 3) := dk_153 0 7 (dk_at dksX1_guest_3 5 rfl rfl)
theorem dX1_guest_94 : decode cX1_guest 94 = .ok (.iconst 1, 1) := dk_4 (dk_at dksX1_guest_3 8 rfl rfl)
theorem dX1_guest_95 : decode cX1_guest 95 = .ok (.goto 4, 3) := dk_167 0 4 (dk_at dksX1_guest_3 9 rfl rfl)
theorem dX1_guest_98 : decode cX1_guest 98 = .ok (.iconst 0, 1) := dk_3 (dk_at dksX1_guest_3 12 rfl rfl)
theorem dX1_guest_99 : decode cX1_guest 99 = .ok (.ireturn, 1) := dk_172 (dk_at dksX1_guest_3 13 rfl rfl)
theorem dX1_guest_100 : decode cX1_guest 100 = .ok (.aload_n 3, 1) := dk_45 (dk_at dksX1_guest_3 14 rfl rfl)
theorem dX1_guest_101 : decode cX1_guest 101 = .ok (.getfield 122, 3) := dk_180 0 122 (dk_at dksX1_guest_3 15 rfl rfl)
theorem dX1_guest_104 : decode cX1_guest 104 = .ok (.iload_n 1, 1) := dk_27 (dk_at dksX1_guest_3 18 rfl rfl)
theorem dX1_guest_105 : decode cX1_guest 105 = .ok (.baload, 1) := dk_51 (dk_at dksX1_guest_3 19 rfl rfl)
theorem dX1_guest_106 : decode cX1_guest 106 = .ok (.ifCond .eq 7, 3) := dk_153 0 7 (dk_at dksX1_guest_3 20 rfl rfl)
theorem dX1_guest_109 : decode cX1_guest 109 = .ok (.iconst 1, 1) := dk_4 (dk_at dksX1_guest_3 23 rfl rfl)
theorem dX1_guest_110 : decode cX1_guest 110 = .ok (.goto 4, 3) := dk_167 0 4 (dk_at dksX1_guest_4 0 rfl rfl)
theorem dX1_guest_113 : decode cX1_guest 113 = .ok (.iconst 0, 1) := dk_3 (dk_at dksX1_guest_4 3 rfl rfl)
theorem dX1_guest_114 : decode cX1_guest 114 = .ok (.ireturn, 1) := dk_172 (dk_at dksX1_guest_4 4 rfl rfl)
theorem dX1_guest_115 : decode cX1_guest 115 = .ok (.aload_n 3, 1) := dk_45 (dk_at dksX1_guest_4 5 rfl rfl)
theorem dX1_guest_116 : decode cX1_guest 116 = .ok (.iload_n 1, 1) := dk_27 (dk_at dksX1_guest_4 6 rfl rfl)
theorem dX1_guest_117 : decode cX1_guest 117 = .ok (.invokevirtual 380, 3) := dk_182 1 124 (dk_at dksX1_guest_4 7 rfl rfl)
theorem dX1_guest_120 : decode cX1_guest 120 = .ok (.ireturn, 1) := dk_172 (dk_at dksX1_guest_4 10 rfl rfl)
theorem dX1_guest_121 : decode cX1_guest 121 = .ok (.aload_n 0, 1) := dk_42 (dk_at dksX1_guest_4 11 rfl rfl)
theorem dX1_guest_122 : decode cX1_guest 122 = .ok (.aload_n 3, 1) := dk_45 (dk_at dksX1_guest_4 12 rfl rfl)
theorem dX1_guest_123 : decode cX1_guest 123 = .ok (.iload_n 1, 1) := dk_27 (dk_at dksX1_guest_4 13 rfl rfl)
theorem dX1_guest_124 : decode cX1_guest 124 = .ok (.invokevirtual 364, 3) := dk_182 1 108 (dk_at dksX1_guest_4 14 rfl rfl)
theorem dX1_guest_127 : decode cX1_guest 127 = .ok (.ireturn, 1) := dk_172 (dk_at dksX1_guest_4 17 rfl rfl)
theorem dX1_guest_128 : decode cX1_guest 128 = .ok (.aload_n 3, 1) := dk_45 (dk_at dksX1_guest_4 18 rfl rfl)
theorem dX1_guest_129 : decode cX1_guest 129 = .ok (.aload_n 3, 1) := dk_45 (dk_at dksX1_guest_4 19 rfl rfl)
theorem dX1_guest_130 : decode cX1_guest 130 = .ok (.getfield 104, 3) := dk_180 0 104 (dk_at dksX1_guest_4 20 rfl rfl)
theorem dX1_guest_133 : decode cX1_guest 133 = .ok (.iload_n 1, 1) := dk_27 (dk_at dksX1_guest_4 23 rfl rfl)
theorem dX1_guest_134 : decode cX1_guest 134 = .ok (.iaload, 1) := dk_46 (dk_at dksX1_guest_5 0 rfl rfl)
theorem dX1_guest_135 : decode cX1_guest 135 = .ok (.aload_n 3, 1) := dk_45 (dk_at dksX1_guest_5 1 rfl rfl)
theorem dX1_guest_136 : decode cX1_guest 136 = .ok (.getfield 117, 3) := dk_180 0 117 (dk_at dksX1_guest_5 2 rfl rfl)
theorem dX1_guest_139 : decode cX1_guest 139 = .ok (.iload_n 1, 1) := dk_27 (dk_at dksX1_guest_5 5 rfl rfl)
theorem dX1_guest_140 : decode cX1_guest 140 = .ok (.baload, 1) := dk_51 (dk_at dksX1_guest_5 6 rfl rfl)
theorem dX1_guest_141 : decode cX1_guest 141 = .ok (.invokevirtual 424, 3) := dk_182 1 168 (dk_at dksX1_guest_5 7 rfl rfl)
theorem dX1_guest_144 : decode cX1_guest 144 = .ok (.ireturn, 1) := dk_172 (dk_at dksX1_guest_5 10 rfl rfl)
theorem dX1_guest_145 : decode cX1_guest 145 = .ok (.aload_n 0, 1) := dk_42 (dk_at dksX1_guest_5 11 rfl rfl)
theorem dX1_guest_146 : decode cX1_guest 146 = .ok (.iload_n 1, 1) := dk_27 (dk_at dksX1_guest_5 12 rfl rfl)
theorem dX1_guest_147 : decode cX1_guest 147 = .ok (.invokevirtual 428, 3) := dk_182 1 172 (dk_at dksX1_guest_5 13 rfl rfl)
theorem dX1_guest_150 : decode cX1_guest 150 = .ok (.ireturn, 1) := dk_172 (dk_at dksX1_guest_5 16 rfl rfl)
abbrev cX1_guestAt : ByteArray := prog_1_method_34_code
def yX1_guestAt : MethodName := ⟨RX1, "guestAt", "(I)V"⟩
def dkwX1_guestAt_0 : List UInt8 := [27, 42, 180, 0, 10, 180, 0, 92, 184, 1, 156, 177]
abbrev dktX1_guestAt_0 : List UInt8 := dkwX1_guestAt_0 ++ []
theorem dksX1_guestAt_0 : cX1_guestAt.data.toList.drop 0 = dktX1_guestAt_0 := by decide +kernel
theorem dX1_guestAt_0 : decode cX1_guestAt 0 = .ok (.iload_n 1, 1) := dk_27 (dk_at dksX1_guestAt_0 0 rfl rfl)
theorem dX1_guestAt_1 : decode cX1_guestAt 1 = .ok (.aload_n 0, 1) := dk_42 (dk_at dksX1_guestAt_0 1 rfl rfl)
theorem dX1_guestAt_2 : decode cX1_guestAt 2 = .ok (.getfield 10, 3) := dk_180 0 10 (dk_at dksX1_guestAt_0 2 rfl rfl)
theorem dX1_guestAt_5 : decode cX1_guestAt 5 = .ok (.getfield 92, 3) := dk_180 0 92 (dk_at dksX1_guestAt_0 5 rfl rfl)
theorem dX1_guestAt_8 : decode cX1_guestAt 8 = .ok (.invokestatic 412, 3) := dk_184 1 156 (dk_at dksX1_guestAt_0 8 rfl rfl)
theorem dX1_guestAt_11 : decode cX1_guestAt 11 = .ok (.return_, 1) := dk_177 (dk_at dksX1_guestAt_0 11 rfl rfl)
abbrev cX1_there : ByteArray := prog_1_method_31_code
def yX1_there : MethodName := ⟨RX1, "there", "(II)V"⟩
def dkwX1_there_0 : List UInt8 := [26, 3, 27, 4, 100, 184, 1, 146, 154, 0, 11, 187, 1, 150, 89, 183, 1, 152, 191, 177]
abbrev dktX1_there_0 : List UInt8 := dkwX1_there_0 ++ []
theorem dksX1_there_0 : cX1_there.data.toList.drop 0 = dktX1_there_0 := by decide +kernel
theorem dX1_there_0 : decode cX1_there 0 = .ok (.iload_n 0, 1) := dk_26 (dk_at dksX1_there_0 0 rfl rfl)
theorem dX1_there_1 : decode cX1_there 1 = .ok (.iconst 0, 1) := dk_3 (dk_at dksX1_there_0 1 rfl rfl)
theorem dX1_there_2 : decode cX1_there 2 = .ok (.iload_n 1, 1) := dk_27 (dk_at dksX1_there_0 2 rfl rfl)
theorem dX1_there_3 : decode cX1_there 3 = .ok (.iconst 1, 1) := dk_4 (dk_at dksX1_there_0 3 rfl rfl)
theorem dX1_there_4 : decode cX1_there 4 = .ok (.isub, 1) := dk_100 (dk_at dksX1_there_0 4 rfl rfl)
theorem dX1_there_5 : decode cX1_there 5 = .ok (.invokestatic 402, 3) := dk_184 1 146 (dk_at dksX1_there_0 5 rfl rfl)
theorem dX1_there_8 : decode cX1_there 8 = .ok (.ifCond .ne 11, 3) := dk_154 0 11 (dk_at dksX1_there_0 8 rfl rfl)
theorem dX1_there_11 : decode cX1_there 11 = .ok (.new 406, 3) := dk_187 1 150 (dk_at dksX1_there_0 11 rfl rfl)
theorem dX1_there_14 : decode cX1_there 14 = .ok (.dup, 1) := dk_89 (dk_at dksX1_there_0 14 rfl rfl)
theorem dX1_there_15 : decode cX1_there 15 = .ok (.invokespecial 408, 3) := dk_183 1 152 (dk_at dksX1_there_0 15 rfl rfl)
theorem dX1_there_18 : decode cX1_there 18 = .ok (.athrow, 1) := dk_191 (dk_at dksX1_there_0 18 rfl rfl)
theorem dX1_there_19 : decode cX1_there 19 = .ok (.return_, 1) := dk_177 (dk_at dksX1_there_0 19 rfl rfl)
abbrev cX1_question : ByteArray := prog_1_method_33_code
def yX1_question : MethodName := ⟨RX1, "question", "(II)V"⟩
def dkwX1_question_0 : List UInt8 := [26, 3, 27, 184, 1, 146, 154, 0, 11, 187, 1, 153, 89, 183, 1, 155, 191, 177]
abbrev dktX1_question_0 : List UInt8 := dkwX1_question_0 ++ []
theorem dksX1_question_0 : cX1_question.data.toList.drop 0 = dktX1_question_0 := by decide +kernel
theorem dX1_question_0 : decode cX1_question 0 = .ok (.iload_n 0, 1) := dk_26 (dk_at dksX1_question_0 0 rfl rfl)
theorem dX1_question_1 : decode cX1_question 1 = .ok (.iconst 0, 1) := dk_3 (dk_at dksX1_question_0 1 rfl rfl)
theorem dX1_question_2 : decode cX1_question 2 = .ok (.iload_n 1, 1) := dk_27 (dk_at dksX1_question_0 2 rfl rfl)
theorem dX1_question_3 : decode cX1_question 3 = .ok (.invokestatic 402, 3) := dk_184 1 146 (dk_at dksX1_question_0 3 rfl rfl)
theorem dX1_question_6 : decode cX1_question 6 = .ok (.ifCond .ne 11, 3) := dk_154 0 11 (dk_at dksX1_question_0 6 rfl rfl)
theorem dX1_question_9 : decode cX1_question 9 = .ok (.new 409, 3) := dk_187 1 153 (dk_at dksX1_question_0 9 rfl rfl)
theorem dX1_question_12 : decode cX1_question 12 = .ok (.dup, 1) := dk_89 (dk_at dksX1_question_0 12 rfl rfl)
theorem dX1_question_13 : decode cX1_question 13 = .ok (.invokespecial 411, 3) := dk_183 1 155 (dk_at dksX1_question_0 13 rfl rfl)
theorem dX1_question_16 : decode cX1_question 16 = .ok (.athrow, 1) := dk_191 (dk_at dksX1_question_0 16 rfl rfl)
theorem dX1_question_17 : decode cX1_question 17 = .ok (.return_, 1) := dk_177 (dk_at dksX1_question_0 17 rfl rfl)
abbrev cX1_shareOf : ByteArray := prog_1_method_38_code
def yX1_shareOf : MethodName := ⟨RX1, "shareOf", "(I)I"⟩
def dkwX1_shareOf_1 : List UInt8 := [3, 167, 0, 17, 16, 100, 42, 180, 0, 10, 180, 0, 109, 27, 46, 104, 28, 108, 172]
abbrev dktX1_shareOf_1 : List UInt8 := dkwX1_shareOf_1 ++ []
def dkwX1_shareOf_0 : List UInt8 := [42, 180, 0, 10, 182, 1, 159, 61, 28, 153, 0, 15, 42, 180, 0, 10, 180, 0, 122, 27, 51, 154, 0, 7]
abbrev dktX1_shareOf_0 : List UInt8 := dkwX1_shareOf_0 ++ dktX1_shareOf_1
theorem dksX1_shareOf_0 : cX1_shareOf.data.toList.drop 0 = dktX1_shareOf_0 := by decide +kernel
theorem dksX1_shareOf_1 : cX1_shareOf.data.toList.drop 24 = dktX1_shareOf_1 := dk_seg dksX1_shareOf_0 24 rfl rfl
theorem dX1_shareOf_0 : decode cX1_shareOf 0 = .ok (.aload_n 0, 1) := dk_42 (dk_at dksX1_shareOf_0 0 rfl rfl)
theorem dX1_shareOf_1 : decode cX1_shareOf 1 = .ok (.getfield 10, 3) := dk_180 0 10 (dk_at dksX1_shareOf_0 1 rfl rfl)
theorem dX1_shareOf_4 : decode cX1_shareOf 4 = .ok (.invokevirtual 415, 3) := dk_182 1 159 (dk_at dksX1_shareOf_0 4 rfl rfl)
theorem dX1_shareOf_7 : decode cX1_shareOf 7 = .ok (.istore_n 2, 1) := dk_61 (dk_at dksX1_shareOf_0 7 rfl rfl)
theorem dX1_shareOf_8 : decode cX1_shareOf 8 = .ok (.iload_n 2, 1) := dk_28 (dk_at dksX1_shareOf_0 8 rfl rfl)
theorem dX1_shareOf_9 : decode cX1_shareOf 9 = .ok (.ifCond .eq 15, 3) := dk_153 0 15 (dk_at dksX1_shareOf_0 9 rfl rfl)
theorem dX1_shareOf_12 : decode cX1_shareOf 12 = .ok (.aload_n 0, 1) := dk_42 (dk_at dksX1_shareOf_0 12 rfl rfl)
theorem dX1_shareOf_13 : decode cX1_shareOf 13 = .ok (.getfield 10, 3) := dk_180 0 10 (dk_at dksX1_shareOf_0 13 rfl rfl)
theorem dX1_shareOf_16 : decode cX1_shareOf 16 = .ok (.getfield 122, 3) := dk_180 0 122 (dk_at dksX1_shareOf_0 16 rfl rfl)
theorem dX1_shareOf_19 : decode cX1_shareOf 19 = .ok (.iload_n 1, 1) := dk_27 (dk_at dksX1_shareOf_0 19 rfl rfl)
theorem dX1_shareOf_20 : decode cX1_shareOf 20 = .ok (.baload, 1) := dk_51 (dk_at dksX1_shareOf_0 20 rfl rfl)
theorem dX1_shareOf_21 : decode cX1_shareOf 21 = .ok (.ifCond .ne 7, 3) := dk_154 0 7 (dk_at dksX1_shareOf_0 21 rfl rfl)
theorem dX1_shareOf_24 : decode cX1_shareOf 24 = .ok (.iconst 0, 1) := dk_3 (dk_at dksX1_shareOf_1 0 rfl rfl)
theorem dX1_shareOf_25 : decode cX1_shareOf 25 = .ok (.goto 17, 3) := dk_167 0 17 (dk_at dksX1_shareOf_1 1 rfl rfl)
theorem dX1_shareOf_28 : decode cX1_shareOf 28 = .ok (.bipush 100, 2) := dk_16 100 (dk_at dksX1_shareOf_1 4 rfl rfl)
theorem dX1_shareOf_30 : decode cX1_shareOf 30 = .ok (.aload_n 0, 1) := dk_42 (dk_at dksX1_shareOf_1 6 rfl rfl)
theorem dX1_shareOf_31 : decode cX1_shareOf 31 = .ok (.getfield 10, 3) := dk_180 0 10 (dk_at dksX1_shareOf_1 7 rfl rfl)
theorem dX1_shareOf_34 : decode cX1_shareOf 34 = .ok (.getfield 109, 3) := dk_180 0 109 (dk_at dksX1_shareOf_1 10 rfl rfl)
theorem dX1_shareOf_37 : decode cX1_shareOf 37 = .ok (.iload_n 1, 1) := dk_27 (dk_at dksX1_shareOf_1 13 rfl rfl)
theorem dX1_shareOf_38 : decode cX1_shareOf 38 = .ok (.iaload, 1) := dk_46 (dk_at dksX1_shareOf_1 14 rfl rfl)
theorem dX1_shareOf_39 : decode cX1_shareOf 39 = .ok (.imul, 1) := dk_104 (dk_at dksX1_shareOf_1 15 rfl rfl)
theorem dX1_shareOf_40 : decode cX1_shareOf 40 = .ok (.iload_n 2, 1) := dk_28 (dk_at dksX1_shareOf_1 16 rfl rfl)
theorem dX1_shareOf_41 : decode cX1_shareOf 41 = .ok (.idiv, 1) := dk_108 (dk_at dksX1_shareOf_1 17 rfl rfl)
theorem dX1_shareOf_42 : decode cX1_shareOf 42 = .ok (.ireturn, 1) := dk_172 (dk_at dksX1_shareOf_1 18 rfl rfl)
abbrev cX1_room : ByteArray := prog_1_method_40_code
def yX1_room : MethodName := ⟨RX1, "room", "(II)I"⟩
def dkwX1_room_2 : List UInt8 := [42, 180, 0, 10, 27, 182, 1, 181, 167, 0, 11, 42, 180, 0, 10, 27, 182, 1, 115, 172]
abbrev dktX1_room_2 : List UInt8 := dkwX1_room_2 ++ []
def dkwX1_room_1 : List UInt8 := [167, 0, 43, 28, 4, 160, 0, 14, 42, 180, 0, 10, 27, 182, 1, 178, 167, 0, 27, 28, 5, 160, 0, 14]
abbrev dktX1_room_1 : List UInt8 := dkwX1_room_1 ++ dktX1_room_2
def dkwX1_room_0 : List UInt8 := [27, 184, 1, 175, 28, 6, 184, 1, 165, 28, 154, 0, 15, 42, 180, 0, 10, 180, 0, 129, 27, 46]
abbrev dktX1_room_0 : List UInt8 := dkwX1_room_0 ++ dktX1_room_1
theorem dksX1_room_0 : cX1_room.data.toList.drop 0 = dktX1_room_0 := by decide +kernel
theorem dksX1_room_1 : cX1_room.data.toList.drop 22 = dktX1_room_1 := dk_seg dksX1_room_0 22 rfl rfl
theorem dksX1_room_2 : cX1_room.data.toList.drop 46 = dktX1_room_2 := dk_seg dksX1_room_1 24 rfl rfl
theorem dX1_room_0 : decode cX1_room 0 = .ok (.iload_n 1, 1) := dk_27 (dk_at dksX1_room_0 0 rfl rfl)
theorem dX1_room_1 : decode cX1_room 1 = .ok (.invokestatic 431, 3) := dk_184 1 175 (dk_at dksX1_room_0 1 rfl rfl)
theorem dX1_room_4 : decode cX1_room 4 = .ok (.iload_n 2, 1) := dk_28 (dk_at dksX1_room_0 4 rfl rfl)
theorem dX1_room_5 : decode cX1_room 5 = .ok (.iconst 3, 1) := dk_6 (dk_at dksX1_room_0 5 rfl rfl)
theorem dX1_room_6 : decode cX1_room 6 = .ok (.invokestatic 421, 3) := dk_184 1 165 (dk_at dksX1_room_0 6 rfl rfl)
theorem dX1_room_9 : decode cX1_room 9 = .ok (.iload_n 2, 1) := dk_28 (dk_at dksX1_room_0 9 rfl rfl)
theorem dX1_room_10 : decode cX1_room 10 = .ok (.ifCond .ne 15, 3) := dk_154 0 15 (dk_at dksX1_room_0 10 rfl rfl)
theorem dX1_room_13 : decode cX1_room 13 = .ok (.aload_n 0, 1) := dk_42 (dk_at dksX1_room_0 13 rfl rfl)
theorem dX1_room_14 : decode cX1_room 14 = .ok (.getfield 10, 3) := dk_180 0 10 (dk_at dksX1_room_0 14 rfl rfl)
theorem dX1_room_17 : decode cX1_room 17 = .ok (.getfield 129, 3) := dk_180 0 129 (dk_at dksX1_room_0 17 rfl rfl)
theorem dX1_room_20 : decode cX1_room 20 = .ok (.iload_n 1, 1) := dk_27 (dk_at dksX1_room_0 20 rfl rfl)
theorem dX1_room_21 : decode cX1_room 21 = .ok (.iaload, 1) := dk_46 (dk_at dksX1_room_0 21 rfl rfl)
theorem dX1_room_22 : decode cX1_room 22 = .ok (.goto 43, 3) := dk_167 0 43 (dk_at dksX1_room_1 0 rfl rfl)
theorem dX1_room_25 : decode cX1_room 25 = .ok (.iload_n 2, 1) := dk_28 (dk_at dksX1_room_1 3 rfl rfl)
theorem dX1_room_26 : decode cX1_room 26 = .ok (.iconst 1, 1) := dk_4 (dk_at dksX1_room_1 4 rfl rfl)
theorem dX1_room_27 : decode cX1_room 27 = .ok (.if_icmp .ne 14, 3) := dk_160 0 14 (dk_at dksX1_room_1 5 rfl rfl)
theorem dX1_room_30 : decode cX1_room 30 = .ok (.aload_n 0, 1) := dk_42 (dk_at dksX1_room_1 8 rfl rfl)
theorem dX1_room_31 : decode cX1_room 31 = .ok (.getfield 10, 3) := dk_180 0 10 (dk_at dksX1_room_1 9 rfl rfl)
theorem dX1_room_34 : decode cX1_room 34 = .ok (.iload_n 1, 1) := dk_27 (dk_at dksX1_room_1 12 rfl rfl)
theorem dX1_room_35 : decode cX1_room 35 = .ok (.invokevirtual 434, 3) := dk_182 1 178 (dk_at dksX1_room_1 13 rfl rfl)
theorem dX1_room_38 : decode cX1_room 38 = .ok (.goto 27, 3) := dk_167 0 27 (dk_at dksX1_room_1 16 rfl rfl)
theorem dX1_room_41 : decode cX1_room 41 = .ok (.iload_n 2, 1) := dk_28 (dk_at dksX1_room_1 19 rfl rfl)
theorem dX1_room_42 : decode cX1_room 42 = .ok (.iconst 2, 1) := dk_5 (dk_at dksX1_room_1 20 rfl rfl)
theorem dX1_room_43 : decode cX1_room 43 = .ok (.if_icmp .ne 14, 3) := dk_160 0 14 (dk_at dksX1_room_1 21 rfl rfl)
theorem dX1_room_46 : decode cX1_room 46 = .ok (.aload_n 0, 1) := dk_42 (dk_at dksX1_room_2 0 rfl rfl)
theorem dX1_room_47 : decode cX1_room 47 = .ok (.getfield 10, 3) := dk_180 0 10 (dk_at dksX1_room_2 1 rfl rfl)
theorem dX1_room_50 : decode cX1_room 50 = .ok (.iload_n 1, 1) := dk_27 (dk_at dksX1_room_2 4 rfl rfl)
theorem dX1_room_51 : decode cX1_room 51 = .ok (.invokevirtual 437, 3) := dk_182 1 181 (dk_at dksX1_room_2 5 rfl rfl)
theorem dX1_room_54 : decode cX1_room 54 = .ok (.goto 11, 3) := dk_167 0 11 (dk_at dksX1_room_2 8 rfl rfl)
theorem dX1_room_57 : decode cX1_room 57 = .ok (.aload_n 0, 1) := dk_42 (dk_at dksX1_room_2 11 rfl rfl)
theorem dX1_room_58 : decode cX1_room 58 = .ok (.getfield 10, 3) := dk_180 0 10 (dk_at dksX1_room_2 12 rfl rfl)
theorem dX1_room_61 : decode cX1_room 61 = .ok (.iload_n 1, 1) := dk_27 (dk_at dksX1_room_2 15 rfl rfl)
theorem dX1_room_62 : decode cX1_room 62 = .ok (.invokevirtual 371, 3) := dk_182 1 115 (dk_at dksX1_room_2 16 rfl rfl)
theorem dX1_room_65 : decode cX1_room 65 = .ok (.ireturn, 1) := dk_172 (dk_at dksX1_room_2 19 rfl rfl)
abbrev cX1_roomAt : ByteArray := prog_1_method_35_code
def yX1_roomAt : MethodName := ⟨RX1, "roomAt", "(I)V"⟩
def dkwX1_roomAt_0 : List UInt8 := [26, 16, 8, 184, 1, 156, 177]
abbrev dktX1_roomAt_0 : List UInt8 := dkwX1_roomAt_0 ++ []
theorem dksX1_roomAt_0 : cX1_roomAt.data.toList.drop 0 = dktX1_roomAt_0 := by decide +kernel
theorem dX1_roomAt_0 : decode cX1_roomAt 0 = .ok (.iload_n 0, 1) := dk_26 (dk_at dksX1_roomAt_0 0 rfl rfl)
theorem dX1_roomAt_1 : decode cX1_roomAt 1 = .ok (.bipush 8, 2) := dk_16 8 (dk_at dksX1_roomAt_0 1 rfl rfl)
theorem dX1_roomAt_3 : decode cX1_roomAt 3 = .ok (.invokestatic 412, 3) := dk_184 1 156 (dk_at dksX1_roomAt_0 3 rfl rfl)
theorem dX1_roomAt_6 : decode cX1_roomAt 6 = .ok (.return_, 1) := dk_177 (dk_at dksX1_roomAt_0 6 rfl rfl)
abbrev cX1_calendar : ByteArray := prog_1_method_42_code
def yX1_calendar : MethodName := ⟨RX1, "calendar", "(IZ)I"⟩
def dkwX1_calendar_1 : List UInt8 := [46, 172]
abbrev dktX1_calendar_1 : List UInt8 := dkwX1_calendar_1 ++ []
def dkwX1_calendar_0 : List UInt8 := [27, 184, 1, 184, 28, 153, 0, 11, 42, 27, 182, 1, 187, 167, 0, 12, 42, 180, 0, 10, 180, 0, 162, 27]
abbrev dktX1_calendar_0 : List UInt8 := dkwX1_calendar_0 ++ dktX1_calendar_1
theorem dksX1_calendar_0 : cX1_calendar.data.toList.drop 0 = dktX1_calendar_0 := by decide +kernel
theorem dksX1_calendar_1 : cX1_calendar.data.toList.drop 24 = dktX1_calendar_1 := dk_seg dksX1_calendar_0 24 rfl rfl
theorem dX1_calendar_0 : decode cX1_calendar 0 = .ok (.iload_n 1, 1) := dk_27 (dk_at dksX1_calendar_0 0 rfl rfl)
theorem dX1_calendar_1 : decode cX1_calendar 1 = .ok (.invokestatic 440, 3) := dk_184 1 184 (dk_at dksX1_calendar_0 1 rfl rfl)
theorem dX1_calendar_4 : decode cX1_calendar 4 = .ok (.iload_n 2, 1) := dk_28 (dk_at dksX1_calendar_0 4 rfl rfl)
theorem dX1_calendar_5 : decode cX1_calendar 5 = .ok (.ifCond .eq 11, 3) := dk_153 0 11 (dk_at dksX1_calendar_0 5 rfl rfl)
theorem dX1_calendar_8 : decode cX1_calendar 8 = .ok (.aload_n 0, 1) := dk_42 (dk_at dksX1_calendar_0 8 rfl rfl)
theorem dX1_calendar_9 : decode cX1_calendar 9 = .ok (.iload_n 1, 1) := dk_27 (dk_at dksX1_calendar_0 9 rfl rfl)
theorem dX1_calendar_10 : decode cX1_calendar 10 = .ok (.invokevirtual 443, 3) := dk_182 1 187 (dk_at dksX1_calendar_0 10 rfl rfl)
theorem dX1_calendar_13 : decode cX1_calendar 13 = .ok (.goto 12, 3) := dk_167 0 12 (dk_at dksX1_calendar_0 13 rfl rfl)
theorem dX1_calendar_16 : decode cX1_calendar 16 = .ok (.aload_n 0, 1) := dk_42 (dk_at dksX1_calendar_0 16 rfl rfl)
theorem dX1_calendar_17 : decode cX1_calendar 17 = .ok (.getfield 10, 3) := dk_180 0 10 (dk_at dksX1_calendar_0 17 rfl rfl)
theorem dX1_calendar_20 : decode cX1_calendar 20 = .ok (.getfield 162, 3) := dk_180 0 162 (dk_at dksX1_calendar_0 20 rfl rfl)
theorem dX1_calendar_23 : decode cX1_calendar 23 = .ok (.iload_n 1, 1) := dk_27 (dk_at dksX1_calendar_0 23 rfl rfl)
theorem dX1_calendar_24 : decode cX1_calendar 24 = .ok (.iaload, 1) := dk_46 (dk_at dksX1_calendar_1 0 rfl rfl)
theorem dX1_calendar_25 : decode cX1_calendar 25 = .ok (.ireturn, 1) := dk_172 (dk_at dksX1_calendar_1 1 rfl rfl)
abbrev cX1_calendarAt : ByteArray := prog_1_method_36_code
def yX1_calendarAt : MethodName := ⟨RX1, "calendarAt", "(I)V"⟩
def dkwX1_calendarAt_0 : List UInt8 := [26, 5, 184, 1, 156, 177]
abbrev dktX1_calendarAt_0 : List UInt8 := dkwX1_calendarAt_0 ++ []
theorem dksX1_calendarAt_0 : cX1_calendarAt.data.toList.drop 0 = dktX1_calendarAt_0 := by decide +kernel
theorem dX1_calendarAt_0 : decode cX1_calendarAt 0 = .ok (.iload_n 0, 1) := dk_26 (dk_at dksX1_calendarAt_0 0 rfl rfl)
theorem dX1_calendarAt_1 : decode cX1_calendarAt 1 = .ok (.iconst 2, 1) := dk_5 (dk_at dksX1_calendarAt_0 1 rfl rfl)
theorem dX1_calendarAt_2 : decode cX1_calendarAt 2 = .ok (.invokestatic 412, 3) := dk_184 1 156 (dk_at dksX1_calendarAt_0 2 rfl rfl)
theorem dX1_calendarAt_5 : decode cX1_calendarAt 5 = .ok (.return_, 1) := dk_177 (dk_at dksX1_calendarAt_0 5 rfl rfl)
abbrev cX1_nextSaturday : ByteArray := prog_1_method_41_code
def yX1_nextSaturday : MethodName := ⟨RX1, "nextSaturday", "(I)I"⟩
def dkwX1_nextSaturday_1 : List UInt8 := [132, 2, 1, 167, 255, 233, 28, 172]
abbrev dktX1_nextSaturday_1 : List UInt8 := dkwX1_nextSaturday_1 ++ []
def dkwX1_nextSaturday_0 : List UInt8 := [3, 61, 42, 180, 0, 10, 27, 42, 180, 0, 10, 180, 0, 173, 28, 96, 182, 1, 98, 154, 0, 9]
abbrev dktX1_nextSaturday_0 : List UInt8 := dkwX1_nextSaturday_0 ++ dktX1_nextSaturday_1
theorem dksX1_nextSaturday_0 : cX1_nextSaturday.data.toList.drop 0 = dktX1_nextSaturday_0 := by decide +kernel
theorem dksX1_nextSaturday_1 : cX1_nextSaturday.data.toList.drop 22 = dktX1_nextSaturday_1 := dk_seg dksX1_nextSaturday_0 22 rfl rfl
theorem dX1_nextSaturday_0 : decode cX1_nextSaturday 0 = .ok (.iconst 0, 1) := dk_3 (dk_at dksX1_nextSaturday_0 0 rfl rfl)
theorem dX1_nextSaturday_1 : decode cX1_nextSaturday 1 = .ok (.istore_n 2, 1) := dk_61 (dk_at dksX1_nextSaturday_0 1 rfl rfl)
theorem dX1_nextSaturday_2 : decode cX1_nextSaturday 2 = .ok (.aload_n 0, 1) := dk_42 (dk_at dksX1_nextSaturday_0 2 rfl rfl)
theorem dX1_nextSaturday_3 : decode cX1_nextSaturday 3 = .ok (.getfield 10, 3) := dk_180 0 10 (dk_at dksX1_nextSaturday_0 3 rfl rfl)
theorem dX1_nextSaturday_6 : decode cX1_nextSaturday 6 = .ok (.iload_n 1, 1) := dk_27 (dk_at dksX1_nextSaturday_0 6 rfl rfl)
theorem dX1_nextSaturday_7 : decode cX1_nextSaturday 7 = .ok (.aload_n 0, 1) := dk_42 (dk_at dksX1_nextSaturday_0 7 rfl rfl)
theorem dX1_nextSaturday_8 : decode cX1_nextSaturday 8 = .ok (.getfield 10, 3) := dk_180 0 10 (dk_at dksX1_nextSaturday_0 8 rfl rfl)
theorem dX1_nextSaturday_11 : decode cX1_nextSaturday 11 = .ok (.getfield 173, 3) := dk_180 0 173 (dk_at dksX1_nextSaturday_0 11 rfl rfl)
theorem dX1_nextSaturday_14 : decode cX1_nextSaturday 14 = .ok (.iload_n 2, 1) := dk_28 (dk_at dksX1_nextSaturday_0 14 rfl rfl)
theorem dX1_nextSaturday_15 : decode cX1_nextSaturday 15 = .ok (.iadd, 1) := dk_96 (dk_at dksX1_nextSaturday_0 15 rfl rfl)
theorem dX1_nextSaturday_16 : decode cX1_nextSaturday 16 = .ok (.invokevirtual 354, 3) := dk_182 1 98 (dk_at dksX1_nextSaturday_0 16 rfl rfl)
theorem dX1_nextSaturday_19 : decode cX1_nextSaturday 19 = .ok (.ifCond .ne 9, 3) := dk_154 0 9 (dk_at dksX1_nextSaturday_0 19 rfl rfl)
theorem dX1_nextSaturday_22 : decode cX1_nextSaturday 22 = .ok (.iinc 2 1, 3) := dk_132 2 1 (dk_at dksX1_nextSaturday_1 0 rfl rfl)
theorem dX1_nextSaturday_25 : decode cX1_nextSaturday 25 = .ok (.goto (-23), 3) := dk_167 255 233 (dk_at dksX1_nextSaturday_1 3 rfl rfl)
theorem dX1_nextSaturday_28 : decode cX1_nextSaturday 28 = .ok (.iload_n 2, 1) := dk_28 (dk_at dksX1_nextSaturday_1 6 rfl rfl)
theorem dX1_nextSaturday_29 : decode cX1_nextSaturday 29 = .ok (.ireturn, 1) := dk_172 (dk_at dksX1_nextSaturday_1 7 rfl rfl)
abbrev cX1_saturday : ByteArray := prog_1_method_43_code
def yX1_saturday : MethodName := ⟨RX1, "saturday", "(II)Z"⟩
def dkwX1_saturday_1 : List UInt8 := [172]
abbrev dktX1_saturday_1 : List UInt8 := dkwX1_saturday_1 ++ []
def dkwX1_saturday_0 : List UInt8 := [27, 184, 1, 184, 28, 3, 17, 39, 15, 184, 1, 146, 184, 1, 190, 42, 180, 0, 10, 27, 28, 182, 1, 98]
abbrev dktX1_saturday_0 : List UInt8 := dkwX1_saturday_0 ++ dktX1_saturday_1
theorem dksX1_saturday_0 : cX1_saturday.data.toList.drop 0 = dktX1_saturday_0 := by decide +kernel
theorem dksX1_saturday_1 : cX1_saturday.data.toList.drop 24 = dktX1_saturday_1 := dk_seg dksX1_saturday_0 24 rfl rfl
theorem dX1_saturday_0 : decode cX1_saturday 0 = .ok (.iload_n 1, 1) := dk_27 (dk_at dksX1_saturday_0 0 rfl rfl)
theorem dX1_saturday_1 : decode cX1_saturday 1 = .ok (.invokestatic 440, 3) := dk_184 1 184 (dk_at dksX1_saturday_0 1 rfl rfl)
theorem dX1_saturday_4 : decode cX1_saturday 4 = .ok (.iload_n 2, 1) := dk_28 (dk_at dksX1_saturday_0 4 rfl rfl)
theorem dX1_saturday_5 : decode cX1_saturday 5 = .ok (.iconst 0, 1) := dk_3 (dk_at dksX1_saturday_0 5 rfl rfl)
theorem dX1_saturday_6 : decode cX1_saturday 6 = .ok (.sipush 9999, 3) := dk_17 39 15 (dk_at dksX1_saturday_0 6 rfl rfl)
theorem dX1_saturday_9 : decode cX1_saturday 9 = .ok (.invokestatic 402, 3) := dk_184 1 146 (dk_at dksX1_saturday_0 9 rfl rfl)
theorem dX1_saturday_12 : decode cX1_saturday 12 = .ok (.invokestatic 446, 3) := dk_184 1 190 (dk_at dksX1_saturday_0 12 rfl rfl)
theorem dX1_saturday_15 : decode cX1_saturday 15 = .ok (.aload_n 0, 1) := dk_42 (dk_at dksX1_saturday_0 15 rfl rfl)
theorem dX1_saturday_16 : decode cX1_saturday 16 = .ok (.getfield 10, 3) := dk_180 0 10 (dk_at dksX1_saturday_0 16 rfl rfl)
theorem dX1_saturday_19 : decode cX1_saturday 19 = .ok (.iload_n 1, 1) := dk_27 (dk_at dksX1_saturday_0 19 rfl rfl)
theorem dX1_saturday_20 : decode cX1_saturday 20 = .ok (.iload_n 2, 1) := dk_28 (dk_at dksX1_saturday_0 20 rfl rfl)
theorem dX1_saturday_21 : decode cX1_saturday 21 = .ok (.invokevirtual 354, 3) := dk_182 1 98 (dk_at dksX1_saturday_0 21 rfl rfl)
theorem dX1_saturday_24 : decode cX1_saturday 24 = .ok (.ireturn, 1) := dk_172 (dk_at dksX1_saturday_1 0 rfl rfl)
abbrev cX1_demand : ByteArray := prog_1_method_32_code
def yX1_demand : MethodName := ⟨RX1, "demand", "(Z)V"⟩
def dkwX1_demand_0 : List UInt8 := [26, 154, 0, 11, 187, 0, 195, 89, 183, 0, 197, 191, 177]
abbrev dktX1_demand_0 : List UInt8 := dkwX1_demand_0 ++ []
theorem dksX1_demand_0 : cX1_demand.data.toList.drop 0 = dktX1_demand_0 := by decide +kernel
theorem dX1_demand_0 : decode cX1_demand 0 = .ok (.iload_n 0, 1) := dk_26 (dk_at dksX1_demand_0 0 rfl rfl)
theorem dX1_demand_1 : decode cX1_demand 1 = .ok (.ifCond .ne 11, 3) := dk_154 0 11 (dk_at dksX1_demand_0 1 rfl rfl)
theorem dX1_demand_4 : decode cX1_demand 4 = .ok (.new 195, 3) := dk_187 0 195 (dk_at dksX1_demand_0 4 rfl rfl)
theorem dX1_demand_7 : decode cX1_demand 7 = .ok (.dup, 1) := dk_89 (dk_at dksX1_demand_0 7 rfl rfl)
theorem dX1_demand_8 : decode cX1_demand 8 = .ok (.invokespecial 197, 3) := dk_183 0 197 (dk_at dksX1_demand_0 8 rfl rfl)
theorem dX1_demand_11 : decode cX1_demand 11 = .ok (.athrow, 1) := dk_191 (dk_at dksX1_demand_0 11 rfl rfl)
theorem dX1_demand_12 : decode cX1_demand 12 = .ok (.return_, 1) := dk_177 (dk_at dksX1_demand_0 12 rfl rfl)
abbrev cX1_go : ByteArray := prog_1_method_45_code
def yX1_go : MethodName := ⟨RX1, "go", "(II)I"⟩
def dkwX1_go_1 : List UInt8 := [180, 0, 10, 180, 0, 104, 27, 28, 79, 29, 172]
abbrev dktX1_go_1 : List UInt8 := dkwX1_go_1 ++ []
def dkwX1_go_0 : List UInt8 := [42, 27, 182, 1, 162, 28, 184, 1, 175, 42, 182, 1, 197, 42, 180, 0, 10, 180, 0, 104, 27, 46, 62, 42]
abbrev dktX1_go_0 : List UInt8 := dkwX1_go_0 ++ dktX1_go_1
theorem dksX1_go_0 : cX1_go.data.toList.drop 0 = dktX1_go_0 := by decide +kernel
theorem dksX1_go_1 : cX1_go.data.toList.drop 24 = dktX1_go_1 := dk_seg dksX1_go_0 24 rfl rfl
theorem dX1_go_0 : decode cX1_go 0 = .ok (.aload_n 0, 1) := dk_42 (dk_at dksX1_go_0 0 rfl rfl)
theorem dX1_go_1 : decode cX1_go 1 = .ok (.iload_n 1, 1) := dk_27 (dk_at dksX1_go_0 1 rfl rfl)
theorem dX1_go_2 : decode cX1_go 2 = .ok (.invokevirtual 418, 3) := dk_182 1 162 (dk_at dksX1_go_0 2 rfl rfl)
theorem dX1_go_5 : decode cX1_go 5 = .ok (.iload_n 2, 1) := dk_28 (dk_at dksX1_go_0 5 rfl rfl)
theorem dX1_go_6 : decode cX1_go 6 = .ok (.invokestatic 431, 3) := dk_184 1 175 (dk_at dksX1_go_0 6 rfl rfl)
theorem dX1_go_9 : decode cX1_go 9 = .ok (.aload_n 0, 1) := dk_42 (dk_at dksX1_go_0 9 rfl rfl)
theorem dX1_go_10 : decode cX1_go 10 = .ok (.invokevirtual 453, 3) := dk_182 1 197 (dk_at dksX1_go_0 10 rfl rfl)
theorem dX1_go_13 : decode cX1_go 13 = .ok (.aload_n 0, 1) := dk_42 (dk_at dksX1_go_0 13 rfl rfl)
theorem dX1_go_14 : decode cX1_go 14 = .ok (.getfield 10, 3) := dk_180 0 10 (dk_at dksX1_go_0 14 rfl rfl)
theorem dX1_go_17 : decode cX1_go 17 = .ok (.getfield 104, 3) := dk_180 0 104 (dk_at dksX1_go_0 17 rfl rfl)
theorem dX1_go_20 : decode cX1_go 20 = .ok (.iload_n 1, 1) := dk_27 (dk_at dksX1_go_0 20 rfl rfl)
theorem dX1_go_21 : decode cX1_go 21 = .ok (.iaload, 1) := dk_46 (dk_at dksX1_go_0 21 rfl rfl)
theorem dX1_go_22 : decode cX1_go 22 = .ok (.istore_n 3, 1) := dk_62 (dk_at dksX1_go_0 22 rfl rfl)
theorem dX1_go_23 : decode cX1_go 23 = .ok (.aload_n 0, 1) := dk_42 (dk_at dksX1_go_0 23 rfl rfl)
theorem dX1_go_24 : decode cX1_go 24 = .ok (.getfield 10, 3) := dk_180 0 10 (dk_at dksX1_go_1 0 rfl rfl)
theorem dX1_go_27 : decode cX1_go 27 = .ok (.getfield 104, 3) := dk_180 0 104 (dk_at dksX1_go_1 3 rfl rfl)
theorem dX1_go_30 : decode cX1_go 30 = .ok (.iload_n 1, 1) := dk_27 (dk_at dksX1_go_1 6 rfl rfl)
theorem dX1_go_31 : decode cX1_go 31 = .ok (.iload_n 2, 1) := dk_28 (dk_at dksX1_go_1 7 rfl rfl)
theorem dX1_go_32 : decode cX1_go 32 = .ok (.iastore, 1) := dk_79 (dk_at dksX1_go_1 8 rfl rfl)
theorem dX1_go_33 : decode cX1_go 33 = .ok (.iload_n 3, 1) := dk_29 (dk_at dksX1_go_1 9 rfl rfl)
theorem dX1_go_34 : decode cX1_go 34 = .ok (.ireturn, 1) := dk_172 (dk_at dksX1_go_1 10 rfl rfl)
abbrev cX1_remembers : ByteArray := prog_1_method_44_code
def yX1_remembers : MethodName := ⟨RX1, "remembers", "()V"⟩
def dkwX1_remembers_2 : List UInt8 := [182, 0, 246, 87, 177]
abbrev dktX1_remembers_2 : List UInt8 := dkwX1_remembers_2 ++ []
def dkwX1_remembers_1 : List UInt8 := [167, 0, 10, 187, 0, 7, 89, 183, 0, 9, 76, 42, 180, 0, 42, 43, 42, 180, 0, 10, 182, 0, 201]
abbrev dktX1_remembers_1 : List UInt8 := dkwX1_remembers_1 ++ dktX1_remembers_2
def dkwX1_remembers_0 : List UInt8 := [42, 180, 0, 42, 182, 1, 56, 16, 12, 160, 0, 17, 42, 180, 0, 42, 3, 182, 1, 193, 192, 0, 7]
abbrev dktX1_remembers_0 : List UInt8 := dkwX1_remembers_0 ++ dktX1_remembers_1
theorem dksX1_remembers_0 : cX1_remembers.data.toList.drop 0 = dktX1_remembers_0 := by decide +kernel
theorem dksX1_remembers_1 : cX1_remembers.data.toList.drop 23 = dktX1_remembers_1 := dk_seg dksX1_remembers_0 23 rfl rfl
theorem dksX1_remembers_2 : cX1_remembers.data.toList.drop 46 = dktX1_remembers_2 := dk_seg dksX1_remembers_1 23 rfl rfl
theorem dX1_remembers_0 : decode cX1_remembers 0 = .ok (.aload_n 0, 1) := dk_42 (dk_at dksX1_remembers_0 0 rfl rfl)
theorem dX1_remembers_1 : decode cX1_remembers 1 = .ok (.getfield 42, 3) := dk_180 0 42 (dk_at dksX1_remembers_0 1 rfl rfl)
theorem dX1_remembers_4 : decode cX1_remembers 4 = .ok (.invokevirtual 312, 3) := dk_182 1 56 (dk_at dksX1_remembers_0 4 rfl rfl)
theorem dX1_remembers_7 : decode cX1_remembers 7 = .ok (.bipush 12, 2) := dk_16 12 (dk_at dksX1_remembers_0 7 rfl rfl)
theorem dX1_remembers_9 : decode cX1_remembers 9 = .ok (.if_icmp .ne 17, 3) := dk_160 0 17 (dk_at dksX1_remembers_0 9 rfl rfl)
theorem dX1_remembers_12 : decode cX1_remembers 12 = .ok (.aload_n 0, 1) := dk_42 (dk_at dksX1_remembers_0 12 rfl rfl)
theorem dX1_remembers_13 : decode cX1_remembers 13 = .ok (.getfield 42, 3) := dk_180 0 42 (dk_at dksX1_remembers_0 13 rfl rfl)
theorem dX1_remembers_16 : decode cX1_remembers 16 = .ok (.iconst 0, 1) := dk_3 (dk_at dksX1_remembers_0 16 rfl rfl)
theorem dX1_remembers_17 : decode cX1_remembers 17 = .ok (.invokevirtual 449, 3) := dk_182 1 193 (dk_at dksX1_remembers_0 17 rfl rfl)
theorem dX1_remembers_20 : decode cX1_remembers 20 = .ok (.checkcast 7, 3) := dk_192 0 7 (dk_at dksX1_remembers_0 20 rfl rfl)
theorem dX1_remembers_23 : decode cX1_remembers 23 = .ok (.goto 10, 3) := dk_167 0 10 (dk_at dksX1_remembers_1 0 rfl rfl)
theorem dX1_remembers_26 : decode cX1_remembers 26 = .ok (.new 7, 3) := dk_187 0 7 (dk_at dksX1_remembers_1 3 rfl rfl)
theorem dX1_remembers_29 : decode cX1_remembers 29 = .ok (.dup, 1) := dk_89 (dk_at dksX1_remembers_1 6 rfl rfl)
theorem dX1_remembers_30 : decode cX1_remembers 30 = .ok (.invokespecial 9, 3) := dk_183 0 9 (dk_at dksX1_remembers_1 7 rfl rfl)
theorem dX1_remembers_33 : decode cX1_remembers 33 = .ok (.astore_n 1, 1) := dk_76 (dk_at dksX1_remembers_1 10 rfl rfl)
theorem dX1_remembers_34 : decode cX1_remembers 34 = .ok (.aload_n 0, 1) := dk_42 (dk_at dksX1_remembers_1 11 rfl rfl)
theorem dX1_remembers_35 : decode cX1_remembers 35 = .ok (.getfield 42, 3) := dk_180 0 42 (dk_at dksX1_remembers_1 12 rfl rfl)
theorem dX1_remembers_38 : decode cX1_remembers 38 = .ok (.aload_n 1, 1) := dk_43 (dk_at dksX1_remembers_1 15 rfl rfl)
theorem dX1_remembers_39 : decode cX1_remembers 39 = .ok (.aload_n 0, 1) := dk_42 (dk_at dksX1_remembers_1 16 rfl rfl)
theorem dX1_remembers_40 : decode cX1_remembers 40 = .ok (.getfield 10, 3) := dk_180 0 10 (dk_at dksX1_remembers_1 17 rfl rfl)
theorem dX1_remembers_43 : decode cX1_remembers 43 = .ok (.invokevirtual 201, 3) := dk_182 0 201 (dk_at dksX1_remembers_1 20 rfl rfl)
theorem dX1_remembers_46 : decode cX1_remembers 46 = .ok (.invokevirtual 246, 3) := dk_182 0 246 (dk_at dksX1_remembers_2 0 rfl rfl)
theorem dX1_remembers_49 : decode cX1_remembers 49 = .ok (.pop, 1) := dk_87 (dk_at dksX1_remembers_2 3 rfl rfl)
theorem dX1_remembers_50 : decode cX1_remembers 50 = .ok (.return_, 1) := dk_177 (dk_at dksX1_remembers_2 4 rfl rfl)
abbrev cX1_come : ByteArray := prog_1_method_46_code
def yX1_come : MethodName := ⟨RX1, "come", "(IZ)Z"⟩
def dkwX1_come_1 : List UInt8 := [180, 0, 122, 27, 28, 84, 29, 28, 159, 0, 7, 4, 167, 0, 4, 3, 172]
abbrev dktX1_come_1 : List UInt8 := dkwX1_come_1 ++ []
def dkwX1_come_0 : List UInt8 := [42, 27, 182, 1, 162, 42, 182, 1, 197, 42, 180, 0, 10, 180, 0, 122, 27, 51, 62, 42, 180, 0, 10]
abbrev dktX1_come_0 : List UInt8 := dkwX1_come_0 ++ dktX1_come_1
theorem dksX1_come_0 : cX1_come.data.toList.drop 0 = dktX1_come_0 := by decide +kernel
theorem dksX1_come_1 : cX1_come.data.toList.drop 23 = dktX1_come_1 := dk_seg dksX1_come_0 23 rfl rfl
theorem dX1_come_0 : decode cX1_come 0 = .ok (.aload_n 0, 1) := dk_42 (dk_at dksX1_come_0 0 rfl rfl)
theorem dX1_come_1 : decode cX1_come 1 = .ok (.iload_n 1, 1) := dk_27 (dk_at dksX1_come_0 1 rfl rfl)
theorem dX1_come_2 : decode cX1_come 2 = .ok (.invokevirtual 418, 3) := dk_182 1 162 (dk_at dksX1_come_0 2 rfl rfl)
theorem dX1_come_5 : decode cX1_come 5 = .ok (.aload_n 0, 1) := dk_42 (dk_at dksX1_come_0 5 rfl rfl)
theorem dX1_come_6 : decode cX1_come 6 = .ok (.invokevirtual 453, 3) := dk_182 1 197 (dk_at dksX1_come_0 6 rfl rfl)
theorem dX1_come_9 : decode cX1_come 9 = .ok (.aload_n 0, 1) := dk_42 (dk_at dksX1_come_0 9 rfl rfl)
theorem dX1_come_10 : decode cX1_come 10 = .ok (.getfield 10, 3) := dk_180 0 10 (dk_at dksX1_come_0 10 rfl rfl)
theorem dX1_come_13 : decode cX1_come 13 = .ok (.getfield 122, 3) := dk_180 0 122 (dk_at dksX1_come_0 13 rfl rfl)
theorem dX1_come_16 : decode cX1_come 16 = .ok (.iload_n 1, 1) := dk_27 (dk_at dksX1_come_0 16 rfl rfl)
theorem dX1_come_17 : decode cX1_come 17 = .ok (.baload, 1) := dk_51 (dk_at dksX1_come_0 17 rfl rfl)
theorem dX1_come_18 : decode cX1_come 18 = .ok (.istore_n 3, 1) := dk_62 (dk_at dksX1_come_0 18 rfl rfl)
theorem dX1_come_19 : decode cX1_come 19 = .ok (.aload_n 0, 1) := dk_42 (dk_at dksX1_come_0 19 rfl rfl)
theorem dX1_come_20 : decode cX1_come 20 = .ok (.getfield 10, 3) := dk_180 0 10 (dk_at dksX1_come_0 20 rfl rfl)
theorem dX1_come_23 : decode cX1_come 23 = .ok (.getfield 122, 3) := dk_180 0 122 (dk_at dksX1_come_1 0 rfl rfl)
theorem dX1_come_26 : decode cX1_come 26 = .ok (.iload_n 1, 1) := dk_27 (dk_at dksX1_come_1 3 rfl rfl)
theorem dX1_come_27 : decode cX1_come 27 = .ok (.iload_n 2, 1) := dk_28 (dk_at dksX1_come_1 4 rfl rfl)
theorem dX1_come_28 : decode cX1_come 28 = .ok (.bastore, 1) := dk_84 (dk_at dksX1_come_1 5 rfl rfl)
theorem dX1_come_29 : decode cX1_come 29 = .ok (.iload_n 3, 1) := dk_29 (dk_at dksX1_come_1 6 rfl rfl)
theorem dX1_come_30 : decode cX1_come 30 = .ok (.iload_n 2, 1) := dk_28 (dk_at dksX1_come_1 7 rfl rfl)
theorem dX1_come_31 : decode cX1_come 31 = .ok (.if_icmp .eq 7, 3) := dk_159 0 7 (dk_at dksX1_come_1 8 rfl rfl)
theorem dX1_come_34 : decode cX1_come 34 = .ok (.iconst 1, 1) := dk_4 (dk_at dksX1_come_1 11 rfl rfl)
theorem dX1_come_35 : decode cX1_come 35 = .ok (.goto 4, 3) := dk_167 0 4 (dk_at dksX1_come_1 12 rfl rfl)
theorem dX1_come_38 : decode cX1_come 38 = .ok (.iconst 0, 1) := dk_3 (dk_at dksX1_come_1 15 rfl rfl)
theorem dX1_come_39 : decode cX1_come 39 = .ok (.ireturn, 1) := dk_172 (dk_at dksX1_come_1 16 rfl rfl)
abbrev cX1_key : ByteArray := prog_1_method_47_code
def yX1_key : MethodName := ⟨RX1, "key", "(IZ)Z"⟩
def dkwX1_key_1 : List UInt8 := [180, 0, 117, 27, 28, 84, 29, 28, 159, 0, 7, 4, 167, 0, 4, 3, 172]
abbrev dktX1_key_1 : List UInt8 := dkwX1_key_1 ++ []
def dkwX1_key_0 : List UInt8 := [42, 27, 182, 1, 162, 42, 182, 1, 197, 42, 180, 0, 10, 180, 0, 117, 27, 51, 62, 42, 180, 0, 10]
abbrev dktX1_key_0 : List UInt8 := dkwX1_key_0 ++ dktX1_key_1
theorem dksX1_key_0 : cX1_key.data.toList.drop 0 = dktX1_key_0 := by decide +kernel
theorem dksX1_key_1 : cX1_key.data.toList.drop 23 = dktX1_key_1 := dk_seg dksX1_key_0 23 rfl rfl
theorem dX1_key_0 : decode cX1_key 0 = .ok (.aload_n 0, 1) := dk_42 (dk_at dksX1_key_0 0 rfl rfl)
theorem dX1_key_1 : decode cX1_key 1 = .ok (.iload_n 1, 1) := dk_27 (dk_at dksX1_key_0 1 rfl rfl)
theorem dX1_key_2 : decode cX1_key 2 = .ok (.invokevirtual 418, 3) := dk_182 1 162 (dk_at dksX1_key_0 2 rfl rfl)
theorem dX1_key_5 : decode cX1_key 5 = .ok (.aload_n 0, 1) := dk_42 (dk_at dksX1_key_0 5 rfl rfl)
theorem dX1_key_6 : decode cX1_key 6 = .ok (.invokevirtual 453, 3) := dk_182 1 197 (dk_at dksX1_key_0 6 rfl rfl)
theorem dX1_key_9 : decode cX1_key 9 = .ok (.aload_n 0, 1) := dk_42 (dk_at dksX1_key_0 9 rfl rfl)
theorem dX1_key_10 : decode cX1_key 10 = .ok (.getfield 10, 3) := dk_180 0 10 (dk_at dksX1_key_0 10 rfl rfl)
theorem dX1_key_13 : decode cX1_key 13 = .ok (.getfield 117, 3) := dk_180 0 117 (dk_at dksX1_key_0 13 rfl rfl)
theorem dX1_key_16 : decode cX1_key 16 = .ok (.iload_n 1, 1) := dk_27 (dk_at dksX1_key_0 16 rfl rfl)
theorem dX1_key_17 : decode cX1_key 17 = .ok (.baload, 1) := dk_51 (dk_at dksX1_key_0 17 rfl rfl)
theorem dX1_key_18 : decode cX1_key 18 = .ok (.istore_n 3, 1) := dk_62 (dk_at dksX1_key_0 18 rfl rfl)
theorem dX1_key_19 : decode cX1_key 19 = .ok (.aload_n 0, 1) := dk_42 (dk_at dksX1_key_0 19 rfl rfl)
theorem dX1_key_20 : decode cX1_key 20 = .ok (.getfield 10, 3) := dk_180 0 10 (dk_at dksX1_key_0 20 rfl rfl)
theorem dX1_key_23 : decode cX1_key 23 = .ok (.getfield 117, 3) := dk_180 0 117 (dk_at dksX1_key_1 0 rfl rfl)
theorem dX1_key_26 : decode cX1_key 26 = .ok (.iload_n 1, 1) := dk_27 (dk_at dksX1_key_1 3 rfl rfl)
theorem dX1_key_27 : decode cX1_key 27 = .ok (.iload_n 2, 1) := dk_28 (dk_at dksX1_key_1 4 rfl rfl)
theorem dX1_key_28 : decode cX1_key 28 = .ok (.bastore, 1) := dk_84 (dk_at dksX1_key_1 5 rfl rfl)
theorem dX1_key_29 : decode cX1_key 29 = .ok (.iload_n 3, 1) := dk_29 (dk_at dksX1_key_1 6 rfl rfl)
theorem dX1_key_30 : decode cX1_key 30 = .ok (.iload_n 2, 1) := dk_28 (dk_at dksX1_key_1 7 rfl rfl)
theorem dX1_key_31 : decode cX1_key 31 = .ok (.if_icmp .eq 7, 3) := dk_159 0 7 (dk_at dksX1_key_1 8 rfl rfl)
theorem dX1_key_34 : decode cX1_key 34 = .ok (.iconst 1, 1) := dk_4 (dk_at dksX1_key_1 11 rfl rfl)
theorem dX1_key_35 : decode cX1_key 35 = .ok (.goto 4, 3) := dk_167 0 4 (dk_at dksX1_key_1 12 rfl rfl)
theorem dX1_key_38 : decode cX1_key 38 = .ok (.iconst 0, 1) := dk_3 (dk_at dksX1_key_1 15 rfl rfl)
theorem dX1_key_39 : decode cX1_key 39 = .ok (.ireturn, 1) := dk_172 (dk_at dksX1_key_1 16 rfl rfl)
abbrev cX1_hole : ByteArray := prog_1_method_48_code
def yX1_hole : MethodName := ⟨RX1, "hole", "(IIZ)Z"⟩
def dkwX1_hole_4 : List UInt8 := [4, 167, 0, 4, 3, 172]
abbrev dktX1_hole_4 : List UInt8 := dkwX1_hole_4 ++ []
def dkwX1_hole_3 : List UInt8 := [167, 0, 17, 42, 180, 0, 10, 180, 0, 129, 27, 46, 21, 5, 2, 130, 126, 79, 21, 4, 29, 159, 0, 7]
abbrev dktX1_hole_3 : List UInt8 := dkwX1_hole_3 ++ dktX1_hole_4
def dkwX1_hole_2 : List UInt8 := [180, 0, 10, 180, 0, 129, 27, 29, 153, 0, 18, 42, 180, 0, 10, 180, 0, 129, 27, 46, 21, 5, 128]
abbrev dktX1_hole_2 : List UInt8 := dkwX1_hole_2 ++ dktX1_hole_3
def dkwX1_hole_1 : List UInt8 := [182, 1, 197, 42, 180, 0, 10, 180, 0, 129, 27, 46, 28, 184, 1, 118, 54, 4, 4, 28, 120, 54, 5, 42]
abbrev dktX1_hole_1 : List UInt8 := dkwX1_hole_1 ++ dktX1_hole_2
def dkwX1_hole_0 : List UInt8 := [27, 184, 1, 175, 28, 184, 1, 175, 27, 28, 159, 0, 7, 4, 167, 0, 4, 3, 184, 1, 190, 42]
abbrev dktX1_hole_0 : List UInt8 := dkwX1_hole_0 ++ dktX1_hole_1
theorem dksX1_hole_0 : cX1_hole.data.toList.drop 0 = dktX1_hole_0 := by decide +kernel
theorem dksX1_hole_1 : cX1_hole.data.toList.drop 22 = dktX1_hole_1 := dk_seg dksX1_hole_0 22 rfl rfl
theorem dksX1_hole_2 : cX1_hole.data.toList.drop 46 = dktX1_hole_2 := dk_seg dksX1_hole_1 24 rfl rfl
theorem dksX1_hole_3 : cX1_hole.data.toList.drop 69 = dktX1_hole_3 := dk_seg dksX1_hole_2 23 rfl rfl
theorem dksX1_hole_4 : cX1_hole.data.toList.drop 93 = dktX1_hole_4 := dk_seg dksX1_hole_3 24 rfl rfl
theorem dX1_hole_0 : decode cX1_hole 0 = .ok (.iload_n 1, 1) := dk_27 (dk_at dksX1_hole_0 0 rfl rfl)
theorem dX1_hole_1 : decode cX1_hole 1 = .ok (.invokestatic 431, 3) := dk_184 1 175 (dk_at dksX1_hole_0 1 rfl rfl)
theorem dX1_hole_4 : decode cX1_hole 4 = .ok (.iload_n 2, 1) := dk_28 (dk_at dksX1_hole_0 4 rfl rfl)
theorem dX1_hole_5 : decode cX1_hole 5 = .ok (.invokestatic 431, 3) := dk_184 1 175 (dk_at dksX1_hole_0 5 rfl rfl)
theorem dX1_hole_8 : decode cX1_hole 8 = .ok (.iload_n 1, 1) := dk_27 (dk_at dksX1_hole_0 8 rfl rfl)
theorem dX1_hole_9 : decode cX1_hole 9 = .ok (.iload_n 2, 1) := dk_28 (dk_at dksX1_hole_0 9 rfl rfl)
theorem dX1_hole_10 : decode cX1_hole 10 = .ok (.if_icmp .eq 7, 3) := dk_159 0 7 (dk_at dksX1_hole_0 10 rfl rfl)
theorem dX1_hole_13 : decode cX1_hole 13 = .ok (.iconst 1, 1) := dk_4 (dk_at dksX1_hole_0 13 rfl rfl)
theorem dX1_hole_14 : decode cX1_hole 14 = .ok (.goto 4, 3) := dk_167 0 4 (dk_at dksX1_hole_0 14 rfl rfl)
theorem dX1_hole_17 : decode cX1_hole 17 = .ok (.iconst 0, 1) := dk_3 (dk_at dksX1_hole_0 17 rfl rfl)
theorem dX1_hole_18 : decode cX1_hole 18 = .ok (.invokestatic 446, 3) := dk_184 1 190 (dk_at dksX1_hole_0 18 rfl rfl)
theorem dX1_hole_21 : decode cX1_hole 21 = .ok (.aload_n 0, 1) := dk_42 (dk_at dksX1_hole_0 21 rfl rfl)
theorem dX1_hole_22 : decode cX1_hole 22 = .ok (.invokevirtual 453, 3) := dk_182 1 197 (dk_at dksX1_hole_1 0 rfl rfl)
theorem dX1_hole_25 : decode cX1_hole 25 = .ok (.aload_n 0, 1) := dk_42 (dk_at dksX1_hole_1 3 rfl rfl)
theorem dX1_hole_26 : decode cX1_hole 26 = .ok (.getfield 10, 3) := dk_180 0 10 (dk_at dksX1_hole_1 4 rfl rfl)
theorem dX1_hole_29 : decode cX1_hole 29 = .ok (.getfield 129, 3) := dk_180 0 129 (dk_at dksX1_hole_1 7 rfl rfl)
theorem dX1_hole_32 : decode cX1_hole 32 = .ok (.iload_n 1, 1) := dk_27 (dk_at dksX1_hole_1 10 rfl rfl)
theorem dX1_hole_33 : decode cX1_hole 33 = .ok (.iaload, 1) := dk_46 (dk_at dksX1_hole_1 11 rfl rfl)
theorem dX1_hole_34 : decode cX1_hole 34 = .ok (.iload_n 2, 1) := dk_28 (dk_at dksX1_hole_1 12 rfl rfl)
theorem dX1_hole_35 : decode cX1_hole 35 = .ok (.invokestatic 374, 3) := dk_184 1 118 (dk_at dksX1_hole_1 13 rfl rfl)
theorem dX1_hole_38 : decode cX1_hole 38 = .ok (.istore 4, 2) := dk_54 4 (dk_at dksX1_hole_1 16 rfl rfl)
theorem dX1_hole_40 : decode cX1_hole 40 = .ok (.iconst 1, 1) := dk_4 (dk_at dksX1_hole_1 18 rfl rfl)
theorem dX1_hole_41 : decode cX1_hole 41 = .ok (.iload_n 2, 1) := dk_28 (dk_at dksX1_hole_1 19 rfl rfl)
theorem dX1_hole_42 : decode cX1_hole 42 = .ok (.ishl, 1) := dk_120 (dk_at dksX1_hole_1 20 rfl rfl)
theorem dX1_hole_43 : decode cX1_hole 43 = .ok (.istore 5, 2) := dk_54 5 (dk_at dksX1_hole_1 21 rfl rfl)
theorem dX1_hole_45 : decode cX1_hole 45 = .ok (.aload_n 0, 1) := dk_42 (dk_at dksX1_hole_1 23 rfl rfl)
theorem dX1_hole_46 : decode cX1_hole 46 = .ok (.getfield 10, 3) := dk_180 0 10 (dk_at dksX1_hole_2 0 rfl rfl)
theorem dX1_hole_49 : decode cX1_hole 49 = .ok (.getfield 129, 3) := dk_180 0 129 (dk_at dksX1_hole_2 3 rfl rfl)
theorem dX1_hole_52 : decode cX1_hole 52 = .ok (.iload_n 1, 1) := dk_27 (dk_at dksX1_hole_2 6 rfl rfl)
theorem dX1_hole_53 : decode cX1_hole 53 = .ok (.iload_n 3, 1) := dk_29 (dk_at dksX1_hole_2 7 rfl rfl)
theorem dX1_hole_54 : decode cX1_hole 54 = .ok (.ifCond .eq 18, 3) := dk_153 0 18 (dk_at dksX1_hole_2 8 rfl rfl)
theorem dX1_hole_57 : decode cX1_hole 57 = .ok (.aload_n 0, 1) := dk_42 (dk_at dksX1_hole_2 11 rfl rfl)
theorem dX1_hole_58 : decode cX1_hole 58 = .ok (.getfield 10, 3) := dk_180 0 10 (dk_at dksX1_hole_2 12 rfl rfl)
theorem dX1_hole_61 : decode cX1_hole 61 = .ok (.getfield 129, 3) := dk_180 0 129 (dk_at dksX1_hole_2 15 rfl rfl)
theorem dX1_hole_64 : decode cX1_hole 64 = .ok (.iload_n 1, 1) := dk_27 (dk_at dksX1_hole_2 18 rfl rfl)
theorem dX1_hole_65 : decode cX1_hole 65 = .ok (.iaload, 1) := dk_46 (dk_at dksX1_hole_2 19 rfl rfl)
theorem dX1_hole_66 : decode cX1_hole 66 = .ok (.iload 5, 2) := dk_21 5 (dk_at dksX1_hole_2 20 rfl rfl)
theorem dX1_hole_68 : decode cX1_hole 68 = .ok (.ior, 1) := dk_128 (dk_at dksX1_hole_2 22 rfl rfl)
theorem dX1_hole_69 : decode cX1_hole 69 = .ok (.goto 17, 3) := dk_167 0 17 (dk_at dksX1_hole_3 0 rfl rfl)
theorem dX1_hole_72 : decode cX1_hole 72 = .ok (.aload_n 0, 1) := dk_42 (dk_at dksX1_hole_3 3 rfl rfl)
theorem dX1_hole_73 : decode cX1_hole 73 = .ok (.getfield 10, 3) := dk_180 0 10 (dk_at dksX1_hole_3 4 rfl rfl)
theorem dX1_hole_76 : decode cX1_hole 76 = .ok (.getfield 129, 3) := dk_180 0 129 (dk_at dksX1_hole_3 7 rfl rfl)
theorem dX1_hole_79 : decode cX1_hole 79 = .ok (.iload_n 1, 1) := dk_27 (dk_at dksX1_hole_3 10 rfl rfl)
theorem dX1_hole_80 : decode cX1_hole 80 = .ok (.iaload, 1) := dk_46 (dk_at dksX1_hole_3 11 rfl rfl)
theorem dX1_hole_81 : decode cX1_hole 81 = .ok (.iload 5, 2) := dk_21 5 (dk_at dksX1_hole_3 12 rfl rfl)
theorem dX1_hole_83 : decode cX1_hole 83 = .ok (.iconst (-1), 1) := dk_2 (dk_at dksX1_hole_3 14 rfl rfl)
theorem dX1_hole_84 : decode cX1_hole 84 = .ok (.ixor, 1) := dk_130 (dk_at dksX1_hole_3 15 rfl rfl)
theorem dX1_hole_85 : decode cX1_hole 85 = .ok (.iand, 1) := dk_126 (dk_at dksX1_hole_3 16 rfl rfl)
theorem dX1_hole_86 : decode cX1_hole 86 = .ok (.iastore, 1) := dk_79 (dk_at dksX1_hole_3 17 rfl rfl)
theorem dX1_hole_87 : decode cX1_hole 87 = .ok (.iload 4, 2) := dk_21 4 (dk_at dksX1_hole_3 18 rfl rfl)
theorem dX1_hole_89 : decode cX1_hole 89 = .ok (.iload_n 3, 1) := dk_29 (dk_at dksX1_hole_3 20 rfl rfl)
theorem dX1_hole_90 : decode cX1_hole 90 = .ok (.if_icmp .eq 7, 3) := dk_159 0 7 (dk_at dksX1_hole_3 21 rfl rfl)
theorem dX1_hole_93 : decode cX1_hole 93 = .ok (.iconst 1, 1) := dk_4 (dk_at dksX1_hole_4 0 rfl rfl)
theorem dX1_hole_94 : decode cX1_hole 94 = .ok (.goto 4, 3) := dk_167 0 4 (dk_at dksX1_hole_4 1 rfl rfl)
theorem dX1_hole_97 : decode cX1_hole 97 = .ok (.iconst 0, 1) := dk_3 (dk_at dksX1_hole_4 4 rfl rfl)
theorem dX1_hole_98 : decode cX1_hole 98 = .ok (.ireturn, 1) := dk_172 (dk_at dksX1_hole_4 5 rfl rfl)
abbrev cX1_bath : ByteArray := prog_1_method_49_code
def yX1_bath : MethodName := ⟨RX1, "bath", "(I)I"⟩
def dkwX1_bath_1 : List UInt8 := [28, 172]
abbrev dktX1_bath_1 : List UInt8 := dkwX1_bath_1 ++ []
def dkwX1_bath_0 : List UInt8 := [27, 184, 1, 175, 42, 182, 1, 197, 42, 180, 0, 10, 180, 0, 160, 61, 42, 180, 0, 10, 27, 181, 0, 160]
abbrev dktX1_bath_0 : List UInt8 := dkwX1_bath_0 ++ dktX1_bath_1
theorem dksX1_bath_0 : cX1_bath.data.toList.drop 0 = dktX1_bath_0 := by decide +kernel
theorem dksX1_bath_1 : cX1_bath.data.toList.drop 24 = dktX1_bath_1 := dk_seg dksX1_bath_0 24 rfl rfl
theorem dX1_bath_0 : decode cX1_bath 0 = .ok (.iload_n 1, 1) := dk_27 (dk_at dksX1_bath_0 0 rfl rfl)
theorem dX1_bath_1 : decode cX1_bath 1 = .ok (.invokestatic 431, 3) := dk_184 1 175 (dk_at dksX1_bath_0 1 rfl rfl)
theorem dX1_bath_4 : decode cX1_bath 4 = .ok (.aload_n 0, 1) := dk_42 (dk_at dksX1_bath_0 4 rfl rfl)
theorem dX1_bath_5 : decode cX1_bath 5 = .ok (.invokevirtual 453, 3) := dk_182 1 197 (dk_at dksX1_bath_0 5 rfl rfl)
theorem dX1_bath_8 : decode cX1_bath 8 = .ok (.aload_n 0, 1) := dk_42 (dk_at dksX1_bath_0 8 rfl rfl)
theorem dX1_bath_9 : decode cX1_bath 9 = .ok (.getfield 10, 3) := dk_180 0 10 (dk_at dksX1_bath_0 9 rfl rfl)
theorem dX1_bath_12 : decode cX1_bath 12 = .ok (.getfield 160, 3) := dk_180 0 160 (dk_at dksX1_bath_0 12 rfl rfl)
theorem dX1_bath_15 : decode cX1_bath 15 = .ok (.istore_n 2, 1) := dk_61 (dk_at dksX1_bath_0 15 rfl rfl)
theorem dX1_bath_16 : decode cX1_bath 16 = .ok (.aload_n 0, 1) := dk_42 (dk_at dksX1_bath_0 16 rfl rfl)
theorem dX1_bath_17 : decode cX1_bath 17 = .ok (.getfield 10, 3) := dk_180 0 10 (dk_at dksX1_bath_0 17 rfl rfl)
theorem dX1_bath_20 : decode cX1_bath 20 = .ok (.iload_n 1, 1) := dk_27 (dk_at dksX1_bath_0 20 rfl rfl)
theorem dX1_bath_21 : decode cX1_bath 21 = .ok (.putfield 160, 3) := dk_181 0 160 (dk_at dksX1_bath_0 21 rfl rfl)
theorem dX1_bath_24 : decode cX1_bath 24 = .ok (.iload_n 2, 1) := dk_28 (dk_at dksX1_bath_1 0 rfl rfl)
theorem dX1_bath_25 : decode cX1_bath 25 = .ok (.ireturn, 1) := dk_172 (dk_at dksX1_bath_1 1 rfl rfl)
abbrev cX1_keep : ByteArray := prog_1_method_50_code
def yX1_keep : MethodName := ⟨RX1, "keep", "(I)I"⟩
def dkwX1_keep_1 : List UInt8 := [28, 172]
abbrev dktX1_keep_1 : List UInt8 := dkwX1_keep_1 ++ []
def dkwX1_keep_0 : List UInt8 := [27, 184, 1, 184, 42, 182, 1, 197, 42, 180, 0, 10, 180, 0, 164, 61, 42, 180, 0, 10, 27, 181, 0, 164]
abbrev dktX1_keep_0 : List UInt8 := dkwX1_keep_0 ++ dktX1_keep_1
theorem dksX1_keep_0 : cX1_keep.data.toList.drop 0 = dktX1_keep_0 := by decide +kernel
theorem dksX1_keep_1 : cX1_keep.data.toList.drop 24 = dktX1_keep_1 := dk_seg dksX1_keep_0 24 rfl rfl
theorem dX1_keep_0 : decode cX1_keep 0 = .ok (.iload_n 1, 1) := dk_27 (dk_at dksX1_keep_0 0 rfl rfl)
theorem dX1_keep_1 : decode cX1_keep 1 = .ok (.invokestatic 440, 3) := dk_184 1 184 (dk_at dksX1_keep_0 1 rfl rfl)
theorem dX1_keep_4 : decode cX1_keep 4 = .ok (.aload_n 0, 1) := dk_42 (dk_at dksX1_keep_0 4 rfl rfl)
theorem dX1_keep_5 : decode cX1_keep 5 = .ok (.invokevirtual 453, 3) := dk_182 1 197 (dk_at dksX1_keep_0 5 rfl rfl)
theorem dX1_keep_8 : decode cX1_keep 8 = .ok (.aload_n 0, 1) := dk_42 (dk_at dksX1_keep_0 8 rfl rfl)
theorem dX1_keep_9 : decode cX1_keep 9 = .ok (.getfield 10, 3) := dk_180 0 10 (dk_at dksX1_keep_0 9 rfl rfl)
theorem dX1_keep_12 : decode cX1_keep 12 = .ok (.getfield 164, 3) := dk_180 0 164 (dk_at dksX1_keep_0 12 rfl rfl)
theorem dX1_keep_15 : decode cX1_keep 15 = .ok (.istore_n 2, 1) := dk_61 (dk_at dksX1_keep_0 15 rfl rfl)
theorem dX1_keep_16 : decode cX1_keep 16 = .ok (.aload_n 0, 1) := dk_42 (dk_at dksX1_keep_0 16 rfl rfl)
theorem dX1_keep_17 : decode cX1_keep 17 = .ok (.getfield 10, 3) := dk_180 0 10 (dk_at dksX1_keep_0 17 rfl rfl)
theorem dX1_keep_20 : decode cX1_keep 20 = .ok (.iload_n 1, 1) := dk_27 (dk_at dksX1_keep_0 20 rfl rfl)
theorem dX1_keep_21 : decode cX1_keep 21 = .ok (.putfield 164, 3) := dk_181 0 164 (dk_at dksX1_keep_0 21 rfl rfl)
theorem dX1_keep_24 : decode cX1_keep 24 = .ok (.iload_n 2, 1) := dk_28 (dk_at dksX1_keep_1 0 rfl rfl)
theorem dX1_keep_25 : decode cX1_keep 25 = .ok (.ireturn, 1) := dk_172 (dk_at dksX1_keep_1 1 rfl rfl)
abbrev cX1_masons : ByteArray := prog_1_method_51_code
def yX1_masons : MethodName := ⟨RX1, "masons", "(I)I"⟩
def dkwX1_masons_1 : List UInt8 := [180, 0, 10, 27, 181, 0, 167, 28, 172]
abbrev dktX1_masons_1 : List UInt8 := dkwX1_masons_1 ++ []
def dkwX1_masons_0 : List UInt8 := [27, 3, 16, 9, 184, 1, 146, 184, 1, 190, 42, 182, 1, 197, 42, 180, 0, 10, 180, 0, 167, 61, 42]
abbrev dktX1_masons_0 : List UInt8 := dkwX1_masons_0 ++ dktX1_masons_1
theorem dksX1_masons_0 : cX1_masons.data.toList.drop 0 = dktX1_masons_0 := by decide +kernel
theorem dksX1_masons_1 : cX1_masons.data.toList.drop 23 = dktX1_masons_1 := dk_seg dksX1_masons_0 23 rfl rfl
theorem dX1_masons_0 : decode cX1_masons 0 = .ok (.iload_n 1, 1) := dk_27 (dk_at dksX1_masons_0 0 rfl rfl)
theorem dX1_masons_1 : decode cX1_masons 1 = .ok (.iconst 0, 1) := dk_3 (dk_at dksX1_masons_0 1 rfl rfl)
theorem dX1_masons_2 : decode cX1_masons 2 = .ok (.bipush 9, 2) := dk_16 9 (dk_at dksX1_masons_0 2 rfl rfl)
theorem dX1_masons_4 : decode cX1_masons 4 = .ok (.invokestatic 402, 3) := dk_184 1 146 (dk_at dksX1_masons_0 4 rfl rfl)
theorem dX1_masons_7 : decode cX1_masons 7 = .ok (.invokestatic 446, 3) := dk_184 1 190 (dk_at dksX1_masons_0 7 rfl rfl)
theorem dX1_masons_10 : decode cX1_masons 10 = .ok (.aload_n 0, 1) := dk_42 (dk_at dksX1_masons_0 10 rfl rfl)
theorem dX1_masons_11 : decode cX1_masons 11 = .ok (.invokevirtual 453, 3) := dk_182 1 197 (dk_at dksX1_masons_0 11 rfl rfl)
theorem dX1_masons_14 : decode cX1_masons 14 = .ok (.aload_n 0, 1) := dk_42 (dk_at dksX1_masons_0 14 rfl rfl)
theorem dX1_masons_15 : decode cX1_masons 15 = .ok (.getfield 10, 3) := dk_180 0 10 (dk_at dksX1_masons_0 15 rfl rfl)
theorem dX1_masons_18 : decode cX1_masons 18 = .ok (.getfield 167, 3) := dk_180 0 167 (dk_at dksX1_masons_0 18 rfl rfl)
theorem dX1_masons_21 : decode cX1_masons 21 = .ok (.istore_n 2, 1) := dk_61 (dk_at dksX1_masons_0 21 rfl rfl)
theorem dX1_masons_22 : decode cX1_masons 22 = .ok (.aload_n 0, 1) := dk_42 (dk_at dksX1_masons_0 22 rfl rfl)
theorem dX1_masons_23 : decode cX1_masons 23 = .ok (.getfield 10, 3) := dk_180 0 10 (dk_at dksX1_masons_1 0 rfl rfl)
theorem dX1_masons_26 : decode cX1_masons 26 = .ok (.iload_n 1, 1) := dk_27 (dk_at dksX1_masons_1 3 rfl rfl)
theorem dX1_masons_27 : decode cX1_masons 27 = .ok (.putfield 167, 3) := dk_181 0 167 (dk_at dksX1_masons_1 4 rfl rfl)
theorem dX1_masons_30 : decode cX1_masons 30 = .ok (.iload_n 2, 1) := dk_28 (dk_at dksX1_masons_1 7 rfl rfl)
theorem dX1_masons_31 : decode cX1_masons 31 = .ok (.ireturn, 1) := dk_172 (dk_at dksX1_masons_1 8 rfl rfl)
abbrev cX1_buy : ByteArray := prog_1_method_52_code
def yX1_buy : MethodName := ⟨RX1, "buy", "(I)I"⟩
def dkwX1_buy_1 : List UInt8 := [180, 0, 10, 180, 0, 169, 27, 96, 184, 1, 200, 181, 0, 169, 42, 180, 0, 10, 180, 0, 169, 172]
abbrev dktX1_buy_1 : List UInt8 := dkwX1_buy_1 ++ []
def dkwX1_buy_0 : List UInt8 := [27, 4, 17, 3, 231, 184, 1, 146, 184, 1, 190, 42, 182, 1, 197, 42, 180, 0, 10, 17, 39, 15, 42]
abbrev dktX1_buy_0 : List UInt8 := dkwX1_buy_0 ++ dktX1_buy_1
theorem dksX1_buy_0 : cX1_buy.data.toList.drop 0 = dktX1_buy_0 := by decide +kernel
theorem dksX1_buy_1 : cX1_buy.data.toList.drop 23 = dktX1_buy_1 := dk_seg dksX1_buy_0 23 rfl rfl
theorem dX1_buy_0 : decode cX1_buy 0 = .ok (.iload_n 1, 1) := dk_27 (dk_at dksX1_buy_0 0 rfl rfl)
theorem dX1_buy_1 : decode cX1_buy 1 = .ok (.iconst 1, 1) := dk_4 (dk_at dksX1_buy_0 1 rfl rfl)
theorem dX1_buy_2 : decode cX1_buy 2 = .ok (.sipush 999, 3) := dk_17 3 231 (dk_at dksX1_buy_0 2 rfl rfl)
theorem dX1_buy_5 : decode cX1_buy 5 = .ok (.invokestatic 402, 3) := dk_184 1 146 (dk_at dksX1_buy_0 5 rfl rfl)
theorem dX1_buy_8 : decode cX1_buy 8 = .ok (.invokestatic 446, 3) := dk_184 1 190 (dk_at dksX1_buy_0 8 rfl rfl)
theorem dX1_buy_11 : decode cX1_buy 11 = .ok (.aload_n 0, 1) := dk_42 (dk_at dksX1_buy_0 11 rfl rfl)
theorem dX1_buy_12 : decode cX1_buy 12 = .ok (.invokevirtual 453, 3) := dk_182 1 197 (dk_at dksX1_buy_0 12 rfl rfl)
theorem dX1_buy_15 : decode cX1_buy 15 = .ok (.aload_n 0, 1) := dk_42 (dk_at dksX1_buy_0 15 rfl rfl)
theorem dX1_buy_16 : decode cX1_buy 16 = .ok (.getfield 10, 3) := dk_180 0 10 (dk_at dksX1_buy_0 16 rfl rfl)
theorem dX1_buy_19 : decode cX1_buy 19 = .ok (.sipush 9999, 3) := dk_17 39 15 (dk_at dksX1_buy_0 19 rfl rfl)
theorem dX1_buy_22 : decode cX1_buy 22 = .ok (.aload_n 0, 1) := dk_42 (dk_at dksX1_buy_0 22 rfl rfl)
theorem dX1_buy_23 : decode cX1_buy 23 = .ok (.getfield 10, 3) := dk_180 0 10 (dk_at dksX1_buy_1 0 rfl rfl)
theorem dX1_buy_26 : decode cX1_buy 26 = .ok (.getfield 169, 3) := dk_180 0 169 (dk_at dksX1_buy_1 3 rfl rfl)
theorem dX1_buy_29 : decode cX1_buy 29 = .ok (.iload_n 1, 1) := dk_27 (dk_at dksX1_buy_1 6 rfl rfl)
theorem dX1_buy_30 : decode cX1_buy 30 = .ok (.iadd, 1) := dk_96 (dk_at dksX1_buy_1 7 rfl rfl)
theorem dX1_buy_31 : decode cX1_buy 31 = .ok (.invokestatic 456, 3) := dk_184 1 200 (dk_at dksX1_buy_1 8 rfl rfl)
theorem dX1_buy_34 : decode cX1_buy 34 = .ok (.putfield 169, 3) := dk_181 0 169 (dk_at dksX1_buy_1 11 rfl rfl)
theorem dX1_buy_37 : decode cX1_buy 37 = .ok (.aload_n 0, 1) := dk_42 (dk_at dksX1_buy_1 14 rfl rfl)
theorem dX1_buy_38 : decode cX1_buy 38 = .ok (.getfield 10, 3) := dk_180 0 10 (dk_at dksX1_buy_1 15 rfl rfl)
theorem dX1_buy_41 : decode cX1_buy 41 = .ok (.getfield 169, 3) := dk_180 0 169 (dk_at dksX1_buy_1 18 rfl rfl)
theorem dX1_buy_44 : decode cX1_buy 44 = .ok (.ireturn, 1) := dk_172 (dk_at dksX1_buy_1 21 rfl rfl)
abbrev cX1_calm : ByteArray := prog_1_method_53_code
def yX1_calm : MethodName := ⟨RX1, "calm", "(I)I"⟩
def dkwX1_calm_1 : List UInt8 := [180, 0, 10, 180, 0, 109, 27, 46, 172]
abbrev dktX1_calm_1 : List UInt8 := dkwX1_calm_1 ++ []
def dkwX1_calm_0 : List UInt8 := [42, 27, 182, 1, 162, 42, 182, 1, 197, 42, 180, 0, 10, 180, 0, 109, 27, 92, 46, 5, 108, 79, 42]
abbrev dktX1_calm_0 : List UInt8 := dkwX1_calm_0 ++ dktX1_calm_1
theorem dksX1_calm_0 : cX1_calm.data.toList.drop 0 = dktX1_calm_0 := by decide +kernel
theorem dksX1_calm_1 : cX1_calm.data.toList.drop 23 = dktX1_calm_1 := dk_seg dksX1_calm_0 23 rfl rfl
theorem dX1_calm_0 : decode cX1_calm 0 = .ok (.aload_n 0, 1) := dk_42 (dk_at dksX1_calm_0 0 rfl rfl)
theorem dX1_calm_1 : decode cX1_calm 1 = .ok (.iload_n 1, 1) := dk_27 (dk_at dksX1_calm_0 1 rfl rfl)
theorem dX1_calm_2 : decode cX1_calm 2 = .ok (.invokevirtual 418, 3) := dk_182 1 162 (dk_at dksX1_calm_0 2 rfl rfl)
theorem dX1_calm_5 : decode cX1_calm 5 = .ok (.aload_n 0, 1) := dk_42 (dk_at dksX1_calm_0 5 rfl rfl)
theorem dX1_calm_6 : decode cX1_calm 6 = .ok (.invokevirtual 453, 3) := dk_182 1 197 (dk_at dksX1_calm_0 6 rfl rfl)
theorem dX1_calm_9 : decode cX1_calm 9 = .ok (.aload_n 0, 1) := dk_42 (dk_at dksX1_calm_0 9 rfl rfl)
theorem dX1_calm_10 : decode cX1_calm 10 = .ok (.getfield 10, 3) := dk_180 0 10 (dk_at dksX1_calm_0 10 rfl rfl)
theorem dX1_calm_13 : decode cX1_calm 13 = .ok (.getfield 109, 3) := dk_180 0 109 (dk_at dksX1_calm_0 13 rfl rfl)
theorem dX1_calm_16 : decode cX1_calm 16 = .ok (.iload_n 1, 1) := dk_27 (dk_at dksX1_calm_0 16 rfl rfl)
theorem dX1_calm_17 : decode cX1_calm 17 = .ok (.dup2, 1) := dk_92 (dk_at dksX1_calm_0 17 rfl rfl)
theorem dX1_calm_18 : decode cX1_calm 18 = .ok (.iaload, 1) := dk_46 (dk_at dksX1_calm_0 18 rfl rfl)
theorem dX1_calm_19 : decode cX1_calm 19 = .ok (.iconst 2, 1) := dk_5 (dk_at dksX1_calm_0 19 rfl rfl)
theorem dX1_calm_20 : decode cX1_calm 20 = .ok (.idiv, 1) := dk_108 (dk_at dksX1_calm_0 20 rfl rfl)
theorem dX1_calm_21 : decode cX1_calm 21 = .ok (.iastore, 1) := dk_79 (dk_at dksX1_calm_0 21 rfl rfl)
theorem dX1_calm_22 : decode cX1_calm 22 = .ok (.aload_n 0, 1) := dk_42 (dk_at dksX1_calm_0 22 rfl rfl)
theorem dX1_calm_23 : decode cX1_calm 23 = .ok (.getfield 10, 3) := dk_180 0 10 (dk_at dksX1_calm_1 0 rfl rfl)
theorem dX1_calm_26 : decode cX1_calm 26 = .ok (.getfield 109, 3) := dk_180 0 109 (dk_at dksX1_calm_1 3 rfl rfl)
theorem dX1_calm_29 : decode cX1_calm 29 = .ok (.iload_n 1, 1) := dk_27 (dk_at dksX1_calm_1 6 rfl rfl)
theorem dX1_calm_30 : decode cX1_calm 30 = .ok (.iaload, 1) := dk_46 (dk_at dksX1_calm_1 7 rfl rfl)
theorem dX1_calm_31 : decode cX1_calm 31 = .ok (.ireturn, 1) := dk_172 (dk_at dksX1_calm_1 8 rfl rfl)
abbrev cX1_days : ByteArray := prog_1_method_54_code
def yX1_days : MethodName := ⟨RX1, "days", "(I)I"⟩
def dkwX1_days_2 : List UInt8 := [180, 1, 205, 28, 100, 172]
abbrev dktX1_days_2 : List UInt8 := dkwX1_days_2 ++ []
def dkwX1_days_1 : List UInt8 := [29, 27, 162, 0, 17, 42, 42, 180, 0, 10, 182, 1, 208, 132, 3, 1, 167, 255, 240, 42, 180, 0, 10]
abbrev dktX1_days_1 : List UInt8 := dkwX1_days_1 ++ dktX1_days_2
def dkwX1_days_0 : List UInt8 := [27, 4, 16, 60, 184, 1, 146, 184, 1, 190, 42, 182, 1, 197, 42, 180, 0, 10, 180, 1, 205, 61, 3, 62]
abbrev dktX1_days_0 : List UInt8 := dkwX1_days_0 ++ dktX1_days_1
theorem dksX1_days_0 : cX1_days.data.toList.drop 0 = dktX1_days_0 := by decide +kernel
theorem dksX1_days_1 : cX1_days.data.toList.drop 24 = dktX1_days_1 := dk_seg dksX1_days_0 24 rfl rfl
theorem dksX1_days_2 : cX1_days.data.toList.drop 47 = dktX1_days_2 := dk_seg dksX1_days_1 23 rfl rfl
theorem dX1_days_0 : decode cX1_days 0 = .ok (.iload_n 1, 1) := dk_27 (dk_at dksX1_days_0 0 rfl rfl)
theorem dX1_days_1 : decode cX1_days 1 = .ok (.iconst 1, 1) := dk_4 (dk_at dksX1_days_0 1 rfl rfl)
theorem dX1_days_2 : decode cX1_days 2 = .ok (.bipush 60, 2) := dk_16 60 (dk_at dksX1_days_0 2 rfl rfl)
theorem dX1_days_4 : decode cX1_days 4 = .ok (.invokestatic 402, 3) := dk_184 1 146 (dk_at dksX1_days_0 4 rfl rfl)
theorem dX1_days_7 : decode cX1_days 7 = .ok (.invokestatic 446, 3) := dk_184 1 190 (dk_at dksX1_days_0 7 rfl rfl)
theorem dX1_days_10 : decode cX1_days 10 = .ok (.aload_n 0, 1) := dk_42 (dk_at dksX1_days_0 10 rfl rfl)
theorem dX1_days_11 : decode cX1_days 11 = .ok (.invokevirtual 453, 3) := dk_182 1 197 (dk_at dksX1_days_0 11 rfl rfl)
theorem dX1_days_14 : decode cX1_days 14 = .ok (.aload_n 0, 1) := dk_42 (dk_at dksX1_days_0 14 rfl rfl)
theorem dX1_days_15 : decode cX1_days 15 = .ok (.getfield 10, 3) := dk_180 0 10 (dk_at dksX1_days_0 15 rfl rfl)
theorem dX1_days_18 : decode cX1_days 18 = .ok (.getfield 461, 3) := dk_180 1 205 (dk_at dksX1_days_0 18 rfl rfl)
theorem dX1_days_21 : decode cX1_days 21 = .ok (.istore_n 2, 1) := dk_61 (dk_at dksX1_days_0 21 rfl rfl)
theorem dX1_days_22 : decode cX1_days 22 = .ok (.iconst 0, 1) := dk_3 (dk_at dksX1_days_0 22 rfl rfl)
theorem dX1_days_23 : decode cX1_days 23 = .ok (.istore_n 3, 1) := dk_62 (dk_at dksX1_days_0 23 rfl rfl)
theorem dX1_days_24 : decode cX1_days 24 = .ok (.iload_n 3, 1) := dk_29 (dk_at dksX1_days_1 0 rfl rfl)
theorem dX1_days_25 : decode cX1_days 25 = .ok (.iload_n 1, 1) := dk_27 (dk_at dksX1_days_1 1 rfl rfl)
theorem dX1_days_26 : decode cX1_days 26 = .ok (.if_icmp .ge 17, 3) := dk_162 0 17 (dk_at dksX1_days_1 2 rfl rfl)
theorem dX1_days_29 : decode cX1_days 29 = .ok (.aload_n 0, 1) := dk_42 (dk_at dksX1_days_1 5 rfl rfl)
theorem dX1_days_30 : decode cX1_days 30 = .ok (.aload_n 0, 1) := dk_42 (dk_at dksX1_days_1 6 rfl rfl)
theorem dX1_days_31 : decode cX1_days 31 = .ok (.getfield 10, 3) := dk_180 0 10 (dk_at dksX1_days_1 7 rfl rfl)
theorem dX1_days_34 : decode cX1_days 34 = .ok (.invokevirtual 464, 3) := dk_182 1 208 (dk_at dksX1_days_1 10 rfl rfl)
theorem dX1_days_37 : decode cX1_days 37 = .ok (.iinc 3 1, 3) := dk_132 3 1 (dk_at dksX1_days_1 13 rfl rfl)
theorem dX1_days_40 : decode cX1_days 40 = .ok (.goto (-16), 3) := dk_167 255 240 (dk_at dksX1_days_1 16 rfl rfl)
theorem dX1_days_43 : decode cX1_days 43 = .ok (.aload_n 0, 1) := dk_42 (dk_at dksX1_days_1 19 rfl rfl)
theorem dX1_days_44 : decode cX1_days 44 = .ok (.getfield 10, 3) := dk_180 0 10 (dk_at dksX1_days_1 20 rfl rfl)
theorem dX1_days_47 : decode cX1_days 47 = .ok (.getfield 461, 3) := dk_180 1 205 (dk_at dksX1_days_2 0 rfl rfl)
theorem dX1_days_50 : decode cX1_days 50 = .ok (.iload_n 2, 1) := dk_28 (dk_at dksX1_days_2 3 rfl rfl)
theorem dX1_days_51 : decode cX1_days 51 = .ok (.isub, 1) := dk_100 (dk_at dksX1_days_2 4 rfl rfl)
theorem dX1_days_52 : decode cX1_days 52 = .ok (.ireturn, 1) := dk_172 (dk_at dksX1_days_2 5 rfl rfl)
abbrev cX1_aDay : ByteArray := prog_1_method_28_code
def yX1_aDay : MethodName := ⟨RX1, "aDay", "(LSaturdayKeep$World;)V"⟩
def dkwX1_aDay_2 : List UInt8 := [43, 180, 0, 129, 28, 92, 46, 4, 28, 4, 96, 16, 8, 112, 120, 128, 79, 43, 182, 1, 140, 177]
abbrev dktX1_aDay_2 : List UInt8 := dkwX1_aDay_2 ++ []
def dkwX1_aDay_1 : List UInt8 := [43, 182, 1, 137, 43, 16, 100, 182, 1, 121, 43, 180, 0, 171, 162, 0, 27, 43, 16, 8, 182, 1, 121, 61]
abbrev dktX1_aDay_1 : List UInt8 := dkwX1_aDay_1 ++ dktX1_aDay_2
def dkwX1_aDay_0 : List UInt8 := [42, 43, 182, 1, 131, 43, 43, 180, 0, 164, 43, 180, 0, 173, 182, 1, 98, 153, 0, 7, 43, 184, 1, 134]
abbrev dktX1_aDay_0 : List UInt8 := dkwX1_aDay_0 ++ dktX1_aDay_1
theorem dksX1_aDay_0 : cX1_aDay.data.toList.drop 0 = dktX1_aDay_0 := by decide +kernel
theorem dksX1_aDay_1 : cX1_aDay.data.toList.drop 24 = dktX1_aDay_1 := dk_seg dksX1_aDay_0 24 rfl rfl
theorem dksX1_aDay_2 : cX1_aDay.data.toList.drop 48 = dktX1_aDay_2 := dk_seg dksX1_aDay_1 24 rfl rfl
theorem dX1_aDay_0 : decode cX1_aDay 0 = .ok (.aload_n 0, 1) := dk_42 (dk_at dksX1_aDay_0 0 rfl rfl)
theorem dX1_aDay_1 : decode cX1_aDay 1 = .ok (.aload_n 1, 1) := dk_43 (dk_at dksX1_aDay_0 1 rfl rfl)
theorem dX1_aDay_2 : decode cX1_aDay 2 = .ok (.invokevirtual 387, 3) := dk_182 1 131 (dk_at dksX1_aDay_0 2 rfl rfl)
theorem dX1_aDay_5 : decode cX1_aDay 5 = .ok (.aload_n 1, 1) := dk_43 (dk_at dksX1_aDay_0 5 rfl rfl)
theorem dX1_aDay_6 : decode cX1_aDay 6 = .ok (.aload_n 1, 1) := dk_43 (dk_at dksX1_aDay_0 6 rfl rfl)
theorem dX1_aDay_7 : decode cX1_aDay 7 = .ok (.getfield 164, 3) := dk_180 0 164 (dk_at dksX1_aDay_0 7 rfl rfl)
theorem dX1_aDay_10 : decode cX1_aDay 10 = .ok (.aload_n 1, 1) := dk_43 (dk_at dksX1_aDay_0 10 rfl rfl)
theorem dX1_aDay_11 : decode cX1_aDay 11 = .ok (.getfield 173, 3) := dk_180 0 173 (dk_at dksX1_aDay_0 11 rfl rfl)
theorem dX1_aDay_14 : decode cX1_aDay 14 = .ok (.invokevirtual 354, 3) := dk_182 1 98 (dk_at dksX1_aDay_0 14 rfl rfl)
theorem dX1_aDay_17 : decode cX1_aDay 17 = .ok (.ifCond .eq 7, 3) := dk_153 0 7 (dk_at dksX1_aDay_0 17 rfl rfl)
theorem dX1_aDay_20 : decode cX1_aDay 20 = .ok (.aload_n 1, 1) := dk_43 (dk_at dksX1_aDay_0 20 rfl rfl)
theorem dX1_aDay_21 : decode cX1_aDay 21 = .ok (.invokestatic 390, 3) := dk_184 1 134 (dk_at dksX1_aDay_0 21 rfl rfl)
theorem dX1_aDay_24 : decode cX1_aDay 24 = .ok (.aload_n 1, 1) := dk_43 (dk_at dksX1_aDay_1 0 rfl rfl)
theorem dX1_aDay_25 : decode cX1_aDay 25 = .ok (.invokevirtual 393, 3) := dk_182 1 137 (dk_at dksX1_aDay_1 1 rfl rfl)
theorem dX1_aDay_28 : decode cX1_aDay 28 = .ok (.aload_n 1, 1) := dk_43 (dk_at dksX1_aDay_1 4 rfl rfl)
theorem dX1_aDay_29 : decode cX1_aDay 29 = .ok (.bipush 100, 2) := dk_16 100 (dk_at dksX1_aDay_1 5 rfl rfl)
theorem dX1_aDay_31 : decode cX1_aDay 31 = .ok (.invokevirtual 377, 3) := dk_182 1 121 (dk_at dksX1_aDay_1 7 rfl rfl)
theorem dX1_aDay_34 : decode cX1_aDay 34 = .ok (.aload_n 1, 1) := dk_43 (dk_at dksX1_aDay_1 10 rfl rfl)
theorem dX1_aDay_35 : decode cX1_aDay 35 = .ok (.getfield 171, 3) := dk_180 0 171 (dk_at dksX1_aDay_1 11 rfl rfl)
theorem dX1_aDay_38 : decode cX1_aDay 38 = .ok (.if_icmp .ge 27, 3) := dk_162 0 27 (dk_at dksX1_aDay_1 14 rfl rfl)
theorem dX1_aDay_41 : decode cX1_aDay 41 = .ok (.aload_n 1, 1) := dk_43 (dk_at dksX1_aDay_1 17 rfl rfl)
theorem dX1_aDay_42 : decode cX1_aDay 42 = .ok (.bipush 8, 2) := dk_16 8 (dk_at dksX1_aDay_1 18 rfl rfl)
theorem dX1_aDay_44 : decode cX1_aDay 44 = .ok (.invokevirtual 377, 3) := dk_182 1 121 (dk_at dksX1_aDay_1 20 rfl rfl)
theorem dX1_aDay_47 : decode cX1_aDay 47 = .ok (.istore_n 2, 1) := dk_61 (dk_at dksX1_aDay_1 23 rfl rfl)
theorem dX1_aDay_48 : decode cX1_aDay 48 = .ok (.aload_n 1, 1) := dk_43 (dk_at dksX1_aDay_2 0 rfl rfl)
theorem dX1_aDay_49 : decode cX1_aDay 49 = .ok (.getfield 129, 3) := dk_180 0 129 (dk_at dksX1_aDay_2 1 rfl rfl)
theorem dX1_aDay_52 : decode cX1_aDay 52 = .ok (.iload_n 2, 1) := dk_28 (dk_at dksX1_aDay_2 4 rfl rfl)
theorem dX1_aDay_53 : decode cX1_aDay 53 = .ok (.dup2, 1) := dk_92 (dk_at dksX1_aDay_2 5 rfl rfl)
theorem dX1_aDay_54 : decode cX1_aDay 54 = .ok (.iaload, 1) := dk_46 (dk_at dksX1_aDay_2 6 rfl rfl)
theorem dX1_aDay_55 : decode cX1_aDay 55 = .ok (.iconst 1, 1) := dk_4 (dk_at dksX1_aDay_2 7 rfl rfl)
theorem dX1_aDay_56 : decode cX1_aDay 56 = .ok (.iload_n 2, 1) := dk_28 (dk_at dksX1_aDay_2 8 rfl rfl)
theorem dX1_aDay_57 : decode cX1_aDay 57 = .ok (.iconst 1, 1) := dk_4 (dk_at dksX1_aDay_2 9 rfl rfl)
theorem dX1_aDay_58 : decode cX1_aDay 58 = .ok (.iadd, 1) := dk_96 (dk_at dksX1_aDay_2 10 rfl rfl)
theorem dX1_aDay_59 : decode cX1_aDay 59 = .ok (.bipush 8, 2) := dk_16 8 (dk_at dksX1_aDay_2 11 rfl rfl)
theorem dX1_aDay_61 : decode cX1_aDay 61 = .ok (.irem, 1) := dk_112 (dk_at dksX1_aDay_2 13 rfl rfl)
theorem dX1_aDay_62 : decode cX1_aDay 62 = .ok (.ishl, 1) := dk_120 (dk_at dksX1_aDay_2 14 rfl rfl)
theorem dX1_aDay_63 : decode cX1_aDay 63 = .ok (.ior, 1) := dk_128 (dk_at dksX1_aDay_2 15 rfl rfl)
theorem dX1_aDay_64 : decode cX1_aDay 64 = .ok (.iastore, 1) := dk_79 (dk_at dksX1_aDay_2 16 rfl rfl)
theorem dX1_aDay_65 : decode cX1_aDay 65 = .ok (.aload_n 1, 1) := dk_43 (dk_at dksX1_aDay_2 17 rfl rfl)
theorem dX1_aDay_66 : decode cX1_aDay 66 = .ok (.invokevirtual 396, 3) := dk_182 1 140 (dk_at dksX1_aDay_2 18 rfl rfl)
theorem dX1_aDay_69 : decode cX1_aDay 69 = .ok (.return_, 1) := dk_177 (dk_at dksX1_aDay_2 21 rfl rfl)
abbrev cX1_allLook : ByteArray := prog_1_method_27_code
def yX1_allLook : MethodName := ⟨RX1, "allLook", "(LSaturdayKeep$World;)V"⟩
def dkwX1_allLook_2 : List UInt8 := [132, 2, 1, 167, 255, 218, 177]
abbrev dktX1_allLook_2 : List UInt8 := dkwX1_allLook_2 ++ []
def dkwX1_allLook_1 : List UInt8 := [153, 0, 22, 42, 16, 10, 182, 1, 121, 42, 28, 182, 1, 124, 162, 0, 8, 42, 28, 182, 1, 127]
abbrev dktX1_allLook_1 : List UInt8 := dkwX1_allLook_1 ++ dktX1_allLook_2
def dkwX1_allLook_0 : List UInt8 := [42, 42, 180, 0, 160, 182, 1, 115, 60, 3, 61, 28, 42, 180, 0, 92, 162, 0, 36, 27, 28, 184, 1, 118]
abbrev dktX1_allLook_0 : List UInt8 := dkwX1_allLook_0 ++ dktX1_allLook_1
theorem dksX1_allLook_0 : cX1_allLook.data.toList.drop 0 = dktX1_allLook_0 := by decide +kernel
theorem dksX1_allLook_1 : cX1_allLook.data.toList.drop 24 = dktX1_allLook_1 := dk_seg dksX1_allLook_0 24 rfl rfl
theorem dksX1_allLook_2 : cX1_allLook.data.toList.drop 46 = dktX1_allLook_2 := dk_seg dksX1_allLook_1 22 rfl rfl
theorem dX1_allLook_0 : decode cX1_allLook 0 = .ok (.aload_n 0, 1) := dk_42 (dk_at dksX1_allLook_0 0 rfl rfl)
theorem dX1_allLook_1 : decode cX1_allLook 1 = .ok (.aload_n 0, 1) := dk_42 (dk_at dksX1_allLook_0 1 rfl rfl)
theorem dX1_allLook_2 : decode cX1_allLook 2 = .ok (.getfield 160, 3) := dk_180 0 160 (dk_at dksX1_allLook_0 2 rfl rfl)
theorem dX1_allLook_5 : decode cX1_allLook 5 = .ok (.invokevirtual 371, 3) := dk_182 1 115 (dk_at dksX1_allLook_0 5 rfl rfl)
theorem dX1_allLook_8 : decode cX1_allLook 8 = .ok (.istore_n 1, 1) := dk_60 (dk_at dksX1_allLook_0 8 rfl rfl)
theorem dX1_allLook_9 : decode cX1_allLook 9 = .ok (.iconst 0, 1) := dk_3 (dk_at dksX1_allLook_0 9 rfl rfl)
theorem dX1_allLook_10 : decode cX1_allLook 10 = .ok (.istore_n 2, 1) := dk_61 (dk_at dksX1_allLook_0 10 rfl rfl)
theorem dX1_allLook_11 : decode cX1_allLook 11 = .ok (.iload_n 2, 1) := dk_28 (dk_at dksX1_allLook_0 11 rfl rfl)
theorem dX1_allLook_12 : decode cX1_allLook 12 = .ok (.aload_n 0, 1) := dk_42 (dk_at dksX1_allLook_0 12 rfl rfl)
theorem dX1_allLook_13 : decode cX1_allLook 13 = .ok (.getfield 92, 3) := dk_180 0 92 (dk_at dksX1_allLook_0 13 rfl rfl)
theorem dX1_allLook_16 : decode cX1_allLook 16 = .ok (.if_icmp .ge 36, 3) := dk_162 0 36 (dk_at dksX1_allLook_0 16 rfl rfl)
theorem dX1_allLook_19 : decode cX1_allLook 19 = .ok (.iload_n 1, 1) := dk_27 (dk_at dksX1_allLook_0 19 rfl rfl)
theorem dX1_allLook_20 : decode cX1_allLook 20 = .ok (.iload_n 2, 1) := dk_28 (dk_at dksX1_allLook_0 20 rfl rfl)
theorem dX1_allLook_21 : decode cX1_allLook 21 = .ok (.invokestatic 374, 3) := dk_184 1 118 (dk_at dksX1_allLook_0 21 rfl rfl)
theorem dX1_allLook_24 : decode cX1_allLook 24 = .ok (.ifCond .eq 22, 3) := dk_153 0 22 (dk_at dksX1_allLook_1 0 rfl rfl)
theorem dX1_allLook_27 : decode cX1_allLook 27 = .ok (.aload_n 0, 1) := dk_42 (dk_at dksX1_allLook_1 3 rfl rfl)
theorem dX1_allLook_28 : decode cX1_allLook 28 = .ok (.bipush 10, 2) := dk_16 10 (dk_at dksX1_allLook_1 4 rfl rfl)
theorem dX1_allLook_30 : decode cX1_allLook 30 = .ok (.invokevirtual 377, 3) := dk_182 1 121 (dk_at dksX1_allLook_1 6 rfl rfl)
theorem dX1_allLook_33 : decode cX1_allLook 33 = .ok (.aload_n 0, 1) := dk_42 (dk_at dksX1_allLook_1 9 rfl rfl)
theorem dX1_allLook_34 : decode cX1_allLook 34 = .ok (.iload_n 2, 1) := dk_28 (dk_at dksX1_allLook_1 10 rfl rfl)
theorem dX1_allLook_35 : decode cX1_allLook 35 = .ok (.invokevirtual 380, 3) := dk_182 1 124 (dk_at dksX1_allLook_1 11 rfl rfl)
theorem dX1_allLook_38 : decode cX1_allLook 38 = .ok (.if_icmp .ge 8, 3) := dk_162 0 8 (dk_at dksX1_allLook_1 14 rfl rfl)
theorem dX1_allLook_41 : decode cX1_allLook 41 = .ok (.aload_n 0, 1) := dk_42 (dk_at dksX1_allLook_1 17 rfl rfl)
theorem dX1_allLook_42 : decode cX1_allLook 42 = .ok (.iload_n 2, 1) := dk_28 (dk_at dksX1_allLook_1 18 rfl rfl)
theorem dX1_allLook_43 : decode cX1_allLook 43 = .ok (.invokevirtual 383, 3) := dk_182 1 127 (dk_at dksX1_allLook_1 19 rfl rfl)
theorem dX1_allLook_46 : decode cX1_allLook 46 = .ok (.iinc 2 1, 3) := dk_132 2 1 (dk_at dksX1_allLook_2 0 rfl rfl)
theorem dX1_allLook_49 : decode cX1_allLook 49 = .ok (.goto (-38), 3) := dk_167 255 218 (dk_at dksX1_allLook_2 3 rfl rfl)
theorem dX1_allLook_52 : decode cX1_allLook 52 = .ok (.return_, 1) := dk_177 (dk_at dksX1_allLook_2 6 rfl rfl)
abbrev cX1_ahead : ByteArray := prog_1_method_55_code
def yX1_ahead : MethodName := ⟨RX1, "ahead", "(III)I"⟩
def dkwX1_ahead_2 : List UInt8 := [25, 4, 180, 1, 80, 167, 0, 8, 25, 4, 180, 0, 169, 172]
abbrev dktX1_ahead_2 : List UInt8 := dkwX1_ahead_2 ++ []
def dkwX1_ahead_1 : List UInt8 := [182, 1, 211, 58, 4, 29, 154, 0, 13, 25, 4, 180, 0, 109, 27, 46, 167, 0, 21, 29, 4, 160, 0, 11]
abbrev dktX1_ahead_1 : List UInt8 := dkwX1_ahead_1 ++ dktX1_ahead_2
def dkwX1_ahead_0 : List UInt8 := [42, 27, 182, 1, 162, 28, 3, 17, 1, 144, 184, 1, 146, 184, 1, 190, 29, 5, 184, 1, 165, 42, 28]
abbrev dktX1_ahead_0 : List UInt8 := dkwX1_ahead_0 ++ dktX1_ahead_1
theorem dksX1_ahead_0 : cX1_ahead.data.toList.drop 0 = dktX1_ahead_0 := by decide +kernel
theorem dksX1_ahead_1 : cX1_ahead.data.toList.drop 23 = dktX1_ahead_1 := dk_seg dksX1_ahead_0 23 rfl rfl
theorem dksX1_ahead_2 : cX1_ahead.data.toList.drop 47 = dktX1_ahead_2 := dk_seg dksX1_ahead_1 24 rfl rfl
theorem dX1_ahead_0 : decode cX1_ahead 0 = .ok (.aload_n 0, 1) := dk_42 (dk_at dksX1_ahead_0 0 rfl rfl)
theorem dX1_ahead_1 : decode cX1_ahead 1 = .ok (.iload_n 1, 1) := dk_27 (dk_at dksX1_ahead_0 1 rfl rfl)
theorem dX1_ahead_2 : decode cX1_ahead 2 = .ok (.invokevirtual 418, 3) := dk_182 1 162 (dk_at dksX1_ahead_0 2 rfl rfl)
theorem dX1_ahead_5 : decode cX1_ahead 5 = .ok (.iload_n 2, 1) := dk_28 (dk_at dksX1_ahead_0 5 rfl rfl)
theorem dX1_ahead_6 : decode cX1_ahead 6 = .ok (.iconst 0, 1) := dk_3 (dk_at dksX1_ahead_0 6 rfl rfl)
theorem dX1_ahead_7 : decode cX1_ahead 7 = .ok (.sipush 400, 3) := dk_17 1 144 (dk_at dksX1_ahead_0 7 rfl rfl)
theorem dX1_ahead_10 : decode cX1_ahead 10 = .ok (.invokestatic 402, 3) := dk_184 1 146 (dk_at dksX1_ahead_0 10 rfl rfl)
theorem dX1_ahead_13 : decode cX1_ahead 13 = .ok (.invokestatic 446, 3) := dk_184 1 190 (dk_at dksX1_ahead_0 13 rfl rfl)
theorem dX1_ahead_16 : decode cX1_ahead 16 = .ok (.iload_n 3, 1) := dk_29 (dk_at dksX1_ahead_0 16 rfl rfl)
theorem dX1_ahead_17 : decode cX1_ahead 17 = .ok (.iconst 2, 1) := dk_5 (dk_at dksX1_ahead_0 17 rfl rfl)
theorem dX1_ahead_18 : decode cX1_ahead 18 = .ok (.invokestatic 421, 3) := dk_184 1 165 (dk_at dksX1_ahead_0 18 rfl rfl)
theorem dX1_ahead_21 : decode cX1_ahead 21 = .ok (.aload_n 0, 1) := dk_42 (dk_at dksX1_ahead_0 21 rfl rfl)
theorem dX1_ahead_22 : decode cX1_ahead 22 = .ok (.iload_n 2, 1) := dk_28 (dk_at dksX1_ahead_0 22 rfl rfl)
theorem dX1_ahead_23 : decode cX1_ahead 23 = .ok (.invokevirtual 467, 3) := dk_182 1 211 (dk_at dksX1_ahead_1 0 rfl rfl)
theorem dX1_ahead_26 : decode cX1_ahead 26 = .ok (.astore 4, 2) := dk_58 4 (dk_at dksX1_ahead_1 3 rfl rfl)
theorem dX1_ahead_28 : decode cX1_ahead 28 = .ok (.iload_n 3, 1) := dk_29 (dk_at dksX1_ahead_1 5 rfl rfl)
theorem dX1_ahead_29 : decode cX1_ahead 29 = .ok (.ifCond .ne 13, 3) := dk_154 0 13 (dk_at dksX1_ahead_1 6 rfl rfl)
theorem dX1_ahead_32 : decode cX1_ahead 32 = .ok (.aload 4, 2) := dk_25 4 (dk_at dksX1_ahead_1 9 rfl rfl)
theorem dX1_ahead_34 : decode cX1_ahead 34 = .ok (.getfield 109, 3) := dk_180 0 109 (dk_at dksX1_ahead_1 11 rfl rfl)
theorem dX1_ahead_37 : decode cX1_ahead 37 = .ok (.iload_n 1, 1) := dk_27 (dk_at dksX1_ahead_1 14 rfl rfl)
theorem dX1_ahead_38 : decode cX1_ahead 38 = .ok (.iaload, 1) := dk_46 (dk_at dksX1_ahead_1 15 rfl rfl)
theorem dX1_ahead_39 : decode cX1_ahead 39 = .ok (.goto 21, 3) := dk_167 0 21 (dk_at dksX1_ahead_1 16 rfl rfl)
theorem dX1_ahead_42 : decode cX1_ahead 42 = .ok (.iload_n 3, 1) := dk_29 (dk_at dksX1_ahead_1 19 rfl rfl)
theorem dX1_ahead_43 : decode cX1_ahead 43 = .ok (.iconst 1, 1) := dk_4 (dk_at dksX1_ahead_1 20 rfl rfl)
theorem dX1_ahead_44 : decode cX1_ahead 44 = .ok (.if_icmp .ne 11, 3) := dk_160 0 11 (dk_at dksX1_ahead_1 21 rfl rfl)
theorem dX1_ahead_47 : decode cX1_ahead 47 = .ok (.aload 4, 2) := dk_25 4 (dk_at dksX1_ahead_2 0 rfl rfl)
theorem dX1_ahead_49 : decode cX1_ahead 49 = .ok (.getfield 336, 3) := dk_180 1 80 (dk_at dksX1_ahead_2 2 rfl rfl)
theorem dX1_ahead_52 : decode cX1_ahead 52 = .ok (.goto 8, 3) := dk_167 0 8 (dk_at dksX1_ahead_2 5 rfl rfl)
theorem dX1_ahead_55 : decode cX1_ahead 55 = .ok (.aload 4, 2) := dk_25 4 (dk_at dksX1_ahead_2 8 rfl rfl)
theorem dX1_ahead_57 : decode cX1_ahead 57 = .ok (.getfield 169, 3) := dk_180 0 169 (dk_at dksX1_ahead_2 10 rfl rfl)
theorem dX1_ahead_60 : decode cX1_ahead 60 = .ok (.ireturn, 1) := dk_172 (dk_at dksX1_ahead_2 13 rfl rfl)
abbrev cX1_worldAt : ByteArray := prog_1_method_30_code
def yX1_worldAt : MethodName := ⟨RX1, "worldAt", "(I)LSaturdayKeep$World;"⟩
def dkwX1_worldAt_1 : List UInt8 := [132, 2, 1, 167, 255, 244, 42, 180, 0, 36, 176]
abbrev dktX1_worldAt_1 : List UInt8 := dkwX1_worldAt_1 ++ []
def dkwX1_worldAt_0 : List UInt8 := [42, 180, 0, 36, 42, 180, 0, 10, 182, 0, 201, 87, 3, 61, 28, 27, 162, 0, 13, 42, 182, 1, 143]
abbrev dktX1_worldAt_0 : List UInt8 := dkwX1_worldAt_0 ++ dktX1_worldAt_1
theorem dksX1_worldAt_0 : cX1_worldAt.data.toList.drop 0 = dktX1_worldAt_0 := by decide +kernel
theorem dksX1_worldAt_1 : cX1_worldAt.data.toList.drop 23 = dktX1_worldAt_1 := dk_seg dksX1_worldAt_0 23 rfl rfl
theorem dX1_worldAt_0 : decode cX1_worldAt 0 = .ok (.aload_n 0, 1) := dk_42 (dk_at dksX1_worldAt_0 0 rfl rfl)
theorem dX1_worldAt_1 : decode cX1_worldAt 1 = .ok (.getfield 36, 3) := dk_180 0 36 (dk_at dksX1_worldAt_0 1 rfl rfl)
theorem dX1_worldAt_4 : decode cX1_worldAt 4 = .ok (.aload_n 0, 1) := dk_42 (dk_at dksX1_worldAt_0 4 rfl rfl)
theorem dX1_worldAt_5 : decode cX1_worldAt 5 = .ok (.getfield 10, 3) := dk_180 0 10 (dk_at dksX1_worldAt_0 5 rfl rfl)
theorem dX1_worldAt_8 : decode cX1_worldAt 8 = .ok (.invokevirtual 201, 3) := dk_182 0 201 (dk_at dksX1_worldAt_0 8 rfl rfl)
theorem dX1_worldAt_11 : decode cX1_worldAt 11 = .ok (.pop, 1) := dk_87 (dk_at dksX1_worldAt_0 11 rfl rfl)
theorem dX1_worldAt_12 : decode cX1_worldAt 12 = .ok (.iconst 0, 1) := dk_3 (dk_at dksX1_worldAt_0 12 rfl rfl)
theorem dX1_worldAt_13 : decode cX1_worldAt 13 = .ok (.istore_n 2, 1) := dk_61 (dk_at dksX1_worldAt_0 13 rfl rfl)
theorem dX1_worldAt_14 : decode cX1_worldAt 14 = .ok (.iload_n 2, 1) := dk_28 (dk_at dksX1_worldAt_0 14 rfl rfl)
theorem dX1_worldAt_15 : decode cX1_worldAt 15 = .ok (.iload_n 1, 1) := dk_27 (dk_at dksX1_worldAt_0 15 rfl rfl)
theorem dX1_worldAt_16 : decode cX1_worldAt 16 = .ok (.if_icmp .ge 13, 3) := dk_162 0 13 (dk_at dksX1_worldAt_0 16 rfl rfl)
theorem dX1_worldAt_19 : decode cX1_worldAt 19 = .ok (.aload_n 0, 1) := dk_42 (dk_at dksX1_worldAt_0 19 rfl rfl)
theorem dX1_worldAt_20 : decode cX1_worldAt 20 = .ok (.invokevirtual 399, 3) := dk_182 1 143 (dk_at dksX1_worldAt_0 20 rfl rfl)
theorem dX1_worldAt_23 : decode cX1_worldAt 23 = .ok (.iinc 2 1, 3) := dk_132 2 1 (dk_at dksX1_worldAt_1 0 rfl rfl)
theorem dX1_worldAt_26 : decode cX1_worldAt 26 = .ok (.goto (-12), 3) := dk_167 255 244 (dk_at dksX1_worldAt_1 3 rfl rfl)
theorem dX1_worldAt_29 : decode cX1_worldAt 29 = .ok (.aload_n 0, 1) := dk_42 (dk_at dksX1_worldAt_1 6 rfl rfl)
theorem dX1_worldAt_30 : decode cX1_worldAt 30 = .ok (.getfield 36, 3) := dk_180 0 36 (dk_at dksX1_worldAt_1 7 rfl rfl)
theorem dX1_worldAt_33 : decode cX1_worldAt 33 = .ok (.areturn, 1) := dk_176 (dk_at dksX1_worldAt_1 10 rfl rfl)
abbrev cX1_saturdays : ByteArray := prog_1_method_57_code
def yX1_saturdays : MethodName := ⟨RX1, "saturdays", "(I)I"⟩
def dkwX1_saturdays_3 : List UInt8 := [132, 3, 1, 167, 255, 200, 28, 172]
abbrev dktX1_saturdays_3 : List UInt8 := dkwX1_saturdays_3 ++ []
def dkwX1_saturdays_2 : List UInt8 := [42, 180, 0, 10, 180, 0, 173, 29, 96, 182, 1, 98, 153, 0, 7, 4, 167, 0, 4, 3, 96, 61]
abbrev dktX1_saturdays_2 : List UInt8 := dkwX1_saturdays_2 ++ dktX1_saturdays_3
def dkwX1_saturdays_1 : List UInt8 := [180, 0, 10, 3, 42, 180, 0, 10, 180, 0, 173, 29, 96, 182, 1, 98, 154, 0, 23, 42, 180, 0, 10, 4]
abbrev dktX1_saturdays_1 : List UInt8 := dkwX1_saturdays_1 ++ dktX1_saturdays_2
def dkwX1_saturdays_0 : List UInt8 := [27, 3, 17, 1, 144, 184, 1, 146, 184, 1, 190, 3, 61, 3, 62, 29, 27, 162, 0, 57, 28, 42]
abbrev dktX1_saturdays_0 : List UInt8 := dkwX1_saturdays_0 ++ dktX1_saturdays_1
theorem dksX1_saturdays_0 : cX1_saturdays.data.toList.drop 0 = dktX1_saturdays_0 := by decide +kernel
theorem dksX1_saturdays_1 : cX1_saturdays.data.toList.drop 22 = dktX1_saturdays_1 := dk_seg dksX1_saturdays_0 22 rfl rfl
theorem dksX1_saturdays_2 : cX1_saturdays.data.toList.drop 46 = dktX1_saturdays_2 := dk_seg dksX1_saturdays_1 24 rfl rfl
theorem dksX1_saturdays_3 : cX1_saturdays.data.toList.drop 68 = dktX1_saturdays_3 := dk_seg dksX1_saturdays_2 22 rfl rfl
theorem dX1_saturdays_0 : decode cX1_saturdays 0 = .ok (.iload_n 1, 1) := dk_27 (dk_at dksX1_saturdays_0 0 rfl rfl)
theorem dX1_saturdays_1 : decode cX1_saturdays 1 = .ok (.iconst 0, 1) := dk_3 (dk_at dksX1_saturdays_0 1 rfl rfl)
theorem dX1_saturdays_2 : decode cX1_saturdays 2 = .ok (.sipush 400, 3) := dk_17 1 144 (dk_at dksX1_saturdays_0 2 rfl rfl)
theorem dX1_saturdays_5 : decode cX1_saturdays 5 = .ok (.invokestatic 402, 3) := dk_184 1 146 (dk_at dksX1_saturdays_0 5 rfl rfl)
theorem dX1_saturdays_8 : decode cX1_saturdays 8 = .ok (.invokestatic 446, 3) := dk_184 1 190 (dk_at dksX1_saturdays_0 8 rfl rfl)
theorem dX1_saturdays_11 : decode cX1_saturdays 11 = .ok (.iconst 0, 1) := dk_3 (dk_at dksX1_saturdays_0 11 rfl rfl)
theorem dX1_saturdays_12 : decode cX1_saturdays 12 = .ok (.istore_n 2, 1) := dk_61 (dk_at dksX1_saturdays_0 12 rfl rfl)
theorem dX1_saturdays_13 : decode cX1_saturdays 13 = .ok (.iconst 0, 1) := dk_3 (dk_at dksX1_saturdays_0 13 rfl rfl)
theorem dX1_saturdays_14 : decode cX1_saturdays 14 = .ok (.istore_n 3, 1) := dk_62 (dk_at dksX1_saturdays_0 14 rfl rfl)
theorem dX1_saturdays_15 : decode cX1_saturdays 15 = .ok (.iload_n 3, 1) := dk_29 (dk_at dksX1_saturdays_0 15 rfl rfl)
theorem dX1_saturdays_16 : decode cX1_saturdays 16 = .ok (.iload_n 1, 1) := dk_27 (dk_at dksX1_saturdays_0 16 rfl rfl)
theorem dX1_saturdays_17 : decode cX1_saturdays 17 = .ok (.if_icmp .ge 57, 3) := dk_162 0 57 (dk_at dksX1_saturdays_0 17 rfl rfl)
theorem dX1_saturdays_20 : decode cX1_saturdays 20 = .ok (.iload_n 2, 1) := dk_28 (dk_at dksX1_saturdays_0 20 rfl rfl)
theorem dX1_saturdays_21 : decode cX1_saturdays 21 = .ok (.aload_n 0, 1) := dk_42 (dk_at dksX1_saturdays_0 21 rfl rfl)
theorem dX1_saturdays_22 : decode cX1_saturdays 22 = .ok (.getfield 10, 3) := dk_180 0 10 (dk_at dksX1_saturdays_1 0 rfl rfl)
theorem dX1_saturdays_25 : decode cX1_saturdays 25 = .ok (.iconst 0, 1) := dk_3 (dk_at dksX1_saturdays_1 3 rfl rfl)
theorem dX1_saturdays_26 : decode cX1_saturdays 26 = .ok (.aload_n 0, 1) := dk_42 (dk_at dksX1_saturdays_1 4 rfl rfl)
theorem dX1_saturdays_27 : decode cX1_saturdays 27 = .ok (.getfield 10, 3) := dk_180 0 10 (dk_at dksX1_saturdays_1 5 rfl rfl)
theorem dX1_saturdays_30 : decode cX1_saturdays 30 = .ok (.getfield 173, 3) := dk_180 0 173 (dk_at dksX1_saturdays_1 8 rfl rfl)
theorem dX1_saturdays_33 : decode cX1_saturdays 33 = .ok (.iload_n 3, 1) := dk_29 (dk_at dksX1_saturdays_1 11 rfl rfl)
theorem dX1_saturdays_34 : decode cX1_saturdays 34 = .ok (.iadd, 1) := dk_96 (dk_at dksX1_saturdays_1 12 rfl rfl)
theorem dX1_saturdays_35 : decode cX1_saturdays 35 = .ok (.invokevirtual 354, 3) := dk_182 1 98 (dk_at dksX1_saturdays_1 13 rfl rfl)
theorem dX1_saturdays_38 : decode cX1_saturdays 38 = .ok (.ifCond .ne 23, 3) := dk_154 0 23 (dk_at dksX1_saturdays_1 16 rfl rfl)
theorem dX1_saturdays_41 : decode cX1_saturdays 41 = .ok (.aload_n 0, 1) := dk_42 (dk_at dksX1_saturdays_1 19 rfl rfl)
theorem dX1_saturdays_42 : decode cX1_saturdays 42 = .ok (.getfield 10, 3) := dk_180 0 10 (dk_at dksX1_saturdays_1 20 rfl rfl)
theorem dX1_saturdays_45 : decode cX1_saturdays 45 = .ok (.iconst 1, 1) := dk_4 (dk_at dksX1_saturdays_1 23 rfl rfl)
theorem dX1_saturdays_46 : decode cX1_saturdays 46 = .ok (.aload_n 0, 1) := dk_42 (dk_at dksX1_saturdays_2 0 rfl rfl)
theorem dX1_saturdays_47 : decode cX1_saturdays 47 = .ok (.getfield 10, 3) := dk_180 0 10 (dk_at dksX1_saturdays_2 1 rfl rfl)
theorem dX1_saturdays_50 : decode cX1_saturdays 50 = .ok (.getfield 173, 3) := dk_180 0 173 (dk_at dksX1_saturdays_2 4 rfl rfl)
theorem dX1_saturdays_53 : decode cX1_saturdays 53 = .ok (.iload_n 3, 1) := dk_29 (dk_at dksX1_saturdays_2 7 rfl rfl)
theorem dX1_saturdays_54 : decode cX1_saturdays 54 = .ok (.iadd, 1) := dk_96 (dk_at dksX1_saturdays_2 8 rfl rfl)
theorem dX1_saturdays_55 : decode cX1_saturdays 55 = .ok (.invokevirtual 354, 3) := dk_182 1 98 (dk_at dksX1_saturdays_2 9 rfl rfl)
theorem dX1_saturdays_58 : decode cX1_saturdays 58 = .ok (.ifCond .eq 7, 3) := dk_153 0 7 (dk_at dksX1_saturdays_2 12 rfl rfl)
theorem dX1_saturdays_61 : decode cX1_saturdays 61 = .ok (.iconst 1, 1) := dk_4 (dk_at dksX1_saturdays_2 15 rfl rfl)
theorem dX1_saturdays_62 : decode cX1_saturdays 62 = .ok (.goto 4, 3) := dk_167 0 4 (dk_at dksX1_saturdays_2 16 rfl rfl)
theorem dX1_saturdays_65 : decode cX1_saturdays 65 = .ok (.iconst 0, 1) := dk_3 (dk_at dksX1_saturdays_2 19 rfl rfl)
theorem dX1_saturdays_66 : decode cX1_saturdays 66 = .ok (.iadd, 1) := dk_96 (dk_at dksX1_saturdays_2 20 rfl rfl)
theorem dX1_saturdays_67 : decode cX1_saturdays 67 = .ok (.istore_n 2, 1) := dk_61 (dk_at dksX1_saturdays_2 21 rfl rfl)
theorem dX1_saturdays_68 : decode cX1_saturdays 68 = .ok (.iinc 3 1, 3) := dk_132 3 1 (dk_at dksX1_saturdays_3 0 rfl rfl)
theorem dX1_saturdays_71 : decode cX1_saturdays 71 = .ok (.goto (-56), 3) := dk_167 255 200 (dk_at dksX1_saturdays_3 3 rfl rfl)
theorem dX1_saturdays_74 : decode cX1_saturdays 74 = .ok (.iload_n 2, 1) := dk_28 (dk_at dksX1_saturdays_3 6 rfl rfl)
theorem dX1_saturdays_75 : decode cX1_saturdays 75 = .ok (.ireturn, 1) := dk_172 (dk_at dksX1_saturdays_3 7 rfl rfl)
abbrev cX1_first : ByteArray := prog_1_method_59_code
def yX1_first : MethodName := ⟨RX1, "first", "(II)I"⟩
def dkwX1_first_2 : List UInt8 := [161, 0, 5, 29, 172, 42, 182, 1, 143, 132, 3, 1, 167, 255, 227, 2, 172]
abbrev dktX1_first_2 : List UInt8 := dkwX1_first_2 ++ []
def dkwX1_first_1 : List UInt8 := [182, 0, 201, 87, 3, 62, 29, 17, 1, 144, 163, 0, 28, 42, 180, 0, 36, 180, 0, 109, 27, 46, 28]
abbrev dktX1_first_1 : List UInt8 := dkwX1_first_1 ++ dktX1_first_2
def dkwX1_first_0 : List UInt8 := [42, 27, 182, 1, 162, 28, 4, 16, 99, 184, 1, 146, 184, 1, 190, 42, 180, 0, 36, 42, 180, 0, 10]
abbrev dktX1_first_0 : List UInt8 := dkwX1_first_0 ++ dktX1_first_1
theorem dksX1_first_0 : cX1_first.data.toList.drop 0 = dktX1_first_0 := by decide +kernel
theorem dksX1_first_1 : cX1_first.data.toList.drop 23 = dktX1_first_1 := dk_seg dksX1_first_0 23 rfl rfl
theorem dksX1_first_2 : cX1_first.data.toList.drop 46 = dktX1_first_2 := dk_seg dksX1_first_1 23 rfl rfl
theorem dX1_first_0 : decode cX1_first 0 = .ok (.aload_n 0, 1) := dk_42 (dk_at dksX1_first_0 0 rfl rfl)
theorem dX1_first_1 : decode cX1_first 1 = .ok (.iload_n 1, 1) := dk_27 (dk_at dksX1_first_0 1 rfl rfl)
theorem dX1_first_2 : decode cX1_first 2 = .ok (.invokevirtual 418, 3) := dk_182 1 162 (dk_at dksX1_first_0 2 rfl rfl)
theorem dX1_first_5 : decode cX1_first 5 = .ok (.iload_n 2, 1) := dk_28 (dk_at dksX1_first_0 5 rfl rfl)
theorem dX1_first_6 : decode cX1_first 6 = .ok (.iconst 1, 1) := dk_4 (dk_at dksX1_first_0 6 rfl rfl)
theorem dX1_first_7 : decode cX1_first 7 = .ok (.bipush 99, 2) := dk_16 99 (dk_at dksX1_first_0 7 rfl rfl)
theorem dX1_first_9 : decode cX1_first 9 = .ok (.invokestatic 402, 3) := dk_184 1 146 (dk_at dksX1_first_0 9 rfl rfl)
theorem dX1_first_12 : decode cX1_first 12 = .ok (.invokestatic 446, 3) := dk_184 1 190 (dk_at dksX1_first_0 12 rfl rfl)
theorem dX1_first_15 : decode cX1_first 15 = .ok (.aload_n 0, 1) := dk_42 (dk_at dksX1_first_0 15 rfl rfl)
theorem dX1_first_16 : decode cX1_first 16 = .ok (.getfield 36, 3) := dk_180 0 36 (dk_at dksX1_first_0 16 rfl rfl)
theorem dX1_first_19 : decode cX1_first 19 = .ok (.aload_n 0, 1) := dk_42 (dk_at dksX1_first_0 19 rfl rfl)
theorem dX1_first_20 : decode cX1_first 20 = .ok (.getfield 10, 3) := dk_180 0 10 (dk_at dksX1_first_0 20 rfl rfl)
theorem dX1_first_23 : decode cX1_first 23 = .ok (.invokevirtual 201, 3) := dk_182 0 201 (dk_at dksX1_first_1 0 rfl rfl)
theorem dX1_first_26 : decode cX1_first 26 = .ok (.pop, 1) := dk_87 (dk_at dksX1_first_1 3 rfl rfl)
theorem dX1_first_27 : decode cX1_first 27 = .ok (.iconst 0, 1) := dk_3 (dk_at dksX1_first_1 4 rfl rfl)
theorem dX1_first_28 : decode cX1_first 28 = .ok (.istore_n 3, 1) := dk_62 (dk_at dksX1_first_1 5 rfl rfl)
theorem dX1_first_29 : decode cX1_first 29 = .ok (.iload_n 3, 1) := dk_29 (dk_at dksX1_first_1 6 rfl rfl)
theorem dX1_first_30 : decode cX1_first 30 = .ok (.sipush 400, 3) := dk_17 1 144 (dk_at dksX1_first_1 7 rfl rfl)
theorem dX1_first_33 : decode cX1_first 33 = .ok (.if_icmp .gt 28, 3) := dk_163 0 28 (dk_at dksX1_first_1 10 rfl rfl)
theorem dX1_first_36 : decode cX1_first 36 = .ok (.aload_n 0, 1) := dk_42 (dk_at dksX1_first_1 13 rfl rfl)
theorem dX1_first_37 : decode cX1_first 37 = .ok (.getfield 36, 3) := dk_180 0 36 (dk_at dksX1_first_1 14 rfl rfl)
theorem dX1_first_40 : decode cX1_first 40 = .ok (.getfield 109, 3) := dk_180 0 109 (dk_at dksX1_first_1 17 rfl rfl)
theorem dX1_first_43 : decode cX1_first 43 = .ok (.iload_n 1, 1) := dk_27 (dk_at dksX1_first_1 20 rfl rfl)
theorem dX1_first_44 : decode cX1_first 44 = .ok (.iaload, 1) := dk_46 (dk_at dksX1_first_1 21 rfl rfl)
theorem dX1_first_45 : decode cX1_first 45 = .ok (.iload_n 2, 1) := dk_28 (dk_at dksX1_first_1 22 rfl rfl)
theorem dX1_first_46 : decode cX1_first 46 = .ok (.if_icmp .lt 5, 3) := dk_161 0 5 (dk_at dksX1_first_2 0 rfl rfl)
theorem dX1_first_49 : decode cX1_first 49 = .ok (.iload_n 3, 1) := dk_29 (dk_at dksX1_first_2 3 rfl rfl)
theorem dX1_first_50 : decode cX1_first 50 = .ok (.ireturn, 1) := dk_172 (dk_at dksX1_first_2 4 rfl rfl)
theorem dX1_first_51 : decode cX1_first 51 = .ok (.aload_n 0, 1) := dk_42 (dk_at dksX1_first_2 5 rfl rfl)
theorem dX1_first_52 : decode cX1_first 52 = .ok (.invokevirtual 399, 3) := dk_182 1 143 (dk_at dksX1_first_2 6 rfl rfl)
theorem dX1_first_55 : decode cX1_first 55 = .ok (.iinc 3 1, 3) := dk_132 3 1 (dk_at dksX1_first_2 9 rfl rfl)
theorem dX1_first_58 : decode cX1_first 58 = .ok (.goto (-29), 3) := dk_167 255 227 (dk_at dksX1_first_2 12 rfl rfl)
theorem dX1_first_61 : decode cX1_first 61 = .ok (.iconst (-1), 1) := dk_2 (dk_at dksX1_first_2 15 rfl rfl)
theorem dX1_first_62 : decode cX1_first 62 = .ok (.ireturn, 1) := dk_172 (dk_at dksX1_first_2 16 rfl rfl)
abbrev cX1_stand : ByteArray := prog_1_method_61_code
def yX1_stand : MethodName := ⟨RX1, "stand", "(I)I"⟩
def dkwX1_stand_2 : List UInt8 := [182, 1, 143, 132, 2, 1, 167, 255, 229, 2, 172]
abbrev dktX1_stand_2 : List UInt8 := dkwX1_stand_2 ++ []
def dkwX1_stand_1 : List UInt8 := [61, 28, 17, 1, 144, 163, 0, 26, 42, 180, 0, 36, 180, 1, 80, 27, 161, 0, 5, 28, 172, 42]
abbrev dktX1_stand_1 : List UInt8 := dkwX1_stand_1 ++ dktX1_stand_2
def dkwX1_stand_0 : List UInt8 := [27, 4, 17, 39, 15, 184, 1, 146, 184, 1, 190, 42, 180, 0, 36, 42, 180, 0, 10, 182, 0, 201, 87, 3]
abbrev dktX1_stand_0 : List UInt8 := dkwX1_stand_0 ++ dktX1_stand_1
theorem dksX1_stand_0 : cX1_stand.data.toList.drop 0 = dktX1_stand_0 := by decide +kernel
theorem dksX1_stand_1 : cX1_stand.data.toList.drop 24 = dktX1_stand_1 := dk_seg dksX1_stand_0 24 rfl rfl
theorem dksX1_stand_2 : cX1_stand.data.toList.drop 46 = dktX1_stand_2 := dk_seg dksX1_stand_1 22 rfl rfl
theorem dX1_stand_0 : decode cX1_stand 0 = .ok (.iload_n 1, 1) := dk_27 (dk_at dksX1_stand_0 0 rfl rfl)
theorem dX1_stand_1 : decode cX1_stand 1 = .ok (.iconst 1, 1) := dk_4 (dk_at dksX1_stand_0 1 rfl rfl)
theorem dX1_stand_2 : decode cX1_stand 2 = .ok (.sipush 9999, 3) := dk_17 39 15 (dk_at dksX1_stand_0 2 rfl rfl)
theorem dX1_stand_5 : decode cX1_stand 5 = .ok (.invokestatic 402, 3) := dk_184 1 146 (dk_at dksX1_stand_0 5 rfl rfl)
theorem dX1_stand_8 : decode cX1_stand 8 = .ok (.invokestatic 446, 3) := dk_184 1 190 (dk_at dksX1_stand_0 8 rfl rfl)
theorem dX1_stand_11 : decode cX1_stand 11 = .ok (.aload_n 0, 1) := dk_42 (dk_at dksX1_stand_0 11 rfl rfl)
theorem dX1_stand_12 : decode cX1_stand 12 = .ok (.getfield 36, 3) := dk_180 0 36 (dk_at dksX1_stand_0 12 rfl rfl)
theorem dX1_stand_15 : decode cX1_stand 15 = .ok (.aload_n 0, 1) := dk_42 (dk_at dksX1_stand_0 15 rfl rfl)
theorem dX1_stand_16 : decode cX1_stand 16 = .ok (.getfield 10, 3) := dk_180 0 10 (dk_at dksX1_stand_0 16 rfl rfl)
theorem dX1_stand_19 : decode cX1_stand 19 = .ok (.invokevirtual 201, 3) := dk_182 0 201 (dk_at dksX1_stand_0 19 rfl rfl)
theorem dX1_stand_22 : decode cX1_stand 22 = .ok (.pop, 1) := dk_87 (dk_at dksX1_stand_0 22 rfl rfl)
theorem dX1_stand_23 : decode cX1_stand 23 = .ok (.iconst 0, 1) := dk_3 (dk_at dksX1_stand_0 23 rfl rfl)
theorem dX1_stand_24 : decode cX1_stand 24 = .ok (.istore_n 2, 1) := dk_61 (dk_at dksX1_stand_1 0 rfl rfl)
theorem dX1_stand_25 : decode cX1_stand 25 = .ok (.iload_n 2, 1) := dk_28 (dk_at dksX1_stand_1 1 rfl rfl)
theorem dX1_stand_26 : decode cX1_stand 26 = .ok (.sipush 400, 3) := dk_17 1 144 (dk_at dksX1_stand_1 2 rfl rfl)
theorem dX1_stand_29 : decode cX1_stand 29 = .ok (.if_icmp .gt 26, 3) := dk_163 0 26 (dk_at dksX1_stand_1 5 rfl rfl)
theorem dX1_stand_32 : decode cX1_stand 32 = .ok (.aload_n 0, 1) := dk_42 (dk_at dksX1_stand_1 8 rfl rfl)
theorem dX1_stand_33 : decode cX1_stand 33 = .ok (.getfield 36, 3) := dk_180 0 36 (dk_at dksX1_stand_1 9 rfl rfl)
theorem dX1_stand_36 : decode cX1_stand 36 = .ok (.getfield 336, 3) := dk_180 1 80 (dk_at dksX1_stand_1 12 rfl rfl)
theorem dX1_stand_39 : decode cX1_stand 39 = .ok (.iload_n 1, 1) := dk_27 (dk_at dksX1_stand_1 15 rfl rfl)
theorem dX1_stand_40 : decode cX1_stand 40 = .ok (.if_icmp .lt 5, 3) := dk_161 0 5 (dk_at dksX1_stand_1 16 rfl rfl)
theorem dX1_stand_43 : decode cX1_stand 43 = .ok (.iload_n 2, 1) := dk_28 (dk_at dksX1_stand_1 19 rfl rfl)
theorem dX1_stand_44 : decode cX1_stand 44 = .ok (.ireturn, 1) := dk_172 (dk_at dksX1_stand_1 20 rfl rfl)
theorem dX1_stand_45 : decode cX1_stand 45 = .ok (.aload_n 0, 1) := dk_42 (dk_at dksX1_stand_1 21 rfl rfl)
theorem dX1_stand_46 : decode cX1_stand 46 = .ok (.invokevirtual 399, 3) := dk_182 1 143 (dk_at dksX1_stand_2 0 rfl rfl)
theorem dX1_stand_49 : decode cX1_stand 49 = .ok (.iinc 2 1, 3) := dk_132 2 1 (dk_at dksX1_stand_2 3 rfl rfl)
theorem dX1_stand_52 : decode cX1_stand 52 = .ok (.goto (-27), 3) := dk_167 255 229 (dk_at dksX1_stand_2 6 rfl rfl)
theorem dX1_stand_55 : decode cX1_stand 55 = .ok (.iconst (-1), 1) := dk_2 (dk_at dksX1_stand_2 9 rfl rfl)
theorem dX1_stand_56 : decode cX1_stand 56 = .ok (.ireturn, 1) := dk_172 (dk_at dksX1_stand_2 10 rfl rfl)
abbrev cX1_sent : ByteArray := prog_1_method_67_code
def yX1_sent : MethodName := ⟨RX1, "sent", "(I)I"⟩
def dkwX1_sent_4 : List UInt8 := [132, 5, 1, 167, 255, 201, 21, 4, 172]
abbrev dktX1_sent_4 : List UInt8 := dkwX1_sent_4 ++ []
def dkwX1_sent_3 : List UInt8 := [21, 4, 2, 159, 0, 16, 21, 5, 184, 1, 84, 21, 4, 184, 1, 84, 162, 0, 7, 21, 5, 54, 4]
abbrev dktX1_sent_3 : List UInt8 := dkwX1_sent_3 ++ dktX1_sent_4
def dkwX1_sent_2 : List UInt8 := [21, 5, 29, 2, 130, 126, 154, 0, 40, 42, 28, 21, 5, 2, 130, 126, 182, 1, 223, 27, 163, 0, 26]
abbrev dktX1_sent_2 : List UInt8 := dkwX1_sent_2 ++ dktX1_sent_3
def dkwX1_sent_1 : List UInt8 := [182, 1, 115, 61, 42, 180, 0, 10, 182, 1, 226, 62, 2, 54, 4, 3, 54, 5, 21, 5, 29, 163, 0, 55]
abbrev dktX1_sent_1 : List UInt8 := dkwX1_sent_1 ++ dktX1_sent_2
def dkwX1_sent_0 : List UInt8 := [27, 3, 17, 39, 15, 184, 1, 146, 184, 1, 190, 42, 180, 0, 10, 42, 180, 0, 10, 180, 0, 160]
abbrev dktX1_sent_0 : List UInt8 := dkwX1_sent_0 ++ dktX1_sent_1
theorem dksX1_sent_0 : cX1_sent.data.toList.drop 0 = dktX1_sent_0 := by decide +kernel
theorem dksX1_sent_1 : cX1_sent.data.toList.drop 22 = dktX1_sent_1 := dk_seg dksX1_sent_0 22 rfl rfl
theorem dksX1_sent_2 : cX1_sent.data.toList.drop 46 = dktX1_sent_2 := dk_seg dksX1_sent_1 24 rfl rfl
theorem dksX1_sent_3 : cX1_sent.data.toList.drop 69 = dktX1_sent_3 := dk_seg dksX1_sent_2 23 rfl rfl
theorem dksX1_sent_4 : cX1_sent.data.toList.drop 92 = dktX1_sent_4 := dk_seg dksX1_sent_3 23 rfl rfl
theorem dX1_sent_0 : decode cX1_sent 0 = .ok (.iload_n 1, 1) := dk_27 (dk_at dksX1_sent_0 0 rfl rfl)
theorem dX1_sent_1 : decode cX1_sent 1 = .ok (.iconst 0, 1) := dk_3 (dk_at dksX1_sent_0 1 rfl rfl)
theorem dX1_sent_2 : decode cX1_sent 2 = .ok (.sipush 9999, 3) := dk_17 39 15 (dk_at dksX1_sent_0 2 rfl rfl)
theorem dX1_sent_5 : decode cX1_sent 5 = .ok (.invokestatic 402, 3) := dk_184 1 146 (dk_at dksX1_sent_0 5 rfl rfl)
theorem dX1_sent_8 : decode cX1_sent 8 = .ok (.invokestatic 446, 3) := dk_184 1 190 (dk_at dksX1_sent_0 8 rfl rfl)
theorem dX1_sent_11 : decode cX1_sent 11 = .ok (.aload_n 0, 1) := dk_42 (dk_at dksX1_sent_0 11 rfl rfl)
theorem dX1_sent_12 : decode cX1_sent 12 = .ok (.getfield 10, 3) := dk_180 0 10 (dk_at dksX1_sent_0 12 rfl rfl)
theorem dX1_sent_15 : decode cX1_sent 15 = .ok (.aload_n 0, 1) := dk_42 (dk_at dksX1_sent_0 15 rfl rfl)
theorem dX1_sent_16 : decode cX1_sent 16 = .ok (.getfield 10, 3) := dk_180 0 10 (dk_at dksX1_sent_0 16 rfl rfl)
theorem dX1_sent_19 : decode cX1_sent 19 = .ok (.getfield 160, 3) := dk_180 0 160 (dk_at dksX1_sent_0 19 rfl rfl)
theorem dX1_sent_22 : decode cX1_sent 22 = .ok (.invokevirtual 371, 3) := dk_182 1 115 (dk_at dksX1_sent_1 0 rfl rfl)
theorem dX1_sent_25 : decode cX1_sent 25 = .ok (.istore_n 2, 1) := dk_61 (dk_at dksX1_sent_1 3 rfl rfl)
theorem dX1_sent_26 : decode cX1_sent 26 = .ok (.aload_n 0, 1) := dk_42 (dk_at dksX1_sent_1 4 rfl rfl)
theorem dX1_sent_27 : decode cX1_sent 27 = .ok (.getfield 10, 3) := dk_180 0 10 (dk_at dksX1_sent_1 5 rfl rfl)
theorem dX1_sent_30 : decode cX1_sent 30 = .ok (.invokevirtual 482, 3) := dk_182 1 226 (dk_at dksX1_sent_1 8 rfl rfl)
theorem dX1_sent_33 : decode cX1_sent 33 = .ok (.istore_n 3, 1) := dk_62 (dk_at dksX1_sent_1 11 rfl rfl)
theorem dX1_sent_34 : decode cX1_sent 34 = .ok (.iconst (-1), 1) := dk_2 (dk_at dksX1_sent_1 12 rfl rfl)
theorem dX1_sent_35 : decode cX1_sent 35 = .ok (.istore 4, 2) := dk_54 4 (dk_at dksX1_sent_1 13 rfl rfl)
theorem dX1_sent_37 : decode cX1_sent 37 = .ok (.iconst 0, 1) := dk_3 (dk_at dksX1_sent_1 15 rfl rfl)
theorem dX1_sent_38 : decode cX1_sent 38 = .ok (.istore 5, 2) := dk_54 5 (dk_at dksX1_sent_1 16 rfl rfl)
theorem dX1_sent_40 : decode cX1_sent 40 = .ok (.iload 5, 2) := dk_21 5 (dk_at dksX1_sent_1 18 rfl rfl)
theorem dX1_sent_42 : decode cX1_sent 42 = .ok (.iload_n 3, 1) := dk_29 (dk_at dksX1_sent_1 20 rfl rfl)
theorem dX1_sent_43 : decode cX1_sent 43 = .ok (.if_icmp .gt 55, 3) := dk_163 0 55 (dk_at dksX1_sent_1 21 rfl rfl)
theorem dX1_sent_46 : decode cX1_sent 46 = .ok (.iload 5, 2) := dk_21 5 (dk_at dksX1_sent_2 0 rfl rfl)
theorem dX1_sent_48 : decode cX1_sent 48 = .ok (.iload_n 3, 1) := dk_29 (dk_at dksX1_sent_2 2 rfl rfl)
theorem dX1_sent_49 : decode cX1_sent 49 = .ok (.iconst (-1), 1) := dk_2 (dk_at dksX1_sent_2 3 rfl rfl)
theorem dX1_sent_50 : decode cX1_sent 50 = .ok (.ixor, 1) := dk_130 (dk_at dksX1_sent_2 4 rfl rfl)
theorem dX1_sent_51 : decode cX1_sent 51 = .ok (.iand, 1) := dk_126 (dk_at dksX1_sent_2 5 rfl rfl)
theorem dX1_sent_52 : decode cX1_sent 52 = .ok (.ifCond .ne 40, 3) := dk_154 0 40 (dk_at dksX1_sent_2 6 rfl rfl)
theorem dX1_sent_55 : decode cX1_sent 55 = .ok (.aload_n 0, 1) := dk_42 (dk_at dksX1_sent_2 9 rfl rfl)
theorem dX1_sent_56 : decode cX1_sent 56 = .ok (.iload_n 2, 1) := dk_28 (dk_at dksX1_sent_2 10 rfl rfl)
theorem dX1_sent_57 : decode cX1_sent 57 = .ok (.iload 5, 2) := dk_21 5 (dk_at dksX1_sent_2 11 rfl rfl)
theorem dX1_sent_59 : decode cX1_sent 59 = .ok (.iconst (-1), 1) := dk_2 (dk_at dksX1_sent_2 13 rfl rfl)
theorem dX1_sent_60 : decode cX1_sent 60 = .ok (.ixor, 1) := dk_130 (dk_at dksX1_sent_2 14 rfl rfl)
theorem dX1_sent_61 : decode cX1_sent 61 = .ok (.iand, 1) := dk_126 (dk_at dksX1_sent_2 15 rfl rfl)
theorem dX1_sent_62 : decode cX1_sent 62 = .ok (.invokevirtual 479, 3) := dk_182 1 223 (dk_at dksX1_sent_2 16 rfl rfl)
theorem dX1_sent_65 : decode cX1_sent 65 = .ok (.iload_n 1, 1) := dk_27 (dk_at dksX1_sent_2 19 rfl rfl)
theorem dX1_sent_66 : decode cX1_sent 66 = .ok (.if_icmp .gt 26, 3) := dk_163 0 26 (dk_at dksX1_sent_2 20 rfl rfl)
theorem dX1_sent_69 : decode cX1_sent 69 = .ok (.iload 4, 2) := dk_21 4 (dk_at dksX1_sent_3 0 rfl rfl)
theorem dX1_sent_71 : decode cX1_sent 71 = .ok (.iconst (-1), 1) := dk_2 (dk_at dksX1_sent_3 2 rfl rfl)
theorem dX1_sent_72 : decode cX1_sent 72 = .ok (.if_icmp .eq 16, 3) := dk_159 0 16 (dk_at dksX1_sent_3 3 rfl rfl)
theorem dX1_sent_75 : decode cX1_sent 75 = .ok (.iload 5, 2) := dk_21 5 (dk_at dksX1_sent_3 6 rfl rfl)
theorem dX1_sent_77 : decode cX1_sent 77 = .ok (.invokestatic 340, 3) := dk_184 1 84 (dk_at dksX1_sent_3 8 rfl rfl)
theorem dX1_sent_80 : decode cX1_sent 80 = .ok (.iload 4, 2) := dk_21 4 (dk_at dksX1_sent_3 11 rfl rfl)
theorem dX1_sent_82 : decode cX1_sent 82 = .ok (.invokestatic 340, 3) := dk_184 1 84 (dk_at dksX1_sent_3 13 rfl rfl)
theorem dX1_sent_85 : decode cX1_sent 85 = .ok (.if_icmp .ge 7, 3) := dk_162 0 7 (dk_at dksX1_sent_3 16 rfl rfl)
theorem dX1_sent_88 : decode cX1_sent 88 = .ok (.iload 5, 2) := dk_21 5 (dk_at dksX1_sent_3 19 rfl rfl)
theorem dX1_sent_90 : decode cX1_sent 90 = .ok (.istore 4, 2) := dk_54 4 (dk_at dksX1_sent_3 21 rfl rfl)
theorem dX1_sent_92 : decode cX1_sent 92 = .ok (.iinc 5 1, 3) := dk_132 5 1 (dk_at dksX1_sent_4 0 rfl rfl)
theorem dX1_sent_95 : decode cX1_sent 95 = .ok (.goto (-55), 3) := dk_167 255 201 (dk_at dksX1_sent_4 3 rfl rfl)
theorem dX1_sent_98 : decode cX1_sent 98 = .ok (.iload 4, 2) := dk_21 4 (dk_at dksX1_sent_4 6 rfl rfl)
theorem dX1_sent_100 : decode cX1_sent 100 = .ok (.ireturn, 1) := dk_172 (dk_at dksX1_sent_4 8 rfl rfl)
abbrev cX1_rests : ByteArray := prog_1_method_80_code
def yX1_rests : MethodName := ⟨RX1, "rests", "(I)I"⟩
def dkwX1_rests_4 : List UInt8 := [21, 4, 104, 21, 5, 96, 120, 128, 62, 132, 5, 1, 167, 255, 187, 132, 4, 1, 167, 255, 172, 29, 172]
abbrev dktX1_rests_4 : List UInt8 := dkwX1_rests_4 ++ []
def dkwX1_rests_3 : List UInt8 := [21, 5, 182, 2, 2, 42, 27, 28, 21, 4, 4, 21, 5, 100, 182, 2, 2, 161, 0, 15, 29, 4, 5]
abbrev dktX1_rests_3 : List UInt8 := dkwX1_rests_3 ++ dktX1_rests_4
def dkwX1_rests_2 : List UInt8 := [21, 5, 182, 1, 254, 42, 28, 4, 21, 4, 100, 21, 5, 182, 1, 254, 161, 0, 40, 42, 27, 28, 21, 4]
abbrev dktX1_rests_2 : List UInt8 := dkwX1_rests_2 ++ dktX1_rests_3
def dkwX1_rests_1 : List UInt8 := [3, 62, 3, 54, 4, 21, 4, 5, 162, 0, 84, 3, 54, 5, 21, 5, 5, 162, 0, 69, 42, 28, 21, 4]
abbrev dktX1_rests_1 : List UInt8 := dkwX1_rests_1 ++ dktX1_rests_2
def dkwX1_rests_0 : List UInt8 := [42, 27, 182, 1, 162, 42, 180, 0, 10, 42, 180, 0, 10, 180, 0, 160, 182, 1, 115, 27, 184, 1, 118, 61]
abbrev dktX1_rests_0 : List UInt8 := dkwX1_rests_0 ++ dktX1_rests_1
theorem dksX1_rests_0 : cX1_rests.data.toList.drop 0 = dktX1_rests_0 := by decide +kernel
theorem dksX1_rests_1 : cX1_rests.data.toList.drop 24 = dktX1_rests_1 := dk_seg dksX1_rests_0 24 rfl rfl
theorem dksX1_rests_2 : cX1_rests.data.toList.drop 48 = dktX1_rests_2 := dk_seg dksX1_rests_1 24 rfl rfl
theorem dksX1_rests_3 : cX1_rests.data.toList.drop 72 = dktX1_rests_3 := dk_seg dksX1_rests_2 24 rfl rfl
theorem dksX1_rests_4 : cX1_rests.data.toList.drop 95 = dktX1_rests_4 := dk_seg dksX1_rests_3 23 rfl rfl
theorem dX1_rests_0 : decode cX1_rests 0 = .ok (.aload_n 0, 1) := dk_42 (dk_at dksX1_rests_0 0 rfl rfl)
theorem dX1_rests_1 : decode cX1_rests 1 = .ok (.iload_n 1, 1) := dk_27 (dk_at dksX1_rests_0 1 rfl rfl)
theorem dX1_rests_2 : decode cX1_rests 2 = .ok (.invokevirtual 418, 3) := dk_182 1 162 (dk_at dksX1_rests_0 2 rfl rfl)
theorem dX1_rests_5 : decode cX1_rests 5 = .ok (.aload_n 0, 1) := dk_42 (dk_at dksX1_rests_0 5 rfl rfl)
theorem dX1_rests_6 : decode cX1_rests 6 = .ok (.getfield 10, 3) := dk_180 0 10 (dk_at dksX1_rests_0 6 rfl rfl)
theorem dX1_rests_9 : decode cX1_rests 9 = .ok (.aload_n 0, 1) := dk_42 (dk_at dksX1_rests_0 9 rfl rfl)
theorem dX1_rests_10 : decode cX1_rests 10 = .ok (.getfield 10, 3) := dk_180 0 10 (dk_at dksX1_rests_0 10 rfl rfl)
theorem dX1_rests_13 : decode cX1_rests 13 = .ok (.getfield 160, 3) := dk_180 0 160 (dk_at dksX1_rests_0 13 rfl rfl)
theorem dX1_rests_16 : decode cX1_rests 16 = .ok (.invokevirtual 371, 3) := dk_182 1 115 (dk_at dksX1_rests_0 16 rfl rfl)
theorem dX1_rests_19 : decode cX1_rests 19 = .ok (.iload_n 1, 1) := dk_27 (dk_at dksX1_rests_0 19 rfl rfl)
theorem dX1_rests_20 : decode cX1_rests 20 = .ok (.invokestatic 374, 3) := dk_184 1 118 (dk_at dksX1_rests_0 20 rfl rfl)
theorem dX1_rests_23 : decode cX1_rests 23 = .ok (.istore_n 2, 1) := dk_61 (dk_at dksX1_rests_0 23 rfl rfl)
theorem dX1_rests_24 : decode cX1_rests 24 = .ok (.iconst 0, 1) := dk_3 (dk_at dksX1_rests_1 0 rfl rfl)
theorem dX1_rests_25 : decode cX1_rests 25 = .ok (.istore_n 3, 1) := dk_62 (dk_at dksX1_rests_1 1 rfl rfl)
theorem dX1_rests_26 : decode cX1_rests 26 = .ok (.iconst 0, 1) := dk_3 (dk_at dksX1_rests_1 2 rfl rfl)
theorem dX1_rests_27 : decode cX1_rests 27 = .ok (.istore 4, 2) := dk_54 4 (dk_at dksX1_rests_1 3 rfl rfl)
theorem dX1_rests_29 : decode cX1_rests 29 = .ok (.iload 4, 2) := dk_21 4 (dk_at dksX1_rests_1 5 rfl rfl)
theorem dX1_rests_31 : decode cX1_rests 31 = .ok (.iconst 2, 1) := dk_5 (dk_at dksX1_rests_1 7 rfl rfl)
theorem dX1_rests_32 : decode cX1_rests 32 = .ok (.if_icmp .ge 84, 3) := dk_162 0 84 (dk_at dksX1_rests_1 8 rfl rfl)
theorem dX1_rests_35 : decode cX1_rests 35 = .ok (.iconst 0, 1) := dk_3 (dk_at dksX1_rests_1 11 rfl rfl)
theorem dX1_rests_36 : decode cX1_rests 36 = .ok (.istore 5, 2) := dk_54 5 (dk_at dksX1_rests_1 12 rfl rfl)
theorem dX1_rests_38 : decode cX1_rests 38 = .ok (.iload 5, 2) := dk_21 5 (dk_at dksX1_rests_1 14 rfl rfl)
theorem dX1_rests_40 : decode cX1_rests 40 = .ok (.iconst 2, 1) := dk_5 (dk_at dksX1_rests_1 16 rfl rfl)
theorem dX1_rests_41 : decode cX1_rests 41 = .ok (.if_icmp .ge 69, 3) := dk_162 0 69 (dk_at dksX1_rests_1 17 rfl rfl)
theorem dX1_rests_44 : decode cX1_rests 44 = .ok (.aload_n 0, 1) := dk_42 (dk_at dksX1_rests_1 20 rfl rfl)
theorem dX1_rests_45 : decode cX1_rests 45 = .ok (.iload_n 2, 1) := dk_28 (dk_at dksX1_rests_1 21 rfl rfl)
theorem dX1_rests_46 : decode cX1_rests 46 = .ok (.iload 4, 2) := dk_21 4 (dk_at dksX1_rests_1 22 rfl rfl)
theorem dX1_rests_48 : decode cX1_rests 48 = .ok (.iload 5, 2) := dk_21 5 (dk_at dksX1_rests_2 0 rfl rfl)
theorem dX1_rests_50 : decode cX1_rests 50 = .ok (.invokevirtual 510, 3) := dk_182 1 254 (dk_at dksX1_rests_2 2 rfl rfl)
theorem dX1_rests_53 : decode cX1_rests 53 = .ok (.aload_n 0, 1) := dk_42 (dk_at dksX1_rests_2 5 rfl rfl)
theorem dX1_rests_54 : decode cX1_rests 54 = .ok (.iload_n 2, 1) := dk_28 (dk_at dksX1_rests_2 6 rfl rfl)
theorem dX1_rests_55 : decode cX1_rests 55 = .ok (.iconst 1, 1) := dk_4 (dk_at dksX1_rests_2 7 rfl rfl)
theorem dX1_rests_56 : decode cX1_rests 56 = .ok (.iload 4, 2) := dk_21 4 (dk_at dksX1_rests_2 8 rfl rfl)
theorem dX1_rests_58 : decode cX1_rests 58 = .ok (.isub, 1) := dk_100 (dk_at dksX1_rests_2 10 rfl rfl)
theorem dX1_rests_59 : decode cX1_rests 59 = .ok (.iload 5, 2) := dk_21 5 (dk_at dksX1_rests_2 11 rfl rfl)
theorem dX1_rests_61 : decode cX1_rests 61 = .ok (.invokevirtual 510, 3) := dk_182 1 254 (dk_at dksX1_rests_2 13 rfl rfl)
theorem dX1_rests_64 : decode cX1_rests 64 = .ok (.if_icmp .lt 40, 3) := dk_161 0 40 (dk_at dksX1_rests_2 16 rfl rfl)
theorem dX1_rests_67 : decode cX1_rests 67 = .ok (.aload_n 0, 1) := dk_42 (dk_at dksX1_rests_2 19 rfl rfl)
theorem dX1_rests_68 : decode cX1_rests 68 = .ok (.iload_n 1, 1) := dk_27 (dk_at dksX1_rests_2 20 rfl rfl)
theorem dX1_rests_69 : decode cX1_rests 69 = .ok (.iload_n 2, 1) := dk_28 (dk_at dksX1_rests_2 21 rfl rfl)
theorem dX1_rests_70 : decode cX1_rests 70 = .ok (.iload 4, 2) := dk_21 4 (dk_at dksX1_rests_2 22 rfl rfl)
theorem dX1_rests_72 : decode cX1_rests 72 = .ok (.iload 5, 2) := dk_21 5 (dk_at dksX1_rests_3 0 rfl rfl)
theorem dX1_rests_74 : decode cX1_rests 74 = .ok (.invokevirtual 514, 3) := dk_182 2 2 (dk_at dksX1_rests_3 2 rfl rfl)
theorem dX1_rests_77 : decode cX1_rests 77 = .ok (.aload_n 0, 1) := dk_42 (dk_at dksX1_rests_3 5 rfl rfl)
theorem dX1_rests_78 : decode cX1_rests 78 = .ok (.iload_n 1, 1) := dk_27 (dk_at dksX1_rests_3 6 rfl rfl)
theorem dX1_rests_79 : decode cX1_rests 79 = .ok (.iload_n 2, 1) := dk_28 (dk_at dksX1_rests_3 7 rfl rfl)
theorem dX1_rests_80 : decode cX1_rests 80 = .ok (.iload 4, 2) := dk_21 4 (dk_at dksX1_rests_3 8 rfl rfl)
theorem dX1_rests_82 : decode cX1_rests 82 = .ok (.iconst 1, 1) := dk_4 (dk_at dksX1_rests_3 10 rfl rfl)
theorem dX1_rests_83 : decode cX1_rests 83 = .ok (.iload 5, 2) := dk_21 5 (dk_at dksX1_rests_3 11 rfl rfl)
theorem dX1_rests_85 : decode cX1_rests 85 = .ok (.isub, 1) := dk_100 (dk_at dksX1_rests_3 13 rfl rfl)
theorem dX1_rests_86 : decode cX1_rests 86 = .ok (.invokevirtual 514, 3) := dk_182 2 2 (dk_at dksX1_rests_3 14 rfl rfl)
theorem dX1_rests_89 : decode cX1_rests 89 = .ok (.if_icmp .lt 15, 3) := dk_161 0 15 (dk_at dksX1_rests_3 17 rfl rfl)
theorem dX1_rests_92 : decode cX1_rests 92 = .ok (.iload_n 3, 1) := dk_29 (dk_at dksX1_rests_3 20 rfl rfl)
theorem dX1_rests_93 : decode cX1_rests 93 = .ok (.iconst 1, 1) := dk_4 (dk_at dksX1_rests_3 21 rfl rfl)
theorem dX1_rests_94 : decode cX1_rests 94 = .ok (.iconst 2, 1) := dk_5 (dk_at dksX1_rests_3 22 rfl rfl)
theorem dX1_rests_95 : decode cX1_rests 95 = .ok (.iload 4, 2) := dk_21 4 (dk_at dksX1_rests_4 0 rfl rfl)
theorem dX1_rests_97 : decode cX1_rests 97 = .ok (.imul, 1) := dk_104 (dk_at dksX1_rests_4 2 rfl rfl)
theorem dX1_rests_98 : decode cX1_rests 98 = .ok (.iload 5, 2) := dk_21 5 (dk_at dksX1_rests_4 3 rfl rfl)
theorem dX1_rests_100 : decode cX1_rests 100 = .ok (.iadd, 1) := dk_96 (dk_at dksX1_rests_4 5 rfl rfl)
theorem dX1_rests_101 : decode cX1_rests 101 = .ok (.ishl, 1) := dk_120 (dk_at dksX1_rests_4 6 rfl rfl)
theorem dX1_rests_102 : decode cX1_rests 102 = .ok (.ior, 1) := dk_128 (dk_at dksX1_rests_4 7 rfl rfl)
theorem dX1_rests_103 : decode cX1_rests 103 = .ok (.istore_n 3, 1) := dk_62 (dk_at dksX1_rests_4 8 rfl rfl)
theorem dX1_rests_104 : decode cX1_rests 104 = .ok (.iinc 5 1, 3) := dk_132 5 1 (dk_at dksX1_rests_4 9 rfl rfl)
theorem dX1_rests_107 : decode cX1_rests 107 = .ok (.goto (-69), 3) := dk_167 255 187 (dk_at dksX1_rests_4 12 rfl rfl)
theorem dX1_rests_110 : decode cX1_rests 110 = .ok (.iinc 4 1, 3) := dk_132 4 1 (dk_at dksX1_rests_4 15 rfl rfl)
theorem dX1_rests_113 : decode cX1_rests 113 = .ok (.goto (-84), 3) := dk_167 255 172 (dk_at dksX1_rests_4 18 rfl rfl)
theorem dX1_rests_116 : decode cX1_rests 116 = .ok (.iload_n 3, 1) := dk_29 (dk_at dksX1_rests_4 21 rfl rfl)
theorem dX1_rests_117 : decode cX1_rests 117 = .ok (.ireturn, 1) := dk_172 (dk_at dksX1_rests_4 22 rfl rfl)
abbrev cX1_hostHas : ByteArray := prog_1_method_78_code
def yX1_hostHas : MethodName := ⟨RX1, "hostHas", "(ZII)I"⟩
def dkwX1_hostHas_1 : List UInt8 := [172]
abbrev dktX1_hostHas_1 : List UInt8 := dkwX1_hostHas_1 ++ []
def dkwX1_hostHas_0 : List UInt8 := [28, 4, 160, 0, 7, 3, 167, 0, 18, 27, 153, 0, 12, 29, 154, 0, 8, 16, 236, 167, 0, 5, 16, 10]
abbrev dktX1_hostHas_0 : List UInt8 := dkwX1_hostHas_0 ++ dktX1_hostHas_1
theorem dksX1_hostHas_0 : cX1_hostHas.data.toList.drop 0 = dktX1_hostHas_0 := by decide +kernel
theorem dksX1_hostHas_1 : cX1_hostHas.data.toList.drop 24 = dktX1_hostHas_1 := dk_seg dksX1_hostHas_0 24 rfl rfl
theorem dX1_hostHas_0 : decode cX1_hostHas 0 = .ok (.iload_n 2, 1) := dk_28 (dk_at dksX1_hostHas_0 0 rfl rfl)
theorem dX1_hostHas_1 : decode cX1_hostHas 1 = .ok (.iconst 1, 1) := dk_4 (dk_at dksX1_hostHas_0 1 rfl rfl)
theorem dX1_hostHas_2 : decode cX1_hostHas 2 = .ok (.if_icmp .ne 7, 3) := dk_160 0 7 (dk_at dksX1_hostHas_0 2 rfl rfl)
theorem dX1_hostHas_5 : decode cX1_hostHas 5 = .ok (.iconst 0, 1) := dk_3 (dk_at dksX1_hostHas_0 5 rfl rfl)
theorem dX1_hostHas_6 : decode cX1_hostHas 6 = .ok (.goto 18, 3) := dk_167 0 18 (dk_at dksX1_hostHas_0 6 rfl rfl)
theorem dX1_hostHas_9 : decode cX1_hostHas 9 = .ok (.iload_n 1, 1) := dk_27 (dk_at dksX1_hostHas_0 9 rfl rfl)
theorem dX1_hostHas_10 : decode cX1_hostHas 10 = .ok (.ifCond .eq 12, 3) := dk_153 0 12 (dk_at dksX1_hostHas_0 10 rfl rfl)
theorem dX1_hostHas_13 : decode cX1_hostHas 13 = .ok (.iload_n 3, 1) := dk_29 (dk_at dksX1_hostHas_0 13 rfl rfl)
theorem dX1_hostHas_14 : decode cX1_hostHas 14 = .ok (.ifCond .ne 8, 3) := dk_154 0 8 (dk_at dksX1_hostHas_0 14 rfl rfl)
theorem dX1_hostHas_17 : decode cX1_hostHas 17 = .ok (.bipush (-20), 2) := dk_16 236 (dk_at dksX1_hostHas_0 17 rfl rfl)
theorem dX1_hostHas_19 : decode cX1_hostHas 19 = .ok (.goto 5, 3) := dk_167 0 5 (dk_at dksX1_hostHas_0 19 rfl rfl)
theorem dX1_hostHas_22 : decode cX1_hostHas 22 = .ok (.bipush 10, 2) := dk_16 10 (dk_at dksX1_hostHas_0 22 rfl rfl)
theorem dX1_hostHas_24 : decode cX1_hostHas 24 = .ok (.ireturn, 1) := dk_172 (dk_at dksX1_hostHas_1 0 rfl rfl)
abbrev cX1_guestHas : ByteArray := prog_1_method_79_code
def yX1_guestHas : MethodName := ⟨RX1, "guestHas", "(IZII)I"⟩
def dkwX1_guestHas_1 : List UInt8 := [180, 0, 95, 27, 46, 167, 0, 5, 16, 253, 172]
abbrev dktX1_guestHas_1 : List UInt8 := dkwX1_guestHas_1 ++ []
def dkwX1_guestHas_0 : List UInt8 := [21, 4, 4, 160, 0, 7, 3, 167, 0, 25, 28, 153, 0, 19, 29, 154, 0, 15, 42, 180, 0, 10]
abbrev dktX1_guestHas_0 : List UInt8 := dkwX1_guestHas_0 ++ dktX1_guestHas_1
theorem dksX1_guestHas_0 : cX1_guestHas.data.toList.drop 0 = dktX1_guestHas_0 := by decide +kernel
theorem dksX1_guestHas_1 : cX1_guestHas.data.toList.drop 22 = dktX1_guestHas_1 := dk_seg dksX1_guestHas_0 22 rfl rfl
theorem dX1_guestHas_0 : decode cX1_guestHas 0 = .ok (.iload 4, 2) := dk_21 4 (dk_at dksX1_guestHas_0 0 rfl rfl)
theorem dX1_guestHas_2 : decode cX1_guestHas 2 = .ok (.iconst 1, 1) := dk_4 (dk_at dksX1_guestHas_0 2 rfl rfl)
theorem dX1_guestHas_3 : decode cX1_guestHas 3 = .ok (.if_icmp .ne 7, 3) := dk_160 0 7 (dk_at dksX1_guestHas_0 3 rfl rfl)
theorem dX1_guestHas_6 : decode cX1_guestHas 6 = .ok (.iconst 0, 1) := dk_3 (dk_at dksX1_guestHas_0 6 rfl rfl)
theorem dX1_guestHas_7 : decode cX1_guestHas 7 = .ok (.goto 25, 3) := dk_167 0 25 (dk_at dksX1_guestHas_0 7 rfl rfl)
theorem dX1_guestHas_10 : decode cX1_guestHas 10 = .ok (.iload_n 2, 1) := dk_28 (dk_at dksX1_guestHas_0 10 rfl rfl)
theorem dX1_guestHas_11 : decode cX1_guestHas 11 = .ok (.ifCond .eq 19, 3) := dk_153 0 19 (dk_at dksX1_guestHas_0 11 rfl rfl)
theorem dX1_guestHas_14 : decode cX1_guestHas 14 = .ok (.iload_n 3, 1) := dk_29 (dk_at dksX1_guestHas_0 14 rfl rfl)
theorem dX1_guestHas_15 : decode cX1_guestHas 15 = .ok (.ifCond .ne 15, 3) := dk_154 0 15 (dk_at dksX1_guestHas_0 15 rfl rfl)
theorem dX1_guestHas_18 : decode cX1_guestHas 18 = .ok (.aload_n 0, 1) := dk_42 (dk_at dksX1_guestHas_0 18 rfl rfl)
theorem dX1_guestHas_19 : decode cX1_guestHas 19 = .ok (.getfield 10, 3) := dk_180 0 10 (dk_at dksX1_guestHas_0 19 rfl rfl)
theorem dX1_guestHas_22 : decode cX1_guestHas 22 = .ok (.getfield 95, 3) := dk_180 0 95 (dk_at dksX1_guestHas_1 0 rfl rfl)
theorem dX1_guestHas_25 : decode cX1_guestHas 25 = .ok (.iload_n 1, 1) := dk_27 (dk_at dksX1_guestHas_1 3 rfl rfl)
theorem dX1_guestHas_26 : decode cX1_guestHas 26 = .ok (.iaload, 1) := dk_46 (dk_at dksX1_guestHas_1 4 rfl rfl)
theorem dX1_guestHas_27 : decode cX1_guestHas 27 = .ok (.goto 5, 3) := dk_167 0 5 (dk_at dksX1_guestHas_1 5 rfl rfl)
theorem dX1_guestHas_30 : decode cX1_guestHas 30 = .ok (.bipush (-3), 2) := dk_16 253 (dk_at dksX1_guestHas_1 8 rfl rfl)
theorem dX1_guestHas_32 : decode cX1_guestHas 32 = .ok (.ireturn, 1) := dk_172 (dk_at dksX1_guestHas_1 10 rfl rfl)
abbrev cX1_shifts : ByteArray := prog_1_method_84_code
def yX1_shifts : MethodName := ⟨RX1, "shifts", "()I"⟩
def dkwX1_shifts_0 : List UInt8 := [42, 16, 7, 182, 2, 16, 42, 182, 2, 19, 172]
abbrev dktX1_shifts_0 : List UInt8 := dkwX1_shifts_0 ++ []
theorem dksX1_shifts_0 : cX1_shifts.data.toList.drop 0 = dktX1_shifts_0 := by decide +kernel
theorem dX1_shifts_0 : decode cX1_shifts 0 = .ok (.aload_n 0, 1) := dk_42 (dk_at dksX1_shifts_0 0 rfl rfl)
theorem dX1_shifts_1 : decode cX1_shifts 1 = .ok (.bipush 7, 2) := dk_16 7 (dk_at dksX1_shifts_0 1 rfl rfl)
theorem dX1_shifts_3 : decode cX1_shifts 3 = .ok (.invokevirtual 528, 3) := dk_182 2 16 (dk_at dksX1_shifts_0 3 rfl rfl)
theorem dX1_shifts_6 : decode cX1_shifts 6 = .ok (.aload_n 0, 1) := dk_42 (dk_at dksX1_shifts_0 6 rfl rfl)
theorem dX1_shifts_7 : decode cX1_shifts 7 = .ok (.invokevirtual 531, 3) := dk_182 2 19 (dk_at dksX1_shifts_0 7 rfl rfl)
theorem dX1_shifts_10 : decode cX1_shifts 10 = .ok (.ireturn, 1) := dk_172 (dk_at dksX1_shifts_0 10 rfl rfl)
abbrev cX1_tells : ByteArray := prog_1_method_81_code
def yX1_tells : MethodName := ⟨RX1, "tells", "(I)V"⟩
def dkwX1_tells_3 : List UInt8 := [4, 184, 1, 146, 153, 0, 7, 4, 167, 0, 4, 3, 184, 1, 190, 132, 3, 2, 167, 255, 205, 177]
abbrev dktX1_tells_3 : List UInt8 := dkwX1_tells_3 ++ []
def dkwX1_tells_2 : List UInt8 := [180, 2, 9, 29, 51, 3, 27, 4, 100, 184, 1, 146, 153, 0, 23, 44, 180, 2, 9, 29, 4, 96, 51, 3]
abbrev dktX1_tells_2 : List UInt8 := dkwX1_tells_2 ++ dktX1_tells_3
def dkwX1_tells_1 : List UInt8 := [163, 0, 7, 4, 167, 0, 4, 3, 184, 1, 190, 3, 62, 29, 44, 180, 2, 6, 162, 0, 49, 44]
abbrev dktX1_tells_1 : List UInt8 := dkwX1_tells_1 ++ dktX1_tells_2
def dkwX1_tells_0 : List UInt8 := [42, 180, 0, 25, 77, 44, 182, 0, 198, 44, 180, 2, 6, 5, 112, 154, 0, 16, 44, 180, 2, 6, 16, 40]
abbrev dktX1_tells_0 : List UInt8 := dkwX1_tells_0 ++ dktX1_tells_1
theorem dksX1_tells_0 : cX1_tells.data.toList.drop 0 = dktX1_tells_0 := by decide +kernel
theorem dksX1_tells_1 : cX1_tells.data.toList.drop 24 = dktX1_tells_1 := dk_seg dksX1_tells_0 24 rfl rfl
theorem dksX1_tells_2 : cX1_tells.data.toList.drop 46 = dktX1_tells_2 := dk_seg dksX1_tells_1 22 rfl rfl
theorem dksX1_tells_3 : cX1_tells.data.toList.drop 70 = dktX1_tells_3 := dk_seg dksX1_tells_2 24 rfl rfl
theorem dX1_tells_0 : decode cX1_tells 0 = .ok (.aload_n 0, 1) := dk_42 (dk_at dksX1_tells_0 0 rfl rfl)
theorem dX1_tells_1 : decode cX1_tells 1 = .ok (.getfield 25, 3) := dk_180 0 25 (dk_at dksX1_tells_0 1 rfl rfl)
theorem dX1_tells_4 : decode cX1_tells 4 = .ok (.astore_n 2, 1) := dk_77 (dk_at dksX1_tells_0 4 rfl rfl)
theorem dX1_tells_5 : decode cX1_tells 5 = .ok (.aload_n 2, 1) := dk_44 (dk_at dksX1_tells_0 5 rfl rfl)
theorem dX1_tells_6 : decode cX1_tells 6 = .ok (.invokevirtual 198, 3) := dk_182 0 198 (dk_at dksX1_tells_0 6 rfl rfl)
theorem dX1_tells_9 : decode cX1_tells 9 = .ok (.aload_n 2, 1) := dk_44 (dk_at dksX1_tells_0 9 rfl rfl)
theorem dX1_tells_10 : decode cX1_tells 10 = .ok (.getfield 518, 3) := dk_180 2 6 (dk_at dksX1_tells_0 10 rfl rfl)
theorem dX1_tells_13 : decode cX1_tells 13 = .ok (.iconst 2, 1) := dk_5 (dk_at dksX1_tells_0 13 rfl rfl)
theorem dX1_tells_14 : decode cX1_tells 14 = .ok (.irem, 1) := dk_112 (dk_at dksX1_tells_0 14 rfl rfl)
theorem dX1_tells_15 : decode cX1_tells 15 = .ok (.ifCond .ne 16, 3) := dk_154 0 16 (dk_at dksX1_tells_0 15 rfl rfl)
theorem dX1_tells_18 : decode cX1_tells 18 = .ok (.aload_n 2, 1) := dk_44 (dk_at dksX1_tells_0 18 rfl rfl)
theorem dX1_tells_19 : decode cX1_tells 19 = .ok (.getfield 518, 3) := dk_180 2 6 (dk_at dksX1_tells_0 19 rfl rfl)
theorem dX1_tells_22 : decode cX1_tells 22 = .ok (.bipush 40, 2) := dk_16 40 (dk_at dksX1_tells_0 22 rfl rfl)
theorem dX1_tells_24 : decode cX1_tells 24 = .ok (.if_icmp .gt 7, 3) := dk_163 0 7 (dk_at dksX1_tells_1 0 rfl rfl)
theorem dX1_tells_27 : decode cX1_tells 27 = .ok (.iconst 1, 1) := dk_4 (dk_at dksX1_tells_1 3 rfl rfl)
theorem dX1_tells_28 : decode cX1_tells 28 = .ok (.goto 4, 3) := dk_167 0 4 (dk_at dksX1_tells_1 4 rfl rfl)
theorem dX1_tells_31 : decode cX1_tells 31 = .ok (.iconst 0, 1) := dk_3 (dk_at dksX1_tells_1 7 rfl rfl)
theorem dX1_tells_32 : decode cX1_tells 32 = .ok (.invokestatic 446, 3) := dk_184 1 190 (dk_at dksX1_tells_1 8 rfl rfl)
theorem dX1_tells_35 : decode cX1_tells 35 = .ok (.iconst 0, 1) := dk_3 (dk_at dksX1_tells_1 11 rfl rfl)
theorem dX1_tells_36 : decode cX1_tells 36 = .ok (.istore_n 3, 1) := dk_62 (dk_at dksX1_tells_1 12 rfl rfl)
theorem dX1_tells_37 : decode cX1_tells 37 = .ok (.iload_n 3, 1) := dk_29 (dk_at dksX1_tells_1 13 rfl rfl)
theorem dX1_tells_38 : decode cX1_tells 38 = .ok (.aload_n 2, 1) := dk_44 (dk_at dksX1_tells_1 14 rfl rfl)
theorem dX1_tells_39 : decode cX1_tells 39 = .ok (.getfield 518, 3) := dk_180 2 6 (dk_at dksX1_tells_1 15 rfl rfl)
theorem dX1_tells_42 : decode cX1_tells 42 = .ok (.if_icmp .ge 49, 3) := dk_162 0 49 (dk_at dksX1_tells_1 18 rfl rfl)
theorem dX1_tells_45 : decode cX1_tells 45 = .ok (.aload_n 2, 1) := dk_44 (dk_at dksX1_tells_1 21 rfl rfl)
theorem dX1_tells_46 : decode cX1_tells 46 = .ok (.getfield 521, 3) := dk_180 2 9 (dk_at dksX1_tells_2 0 rfl rfl)
theorem dX1_tells_49 : decode cX1_tells 49 = .ok (.iload_n 3, 1) := dk_29 (dk_at dksX1_tells_2 3 rfl rfl)
theorem dX1_tells_50 : decode cX1_tells 50 = .ok (.baload, 1) := dk_51 (dk_at dksX1_tells_2 4 rfl rfl)
theorem dX1_tells_51 : decode cX1_tells 51 = .ok (.iconst 0, 1) := dk_3 (dk_at dksX1_tells_2 5 rfl rfl)
theorem dX1_tells_52 : decode cX1_tells 52 = .ok (.iload_n 1, 1) := dk_27 (dk_at dksX1_tells_2 6 rfl rfl)
theorem dX1_tells_53 : decode cX1_tells 53 = .ok (.iconst 1, 1) := dk_4 (dk_at dksX1_tells_2 7 rfl rfl)
theorem dX1_tells_54 : decode cX1_tells 54 = .ok (.isub, 1) := dk_100 (dk_at dksX1_tells_2 8 rfl rfl)
theorem dX1_tells_55 : decode cX1_tells 55 = .ok (.invokestatic 402, 3) := dk_184 1 146 (dk_at dksX1_tells_2 9 rfl rfl)
theorem dX1_tells_58 : decode cX1_tells 58 = .ok (.ifCond .eq 23, 3) := dk_153 0 23 (dk_at dksX1_tells_2 12 rfl rfl)
theorem dX1_tells_61 : decode cX1_tells 61 = .ok (.aload_n 2, 1) := dk_44 (dk_at dksX1_tells_2 15 rfl rfl)
theorem dX1_tells_62 : decode cX1_tells 62 = .ok (.getfield 521, 3) := dk_180 2 9 (dk_at dksX1_tells_2 16 rfl rfl)
theorem dX1_tells_65 : decode cX1_tells 65 = .ok (.iload_n 3, 1) := dk_29 (dk_at dksX1_tells_2 19 rfl rfl)
theorem dX1_tells_66 : decode cX1_tells 66 = .ok (.iconst 1, 1) := dk_4 (dk_at dksX1_tells_2 20 rfl rfl)
theorem dX1_tells_67 : decode cX1_tells 67 = .ok (.iadd, 1) := dk_96 (dk_at dksX1_tells_2 21 rfl rfl)
theorem dX1_tells_68 : decode cX1_tells 68 = .ok (.baload, 1) := dk_51 (dk_at dksX1_tells_2 22 rfl rfl)
theorem dX1_tells_69 : decode cX1_tells 69 = .ok (.iconst 0, 1) := dk_3 (dk_at dksX1_tells_2 23 rfl rfl)
theorem dX1_tells_70 : decode cX1_tells 70 = .ok (.iconst 1, 1) := dk_4 (dk_at dksX1_tells_3 0 rfl rfl)
theorem dX1_tells_71 : decode cX1_tells 71 = .ok (.invokestatic 402, 3) := dk_184 1 146 (dk_at dksX1_tells_3 1 rfl rfl)
theorem dX1_tells_74 : decode cX1_tells 74 = .ok (.ifCond .eq 7, 3) := dk_153 0 7 (dk_at dksX1_tells_3 4 rfl rfl)
theorem dX1_tells_77 : decode cX1_tells 77 = .ok (.iconst 1, 1) := dk_4 (dk_at dksX1_tells_3 7 rfl rfl)
theorem dX1_tells_78 : decode cX1_tells 78 = .ok (.goto 4, 3) := dk_167 0 4 (dk_at dksX1_tells_3 8 rfl rfl)
theorem dX1_tells_81 : decode cX1_tells 81 = .ok (.iconst 0, 1) := dk_3 (dk_at dksX1_tells_3 11 rfl rfl)
theorem dX1_tells_82 : decode cX1_tells 82 = .ok (.invokestatic 446, 3) := dk_184 1 190 (dk_at dksX1_tells_3 12 rfl rfl)
theorem dX1_tells_85 : decode cX1_tells 85 = .ok (.iinc 3 2, 3) := dk_132 3 2 (dk_at dksX1_tells_3 15 rfl rfl)
theorem dX1_tells_88 : decode cX1_tells 88 = .ok (.goto (-51), 3) := dk_167 255 205 (dk_at dksX1_tells_3 18 rfl rfl)
theorem dX1_tells_91 : decode cX1_tells 91 = .ok (.return_, 1) := dk_177 (dk_at dksX1_tells_3 21 rfl rfl)
abbrev cX1_shiftsThatFit : ByteArray := prog_1_method_83_code
def yX1_shiftsThatFit : MethodName := ⟨RX1, "shiftsThatFit", "()I"⟩
def dkwX1_shiftsThatFit_1 : List UInt8 := [167, 0, 4, 3, 128, 60, 132, 2, 1, 167, 255, 229, 27, 172]
abbrev dktX1_shiftsThatFit_1 : List UInt8 := dkwX1_shiftsThatFit_1 ++ []
def dkwX1_shiftsThatFit_0 : List UInt8 := [3, 60, 3, 61, 28, 16, 7, 162, 0, 27, 27, 42, 28, 182, 2, 13, 153, 0, 9, 4, 28, 120]
abbrev dktX1_shiftsThatFit_0 : List UInt8 := dkwX1_shiftsThatFit_0 ++ dktX1_shiftsThatFit_1
theorem dksX1_shiftsThatFit_0 : cX1_shiftsThatFit.data.toList.drop 0 = dktX1_shiftsThatFit_0 := by decide +kernel
theorem dksX1_shiftsThatFit_1 : cX1_shiftsThatFit.data.toList.drop 22 = dktX1_shiftsThatFit_1 := dk_seg dksX1_shiftsThatFit_0 22 rfl rfl
theorem dX1_shiftsThatFit_0 : decode cX1_shiftsThatFit 0 = .ok (.iconst 0, 1) := dk_3 (dk_at dksX1_shiftsThatFit_0 0 rfl rfl)
theorem dX1_shiftsThatFit_1 : decode cX1_shiftsThatFit 1 = .ok (.istore_n 1, 1) := dk_60 (dk_at dksX1_shiftsThatFit_0 1 rfl rfl)
theorem dX1_shiftsThatFit_2 : decode cX1_shiftsThatFit 2 = .ok (.iconst 0, 1) := dk_3 (dk_at dksX1_shiftsThatFit_0 2 rfl rfl)
theorem dX1_shiftsThatFit_3 : decode cX1_shiftsThatFit 3 = .ok (.istore_n 2, 1) := dk_61 (dk_at dksX1_shiftsThatFit_0 3 rfl rfl)
theorem dX1_shiftsThatFit_4 : decode cX1_shiftsThatFit 4 = .ok (.iload_n 2, 1) := dk_28 (dk_at dksX1_shiftsThatFit_0 4 rfl rfl)
theorem dX1_shiftsThatFit_5 : decode cX1_shiftsThatFit 5 = .ok (.bipush 7, 2) := dk_16 7 (dk_at dksX1_shiftsThatFit_0 5 rfl rfl)
theorem dX1_shiftsThatFit_7 : decode cX1_shiftsThatFit 7 = .ok (.if_icmp .ge 27, 3) := dk_162 0 27 (dk_at dksX1_shiftsThatFit_0 7 rfl rfl)
theorem dX1_shiftsThatFit_10 : decode cX1_shiftsThatFit 10 = .ok (.iload_n 1, 1) := dk_27 (dk_at dksX1_shiftsThatFit_0 10 rfl rfl)
theorem dX1_shiftsThatFit_11 : decode cX1_shiftsThatFit 11 = .ok (.aload_n 0, 1) := dk_42 (dk_at dksX1_shiftsThatFit_0 11 rfl rfl)
theorem dX1_shiftsThatFit_12 : decode cX1_shiftsThatFit 12 = .ok (.iload_n 2, 1) := dk_28 (dk_at dksX1_shiftsThatFit_0 12 rfl rfl)
theorem dX1_shiftsThatFit_13 : decode cX1_shiftsThatFit 13 = .ok (.invokevirtual 525, 3) := dk_182 2 13 (dk_at dksX1_shiftsThatFit_0 13 rfl rfl)
theorem dX1_shiftsThatFit_16 : decode cX1_shiftsThatFit 16 = .ok (.ifCond .eq 9, 3) := dk_153 0 9 (dk_at dksX1_shiftsThatFit_0 16 rfl rfl)
theorem dX1_shiftsThatFit_19 : decode cX1_shiftsThatFit 19 = .ok (.iconst 1, 1) := dk_4 (dk_at dksX1_shiftsThatFit_0 19 rfl rfl)
theorem dX1_shiftsThatFit_20 : decode cX1_shiftsThatFit 20 = .ok (.iload_n 2, 1) := dk_28 (dk_at dksX1_shiftsThatFit_0 20 rfl rfl)
theorem dX1_shiftsThatFit_21 : decode cX1_shiftsThatFit 21 = .ok (.ishl, 1) := dk_120 (dk_at dksX1_shiftsThatFit_0 21 rfl rfl)
theorem dX1_shiftsThatFit_22 : decode cX1_shiftsThatFit 22 = .ok (.goto 4, 3) := dk_167 0 4 (dk_at dksX1_shiftsThatFit_1 0 rfl rfl)
theorem dX1_shiftsThatFit_25 : decode cX1_shiftsThatFit 25 = .ok (.iconst 0, 1) := dk_3 (dk_at dksX1_shiftsThatFit_1 3 rfl rfl)
theorem dX1_shiftsThatFit_26 : decode cX1_shiftsThatFit 26 = .ok (.ior, 1) := dk_128 (dk_at dksX1_shiftsThatFit_1 4 rfl rfl)
theorem dX1_shiftsThatFit_27 : decode cX1_shiftsThatFit 27 = .ok (.istore_n 1, 1) := dk_60 (dk_at dksX1_shiftsThatFit_1 5 rfl rfl)
theorem dX1_shiftsThatFit_28 : decode cX1_shiftsThatFit 28 = .ok (.iinc 2 1, 3) := dk_132 2 1 (dk_at dksX1_shiftsThatFit_1 6 rfl rfl)
theorem dX1_shiftsThatFit_31 : decode cX1_shiftsThatFit 31 = .ok (.goto (-27), 3) := dk_167 255 229 (dk_at dksX1_shiftsThatFit_1 9 rfl rfl)
theorem dX1_shiftsThatFit_34 : decode cX1_shiftsThatFit 34 = .ok (.iload_n 1, 1) := dk_27 (dk_at dksX1_shiftsThatFit_1 12 rfl rfl)
theorem dX1_shiftsThatFit_35 : decode cX1_shiftsThatFit 35 = .ok (.ireturn, 1) := dk_172 (dk_at dksX1_shiftsThatFit_1 13 rfl rfl)
abbrev cX1_isShift : ByteArray := prog_1_method_82_code
def yX1_isShift : MethodName := ⟨RX1, "isShift", "(I)Z"⟩
def dkwX1_isShift_2 : List UInt8 := [160, 0, 7, 4, 167, 0, 4, 3, 159, 0, 5, 3, 172, 132, 3, 2, 167, 255, 202, 4, 172]
abbrev dktX1_isShift_2 : List UInt8 := dkwX1_isShift_2 ++ []
def dkwX1_isShift_1 : List UInt8 := [16, 7, 112, 16, 6, 160, 0, 7, 4, 167, 0, 4, 3, 44, 180, 2, 9, 29, 4, 96, 51, 4]
abbrev dktX1_isShift_1 : List UInt8 := dkwX1_isShift_1 ++ dktX1_isShift_2
def dkwX1_isShift_0 : List UInt8 := [42, 180, 0, 25, 77, 3, 62, 29, 44, 180, 2, 6, 162, 0, 52, 44, 180, 2, 9, 29, 51, 27, 96]
abbrev dktX1_isShift_0 : List UInt8 := dkwX1_isShift_0 ++ dktX1_isShift_1
theorem dksX1_isShift_0 : cX1_isShift.data.toList.drop 0 = dktX1_isShift_0 := by decide +kernel
theorem dksX1_isShift_1 : cX1_isShift.data.toList.drop 23 = dktX1_isShift_1 := dk_seg dksX1_isShift_0 23 rfl rfl
theorem dksX1_isShift_2 : cX1_isShift.data.toList.drop 45 = dktX1_isShift_2 := dk_seg dksX1_isShift_1 22 rfl rfl
theorem dX1_isShift_0 : decode cX1_isShift 0 = .ok (.aload_n 0, 1) := dk_42 (dk_at dksX1_isShift_0 0 rfl rfl)
theorem dX1_isShift_1 : decode cX1_isShift 1 = .ok (.getfield 25, 3) := dk_180 0 25 (dk_at dksX1_isShift_0 1 rfl rfl)
theorem dX1_isShift_4 : decode cX1_isShift 4 = .ok (.astore_n 2, 1) := dk_77 (dk_at dksX1_isShift_0 4 rfl rfl)
theorem dX1_isShift_5 : decode cX1_isShift 5 = .ok (.iconst 0, 1) := dk_3 (dk_at dksX1_isShift_0 5 rfl rfl)
theorem dX1_isShift_6 : decode cX1_isShift 6 = .ok (.istore_n 3, 1) := dk_62 (dk_at dksX1_isShift_0 6 rfl rfl)
theorem dX1_isShift_7 : decode cX1_isShift 7 = .ok (.iload_n 3, 1) := dk_29 (dk_at dksX1_isShift_0 7 rfl rfl)
theorem dX1_isShift_8 : decode cX1_isShift 8 = .ok (.aload_n 2, 1) := dk_44 (dk_at dksX1_isShift_0 8 rfl rfl)
theorem dX1_isShift_9 : decode cX1_isShift 9 = .ok (.getfield 518, 3) := dk_180 2 6 (dk_at dksX1_isShift_0 9 rfl rfl)
theorem dX1_isShift_12 : decode cX1_isShift 12 = .ok (.if_icmp .ge 52, 3) := dk_162 0 52 (dk_at dksX1_isShift_0 12 rfl rfl)
theorem dX1_isShift_15 : decode cX1_isShift 15 = .ok (.aload_n 2, 1) := dk_44 (dk_at dksX1_isShift_0 15 rfl rfl)
theorem dX1_isShift_16 : decode cX1_isShift 16 = .ok (.getfield 521, 3) := dk_180 2 9 (dk_at dksX1_isShift_0 16 rfl rfl)
theorem dX1_isShift_19 : decode cX1_isShift 19 = .ok (.iload_n 3, 1) := dk_29 (dk_at dksX1_isShift_0 19 rfl rfl)
theorem dX1_isShift_20 : decode cX1_isShift 20 = .ok (.baload, 1) := dk_51 (dk_at dksX1_isShift_0 20 rfl rfl)
theorem dX1_isShift_21 : decode cX1_isShift 21 = .ok (.iload_n 1, 1) := dk_27 (dk_at dksX1_isShift_0 21 rfl rfl)
theorem dX1_isShift_22 : decode cX1_isShift 22 = .ok (.iadd, 1) := dk_96 (dk_at dksX1_isShift_0 22 rfl rfl)
theorem dX1_isShift_23 : decode cX1_isShift 23 = .ok (.bipush 7, 2) := dk_16 7 (dk_at dksX1_isShift_1 0 rfl rfl)
theorem dX1_isShift_25 : decode cX1_isShift 25 = .ok (.irem, 1) := dk_112 (dk_at dksX1_isShift_1 2 rfl rfl)
theorem dX1_isShift_26 : decode cX1_isShift 26 = .ok (.bipush 6, 2) := dk_16 6 (dk_at dksX1_isShift_1 3 rfl rfl)
theorem dX1_isShift_28 : decode cX1_isShift 28 = .ok (.if_icmp .ne 7, 3) := dk_160 0 7 (dk_at dksX1_isShift_1 5 rfl rfl)
theorem dX1_isShift_31 : decode cX1_isShift 31 = .ok (.iconst 1, 1) := dk_4 (dk_at dksX1_isShift_1 8 rfl rfl)
theorem dX1_isShift_32 : decode cX1_isShift 32 = .ok (.goto 4, 3) := dk_167 0 4 (dk_at dksX1_isShift_1 9 rfl rfl)
theorem dX1_isShift_35 : decode cX1_isShift 35 = .ok (.iconst 0, 1) := dk_3 (dk_at dksX1_isShift_1 12 rfl rfl)
theorem dX1_isShift_36 : decode cX1_isShift 36 = .ok (.aload_n 2, 1) := dk_44 (dk_at dksX1_isShift_1 13 rfl rfl)
theorem dX1_isShift_37 : decode cX1_isShift 37 = .ok (.getfield 521, 3) := dk_180 2 9 (dk_at dksX1_isShift_1 14 rfl rfl)
theorem dX1_isShift_40 : decode cX1_isShift 40 = .ok (.iload_n 3, 1) := dk_29 (dk_at dksX1_isShift_1 17 rfl rfl)
theorem dX1_isShift_41 : decode cX1_isShift 41 = .ok (.iconst 1, 1) := dk_4 (dk_at dksX1_isShift_1 18 rfl rfl)
theorem dX1_isShift_42 : decode cX1_isShift 42 = .ok (.iadd, 1) := dk_96 (dk_at dksX1_isShift_1 19 rfl rfl)
theorem dX1_isShift_43 : decode cX1_isShift 43 = .ok (.baload, 1) := dk_51 (dk_at dksX1_isShift_1 20 rfl rfl)
theorem dX1_isShift_44 : decode cX1_isShift 44 = .ok (.iconst 1, 1) := dk_4 (dk_at dksX1_isShift_1 21 rfl rfl)
theorem dX1_isShift_45 : decode cX1_isShift 45 = .ok (.if_icmp .ne 7, 3) := dk_160 0 7 (dk_at dksX1_isShift_2 0 rfl rfl)
theorem dX1_isShift_48 : decode cX1_isShift 48 = .ok (.iconst 1, 1) := dk_4 (dk_at dksX1_isShift_2 3 rfl rfl)
theorem dX1_isShift_49 : decode cX1_isShift 49 = .ok (.goto 4, 3) := dk_167 0 4 (dk_at dksX1_isShift_2 4 rfl rfl)
theorem dX1_isShift_52 : decode cX1_isShift 52 = .ok (.iconst 0, 1) := dk_3 (dk_at dksX1_isShift_2 7 rfl rfl)
theorem dX1_isShift_53 : decode cX1_isShift 53 = .ok (.if_icmp .eq 5, 3) := dk_159 0 5 (dk_at dksX1_isShift_2 8 rfl rfl)
theorem dX1_isShift_56 : decode cX1_isShift 56 = .ok (.iconst 0, 1) := dk_3 (dk_at dksX1_isShift_2 11 rfl rfl)
theorem dX1_isShift_57 : decode cX1_isShift 57 = .ok (.ireturn, 1) := dk_172 (dk_at dksX1_isShift_2 12 rfl rfl)
theorem dX1_isShift_58 : decode cX1_isShift 58 = .ok (.iinc 3 2, 3) := dk_132 3 2 (dk_at dksX1_isShift_2 13 rfl rfl)
theorem dX1_isShift_61 : decode cX1_isShift 61 = .ok (.goto (-54), 3) := dk_167 255 202 (dk_at dksX1_isShift_2 16 rfl rfl)
theorem dX1_isShift_64 : decode cX1_isShift 64 = .ok (.iconst 1, 1) := dk_4 (dk_at dksX1_isShift_2 19 rfl rfl)
theorem dX1_isShift_65 : decode cX1_isShift 65 = .ok (.ireturn, 1) := dk_172 (dk_at dksX1_isShift_2 20 rfl rfl)
abbrev cX1_ask : ByteArray := prog_1_method_85_code
def yX1_ask : MethodName := ⟨RX1, "ask", "()I"⟩
def dkwX1_ask_4 : List UInt8 := [132, 5, 1, 167, 255, 193, 29, 172]
abbrev dktX1_ask_4 : List UInt8 := dkwX1_ask_4 ++ []
def dkwX1_ask_3 : List UInt8 := [184, 1, 215, 54, 7, 21, 7, 21, 4, 161, 0, 6, 167, 0, 10, 21, 5, 62, 21, 7, 54, 4]
abbrev dktX1_ask_3 : List UInt8 := dkwX1_ask_3 ++ dktX1_ask_4
def dkwX1_ask_2 : List UInt8 := [96, 16, 7, 112, 184, 1, 118, 153, 0, 7, 4, 167, 0, 4, 3, 54, 6, 21, 6, 28, 21, 6, 100]
abbrev dktX1_ask_2 : List UInt8 := dkwX1_ask_2 ++ dktX1_ask_3
def dkwX1_ask_1 : List UInt8 := [62, 17, 3, 231, 54, 4, 3, 54, 5, 21, 5, 16, 7, 162, 0, 62, 27, 16, 6, 21, 5, 100, 16, 7]
abbrev dktX1_ask_1 : List UInt8 := dkwX1_ask_1 ++ dktX1_ask_2
def dkwX1_ask_0 : List UInt8 := [42, 16, 7, 182, 2, 16, 42, 182, 2, 19, 60, 27, 184, 1, 84, 61, 28, 5, 162, 0, 5, 2, 172, 2]
abbrev dktX1_ask_0 : List UInt8 := dkwX1_ask_0 ++ dktX1_ask_1
theorem dksX1_ask_0 : cX1_ask.data.toList.drop 0 = dktX1_ask_0 := by decide +kernel
theorem dksX1_ask_1 : cX1_ask.data.toList.drop 24 = dktX1_ask_1 := dk_seg dksX1_ask_0 24 rfl rfl
theorem dksX1_ask_2 : cX1_ask.data.toList.drop 48 = dktX1_ask_2 := dk_seg dksX1_ask_1 24 rfl rfl
theorem dksX1_ask_3 : cX1_ask.data.toList.drop 71 = dktX1_ask_3 := dk_seg dksX1_ask_2 23 rfl rfl
theorem dksX1_ask_4 : cX1_ask.data.toList.drop 93 = dktX1_ask_4 := dk_seg dksX1_ask_3 22 rfl rfl
theorem dX1_ask_0 : decode cX1_ask 0 = .ok (.aload_n 0, 1) := dk_42 (dk_at dksX1_ask_0 0 rfl rfl)
theorem dX1_ask_1 : decode cX1_ask 1 = .ok (.bipush 7, 2) := dk_16 7 (dk_at dksX1_ask_0 1 rfl rfl)
theorem dX1_ask_3 : decode cX1_ask 3 = .ok (.invokevirtual 528, 3) := dk_182 2 16 (dk_at dksX1_ask_0 3 rfl rfl)
theorem dX1_ask_6 : decode cX1_ask 6 = .ok (.aload_n 0, 1) := dk_42 (dk_at dksX1_ask_0 6 rfl rfl)
theorem dX1_ask_7 : decode cX1_ask 7 = .ok (.invokevirtual 531, 3) := dk_182 2 19 (dk_at dksX1_ask_0 7 rfl rfl)
theorem dX1_ask_10 : decode cX1_ask 10 = .ok (.istore_n 1, 1) := dk_60 (dk_at dksX1_ask_0 10 rfl rfl)
theorem dX1_ask_11 : decode cX1_ask 11 = .ok (.iload_n 1, 1) := dk_27 (dk_at dksX1_ask_0 11 rfl rfl)
theorem dX1_ask_12 : decode cX1_ask 12 = .ok (.invokestatic 340, 3) := dk_184 1 84 (dk_at dksX1_ask_0 12 rfl rfl)
theorem dX1_ask_15 : decode cX1_ask 15 = .ok (.istore_n 2, 1) := dk_61 (dk_at dksX1_ask_0 15 rfl rfl)
theorem dX1_ask_16 : decode cX1_ask 16 = .ok (.iload_n 2, 1) := dk_28 (dk_at dksX1_ask_0 16 rfl rfl)
theorem dX1_ask_17 : decode cX1_ask 17 = .ok (.iconst 2, 1) := dk_5 (dk_at dksX1_ask_0 17 rfl rfl)
theorem dX1_ask_18 : decode cX1_ask 18 = .ok (.if_icmp .ge 5, 3) := dk_162 0 5 (dk_at dksX1_ask_0 18 rfl rfl)
theorem dX1_ask_21 : decode cX1_ask 21 = .ok (.iconst (-1), 1) := dk_2 (dk_at dksX1_ask_0 21 rfl rfl)
theorem dX1_ask_22 : decode cX1_ask 22 = .ok (.ireturn, 1) := dk_172 (dk_at dksX1_ask_0 22 rfl rfl)
theorem dX1_ask_23 : decode cX1_ask 23 = .ok (.iconst (-1), 1) := dk_2 (dk_at dksX1_ask_0 23 rfl rfl)
theorem dX1_ask_24 : decode cX1_ask 24 = .ok (.istore_n 3, 1) := dk_62 (dk_at dksX1_ask_1 0 rfl rfl)
theorem dX1_ask_25 : decode cX1_ask 25 = .ok (.sipush 999, 3) := dk_17 3 231 (dk_at dksX1_ask_1 1 rfl rfl)
theorem dX1_ask_28 : decode cX1_ask 28 = .ok (.istore 4, 2) := dk_54 4 (dk_at dksX1_ask_1 4 rfl rfl)
theorem dX1_ask_30 : decode cX1_ask 30 = .ok (.iconst 0, 1) := dk_3 (dk_at dksX1_ask_1 6 rfl rfl)
theorem dX1_ask_31 : decode cX1_ask 31 = .ok (.istore 5, 2) := dk_54 5 (dk_at dksX1_ask_1 7 rfl rfl)
theorem dX1_ask_33 : decode cX1_ask 33 = .ok (.iload 5, 2) := dk_21 5 (dk_at dksX1_ask_1 9 rfl rfl)
theorem dX1_ask_35 : decode cX1_ask 35 = .ok (.bipush 7, 2) := dk_16 7 (dk_at dksX1_ask_1 11 rfl rfl)
theorem dX1_ask_37 : decode cX1_ask 37 = .ok (.if_icmp .ge 62, 3) := dk_162 0 62 (dk_at dksX1_ask_1 13 rfl rfl)
theorem dX1_ask_40 : decode cX1_ask 40 = .ok (.iload_n 1, 1) := dk_27 (dk_at dksX1_ask_1 16 rfl rfl)
theorem dX1_ask_41 : decode cX1_ask 41 = .ok (.bipush 6, 2) := dk_16 6 (dk_at dksX1_ask_1 17 rfl rfl)
theorem dX1_ask_43 : decode cX1_ask 43 = .ok (.iload 5, 2) := dk_21 5 (dk_at dksX1_ask_1 19 rfl rfl)
theorem dX1_ask_45 : decode cX1_ask 45 = .ok (.isub, 1) := dk_100 (dk_at dksX1_ask_1 21 rfl rfl)
theorem dX1_ask_46 : decode cX1_ask 46 = .ok (.bipush 7, 2) := dk_16 7 (dk_at dksX1_ask_1 22 rfl rfl)
theorem dX1_ask_48 : decode cX1_ask 48 = .ok (.iadd, 1) := dk_96 (dk_at dksX1_ask_2 0 rfl rfl)
theorem dX1_ask_49 : decode cX1_ask 49 = .ok (.bipush 7, 2) := dk_16 7 (dk_at dksX1_ask_2 1 rfl rfl)
theorem dX1_ask_51 : decode cX1_ask 51 = .ok (.irem, 1) := dk_112 (dk_at dksX1_ask_2 3 rfl rfl)
theorem dX1_ask_52 : decode cX1_ask 52 = .ok (.invokestatic 374, 3) := dk_184 1 118 (dk_at dksX1_ask_2 4 rfl rfl)
theorem dX1_ask_55 : decode cX1_ask 55 = .ok (.ifCond .eq 7, 3) := dk_153 0 7 (dk_at dksX1_ask_2 7 rfl rfl)
theorem dX1_ask_58 : decode cX1_ask 58 = .ok (.iconst 1, 1) := dk_4 (dk_at dksX1_ask_2 10 rfl rfl)
theorem dX1_ask_59 : decode cX1_ask 59 = .ok (.goto 4, 3) := dk_167 0 4 (dk_at dksX1_ask_2 11 rfl rfl)
theorem dX1_ask_62 : decode cX1_ask 62 = .ok (.iconst 0, 1) := dk_3 (dk_at dksX1_ask_2 14 rfl rfl)
theorem dX1_ask_63 : decode cX1_ask 63 = .ok (.istore 6, 2) := dk_54 6 (dk_at dksX1_ask_2 15 rfl rfl)
theorem dX1_ask_65 : decode cX1_ask 65 = .ok (.iload 6, 2) := dk_21 6 (dk_at dksX1_ask_2 17 rfl rfl)
theorem dX1_ask_67 : decode cX1_ask 67 = .ok (.iload_n 2, 1) := dk_28 (dk_at dksX1_ask_2 19 rfl rfl)
theorem dX1_ask_68 : decode cX1_ask 68 = .ok (.iload 6, 2) := dk_21 6 (dk_at dksX1_ask_2 20 rfl rfl)
theorem dX1_ask_70 : decode cX1_ask 70 = .ok (.isub, 1) := dk_100 (dk_at dksX1_ask_2 22 rfl rfl)
theorem dX1_ask_71 : decode cX1_ask 71 = .ok (.invokestatic 471, 3) := dk_184 1 215 (dk_at dksX1_ask_3 0 rfl rfl)
theorem dX1_ask_74 : decode cX1_ask 74 = .ok (.istore 7, 2) := dk_54 7 (dk_at dksX1_ask_3 3 rfl rfl)
theorem dX1_ask_76 : decode cX1_ask 76 = .ok (.iload 7, 2) := dk_21 7 (dk_at dksX1_ask_3 5 rfl rfl)
theorem dX1_ask_78 : decode cX1_ask 78 = .ok (.iload 4, 2) := dk_21 4 (dk_at dksX1_ask_3 7 rfl rfl)
theorem dX1_ask_80 : decode cX1_ask 80 = .ok (.if_icmp .lt 6, 3) := dk_161 0 6 (dk_at dksX1_ask_3 9 rfl rfl)
theorem dX1_ask_83 : decode cX1_ask 83 = .ok (.goto 10, 3) := dk_167 0 10 (dk_at dksX1_ask_3 12 rfl rfl)
theorem dX1_ask_86 : decode cX1_ask 86 = .ok (.iload 5, 2) := dk_21 5 (dk_at dksX1_ask_3 15 rfl rfl)
theorem dX1_ask_88 : decode cX1_ask 88 = .ok (.istore_n 3, 1) := dk_62 (dk_at dksX1_ask_3 17 rfl rfl)
theorem dX1_ask_89 : decode cX1_ask 89 = .ok (.iload 7, 2) := dk_21 7 (dk_at dksX1_ask_3 18 rfl rfl)
theorem dX1_ask_91 : decode cX1_ask 91 = .ok (.istore 4, 2) := dk_54 4 (dk_at dksX1_ask_3 20 rfl rfl)
theorem dX1_ask_93 : decode cX1_ask 93 = .ok (.iinc 5 1, 3) := dk_132 5 1 (dk_at dksX1_ask_4 0 rfl rfl)
theorem dX1_ask_96 : decode cX1_ask 96 = .ok (.goto (-63), 3) := dk_167 255 193 (dk_at dksX1_ask_4 3 rfl rfl)
theorem dX1_ask_99 : decode cX1_ask 99 = .ok (.iload_n 3, 1) := dk_29 (dk_at dksX1_ask_4 6 rfl rfl)
theorem dX1_ask_100 : decode cX1_ask 100 = .ok (.ireturn, 1) := dk_172 (dk_at dksX1_ask_4 7 rfl rfl)
abbrev cX1_bored : ByteArray := prog_1_method_87_code
def yX1_bored : MethodName := ⟨RX1, "bored", "(Z)I"⟩
def dkwX1_bored_2 : List UInt8 := [153, 0, 7, 29, 167, 0, 4, 28, 172]
abbrev dktX1_bored_2 : List UInt8 := dkwX1_bored_2 ++ []
def dkwX1_bored_1 : List UInt8 := [182, 2, 22, 154, 0, 6, 167, 0, 9, 132, 2, 1, 21, 4, 62, 132, 4, 255, 167, 255, 230, 27]
abbrev dktX1_bored_1 : List UInt8 := dkwX1_bored_1 ++ dktX1_bored_2
def dkwX1_bored_0 : List UInt8 := [42, 16, 52, 182, 2, 16, 3, 61, 2, 62, 16, 51, 54, 4, 21, 4, 155, 0, 27, 42, 21, 4]
abbrev dktX1_bored_0 : List UInt8 := dkwX1_bored_0 ++ dktX1_bored_1
theorem dksX1_bored_0 : cX1_bored.data.toList.drop 0 = dktX1_bored_0 := by decide +kernel
theorem dksX1_bored_1 : cX1_bored.data.toList.drop 22 = dktX1_bored_1 := dk_seg dksX1_bored_0 22 rfl rfl
theorem dksX1_bored_2 : cX1_bored.data.toList.drop 44 = dktX1_bored_2 := dk_seg dksX1_bored_1 22 rfl rfl
theorem dX1_bored_0 : decode cX1_bored 0 = .ok (.aload_n 0, 1) := dk_42 (dk_at dksX1_bored_0 0 rfl rfl)
theorem dX1_bored_1 : decode cX1_bored 1 = .ok (.bipush 52, 2) := dk_16 52 (dk_at dksX1_bored_0 1 rfl rfl)
theorem dX1_bored_3 : decode cX1_bored 3 = .ok (.invokevirtual 528, 3) := dk_182 2 16 (dk_at dksX1_bored_0 3 rfl rfl)
theorem dX1_bored_6 : decode cX1_bored 6 = .ok (.iconst 0, 1) := dk_3 (dk_at dksX1_bored_0 6 rfl rfl)
theorem dX1_bored_7 : decode cX1_bored 7 = .ok (.istore_n 2, 1) := dk_61 (dk_at dksX1_bored_0 7 rfl rfl)
theorem dX1_bored_8 : decode cX1_bored 8 = .ok (.iconst (-1), 1) := dk_2 (dk_at dksX1_bored_0 8 rfl rfl)
theorem dX1_bored_9 : decode cX1_bored 9 = .ok (.istore_n 3, 1) := dk_62 (dk_at dksX1_bored_0 9 rfl rfl)
theorem dX1_bored_10 : decode cX1_bored 10 = .ok (.bipush 51, 2) := dk_16 51 (dk_at dksX1_bored_0 10 rfl rfl)
theorem dX1_bored_12 : decode cX1_bored 12 = .ok (.istore 4, 2) := dk_54 4 (dk_at dksX1_bored_0 12 rfl rfl)
theorem dX1_bored_14 : decode cX1_bored 14 = .ok (.iload 4, 2) := dk_21 4 (dk_at dksX1_bored_0 14 rfl rfl)
theorem dX1_bored_16 : decode cX1_bored 16 = .ok (.ifCond .lt 27, 3) := dk_155 0 27 (dk_at dksX1_bored_0 16 rfl rfl)
theorem dX1_bored_19 : decode cX1_bored 19 = .ok (.aload_n 0, 1) := dk_42 (dk_at dksX1_bored_0 19 rfl rfl)
theorem dX1_bored_20 : decode cX1_bored 20 = .ok (.iload 4, 2) := dk_21 4 (dk_at dksX1_bored_0 20 rfl rfl)
theorem dX1_bored_22 : decode cX1_bored 22 = .ok (.invokevirtual 534, 3) := dk_182 2 22 (dk_at dksX1_bored_1 0 rfl rfl)
theorem dX1_bored_25 : decode cX1_bored 25 = .ok (.ifCond .ne 6, 3) := dk_154 0 6 (dk_at dksX1_bored_1 3 rfl rfl)
theorem dX1_bored_28 : decode cX1_bored 28 = .ok (.goto 9, 3) := dk_167 0 9 (dk_at dksX1_bored_1 6 rfl rfl)
theorem dX1_bored_31 : decode cX1_bored 31 = .ok (.iinc 2 1, 3) := dk_132 2 1 (dk_at dksX1_bored_1 9 rfl rfl)
theorem dX1_bored_34 : decode cX1_bored 34 = .ok (.iload 4, 2) := dk_21 4 (dk_at dksX1_bored_1 12 rfl rfl)
theorem dX1_bored_36 : decode cX1_bored 36 = .ok (.istore_n 3, 1) := dk_62 (dk_at dksX1_bored_1 14 rfl rfl)
theorem dX1_bored_37 : decode cX1_bored 37 = .ok (.iinc 4 (-1), 3) := dk_132 4 255 (dk_at dksX1_bored_1 15 rfl rfl)
theorem dX1_bored_40 : decode cX1_bored 40 = .ok (.goto (-26), 3) := dk_167 255 230 (dk_at dksX1_bored_1 18 rfl rfl)
theorem dX1_bored_43 : decode cX1_bored 43 = .ok (.iload_n 1, 1) := dk_27 (dk_at dksX1_bored_1 21 rfl rfl)
theorem dX1_bored_44 : decode cX1_bored 44 = .ok (.ifCond .eq 7, 3) := dk_153 0 7 (dk_at dksX1_bored_2 0 rfl rfl)
theorem dX1_bored_47 : decode cX1_bored 47 = .ok (.iload_n 3, 1) := dk_29 (dk_at dksX1_bored_2 3 rfl rfl)
theorem dX1_bored_48 : decode cX1_bored 48 = .ok (.goto 4, 3) := dk_167 0 4 (dk_at dksX1_bored_2 4 rfl rfl)
theorem dX1_bored_51 : decode cX1_bored 51 = .ok (.iload_n 2, 1) := dk_28 (dk_at dksX1_bored_2 7 rfl rfl)
theorem dX1_bored_52 : decode cX1_bored 52 = .ok (.ireturn, 1) := dk_172 (dk_at dksX1_bored_2 8 rfl rfl)
abbrev cX1_isWeek : ByteArray := prog_1_method_86_code
def yX1_isWeek : MethodName := ⟨RX1, "isWeek", "(I)Z"⟩
def dkwX1_isWeek_2 : List UInt8 := [3, 159, 0, 5, 3, 172, 132, 3, 2, 167, 255, 208, 4, 172]
abbrev dktX1_isWeek_2 : List UInt8 := dkwX1_isWeek_2 ++ []
def dkwX1_isWeek_1 : List UInt8 := [161, 0, 7, 4, 167, 0, 4, 3, 44, 180, 2, 9, 29, 4, 96, 51, 4, 160, 0, 7, 4, 167, 0, 4]
abbrev dktX1_isWeek_1 : List UInt8 := dkwX1_isWeek_1 ++ dktX1_isWeek_2
def dkwX1_isWeek_0 : List UInt8 := [42, 180, 0, 25, 77, 3, 62, 29, 44, 180, 2, 6, 162, 0, 46, 44, 180, 2, 9, 29, 51, 27]
abbrev dktX1_isWeek_0 : List UInt8 := dkwX1_isWeek_0 ++ dktX1_isWeek_1
theorem dksX1_isWeek_0 : cX1_isWeek.data.toList.drop 0 = dktX1_isWeek_0 := by decide +kernel
theorem dksX1_isWeek_1 : cX1_isWeek.data.toList.drop 22 = dktX1_isWeek_1 := dk_seg dksX1_isWeek_0 22 rfl rfl
theorem dksX1_isWeek_2 : cX1_isWeek.data.toList.drop 46 = dktX1_isWeek_2 := dk_seg dksX1_isWeek_1 24 rfl rfl
theorem dX1_isWeek_0 : decode cX1_isWeek 0 = .ok (.aload_n 0, 1) := dk_42 (dk_at dksX1_isWeek_0 0 rfl rfl)
theorem dX1_isWeek_1 : decode cX1_isWeek 1 = .ok (.getfield 25, 3) := dk_180 0 25 (dk_at dksX1_isWeek_0 1 rfl rfl)
theorem dX1_isWeek_4 : decode cX1_isWeek 4 = .ok (.astore_n 2, 1) := dk_77 (dk_at dksX1_isWeek_0 4 rfl rfl)
theorem dX1_isWeek_5 : decode cX1_isWeek 5 = .ok (.iconst 0, 1) := dk_3 (dk_at dksX1_isWeek_0 5 rfl rfl)
theorem dX1_isWeek_6 : decode cX1_isWeek 6 = .ok (.istore_n 3, 1) := dk_62 (dk_at dksX1_isWeek_0 6 rfl rfl)
theorem dX1_isWeek_7 : decode cX1_isWeek 7 = .ok (.iload_n 3, 1) := dk_29 (dk_at dksX1_isWeek_0 7 rfl rfl)
theorem dX1_isWeek_8 : decode cX1_isWeek 8 = .ok (.aload_n 2, 1) := dk_44 (dk_at dksX1_isWeek_0 8 rfl rfl)
theorem dX1_isWeek_9 : decode cX1_isWeek 9 = .ok (.getfield 518, 3) := dk_180 2 6 (dk_at dksX1_isWeek_0 9 rfl rfl)
theorem dX1_isWeek_12 : decode cX1_isWeek 12 = .ok (.if_icmp .ge 46, 3) := dk_162 0 46 (dk_at dksX1_isWeek_0 12 rfl rfl)
theorem dX1_isWeek_15 : decode cX1_isWeek 15 = .ok (.aload_n 2, 1) := dk_44 (dk_at dksX1_isWeek_0 15 rfl rfl)
theorem dX1_isWeek_16 : decode cX1_isWeek 16 = .ok (.getfield 521, 3) := dk_180 2 9 (dk_at dksX1_isWeek_0 16 rfl rfl)
theorem dX1_isWeek_19 : decode cX1_isWeek 19 = .ok (.iload_n 3, 1) := dk_29 (dk_at dksX1_isWeek_0 19 rfl rfl)
theorem dX1_isWeek_20 : decode cX1_isWeek 20 = .ok (.baload, 1) := dk_51 (dk_at dksX1_isWeek_0 20 rfl rfl)
theorem dX1_isWeek_21 : decode cX1_isWeek 21 = .ok (.iload_n 1, 1) := dk_27 (dk_at dksX1_isWeek_0 21 rfl rfl)
theorem dX1_isWeek_22 : decode cX1_isWeek 22 = .ok (.if_icmp .lt 7, 3) := dk_161 0 7 (dk_at dksX1_isWeek_1 0 rfl rfl)
theorem dX1_isWeek_25 : decode cX1_isWeek 25 = .ok (.iconst 1, 1) := dk_4 (dk_at dksX1_isWeek_1 3 rfl rfl)
theorem dX1_isWeek_26 : decode cX1_isWeek 26 = .ok (.goto 4, 3) := dk_167 0 4 (dk_at dksX1_isWeek_1 4 rfl rfl)
theorem dX1_isWeek_29 : decode cX1_isWeek 29 = .ok (.iconst 0, 1) := dk_3 (dk_at dksX1_isWeek_1 7 rfl rfl)
theorem dX1_isWeek_30 : decode cX1_isWeek 30 = .ok (.aload_n 2, 1) := dk_44 (dk_at dksX1_isWeek_1 8 rfl rfl)
theorem dX1_isWeek_31 : decode cX1_isWeek 31 = .ok (.getfield 521, 3) := dk_180 2 9 (dk_at dksX1_isWeek_1 9 rfl rfl)
theorem dX1_isWeek_34 : decode cX1_isWeek 34 = .ok (.iload_n 3, 1) := dk_29 (dk_at dksX1_isWeek_1 12 rfl rfl)
theorem dX1_isWeek_35 : decode cX1_isWeek 35 = .ok (.iconst 1, 1) := dk_4 (dk_at dksX1_isWeek_1 13 rfl rfl)
theorem dX1_isWeek_36 : decode cX1_isWeek 36 = .ok (.iadd, 1) := dk_96 (dk_at dksX1_isWeek_1 14 rfl rfl)
theorem dX1_isWeek_37 : decode cX1_isWeek 37 = .ok (.baload, 1) := dk_51 (dk_at dksX1_isWeek_1 15 rfl rfl)
theorem dX1_isWeek_38 : decode cX1_isWeek 38 = .ok (.iconst 1, 1) := dk_4 (dk_at dksX1_isWeek_1 16 rfl rfl)
theorem dX1_isWeek_39 : decode cX1_isWeek 39 = .ok (.if_icmp .ne 7, 3) := dk_160 0 7 (dk_at dksX1_isWeek_1 17 rfl rfl)
theorem dX1_isWeek_42 : decode cX1_isWeek 42 = .ok (.iconst 1, 1) := dk_4 (dk_at dksX1_isWeek_1 20 rfl rfl)
theorem dX1_isWeek_43 : decode cX1_isWeek 43 = .ok (.goto 4, 3) := dk_167 0 4 (dk_at dksX1_isWeek_1 21 rfl rfl)
theorem dX1_isWeek_46 : decode cX1_isWeek 46 = .ok (.iconst 0, 1) := dk_3 (dk_at dksX1_isWeek_2 0 rfl rfl)
theorem dX1_isWeek_47 : decode cX1_isWeek 47 = .ok (.if_icmp .eq 5, 3) := dk_159 0 5 (dk_at dksX1_isWeek_2 1 rfl rfl)
theorem dX1_isWeek_50 : decode cX1_isWeek 50 = .ok (.iconst 0, 1) := dk_3 (dk_at dksX1_isWeek_2 4 rfl rfl)
theorem dX1_isWeek_51 : decode cX1_isWeek 51 = .ok (.ireturn, 1) := dk_172 (dk_at dksX1_isWeek_2 5 rfl rfl)
theorem dX1_isWeek_52 : decode cX1_isWeek 52 = .ok (.iinc 3 2, 3) := dk_132 3 2 (dk_at dksX1_isWeek_2 6 rfl rfl)
theorem dX1_isWeek_55 : decode cX1_isWeek 55 = .ok (.goto (-48), 3) := dk_167 255 208 (dk_at dksX1_isWeek_2 9 rfl rfl)
theorem dX1_isWeek_58 : decode cX1_isWeek 58 = .ok (.iconst 1, 1) := dk_4 (dk_at dksX1_isWeek_2 12 rfl rfl)
theorem dX1_isWeek_59 : decode cX1_isWeek 59 = .ok (.ireturn, 1) := dk_172 (dk_at dksX1_isWeek_2 13 rfl rfl)
abbrev cX1_look : ByteArray := prog_1_method_88_code
def yX1_look : MethodName := ⟨RX1, "look", "()I"⟩
def dkwX1_look_5 : List UInt8 := [172]
abbrev dktX1_look_5 : List UInt8 := dkwX1_look_5 ++ []
def dkwX1_look_4 : List UInt8 := [54, 6, 21, 6, 29, 161, 0, 6, 167, 0, 9, 21, 5, 61, 21, 6, 62, 132, 5, 1, 167, 255, 201, 28]
abbrev dktX1_look_4 : List UInt8 := dkwX1_look_4 ++ dktX1_look_5
def dkwX1_look_3 : List UInt8 := [182, 2, 22, 153, 0, 7, 4, 167, 0, 4, 3, 96, 54, 4, 21, 4, 27, 21, 4, 100, 184, 1, 215]
abbrev dktX1_look_3 : List UInt8 := dkwX1_look_3 ++ dktX1_look_4
def dkwX1_look_2 : List UInt8 := [61, 17, 3, 231, 62, 3, 54, 4, 3, 54, 5, 21, 5, 16, 52, 162, 0, 54, 21, 4, 42, 21, 5]
abbrev dktX1_look_2 : List UInt8 := dkwX1_look_2 ++ dktX1_look_3
def dkwX1_look_1 : List UInt8 := [153, 0, 7, 4, 167, 0, 4, 3, 96, 60, 132, 2, 1, 167, 255, 231, 27, 5, 162, 0, 5, 2, 172, 2]
abbrev dktX1_look_1 : List UInt8 := dkwX1_look_1 ++ dktX1_look_2
def dkwX1_look_0 : List UInt8 := [42, 16, 52, 182, 2, 16, 3, 60, 3, 61, 28, 16, 52, 162, 0, 25, 27, 42, 28, 182, 2, 22]
abbrev dktX1_look_0 : List UInt8 := dkwX1_look_0 ++ dktX1_look_1
theorem dksX1_look_0 : cX1_look.data.toList.drop 0 = dktX1_look_0 := by decide +kernel
theorem dksX1_look_1 : cX1_look.data.toList.drop 22 = dktX1_look_1 := dk_seg dksX1_look_0 22 rfl rfl
theorem dksX1_look_2 : cX1_look.data.toList.drop 46 = dktX1_look_2 := dk_seg dksX1_look_1 24 rfl rfl
theorem dksX1_look_3 : cX1_look.data.toList.drop 69 = dktX1_look_3 := dk_seg dksX1_look_2 23 rfl rfl
theorem dksX1_look_4 : cX1_look.data.toList.drop 92 = dktX1_look_4 := dk_seg dksX1_look_3 23 rfl rfl
theorem dksX1_look_5 : cX1_look.data.toList.drop 116 = dktX1_look_5 := dk_seg dksX1_look_4 24 rfl rfl
theorem dX1_look_0 : decode cX1_look 0 = .ok (.aload_n 0, 1) := dk_42 (dk_at dksX1_look_0 0 rfl rfl)
theorem dX1_look_1 : decode cX1_look 1 = .ok (.bipush 52, 2) := dk_16 52 (dk_at dksX1_look_0 1 rfl rfl)
theorem dX1_look_3 : decode cX1_look 3 = .ok (.invokevirtual 528, 3) := dk_182 2 16 (dk_at dksX1_look_0 3 rfl rfl)
theorem dX1_look_6 : decode cX1_look 6 = .ok (.iconst 0, 1) := dk_3 (dk_at dksX1_look_0 6 rfl rfl)
theorem dX1_look_7 : decode cX1_look 7 = .ok (.istore_n 1, 1) := dk_60 (dk_at dksX1_look_0 7 rfl rfl)
theorem dX1_look_8 : decode cX1_look 8 = .ok (.iconst 0, 1) := dk_3 (dk_at dksX1_look_0 8 rfl rfl)
theorem dX1_look_9 : decode cX1_look 9 = .ok (.istore_n 2, 1) := dk_61 (dk_at dksX1_look_0 9 rfl rfl)
theorem dX1_look_10 : decode cX1_look 10 = .ok (.iload_n 2, 1) := dk_28 (dk_at dksX1_look_0 10 rfl rfl)
theorem dX1_look_11 : decode cX1_look 11 = .ok (.bipush 52, 2) := dk_16 52 (dk_at dksX1_look_0 11 rfl rfl)
theorem dX1_look_13 : decode cX1_look 13 = .ok (.if_icmp .ge 25, 3) := dk_162 0 25 (dk_at dksX1_look_0 13 rfl rfl)
theorem dX1_look_16 : decode cX1_look 16 = .ok (.iload_n 1, 1) := dk_27 (dk_at dksX1_look_0 16 rfl rfl)
theorem dX1_look_17 : decode cX1_look 17 = .ok (.aload_n 0, 1) := dk_42 (dk_at dksX1_look_0 17 rfl rfl)
theorem dX1_look_18 : decode cX1_look 18 = .ok (.iload_n 2, 1) := dk_28 (dk_at dksX1_look_0 18 rfl rfl)
theorem dX1_look_19 : decode cX1_look 19 = .ok (.invokevirtual 534, 3) := dk_182 2 22 (dk_at dksX1_look_0 19 rfl rfl)
theorem dX1_look_22 : decode cX1_look 22 = .ok (.ifCond .eq 7, 3) := dk_153 0 7 (dk_at dksX1_look_1 0 rfl rfl)
theorem dX1_look_25 : decode cX1_look 25 = .ok (.iconst 1, 1) := dk_4 (dk_at dksX1_look_1 3 rfl rfl)
theorem dX1_look_26 : decode cX1_look 26 = .ok (.goto 4, 3) := dk_167 0 4 (dk_at dksX1_look_1 4 rfl rfl)
theorem dX1_look_29 : decode cX1_look 29 = .ok (.iconst 0, 1) := dk_3 (dk_at dksX1_look_1 7 rfl rfl)
theorem dX1_look_30 : decode cX1_look 30 = .ok (.iadd, 1) := dk_96 (dk_at dksX1_look_1 8 rfl rfl)
theorem dX1_look_31 : decode cX1_look 31 = .ok (.istore_n 1, 1) := dk_60 (dk_at dksX1_look_1 9 rfl rfl)
theorem dX1_look_32 : decode cX1_look 32 = .ok (.iinc 2 1, 3) := dk_132 2 1 (dk_at dksX1_look_1 10 rfl rfl)
theorem dX1_look_35 : decode cX1_look 35 = .ok (.goto (-25), 3) := dk_167 255 231 (dk_at dksX1_look_1 13 rfl rfl)
theorem dX1_look_38 : decode cX1_look 38 = .ok (.iload_n 1, 1) := dk_27 (dk_at dksX1_look_1 16 rfl rfl)
theorem dX1_look_39 : decode cX1_look 39 = .ok (.iconst 2, 1) := dk_5 (dk_at dksX1_look_1 17 rfl rfl)
theorem dX1_look_40 : decode cX1_look 40 = .ok (.if_icmp .ge 5, 3) := dk_162 0 5 (dk_at dksX1_look_1 18 rfl rfl)
theorem dX1_look_43 : decode cX1_look 43 = .ok (.iconst (-1), 1) := dk_2 (dk_at dksX1_look_1 21 rfl rfl)
theorem dX1_look_44 : decode cX1_look 44 = .ok (.ireturn, 1) := dk_172 (dk_at dksX1_look_1 22 rfl rfl)
theorem dX1_look_45 : decode cX1_look 45 = .ok (.iconst (-1), 1) := dk_2 (dk_at dksX1_look_1 23 rfl rfl)
theorem dX1_look_46 : decode cX1_look 46 = .ok (.istore_n 2, 1) := dk_61 (dk_at dksX1_look_2 0 rfl rfl)
theorem dX1_look_47 : decode cX1_look 47 = .ok (.sipush 999, 3) := dk_17 3 231 (dk_at dksX1_look_2 1 rfl rfl)
theorem dX1_look_50 : decode cX1_look 50 = .ok (.istore_n 3, 1) := dk_62 (dk_at dksX1_look_2 4 rfl rfl)
theorem dX1_look_51 : decode cX1_look 51 = .ok (.iconst 0, 1) := dk_3 (dk_at dksX1_look_2 5 rfl rfl)
theorem dX1_look_52 : decode cX1_look 52 = .ok (.istore 4, 2) := dk_54 4 (dk_at dksX1_look_2 6 rfl rfl)
theorem dX1_look_54 : decode cX1_look 54 = .ok (.iconst 0, 1) := dk_3 (dk_at dksX1_look_2 8 rfl rfl)
theorem dX1_look_55 : decode cX1_look 55 = .ok (.istore 5, 2) := dk_54 5 (dk_at dksX1_look_2 9 rfl rfl)
theorem dX1_look_57 : decode cX1_look 57 = .ok (.iload 5, 2) := dk_21 5 (dk_at dksX1_look_2 11 rfl rfl)
theorem dX1_look_59 : decode cX1_look 59 = .ok (.bipush 52, 2) := dk_16 52 (dk_at dksX1_look_2 13 rfl rfl)
theorem dX1_look_61 : decode cX1_look 61 = .ok (.if_icmp .ge 54, 3) := dk_162 0 54 (dk_at dksX1_look_2 15 rfl rfl)
theorem dX1_look_64 : decode cX1_look 64 = .ok (.iload 4, 2) := dk_21 4 (dk_at dksX1_look_2 18 rfl rfl)
theorem dX1_look_66 : decode cX1_look 66 = .ok (.aload_n 0, 1) := dk_42 (dk_at dksX1_look_2 20 rfl rfl)
theorem dX1_look_67 : decode cX1_look 67 = .ok (.iload 5, 2) := dk_21 5 (dk_at dksX1_look_2 21 rfl rfl)
theorem dX1_look_69 : decode cX1_look 69 = .ok (.invokevirtual 534, 3) := dk_182 2 22 (dk_at dksX1_look_3 0 rfl rfl)
theorem dX1_look_72 : decode cX1_look 72 = .ok (.ifCond .eq 7, 3) := dk_153 0 7 (dk_at dksX1_look_3 3 rfl rfl)
theorem dX1_look_75 : decode cX1_look 75 = .ok (.iconst 1, 1) := dk_4 (dk_at dksX1_look_3 6 rfl rfl)
theorem dX1_look_76 : decode cX1_look 76 = .ok (.goto 4, 3) := dk_167 0 4 (dk_at dksX1_look_3 7 rfl rfl)
theorem dX1_look_79 : decode cX1_look 79 = .ok (.iconst 0, 1) := dk_3 (dk_at dksX1_look_3 10 rfl rfl)
theorem dX1_look_80 : decode cX1_look 80 = .ok (.iadd, 1) := dk_96 (dk_at dksX1_look_3 11 rfl rfl)
theorem dX1_look_81 : decode cX1_look 81 = .ok (.istore 4, 2) := dk_54 4 (dk_at dksX1_look_3 12 rfl rfl)
theorem dX1_look_83 : decode cX1_look 83 = .ok (.iload 4, 2) := dk_21 4 (dk_at dksX1_look_3 14 rfl rfl)
theorem dX1_look_85 : decode cX1_look 85 = .ok (.iload_n 1, 1) := dk_27 (dk_at dksX1_look_3 16 rfl rfl)
theorem dX1_look_86 : decode cX1_look 86 = .ok (.iload 4, 2) := dk_21 4 (dk_at dksX1_look_3 17 rfl rfl)
theorem dX1_look_88 : decode cX1_look 88 = .ok (.isub, 1) := dk_100 (dk_at dksX1_look_3 19 rfl rfl)
theorem dX1_look_89 : decode cX1_look 89 = .ok (.invokestatic 471, 3) := dk_184 1 215 (dk_at dksX1_look_3 20 rfl rfl)
theorem dX1_look_92 : decode cX1_look 92 = .ok (.istore 6, 2) := dk_54 6 (dk_at dksX1_look_4 0 rfl rfl)
theorem dX1_look_94 : decode cX1_look 94 = .ok (.iload 6, 2) := dk_21 6 (dk_at dksX1_look_4 2 rfl rfl)
theorem dX1_look_96 : decode cX1_look 96 = .ok (.iload_n 3, 1) := dk_29 (dk_at dksX1_look_4 4 rfl rfl)
theorem dX1_look_97 : decode cX1_look 97 = .ok (.if_icmp .lt 6, 3) := dk_161 0 6 (dk_at dksX1_look_4 5 rfl rfl)
theorem dX1_look_100 : decode cX1_look 100 = .ok (.goto 9, 3) := dk_167 0 9 (dk_at dksX1_look_4 8 rfl rfl)
theorem dX1_look_103 : decode cX1_look 103 = .ok (.iload 5, 2) := dk_21 5 (dk_at dksX1_look_4 11 rfl rfl)
theorem dX1_look_105 : decode cX1_look 105 = .ok (.istore_n 2, 1) := dk_61 (dk_at dksX1_look_4 13 rfl rfl)
theorem dX1_look_106 : decode cX1_look 106 = .ok (.iload 6, 2) := dk_21 6 (dk_at dksX1_look_4 14 rfl rfl)
theorem dX1_look_108 : decode cX1_look 108 = .ok (.istore_n 3, 1) := dk_62 (dk_at dksX1_look_4 16 rfl rfl)
theorem dX1_look_109 : decode cX1_look 109 = .ok (.iinc 5 1, 3) := dk_132 5 1 (dk_at dksX1_look_4 17 rfl rfl)
theorem dX1_look_112 : decode cX1_look 112 = .ok (.goto (-55), 3) := dk_167 255 201 (dk_at dksX1_look_4 20 rfl rfl)
theorem dX1_look_115 : decode cX1_look 115 = .ok (.iload_n 2, 1) := dk_28 (dk_at dksX1_look_4 23 rfl rfl)
theorem dX1_look_116 : decode cX1_look 116 = .ok (.ireturn, 1) := dk_172 (dk_at dksX1_look_5 0 rfl rfl)
abbrev cX1_line : ByteArray := prog_1_method_91_code
def yX1_line : MethodName := ⟨RX1, "line", "(II)I"⟩
def dkwX1_line_3 : List UInt8 := [54, 5, 132, 6, 1, 167, 255, 218, 21, 5, 62, 132, 4, 1, 167, 255, 185, 2, 172]
abbrev dktX1_line_3 : List UInt8 := dkwX1_line_3 ++ []
def dkwX1_line_2 : List UInt8 := [29, 21, 6, 184, 1, 118, 153, 0, 16, 42, 180, 0, 10, 180, 0, 129, 21, 6, 46, 167, 0, 4, 3, 128]
abbrev dktX1_line_2 : List UInt8 := dkwX1_line_2 ++ dktX1_line_3
def dkwX1_line_1 : List UInt8 := [184, 1, 118, 153, 0, 6, 21, 4, 172, 29, 54, 5, 3, 54, 6, 21, 6, 16, 8, 162, 0, 37, 21, 5]
abbrev dktX1_line_1 : List UInt8 := dkwX1_line_1 ++ dktX1_line_2
def dkwX1_line_0 : List UInt8 := [27, 184, 1, 175, 28, 184, 1, 175, 4, 27, 120, 62, 3, 54, 4, 21, 4, 16, 8, 162, 0, 70, 29, 28]
abbrev dktX1_line_0 : List UInt8 := dkwX1_line_0 ++ dktX1_line_1
theorem dksX1_line_0 : cX1_line.data.toList.drop 0 = dktX1_line_0 := by decide +kernel
theorem dksX1_line_1 : cX1_line.data.toList.drop 24 = dktX1_line_1 := dk_seg dksX1_line_0 24 rfl rfl
theorem dksX1_line_2 : cX1_line.data.toList.drop 48 = dktX1_line_2 := dk_seg dksX1_line_1 24 rfl rfl
theorem dksX1_line_3 : cX1_line.data.toList.drop 72 = dktX1_line_3 := dk_seg dksX1_line_2 24 rfl rfl
theorem dX1_line_0 : decode cX1_line 0 = .ok (.iload_n 1, 1) := dk_27 (dk_at dksX1_line_0 0 rfl rfl)
theorem dX1_line_1 : decode cX1_line 1 = .ok (.invokestatic 431, 3) := dk_184 1 175 (dk_at dksX1_line_0 1 rfl rfl)
theorem dX1_line_4 : decode cX1_line 4 = .ok (.iload_n 2, 1) := dk_28 (dk_at dksX1_line_0 4 rfl rfl)
theorem dX1_line_5 : decode cX1_line 5 = .ok (.invokestatic 431, 3) := dk_184 1 175 (dk_at dksX1_line_0 5 rfl rfl)
theorem dX1_line_8 : decode cX1_line 8 = .ok (.iconst 1, 1) := dk_4 (dk_at dksX1_line_0 8 rfl rfl)
theorem dX1_line_9 : decode cX1_line 9 = .ok (.iload_n 1, 1) := dk_27 (dk_at dksX1_line_0 9 rfl rfl)
theorem dX1_line_10 : decode cX1_line 10 = .ok (.ishl, 1) := dk_120 (dk_at dksX1_line_0 10 rfl rfl)
theorem dX1_line_11 : decode cX1_line 11 = .ok (.istore_n 3, 1) := dk_62 (dk_at dksX1_line_0 11 rfl rfl)
theorem dX1_line_12 : decode cX1_line 12 = .ok (.iconst 0, 1) := dk_3 (dk_at dksX1_line_0 12 rfl rfl)
theorem dX1_line_13 : decode cX1_line 13 = .ok (.istore 4, 2) := dk_54 4 (dk_at dksX1_line_0 13 rfl rfl)
theorem dX1_line_15 : decode cX1_line 15 = .ok (.iload 4, 2) := dk_21 4 (dk_at dksX1_line_0 15 rfl rfl)
theorem dX1_line_17 : decode cX1_line 17 = .ok (.bipush 8, 2) := dk_16 8 (dk_at dksX1_line_0 17 rfl rfl)
theorem dX1_line_19 : decode cX1_line 19 = .ok (.if_icmp .ge 70, 3) := dk_162 0 70 (dk_at dksX1_line_0 19 rfl rfl)
theorem dX1_line_22 : decode cX1_line 22 = .ok (.iload_n 3, 1) := dk_29 (dk_at dksX1_line_0 22 rfl rfl)
theorem dX1_line_23 : decode cX1_line 23 = .ok (.iload_n 2, 1) := dk_28 (dk_at dksX1_line_0 23 rfl rfl)
theorem dX1_line_24 : decode cX1_line 24 = .ok (.invokestatic 374, 3) := dk_184 1 118 (dk_at dksX1_line_1 0 rfl rfl)
theorem dX1_line_27 : decode cX1_line 27 = .ok (.ifCond .eq 6, 3) := dk_153 0 6 (dk_at dksX1_line_1 3 rfl rfl)
theorem dX1_line_30 : decode cX1_line 30 = .ok (.iload 4, 2) := dk_21 4 (dk_at dksX1_line_1 6 rfl rfl)
theorem dX1_line_32 : decode cX1_line 32 = .ok (.ireturn, 1) := dk_172 (dk_at dksX1_line_1 8 rfl rfl)
theorem dX1_line_33 : decode cX1_line 33 = .ok (.iload_n 3, 1) := dk_29 (dk_at dksX1_line_1 9 rfl rfl)
theorem dX1_line_34 : decode cX1_line 34 = .ok (.istore 5, 2) := dk_54 5 (dk_at dksX1_line_1 10 rfl rfl)
theorem dX1_line_36 : decode cX1_line 36 = .ok (.iconst 0, 1) := dk_3 (dk_at dksX1_line_1 12 rfl rfl)
theorem dX1_line_37 : decode cX1_line 37 = .ok (.istore 6, 2) := dk_54 6 (dk_at dksX1_line_1 13 rfl rfl)
theorem dX1_line_39 : decode cX1_line 39 = .ok (.iload 6, 2) := dk_21 6 (dk_at dksX1_line_1 15 rfl rfl)
theorem dX1_line_41 : decode cX1_line 41 = .ok (.bipush 8, 2) := dk_16 8 (dk_at dksX1_line_1 17 rfl rfl)
theorem dX1_line_43 : decode cX1_line 43 = .ok (.if_icmp .ge 37, 3) := dk_162 0 37 (dk_at dksX1_line_1 19 rfl rfl)
theorem dX1_line_46 : decode cX1_line 46 = .ok (.iload 5, 2) := dk_21 5 (dk_at dksX1_line_1 22 rfl rfl)
theorem dX1_line_48 : decode cX1_line 48 = .ok (.iload_n 3, 1) := dk_29 (dk_at dksX1_line_2 0 rfl rfl)
theorem dX1_line_49 : decode cX1_line 49 = .ok (.iload 6, 2) := dk_21 6 (dk_at dksX1_line_2 1 rfl rfl)
theorem dX1_line_51 : decode cX1_line 51 = .ok (.invokestatic 374, 3) := dk_184 1 118 (dk_at dksX1_line_2 3 rfl rfl)
theorem dX1_line_54 : decode cX1_line 54 = .ok (.ifCond .eq 16, 3) := dk_153 0 16 (dk_at dksX1_line_2 6 rfl rfl)
theorem dX1_line_57 : decode cX1_line 57 = .ok (.aload_n 0, 1) := dk_42 (dk_at dksX1_line_2 9 rfl rfl)
theorem dX1_line_58 : decode cX1_line 58 = .ok (.getfield 10, 3) := dk_180 0 10 (dk_at dksX1_line_2 10 rfl rfl)
theorem dX1_line_61 : decode cX1_line 61 = .ok (.getfield 129, 3) := dk_180 0 129 (dk_at dksX1_line_2 13 rfl rfl)
theorem dX1_line_64 : decode cX1_line 64 = .ok (.iload 6, 2) := dk_21 6 (dk_at dksX1_line_2 16 rfl rfl)
theorem dX1_line_66 : decode cX1_line 66 = .ok (.iaload, 1) := dk_46 (dk_at dksX1_line_2 18 rfl rfl)
theorem dX1_line_67 : decode cX1_line 67 = .ok (.goto 4, 3) := dk_167 0 4 (dk_at dksX1_line_2 19 rfl rfl)
theorem dX1_line_70 : decode cX1_line 70 = .ok (.iconst 0, 1) := dk_3 (dk_at dksX1_line_2 22 rfl rfl)
theorem dX1_line_71 : decode cX1_line 71 = .ok (.ior, 1) := dk_128 (dk_at dksX1_line_2 23 rfl rfl)
theorem dX1_line_72 : decode cX1_line 72 = .ok (.istore 5, 2) := dk_54 5 (dk_at dksX1_line_3 0 rfl rfl)
theorem dX1_line_74 : decode cX1_line 74 = .ok (.iinc 6 1, 3) := dk_132 6 1 (dk_at dksX1_line_3 2 rfl rfl)
theorem dX1_line_77 : decode cX1_line 77 = .ok (.goto (-38), 3) := dk_167 255 218 (dk_at dksX1_line_3 5 rfl rfl)
theorem dX1_line_80 : decode cX1_line 80 = .ok (.iload 5, 2) := dk_21 5 (dk_at dksX1_line_3 8 rfl rfl)
theorem dX1_line_82 : decode cX1_line 82 = .ok (.istore_n 3, 1) := dk_62 (dk_at dksX1_line_3 10 rfl rfl)
theorem dX1_line_83 : decode cX1_line 83 = .ok (.iinc 4 1, 3) := dk_132 4 1 (dk_at dksX1_line_3 11 rfl rfl)
theorem dX1_line_86 : decode cX1_line 86 = .ok (.goto (-71), 3) := dk_167 255 185 (dk_at dksX1_line_3 14 rfl rfl)
theorem dX1_line_89 : decode cX1_line 89 = .ok (.iconst (-1), 1) := dk_2 (dk_at dksX1_line_3 17 rfl rfl)
theorem dX1_line_90 : decode cX1_line 90 = .ok (.ireturn, 1) := dk_172 (dk_at dksX1_line_3 18 rfl rfl)
abbrev cX1_pass : ByteArray := prog_1_method_94_code
def yX1_pass : MethodName := ⟨RX1, "pass", "(II)I"⟩
def dkwX1_pass_1 : List UInt8 := [184, 1, 200, 62, 29, 19, 1, 218, 161, 0, 7, 2, 167, 0, 4, 29, 172]
abbrev dktX1_pass_1 : List UInt8 := dkwX1_pass_1 ++ []
def dkwX1_pass_0 : List UInt8 := [27, 184, 1, 175, 28, 184, 1, 175, 42, 27, 28, 4, 182, 2, 25, 42, 27, 28, 16, 7, 182, 2, 25]
abbrev dktX1_pass_0 : List UInt8 := dkwX1_pass_0 ++ dktX1_pass_1
theorem dksX1_pass_0 : cX1_pass.data.toList.drop 0 = dktX1_pass_0 := by decide +kernel
theorem dksX1_pass_1 : cX1_pass.data.toList.drop 23 = dktX1_pass_1 := dk_seg dksX1_pass_0 23 rfl rfl
theorem dX1_pass_0 : decode cX1_pass 0 = .ok (.iload_n 1, 1) := dk_27 (dk_at dksX1_pass_0 0 rfl rfl)
theorem dX1_pass_1 : decode cX1_pass 1 = .ok (.invokestatic 431, 3) := dk_184 1 175 (dk_at dksX1_pass_0 1 rfl rfl)
theorem dX1_pass_4 : decode cX1_pass 4 = .ok (.iload_n 2, 1) := dk_28 (dk_at dksX1_pass_0 4 rfl rfl)
theorem dX1_pass_5 : decode cX1_pass 5 = .ok (.invokestatic 431, 3) := dk_184 1 175 (dk_at dksX1_pass_0 5 rfl rfl)
theorem dX1_pass_8 : decode cX1_pass 8 = .ok (.aload_n 0, 1) := dk_42 (dk_at dksX1_pass_0 8 rfl rfl)
theorem dX1_pass_9 : decode cX1_pass 9 = .ok (.iload_n 1, 1) := dk_27 (dk_at dksX1_pass_0 9 rfl rfl)
theorem dX1_pass_10 : decode cX1_pass 10 = .ok (.iload_n 2, 1) := dk_28 (dk_at dksX1_pass_0 10 rfl rfl)
theorem dX1_pass_11 : decode cX1_pass 11 = .ok (.iconst 1, 1) := dk_4 (dk_at dksX1_pass_0 11 rfl rfl)
theorem dX1_pass_12 : decode cX1_pass 12 = .ok (.invokevirtual 537, 3) := dk_182 2 25 (dk_at dksX1_pass_0 12 rfl rfl)
theorem dX1_pass_15 : decode cX1_pass 15 = .ok (.aload_n 0, 1) := dk_42 (dk_at dksX1_pass_0 15 rfl rfl)
theorem dX1_pass_16 : decode cX1_pass 16 = .ok (.iload_n 1, 1) := dk_27 (dk_at dksX1_pass_0 16 rfl rfl)
theorem dX1_pass_17 : decode cX1_pass 17 = .ok (.iload_n 2, 1) := dk_28 (dk_at dksX1_pass_0 17 rfl rfl)
theorem dX1_pass_18 : decode cX1_pass 18 = .ok (.bipush 7, 2) := dk_16 7 (dk_at dksX1_pass_0 18 rfl rfl)
theorem dX1_pass_20 : decode cX1_pass 20 = .ok (.invokevirtual 537, 3) := dk_182 2 25 (dk_at dksX1_pass_0 20 rfl rfl)
theorem dX1_pass_23 : decode cX1_pass 23 = .ok (.invokestatic 456, 3) := dk_184 1 200 (dk_at dksX1_pass_1 0 rfl rfl)
theorem dX1_pass_26 : decode cX1_pass 26 = .ok (.istore_n 3, 1) := dk_62 (dk_at dksX1_pass_1 3 rfl rfl)
theorem dX1_pass_27 : decode cX1_pass 27 = .ok (.iload_n 3, 1) := dk_29 (dk_at dksX1_pass_1 4 rfl rfl)
theorem dX1_pass_28 : decode cX1_pass 28 = .ok (.ldc_w 474, 3) := dk_19 1 218 (dk_at dksX1_pass_1 5 rfl rfl)
theorem dX1_pass_31 : decode cX1_pass 31 = .ok (.if_icmp .lt 7, 3) := dk_161 0 7 (dk_at dksX1_pass_1 8 rfl rfl)
theorem dX1_pass_34 : decode cX1_pass 34 = .ok (.iconst (-1), 1) := dk_2 (dk_at dksX1_pass_1 11 rfl rfl)
theorem dX1_pass_35 : decode cX1_pass 35 = .ok (.goto 4, 3) := dk_167 0 4 (dk_at dksX1_pass_1 12 rfl rfl)
theorem dX1_pass_38 : decode cX1_pass 38 = .ok (.iload_n 3, 1) := dk_29 (dk_at dksX1_pass_1 15 rfl rfl)
theorem dX1_pass_39 : decode cX1_pass 39 = .ok (.ireturn, 1) := dk_172 (dk_at dksX1_pass_1 16 rfl rfl)
abbrev cX1_stepsBy : ByteArray := prog_1_method_93_code
def yX1_stepsBy : MethodName := ⟨RX1, "stepsBy", "(III)I"⟩
def dkwX1_stepsBy_1 : List UInt8 := [180, 0, 10, 21, 5, 182, 1, 181, 153, 0, 7, 19, 1, 218, 172, 132, 4, 1, 167, 255, 222, 21, 4, 172]
abbrev dktX1_stepsBy_1 : List UInt8 := dkwX1_stepsBy_1 ++ []
def dkwX1_stepsBy_0 : List UInt8 := [3, 54, 4, 27, 54, 5, 21, 5, 28, 159, 0, 34, 21, 5, 29, 96, 16, 8, 112, 54, 5, 42]
abbrev dktX1_stepsBy_0 : List UInt8 := dkwX1_stepsBy_0 ++ dktX1_stepsBy_1
theorem dksX1_stepsBy_0 : cX1_stepsBy.data.toList.drop 0 = dktX1_stepsBy_0 := by decide +kernel
theorem dksX1_stepsBy_1 : cX1_stepsBy.data.toList.drop 22 = dktX1_stepsBy_1 := dk_seg dksX1_stepsBy_0 22 rfl rfl
theorem dX1_stepsBy_0 : decode cX1_stepsBy 0 = .ok (.iconst 0, 1) := dk_3 (dk_at dksX1_stepsBy_0 0 rfl rfl)
theorem dX1_stepsBy_1 : decode cX1_stepsBy 1 = .ok (.istore 4, 2) := dk_54 4 (dk_at dksX1_stepsBy_0 1 rfl rfl)
theorem dX1_stepsBy_3 : decode cX1_stepsBy 3 = .ok (.iload_n 1, 1) := dk_27 (dk_at dksX1_stepsBy_0 3 rfl rfl)
theorem dX1_stepsBy_4 : decode cX1_stepsBy 4 = .ok (.istore 5, 2) := dk_54 5 (dk_at dksX1_stepsBy_0 4 rfl rfl)
theorem dX1_stepsBy_6 : decode cX1_stepsBy 6 = .ok (.iload 5, 2) := dk_21 5 (dk_at dksX1_stepsBy_0 6 rfl rfl)
theorem dX1_stepsBy_8 : decode cX1_stepsBy 8 = .ok (.iload_n 2, 1) := dk_28 (dk_at dksX1_stepsBy_0 8 rfl rfl)
theorem dX1_stepsBy_9 : decode cX1_stepsBy 9 = .ok (.if_icmp .eq 34, 3) := dk_159 0 34 (dk_at dksX1_stepsBy_0 9 rfl rfl)
theorem dX1_stepsBy_12 : decode cX1_stepsBy 12 = .ok (.iload 5, 2) := dk_21 5 (dk_at dksX1_stepsBy_0 12 rfl rfl)
theorem dX1_stepsBy_14 : decode cX1_stepsBy 14 = .ok (.iload_n 3, 1) := dk_29 (dk_at dksX1_stepsBy_0 14 rfl rfl)
theorem dX1_stepsBy_15 : decode cX1_stepsBy 15 = .ok (.iadd, 1) := dk_96 (dk_at dksX1_stepsBy_0 15 rfl rfl)
theorem dX1_stepsBy_16 : decode cX1_stepsBy 16 = .ok (.bipush 8, 2) := dk_16 8 (dk_at dksX1_stepsBy_0 16 rfl rfl)
theorem dX1_stepsBy_18 : decode cX1_stepsBy 18 = .ok (.irem, 1) := dk_112 (dk_at dksX1_stepsBy_0 18 rfl rfl)
theorem dX1_stepsBy_19 : decode cX1_stepsBy 19 = .ok (.istore 5, 2) := dk_54 5 (dk_at dksX1_stepsBy_0 19 rfl rfl)
theorem dX1_stepsBy_21 : decode cX1_stepsBy 21 = .ok (.aload_n 0, 1) := dk_42 (dk_at dksX1_stepsBy_0 21 rfl rfl)
theorem dX1_stepsBy_22 : decode cX1_stepsBy 22 = .ok (.getfield 10, 3) := dk_180 0 10 (dk_at dksX1_stepsBy_1 0 rfl rfl)
theorem dX1_stepsBy_25 : decode cX1_stepsBy 25 = .ok (.iload 5, 2) := dk_21 5 (dk_at dksX1_stepsBy_1 3 rfl rfl)
theorem dX1_stepsBy_27 : decode cX1_stepsBy 27 = .ok (.invokevirtual 437, 3) := dk_182 1 181 (dk_at dksX1_stepsBy_1 5 rfl rfl)
theorem dX1_stepsBy_30 : decode cX1_stepsBy 30 = .ok (.ifCond .eq 7, 3) := dk_153 0 7 (dk_at dksX1_stepsBy_1 8 rfl rfl)
theorem dX1_stepsBy_33 : decode cX1_stepsBy 33 = .ok (.ldc_w 474, 3) := dk_19 1 218 (dk_at dksX1_stepsBy_1 11 rfl rfl)
theorem dX1_stepsBy_36 : decode cX1_stepsBy 36 = .ok (.ireturn, 1) := dk_172 (dk_at dksX1_stepsBy_1 14 rfl rfl)
theorem dX1_stepsBy_37 : decode cX1_stepsBy 37 = .ok (.iinc 4 1, 3) := dk_132 4 1 (dk_at dksX1_stepsBy_1 15 rfl rfl)
theorem dX1_stepsBy_40 : decode cX1_stepsBy 40 = .ok (.goto (-34), 3) := dk_167 255 222 (dk_at dksX1_stepsBy_1 18 rfl rfl)
theorem dX1_stepsBy_43 : decode cX1_stepsBy 43 = .ok (.iload 4, 2) := dk_21 4 (dk_at dksX1_stepsBy_1 21 rfl rfl)
theorem dX1_stepsBy_45 : decode cX1_stepsBy 45 = .ok (.ireturn, 1) := dk_172 (dk_at dksX1_stepsBy_1 23 rfl rfl)
abbrev cX1_agree : ByteArray := prog_1_method_58_code
def yX1_agree : MethodName := ⟨RX1, "agree", "(I)I"⟩
def dkwX1_agree_3 : List UInt8 := [167, 255, 203, 28, 172]
abbrev dktX1_agree_3 : List UInt8 := dkwX1_agree_3 ++ []
def dkwX1_agree_2 : List UInt8 := [180, 0, 10, 180, 0, 173, 29, 96, 182, 1, 98, 160, 0, 7, 4, 167, 0, 4, 3, 96, 61, 132, 3, 1]
abbrev dktX1_agree_2 : List UInt8 := dkwX1_agree_2 ++ dktX1_agree_3
def dkwX1_agree_1 : List UInt8 := [180, 0, 10, 3, 42, 180, 0, 10, 180, 0, 173, 29, 96, 182, 1, 98, 42, 180, 0, 10, 4, 42]
abbrev dktX1_agree_1 : List UInt8 := dkwX1_agree_1 ++ dktX1_agree_2
def dkwX1_agree_0 : List UInt8 := [27, 3, 17, 1, 144, 184, 1, 146, 184, 1, 190, 3, 61, 3, 62, 29, 27, 162, 0, 54, 28, 42]
abbrev dktX1_agree_0 : List UInt8 := dkwX1_agree_0 ++ dktX1_agree_1
theorem dksX1_agree_0 : cX1_agree.data.toList.drop 0 = dktX1_agree_0 := by decide +kernel
theorem dksX1_agree_1 : cX1_agree.data.toList.drop 22 = dktX1_agree_1 := dk_seg dksX1_agree_0 22 rfl rfl
theorem dksX1_agree_2 : cX1_agree.data.toList.drop 44 = dktX1_agree_2 := dk_seg dksX1_agree_1 22 rfl rfl
theorem dksX1_agree_3 : cX1_agree.data.toList.drop 68 = dktX1_agree_3 := dk_seg dksX1_agree_2 24 rfl rfl
theorem dX1_agree_0 : decode cX1_agree 0 = .ok (.iload_n 1, 1) := dk_27 (dk_at dksX1_agree_0 0 rfl rfl)
theorem dX1_agree_1 : decode cX1_agree 1 = .ok (.iconst 0, 1) := dk_3 (dk_at dksX1_agree_0 1 rfl rfl)
theorem dX1_agree_2 : decode cX1_agree 2 = .ok (.sipush 400, 3) := dk_17 1 144 (dk_at dksX1_agree_0 2 rfl rfl)
theorem dX1_agree_5 : decode cX1_agree 5 = .ok (.invokestatic 402, 3) := dk_184 1 146 (dk_at dksX1_agree_0 5 rfl rfl)
theorem dX1_agree_8 : decode cX1_agree 8 = .ok (.invokestatic 446, 3) := dk_184 1 190 (dk_at dksX1_agree_0 8 rfl rfl)
theorem dX1_agree_11 : decode cX1_agree 11 = .ok (.iconst 0, 1) := dk_3 (dk_at dksX1_agree_0 11 rfl rfl)
theorem dX1_agree_12 : decode cX1_agree 12 = .ok (.istore_n 2, 1) := dk_61 (dk_at dksX1_agree_0 12 rfl rfl)
theorem dX1_agree_13 : decode cX1_agree 13 = .ok (.iconst 0, 1) := dk_3 (dk_at dksX1_agree_0 13 rfl rfl)
theorem dX1_agree_14 : decode cX1_agree 14 = .ok (.istore_n 3, 1) := dk_62 (dk_at dksX1_agree_0 14 rfl rfl)
theorem dX1_agree_15 : decode cX1_agree 15 = .ok (.iload_n 3, 1) := dk_29 (dk_at dksX1_agree_0 15 rfl rfl)
theorem dX1_agree_16 : decode cX1_agree 16 = .ok (.iload_n 1, 1) := dk_27 (dk_at dksX1_agree_0 16 rfl rfl)
theorem dX1_agree_17 : decode cX1_agree 17 = .ok (.if_icmp .ge 54, 3) := dk_162 0 54 (dk_at dksX1_agree_0 17 rfl rfl)
theorem dX1_agree_20 : decode cX1_agree 20 = .ok (.iload_n 2, 1) := dk_28 (dk_at dksX1_agree_0 20 rfl rfl)
theorem dX1_agree_21 : decode cX1_agree 21 = .ok (.aload_n 0, 1) := dk_42 (dk_at dksX1_agree_0 21 rfl rfl)
theorem dX1_agree_22 : decode cX1_agree 22 = .ok (.getfield 10, 3) := dk_180 0 10 (dk_at dksX1_agree_1 0 rfl rfl)
theorem dX1_agree_25 : decode cX1_agree 25 = .ok (.iconst 0, 1) := dk_3 (dk_at dksX1_agree_1 3 rfl rfl)
theorem dX1_agree_26 : decode cX1_agree 26 = .ok (.aload_n 0, 1) := dk_42 (dk_at dksX1_agree_1 4 rfl rfl)
theorem dX1_agree_27 : decode cX1_agree 27 = .ok (.getfield 10, 3) := dk_180 0 10 (dk_at dksX1_agree_1 5 rfl rfl)
theorem dX1_agree_30 : decode cX1_agree 30 = .ok (.getfield 173, 3) := dk_180 0 173 (dk_at dksX1_agree_1 8 rfl rfl)
theorem dX1_agree_33 : decode cX1_agree 33 = .ok (.iload_n 3, 1) := dk_29 (dk_at dksX1_agree_1 11 rfl rfl)
theorem dX1_agree_34 : decode cX1_agree 34 = .ok (.iadd, 1) := dk_96 (dk_at dksX1_agree_1 12 rfl rfl)
theorem dX1_agree_35 : decode cX1_agree 35 = .ok (.invokevirtual 354, 3) := dk_182 1 98 (dk_at dksX1_agree_1 13 rfl rfl)
theorem dX1_agree_38 : decode cX1_agree 38 = .ok (.aload_n 0, 1) := dk_42 (dk_at dksX1_agree_1 16 rfl rfl)
theorem dX1_agree_39 : decode cX1_agree 39 = .ok (.getfield 10, 3) := dk_180 0 10 (dk_at dksX1_agree_1 17 rfl rfl)
theorem dX1_agree_42 : decode cX1_agree 42 = .ok (.iconst 1, 1) := dk_4 (dk_at dksX1_agree_1 20 rfl rfl)
theorem dX1_agree_43 : decode cX1_agree 43 = .ok (.aload_n 0, 1) := dk_42 (dk_at dksX1_agree_1 21 rfl rfl)
theorem dX1_agree_44 : decode cX1_agree 44 = .ok (.getfield 10, 3) := dk_180 0 10 (dk_at dksX1_agree_2 0 rfl rfl)
theorem dX1_agree_47 : decode cX1_agree 47 = .ok (.getfield 173, 3) := dk_180 0 173 (dk_at dksX1_agree_2 3 rfl rfl)
theorem dX1_agree_50 : decode cX1_agree 50 = .ok (.iload_n 3, 1) := dk_29 (dk_at dksX1_agree_2 6 rfl rfl)
theorem dX1_agree_51 : decode cX1_agree 51 = .ok (.iadd, 1) := dk_96 (dk_at dksX1_agree_2 7 rfl rfl)
theorem dX1_agree_52 : decode cX1_agree 52 = .ok (.invokevirtual 354, 3) := dk_182 1 98 (dk_at dksX1_agree_2 8 rfl rfl)
theorem dX1_agree_55 : decode cX1_agree 55 = .ok (.if_icmp .ne 7, 3) := dk_160 0 7 (dk_at dksX1_agree_2 11 rfl rfl)
theorem dX1_agree_58 : decode cX1_agree 58 = .ok (.iconst 1, 1) := dk_4 (dk_at dksX1_agree_2 14 rfl rfl)
theorem dX1_agree_59 : decode cX1_agree 59 = .ok (.goto 4, 3) := dk_167 0 4 (dk_at dksX1_agree_2 15 rfl rfl)
theorem dX1_agree_62 : decode cX1_agree 62 = .ok (.iconst 0, 1) := dk_3 (dk_at dksX1_agree_2 18 rfl rfl)
theorem dX1_agree_63 : decode cX1_agree 63 = .ok (.iadd, 1) := dk_96 (dk_at dksX1_agree_2 19 rfl rfl)
theorem dX1_agree_64 : decode cX1_agree 64 = .ok (.istore_n 2, 1) := dk_61 (dk_at dksX1_agree_2 20 rfl rfl)
theorem dX1_agree_65 : decode cX1_agree 65 = .ok (.iinc 3 1, 3) := dk_132 3 1 (dk_at dksX1_agree_2 21 rfl rfl)
theorem dX1_agree_68 : decode cX1_agree 68 = .ok (.goto (-53), 3) := dk_167 255 203 (dk_at dksX1_agree_3 0 rfl rfl)
theorem dX1_agree_71 : decode cX1_agree 71 = .ok (.iload_n 2, 1) := dk_28 (dk_at dksX1_agree_3 3 rfl rfl)
theorem dX1_agree_72 : decode cX1_agree 72 = .ok (.ireturn, 1) := dk_172 (dk_at dksX1_agree_3 4 rfl rfl)
abbrev cX1_need : ByteArray := prog_1_method_62_code
def yX1_need : MethodName := ⟨RX1, "need", "(I)I"⟩
def dkwX1_need_1 : List UInt8 := [180, 0, 10, 180, 0, 169, 100, 184, 1, 215, 172]
abbrev dktX1_need_1 : List UInt8 := dkwX1_need_1 ++ []
def dkwX1_need_0 : List UInt8 := [27, 4, 17, 39, 15, 184, 1, 146, 184, 1, 190, 3, 27, 42, 180, 0, 10, 180, 1, 80, 100, 42]
abbrev dktX1_need_0 : List UInt8 := dkwX1_need_0 ++ dktX1_need_1
theorem dksX1_need_0 : cX1_need.data.toList.drop 0 = dktX1_need_0 := by decide +kernel
theorem dksX1_need_1 : cX1_need.data.toList.drop 22 = dktX1_need_1 := dk_seg dksX1_need_0 22 rfl rfl
theorem dX1_need_0 : decode cX1_need 0 = .ok (.iload_n 1, 1) := dk_27 (dk_at dksX1_need_0 0 rfl rfl)
theorem dX1_need_1 : decode cX1_need 1 = .ok (.iconst 1, 1) := dk_4 (dk_at dksX1_need_0 1 rfl rfl)
theorem dX1_need_2 : decode cX1_need 2 = .ok (.sipush 9999, 3) := dk_17 39 15 (dk_at dksX1_need_0 2 rfl rfl)
theorem dX1_need_5 : decode cX1_need 5 = .ok (.invokestatic 402, 3) := dk_184 1 146 (dk_at dksX1_need_0 5 rfl rfl)
theorem dX1_need_8 : decode cX1_need 8 = .ok (.invokestatic 446, 3) := dk_184 1 190 (dk_at dksX1_need_0 8 rfl rfl)
theorem dX1_need_11 : decode cX1_need 11 = .ok (.iconst 0, 1) := dk_3 (dk_at dksX1_need_0 11 rfl rfl)
theorem dX1_need_12 : decode cX1_need 12 = .ok (.iload_n 1, 1) := dk_27 (dk_at dksX1_need_0 12 rfl rfl)
theorem dX1_need_13 : decode cX1_need 13 = .ok (.aload_n 0, 1) := dk_42 (dk_at dksX1_need_0 13 rfl rfl)
theorem dX1_need_14 : decode cX1_need 14 = .ok (.getfield 10, 3) := dk_180 0 10 (dk_at dksX1_need_0 14 rfl rfl)
theorem dX1_need_17 : decode cX1_need 17 = .ok (.getfield 336, 3) := dk_180 1 80 (dk_at dksX1_need_0 17 rfl rfl)
theorem dX1_need_20 : decode cX1_need 20 = .ok (.isub, 1) := dk_100 (dk_at dksX1_need_0 20 rfl rfl)
theorem dX1_need_21 : decode cX1_need 21 = .ok (.aload_n 0, 1) := dk_42 (dk_at dksX1_need_0 21 rfl rfl)
theorem dX1_need_22 : decode cX1_need 22 = .ok (.getfield 10, 3) := dk_180 0 10 (dk_at dksX1_need_1 0 rfl rfl)
theorem dX1_need_25 : decode cX1_need 25 = .ok (.getfield 169, 3) := dk_180 0 169 (dk_at dksX1_need_1 3 rfl rfl)
theorem dX1_need_28 : decode cX1_need 28 = .ok (.isub, 1) := dk_100 (dk_at dksX1_need_1 6 rfl rfl)
theorem dX1_need_29 : decode cX1_need 29 = .ok (.invokestatic 471, 3) := dk_184 1 215 (dk_at dksX1_need_1 7 rfl rfl)
theorem dX1_need_32 : decode cX1_need 32 = .ok (.ireturn, 1) := dk_172 (dk_at dksX1_need_1 10 rfl rfl)
abbrev cX1_spread : ByteArray := prog_1_method_63_code
def yX1_spread : MethodName := ⟨RX1, "spread", "(I)I"⟩
def dkwX1_spread_4 : List UInt8 := [29, 100, 172]
abbrev dktX1_spread_4 : List UInt8 := dkwX1_spread_4 ++ []
def dkwX1_spread_3 : List UInt8 := [184, 1, 215, 54, 4, 132, 5, 1, 167, 255, 205, 29, 19, 1, 218, 160, 0, 7, 3, 167, 0, 7, 21, 4]
abbrev dktX1_spread_3 : List UInt8 := dkwX1_spread_3 ++ dktX1_spread_4
def dkwX1_spread_2 : List UInt8 := [167, 0, 29, 29, 44, 180, 0, 109, 21, 5, 46, 184, 1, 200, 62, 21, 4, 44, 180, 0, 109, 21, 5, 46]
abbrev dktX1_spread_2 : List UInt8 := dkwX1_spread_2 ++ dktX1_spread_3
def dkwX1_spread_1 : List UInt8 := [3, 54, 5, 21, 5, 44, 180, 0, 92, 162, 0, 48, 44, 180, 0, 122, 21, 5, 51, 154, 0, 6]
abbrev dktX1_spread_1 : List UInt8 := dkwX1_spread_1 ++ dktX1_spread_2
def dkwX1_spread_0 : List UInt8 := [27, 3, 17, 1, 144, 184, 1, 146, 184, 1, 190, 42, 27, 182, 1, 211, 77, 19, 1, 218, 62, 3, 54, 4]
abbrev dktX1_spread_0 : List UInt8 := dkwX1_spread_0 ++ dktX1_spread_1
theorem dksX1_spread_0 : cX1_spread.data.toList.drop 0 = dktX1_spread_0 := by decide +kernel
theorem dksX1_spread_1 : cX1_spread.data.toList.drop 24 = dktX1_spread_1 := dk_seg dksX1_spread_0 24 rfl rfl
theorem dksX1_spread_2 : cX1_spread.data.toList.drop 46 = dktX1_spread_2 := dk_seg dksX1_spread_1 22 rfl rfl
theorem dksX1_spread_3 : cX1_spread.data.toList.drop 70 = dktX1_spread_3 := dk_seg dksX1_spread_2 24 rfl rfl
theorem dksX1_spread_4 : cX1_spread.data.toList.drop 94 = dktX1_spread_4 := dk_seg dksX1_spread_3 24 rfl rfl
theorem dX1_spread_0 : decode cX1_spread 0 = .ok (.iload_n 1, 1) := dk_27 (dk_at dksX1_spread_0 0 rfl rfl)
theorem dX1_spread_1 : decode cX1_spread 1 = .ok (.iconst 0, 1) := dk_3 (dk_at dksX1_spread_0 1 rfl rfl)
theorem dX1_spread_2 : decode cX1_spread 2 = .ok (.sipush 400, 3) := dk_17 1 144 (dk_at dksX1_spread_0 2 rfl rfl)
theorem dX1_spread_5 : decode cX1_spread 5 = .ok (.invokestatic 402, 3) := dk_184 1 146 (dk_at dksX1_spread_0 5 rfl rfl)
theorem dX1_spread_8 : decode cX1_spread 8 = .ok (.invokestatic 446, 3) := dk_184 1 190 (dk_at dksX1_spread_0 8 rfl rfl)
theorem dX1_spread_11 : decode cX1_spread 11 = .ok (.aload_n 0, 1) := dk_42 (dk_at dksX1_spread_0 11 rfl rfl)
theorem dX1_spread_12 : decode cX1_spread 12 = .ok (.iload_n 1, 1) := dk_27 (dk_at dksX1_spread_0 12 rfl rfl)
theorem dX1_spread_13 : decode cX1_spread 13 = .ok (.invokevirtual 467, 3) := dk_182 1 211 (dk_at dksX1_spread_0 13 rfl rfl)
theorem dX1_spread_16 : decode cX1_spread 16 = .ok (.astore_n 2, 1) := dk_77 (dk_at dksX1_spread_0 16 rfl rfl)
theorem dX1_spread_17 : decode cX1_spread 17 = .ok (.ldc_w 474, 3) := dk_19 1 218 (dk_at dksX1_spread_0 17 rfl rfl)
theorem dX1_spread_20 : decode cX1_spread 20 = .ok (.istore_n 3, 1) := dk_62 (dk_at dksX1_spread_0 20 rfl rfl)
theorem dX1_spread_21 : decode cX1_spread 21 = .ok (.iconst 0, 1) := dk_3 (dk_at dksX1_spread_0 21 rfl rfl)
theorem dX1_spread_22 : decode cX1_spread 22 = .ok (.istore 4, 2) := dk_54 4 (dk_at dksX1_spread_0 22 rfl rfl)
theorem dX1_spread_24 : decode cX1_spread 24 = .ok (.iconst 0, 1) := dk_3 (dk_at dksX1_spread_1 0 rfl rfl)
theorem dX1_spread_25 : decode cX1_spread 25 = .ok (.istore 5, 2) := dk_54 5 (dk_at dksX1_spread_1 1 rfl rfl)
theorem dX1_spread_27 : decode cX1_spread 27 = .ok (.iload 5, 2) := dk_21 5 (dk_at dksX1_spread_1 3 rfl rfl)
theorem dX1_spread_29 : decode cX1_spread 29 = .ok (.aload_n 2, 1) := dk_44 (dk_at dksX1_spread_1 5 rfl rfl)
theorem dX1_spread_30 : decode cX1_spread 30 = .ok (.getfield 92, 3) := dk_180 0 92 (dk_at dksX1_spread_1 6 rfl rfl)
theorem dX1_spread_33 : decode cX1_spread 33 = .ok (.if_icmp .ge 48, 3) := dk_162 0 48 (dk_at dksX1_spread_1 9 rfl rfl)
theorem dX1_spread_36 : decode cX1_spread 36 = .ok (.aload_n 2, 1) := dk_44 (dk_at dksX1_spread_1 12 rfl rfl)
theorem dX1_spread_37 : decode cX1_spread 37 = .ok (.getfield 122, 3) := dk_180 0 122 (dk_at dksX1_spread_1 13 rfl rfl)
theorem dX1_spread_40 : decode cX1_spread 40 = .ok (.iload 5, 2) := dk_21 5 (dk_at dksX1_spread_1 16 rfl rfl)
theorem dX1_spread_42 : decode cX1_spread 42 = .ok (.baload, 1) := dk_51 (dk_at dksX1_spread_1 18 rfl rfl)
theorem dX1_spread_43 : decode cX1_spread 43 = .ok (.ifCond .ne 6, 3) := dk_154 0 6 (dk_at dksX1_spread_1 19 rfl rfl)
theorem dX1_spread_46 : decode cX1_spread 46 = .ok (.goto 29, 3) := dk_167 0 29 (dk_at dksX1_spread_2 0 rfl rfl)
theorem dX1_spread_49 : decode cX1_spread 49 = .ok (.iload_n 3, 1) := dk_29 (dk_at dksX1_spread_2 3 rfl rfl)
theorem dX1_spread_50 : decode cX1_spread 50 = .ok (.aload_n 2, 1) := dk_44 (dk_at dksX1_spread_2 4 rfl rfl)
theorem dX1_spread_51 : decode cX1_spread 51 = .ok (.getfield 109, 3) := dk_180 0 109 (dk_at dksX1_spread_2 5 rfl rfl)
theorem dX1_spread_54 : decode cX1_spread 54 = .ok (.iload 5, 2) := dk_21 5 (dk_at dksX1_spread_2 8 rfl rfl)
theorem dX1_spread_56 : decode cX1_spread 56 = .ok (.iaload, 1) := dk_46 (dk_at dksX1_spread_2 10 rfl rfl)
theorem dX1_spread_57 : decode cX1_spread 57 = .ok (.invokestatic 456, 3) := dk_184 1 200 (dk_at dksX1_spread_2 11 rfl rfl)
theorem dX1_spread_60 : decode cX1_spread 60 = .ok (.istore_n 3, 1) := dk_62 (dk_at dksX1_spread_2 14 rfl rfl)
theorem dX1_spread_61 : decode cX1_spread 61 = .ok (.iload 4, 2) := dk_21 4 (dk_at dksX1_spread_2 15 rfl rfl)
theorem dX1_spread_63 : decode cX1_spread 63 = .ok (.aload_n 2, 1) := dk_44 (dk_at dksX1_spread_2 17 rfl rfl)
theorem dX1_spread_64 : decode cX1_spread 64 = .ok (.getfield 109, 3) := dk_180 0 109 (dk_at dksX1_spread_2 18 rfl rfl)
theorem dX1_spread_67 : decode cX1_spread 67 = .ok (.iload 5, 2) := dk_21 5 (dk_at dksX1_spread_2 21 rfl rfl)
theorem dX1_spread_69 : decode cX1_spread 69 = .ok (.iaload, 1) := dk_46 (dk_at dksX1_spread_2 23 rfl rfl)
theorem dX1_spread_70 : decode cX1_spread 70 = .ok (.invokestatic 471, 3) := dk_184 1 215 (dk_at dksX1_spread_3 0 rfl rfl)
theorem dX1_spread_73 : decode cX1_spread 73 = .ok (.istore 4, 2) := dk_54 4 (dk_at dksX1_spread_3 3 rfl rfl)
theorem dX1_spread_75 : decode cX1_spread 75 = .ok (.iinc 5 1, 3) := dk_132 5 1 (dk_at dksX1_spread_3 5 rfl rfl)
theorem dX1_spread_78 : decode cX1_spread 78 = .ok (.goto (-51), 3) := dk_167 255 205 (dk_at dksX1_spread_3 8 rfl rfl)
theorem dX1_spread_81 : decode cX1_spread 81 = .ok (.iload_n 3, 1) := dk_29 (dk_at dksX1_spread_3 11 rfl rfl)
theorem dX1_spread_82 : decode cX1_spread 82 = .ok (.ldc_w 474, 3) := dk_19 1 218 (dk_at dksX1_spread_3 12 rfl rfl)
theorem dX1_spread_85 : decode cX1_spread 85 = .ok (.if_icmp .ne 7, 3) := dk_160 0 7 (dk_at dksX1_spread_3 15 rfl rfl)
theorem dX1_spread_88 : decode cX1_spread 88 = .ok (.iconst 0, 1) := dk_3 (dk_at dksX1_spread_3 18 rfl rfl)
theorem dX1_spread_89 : decode cX1_spread 89 = .ok (.goto 7, 3) := dk_167 0 7 (dk_at dksX1_spread_3 19 rfl rfl)
theorem dX1_spread_92 : decode cX1_spread 92 = .ok (.iload 4, 2) := dk_21 4 (dk_at dksX1_spread_3 22 rfl rfl)
theorem dX1_spread_94 : decode cX1_spread 94 = .ok (.iload_n 3, 1) := dk_29 (dk_at dksX1_spread_4 0 rfl rfl)
theorem dX1_spread_95 : decode cX1_spread 95 = .ok (.isub, 1) := dk_100 (dk_at dksX1_spread_4 1 rfl rfl)
theorem dX1_spread_96 : decode cX1_spread 96 = .ok (.ireturn, 1) := dk_172 (dk_at dksX1_spread_4 2 rfl rfl)
abbrev cX1_trial : ByteArray := prog_1_method_97_code
def yX1_trial : MethodName := ⟨RX1, "trial", "(IZ)I"⟩
def dkwX1_trial_2 : List UInt8 := [42, 180, 0, 10, 180, 1, 205, 100, 172]
abbrev dktX1_trial_2 : List UInt8 := dkwX1_trial_2 ++ []
def dkwX1_trial_1 : List UInt8 := [182, 2, 29, 28, 153, 0, 13, 42, 180, 0, 55, 182, 2, 32, 167, 0, 18, 42, 180, 0, 55, 180, 1, 205]
abbrev dktX1_trial_1 : List UInt8 := dkwX1_trial_1 ++ dktX1_trial_2
def dkwX1_trial_0 : List UInt8 := [27, 3, 16, 60, 184, 1, 146, 184, 1, 190, 42, 180, 0, 55, 42, 180, 0, 10, 182, 0, 201, 87, 42, 27]
abbrev dktX1_trial_0 : List UInt8 := dkwX1_trial_0 ++ dktX1_trial_1
theorem dksX1_trial_0 : cX1_trial.data.toList.drop 0 = dktX1_trial_0 := by decide +kernel
theorem dksX1_trial_1 : cX1_trial.data.toList.drop 24 = dktX1_trial_1 := dk_seg dksX1_trial_0 24 rfl rfl
theorem dksX1_trial_2 : cX1_trial.data.toList.drop 48 = dktX1_trial_2 := dk_seg dksX1_trial_1 24 rfl rfl
theorem dX1_trial_0 : decode cX1_trial 0 = .ok (.iload_n 1, 1) := dk_27 (dk_at dksX1_trial_0 0 rfl rfl)
theorem dX1_trial_1 : decode cX1_trial 1 = .ok (.iconst 0, 1) := dk_3 (dk_at dksX1_trial_0 1 rfl rfl)
theorem dX1_trial_2 : decode cX1_trial 2 = .ok (.bipush 60, 2) := dk_16 60 (dk_at dksX1_trial_0 2 rfl rfl)
theorem dX1_trial_4 : decode cX1_trial 4 = .ok (.invokestatic 402, 3) := dk_184 1 146 (dk_at dksX1_trial_0 4 rfl rfl)
theorem dX1_trial_7 : decode cX1_trial 7 = .ok (.invokestatic 446, 3) := dk_184 1 190 (dk_at dksX1_trial_0 7 rfl rfl)
theorem dX1_trial_10 : decode cX1_trial 10 = .ok (.aload_n 0, 1) := dk_42 (dk_at dksX1_trial_0 10 rfl rfl)
theorem dX1_trial_11 : decode cX1_trial 11 = .ok (.getfield 55, 3) := dk_180 0 55 (dk_at dksX1_trial_0 11 rfl rfl)
theorem dX1_trial_14 : decode cX1_trial 14 = .ok (.aload_n 0, 1) := dk_42 (dk_at dksX1_trial_0 14 rfl rfl)
theorem dX1_trial_15 : decode cX1_trial 15 = .ok (.getfield 10, 3) := dk_180 0 10 (dk_at dksX1_trial_0 15 rfl rfl)
theorem dX1_trial_18 : decode cX1_trial 18 = .ok (.invokevirtual 201, 3) := dk_182 0 201 (dk_at dksX1_trial_0 18 rfl rfl)
theorem dX1_trial_21 : decode cX1_trial 21 = .ok (.pop, 1) := dk_87 (dk_at dksX1_trial_0 21 rfl rfl)
theorem dX1_trial_22 : decode cX1_trial 22 = .ok (.aload_n 0, 1) := dk_42 (dk_at dksX1_trial_0 22 rfl rfl)
theorem dX1_trial_23 : decode cX1_trial 23 = .ok (.iload_n 1, 1) := dk_27 (dk_at dksX1_trial_0 23 rfl rfl)
theorem dX1_trial_24 : decode cX1_trial 24 = .ok (.invokevirtual 541, 3) := dk_182 2 29 (dk_at dksX1_trial_1 0 rfl rfl)
theorem dX1_trial_27 : decode cX1_trial 27 = .ok (.iload_n 2, 1) := dk_28 (dk_at dksX1_trial_1 3 rfl rfl)
theorem dX1_trial_28 : decode cX1_trial 28 = .ok (.ifCond .eq 13, 3) := dk_153 0 13 (dk_at dksX1_trial_1 4 rfl rfl)
theorem dX1_trial_31 : decode cX1_trial 31 = .ok (.aload_n 0, 1) := dk_42 (dk_at dksX1_trial_1 7 rfl rfl)
theorem dX1_trial_32 : decode cX1_trial 32 = .ok (.getfield 55, 3) := dk_180 0 55 (dk_at dksX1_trial_1 8 rfl rfl)
theorem dX1_trial_35 : decode cX1_trial 35 = .ok (.invokevirtual 544, 3) := dk_182 2 32 (dk_at dksX1_trial_1 11 rfl rfl)
theorem dX1_trial_38 : decode cX1_trial 38 = .ok (.goto 18, 3) := dk_167 0 18 (dk_at dksX1_trial_1 14 rfl rfl)
theorem dX1_trial_41 : decode cX1_trial 41 = .ok (.aload_n 0, 1) := dk_42 (dk_at dksX1_trial_1 17 rfl rfl)
theorem dX1_trial_42 : decode cX1_trial 42 = .ok (.getfield 55, 3) := dk_180 0 55 (dk_at dksX1_trial_1 18 rfl rfl)
theorem dX1_trial_45 : decode cX1_trial 45 = .ok (.getfield 461, 3) := dk_180 1 205 (dk_at dksX1_trial_1 21 rfl rfl)
theorem dX1_trial_48 : decode cX1_trial 48 = .ok (.aload_n 0, 1) := dk_42 (dk_at dksX1_trial_2 0 rfl rfl)
theorem dX1_trial_49 : decode cX1_trial 49 = .ok (.getfield 10, 3) := dk_180 0 10 (dk_at dksX1_trial_2 1 rfl rfl)
theorem dX1_trial_52 : decode cX1_trial 52 = .ok (.getfield 461, 3) := dk_180 1 205 (dk_at dksX1_trial_2 4 rfl rfl)
theorem dX1_trial_55 : decode cX1_trial 55 = .ok (.isub, 1) := dk_100 (dk_at dksX1_trial_2 7 rfl rfl)
theorem dX1_trial_56 : decode cX1_trial 56 = .ok (.ireturn, 1) := dk_172 (dk_at dksX1_trial_2 8 rfl rfl)
abbrev cX1_tries : ByteArray := prog_1_method_96_code
def yX1_tries : MethodName := ⟨RX1, "tries", "(I)V"⟩
def dkwX1_tries_0 : List UInt8 := [3, 61, 28, 27, 162, 0, 17, 42, 42, 180, 0, 55, 182, 1, 208, 132, 2, 1, 167, 255, 240, 177]
abbrev dktX1_tries_0 : List UInt8 := dkwX1_tries_0 ++ []
theorem dksX1_tries_0 : cX1_tries.data.toList.drop 0 = dktX1_tries_0 := by decide +kernel
theorem dX1_tries_0 : decode cX1_tries 0 = .ok (.iconst 0, 1) := dk_3 (dk_at dksX1_tries_0 0 rfl rfl)
theorem dX1_tries_1 : decode cX1_tries 1 = .ok (.istore_n 2, 1) := dk_61 (dk_at dksX1_tries_0 1 rfl rfl)
theorem dX1_tries_2 : decode cX1_tries 2 = .ok (.iload_n 2, 1) := dk_28 (dk_at dksX1_tries_0 2 rfl rfl)
theorem dX1_tries_3 : decode cX1_tries 3 = .ok (.iload_n 1, 1) := dk_27 (dk_at dksX1_tries_0 3 rfl rfl)
theorem dX1_tries_4 : decode cX1_tries 4 = .ok (.if_icmp .ge 17, 3) := dk_162 0 17 (dk_at dksX1_tries_0 4 rfl rfl)
theorem dX1_tries_7 : decode cX1_tries 7 = .ok (.aload_n 0, 1) := dk_42 (dk_at dksX1_tries_0 7 rfl rfl)
theorem dX1_tries_8 : decode cX1_tries 8 = .ok (.aload_n 0, 1) := dk_42 (dk_at dksX1_tries_0 8 rfl rfl)
theorem dX1_tries_9 : decode cX1_tries 9 = .ok (.getfield 55, 3) := dk_180 0 55 (dk_at dksX1_tries_0 9 rfl rfl)
theorem dX1_tries_12 : decode cX1_tries 12 = .ok (.invokevirtual 464, 3) := dk_182 1 208 (dk_at dksX1_tries_0 12 rfl rfl)
theorem dX1_tries_15 : decode cX1_tries 15 = .ok (.iinc 2 1, 3) := dk_132 2 1 (dk_at dksX1_tries_0 15 rfl rfl)
theorem dX1_tries_18 : decode cX1_tries 18 = .ok (.goto (-16), 3) := dk_167 255 240 (dk_at dksX1_tries_0 18 rfl rfl)
theorem dX1_tries_21 : decode cX1_tries 21 = .ok (.return_, 1) := dk_177 (dk_at dksX1_tries_0 21 rfl rfl)
abbrev cX1_span : ByteArray := prog_1_method_98_code
def yX1_span : MethodName := ⟨RX1, "span", "(IZ)I"⟩
def dkwX1_span_4 : List UInt8 := [184, 1, 200, 62, 132, 4, 1, 167, 255, 173, 29, 172]
abbrev dktX1_span_4 : List UInt8 := dkwX1_span_4 ++ []
def dkwX1_span_3 : List UInt8 := [160, 0, 8, 21, 5, 167, 0, 22, 28, 153, 0, 12, 29, 21, 5, 184, 1, 215, 167, 0, 9, 29, 21, 5]
abbrev dktX1_span_3 : List UInt8 := dkwX1_span_3 ++ dktX1_span_4
def dkwX1_span_2 : List UInt8 := [182, 2, 29, 42, 180, 0, 55, 180, 1, 205, 42, 180, 0, 10, 180, 1, 205, 100, 54, 5, 29, 2]
abbrev dktX1_span_2 : List UInt8 := dkwX1_span_2 ++ dktX1_span_3
def dkwX1_span_1 : List UInt8 := [180, 0, 55, 42, 180, 0, 10, 182, 0, 201, 87, 42, 180, 0, 55, 21, 4, 181, 2, 35, 42, 27]
abbrev dktX1_span_1 : List UInt8 := dkwX1_span_1 ++ dktX1_span_2
def dkwX1_span_0 : List UInt8 := [27, 3, 16, 60, 184, 1, 146, 184, 1, 190, 2, 62, 4, 54, 4, 21, 4, 16, 6, 163, 0, 82, 42]
abbrev dktX1_span_0 : List UInt8 := dkwX1_span_0 ++ dktX1_span_1
theorem dksX1_span_0 : cX1_span.data.toList.drop 0 = dktX1_span_0 := by decide +kernel
theorem dksX1_span_1 : cX1_span.data.toList.drop 23 = dktX1_span_1 := dk_seg dksX1_span_0 23 rfl rfl
theorem dksX1_span_2 : cX1_span.data.toList.drop 45 = dktX1_span_2 := dk_seg dksX1_span_1 22 rfl rfl
theorem dksX1_span_3 : cX1_span.data.toList.drop 67 = dktX1_span_3 := dk_seg dksX1_span_2 22 rfl rfl
theorem dksX1_span_4 : cX1_span.data.toList.drop 91 = dktX1_span_4 := dk_seg dksX1_span_3 24 rfl rfl
theorem dX1_span_0 : decode cX1_span 0 = .ok (.iload_n 1, 1) := dk_27 (dk_at dksX1_span_0 0 rfl rfl)
theorem dX1_span_1 : decode cX1_span 1 = .ok (.iconst 0, 1) := dk_3 (dk_at dksX1_span_0 1 rfl rfl)
theorem dX1_span_2 : decode cX1_span 2 = .ok (.bipush 60, 2) := dk_16 60 (dk_at dksX1_span_0 2 rfl rfl)
theorem dX1_span_4 : decode cX1_span 4 = .ok (.invokestatic 402, 3) := dk_184 1 146 (dk_at dksX1_span_0 4 rfl rfl)
theorem dX1_span_7 : decode cX1_span 7 = .ok (.invokestatic 446, 3) := dk_184 1 190 (dk_at dksX1_span_0 7 rfl rfl)
theorem dX1_span_10 : decode cX1_span 10 = .ok (.iconst (-1), 1) := dk_2 (dk_at dksX1_span_0 10 rfl rfl)
theorem dX1_span_11 : decode cX1_span 11 = .ok (.istore_n 3, 1) := dk_62 (dk_at dksX1_span_0 11 rfl rfl)
theorem dX1_span_12 : decode cX1_span 12 = .ok (.iconst 1, 1) := dk_4 (dk_at dksX1_span_0 12 rfl rfl)
theorem dX1_span_13 : decode cX1_span 13 = .ok (.istore 4, 2) := dk_54 4 (dk_at dksX1_span_0 13 rfl rfl)
theorem dX1_span_15 : decode cX1_span 15 = .ok (.iload 4, 2) := dk_21 4 (dk_at dksX1_span_0 15 rfl rfl)
theorem dX1_span_17 : decode cX1_span 17 = .ok (.bipush 6, 2) := dk_16 6 (dk_at dksX1_span_0 17 rfl rfl)
theorem dX1_span_19 : decode cX1_span 19 = .ok (.if_icmp .gt 82, 3) := dk_163 0 82 (dk_at dksX1_span_0 19 rfl rfl)
theorem dX1_span_22 : decode cX1_span 22 = .ok (.aload_n 0, 1) := dk_42 (dk_at dksX1_span_0 22 rfl rfl)
theorem dX1_span_23 : decode cX1_span 23 = .ok (.getfield 55, 3) := dk_180 0 55 (dk_at dksX1_span_1 0 rfl rfl)
theorem dX1_span_26 : decode cX1_span 26 = .ok (.aload_n 0, 1) := dk_42 (dk_at dksX1_span_1 3 rfl rfl)
theorem dX1_span_27 : decode cX1_span 27 = .ok (.getfield 10, 3) := dk_180 0 10 (dk_at dksX1_span_1 4 rfl rfl)
theorem dX1_span_30 : decode cX1_span 30 = .ok (.invokevirtual 201, 3) := dk_182 0 201 (dk_at dksX1_span_1 7 rfl rfl)
theorem dX1_span_33 : decode cX1_span 33 = .ok (.pop, 1) := dk_87 (dk_at dksX1_span_1 10 rfl rfl)
theorem dX1_span_34 : decode cX1_span 34 = .ok (.aload_n 0, 1) := dk_42 (dk_at dksX1_span_1 11 rfl rfl)
theorem dX1_span_35 : decode cX1_span 35 = .ok (.getfield 55, 3) := dk_180 0 55 (dk_at dksX1_span_1 12 rfl rfl)
theorem dX1_span_38 : decode cX1_span 38 = .ok (.iload 4, 2) := dk_21 4 (dk_at dksX1_span_1 15 rfl rfl)
theorem dX1_span_40 : decode cX1_span 40 = .ok (.putfield 547, 3) := dk_181 2 35 (dk_at dksX1_span_1 17 rfl rfl)
theorem dX1_span_43 : decode cX1_span 43 = .ok (.aload_n 0, 1) := dk_42 (dk_at dksX1_span_1 20 rfl rfl)
theorem dX1_span_44 : decode cX1_span 44 = .ok (.iload_n 1, 1) := dk_27 (dk_at dksX1_span_1 21 rfl rfl)
theorem dX1_span_45 : decode cX1_span 45 = .ok (.invokevirtual 541, 3) := dk_182 2 29 (dk_at dksX1_span_2 0 rfl rfl)
theorem dX1_span_48 : decode cX1_span 48 = .ok (.aload_n 0, 1) := dk_42 (dk_at dksX1_span_2 3 rfl rfl)
theorem dX1_span_49 : decode cX1_span 49 = .ok (.getfield 55, 3) := dk_180 0 55 (dk_at dksX1_span_2 4 rfl rfl)
theorem dX1_span_52 : decode cX1_span 52 = .ok (.getfield 461, 3) := dk_180 1 205 (dk_at dksX1_span_2 7 rfl rfl)
theorem dX1_span_55 : decode cX1_span 55 = .ok (.aload_n 0, 1) := dk_42 (dk_at dksX1_span_2 10 rfl rfl)
theorem dX1_span_56 : decode cX1_span 56 = .ok (.getfield 10, 3) := dk_180 0 10 (dk_at dksX1_span_2 11 rfl rfl)
theorem dX1_span_59 : decode cX1_span 59 = .ok (.getfield 461, 3) := dk_180 1 205 (dk_at dksX1_span_2 14 rfl rfl)
theorem dX1_span_62 : decode cX1_span 62 = .ok (.isub, 1) := dk_100 (dk_at dksX1_span_2 17 rfl rfl)
theorem dX1_span_63 : decode cX1_span 63 = .ok (.istore 5, 2) := dk_54 5 (dk_at dksX1_span_2 18 rfl rfl)
theorem dX1_span_65 : decode cX1_span 65 = .ok (.iload_n 3, 1) := dk_29 (dk_at dksX1_span_2 20 rfl rfl)
theorem dX1_span_66 : decode cX1_span 66 = .ok (.iconst (-1), 1) := dk_2 (dk_at dksX1_span_2 21 rfl rfl)
theorem dX1_span_67 : decode cX1_span 67 = .ok (.if_icmp .ne 8, 3) := dk_160 0 8 (dk_at dksX1_span_3 0 rfl rfl)
theorem dX1_span_70 : decode cX1_span 70 = .ok (.iload 5, 2) := dk_21 5 (dk_at dksX1_span_3 3 rfl rfl)
theorem dX1_span_72 : decode cX1_span 72 = .ok (.goto 22, 3) := dk_167 0 22 (dk_at dksX1_span_3 5 rfl rfl)
theorem dX1_span_75 : decode cX1_span 75 = .ok (.iload_n 2, 1) := dk_28 (dk_at dksX1_span_3 8 rfl rfl)
theorem dX1_span_76 : decode cX1_span 76 = .ok (.ifCond .eq 12, 3) := dk_153 0 12 (dk_at dksX1_span_3 9 rfl rfl)
theorem dX1_span_79 : decode cX1_span 79 = .ok (.iload_n 3, 1) := dk_29 (dk_at dksX1_span_3 12 rfl rfl)
theorem dX1_span_80 : decode cX1_span 80 = .ok (.iload 5, 2) := dk_21 5 (dk_at dksX1_span_3 13 rfl rfl)
theorem dX1_span_82 : decode cX1_span 82 = .ok (.invokestatic 471, 3) := dk_184 1 215 (dk_at dksX1_span_3 15 rfl rfl)
theorem dX1_span_85 : decode cX1_span 85 = .ok (.goto 9, 3) := dk_167 0 9 (dk_at dksX1_span_3 18 rfl rfl)
theorem dX1_span_88 : decode cX1_span 88 = .ok (.iload_n 3, 1) := dk_29 (dk_at dksX1_span_3 21 rfl rfl)
theorem dX1_span_89 : decode cX1_span 89 = .ok (.iload 5, 2) := dk_21 5 (dk_at dksX1_span_3 22 rfl rfl)
theorem dX1_span_91 : decode cX1_span 91 = .ok (.invokestatic 456, 3) := dk_184 1 200 (dk_at dksX1_span_4 0 rfl rfl)
theorem dX1_span_94 : decode cX1_span 94 = .ok (.istore_n 3, 1) := dk_62 (dk_at dksX1_span_4 3 rfl rfl)
theorem dX1_span_95 : decode cX1_span 95 = .ok (.iinc 4 1, 3) := dk_132 4 1 (dk_at dksX1_span_4 4 rfl rfl)
theorem dX1_span_98 : decode cX1_span 98 = .ok (.goto (-83), 3) := dk_167 255 173 (dk_at dksX1_span_4 7 rfl rfl)
theorem dX1_span_101 : decode cX1_span 101 = .ok (.iload_n 3, 1) := dk_29 (dk_at dksX1_span_4 10 rfl rfl)
theorem dX1_span_102 : decode cX1_span 102 = .ok (.ireturn, 1) := dk_172 (dk_at dksX1_span_4 11 rfl rfl)
abbrev cX1_led : ByteArray := prog_1_method_100_code
def yX1_led : MethodName := ⟨RX1, "led", "(IZ)I"⟩
def dkwX1_led_2 : List UInt8 := [182, 2, 44, 54, 4, 132, 5, 255, 167, 255, 222, 28, 153, 0, 8, 21, 4, 167, 0, 4, 29, 172]
abbrev dktX1_led_2 : List UInt8 := dkwX1_led_2 ++ []
def dkwX1_led_1 : List UInt8 := [155, 0, 35, 42, 21, 5, 4, 182, 2, 44, 27, 159, 0, 6, 167, 0, 15, 132, 3, 1, 42, 21, 5, 3]
abbrev dktX1_led_1 : List UInt8 := dkwX1_led_1 ++ dktX1_led_2
def dkwX1_led_0 : List UInt8 := [42, 27, 182, 1, 162, 3, 62, 2, 54, 4, 42, 180, 0, 10, 180, 2, 41, 4, 100, 54, 5, 21, 5]
abbrev dktX1_led_0 : List UInt8 := dkwX1_led_0 ++ dktX1_led_1
theorem dksX1_led_0 : cX1_led.data.toList.drop 0 = dktX1_led_0 := by decide +kernel
theorem dksX1_led_1 : cX1_led.data.toList.drop 23 = dktX1_led_1 := dk_seg dksX1_led_0 23 rfl rfl
theorem dksX1_led_2 : cX1_led.data.toList.drop 47 = dktX1_led_2 := dk_seg dksX1_led_1 24 rfl rfl
theorem dX1_led_0 : decode cX1_led 0 = .ok (.aload_n 0, 1) := dk_42 (dk_at dksX1_led_0 0 rfl rfl)
theorem dX1_led_1 : decode cX1_led 1 = .ok (.iload_n 1, 1) := dk_27 (dk_at dksX1_led_0 1 rfl rfl)
theorem dX1_led_2 : decode cX1_led 2 = .ok (.invokevirtual 418, 3) := dk_182 1 162 (dk_at dksX1_led_0 2 rfl rfl)
theorem dX1_led_5 : decode cX1_led 5 = .ok (.iconst 0, 1) := dk_3 (dk_at dksX1_led_0 5 rfl rfl)
theorem dX1_led_6 : decode cX1_led 6 = .ok (.istore_n 3, 1) := dk_62 (dk_at dksX1_led_0 6 rfl rfl)
theorem dX1_led_7 : decode cX1_led 7 = .ok (.iconst (-1), 1) := dk_2 (dk_at dksX1_led_0 7 rfl rfl)
theorem dX1_led_8 : decode cX1_led 8 = .ok (.istore 4, 2) := dk_54 4 (dk_at dksX1_led_0 8 rfl rfl)
theorem dX1_led_10 : decode cX1_led 10 = .ok (.aload_n 0, 1) := dk_42 (dk_at dksX1_led_0 10 rfl rfl)
theorem dX1_led_11 : decode cX1_led 11 = .ok (.getfield 10, 3) := dk_180 0 10 (dk_at dksX1_led_0 11 rfl rfl)
theorem dX1_led_14 : decode cX1_led 14 = .ok (.getfield 553, 3) := dk_180 2 41 (dk_at dksX1_led_0 14 rfl rfl)
theorem dX1_led_17 : decode cX1_led 17 = .ok (.iconst 1, 1) := dk_4 (dk_at dksX1_led_0 17 rfl rfl)
theorem dX1_led_18 : decode cX1_led 18 = .ok (.isub, 1) := dk_100 (dk_at dksX1_led_0 18 rfl rfl)
theorem dX1_led_19 : decode cX1_led 19 = .ok (.istore 5, 2) := dk_54 5 (dk_at dksX1_led_0 19 rfl rfl)
theorem dX1_led_21 : decode cX1_led 21 = .ok (.iload 5, 2) := dk_21 5 (dk_at dksX1_led_0 21 rfl rfl)
theorem dX1_led_23 : decode cX1_led 23 = .ok (.ifCond .lt 35, 3) := dk_155 0 35 (dk_at dksX1_led_1 0 rfl rfl)
theorem dX1_led_26 : decode cX1_led 26 = .ok (.aload_n 0, 1) := dk_42 (dk_at dksX1_led_1 3 rfl rfl)
theorem dX1_led_27 : decode cX1_led 27 = .ok (.iload 5, 2) := dk_21 5 (dk_at dksX1_led_1 4 rfl rfl)
theorem dX1_led_29 : decode cX1_led 29 = .ok (.iconst 1, 1) := dk_4 (dk_at dksX1_led_1 6 rfl rfl)
theorem dX1_led_30 : decode cX1_led 30 = .ok (.invokevirtual 556, 3) := dk_182 2 44 (dk_at dksX1_led_1 7 rfl rfl)
theorem dX1_led_33 : decode cX1_led 33 = .ok (.iload_n 1, 1) := dk_27 (dk_at dksX1_led_1 10 rfl rfl)
theorem dX1_led_34 : decode cX1_led 34 = .ok (.if_icmp .eq 6, 3) := dk_159 0 6 (dk_at dksX1_led_1 11 rfl rfl)
theorem dX1_led_37 : decode cX1_led 37 = .ok (.goto 15, 3) := dk_167 0 15 (dk_at dksX1_led_1 14 rfl rfl)
theorem dX1_led_40 : decode cX1_led 40 = .ok (.iinc 3 1, 3) := dk_132 3 1 (dk_at dksX1_led_1 17 rfl rfl)
theorem dX1_led_43 : decode cX1_led 43 = .ok (.aload_n 0, 1) := dk_42 (dk_at dksX1_led_1 20 rfl rfl)
theorem dX1_led_44 : decode cX1_led 44 = .ok (.iload 5, 2) := dk_21 5 (dk_at dksX1_led_1 21 rfl rfl)
theorem dX1_led_46 : decode cX1_led 46 = .ok (.iconst 0, 1) := dk_3 (dk_at dksX1_led_1 23 rfl rfl)
theorem dX1_led_47 : decode cX1_led 47 = .ok (.invokevirtual 556, 3) := dk_182 2 44 (dk_at dksX1_led_2 0 rfl rfl)
theorem dX1_led_50 : decode cX1_led 50 = .ok (.istore 4, 2) := dk_54 4 (dk_at dksX1_led_2 3 rfl rfl)
theorem dX1_led_52 : decode cX1_led 52 = .ok (.iinc 5 (-1), 3) := dk_132 5 255 (dk_at dksX1_led_2 5 rfl rfl)
theorem dX1_led_55 : decode cX1_led 55 = .ok (.goto (-34), 3) := dk_167 255 222 (dk_at dksX1_led_2 8 rfl rfl)
theorem dX1_led_58 : decode cX1_led 58 = .ok (.iload_n 2, 1) := dk_28 (dk_at dksX1_led_2 11 rfl rfl)
theorem dX1_led_59 : decode cX1_led 59 = .ok (.ifCond .eq 8, 3) := dk_153 0 8 (dk_at dksX1_led_2 12 rfl rfl)
theorem dX1_led_62 : decode cX1_led 62 = .ok (.iload 4, 2) := dk_21 4 (dk_at dksX1_led_2 15 rfl rfl)
theorem dX1_led_64 : decode cX1_led 64 = .ok (.goto 4, 3) := dk_167 0 4 (dk_at dksX1_led_2 17 rfl rfl)
theorem dX1_led_67 : decode cX1_led 67 = .ok (.iload_n 3, 1) := dk_29 (dk_at dksX1_led_2 20 rfl rfl)
theorem dX1_led_68 : decode cX1_led 68 = .ok (.ireturn, 1) := dk_172 (dk_at dksX1_led_2 21 rfl rfl)
abbrev cX1_ofLog : ByteArray := prog_1_method_99_code
def yX1_ofLog : MethodName := ⟨RX1, "ofLog", "(II)I"⟩
def dkwX1_ofLog_0 : List UInt8 := [42, 180, 0, 10, 180, 2, 38, 7, 27, 104, 28, 96, 46, 172]
abbrev dktX1_ofLog_0 : List UInt8 := dkwX1_ofLog_0 ++ []
theorem dksX1_ofLog_0 : cX1_ofLog.data.toList.drop 0 = dktX1_ofLog_0 := by decide +kernel
theorem dX1_ofLog_0 : decode cX1_ofLog 0 = .ok (.aload_n 0, 1) := dk_42 (dk_at dksX1_ofLog_0 0 rfl rfl)
theorem dX1_ofLog_1 : decode cX1_ofLog 1 = .ok (.getfield 10, 3) := dk_180 0 10 (dk_at dksX1_ofLog_0 1 rfl rfl)
theorem dX1_ofLog_4 : decode cX1_ofLog 4 = .ok (.getfield 550, 3) := dk_180 2 38 (dk_at dksX1_ofLog_0 4 rfl rfl)
theorem dX1_ofLog_7 : decode cX1_ofLog 7 = .ok (.iconst 4, 1) := dk_7 (dk_at dksX1_ofLog_0 7 rfl rfl)
theorem dX1_ofLog_8 : decode cX1_ofLog 8 = .ok (.iload_n 1, 1) := dk_27 (dk_at dksX1_ofLog_0 8 rfl rfl)
theorem dX1_ofLog_9 : decode cX1_ofLog 9 = .ok (.imul, 1) := dk_104 (dk_at dksX1_ofLog_0 9 rfl rfl)
theorem dX1_ofLog_10 : decode cX1_ofLog 10 = .ok (.iload_n 2, 1) := dk_28 (dk_at dksX1_ofLog_0 10 rfl rfl)
theorem dX1_ofLog_11 : decode cX1_ofLog 11 = .ok (.iadd, 1) := dk_96 (dk_at dksX1_ofLog_0 11 rfl rfl)
theorem dX1_ofLog_12 : decode cX1_ofLog 12 = .ok (.iaload, 1) := dk_46 (dk_at dksX1_ofLog_0 12 rfl rfl)
theorem dX1_ofLog_13 : decode cX1_ofLog 13 = .ok (.ireturn, 1) := dk_172 (dk_at dksX1_ofLog_0 13 rfl rfl)
abbrev cX1_log : ByteArray := prog_1_method_101_code
def yX1_log : MethodName := ⟨RX1, "log", "(II)I"⟩
def dkwX1_log_1 : List UInt8 := [28, 182, 2, 44, 167, 0, 4, 2, 172]
abbrev dktX1_log_1 : List UInt8 := dkwX1_log_1 ++ []
def dkwX1_log_0 : List UInt8 := [28, 6, 184, 1, 165, 27, 3, 42, 180, 0, 10, 180, 2, 41, 4, 100, 184, 1, 146, 153, 0, 12, 42, 27]
abbrev dktX1_log_0 : List UInt8 := dkwX1_log_0 ++ dktX1_log_1
theorem dksX1_log_0 : cX1_log.data.toList.drop 0 = dktX1_log_0 := by decide +kernel
theorem dksX1_log_1 : cX1_log.data.toList.drop 24 = dktX1_log_1 := dk_seg dksX1_log_0 24 rfl rfl
theorem dX1_log_0 : decode cX1_log 0 = .ok (.iload_n 2, 1) := dk_28 (dk_at dksX1_log_0 0 rfl rfl)
theorem dX1_log_1 : decode cX1_log 1 = .ok (.iconst 3, 1) := dk_6 (dk_at dksX1_log_0 1 rfl rfl)
theorem dX1_log_2 : decode cX1_log 2 = .ok (.invokestatic 421, 3) := dk_184 1 165 (dk_at dksX1_log_0 2 rfl rfl)
theorem dX1_log_5 : decode cX1_log 5 = .ok (.iload_n 1, 1) := dk_27 (dk_at dksX1_log_0 5 rfl rfl)
theorem dX1_log_6 : decode cX1_log 6 = .ok (.iconst 0, 1) := dk_3 (dk_at dksX1_log_0 6 rfl rfl)
theorem dX1_log_7 : decode cX1_log 7 = .ok (.aload_n 0, 1) := dk_42 (dk_at dksX1_log_0 7 rfl rfl)
theorem dX1_log_8 : decode cX1_log 8 = .ok (.getfield 10, 3) := dk_180 0 10 (dk_at dksX1_log_0 8 rfl rfl)
theorem dX1_log_11 : decode cX1_log 11 = .ok (.getfield 553, 3) := dk_180 2 41 (dk_at dksX1_log_0 11 rfl rfl)
theorem dX1_log_14 : decode cX1_log 14 = .ok (.iconst 1, 1) := dk_4 (dk_at dksX1_log_0 14 rfl rfl)
theorem dX1_log_15 : decode cX1_log 15 = .ok (.isub, 1) := dk_100 (dk_at dksX1_log_0 15 rfl rfl)
theorem dX1_log_16 : decode cX1_log 16 = .ok (.invokestatic 402, 3) := dk_184 1 146 (dk_at dksX1_log_0 16 rfl rfl)
theorem dX1_log_19 : decode cX1_log 19 = .ok (.ifCond .eq 12, 3) := dk_153 0 12 (dk_at dksX1_log_0 19 rfl rfl)
theorem dX1_log_22 : decode cX1_log 22 = .ok (.aload_n 0, 1) := dk_42 (dk_at dksX1_log_0 22 rfl rfl)
theorem dX1_log_23 : decode cX1_log 23 = .ok (.iload_n 1, 1) := dk_27 (dk_at dksX1_log_0 23 rfl rfl)
theorem dX1_log_24 : decode cX1_log 24 = .ok (.iload_n 2, 1) := dk_28 (dk_at dksX1_log_1 0 rfl rfl)
theorem dX1_log_25 : decode cX1_log 25 = .ok (.invokevirtual 556, 3) := dk_182 2 44 (dk_at dksX1_log_1 1 rfl rfl)
theorem dX1_log_28 : decode cX1_log 28 = .ok (.goto 4, 3) := dk_167 0 4 (dk_at dksX1_log_1 4 rfl rfl)
theorem dX1_log_31 : decode cX1_log 31 = .ok (.iconst (-1), 1) := dk_2 (dk_at dksX1_log_1 7 rfl rfl)
theorem dX1_log_32 : decode cX1_log 32 = .ok (.ireturn, 1) := dk_172 (dk_at dksX1_log_1 8 rfl rfl)
theorem q107 : (Jvm.Cond.initialized "SaturdayKeep") ∈ lw_all := lw_g (lw_at lw_m1 1 rfl) rfl
theorem q149 : (Jvm.Cond.instantiable "SaturdayKeep" (10 : Nat)) ∈ lw_all := lw_g (lw_at lw_m1 43 rfl) rfl
theorem q151 : (Jvm.Cond.instanceMethod ({ cls := "SaturdayKeep", name := "<init>", desc := "()V" } : Jvm.MethodName)) ∈ lw_all := lw_g (lw_at lw_m1 45 rfl) rfl
theorem q152 : (Jvm.Cond.code ({ cls := "SaturdayKeep", name := "<init>", desc := "()V" } : Jvm.MethodName) prog_1_method_1_code (1 : Nat) (Option.none : Option Jvm.ClassFile.FieldType)) ∈ lw_all := lw_g (lw_at lw_m1 46 rfl) rfl
theorem q153 : (Jvm.Cond.methodLink "SaturdayKeep" (1 : Nat) ({ cls := "java/lang/Object", name := "<init>", desc := "()V" } : Jvm.MethodName)) ∈ lw_all := lw_g (lw_at lw_m1 47 rfl) rfl
theorem q156 : (Jvm.Cond.classLink "SaturdayKeep" (7 : Nat) "SaturdayKeep$World") ∈ lw_all := lw_g (lw_at lw_m1 50 rfl) rfl
theorem q158 : (Jvm.Cond.methodLinkNest "SaturdayKeep" (9 : Nat) ({ cls := "SaturdayKeep$World", name := "<init>", desc := "()V" } : Jvm.MethodName) "SaturdayKeep") ∈ lw_tbl := lw_at lw_m1 52 rfl
theorem q163 : (Jvm.Cond.fieldLinkNest "SaturdayKeep" (213 : Nat) "SaturdayKeep$World" "texts" "I" "SaturdayKeep") ∈ lw_tbl := lw_at lw_m1 57 rfl
theorem q166 : (Jvm.Cond.fieldLinkNest "SaturdayKeep" (92 : Nat) "SaturdayKeep$World" "guests" "I" "SaturdayKeep") ∈ lw_tbl := lw_at lw_m1 60 rfl
theorem q168 : (Jvm.Cond.fieldLinkNest "SaturdayKeep" (173 : Nat) "SaturdayKeep$World" "day" "I" "SaturdayKeep") ∈ lw_tbl := lw_at lw_m1 62 rfl
theorem q171 : (Jvm.Cond.fieldLinkNest "SaturdayKeep" (160 : Nat) "SaturdayKeep$World" "bath" "I" "SaturdayKeep") ∈ lw_tbl := lw_at lw_m1 65 rfl
theorem q173 : (Jvm.Cond.fieldLinkNest "SaturdayKeep" (164 : Nat) "SaturdayKeep$World" "kept" "I" "SaturdayKeep") ∈ lw_tbl := lw_at lw_m1 67 rfl
theorem q175 : (Jvm.Cond.fieldLinkNest "SaturdayKeep" (167 : Nat) "SaturdayKeep$World" "masons" "I" "SaturdayKeep") ∈ lw_tbl := lw_at lw_m1 69 rfl
theorem q177 : (Jvm.Cond.fieldLinkNest "SaturdayKeep" (169 : Nat) "SaturdayKeep$World" "stones" "I" "SaturdayKeep") ∈ lw_tbl := lw_at lw_m1 71 rfl
theorem q179 : (Jvm.Cond.fieldLinkNest "SaturdayKeep" (336 : Nat) "SaturdayKeep$World" "towers" "I" "SaturdayKeep") ∈ lw_tbl := lw_at lw_m1 73 rfl
theorem q181 : (Jvm.Cond.fieldLinkNest "SaturdayKeep" (171 : Nat) "SaturdayKeep$World" "bore" "I" "SaturdayKeep") ∈ lw_tbl := lw_at lw_m1 75 rfl
theorem q183 : (Jvm.Cond.fieldLinkNest "SaturdayKeep" (461 : Nat) "SaturdayKeep$World" "seen" "I" "SaturdayKeep") ∈ lw_tbl := lw_at lw_m1 77 rfl
theorem q185 : (Jvm.Cond.fieldLinkNest "SaturdayKeep" (553 : Nat) "SaturdayKeep$World" "logged" "I" "SaturdayKeep") ∈ lw_tbl := lw_at lw_m1 79 rfl
theorem q187 : (Jvm.Cond.fieldLinkNest "SaturdayKeep" (547 : Nat) "SaturdayKeep$World" "seed" "I" "SaturdayKeep") ∈ lw_tbl := lw_at lw_m1 81 rfl
theorem q189 : (Jvm.Cond.fieldLinkNest "SaturdayKeep" (162 : Nat) "SaturdayKeep$World" "shift" "[I" "SaturdayKeep") ∈ lw_tbl := lw_at lw_m1 83 rfl
theorem q192 : (Jvm.Cond.fieldLinkNest "SaturdayKeep" (104 : Nat) "SaturdayKeep$World" "room" "[I" "SaturdayKeep") ∈ lw_tbl := lw_at lw_m1 86 rfl
theorem q194 : (Jvm.Cond.fieldLinkNest "SaturdayKeep" (95 : Nat) "SaturdayKeep$World" "wish" "[I" "SaturdayKeep") ∈ lw_tbl := lw_at lw_m1 88 rfl
theorem q196 : (Jvm.Cond.fieldLinkNest "SaturdayKeep" (109 : Nat) "SaturdayKeep$World" "doubt" "[I" "SaturdayKeep") ∈ lw_tbl := lw_at lw_m1 90 rfl
theorem q199 : (Jvm.Cond.fieldLinkNest "SaturdayKeep" (117 : Nat) "SaturdayKeep$World" "key" "[Z" "SaturdayKeep") ∈ lw_tbl := lw_at lw_m1 93 rfl
theorem q202 : (Jvm.Cond.fieldLinkNest "SaturdayKeep" (122 : Nat) "SaturdayKeep$World" "here" "[Z" "SaturdayKeep") ∈ lw_tbl := lw_at lw_m1 96 rfl
theorem q204 : (Jvm.Cond.fieldLinkNest "SaturdayKeep" (129 : Nat) "SaturdayKeep$World" "holes" "[I" "SaturdayKeep") ∈ lw_tbl := lw_at lw_m1 98 rfl
theorem q206 : (Jvm.Cond.fieldLinkNest "SaturdayKeep" (550 : Nat) "SaturdayKeep$World" "log" "[I" "SaturdayKeep") ∈ lw_tbl := lw_at lw_m1 100 rfl
theorem q208 : (Jvm.Cond.fieldLinkNest "SaturdayKeep" (323 : Nat) "SaturdayKeep$World" "law" "LSaturdayKeep$Law;" "SaturdayKeep") ∈ lw_tbl := lw_at lw_m1 102 rfl
theorem q254 : (Jvm.Cond.classLink "SaturdayKeep" (22 : Nat) "SaturdayKeep$Reader") ∈ lw_all := lw_g (lw_at lw_m1 148 rfl) rfl
theorem q256 : (Jvm.Cond.methodLinkNest "SaturdayKeep" (24 : Nat) ({ cls := "SaturdayKeep$Reader", name := "<init>", desc := "()V" } : Jvm.MethodName) "SaturdayKeep") ∈ lw_tbl := lw_at lw_m1 150 rfl
theorem q261 : (Jvm.Cond.fieldLinkNest "SaturdayKeep" (521 : Nat) "SaturdayKeep$Reader" "tape" "[B" "SaturdayKeep") ∈ lw_tbl := lw_at lw_m1 155 rfl
theorem q264 : (Jvm.Cond.fieldLinkNest "SaturdayKeep" (518 : Nat) "SaturdayKeep$Reader" "end" "I" "SaturdayKeep") ∈ lw_tbl := lw_at lw_m1 158 rfl
theorem q267 : (Jvm.Cond.fieldLinkNest "SaturdayKeep" (192 : Nat) "SaturdayKeep$Reader" "begin" "I" "SaturdayKeep") ∈ lw_tbl := lw_at lw_m1 161 rfl
theorem q269 : (Jvm.Cond.fieldLinkNest "SaturdayKeep" (66 : Nat) "SaturdayKeep$Reader" "fault" "I" "SaturdayKeep") ∈ lw_tbl := lw_at lw_m1 163 rfl
theorem q287 : (Jvm.Cond.classLink "SaturdayKeep" (29 : Nat) "SaturdayKeep$Scene") ∈ lw_all := lw_g (lw_at lw_m1 181 rfl) rfl
theorem q289 : (Jvm.Cond.methodLinkNest "SaturdayKeep" (31 : Nat) ({ cls := "SaturdayKeep$Scene", name := "<init>", desc := "()V" } : Jvm.MethodName) "SaturdayKeep") ∈ lw_tbl := lw_at lw_m1 183 rfl
theorem q294 : (Jvm.Cond.fieldLinkNest "SaturdayKeep" (327 : Nat) "SaturdayKeep$Scene" "guest" "I" "SaturdayKeep") ∈ lw_tbl := lw_at lw_m1 188 rfl
theorem q296 : (Jvm.Cond.fieldLinkNest "SaturdayKeep" (329 : Nat) "SaturdayKeep$Scene" "room" "I" "SaturdayKeep") ∈ lw_tbl := lw_at lw_m1 190 rfl
theorem q298 : (Jvm.Cond.fieldLinkNest "SaturdayKeep" (331 : Nat) "SaturdayKeep$Scene" "wish" "I" "SaturdayKeep") ∈ lw_tbl := lw_at lw_m1 192 rfl
theorem q300 : (Jvm.Cond.fieldLinkNest "SaturdayKeep" (333 : Nat) "SaturdayKeep$Scene" "doubted" "I" "SaturdayKeep") ∈ lw_tbl := lw_at lw_m1 194 rfl
theorem q302 : (Jvm.Cond.fieldLinkNest "SaturdayKeep" (339 : Nat) "SaturdayKeep$Scene" "towers" "I" "SaturdayKeep") ∈ lw_tbl := lw_at lw_m1 196 rfl
theorem q304 : (Jvm.Cond.fieldLinkNest "SaturdayKeep" (346 : Nat) "SaturdayKeep$Scene" "holes" "I" "SaturdayKeep") ∈ lw_tbl := lw_at lw_m1 198 rfl
theorem q306 : (Jvm.Cond.fieldLinkNest "SaturdayKeep" (348 : Nat) "SaturdayKeep$Scene" "week" "I" "SaturdayKeep") ∈ lw_tbl := lw_at lw_m1 200 rfl
theorem q308 : (Jvm.Cond.fieldLinkNest "SaturdayKeep" (351 : Nat) "SaturdayKeep$Scene" "key" "Z" "SaturdayKeep") ∈ lw_tbl := lw_at lw_m1 202 rfl
theorem q310 : (Jvm.Cond.fieldLinkNest "SaturdayKeep" (358 : Nat) "SaturdayKeep$Scene" "eve" "Z" "SaturdayKeep") ∈ lw_tbl := lw_at lw_m1 204 rfl
theorem q330 : (Jvm.Cond.classLink "SaturdayKeep" (39 : Nat) "java/util/ArrayList") ∈ lw_all := lw_g (lw_at lw_m1 224 rfl) rfl
theorem q332 : (Jvm.Cond.methodLink "SaturdayKeep" (41 : Nat) ({ cls := "java/util/ArrayList", name := "<init>", desc := "()V" } : Jvm.MethodName)) ∈ lw_all := lw_g (lw_at lw_m1 226 rfl) rfl
theorem q356 : (Jvm.Cond.classLink "SaturdayKeep" (46 : Nat) "SaturdayKeep$Lodge") ∈ lw_all := lw_g (lw_at lw_m2 10 rfl) rfl
theorem q358 : (Jvm.Cond.methodLinkNest "SaturdayKeep" (48 : Nat) ({ cls := "SaturdayKeep$Lodge", name := "<init>", desc := "(LSaturdayKeep;)V" } : Jvm.MethodName) "SaturdayKeep") ∈ lw_tbl := lw_at lw_m2 12 rfl
theorem q363 : (Jvm.Cond.fieldLinkNest "SaturdayKeep" (504 : Nat) "SaturdayKeep$Lodge" "least" "[I" "SaturdayKeep") ∈ lw_tbl := lw_at lw_m2 17 rfl
theorem q370 : (Jvm.Cond.fieldLink "SaturdayKeep" (10 : Nat) "SaturdayKeep" "world" "LSaturdayKeep$World;") ∈ lw_all := lw_g (lw_at lw_m2 24 rfl) rfl
theorem q372 : (Jvm.Cond.fieldLink "SaturdayKeep" (16 : Nat) "SaturdayKeep" "draft" "LSaturdayKeep$World;") ∈ lw_all := lw_g (lw_at lw_m2 26 rfl) rfl
theorem q373 : (Jvm.Cond.fieldLink "SaturdayKeep" (19 : Nat) "SaturdayKeep" "image" "LSaturdayKeep$World;") ∈ lw_all := lw_g (lw_at lw_m2 27 rfl) rfl
theorem q374 : (Jvm.Cond.fieldLink "SaturdayKeep" (562 : Nat) "SaturdayKeep" "hasImage" "Z") ∈ lw_all := lw_g (lw_at lw_m2 28 rfl) rfl
theorem q375 : (Jvm.Cond.fieldLink "SaturdayKeep" (25 : Nat) "SaturdayKeep" "reader" "LSaturdayKeep$Reader;") ∈ lw_all := lw_g (lw_at lw_m2 29 rfl) rfl
theorem q376 : (Jvm.Cond.fieldLink "SaturdayKeep" (32 : Nat) "SaturdayKeep" "scene" "LSaturdayKeep$Scene;") ∈ lw_all := lw_g (lw_at lw_m2 30 rfl) rfl
theorem q377 : (Jvm.Cond.fieldLink "SaturdayKeep" (36 : Nat) "SaturdayKeep" "then" "LSaturdayKeep$World;") ∈ lw_all := lw_g (lw_at lw_m2 31 rfl) rfl
theorem q378 : (Jvm.Cond.fieldLink "SaturdayKeep" (42 : Nat) "SaturdayKeep" "worlds" "Ljava/util/ArrayList;") ∈ lw_all := lw_g (lw_at lw_m2 32 rfl) rfl
theorem q379 : (Jvm.Cond.fieldLink "SaturdayKeep" (51 : Nat) "SaturdayKeep" "lodging" "LSaturdayKeep$Lodge;") ∈ lw_all := lw_g (lw_at lw_m2 33 rfl) rfl
theorem q380 : (Jvm.Cond.fieldLink "SaturdayKeep" (55 : Nat) "SaturdayKeep" "trial" "LSaturdayKeep$World;") ∈ lw_all := lw_g (lw_at lw_m2 34 rfl) rfl
theorem q381 : (Jvm.Cond.laysFinal "SaturdayKeep" "SaturdayKeep" "world" "LSaturdayKeep$World;") ∈ lw_all := lw_g (lw_at lw_m2 35 rfl) rfl
theorem q382 : (Jvm.Cond.soleField "SaturdayKeep" "world") ∈ lw_all := lw_g (lw_at lw_m2 36 rfl) rfl
theorem q383 : (Jvm.Cond.laysFinal "SaturdayKeep" "SaturdayKeep" "draft" "LSaturdayKeep$World;") ∈ lw_all := lw_g (lw_at lw_m2 37 rfl) rfl
theorem q384 : (Jvm.Cond.soleField "SaturdayKeep" "draft") ∈ lw_all := lw_g (lw_at lw_m2 38 rfl) rfl
theorem q385 : (Jvm.Cond.laysFinal "SaturdayKeep" "SaturdayKeep" "image" "LSaturdayKeep$World;") ∈ lw_all := lw_g (lw_at lw_m2 39 rfl) rfl
theorem q386 : (Jvm.Cond.soleField "SaturdayKeep" "image") ∈ lw_all := lw_g (lw_at lw_m2 40 rfl) rfl
theorem q387 : (Jvm.Cond.lays "SaturdayKeep" "SaturdayKeep" "hasImage" "Z") ∈ lw_all := lw_g (lw_at lw_m2 41 rfl) rfl
theorem q388 : (Jvm.Cond.soleField "SaturdayKeep" "hasImage") ∈ lw_all := lw_g (lw_at lw_m2 42 rfl) rfl
theorem q389 : (Jvm.Cond.laysFinal "SaturdayKeep" "SaturdayKeep" "reader" "LSaturdayKeep$Reader;") ∈ lw_all := lw_g (lw_at lw_m2 43 rfl) rfl
theorem q390 : (Jvm.Cond.soleField "SaturdayKeep" "reader") ∈ lw_all := lw_g (lw_at lw_m2 44 rfl) rfl
theorem q391 : (Jvm.Cond.laysFinal "SaturdayKeep" "SaturdayKeep" "scene" "LSaturdayKeep$Scene;") ∈ lw_all := lw_g (lw_at lw_m2 45 rfl) rfl
theorem q392 : (Jvm.Cond.soleField "SaturdayKeep" "scene") ∈ lw_all := lw_g (lw_at lw_m2 46 rfl) rfl
theorem q393 : (Jvm.Cond.laysFinal "SaturdayKeep" "SaturdayKeep" "then" "LSaturdayKeep$World;") ∈ lw_all := lw_g (lw_at lw_m2 47 rfl) rfl
theorem q394 : (Jvm.Cond.soleField "SaturdayKeep" "then") ∈ lw_all := lw_g (lw_at lw_m2 48 rfl) rfl
theorem q395 : (Jvm.Cond.laysFinal "SaturdayKeep" "SaturdayKeep" "worlds" "Ljava/util/ArrayList;") ∈ lw_all := lw_g (lw_at lw_m2 49 rfl) rfl
theorem q396 : (Jvm.Cond.soleField "SaturdayKeep" "worlds") ∈ lw_all := lw_g (lw_at lw_m2 50 rfl) rfl
theorem q397 : (Jvm.Cond.laysFinal "SaturdayKeep" "SaturdayKeep" "lodging" "LSaturdayKeep$Lodge;") ∈ lw_all := lw_g (lw_at lw_m2 51 rfl) rfl
theorem q398 : (Jvm.Cond.soleField "SaturdayKeep" "lodging") ∈ lw_all := lw_g (lw_at lw_m2 52 rfl) rfl
theorem q399 : (Jvm.Cond.laysFinal "SaturdayKeep" "SaturdayKeep" "trial" "LSaturdayKeep$World;") ∈ lw_all := lw_g (lw_at lw_m2 53 rfl) rfl
theorem q400 : (Jvm.Cond.soleField "SaturdayKeep" "trial") ∈ lw_all := lw_g (lw_at lw_m2 54 rfl) rfl
theorem q401 : (Jvm.Cond.superclass "SaturdayKeep" "java/lang/Object") ∈ lw_all := lw_g (lw_at lw_m2 55 rfl) rfl
theorem q403 : (Jvm.Cond.instanceMethod ({ cls := "SaturdayKeep", name := "feed", desc := "(IIIII)I" } : Jvm.MethodName)) ∈ lw_all := lw_g (lw_at lw_m2 57 rfl) rfl
theorem q404 : (Jvm.Cond.selects "SaturdayKeep" ({ cls := "SaturdayKeep", name := "feed", desc := "(IIIII)I" } : Jvm.MethodName) ({ cls := "SaturdayKeep", name := "feed", desc := "(IIIII)I" } : Jvm.MethodName)) ∈ lw_all := lw_g (lw_at lw_m2 58 rfl) rfl
theorem q405 : (Jvm.Cond.code ({ cls := "SaturdayKeep", name := "feed", desc := "(IIIII)I" } : Jvm.MethodName) prog_1_method_3_code (6 : Nat) (Option.some Jvm.ClassFile.FieldType.int)) ∈ lw_all := lw_g (lw_at lw_m2 59 rfl) rfl
theorem q406 : (Jvm.Cond.methodLink "SaturdayKeep" (58 : Nat) ({ cls := "SaturdayKeep$Reader", name := "add", desc := "([I)I" } : Jvm.MethodName)) ∈ lw_all := lw_g (lw_at lw_m2 60 rfl) rfl
theorem q411 : (Jvm.Cond.instanceMethod ({ cls := "SaturdayKeep", name := "end", desc := "(I)Z" } : Jvm.MethodName)) ∈ lw_all := lw_g (lw_at lw_m2 65 rfl) rfl
theorem q412 : (Jvm.Cond.selects "SaturdayKeep" ({ cls := "SaturdayKeep", name := "end", desc := "(I)Z" } : Jvm.MethodName) ({ cls := "SaturdayKeep", name := "end", desc := "(I)Z" } : Jvm.MethodName)) ∈ lw_all := lw_g (lw_at lw_m2 66 rfl) rfl
theorem q413 : (Jvm.Cond.code ({ cls := "SaturdayKeep", name := "end", desc := "(I)Z" } : Jvm.MethodName) prog_1_method_4_code (2 : Nat) (Option.some Jvm.ClassFile.FieldType.boolean)) ∈ lw_all := lw_g (lw_at lw_m2 67 rfl) rfl
theorem q414 : (Jvm.Cond.methodLink "SaturdayKeep" (62 : Nat) ({ cls := "SaturdayKeep$Reader", name := "cut", desc := "(I)Z" } : Jvm.MethodName)) ∈ lw_all := lw_g (lw_at lw_m2 68 rfl) rfl
theorem q419 : (Jvm.Cond.instanceMethod ({ cls := "SaturdayKeep", name := "fault", desc := "()I" } : Jvm.MethodName)) ∈ lw_all := lw_g (lw_at lw_m2 73 rfl) rfl
theorem q420 : (Jvm.Cond.selects "SaturdayKeep" ({ cls := "SaturdayKeep", name := "fault", desc := "()I" } : Jvm.MethodName) ({ cls := "SaturdayKeep", name := "fault", desc := "()I" } : Jvm.MethodName)) ∈ lw_all := lw_g (lw_at lw_m2 74 rfl) rfl
theorem q421 : (Jvm.Cond.code ({ cls := "SaturdayKeep", name := "fault", desc := "()I" } : Jvm.MethodName) prog_1_method_5_code (1 : Nat) (Option.some Jvm.ClassFile.FieldType.int)) ∈ lw_all := lw_g (lw_at lw_m2 75 rfl) rfl
theorem q423 : (Jvm.Cond.instanceMethod ({ cls := "SaturdayKeep", name := "both", desc := "()I" } : Jvm.MethodName)) ∈ lw_all := lw_g (lw_at lw_m2 77 rfl) rfl
theorem q424 : (Jvm.Cond.selects "SaturdayKeep" ({ cls := "SaturdayKeep", name := "both", desc := "()I" } : Jvm.MethodName) ({ cls := "SaturdayKeep", name := "both", desc := "()I" } : Jvm.MethodName)) ∈ lw_all := lw_g (lw_at lw_m2 78 rfl) rfl
theorem q425 : (Jvm.Cond.code ({ cls := "SaturdayKeep", name := "both", desc := "()I" } : Jvm.MethodName) prog_1_method_56_code (2 : Nat) (Option.some Jvm.ClassFile.FieldType.int)) ∈ lw_all := lw_g (lw_at lw_m2 79 rfl) rfl
theorem q426 : (Jvm.Cond.methodLink "SaturdayKeep" (354 : Nat) ({ cls := "SaturdayKeep$World", name := "isSaturday", desc := "(II)Z" } : Jvm.MethodName)) ∈ lw_all := lw_g (lw_at lw_m2 80 rfl) rfl
theorem q431 : (Jvm.Cond.instanceMethod ({ cls := "SaturdayKeep", name := "gone", desc := "()I" } : Jvm.MethodName)) ∈ lw_all := lw_g (lw_at lw_m2 85 rfl) rfl
theorem q432 : (Jvm.Cond.selects "SaturdayKeep" ({ cls := "SaturdayKeep", name := "gone", desc := "()I" } : Jvm.MethodName) ({ cls := "SaturdayKeep", name := "gone", desc := "()I" } : Jvm.MethodName)) ∈ lw_all := lw_g (lw_at lw_m2 86 rfl) rfl
theorem q433 : (Jvm.Cond.code ({ cls := "SaturdayKeep", name := "gone", desc := "()I" } : Jvm.MethodName) prog_1_method_60_code (2 : Nat) (Option.some Jvm.ClassFile.FieldType.int)) ∈ lw_all := lw_g (lw_at lw_m2 87 rfl) rfl
theorem q434 : (Jvm.Cond.methodLink "SaturdayKeep" (201 : Nat) ({ cls := "SaturdayKeep$World", name := "likens", desc := "(LSaturdayKeep$World;)LSaturdayKeep$World;" } : Jvm.MethodName)) ∈ lw_all := lw_g (lw_at lw_m2 88 rfl) rfl
theorem q444 : (Jvm.Cond.methodLink "SaturdayKeep" (399 : Nat) ({ cls := "SaturdayKeep", name := "oneAhead", desc := "()V" } : Jvm.MethodName)) ∈ lw_all := lw_g (lw_at lw_m2 98 rfl) rfl
theorem q445 : (Jvm.Cond.privateMethod ({ cls := "SaturdayKeep", name := "oneAhead", desc := "()V" } : Jvm.MethodName)) ∈ lw_tbl := lw_at lw_m2 99 rfl
theorem q446 : (Jvm.Cond.instanceMethod ({ cls := "SaturdayKeep", name := "oneAhead", desc := "()V" } : Jvm.MethodName)) ∈ lw_all := lw_g (lw_at lw_m2 100 rfl) rfl
theorem q447 : (Jvm.Cond.code ({ cls := "SaturdayKeep", name := "oneAhead", desc := "()V" } : Jvm.MethodName) prog_1_method_29_code (1 : Nat) (Option.none : Option Jvm.ClassFile.FieldType)) ∈ lw_all := lw_g (lw_at lw_m2 101 rfl) rfl
theorem q448 : (Jvm.Cond.methodLink "SaturdayKeep" (387 : Nat) ({ cls := "SaturdayKeep", name := "allTurn", desc := "(LSaturdayKeep$World;)V" } : Jvm.MethodName)) ∈ lw_all := lw_g (lw_at lw_m2 102 rfl) rfl
theorem q449 : (Jvm.Cond.privateMethod ({ cls := "SaturdayKeep", name := "allTurn", desc := "(LSaturdayKeep$World;)V" } : Jvm.MethodName)) ∈ lw_tbl := lw_at lw_m2 103 rfl
theorem q450 : (Jvm.Cond.instanceMethod ({ cls := "SaturdayKeep", name := "allTurn", desc := "(LSaturdayKeep$World;)V" } : Jvm.MethodName)) ∈ lw_all := lw_g (lw_at lw_m2 104 rfl) rfl
theorem q451 : (Jvm.Cond.code ({ cls := "SaturdayKeep", name := "allTurn", desc := "(LSaturdayKeep$World;)V" } : Jvm.MethodName) prog_1_method_26_code (3 : Nat) (Option.none : Option Jvm.ClassFile.FieldType)) ∈ lw_all := lw_g (lw_at lw_m2 105 rfl) rfl
theorem q452 : (Jvm.Cond.methodLink "SaturdayKeep" (364 : Nat) ({ cls := "SaturdayKeep", name := "turnsBy", desc := "(LSaturdayKeep$World;I)I" } : Jvm.MethodName)) ∈ lw_all := lw_g (lw_at lw_m2 106 rfl) rfl
theorem q453 : (Jvm.Cond.privateMethod ({ cls := "SaturdayKeep", name := "turnsBy", desc := "(LSaturdayKeep$World;I)I" } : Jvm.MethodName)) ∈ lw_tbl := lw_at lw_m2 107 rfl
theorem q454 : (Jvm.Cond.instanceMethod ({ cls := "SaturdayKeep", name := "turnsBy", desc := "(LSaturdayKeep$World;I)I" } : Jvm.MethodName)) ∈ lw_all := lw_g (lw_at lw_m2 108 rfl) rfl
theorem q455 : (Jvm.Cond.code ({ cls := "SaturdayKeep", name := "turnsBy", desc := "(LSaturdayKeep$World;I)I" } : Jvm.MethodName) prog_1_method_25_code (3 : Nat) (Option.some Jvm.ClassFile.FieldType.int)) ∈ lw_all := lw_g (lw_at lw_m2 109 rfl) rfl
theorem q456 : (Jvm.Cond.methodLink "SaturdayKeep" (340 : Nat) ({ cls := "java/lang/Integer", name := "bitCount", desc := "(I)I" } : Jvm.MethodName)) ∈ lw_all := lw_g (lw_at lw_m2 110 rfl) rfl
theorem q462 : (Jvm.Cond.methodLink "SaturdayKeep" (360 : Nat) ({ cls := "SaturdayKeep$Law", name := "turns", desc := "(LSaturdayKeep$Scene;)I" } : Jvm.MethodName)) ∈ lw_all := lw_g (lw_at lw_m2 116 rfl) rfl
theorem q545 : (Jvm.Cond.methodLink "SaturdayKeep" (368 : Nat) ({ cls := "SaturdayKeep$World", name := "doubts", desc := "(II)V" } : Jvm.MethodName)) ∈ lw_all := lw_g (lw_at lw_m2 199 rfl) rfl
theorem q555 : (Jvm.Cond.methodLink "SaturdayKeep" (393 : Nat) ({ cls := "SaturdayKeep$World", name := "builds", desc := "()V" } : Jvm.MethodName)) ∈ lw_all := lw_g (lw_at lw_m2 209 rfl) rfl
theorem q559 : (Jvm.Cond.methodLink "SaturdayKeep" (396 : Nat) ({ cls := "SaturdayKeep$World", name := "ends", desc := "()V" } : Jvm.MethodName)) ∈ lw_all := lw_g (lw_at lw_m2 213 rfl) rfl
theorem q564 : (Jvm.Cond.instanceMethod ({ cls := "SaturdayKeep", name := "odds", desc := "()I" } : Jvm.MethodName)) ∈ lw_all := lw_g (lw_at lw_m2 218 rfl) rfl
theorem q565 : (Jvm.Cond.selects "SaturdayKeep" ({ cls := "SaturdayKeep", name := "odds", desc := "()I" } : Jvm.MethodName) ({ cls := "SaturdayKeep", name := "odds", desc := "()I" } : Jvm.MethodName)) ∈ lw_all := lw_g (lw_at lw_m2 219 rfl) rfl
theorem q566 : (Jvm.Cond.code ({ cls := "SaturdayKeep", name := "odds", desc := "()I" } : Jvm.MethodName) prog_1_method_65_code (1 : Nat) (Option.some Jvm.ClassFile.FieldType.int)) ∈ lw_all := lw_g (lw_at lw_m2 220 rfl) rfl
theorem q567 : (Jvm.Cond.methodLink "SaturdayKeep" (371 : Nat) ({ cls := "SaturdayKeep$World", name := "watchers", desc := "(I)I" } : Jvm.MethodName)) ∈ lw_all := lw_g (lw_at lw_m2 221 rfl) rfl
theorem q580 : (Jvm.Cond.static ({ cls := "SaturdayKeep", name := "has", desc := "(II)Z" } : Jvm.MethodName)) ∈ lw_all := lw_g (lw_at lw_m2 234 rfl) rfl
theorem q581 : (Jvm.Cond.code ({ cls := "SaturdayKeep", name := "has", desc := "(II)Z" } : Jvm.MethodName) prog_1_method_37_code (2 : Nat) (Option.some Jvm.ClassFile.FieldType.boolean)) ∈ lw_all := lw_g (lw_at lw_m2 235 rfl) rfl
theorem q582 : (Jvm.Cond.methodLink "SaturdayKeep" (479 : Nat) ({ cls := "SaturdayKeep", name := "oddsOf", desc := "(I)I" } : Jvm.MethodName)) ∈ lw_all := lw_g (lw_at lw_m2 236 rfl) rfl
theorem q583 : (Jvm.Cond.privateMethod ({ cls := "SaturdayKeep", name := "oddsOf", desc := "(I)I" } : Jvm.MethodName)) ∈ lw_tbl := lw_at lw_m2 237 rfl
theorem q584 : (Jvm.Cond.instanceMethod ({ cls := "SaturdayKeep", name := "oddsOf", desc := "(I)I" } : Jvm.MethodName)) ∈ lw_all := lw_g (lw_at lw_m2 238 rfl) rfl
theorem q585 : (Jvm.Cond.code ({ cls := "SaturdayKeep", name := "oddsOf", desc := "(I)I" } : Jvm.MethodName) prog_1_method_64_code (7 : Nat) (Option.some Jvm.ClassFile.FieldType.int)) ∈ lw_all := lw_g (lw_at lw_m2 239 rfl) rfl
theorem q586 : (Jvm.Cond.methodLink "SaturdayKeep" (374 : Nat) ({ cls := "SaturdayKeep", name := "has", desc := "(II)Z" } : Jvm.MethodName)) ∈ lw_all := lw_g (lw_at lw_m3 0 rfl) rfl
theorem q587 : (Jvm.Cond.methodLink "SaturdayKeep" (380 : Nat) ({ cls := "SaturdayKeep$World", name := "risk", desc := "(I)I" } : Jvm.MethodName)) ∈ lw_all := lw_g (lw_at lw_m3 1 rfl) rfl
theorem q591 : (Jvm.Cond.constantLong "SaturdayKeep" (475 : Nat) (10 : Int64)) ∈ lw_all := lw_g (lw_at lw_m3 5 rfl) rfl
theorem q592 : (Jvm.Cond.constantLong "SaturdayKeep" (477 : Nat) (10000 : Int64)) ∈ lw_all := lw_g (lw_at lw_m3 6 rfl) rfl
theorem q594 : (Jvm.Cond.instanceMethod ({ cls := "SaturdayKeep", name := "send", desc := "()I" } : Jvm.MethodName)) ∈ lw_all := lw_g (lw_at lw_m3 8 rfl) rfl
theorem q595 : (Jvm.Cond.selects "SaturdayKeep" ({ cls := "SaturdayKeep", name := "send", desc := "()I" } : Jvm.MethodName) ({ cls := "SaturdayKeep", name := "send", desc := "()I" } : Jvm.MethodName)) ∈ lw_all := lw_g (lw_at lw_m3 9 rfl) rfl
theorem q596 : (Jvm.Cond.code ({ cls := "SaturdayKeep", name := "send", desc := "()I" } : Jvm.MethodName) prog_1_method_66_code (1 : Nat) (Option.some Jvm.ClassFile.FieldType.int)) ∈ lw_all := lw_g (lw_at lw_m3 10 rfl) rfl
theorem q598 : (Jvm.Cond.instanceMethod ({ cls := "SaturdayKeep", name := "mend", desc := "()I" } : Jvm.MethodName)) ∈ lw_all := lw_g (lw_at lw_m3 12 rfl) rfl
theorem q599 : (Jvm.Cond.selects "SaturdayKeep" ({ cls := "SaturdayKeep", name := "mend", desc := "()I" } : Jvm.MethodName) ({ cls := "SaturdayKeep", name := "mend", desc := "()I" } : Jvm.MethodName)) ∈ lw_all := lw_g (lw_at lw_m3 13 rfl) rfl
theorem q600 : (Jvm.Cond.code ({ cls := "SaturdayKeep", name := "mend", desc := "()I" } : Jvm.MethodName) prog_1_method_68_code (3 : Nat) (Option.some Jvm.ClassFile.FieldType.int)) ∈ lw_all := lw_g (lw_at lw_m3 14 rfl) rfl
theorem q601 : (Jvm.Cond.methodLink "SaturdayKeep" (437 : Nat) ({ cls := "SaturdayKeep$World", name := "inside", desc := "(I)I" } : Jvm.MethodName)) ∈ lw_all := lw_g (lw_at lw_m3 15 rfl) rfl
theorem q606 : (Jvm.Cond.instanceMethod ({ cls := "SaturdayKeep", name := "shut", desc := "()I" } : Jvm.MethodName)) ∈ lw_all := lw_g (lw_at lw_m3 20 rfl) rfl
theorem q607 : (Jvm.Cond.selects "SaturdayKeep" ({ cls := "SaturdayKeep", name := "shut", desc := "()I" } : Jvm.MethodName) ({ cls := "SaturdayKeep", name := "shut", desc := "()I" } : Jvm.MethodName)) ∈ lw_all := lw_g (lw_at lw_m3 21 rfl) rfl
theorem q608 : (Jvm.Cond.code ({ cls := "SaturdayKeep", name := "shut", desc := "()I" } : Jvm.MethodName) prog_1_method_70_code (3 : Nat) (Option.some Jvm.ClassFile.FieldType.int)) ∈ lw_all := lw_g (lw_at lw_m3 22 rfl) rfl
theorem q609 : (Jvm.Cond.methodLink "SaturdayKeep" (485 : Nat) ({ cls := "SaturdayKeep", name := "areShut", desc := "(I)Z" } : Jvm.MethodName)) ∈ lw_all := lw_g (lw_at lw_m3 23 rfl) rfl
theorem q610 : (Jvm.Cond.privateMethod ({ cls := "SaturdayKeep", name := "areShut", desc := "(I)Z" } : Jvm.MethodName)) ∈ lw_tbl := lw_at lw_m3 24 rfl
theorem q611 : (Jvm.Cond.instanceMethod ({ cls := "SaturdayKeep", name := "areShut", desc := "(I)Z" } : Jvm.MethodName)) ∈ lw_all := lw_g (lw_at lw_m3 25 rfl) rfl
theorem q612 : (Jvm.Cond.code ({ cls := "SaturdayKeep", name := "areShut", desc := "(I)Z" } : Jvm.MethodName) prog_1_method_69_code (3 : Nat) (Option.some Jvm.ClassFile.FieldType.boolean)) ∈ lw_all := lw_g (lw_at lw_m3 26 rfl) rfl
theorem q614 : (Jvm.Cond.instanceMethod ({ cls := "SaturdayKeep", name := "quiet", desc := "()I" } : Jvm.MethodName)) ∈ lw_all := lw_g (lw_at lw_m3 28 rfl) rfl
theorem q615 : (Jvm.Cond.selects "SaturdayKeep" ({ cls := "SaturdayKeep", name := "quiet", desc := "()I" } : Jvm.MethodName) ({ cls := "SaturdayKeep", name := "quiet", desc := "()I" } : Jvm.MethodName)) ∈ lw_all := lw_g (lw_at lw_m3 29 rfl) rfl
theorem q616 : (Jvm.Cond.code ({ cls := "SaturdayKeep", name := "quiet", desc := "()I" } : Jvm.MethodName) prog_1_method_71_code (3 : Nat) (Option.some Jvm.ClassFile.FieldType.int)) ∈ lw_all := lw_g (lw_at lw_m3 30 rfl) rfl
theorem q618 : (Jvm.Cond.instanceMethod ({ cls := "SaturdayKeep", name := "best", desc := "()I" } : Jvm.MethodName)) ∈ lw_all := lw_g (lw_at lw_m3 32 rfl) rfl
theorem q619 : (Jvm.Cond.selects "SaturdayKeep" ({ cls := "SaturdayKeep", name := "best", desc := "()I" } : Jvm.MethodName) ({ cls := "SaturdayKeep", name := "best", desc := "()I" } : Jvm.MethodName)) ∈ lw_all := lw_g (lw_at lw_m3 33 rfl) rfl
theorem q620 : (Jvm.Cond.code ({ cls := "SaturdayKeep", name := "best", desc := "()I" } : Jvm.MethodName) prog_1_method_74_code (3 : Nat) (Option.some Jvm.ClassFile.FieldType.int)) ∈ lw_all := lw_g (lw_at lw_m3 34 rfl) rfl
theorem q621 : (Jvm.Cond.methodLink "SaturdayKeep" (491 : Nat) ({ cls := "SaturdayKeep", name := "weightOf", desc := "(I)I" } : Jvm.MethodName)) ∈ lw_all := lw_g (lw_at lw_m3 35 rfl) rfl
theorem q622 : (Jvm.Cond.privateMethod ({ cls := "SaturdayKeep", name := "weightOf", desc := "(I)I" } : Jvm.MethodName)) ∈ lw_tbl := lw_at lw_m3 36 rfl
theorem q623 : (Jvm.Cond.instanceMethod ({ cls := "SaturdayKeep", name := "weightOf", desc := "(I)I" } : Jvm.MethodName)) ∈ lw_all := lw_g (lw_at lw_m3 37 rfl) rfl
theorem q624 : (Jvm.Cond.code ({ cls := "SaturdayKeep", name := "weightOf", desc := "(I)I" } : Jvm.MethodName) prog_1_method_73_code (3 : Nat) (Option.some Jvm.ClassFile.FieldType.int)) ∈ lw_all := lw_g (lw_at lw_m3 38 rfl) rfl
theorem q625 : (Jvm.Cond.methodLink "SaturdayKeep" (488 : Nat) ({ cls := "SaturdayKeep", name := "riskOf", desc := "(I)I" } : Jvm.MethodName)) ∈ lw_all := lw_g (lw_at lw_m3 39 rfl) rfl
theorem q626 : (Jvm.Cond.privateMethod ({ cls := "SaturdayKeep", name := "riskOf", desc := "(I)I" } : Jvm.MethodName)) ∈ lw_tbl := lw_at lw_m3 40 rfl
theorem q627 : (Jvm.Cond.instanceMethod ({ cls := "SaturdayKeep", name := "riskOf", desc := "(I)I" } : Jvm.MethodName)) ∈ lw_all := lw_g (lw_at lw_m3 41 rfl) rfl
theorem q628 : (Jvm.Cond.code ({ cls := "SaturdayKeep", name := "riskOf", desc := "(I)I" } : Jvm.MethodName) prog_1_method_72_code (4 : Nat) (Option.some Jvm.ClassFile.FieldType.int)) ∈ lw_all := lw_g (lw_at lw_m3 42 rfl) rfl
theorem q630 : (Jvm.Cond.instanceMethod ({ cls := "SaturdayKeep", name := "locked", desc := "()I" } : Jvm.MethodName)) ∈ lw_all := lw_g (lw_at lw_m3 44 rfl) rfl
theorem q631 : (Jvm.Cond.selects "SaturdayKeep" ({ cls := "SaturdayKeep", name := "locked", desc := "()I" } : Jvm.MethodName) ({ cls := "SaturdayKeep", name := "locked", desc := "()I" } : Jvm.MethodName)) ∈ lw_all := lw_g (lw_at lw_m3 45 rfl) rfl
theorem q632 : (Jvm.Cond.code ({ cls := "SaturdayKeep", name := "locked", desc := "()I" } : Jvm.MethodName) prog_1_method_75_code (3 : Nat) (Option.some Jvm.ClassFile.FieldType.int)) ∈ lw_all := lw_g (lw_at lw_m3 46 rfl) rfl
theorem q633 : (Jvm.Cond.methodLink "SaturdayKeep" (494 : Nat) ({ cls := "SaturdayKeep$World", name := "sees", desc := "(II)Z" } : Jvm.MethodName)) ∈ lw_all := lw_g (lw_at lw_m3 47 rfl) rfl
theorem q634 : (Jvm.Cond.methodLink "SaturdayKeep" (424 : Nat) ({ cls := "SaturdayKeep$World", name := "spies", desc := "(IZ)I" } : Jvm.MethodName)) ∈ lw_all := lw_g (lw_at lw_m3 48 rfl) rfl
theorem q636 : (Jvm.Cond.instanceMethod ({ cls := "SaturdayKeep", name := "mutual", desc := "()I" } : Jvm.MethodName)) ∈ lw_all := lw_g (lw_at lw_m3 50 rfl) rfl
theorem q637 : (Jvm.Cond.selects "SaturdayKeep" ({ cls := "SaturdayKeep", name := "mutual", desc := "()I" } : Jvm.MethodName) ({ cls := "SaturdayKeep", name := "mutual", desc := "()I" } : Jvm.MethodName)) ∈ lw_all := lw_g (lw_at lw_m3 51 rfl) rfl
theorem q638 : (Jvm.Cond.code ({ cls := "SaturdayKeep", name := "mutual", desc := "()I" } : Jvm.MethodName) prog_1_method_76_code (4 : Nat) (Option.some Jvm.ClassFile.FieldType.int)) ∈ lw_all := lw_g (lw_at lw_m3 52 rfl) rfl
theorem q640 : (Jvm.Cond.instanceMethod ({ cls := "SaturdayKeep", name := "lodge", desc := "(I)I" } : Jvm.MethodName)) ∈ lw_all := lw_g (lw_at lw_m3 54 rfl) rfl
theorem q641 : (Jvm.Cond.selects "SaturdayKeep" ({ cls := "SaturdayKeep", name := "lodge", desc := "(I)I" } : Jvm.MethodName) ({ cls := "SaturdayKeep", name := "lodge", desc := "(I)I" } : Jvm.MethodName)) ∈ lw_all := lw_g (lw_at lw_m3 55 rfl) rfl
theorem q642 : (Jvm.Cond.code ({ cls := "SaturdayKeep", name := "lodge", desc := "(I)I" } : Jvm.MethodName) prog_1_method_77_code (2 : Nat) (Option.some Jvm.ClassFile.FieldType.int)) ∈ lw_all := lw_g (lw_at lw_m3 56 rfl) rfl
theorem q643 : (Jvm.Cond.methodLink "SaturdayKeep" (482 : Nat) ({ cls := "SaturdayKeep$World", name := "hereOnes", desc := "()I" } : Jvm.MethodName)) ∈ lw_all := lw_g (lw_at lw_m3 57 rfl) rfl
theorem q647 : (Jvm.Cond.methodLink "SaturdayKeep" (402 : Nat) ({ cls := "SaturdayKeep", name := "in", desc := "(III)Z" } : Jvm.MethodName)) ∈ lw_all := lw_g (lw_at lw_m3 61 rfl) rfl
theorem q648 : (Jvm.Cond.static ({ cls := "SaturdayKeep", name := "in", desc := "(III)Z" } : Jvm.MethodName)) ∈ lw_all := lw_g (lw_at lw_m3 62 rfl) rfl
theorem q649 : (Jvm.Cond.code ({ cls := "SaturdayKeep", name := "in", desc := "(III)Z" } : Jvm.MethodName) prog_1_method_2_code (3 : Nat) (Option.some Jvm.ClassFile.FieldType.boolean)) ∈ lw_all := lw_g (lw_at lw_m3 63 rfl) rfl
theorem q650 : (Jvm.Cond.methodLink "SaturdayKeep" (497 : Nat) ({ cls := "SaturdayKeep$Lodge", name := "is", desc := "()LSaturdayKeep$Lodge;" } : Jvm.MethodName)) ∈ lw_all := lw_g (lw_at lw_m3 64 rfl) rfl
theorem q674 : (Jvm.Cond.methodLink "SaturdayKeep" (501 : Nat) ({ cls := "SaturdayKeep$Lodge", name := "isNone", desc := "()Z" } : Jvm.MethodName)) ∈ lw_all := lw_g (lw_at lw_m3 88 rfl) rfl
theorem q678 : (Jvm.Cond.methodLink "SaturdayKeep" (507 : Nat) ({ cls := "SaturdayKeep$Lodge", name := "roomOf", desc := "(I)I" } : Jvm.MethodName)) ∈ lw_all := lw_g (lw_at lw_m3 92 rfl) rfl
theorem q683 : (Jvm.Cond.instanceMethod ({ cls := "SaturdayKeep", name := "keenest", desc := "()I" } : Jvm.MethodName)) ∈ lw_all := lw_g (lw_at lw_m3 97 rfl) rfl
theorem q684 : (Jvm.Cond.selects "SaturdayKeep" ({ cls := "SaturdayKeep", name := "keenest", desc := "()I" } : Jvm.MethodName) ({ cls := "SaturdayKeep", name := "keenest", desc := "()I" } : Jvm.MethodName)) ∈ lw_all := lw_g (lw_at lw_m3 98 rfl) rfl
theorem q685 : (Jvm.Cond.code ({ cls := "SaturdayKeep", name := "keenest", desc := "()I" } : Jvm.MethodName) prog_1_method_89_code (3 : Nat) (Option.some Jvm.ClassFile.FieldType.int)) ∈ lw_all := lw_g (lw_at lw_m3 99 rfl) rfl
theorem q687 : (Jvm.Cond.instanceMethod ({ cls := "SaturdayKeep", name := "alike", desc := "()I" } : Jvm.MethodName)) ∈ lw_all := lw_g (lw_at lw_m3 101 rfl) rfl
theorem q688 : (Jvm.Cond.selects "SaturdayKeep" ({ cls := "SaturdayKeep", name := "alike", desc := "()I" } : Jvm.MethodName) ({ cls := "SaturdayKeep", name := "alike", desc := "()I" } : Jvm.MethodName)) ∈ lw_all := lw_g (lw_at lw_m3 102 rfl) rfl
theorem q689 : (Jvm.Cond.code ({ cls := "SaturdayKeep", name := "alike", desc := "()I" } : Jvm.MethodName) prog_1_method_90_code (4 : Nat) (Option.some Jvm.ClassFile.FieldType.int)) ∈ lw_all := lw_g (lw_at lw_m3 103 rfl) rfl
theorem q691 : (Jvm.Cond.instanceMethod ({ cls := "SaturdayKeep", name := "well", desc := "()I" } : Jvm.MethodName)) ∈ lw_all := lw_g (lw_at lw_m3 105 rfl) rfl
theorem q692 : (Jvm.Cond.selects "SaturdayKeep" ({ cls := "SaturdayKeep", name := "well", desc := "()I" } : Jvm.MethodName) ({ cls := "SaturdayKeep", name := "well", desc := "()I" } : Jvm.MethodName)) ∈ lw_all := lw_g (lw_at lw_m3 106 rfl) rfl
theorem q693 : (Jvm.Cond.code ({ cls := "SaturdayKeep", name := "well", desc := "()I" } : Jvm.MethodName) prog_1_method_92_code (5 : Nat) (Option.some Jvm.ClassFile.FieldType.int)) ∈ lw_all := lw_g (lw_at lw_m3 107 rfl) rfl
theorem q694 : (Jvm.Cond.methodLink "SaturdayKeep" (434 : Nat) ({ cls := "SaturdayKeep$World", name := "into", desc := "(I)I" } : Jvm.MethodName)) ∈ lw_all := lw_g (lw_at lw_m3 108 rfl) rfl
theorem q699 : (Jvm.Cond.instanceMethod ({ cls := "SaturdayKeep", name := "crowd", desc := "()I" } : Jvm.MethodName)) ∈ lw_all := lw_g (lw_at lw_m3 113 rfl) rfl
theorem q700 : (Jvm.Cond.selects "SaturdayKeep" ({ cls := "SaturdayKeep", name := "crowd", desc := "()I" } : Jvm.MethodName) ({ cls := "SaturdayKeep", name := "crowd", desc := "()I" } : Jvm.MethodName)) ∈ lw_all := lw_g (lw_at lw_m3 114 rfl) rfl
theorem q701 : (Jvm.Cond.code ({ cls := "SaturdayKeep", name := "crowd", desc := "()I" } : Jvm.MethodName) prog_1_method_95_code (5 : Nat) (Option.some Jvm.ClassFile.FieldType.int)) ∈ lw_all := lw_g (lw_at lw_m3 115 rfl) rfl
theorem q703 : (Jvm.Cond.instanceMethod ({ cls := "SaturdayKeep", name := "seed", desc := "(I)I" } : Jvm.MethodName)) ∈ lw_all := lw_g (lw_at lw_m3 117 rfl) rfl
theorem q704 : (Jvm.Cond.selects "SaturdayKeep" ({ cls := "SaturdayKeep", name := "seed", desc := "(I)I" } : Jvm.MethodName) ({ cls := "SaturdayKeep", name := "seed", desc := "(I)I" } : Jvm.MethodName)) ∈ lw_all := lw_g (lw_at lw_m3 118 rfl) rfl
theorem q705 : (Jvm.Cond.code ({ cls := "SaturdayKeep", name := "seed", desc := "(I)I" } : Jvm.MethodName) prog_1_method_102_code (3 : Nat) (Option.some Jvm.ClassFile.FieldType.int)) ∈ lw_all := lw_g (lw_at lw_m3 119 rfl) rfl
theorem q707 : (Jvm.Cond.instanceMethod ({ cls := "SaturdayKeep", name := "undo", desc := "()Z" } : Jvm.MethodName)) ∈ lw_all := lw_g (lw_at lw_m3 121 rfl) rfl
theorem q708 : (Jvm.Cond.selects "SaturdayKeep" ({ cls := "SaturdayKeep", name := "undo", desc := "()Z" } : Jvm.MethodName) ({ cls := "SaturdayKeep", name := "undo", desc := "()Z" } : Jvm.MethodName)) ∈ lw_all := lw_g (lw_at lw_m3 122 rfl) rfl
theorem q709 : (Jvm.Cond.code ({ cls := "SaturdayKeep", name := "undo", desc := "()Z" } : Jvm.MethodName) prog_1_method_103_code (1 : Nat) (Option.some Jvm.ClassFile.FieldType.boolean)) ∈ lw_all := lw_g (lw_at lw_m3 123 rfl) rfl
theorem q710 : (Jvm.Cond.methodLink "SaturdayKeep" (559 : Nat) ({ cls := "java/util/ArrayList", name := "isEmpty", desc := "()Z" } : Jvm.MethodName)) ∈ lw_all := lw_g (lw_at lw_m3 124 rfl) rfl
theorem q714 : (Jvm.Cond.methodLink "SaturdayKeep" (312 : Nat) ({ cls := "java/util/ArrayList", name := "size", desc := "()I" } : Jvm.MethodName)) ∈ lw_all := lw_g (lw_at lw_m3 128 rfl) rfl
theorem q715 : (Jvm.Cond.methodLink "SaturdayKeep" (449 : Nat) ({ cls := "java/util/ArrayList", name := "remove", desc := "(I)Ljava/lang/Object;" } : Jvm.MethodName)) ∈ lw_all := lw_g (lw_at lw_m3 129 rfl) rfl
theorem q725 : (Jvm.Cond.instanceMethod ({ cls := "SaturdayKeep", name := "image", desc := "()V" } : Jvm.MethodName)) ∈ lw_all := lw_g (lw_at lw_m3 139 rfl) rfl
theorem q726 : (Jvm.Cond.selects "SaturdayKeep" ({ cls := "SaturdayKeep", name := "image", desc := "()V" } : Jvm.MethodName) ({ cls := "SaturdayKeep", name := "image", desc := "()V" } : Jvm.MethodName)) ∈ lw_all := lw_g (lw_at lw_m3 140 rfl) rfl
theorem q727 : (Jvm.Cond.code ({ cls := "SaturdayKeep", name := "image", desc := "()V" } : Jvm.MethodName) prog_1_method_104_code (1 : Nat) (Option.none : Option Jvm.ClassFile.FieldType)) ∈ lw_all := lw_g (lw_at lw_m3 141 rfl) rfl
theorem q729 : (Jvm.Cond.instanceMethod ({ cls := "SaturdayKeep", name := "back", desc := "()Z" } : Jvm.MethodName)) ∈ lw_all := lw_g (lw_at lw_m3 143 rfl) rfl
theorem q730 : (Jvm.Cond.selects "SaturdayKeep" ({ cls := "SaturdayKeep", name := "back", desc := "()Z" } : Jvm.MethodName) ({ cls := "SaturdayKeep", name := "back", desc := "()Z" } : Jvm.MethodName)) ∈ lw_all := lw_g (lw_at lw_m3 144 rfl) rfl
theorem q731 : (Jvm.Cond.code ({ cls := "SaturdayKeep", name := "back", desc := "()Z" } : Jvm.MethodName) prog_1_method_105_code (1 : Nat) (Option.some Jvm.ClassFile.FieldType.boolean)) ∈ lw_all := lw_g (lw_at lw_m3 145 rfl) rfl
theorem q732 : (Jvm.Cond.methodLink "SaturdayKeep" (219 : Nat) ({ cls := "java/util/ArrayList", name := "clear", desc := "()V" } : Jvm.MethodName)) ∈ lw_all := lw_g (lw_at lw_m3 146 rfl) rfl
theorem q737 : (Jvm.Cond.instanceMethod ({ cls := "SaturdayKeep", name := "count", desc := "(I)I" } : Jvm.MethodName)) ∈ lw_all := lw_g (lw_at lw_m3 151 rfl) rfl
theorem q738 : (Jvm.Cond.selects "SaturdayKeep" ({ cls := "SaturdayKeep", name := "count", desc := "(I)I" } : Jvm.MethodName) ({ cls := "SaturdayKeep", name := "count", desc := "(I)I" } : Jvm.MethodName)) ∈ lw_all := lw_g (lw_at lw_m3 152 rfl) rfl
theorem q739 : (Jvm.Cond.code ({ cls := "SaturdayKeep", name := "count", desc := "(I)I" } : Jvm.MethodName) prog_1_method_106_code (3 : Nat) (Option.some Jvm.ClassFile.FieldType.int)) ∈ lw_all := lw_g (lw_at lw_m3 153 rfl) rfl
theorem q740 : (Jvm.Cond.methodLink "SaturdayKeep" (544 : Nat) ({ cls := "SaturdayKeep$World", name := "allHoles", desc := "()I" } : Jvm.MethodName)) ∈ lw_all := lw_g (lw_at lw_m3 154 rfl) rfl
theorem q745 : (Jvm.Cond.methodLink "SaturdayKeep" (415 : Nat) ({ cls := "SaturdayKeep$World", name := "doubtOfAll", desc := "()I" } : Jvm.MethodName)) ∈ lw_all := lw_g (lw_at lw_m3 159 rfl) rfl
theorem q755 : (Jvm.Cond.instanceMethod ({ cls := "SaturdayKeep", name := "house", desc := "()I" } : Jvm.MethodName)) ∈ lw_all := lw_g (lw_at lw_m3 169 rfl) rfl
theorem q756 : (Jvm.Cond.selects "SaturdayKeep" ({ cls := "SaturdayKeep", name := "house", desc := "()I" } : Jvm.MethodName) ({ cls := "SaturdayKeep", name := "house", desc := "()I" } : Jvm.MethodName)) ∈ lw_all := lw_g (lw_at lw_m3 170 rfl) rfl
theorem q757 : (Jvm.Cond.codeWith ({ cls := "SaturdayKeep", name := "house", desc := "()I" } : Jvm.MethodName) prog_1_method_16_code (2 : Nat) (Option.some Jvm.ClassFile.FieldType.int) [((19 : Nat), (35 : Nat), (38 : Nat), (208 : Nat))]) ∈ lw_all := lw_g (lw_at lw_m3 171 rfl) rfl
theorem q758 : (Jvm.Cond.classLink "SaturdayKeep" (208 : Nat) "SaturdayKeep$Wrong") ∈ lw_all := lw_g (lw_at lw_m3 172 rfl) rfl
theorem q759 : (Jvm.Cond.methodLink "SaturdayKeep" (198 : Nat) ({ cls := "SaturdayKeep$Reader", name := "begins", desc := "()V" } : Jvm.MethodName)) ∈ lw_all := lw_g (lw_at lw_m3 173 rfl) rfl
theorem q763 : (Jvm.Cond.methodLink "SaturdayKeep" (205 : Nat) ({ cls := "SaturdayKeep", name := "houseText", desc := "(LSaturdayKeep$World;)V" } : Jvm.MethodName)) ∈ lw_all := lw_g (lw_at lw_m3 177 rfl) rfl
theorem q764 : (Jvm.Cond.privateMethod ({ cls := "SaturdayKeep", name := "houseText", desc := "(LSaturdayKeep$World;)V" } : Jvm.MethodName)) ∈ lw_tbl := lw_at lw_m3 178 rfl
theorem q765 : (Jvm.Cond.instanceMethod ({ cls := "SaturdayKeep", name := "houseText", desc := "(LSaturdayKeep$World;)V" } : Jvm.MethodName)) ∈ lw_all := lw_g (lw_at lw_m3 179 rfl) rfl
theorem q766 : (Jvm.Cond.code ({ cls := "SaturdayKeep", name := "houseText", desc := "(LSaturdayKeep$World;)V" } : Jvm.MethodName) prog_1_method_12_code (3 : Nat) (Option.none : Option Jvm.ClassFile.FieldType)) ∈ lw_all := lw_g (lw_at lw_m3 180 rfl) rfl
theorem q767 : (Jvm.Cond.methodLink "SaturdayKeep" (175 : Nat) ({ cls := "SaturdayKeep$Reader", name := "isOver", desc := "()Z" } : Jvm.MethodName)) ∈ lw_all := lw_g (lw_at lw_m3 181 rfl) rfl
theorem q779 : (Jvm.Cond.methodLink "SaturdayKeep" (179 : Nat) ({ cls := "SaturdayKeep", name := "noMore", desc := "(II)V" } : Jvm.MethodName)) ∈ lw_all := lw_g (lw_at lw_m3 193 rfl) rfl
theorem q780 : (Jvm.Cond.privateMethod ({ cls := "SaturdayKeep", name := "noMore", desc := "(II)V" } : Jvm.MethodName)) ∈ lw_tbl := lw_at lw_m3 194 rfl
theorem q781 : (Jvm.Cond.instanceMethod ({ cls := "SaturdayKeep", name := "noMore", desc := "(II)V" } : Jvm.MethodName)) ∈ lw_all := lw_g (lw_at lw_m3 195 rfl) rfl
theorem q782 : (Jvm.Cond.code ({ cls := "SaturdayKeep", name := "noMore", desc := "(II)V" } : Jvm.MethodName) prog_1_method_13_code (3 : Nat) (Option.none : Option Jvm.ClassFile.FieldType)) ∈ lw_all := lw_g (lw_at lw_m3 196 rfl) rfl
theorem q783 : (Jvm.Cond.methodLink "SaturdayKeep" (70 : Nat) ({ cls := "SaturdayKeep$Reader", name := "word", desc := "()Ljava/lang/String;" } : Jvm.MethodName)) ∈ lw_all := lw_g (lw_at lw_m3 197 rfl) rfl
theorem q1113 : (Jvm.Cond.methodLink "SaturdayKeep" (80 : Nat) ({ cls := "SaturdayKeep$Reader", name := "wrong", desc := "()LSaturdayKeep$Wrong;" } : Jvm.MethodName)) ∈ lw_all := lw_g (lw_at lw_m5 47 rfl) rfl
theorem q1137 : (Jvm.Cond.methodLink "SaturdayKeep" (183 : Nat) ({ cls := "SaturdayKeep", name := "houseLine", desc := "(LSaturdayKeep$World;)V" } : Jvm.MethodName)) ∈ lw_all := lw_g (lw_at lw_m5 71 rfl) rfl
theorem q1138 : (Jvm.Cond.privateMethod ({ cls := "SaturdayKeep", name := "houseLine", desc := "(LSaturdayKeep$World;)V" } : Jvm.MethodName)) ∈ lw_tbl := lw_at lw_m5 72 rfl
theorem q1139 : (Jvm.Cond.instanceMethod ({ cls := "SaturdayKeep", name := "houseLine", desc := "(LSaturdayKeep$World;)V" } : Jvm.MethodName)) ∈ lw_all := lw_g (lw_at lw_m5 73 rfl) rfl
theorem q1140 : (Jvm.Cond.code ({ cls := "SaturdayKeep", name := "houseLine", desc := "(LSaturdayKeep$World;)V" } : Jvm.MethodName) prog_1_method_11_code (6 : Nat) (Option.none : Option Jvm.ClassFile.FieldType)) ∈ lw_all := lw_g (lw_at lw_m5 74 rfl) rfl
theorem q1141 : (Jvm.Cond.methodLink "SaturdayKeep" (132 : Nat) ({ cls := "java/lang/String", name := "hashCode", desc := "()I" } : Jvm.MethodName)) ∈ lw_all := lw_g (lw_at lw_m5 75 rfl) rfl
theorem q1202 : (Jvm.Cond.stringRef "SaturdayKeep" (135 : Nat) "guest") ∈ lw_tbl := lw_at lw_m5 136 rfl
theorem q1203 : (Jvm.Cond.methodLink "SaturdayKeep" (74 : Nat) ({ cls := "java/lang/String", name := "equals", desc := "(Ljava/lang/Object;)Z" } : Jvm.MethodName)) ∈ lw_all := lw_g (lw_at lw_m5 137 rfl) rfl
theorem q1211 : (Jvm.Cond.stringRef "SaturdayKeep" (137 : Nat) "hole") ∈ lw_tbl := lw_at lw_m5 145 rfl
theorem q1212 : (Jvm.Cond.stringRef "SaturdayKeep" (139 : Nat) "bath") ∈ lw_tbl := lw_at lw_m5 146 rfl
theorem q1213 : (Jvm.Cond.stringRef "SaturdayKeep" (141 : Nat) "shift") ∈ lw_tbl := lw_at lw_m5 147 rfl
theorem q1214 : (Jvm.Cond.stringRef "SaturdayKeep" (143 : Nat) "keep") ∈ lw_tbl := lw_at lw_m5 148 rfl
theorem q1215 : (Jvm.Cond.stringRef "SaturdayKeep" (145 : Nat) "masons") ∈ lw_tbl := lw_at lw_m5 149 rfl
theorem q1216 : (Jvm.Cond.stringRef "SaturdayKeep" (147 : Nat) "stones") ∈ lw_tbl := lw_at lw_m5 150 rfl
theorem q1217 : (Jvm.Cond.stringRef "SaturdayKeep" (149 : Nat) "bore") ∈ lw_tbl := lw_at lw_m5 151 rfl
theorem q1218 : (Jvm.Cond.stringRef "SaturdayKeep" (151 : Nat) "day") ∈ lw_tbl := lw_at lw_m5 152 rfl
theorem q1219 : (Jvm.Cond.methodLink "SaturdayKeep" (153 : Nat) ({ cls := "SaturdayKeep", name := "aGuest", desc := "(LSaturdayKeep$World;)V" } : Jvm.MethodName)) ∈ lw_all := lw_g (lw_at lw_m5 153 rfl) rfl
theorem q1220 : (Jvm.Cond.privateMethod ({ cls := "SaturdayKeep", name := "aGuest", desc := "(LSaturdayKeep$World;)V" } : Jvm.MethodName)) ∈ lw_tbl := lw_at lw_m5 154 rfl
theorem q1221 : (Jvm.Cond.instanceMethod ({ cls := "SaturdayKeep", name := "aGuest", desc := "(LSaturdayKeep$World;)V" } : Jvm.MethodName)) ∈ lw_all := lw_g (lw_at lw_m5 155 rfl) rfl
theorem q1222 : (Jvm.Cond.code ({ cls := "SaturdayKeep", name := "aGuest", desc := "(LSaturdayKeep$World;)V" } : Jvm.MethodName) prog_1_method_9_code (4 : Nat) (Option.none : Option Jvm.ClassFile.FieldType)) ∈ lw_all := lw_g (lw_at lw_m5 156 rfl) rfl
theorem q1223 : (Jvm.Cond.stringRef "SaturdayKeep" (99 : Nat) "wish") ∈ lw_tbl := lw_at lw_m5 157 rfl
theorem q1224 : (Jvm.Cond.methodLink "SaturdayKeep" (100 : Nat) ({ cls := "SaturdayKeep", name := "after", desc := "(Ljava/lang/String;II)I" } : Jvm.MethodName)) ∈ lw_all := lw_g (lw_at lw_m5 158 rfl) rfl
theorem q1225 : (Jvm.Cond.privateMethod ({ cls := "SaturdayKeep", name := "after", desc := "(Ljava/lang/String;II)I" } : Jvm.MethodName)) ∈ lw_tbl := lw_at lw_m5 159 rfl
theorem q1226 : (Jvm.Cond.instanceMethod ({ cls := "SaturdayKeep", name := "after", desc := "(Ljava/lang/String;II)I" } : Jvm.MethodName)) ∈ lw_all := lw_g (lw_at lw_m5 160 rfl) rfl
theorem q1227 : (Jvm.Cond.code ({ cls := "SaturdayKeep", name := "after", desc := "(Ljava/lang/String;II)I" } : Jvm.MethodName) prog_1_method_7_code (4 : Nat) (Option.some Jvm.ClassFile.FieldType.int)) ∈ lw_all := lw_g (lw_at lw_m5 161 rfl) rfl
theorem q1228 : (Jvm.Cond.methodLink "SaturdayKeep" (84 : Nat) ({ cls := "SaturdayKeep", name := "needs", desc := "(Ljava/lang/String;)V" } : Jvm.MethodName)) ∈ lw_all := lw_g (lw_at lw_m5 162 rfl) rfl
theorem q1229 : (Jvm.Cond.privateMethod ({ cls := "SaturdayKeep", name := "needs", desc := "(Ljava/lang/String;)V" } : Jvm.MethodName)) ∈ lw_tbl := lw_at lw_m5 163 rfl
theorem q1230 : (Jvm.Cond.instanceMethod ({ cls := "SaturdayKeep", name := "needs", desc := "(Ljava/lang/String;)V" } : Jvm.MethodName)) ∈ lw_all := lw_g (lw_at lw_m5 164 rfl) rfl
theorem q1231 : (Jvm.Cond.code ({ cls := "SaturdayKeep", name := "needs", desc := "(Ljava/lang/String;)V" } : Jvm.MethodName) prog_1_method_6_code (2 : Nat) (Option.none : Option Jvm.ClassFile.FieldType)) ∈ lw_all := lw_g (lw_at lw_m5 165 rfl) rfl
theorem q1232 : (Jvm.Cond.methodLink "SaturdayKeep" (88 : Nat) ({ cls := "SaturdayKeep$Reader", name := "number", desc := "(II)I" } : Jvm.MethodName)) ∈ lw_all := lw_g (lw_at lw_m5 166 rfl) rfl
theorem q1241 : (Jvm.Cond.stringRef "SaturdayKeep" (107 : Nat) "at") ∈ lw_tbl := lw_at lw_m5 175 rfl
theorem q1242 : (Jvm.Cond.stringRef "SaturdayKeep" (112 : Nat) "doubt") ∈ lw_tbl := lw_at lw_m5 176 rfl
theorem q1243 : (Jvm.Cond.methodLink "SaturdayKeep" (113 : Nat) ({ cls := "SaturdayKeep$Reader", name := "passes", desc := "(Ljava/lang/String;)Z" } : Jvm.MethodName)) ∈ lw_all := lw_g (lw_at lw_m5 177 rfl) rfl
theorem q1249 : (Jvm.Cond.stringRef "SaturdayKeep" (121 : Nat) "key") ∈ lw_tbl := lw_at lw_m5 183 rfl
theorem q1250 : (Jvm.Cond.methodLink "SaturdayKeep" (157 : Nat) ({ cls := "SaturdayKeep", name := "aHole", desc := "(LSaturdayKeep$World;)V" } : Jvm.MethodName)) ∈ lw_all := lw_g (lw_at lw_m5 184 rfl) rfl
theorem q1251 : (Jvm.Cond.privateMethod ({ cls := "SaturdayKeep", name := "aHole", desc := "(LSaturdayKeep$World;)V" } : Jvm.MethodName)) ∈ lw_tbl := lw_at lw_m5 185 rfl
theorem q1252 : (Jvm.Cond.instanceMethod ({ cls := "SaturdayKeep", name := "aHole", desc := "(LSaturdayKeep$World;)V" } : Jvm.MethodName)) ∈ lw_all := lw_g (lw_at lw_m5 186 rfl) rfl
theorem q1253 : (Jvm.Cond.code ({ cls := "SaturdayKeep", name := "aHole", desc := "(LSaturdayKeep$World;)V" } : Jvm.MethodName) prog_1_method_10_code (4 : Nat) (Option.none : Option Jvm.ClassFile.FieldType)) ∈ lw_all := lw_g (lw_at lw_m5 187 rfl) rfl
theorem q1254 : (Jvm.Cond.methodLink "SaturdayKeep" (125 : Nat) ({ cls := "SaturdayKeep", name := "roomTold", desc := "()I" } : Jvm.MethodName)) ∈ lw_all := lw_g (lw_at lw_m5 188 rfl) rfl
theorem q1255 : (Jvm.Cond.privateMethod ({ cls := "SaturdayKeep", name := "roomTold", desc := "()I" } : Jvm.MethodName)) ∈ lw_tbl := lw_at lw_m5 189 rfl
theorem q1256 : (Jvm.Cond.instanceMethod ({ cls := "SaturdayKeep", name := "roomTold", desc := "()I" } : Jvm.MethodName)) ∈ lw_all := lw_g (lw_at lw_m5 190 rfl) rfl
theorem q1257 : (Jvm.Cond.code ({ cls := "SaturdayKeep", name := "roomTold", desc := "()I" } : Jvm.MethodName) prog_1_method_8_code (1 : Nat) (Option.some Jvm.ClassFile.FieldType.int)) ∈ lw_all := lw_g (lw_at lw_m5 191 rfl) rfl
theorem q1258 : (Jvm.Cond.methodLink "SaturdayKeep" (186 : Nat) ({ cls := "SaturdayKeep", name := "goesOn", desc := "()Z" } : Jvm.MethodName)) ∈ lw_all := lw_g (lw_at lw_m5 192 rfl) rfl
theorem q1259 : (Jvm.Cond.privateMethod ({ cls := "SaturdayKeep", name := "goesOn", desc := "()Z" } : Jvm.MethodName)) ∈ lw_tbl := lw_at lw_m5 193 rfl
theorem q1260 : (Jvm.Cond.instanceMethod ({ cls := "SaturdayKeep", name := "goesOn", desc := "()Z" } : Jvm.MethodName)) ∈ lw_all := lw_g (lw_at lw_m5 194 rfl) rfl
theorem q1261 : (Jvm.Cond.code ({ cls := "SaturdayKeep", name := "goesOn", desc := "()Z" } : Jvm.MethodName) prog_1_method_14_code (1 : Nat) (Option.some Jvm.ClassFile.FieldType.boolean)) ∈ lw_all := lw_g (lw_at lw_m5 195 rfl) rfl
theorem q1262 : (Jvm.Cond.methodLink "SaturdayKeep" (189 : Nat) ({ cls := "SaturdayKeep$Reader", name := "sign", desc := "(I)Z" } : Jvm.MethodName)) ∈ lw_all := lw_g (lw_at lw_m5 196 rfl) rfl
theorem q1266 : (Jvm.Cond.methodLink "SaturdayKeep" (210 : Nat) ({ cls := "SaturdayKeep", name := "fails", desc := "()V" } : Jvm.MethodName)) ∈ lw_all := lw_g (lw_at lw_m5 200 rfl) rfl
theorem q1267 : (Jvm.Cond.privateMethod ({ cls := "SaturdayKeep", name := "fails", desc := "()V" } : Jvm.MethodName)) ∈ lw_tbl := lw_at lw_m5 201 rfl
theorem q1268 : (Jvm.Cond.instanceMethod ({ cls := "SaturdayKeep", name := "fails", desc := "()V" } : Jvm.MethodName)) ∈ lw_all := lw_g (lw_at lw_m5 202 rfl) rfl
theorem q1269 : (Jvm.Cond.code ({ cls := "SaturdayKeep", name := "fails", desc := "()V" } : Jvm.MethodName) prog_1_method_15_code (1 : Nat) (Option.none : Option Jvm.ClassFile.FieldType)) ∈ lw_all := lw_g (lw_at lw_m5 203 rfl) rfl
theorem q1270 : (Jvm.Cond.classLink "SaturdayKeep" (195 : Nat) "java/lang/IllegalArgumentException") ∈ lw_all := lw_g (lw_at lw_m5 204 rfl) rfl
theorem q1271 : (Jvm.Cond.methodLink "SaturdayKeep" (197 : Nat) ({ cls := "java/lang/IllegalArgumentException", name := "<init>", desc := "()V" } : Jvm.MethodName)) ∈ lw_all := lw_g (lw_at lw_m5 205 rfl) rfl
theorem q1281 : (Jvm.Cond.classLink "SaturdayKeep" (216 : Nat) "java/lang/UnsupportedOperationException") ∈ lw_all := lw_g (lw_at lw_m5 215 rfl) rfl
theorem q1290 : (Jvm.Cond.methodLink "SaturdayKeep" (218 : Nat) ({ cls := "java/lang/UnsupportedOperationException", name := "<init>", desc := "()V" } : Jvm.MethodName)) ∈ lw_all := lw_g (lw_at lw_m5 224 rfl) rfl
theorem q1300 : (Jvm.Cond.instanceMethod ({ cls := "SaturdayKeep", name := "law", desc := "()I" } : Jvm.MethodName)) ∈ lw_all := lw_g (lw_at lw_m5 234 rfl) rfl
theorem q1301 : (Jvm.Cond.selects "SaturdayKeep" ({ cls := "SaturdayKeep", name := "law", desc := "()I" } : Jvm.MethodName) ({ cls := "SaturdayKeep", name := "law", desc := "()I" } : Jvm.MethodName)) ∈ lw_all := lw_g (lw_at lw_m5 235 rfl) rfl
theorem q1302 : (Jvm.Cond.codeWith ({ cls := "SaturdayKeep", name := "law", desc := "()I" } : Jvm.MethodName) prog_1_method_24_code (2 : Nat) (Option.some Jvm.ClassFile.FieldType.int) [((7 : Nat), (26 : Nat), (29 : Nat), (208 : Nat))]) ∈ lw_all := lw_g (lw_at lw_m5 236 rfl) rfl
theorem q1303 : (Jvm.Cond.methodLink "SaturdayKeep" (319 : Nat) ({ cls := "SaturdayKeep", name := "lawText", desc := "()LSaturdayKeep$Law;" } : Jvm.MethodName)) ∈ lw_all := lw_g (lw_at lw_m5 237 rfl) rfl
theorem q1304 : (Jvm.Cond.privateMethod ({ cls := "SaturdayKeep", name := "lawText", desc := "()LSaturdayKeep$Law;" } : Jvm.MethodName)) ∈ lw_tbl := lw_at lw_m5 238 rfl
theorem q1305 : (Jvm.Cond.instanceMethod ({ cls := "SaturdayKeep", name := "lawText", desc := "()LSaturdayKeep$Law;" } : Jvm.MethodName)) ∈ lw_all := lw_g (lw_at lw_m5 239 rfl) rfl
theorem q1306 : (Jvm.Cond.code ({ cls := "SaturdayKeep", name := "lawText", desc := "()LSaturdayKeep$Law;" } : Jvm.MethodName) prog_1_method_23_code (2 : Nat) (Option.some (Jvm.ClassFile.FieldType.object "SaturdayKeep$Law"))) ∈ lw_all := lw_g (lw_at lw_m6 0 rfl) rfl
theorem q1307 : (Jvm.Cond.classLink "SaturdayKeep" (306 : Nat) "SaturdayKeep$Law") ∈ lw_all := lw_g (lw_at lw_m6 1 rfl) rfl
theorem q1309 : (Jvm.Cond.methodLinkNest "SaturdayKeep" (308 : Nat) ({ cls := "SaturdayKeep$Law", name := "<init>", desc := "()V" } : Jvm.MethodName) "SaturdayKeep") ∈ lw_tbl := lw_at lw_m6 3 rfl
theorem q1316 : (Jvm.Cond.fieldLinkNest "SaturdayKeep" (309 : Nat) "SaturdayKeep$Law" "lines" "Ljava/util/ArrayList;" "SaturdayKeep") ∈ lw_tbl := lw_at lw_m6 10 rfl
theorem q1320 : (Jvm.Cond.methodLink "SaturdayKeep" (315 : Nat) ({ cls := "SaturdayKeep", name := "lawLine", desc := "()LSaturdayKeep$Line;" } : Jvm.MethodName)) ∈ lw_all := lw_g (lw_at lw_m6 14 rfl) rfl
theorem q1321 : (Jvm.Cond.privateMethod ({ cls := "SaturdayKeep", name := "lawLine", desc := "()LSaturdayKeep$Line;" } : Jvm.MethodName)) ∈ lw_tbl := lw_at lw_m6 15 rfl
theorem q1322 : (Jvm.Cond.instanceMethod ({ cls := "SaturdayKeep", name := "lawLine", desc := "()LSaturdayKeep$Line;" } : Jvm.MethodName)) ∈ lw_all := lw_g (lw_at lw_m6 16 rfl) rfl
theorem q1323 : (Jvm.Cond.code ({ cls := "SaturdayKeep", name := "lawLine", desc := "()LSaturdayKeep$Line;" } : Jvm.MethodName) prog_1_method_22_code (4 : Nat) (Option.some (Jvm.ClassFile.FieldType.object "SaturdayKeep$Line"))) ∈ lw_all := lw_g (lw_at lw_m6 17 rfl) rfl
theorem q1324 : (Jvm.Cond.stringRef "SaturdayKeep" (297 : Nat) "calm") ∈ lw_tbl := lw_at lw_m6 18 rfl
theorem q1325 : (Jvm.Cond.classLink "SaturdayKeep" (299 : Nat) "SaturdayKeep$Line") ∈ lw_all := lw_g (lw_at lw_m6 19 rfl) rfl
theorem q1327 : (Jvm.Cond.stringRef "SaturdayKeep" (301 : Nat) "if") ∈ lw_tbl := lw_at lw_m6 21 rfl
theorem q1328 : (Jvm.Cond.methodLink "SaturdayKeep" (251 : Nat) ({ cls := "SaturdayKeep", name := "cond", desc := "()LSaturdayKeep$Cond;" } : Jvm.MethodName)) ∈ lw_all := lw_g (lw_at lw_m6 22 rfl) rfl
theorem q1329 : (Jvm.Cond.privateMethod ({ cls := "SaturdayKeep", name := "cond", desc := "()LSaturdayKeep$Cond;" } : Jvm.MethodName)) ∈ lw_tbl := lw_at lw_m6 23 rfl
theorem q1330 : (Jvm.Cond.instanceMethod ({ cls := "SaturdayKeep", name := "cond", desc := "()LSaturdayKeep$Cond;" } : Jvm.MethodName)) ∈ lw_all := lw_g (lw_at lw_m6 24 rfl) rfl
theorem q1331 : (Jvm.Cond.code ({ cls := "SaturdayKeep", name := "cond", desc := "()LSaturdayKeep$Cond;" } : Jvm.MethodName) prog_1_method_21_code (2 : Nat) (Option.some (Jvm.ClassFile.FieldType.object "SaturdayKeep$Cond"))) ∈ lw_all := lw_g (lw_at lw_m6 25 rfl) rfl
theorem q1332 : (Jvm.Cond.classLink "SaturdayKeep" (284 : Nat) "SaturdayKeep$Row") ∈ lw_all := lw_g (lw_at lw_m6 26 rfl) rfl
theorem q1334 : (Jvm.Cond.methodLink "SaturdayKeep" (286 : Nat) ({ cls := "SaturdayKeep$Row", name := "<init>", desc := "(Z)V" } : Jvm.MethodName)) ∈ lw_all := lw_g (lw_at lw_m6 28 rfl) rfl
theorem q1342 : (Jvm.Cond.fieldLinkNest "SaturdayKeep" (287 : Nat) "SaturdayKeep$Row" "row" "Ljava/util/ArrayList;" "SaturdayKeep") ∈ lw_tbl := lw_at lw_m6 36 rfl
theorem q1348 : (Jvm.Cond.methodLink "SaturdayKeep" (292 : Nat) ({ cls := "SaturdayKeep", name := "allOf", desc := "()LSaturdayKeep$Cond;" } : Jvm.MethodName)) ∈ lw_all := lw_g (lw_at lw_m6 42 rfl) rfl
theorem q1349 : (Jvm.Cond.privateMethod ({ cls := "SaturdayKeep", name := "allOf", desc := "()LSaturdayKeep$Cond;" } : Jvm.MethodName)) ∈ lw_tbl := lw_at lw_m6 43 rfl
theorem q1350 : (Jvm.Cond.instanceMethod ({ cls := "SaturdayKeep", name := "allOf", desc := "()LSaturdayKeep$Cond;" } : Jvm.MethodName)) ∈ lw_all := lw_g (lw_at lw_m6 44 rfl) rfl
theorem q1351 : (Jvm.Cond.code ({ cls := "SaturdayKeep", name := "allOf", desc := "()LSaturdayKeep$Cond;" } : Jvm.MethodName) prog_1_method_20_code (2 : Nat) (Option.some (Jvm.ClassFile.FieldType.object "SaturdayKeep$Cond"))) ∈ lw_all := lw_g (lw_at lw_m6 45 rfl) rfl
theorem q1352 : (Jvm.Cond.methodLink "SaturdayKeep" (260 : Nat) ({ cls := "SaturdayKeep", name := "atom", desc := "()LSaturdayKeep$Cond;" } : Jvm.MethodName)) ∈ lw_all := lw_g (lw_at lw_m6 46 rfl) rfl
theorem q1353 : (Jvm.Cond.privateMethod ({ cls := "SaturdayKeep", name := "atom", desc := "()LSaturdayKeep$Cond;" } : Jvm.MethodName)) ∈ lw_tbl := lw_at lw_m6 47 rfl
theorem q1354 : (Jvm.Cond.instanceMethod ({ cls := "SaturdayKeep", name := "atom", desc := "()LSaturdayKeep$Cond;" } : Jvm.MethodName)) ∈ lw_all := lw_g (lw_at lw_m6 48 rfl) rfl
theorem q1355 : (Jvm.Cond.code ({ cls := "SaturdayKeep", name := "atom", desc := "()LSaturdayKeep$Cond;" } : Jvm.MethodName) prog_1_method_19_code (3 : Nat) (Option.some (Jvm.ClassFile.FieldType.object "SaturdayKeep$Cond"))) ∈ lw_all := lw_g (lw_at lw_m6 49 rfl) rfl
theorem q1356 : (Jvm.Cond.methodLink "SaturdayKeep" (248 : Nat) ({ cls := "SaturdayKeep$Reader", name := "goesDeeper", desc := "()V" } : Jvm.MethodName)) ∈ lw_all := lw_g (lw_at lw_m6 50 rfl) rfl
theorem q1360 : (Jvm.Cond.methodLink "SaturdayKeep" (255 : Nat) ({ cls := "SaturdayKeep$Reader", name := "comesUp", desc := "()V" } : Jvm.MethodName)) ∈ lw_all := lw_g (lw_at lw_m6 54 rfl) rfl
theorem q1364 : (Jvm.Cond.stringRef "SaturdayKeep" (258 : Nat) "not") ∈ lw_tbl := lw_at lw_m6 58 rfl
theorem q1365 : (Jvm.Cond.classLink "SaturdayKeep" (263 : Nat) "SaturdayKeep$Not") ∈ lw_all := lw_g (lw_at lw_m6 59 rfl) rfl
theorem q1367 : (Jvm.Cond.methodLink "SaturdayKeep" (265 : Nat) ({ cls := "SaturdayKeep$Not", name := "<init>", desc := "(LSaturdayKeep$Cond;)V" } : Jvm.MethodName)) ∈ lw_all := lw_g (lw_at lw_m6 61 rfl) rfl
theorem q1375 : (Jvm.Cond.classLink "SaturdayKeep" (268 : Nat) "SaturdayKeep$Tag") ∈ lw_all := lw_g (lw_at lw_m6 69 rfl) rfl
theorem q1377 : (Jvm.Cond.methodLink "SaturdayKeep" (270 : Nat) ({ cls := "SaturdayKeep$Tag", name := "<init>", desc := "(Z)V" } : Jvm.MethodName)) ∈ lw_all := lw_g (lw_at lw_m6 71 rfl) rfl
theorem q1385 : (Jvm.Cond.stringRef "SaturdayKeep" (273 : Nat) "eve") ∈ lw_tbl := lw_at lw_m6 79 rfl
theorem q1386 : (Jvm.Cond.methodLink "SaturdayKeep" (275 : Nat) ({ cls := "SaturdayKeep", name := "sum", desc := "()LSaturdayKeep$Sum;" } : Jvm.MethodName)) ∈ lw_all := lw_g (lw_at lw_m6 80 rfl) rfl
theorem q1387 : (Jvm.Cond.privateMethod ({ cls := "SaturdayKeep", name := "sum", desc := "()LSaturdayKeep$Sum;" } : Jvm.MethodName)) ∈ lw_tbl := lw_at lw_m6 81 rfl
theorem q1388 : (Jvm.Cond.instanceMethod ({ cls := "SaturdayKeep", name := "sum", desc := "()LSaturdayKeep$Sum;" } : Jvm.MethodName)) ∈ lw_all := lw_g (lw_at lw_m6 82 rfl) rfl
theorem q1389 : (Jvm.Cond.code ({ cls := "SaturdayKeep", name := "sum", desc := "()LSaturdayKeep$Sum;" } : Jvm.MethodName) prog_1_method_18_code (2 : Nat) (Option.some (Jvm.ClassFile.FieldType.object "SaturdayKeep$Sum"))) ∈ lw_all := lw_g (lw_at lw_m6 83 rfl) rfl
theorem q1390 : (Jvm.Cond.classLink "SaturdayKeep" (236 : Nat) "SaturdayKeep$Sum") ∈ lw_all := lw_g (lw_at lw_m6 84 rfl) rfl
theorem q1392 : (Jvm.Cond.methodLinkNest "SaturdayKeep" (238 : Nat) ({ cls := "SaturdayKeep$Sum", name := "<init>", desc := "()V" } : Jvm.MethodName) "SaturdayKeep") ∈ lw_tbl := lw_at lw_m6 86 rfl
theorem q1399 : (Jvm.Cond.fieldLinkNest "SaturdayKeep" (239 : Nat) "SaturdayKeep$Sum" "parts" "Ljava/util/ArrayList;" "SaturdayKeep") ∈ lw_tbl := lw_at lw_m6 93 rfl
theorem q1403 : (Jvm.Cond.methodLink "SaturdayKeep" (242 : Nat) ({ cls := "SaturdayKeep", name := "onePart", desc := "()LSaturdayKeep$Part;" } : Jvm.MethodName)) ∈ lw_all := lw_g (lw_at lw_m6 97 rfl) rfl
theorem q1404 : (Jvm.Cond.privateMethod ({ cls := "SaturdayKeep", name := "onePart", desc := "()LSaturdayKeep$Part;" } : Jvm.MethodName)) ∈ lw_tbl := lw_at lw_m6 98 rfl
theorem q1405 : (Jvm.Cond.instanceMethod ({ cls := "SaturdayKeep", name := "onePart", desc := "()LSaturdayKeep$Part;" } : Jvm.MethodName)) ∈ lw_all := lw_g (lw_at lw_m6 99 rfl) rfl
theorem q1406 : (Jvm.Cond.code ({ cls := "SaturdayKeep", name := "onePart", desc := "()LSaturdayKeep$Part;" } : Jvm.MethodName) prog_1_method_17_code (2 : Nat) (Option.some (Jvm.ClassFile.FieldType.object "SaturdayKeep$Part"))) ∈ lw_all := lw_g (lw_at lw_m6 100 rfl) rfl
theorem q1407 : (Jvm.Cond.methodLink "SaturdayKeep" (222 : Nat) ({ cls := "SaturdayKeep$Reader", name := "isFigure", desc := "()Z" } : Jvm.MethodName)) ∈ lw_all := lw_g (lw_at lw_m6 101 rfl) rfl
theorem q1411 : (Jvm.Cond.classLink "SaturdayKeep" (225 : Nat) "SaturdayKeep$Part") ∈ lw_all := lw_g (lw_at lw_m6 105 rfl) rfl
theorem q1413 : (Jvm.Cond.methodLink "SaturdayKeep" (227 : Nat) ({ cls := "SaturdayKeep$Part", name := "<init>", desc := "(ILSaturdayKeep$Fact;)V" } : Jvm.MethodName)) ∈ lw_all := lw_g (lw_at lw_m6 107 rfl) rfl
theorem q1424 : (Jvm.Cond.methodLink "SaturdayKeep" (230 : Nat) ({ cls := "SaturdayKeep$Fact", name := "of", desc := "(Ljava/lang/String;)LSaturdayKeep$Fact;" } : Jvm.MethodName)) ∈ lw_all := lw_g (lw_at lw_m6 118 rfl) rfl
theorem q1439 : (Jvm.Cond.methodLink "SaturdayKeep" (246 : Nat) ({ cls := "java/util/ArrayList", name := "add", desc := "(Ljava/lang/Object;)Z" } : Jvm.MethodName)) ∈ lw_all := lw_g (lw_at lw_m6 133 rfl) rfl
theorem q1462 : (Jvm.Cond.selects "SaturdayKeep" ({ cls := "java/lang/Object", name := "getClass", desc := "()Ljava/lang/Class;" } : Jvm.MethodName) ({ cls := "java/lang/Object", name := "getClass", desc := "()Ljava/lang/Class;" } : Jvm.MethodName)) ∈ lw_all := lw_g (lw_at lw_m6 156 rfl) rfl
theorem q1496 : (Jvm.Cond.classLink "SaturdayKeep" (279 : Nat) "SaturdayKeep$Less") ∈ lw_all := lw_g (lw_at lw_m6 190 rfl) rfl
theorem q1498 : (Jvm.Cond.methodLink "SaturdayKeep" (281 : Nat) ({ cls := "SaturdayKeep$Less", name := "<init>", desc := "(LSaturdayKeep$Sum;LSaturdayKeep$Sum;)V" } : Jvm.MethodName)) ∈ lw_all := lw_g (lw_at lw_m6 192 rfl) rfl
theorem q1509 : (Jvm.Cond.stringRef "SaturdayKeep" (290 : Nat) "and") ∈ lw_tbl := lw_at lw_m6 203 rfl
theorem q1510 : (Jvm.Cond.stringRef "SaturdayKeep" (295 : Nat) "or") ∈ lw_tbl := lw_at lw_m6 204 rfl
theorem q1511 : (Jvm.Cond.methodLink "SaturdayKeep" (303 : Nat) ({ cls := "SaturdayKeep$Line", name := "<init>", desc := "(ZILSaturdayKeep$Cond;)V" } : Jvm.MethodName)) ∈ lw_all := lw_g (lw_at lw_m6 205 rfl) rfl
theorem q1549 : (Jvm.Cond.instanceMethod ({ cls := "SaturdayKeep", name := "guest", desc := "(II)I" } : Jvm.MethodName)) ∈ lw_all := lw_g (lw_at lw_m7 3 rfl) rfl
theorem q1550 : (Jvm.Cond.selects "SaturdayKeep" ({ cls := "SaturdayKeep", name := "guest", desc := "(II)I" } : Jvm.MethodName) ({ cls := "SaturdayKeep", name := "guest", desc := "(II)I" } : Jvm.MethodName)) ∈ lw_all := lw_g (lw_at lw_m7 4 rfl) rfl
theorem q1551 : (Jvm.Cond.code ({ cls := "SaturdayKeep", name := "guest", desc := "(II)I" } : Jvm.MethodName) prog_1_method_39_code (4 : Nat) (Option.some Jvm.ClassFile.FieldType.int)) ∈ lw_all := lw_g (lw_at lw_m7 5 rfl) rfl
theorem q1552 : (Jvm.Cond.methodLink "SaturdayKeep" (418 : Nat) ({ cls := "SaturdayKeep", name := "guestAt", desc := "(I)V" } : Jvm.MethodName)) ∈ lw_all := lw_g (lw_at lw_m7 6 rfl) rfl
theorem q1553 : (Jvm.Cond.privateMethod ({ cls := "SaturdayKeep", name := "guestAt", desc := "(I)V" } : Jvm.MethodName)) ∈ lw_tbl := lw_at lw_m7 7 rfl
theorem q1554 : (Jvm.Cond.instanceMethod ({ cls := "SaturdayKeep", name := "guestAt", desc := "(I)V" } : Jvm.MethodName)) ∈ lw_all := lw_g (lw_at lw_m7 8 rfl) rfl
theorem q1555 : (Jvm.Cond.code ({ cls := "SaturdayKeep", name := "guestAt", desc := "(I)V" } : Jvm.MethodName) prog_1_method_34_code (2 : Nat) (Option.none : Option Jvm.ClassFile.FieldType)) ∈ lw_all := lw_g (lw_at lw_m7 9 rfl) rfl
theorem q1556 : (Jvm.Cond.methodLink "SaturdayKeep" (412 : Nat) ({ cls := "SaturdayKeep", name := "there", desc := "(II)V" } : Jvm.MethodName)) ∈ lw_all := lw_g (lw_at lw_m7 10 rfl) rfl
theorem q1557 : (Jvm.Cond.static ({ cls := "SaturdayKeep", name := "there", desc := "(II)V" } : Jvm.MethodName)) ∈ lw_all := lw_g (lw_at lw_m7 11 rfl) rfl
theorem q1558 : (Jvm.Cond.code ({ cls := "SaturdayKeep", name := "there", desc := "(II)V" } : Jvm.MethodName) prog_1_method_31_code (2 : Nat) (Option.none : Option Jvm.ClassFile.FieldType)) ∈ lw_all := lw_g (lw_at lw_m7 12 rfl) rfl
theorem q1559 : (Jvm.Cond.classLink "SaturdayKeep" (406 : Nat) "java/lang/IndexOutOfBoundsException") ∈ lw_all := lw_g (lw_at lw_m7 13 rfl) rfl
theorem q1568 : (Jvm.Cond.methodLink "SaturdayKeep" (408 : Nat) ({ cls := "java/lang/IndexOutOfBoundsException", name := "<init>", desc := "()V" } : Jvm.MethodName)) ∈ lw_all := lw_g (lw_at lw_m7 22 rfl) rfl
theorem q1574 : (Jvm.Cond.methodLink "SaturdayKeep" (421 : Nat) ({ cls := "SaturdayKeep", name := "question", desc := "(II)V" } : Jvm.MethodName)) ∈ lw_all := lw_g (lw_at lw_m7 28 rfl) rfl
theorem q1575 : (Jvm.Cond.static ({ cls := "SaturdayKeep", name := "question", desc := "(II)V" } : Jvm.MethodName)) ∈ lw_all := lw_g (lw_at lw_m7 29 rfl) rfl
theorem q1576 : (Jvm.Cond.code ({ cls := "SaturdayKeep", name := "question", desc := "(II)V" } : Jvm.MethodName) prog_1_method_33_code (2 : Nat) (Option.none : Option Jvm.ClassFile.FieldType)) ∈ lw_all := lw_g (lw_at lw_m7 30 rfl) rfl
theorem q1577 : (Jvm.Cond.classLink "SaturdayKeep" (409 : Nat) "java/util/NoSuchElementException") ∈ lw_all := lw_g (lw_at lw_m7 31 rfl) rfl
theorem q1586 : (Jvm.Cond.methodLink "SaturdayKeep" (411 : Nat) ({ cls := "java/util/NoSuchElementException", name := "<init>", desc := "()V" } : Jvm.MethodName)) ∈ lw_all := lw_g (lw_at lw_m7 40 rfl) rfl
theorem q1592 : (Jvm.Cond.methodLink "SaturdayKeep" (428 : Nat) ({ cls := "SaturdayKeep", name := "shareOf", desc := "(I)I" } : Jvm.MethodName)) ∈ lw_all := lw_g (lw_at lw_m7 46 rfl) rfl
theorem q1593 : (Jvm.Cond.privateMethod ({ cls := "SaturdayKeep", name := "shareOf", desc := "(I)I" } : Jvm.MethodName)) ∈ lw_tbl := lw_at lw_m7 47 rfl
theorem q1594 : (Jvm.Cond.instanceMethod ({ cls := "SaturdayKeep", name := "shareOf", desc := "(I)I" } : Jvm.MethodName)) ∈ lw_all := lw_g (lw_at lw_m7 48 rfl) rfl
theorem q1595 : (Jvm.Cond.code ({ cls := "SaturdayKeep", name := "shareOf", desc := "(I)I" } : Jvm.MethodName) prog_1_method_38_code (3 : Nat) (Option.some Jvm.ClassFile.FieldType.int)) ∈ lw_all := lw_g (lw_at lw_m7 49 rfl) rfl
theorem q1600 : (Jvm.Cond.instanceMethod ({ cls := "SaturdayKeep", name := "room", desc := "(II)I" } : Jvm.MethodName)) ∈ lw_all := lw_g (lw_at lw_m7 54 rfl) rfl
theorem q1601 : (Jvm.Cond.selects "SaturdayKeep" ({ cls := "SaturdayKeep", name := "room", desc := "(II)I" } : Jvm.MethodName) ({ cls := "SaturdayKeep", name := "room", desc := "(II)I" } : Jvm.MethodName)) ∈ lw_all := lw_g (lw_at lw_m7 55 rfl) rfl
theorem q1602 : (Jvm.Cond.code ({ cls := "SaturdayKeep", name := "room", desc := "(II)I" } : Jvm.MethodName) prog_1_method_40_code (3 : Nat) (Option.some Jvm.ClassFile.FieldType.int)) ∈ lw_all := lw_g (lw_at lw_m7 56 rfl) rfl
theorem q1603 : (Jvm.Cond.methodLink "SaturdayKeep" (431 : Nat) ({ cls := "SaturdayKeep", name := "roomAt", desc := "(I)V" } : Jvm.MethodName)) ∈ lw_all := lw_g (lw_at lw_m7 57 rfl) rfl
theorem q1604 : (Jvm.Cond.static ({ cls := "SaturdayKeep", name := "roomAt", desc := "(I)V" } : Jvm.MethodName)) ∈ lw_all := lw_g (lw_at lw_m7 58 rfl) rfl
theorem q1605 : (Jvm.Cond.code ({ cls := "SaturdayKeep", name := "roomAt", desc := "(I)V" } : Jvm.MethodName) prog_1_method_35_code (1 : Nat) (Option.none : Option Jvm.ClassFile.FieldType)) ∈ lw_all := lw_g (lw_at lw_m7 59 rfl) rfl
theorem q1610 : (Jvm.Cond.instanceMethod ({ cls := "SaturdayKeep", name := "calendar", desc := "(IZ)I" } : Jvm.MethodName)) ∈ lw_all := lw_g (lw_at lw_m7 64 rfl) rfl
theorem q1611 : (Jvm.Cond.selects "SaturdayKeep" ({ cls := "SaturdayKeep", name := "calendar", desc := "(IZ)I" } : Jvm.MethodName) ({ cls := "SaturdayKeep", name := "calendar", desc := "(IZ)I" } : Jvm.MethodName)) ∈ lw_all := lw_g (lw_at lw_m7 65 rfl) rfl
theorem q1612 : (Jvm.Cond.code ({ cls := "SaturdayKeep", name := "calendar", desc := "(IZ)I" } : Jvm.MethodName) prog_1_method_42_code (3 : Nat) (Option.some Jvm.ClassFile.FieldType.int)) ∈ lw_all := lw_g (lw_at lw_m7 66 rfl) rfl
theorem q1613 : (Jvm.Cond.methodLink "SaturdayKeep" (440 : Nat) ({ cls := "SaturdayKeep", name := "calendarAt", desc := "(I)V" } : Jvm.MethodName)) ∈ lw_all := lw_g (lw_at lw_m7 67 rfl) rfl
theorem q1614 : (Jvm.Cond.static ({ cls := "SaturdayKeep", name := "calendarAt", desc := "(I)V" } : Jvm.MethodName)) ∈ lw_all := lw_g (lw_at lw_m7 68 rfl) rfl
theorem q1615 : (Jvm.Cond.code ({ cls := "SaturdayKeep", name := "calendarAt", desc := "(I)V" } : Jvm.MethodName) prog_1_method_36_code (1 : Nat) (Option.none : Option Jvm.ClassFile.FieldType)) ∈ lw_all := lw_g (lw_at lw_m7 69 rfl) rfl
theorem q1616 : (Jvm.Cond.methodLink "SaturdayKeep" (443 : Nat) ({ cls := "SaturdayKeep", name := "nextSaturday", desc := "(I)I" } : Jvm.MethodName)) ∈ lw_all := lw_g (lw_at lw_m7 70 rfl) rfl
theorem q1617 : (Jvm.Cond.privateMethod ({ cls := "SaturdayKeep", name := "nextSaturday", desc := "(I)I" } : Jvm.MethodName)) ∈ lw_tbl := lw_at lw_m7 71 rfl
theorem q1618 : (Jvm.Cond.instanceMethod ({ cls := "SaturdayKeep", name := "nextSaturday", desc := "(I)I" } : Jvm.MethodName)) ∈ lw_all := lw_g (lw_at lw_m7 72 rfl) rfl
theorem q1619 : (Jvm.Cond.code ({ cls := "SaturdayKeep", name := "nextSaturday", desc := "(I)I" } : Jvm.MethodName) prog_1_method_41_code (3 : Nat) (Option.some Jvm.ClassFile.FieldType.int)) ∈ lw_all := lw_g (lw_at lw_m7 73 rfl) rfl
theorem q1624 : (Jvm.Cond.instanceMethod ({ cls := "SaturdayKeep", name := "saturday", desc := "(II)Z" } : Jvm.MethodName)) ∈ lw_all := lw_g (lw_at lw_m7 78 rfl) rfl
theorem q1625 : (Jvm.Cond.selects "SaturdayKeep" ({ cls := "SaturdayKeep", name := "saturday", desc := "(II)Z" } : Jvm.MethodName) ({ cls := "SaturdayKeep", name := "saturday", desc := "(II)Z" } : Jvm.MethodName)) ∈ lw_all := lw_g (lw_at lw_m7 79 rfl) rfl
theorem q1626 : (Jvm.Cond.code ({ cls := "SaturdayKeep", name := "saturday", desc := "(II)Z" } : Jvm.MethodName) prog_1_method_43_code (3 : Nat) (Option.some Jvm.ClassFile.FieldType.boolean)) ∈ lw_all := lw_g (lw_at lw_m7 80 rfl) rfl
theorem q1627 : (Jvm.Cond.methodLink "SaturdayKeep" (446 : Nat) ({ cls := "SaturdayKeep", name := "demand", desc := "(Z)V" } : Jvm.MethodName)) ∈ lw_all := lw_g (lw_at lw_m7 81 rfl) rfl
theorem q1628 : (Jvm.Cond.static ({ cls := "SaturdayKeep", name := "demand", desc := "(Z)V" } : Jvm.MethodName)) ∈ lw_all := lw_g (lw_at lw_m7 82 rfl) rfl
theorem q1629 : (Jvm.Cond.code ({ cls := "SaturdayKeep", name := "demand", desc := "(Z)V" } : Jvm.MethodName) prog_1_method_32_code (1 : Nat) (Option.none : Option Jvm.ClassFile.FieldType)) ∈ lw_all := lw_g (lw_at lw_m7 83 rfl) rfl
theorem q1634 : (Jvm.Cond.instanceMethod ({ cls := "SaturdayKeep", name := "go", desc := "(II)I" } : Jvm.MethodName)) ∈ lw_all := lw_g (lw_at lw_m7 88 rfl) rfl
theorem q1635 : (Jvm.Cond.selects "SaturdayKeep" ({ cls := "SaturdayKeep", name := "go", desc := "(II)I" } : Jvm.MethodName) ({ cls := "SaturdayKeep", name := "go", desc := "(II)I" } : Jvm.MethodName)) ∈ lw_all := lw_g (lw_at lw_m7 89 rfl) rfl
theorem q1636 : (Jvm.Cond.code ({ cls := "SaturdayKeep", name := "go", desc := "(II)I" } : Jvm.MethodName) prog_1_method_45_code (4 : Nat) (Option.some Jvm.ClassFile.FieldType.int)) ∈ lw_all := lw_g (lw_at lw_m7 90 rfl) rfl
theorem q1637 : (Jvm.Cond.methodLink "SaturdayKeep" (453 : Nat) ({ cls := "SaturdayKeep", name := "remembers", desc := "()V" } : Jvm.MethodName)) ∈ lw_all := lw_g (lw_at lw_m7 91 rfl) rfl
theorem q1638 : (Jvm.Cond.privateMethod ({ cls := "SaturdayKeep", name := "remembers", desc := "()V" } : Jvm.MethodName)) ∈ lw_tbl := lw_at lw_m7 92 rfl
theorem q1639 : (Jvm.Cond.instanceMethod ({ cls := "SaturdayKeep", name := "remembers", desc := "()V" } : Jvm.MethodName)) ∈ lw_all := lw_g (lw_at lw_m7 93 rfl) rfl
theorem q1640 : (Jvm.Cond.code ({ cls := "SaturdayKeep", name := "remembers", desc := "()V" } : Jvm.MethodName) prog_1_method_44_code (2 : Nat) (Option.none : Option Jvm.ClassFile.FieldType)) ∈ lw_all := lw_g (lw_at lw_m7 94 rfl) rfl
theorem q1645 : (Jvm.Cond.instanceMethod ({ cls := "SaturdayKeep", name := "come", desc := "(IZ)Z" } : Jvm.MethodName)) ∈ lw_all := lw_g (lw_at lw_m7 99 rfl) rfl
theorem q1646 : (Jvm.Cond.selects "SaturdayKeep" ({ cls := "SaturdayKeep", name := "come", desc := "(IZ)Z" } : Jvm.MethodName) ({ cls := "SaturdayKeep", name := "come", desc := "(IZ)Z" } : Jvm.MethodName)) ∈ lw_all := lw_g (lw_at lw_m7 100 rfl) rfl
theorem q1647 : (Jvm.Cond.code ({ cls := "SaturdayKeep", name := "come", desc := "(IZ)Z" } : Jvm.MethodName) prog_1_method_46_code (4 : Nat) (Option.some Jvm.ClassFile.FieldType.boolean)) ∈ lw_all := lw_g (lw_at lw_m7 101 rfl) rfl
theorem q1652 : (Jvm.Cond.instanceMethod ({ cls := "SaturdayKeep", name := "key", desc := "(IZ)Z" } : Jvm.MethodName)) ∈ lw_all := lw_g (lw_at lw_m7 106 rfl) rfl
theorem q1653 : (Jvm.Cond.selects "SaturdayKeep" ({ cls := "SaturdayKeep", name := "key", desc := "(IZ)Z" } : Jvm.MethodName) ({ cls := "SaturdayKeep", name := "key", desc := "(IZ)Z" } : Jvm.MethodName)) ∈ lw_all := lw_g (lw_at lw_m7 107 rfl) rfl
theorem q1654 : (Jvm.Cond.code ({ cls := "SaturdayKeep", name := "key", desc := "(IZ)Z" } : Jvm.MethodName) prog_1_method_47_code (4 : Nat) (Option.some Jvm.ClassFile.FieldType.boolean)) ∈ lw_all := lw_g (lw_at lw_m7 108 rfl) rfl
theorem q1659 : (Jvm.Cond.instanceMethod ({ cls := "SaturdayKeep", name := "hole", desc := "(IIZ)Z" } : Jvm.MethodName)) ∈ lw_all := lw_g (lw_at lw_m7 113 rfl) rfl
theorem q1660 : (Jvm.Cond.selects "SaturdayKeep" ({ cls := "SaturdayKeep", name := "hole", desc := "(IIZ)Z" } : Jvm.MethodName) ({ cls := "SaturdayKeep", name := "hole", desc := "(IIZ)Z" } : Jvm.MethodName)) ∈ lw_all := lw_g (lw_at lw_m7 114 rfl) rfl
theorem q1661 : (Jvm.Cond.code ({ cls := "SaturdayKeep", name := "hole", desc := "(IIZ)Z" } : Jvm.MethodName) prog_1_method_48_code (6 : Nat) (Option.some Jvm.ClassFile.FieldType.boolean)) ∈ lw_all := lw_g (lw_at lw_m7 115 rfl) rfl
theorem q1666 : (Jvm.Cond.instanceMethod ({ cls := "SaturdayKeep", name := "bath", desc := "(I)I" } : Jvm.MethodName)) ∈ lw_all := lw_g (lw_at lw_m7 120 rfl) rfl
theorem q1667 : (Jvm.Cond.selects "SaturdayKeep" ({ cls := "SaturdayKeep", name := "bath", desc := "(I)I" } : Jvm.MethodName) ({ cls := "SaturdayKeep", name := "bath", desc := "(I)I" } : Jvm.MethodName)) ∈ lw_all := lw_g (lw_at lw_m7 121 rfl) rfl
theorem q1668 : (Jvm.Cond.code ({ cls := "SaturdayKeep", name := "bath", desc := "(I)I" } : Jvm.MethodName) prog_1_method_49_code (3 : Nat) (Option.some Jvm.ClassFile.FieldType.int)) ∈ lw_all := lw_g (lw_at lw_m7 122 rfl) rfl
theorem q1673 : (Jvm.Cond.instanceMethod ({ cls := "SaturdayKeep", name := "keep", desc := "(I)I" } : Jvm.MethodName)) ∈ lw_all := lw_g (lw_at lw_m7 127 rfl) rfl
theorem q1674 : (Jvm.Cond.selects "SaturdayKeep" ({ cls := "SaturdayKeep", name := "keep", desc := "(I)I" } : Jvm.MethodName) ({ cls := "SaturdayKeep", name := "keep", desc := "(I)I" } : Jvm.MethodName)) ∈ lw_all := lw_g (lw_at lw_m7 128 rfl) rfl
theorem q1675 : (Jvm.Cond.code ({ cls := "SaturdayKeep", name := "keep", desc := "(I)I" } : Jvm.MethodName) prog_1_method_50_code (3 : Nat) (Option.some Jvm.ClassFile.FieldType.int)) ∈ lw_all := lw_g (lw_at lw_m7 129 rfl) rfl
theorem q1680 : (Jvm.Cond.instanceMethod ({ cls := "SaturdayKeep", name := "masons", desc := "(I)I" } : Jvm.MethodName)) ∈ lw_all := lw_g (lw_at lw_m7 134 rfl) rfl
theorem q1681 : (Jvm.Cond.selects "SaturdayKeep" ({ cls := "SaturdayKeep", name := "masons", desc := "(I)I" } : Jvm.MethodName) ({ cls := "SaturdayKeep", name := "masons", desc := "(I)I" } : Jvm.MethodName)) ∈ lw_all := lw_g (lw_at lw_m7 135 rfl) rfl
theorem q1682 : (Jvm.Cond.code ({ cls := "SaturdayKeep", name := "masons", desc := "(I)I" } : Jvm.MethodName) prog_1_method_51_code (3 : Nat) (Option.some Jvm.ClassFile.FieldType.int)) ∈ lw_all := lw_g (lw_at lw_m7 136 rfl) rfl
theorem q1687 : (Jvm.Cond.instanceMethod ({ cls := "SaturdayKeep", name := "buy", desc := "(I)I" } : Jvm.MethodName)) ∈ lw_all := lw_g (lw_at lw_m7 141 rfl) rfl
theorem q1688 : (Jvm.Cond.selects "SaturdayKeep" ({ cls := "SaturdayKeep", name := "buy", desc := "(I)I" } : Jvm.MethodName) ({ cls := "SaturdayKeep", name := "buy", desc := "(I)I" } : Jvm.MethodName)) ∈ lw_all := lw_g (lw_at lw_m7 142 rfl) rfl
theorem q1689 : (Jvm.Cond.code ({ cls := "SaturdayKeep", name := "buy", desc := "(I)I" } : Jvm.MethodName) prog_1_method_52_code (2 : Nat) (Option.some Jvm.ClassFile.FieldType.int)) ∈ lw_all := lw_g (lw_at lw_m7 143 rfl) rfl
theorem q1690 : (Jvm.Cond.methodLink "SaturdayKeep" (456 : Nat) ({ cls := "java/lang/Math", name := "min", desc := "(II)I" } : Jvm.MethodName)) ∈ lw_all := lw_g (lw_at lw_m7 144 rfl) rfl
theorem q1695 : (Jvm.Cond.instanceMethod ({ cls := "SaturdayKeep", name := "calm", desc := "(I)I" } : Jvm.MethodName)) ∈ lw_all := lw_g (lw_at lw_m7 149 rfl) rfl
theorem q1696 : (Jvm.Cond.selects "SaturdayKeep" ({ cls := "SaturdayKeep", name := "calm", desc := "(I)I" } : Jvm.MethodName) ({ cls := "SaturdayKeep", name := "calm", desc := "(I)I" } : Jvm.MethodName)) ∈ lw_all := lw_g (lw_at lw_m7 150 rfl) rfl
theorem q1697 : (Jvm.Cond.code ({ cls := "SaturdayKeep", name := "calm", desc := "(I)I" } : Jvm.MethodName) prog_1_method_53_code (2 : Nat) (Option.some Jvm.ClassFile.FieldType.int)) ∈ lw_all := lw_g (lw_at lw_m7 151 rfl) rfl
theorem q1702 : (Jvm.Cond.instanceMethod ({ cls := "SaturdayKeep", name := "days", desc := "(I)I" } : Jvm.MethodName)) ∈ lw_all := lw_g (lw_at lw_m7 156 rfl) rfl
theorem q1703 : (Jvm.Cond.selects "SaturdayKeep" ({ cls := "SaturdayKeep", name := "days", desc := "(I)I" } : Jvm.MethodName) ({ cls := "SaturdayKeep", name := "days", desc := "(I)I" } : Jvm.MethodName)) ∈ lw_all := lw_g (lw_at lw_m7 157 rfl) rfl
theorem q1704 : (Jvm.Cond.code ({ cls := "SaturdayKeep", name := "days", desc := "(I)I" } : Jvm.MethodName) prog_1_method_54_code (4 : Nat) (Option.some Jvm.ClassFile.FieldType.int)) ∈ lw_all := lw_g (lw_at lw_m7 158 rfl) rfl
theorem q1705 : (Jvm.Cond.methodLink "SaturdayKeep" (464 : Nat) ({ cls := "SaturdayKeep", name := "aDay", desc := "(LSaturdayKeep$World;)V" } : Jvm.MethodName)) ∈ lw_all := lw_g (lw_at lw_m7 159 rfl) rfl
theorem q1706 : (Jvm.Cond.privateMethod ({ cls := "SaturdayKeep", name := "aDay", desc := "(LSaturdayKeep$World;)V" } : Jvm.MethodName)) ∈ lw_tbl := lw_at lw_m7 160 rfl
theorem q1707 : (Jvm.Cond.instanceMethod ({ cls := "SaturdayKeep", name := "aDay", desc := "(LSaturdayKeep$World;)V" } : Jvm.MethodName)) ∈ lw_all := lw_g (lw_at lw_m7 161 rfl) rfl
theorem q1708 : (Jvm.Cond.code ({ cls := "SaturdayKeep", name := "aDay", desc := "(LSaturdayKeep$World;)V" } : Jvm.MethodName) prog_1_method_28_code (3 : Nat) (Option.none : Option Jvm.ClassFile.FieldType)) ∈ lw_all := lw_g (lw_at lw_m7 162 rfl) rfl
theorem q1709 : (Jvm.Cond.methodLink "SaturdayKeep" (390 : Nat) ({ cls := "SaturdayKeep", name := "allLook", desc := "(LSaturdayKeep$World;)V" } : Jvm.MethodName)) ∈ lw_all := lw_g (lw_at lw_m7 163 rfl) rfl
theorem q1710 : (Jvm.Cond.static ({ cls := "SaturdayKeep", name := "allLook", desc := "(LSaturdayKeep$World;)V" } : Jvm.MethodName)) ∈ lw_all := lw_g (lw_at lw_m7 164 rfl) rfl
theorem q1711 : (Jvm.Cond.code ({ cls := "SaturdayKeep", name := "allLook", desc := "(LSaturdayKeep$World;)V" } : Jvm.MethodName) prog_1_method_27_code (3 : Nat) (Option.none : Option Jvm.ClassFile.FieldType)) ∈ lw_all := lw_g (lw_at lw_m7 165 rfl) rfl
theorem q1712 : (Jvm.Cond.methodLink "SaturdayKeep" (377 : Nat) ({ cls := "SaturdayKeep$World", name := "draw", desc := "(I)I" } : Jvm.MethodName)) ∈ lw_all := lw_g (lw_at lw_m7 166 rfl) rfl
theorem q1717 : (Jvm.Cond.methodLink "SaturdayKeep" (383 : Nat) ({ cls := "SaturdayKeep$World", name := "looks", desc := "(I)V" } : Jvm.MethodName)) ∈ lw_all := lw_g (lw_at lw_m7 171 rfl) rfl
theorem q1725 : (Jvm.Cond.instanceMethod ({ cls := "SaturdayKeep", name := "ahead", desc := "(III)I" } : Jvm.MethodName)) ∈ lw_all := lw_g (lw_at lw_m7 179 rfl) rfl
theorem q1726 : (Jvm.Cond.selects "SaturdayKeep" ({ cls := "SaturdayKeep", name := "ahead", desc := "(III)I" } : Jvm.MethodName) ({ cls := "SaturdayKeep", name := "ahead", desc := "(III)I" } : Jvm.MethodName)) ∈ lw_all := lw_g (lw_at lw_m7 180 rfl) rfl
theorem q1727 : (Jvm.Cond.code ({ cls := "SaturdayKeep", name := "ahead", desc := "(III)I" } : Jvm.MethodName) prog_1_method_55_code (5 : Nat) (Option.some Jvm.ClassFile.FieldType.int)) ∈ lw_all := lw_g (lw_at lw_m7 181 rfl) rfl
theorem q1728 : (Jvm.Cond.methodLink "SaturdayKeep" (467 : Nat) ({ cls := "SaturdayKeep", name := "worldAt", desc := "(I)LSaturdayKeep$World;" } : Jvm.MethodName)) ∈ lw_all := lw_g (lw_at lw_m7 182 rfl) rfl
theorem q1729 : (Jvm.Cond.privateMethod ({ cls := "SaturdayKeep", name := "worldAt", desc := "(I)LSaturdayKeep$World;" } : Jvm.MethodName)) ∈ lw_tbl := lw_at lw_m7 183 rfl
theorem q1730 : (Jvm.Cond.instanceMethod ({ cls := "SaturdayKeep", name := "worldAt", desc := "(I)LSaturdayKeep$World;" } : Jvm.MethodName)) ∈ lw_all := lw_g (lw_at lw_m7 184 rfl) rfl
theorem q1731 : (Jvm.Cond.code ({ cls := "SaturdayKeep", name := "worldAt", desc := "(I)LSaturdayKeep$World;" } : Jvm.MethodName) prog_1_method_30_code (3 : Nat) (Option.some (Jvm.ClassFile.FieldType.object "SaturdayKeep$World"))) ∈ lw_all := lw_g (lw_at lw_m7 185 rfl) rfl
theorem q1736 : (Jvm.Cond.instanceMethod ({ cls := "SaturdayKeep", name := "saturdays", desc := "(I)I" } : Jvm.MethodName)) ∈ lw_all := lw_g (lw_at lw_m7 190 rfl) rfl
theorem q1737 : (Jvm.Cond.selects "SaturdayKeep" ({ cls := "SaturdayKeep", name := "saturdays", desc := "(I)I" } : Jvm.MethodName) ({ cls := "SaturdayKeep", name := "saturdays", desc := "(I)I" } : Jvm.MethodName)) ∈ lw_all := lw_g (lw_at lw_m7 191 rfl) rfl
theorem q1738 : (Jvm.Cond.code ({ cls := "SaturdayKeep", name := "saturdays", desc := "(I)I" } : Jvm.MethodName) prog_1_method_57_code (4 : Nat) (Option.some Jvm.ClassFile.FieldType.int)) ∈ lw_all := lw_g (lw_at lw_m7 192 rfl) rfl
theorem q1743 : (Jvm.Cond.instanceMethod ({ cls := "SaturdayKeep", name := "first", desc := "(II)I" } : Jvm.MethodName)) ∈ lw_all := lw_g (lw_at lw_m7 197 rfl) rfl
theorem q1744 : (Jvm.Cond.selects "SaturdayKeep" ({ cls := "SaturdayKeep", name := "first", desc := "(II)I" } : Jvm.MethodName) ({ cls := "SaturdayKeep", name := "first", desc := "(II)I" } : Jvm.MethodName)) ∈ lw_all := lw_g (lw_at lw_m7 198 rfl) rfl
theorem q1745 : (Jvm.Cond.code ({ cls := "SaturdayKeep", name := "first", desc := "(II)I" } : Jvm.MethodName) prog_1_method_59_code (4 : Nat) (Option.some Jvm.ClassFile.FieldType.int)) ∈ lw_all := lw_g (lw_at lw_m7 199 rfl) rfl
theorem q1750 : (Jvm.Cond.instanceMethod ({ cls := "SaturdayKeep", name := "stand", desc := "(I)I" } : Jvm.MethodName)) ∈ lw_all := lw_g (lw_at lw_m7 204 rfl) rfl
theorem q1751 : (Jvm.Cond.selects "SaturdayKeep" ({ cls := "SaturdayKeep", name := "stand", desc := "(I)I" } : Jvm.MethodName) ({ cls := "SaturdayKeep", name := "stand", desc := "(I)I" } : Jvm.MethodName)) ∈ lw_all := lw_g (lw_at lw_m7 205 rfl) rfl
theorem q1752 : (Jvm.Cond.code ({ cls := "SaturdayKeep", name := "stand", desc := "(I)I" } : Jvm.MethodName) prog_1_method_61_code (3 : Nat) (Option.some Jvm.ClassFile.FieldType.int)) ∈ lw_all := lw_g (lw_at lw_m7 206 rfl) rfl
theorem q1757 : (Jvm.Cond.instanceMethod ({ cls := "SaturdayKeep", name := "sent", desc := "(I)I" } : Jvm.MethodName)) ∈ lw_all := lw_g (lw_at lw_m7 211 rfl) rfl
theorem q1758 : (Jvm.Cond.selects "SaturdayKeep" ({ cls := "SaturdayKeep", name := "sent", desc := "(I)I" } : Jvm.MethodName) ({ cls := "SaturdayKeep", name := "sent", desc := "(I)I" } : Jvm.MethodName)) ∈ lw_all := lw_g (lw_at lw_m7 212 rfl) rfl
theorem q1759 : (Jvm.Cond.code ({ cls := "SaturdayKeep", name := "sent", desc := "(I)I" } : Jvm.MethodName) prog_1_method_67_code (6 : Nat) (Option.some Jvm.ClassFile.FieldType.int)) ∈ lw_all := lw_g (lw_at lw_m7 213 rfl) rfl
theorem q1764 : (Jvm.Cond.instanceMethod ({ cls := "SaturdayKeep", name := "rests", desc := "(I)I" } : Jvm.MethodName)) ∈ lw_all := lw_g (lw_at lw_m7 218 rfl) rfl
theorem q1765 : (Jvm.Cond.selects "SaturdayKeep" ({ cls := "SaturdayKeep", name := "rests", desc := "(I)I" } : Jvm.MethodName) ({ cls := "SaturdayKeep", name := "rests", desc := "(I)I" } : Jvm.MethodName)) ∈ lw_all := lw_g (lw_at lw_m7 219 rfl) rfl
theorem q1766 : (Jvm.Cond.code ({ cls := "SaturdayKeep", name := "rests", desc := "(I)I" } : Jvm.MethodName) prog_1_method_80_code (6 : Nat) (Option.some Jvm.ClassFile.FieldType.int)) ∈ lw_all := lw_g (lw_at lw_m7 220 rfl) rfl
theorem q1767 : (Jvm.Cond.methodLink "SaturdayKeep" (510 : Nat) ({ cls := "SaturdayKeep", name := "hostHas", desc := "(ZII)I" } : Jvm.MethodName)) ∈ lw_all := lw_g (lw_at lw_m7 221 rfl) rfl
theorem q1768 : (Jvm.Cond.privateMethod ({ cls := "SaturdayKeep", name := "hostHas", desc := "(ZII)I" } : Jvm.MethodName)) ∈ lw_tbl := lw_at lw_m7 222 rfl
theorem q1769 : (Jvm.Cond.instanceMethod ({ cls := "SaturdayKeep", name := "hostHas", desc := "(ZII)I" } : Jvm.MethodName)) ∈ lw_all := lw_g (lw_at lw_m7 223 rfl) rfl
theorem q1770 : (Jvm.Cond.code ({ cls := "SaturdayKeep", name := "hostHas", desc := "(ZII)I" } : Jvm.MethodName) prog_1_method_78_code (4 : Nat) (Option.some Jvm.ClassFile.FieldType.int)) ∈ lw_all := lw_g (lw_at lw_m7 224 rfl) rfl
theorem q1771 : (Jvm.Cond.methodLink "SaturdayKeep" (514 : Nat) ({ cls := "SaturdayKeep", name := "guestHas", desc := "(IZII)I" } : Jvm.MethodName)) ∈ lw_all := lw_g (lw_at lw_m7 225 rfl) rfl
theorem q1772 : (Jvm.Cond.privateMethod ({ cls := "SaturdayKeep", name := "guestHas", desc := "(IZII)I" } : Jvm.MethodName)) ∈ lw_tbl := lw_at lw_m7 226 rfl
theorem q1773 : (Jvm.Cond.instanceMethod ({ cls := "SaturdayKeep", name := "guestHas", desc := "(IZII)I" } : Jvm.MethodName)) ∈ lw_all := lw_g (lw_at lw_m7 227 rfl) rfl
theorem q1774 : (Jvm.Cond.code ({ cls := "SaturdayKeep", name := "guestHas", desc := "(IZII)I" } : Jvm.MethodName) prog_1_method_79_code (5 : Nat) (Option.some Jvm.ClassFile.FieldType.int)) ∈ lw_all := lw_g (lw_at lw_m7 228 rfl) rfl
theorem q1779 : (Jvm.Cond.instanceMethod ({ cls := "SaturdayKeep", name := "shifts", desc := "()I" } : Jvm.MethodName)) ∈ lw_all := lw_g (lw_at lw_m7 233 rfl) rfl
theorem q1780 : (Jvm.Cond.selects "SaturdayKeep" ({ cls := "SaturdayKeep", name := "shifts", desc := "()I" } : Jvm.MethodName) ({ cls := "SaturdayKeep", name := "shifts", desc := "()I" } : Jvm.MethodName)) ∈ lw_all := lw_g (lw_at lw_m7 234 rfl) rfl
theorem q1781 : (Jvm.Cond.code ({ cls := "SaturdayKeep", name := "shifts", desc := "()I" } : Jvm.MethodName) prog_1_method_84_code (1 : Nat) (Option.some Jvm.ClassFile.FieldType.int)) ∈ lw_all := lw_g (lw_at lw_m7 235 rfl) rfl
theorem q1782 : (Jvm.Cond.methodLink "SaturdayKeep" (528 : Nat) ({ cls := "SaturdayKeep", name := "tells", desc := "(I)V" } : Jvm.MethodName)) ∈ lw_all := lw_g (lw_at lw_m7 236 rfl) rfl
theorem q1783 : (Jvm.Cond.privateMethod ({ cls := "SaturdayKeep", name := "tells", desc := "(I)V" } : Jvm.MethodName)) ∈ lw_tbl := lw_at lw_m7 237 rfl
theorem q1784 : (Jvm.Cond.instanceMethod ({ cls := "SaturdayKeep", name := "tells", desc := "(I)V" } : Jvm.MethodName)) ∈ lw_all := lw_g (lw_at lw_m7 238 rfl) rfl
theorem q1785 : (Jvm.Cond.code ({ cls := "SaturdayKeep", name := "tells", desc := "(I)V" } : Jvm.MethodName) prog_1_method_81_code (4 : Nat) (Option.none : Option Jvm.ClassFile.FieldType)) ∈ lw_all := lw_g (lw_at lw_m7 239 rfl) rfl
theorem q1786 : (Jvm.Cond.methodLink "SaturdayKeep" (531 : Nat) ({ cls := "SaturdayKeep", name := "shiftsThatFit", desc := "()I" } : Jvm.MethodName)) ∈ lw_all := lw_g (lw_at lw_m8 0 rfl) rfl
theorem q1787 : (Jvm.Cond.privateMethod ({ cls := "SaturdayKeep", name := "shiftsThatFit", desc := "()I" } : Jvm.MethodName)) ∈ lw_tbl := lw_at lw_m8 1 rfl
theorem q1788 : (Jvm.Cond.instanceMethod ({ cls := "SaturdayKeep", name := "shiftsThatFit", desc := "()I" } : Jvm.MethodName)) ∈ lw_all := lw_g (lw_at lw_m8 2 rfl) rfl
theorem q1789 : (Jvm.Cond.code ({ cls := "SaturdayKeep", name := "shiftsThatFit", desc := "()I" } : Jvm.MethodName) prog_1_method_83_code (3 : Nat) (Option.some Jvm.ClassFile.FieldType.int)) ∈ lw_all := lw_g (lw_at lw_m8 3 rfl) rfl
theorem q1790 : (Jvm.Cond.methodLink "SaturdayKeep" (525 : Nat) ({ cls := "SaturdayKeep", name := "isShift", desc := "(I)Z" } : Jvm.MethodName)) ∈ lw_all := lw_g (lw_at lw_m8 4 rfl) rfl
theorem q1791 : (Jvm.Cond.privateMethod ({ cls := "SaturdayKeep", name := "isShift", desc := "(I)Z" } : Jvm.MethodName)) ∈ lw_tbl := lw_at lw_m8 5 rfl
theorem q1792 : (Jvm.Cond.instanceMethod ({ cls := "SaturdayKeep", name := "isShift", desc := "(I)Z" } : Jvm.MethodName)) ∈ lw_all := lw_g (lw_at lw_m8 6 rfl) rfl
theorem q1793 : (Jvm.Cond.code ({ cls := "SaturdayKeep", name := "isShift", desc := "(I)Z" } : Jvm.MethodName) prog_1_method_82_code (4 : Nat) (Option.some Jvm.ClassFile.FieldType.boolean)) ∈ lw_all := lw_g (lw_at lw_m8 7 rfl) rfl
theorem q1798 : (Jvm.Cond.instanceMethod ({ cls := "SaturdayKeep", name := "ask", desc := "()I" } : Jvm.MethodName)) ∈ lw_all := lw_g (lw_at lw_m8 12 rfl) rfl
theorem q1799 : (Jvm.Cond.selects "SaturdayKeep" ({ cls := "SaturdayKeep", name := "ask", desc := "()I" } : Jvm.MethodName) ({ cls := "SaturdayKeep", name := "ask", desc := "()I" } : Jvm.MethodName)) ∈ lw_all := lw_g (lw_at lw_m8 13 rfl) rfl
theorem q1800 : (Jvm.Cond.code ({ cls := "SaturdayKeep", name := "ask", desc := "()I" } : Jvm.MethodName) prog_1_method_85_code (8 : Nat) (Option.some Jvm.ClassFile.FieldType.int)) ∈ lw_all := lw_g (lw_at lw_m8 14 rfl) rfl
theorem q1801 : (Jvm.Cond.methodLink "SaturdayKeep" (471 : Nat) ({ cls := "java/lang/Math", name := "max", desc := "(II)I" } : Jvm.MethodName)) ∈ lw_all := lw_g (lw_at lw_m8 15 rfl) rfl
theorem q1806 : (Jvm.Cond.instanceMethod ({ cls := "SaturdayKeep", name := "bored", desc := "(Z)I" } : Jvm.MethodName)) ∈ lw_all := lw_g (lw_at lw_m8 20 rfl) rfl
theorem q1807 : (Jvm.Cond.selects "SaturdayKeep" ({ cls := "SaturdayKeep", name := "bored", desc := "(Z)I" } : Jvm.MethodName) ({ cls := "SaturdayKeep", name := "bored", desc := "(Z)I" } : Jvm.MethodName)) ∈ lw_all := lw_g (lw_at lw_m8 21 rfl) rfl
theorem q1808 : (Jvm.Cond.code ({ cls := "SaturdayKeep", name := "bored", desc := "(Z)I" } : Jvm.MethodName) prog_1_method_87_code (5 : Nat) (Option.some Jvm.ClassFile.FieldType.int)) ∈ lw_all := lw_g (lw_at lw_m8 22 rfl) rfl
theorem q1809 : (Jvm.Cond.methodLink "SaturdayKeep" (534 : Nat) ({ cls := "SaturdayKeep", name := "isWeek", desc := "(I)Z" } : Jvm.MethodName)) ∈ lw_all := lw_g (lw_at lw_m8 23 rfl) rfl
theorem q1810 : (Jvm.Cond.privateMethod ({ cls := "SaturdayKeep", name := "isWeek", desc := "(I)Z" } : Jvm.MethodName)) ∈ lw_tbl := lw_at lw_m8 24 rfl
theorem q1811 : (Jvm.Cond.instanceMethod ({ cls := "SaturdayKeep", name := "isWeek", desc := "(I)Z" } : Jvm.MethodName)) ∈ lw_all := lw_g (lw_at lw_m8 25 rfl) rfl
theorem q1812 : (Jvm.Cond.code ({ cls := "SaturdayKeep", name := "isWeek", desc := "(I)Z" } : Jvm.MethodName) prog_1_method_86_code (4 : Nat) (Option.some Jvm.ClassFile.FieldType.boolean)) ∈ lw_all := lw_g (lw_at lw_m8 26 rfl) rfl
theorem q1817 : (Jvm.Cond.instanceMethod ({ cls := "SaturdayKeep", name := "look", desc := "()I" } : Jvm.MethodName)) ∈ lw_all := lw_g (lw_at lw_m8 31 rfl) rfl
theorem q1818 : (Jvm.Cond.selects "SaturdayKeep" ({ cls := "SaturdayKeep", name := "look", desc := "()I" } : Jvm.MethodName) ({ cls := "SaturdayKeep", name := "look", desc := "()I" } : Jvm.MethodName)) ∈ lw_all := lw_g (lw_at lw_m8 32 rfl) rfl
theorem q1819 : (Jvm.Cond.code ({ cls := "SaturdayKeep", name := "look", desc := "()I" } : Jvm.MethodName) prog_1_method_88_code (7 : Nat) (Option.some Jvm.ClassFile.FieldType.int)) ∈ lw_all := lw_g (lw_at lw_m8 33 rfl) rfl
theorem q1824 : (Jvm.Cond.instanceMethod ({ cls := "SaturdayKeep", name := "line", desc := "(II)I" } : Jvm.MethodName)) ∈ lw_all := lw_g (lw_at lw_m8 38 rfl) rfl
theorem q1825 : (Jvm.Cond.selects "SaturdayKeep" ({ cls := "SaturdayKeep", name := "line", desc := "(II)I" } : Jvm.MethodName) ({ cls := "SaturdayKeep", name := "line", desc := "(II)I" } : Jvm.MethodName)) ∈ lw_all := lw_g (lw_at lw_m8 39 rfl) rfl
theorem q1826 : (Jvm.Cond.code ({ cls := "SaturdayKeep", name := "line", desc := "(II)I" } : Jvm.MethodName) prog_1_method_91_code (7 : Nat) (Option.some Jvm.ClassFile.FieldType.int)) ∈ lw_all := lw_g (lw_at lw_m8 40 rfl) rfl
theorem q1831 : (Jvm.Cond.instanceMethod ({ cls := "SaturdayKeep", name := "pass", desc := "(II)I" } : Jvm.MethodName)) ∈ lw_all := lw_g (lw_at lw_m8 45 rfl) rfl
theorem q1832 : (Jvm.Cond.selects "SaturdayKeep" ({ cls := "SaturdayKeep", name := "pass", desc := "(II)I" } : Jvm.MethodName) ({ cls := "SaturdayKeep", name := "pass", desc := "(II)I" } : Jvm.MethodName)) ∈ lw_all := lw_g (lw_at lw_m8 46 rfl) rfl
theorem q1833 : (Jvm.Cond.code ({ cls := "SaturdayKeep", name := "pass", desc := "(II)I" } : Jvm.MethodName) prog_1_method_94_code (4 : Nat) (Option.some Jvm.ClassFile.FieldType.int)) ∈ lw_all := lw_g (lw_at lw_m8 47 rfl) rfl
theorem q1834 : (Jvm.Cond.methodLink "SaturdayKeep" (537 : Nat) ({ cls := "SaturdayKeep", name := "stepsBy", desc := "(III)I" } : Jvm.MethodName)) ∈ lw_all := lw_g (lw_at lw_m8 48 rfl) rfl
theorem q1835 : (Jvm.Cond.privateMethod ({ cls := "SaturdayKeep", name := "stepsBy", desc := "(III)I" } : Jvm.MethodName)) ∈ lw_tbl := lw_at lw_m8 49 rfl
theorem q1836 : (Jvm.Cond.instanceMethod ({ cls := "SaturdayKeep", name := "stepsBy", desc := "(III)I" } : Jvm.MethodName)) ∈ lw_all := lw_g (lw_at lw_m8 50 rfl) rfl
theorem q1837 : (Jvm.Cond.code ({ cls := "SaturdayKeep", name := "stepsBy", desc := "(III)I" } : Jvm.MethodName) prog_1_method_93_code (6 : Nat) (Option.some Jvm.ClassFile.FieldType.int)) ∈ lw_all := lw_g (lw_at lw_m8 51 rfl) rfl
theorem q1838 : (Jvm.Cond.constant "SaturdayKeep" (474 : Nat) (1000000 : Int32)) ∈ lw_all := lw_g (lw_at lw_m8 52 rfl) rfl
theorem q1843 : (Jvm.Cond.instanceMethod ({ cls := "SaturdayKeep", name := "agree", desc := "(I)I" } : Jvm.MethodName)) ∈ lw_all := lw_g (lw_at lw_m8 57 rfl) rfl
theorem q1844 : (Jvm.Cond.selects "SaturdayKeep" ({ cls := "SaturdayKeep", name := "agree", desc := "(I)I" } : Jvm.MethodName) ({ cls := "SaturdayKeep", name := "agree", desc := "(I)I" } : Jvm.MethodName)) ∈ lw_all := lw_g (lw_at lw_m8 58 rfl) rfl
theorem q1845 : (Jvm.Cond.code ({ cls := "SaturdayKeep", name := "agree", desc := "(I)I" } : Jvm.MethodName) prog_1_method_58_code (4 : Nat) (Option.some Jvm.ClassFile.FieldType.int)) ∈ lw_all := lw_g (lw_at lw_m8 59 rfl) rfl
theorem q1850 : (Jvm.Cond.instanceMethod ({ cls := "SaturdayKeep", name := "need", desc := "(I)I" } : Jvm.MethodName)) ∈ lw_all := lw_g (lw_at lw_m8 64 rfl) rfl
theorem q1851 : (Jvm.Cond.selects "SaturdayKeep" ({ cls := "SaturdayKeep", name := "need", desc := "(I)I" } : Jvm.MethodName) ({ cls := "SaturdayKeep", name := "need", desc := "(I)I" } : Jvm.MethodName)) ∈ lw_all := lw_g (lw_at lw_m8 65 rfl) rfl
theorem q1852 : (Jvm.Cond.code ({ cls := "SaturdayKeep", name := "need", desc := "(I)I" } : Jvm.MethodName) prog_1_method_62_code (2 : Nat) (Option.some Jvm.ClassFile.FieldType.int)) ∈ lw_all := lw_g (lw_at lw_m8 66 rfl) rfl
theorem q1857 : (Jvm.Cond.instanceMethod ({ cls := "SaturdayKeep", name := "spread", desc := "(I)I" } : Jvm.MethodName)) ∈ lw_all := lw_g (lw_at lw_m8 71 rfl) rfl
theorem q1858 : (Jvm.Cond.selects "SaturdayKeep" ({ cls := "SaturdayKeep", name := "spread", desc := "(I)I" } : Jvm.MethodName) ({ cls := "SaturdayKeep", name := "spread", desc := "(I)I" } : Jvm.MethodName)) ∈ lw_all := lw_g (lw_at lw_m8 72 rfl) rfl
theorem q1859 : (Jvm.Cond.code ({ cls := "SaturdayKeep", name := "spread", desc := "(I)I" } : Jvm.MethodName) prog_1_method_63_code (6 : Nat) (Option.some Jvm.ClassFile.FieldType.int)) ∈ lw_all := lw_g (lw_at lw_m8 73 rfl) rfl
theorem q1864 : (Jvm.Cond.instanceMethod ({ cls := "SaturdayKeep", name := "trial", desc := "(IZ)I" } : Jvm.MethodName)) ∈ lw_all := lw_g (lw_at lw_m8 78 rfl) rfl
theorem q1865 : (Jvm.Cond.selects "SaturdayKeep" ({ cls := "SaturdayKeep", name := "trial", desc := "(IZ)I" } : Jvm.MethodName) ({ cls := "SaturdayKeep", name := "trial", desc := "(IZ)I" } : Jvm.MethodName)) ∈ lw_all := lw_g (lw_at lw_m8 79 rfl) rfl
theorem q1866 : (Jvm.Cond.code ({ cls := "SaturdayKeep", name := "trial", desc := "(IZ)I" } : Jvm.MethodName) prog_1_method_97_code (3 : Nat) (Option.some Jvm.ClassFile.FieldType.int)) ∈ lw_all := lw_g (lw_at lw_m8 80 rfl) rfl
theorem q1867 : (Jvm.Cond.methodLink "SaturdayKeep" (541 : Nat) ({ cls := "SaturdayKeep", name := "tries", desc := "(I)V" } : Jvm.MethodName)) ∈ lw_all := lw_g (lw_at lw_m8 81 rfl) rfl
theorem q1868 : (Jvm.Cond.privateMethod ({ cls := "SaturdayKeep", name := "tries", desc := "(I)V" } : Jvm.MethodName)) ∈ lw_tbl := lw_at lw_m8 82 rfl
theorem q1869 : (Jvm.Cond.instanceMethod ({ cls := "SaturdayKeep", name := "tries", desc := "(I)V" } : Jvm.MethodName)) ∈ lw_all := lw_g (lw_at lw_m8 83 rfl) rfl
theorem q1870 : (Jvm.Cond.code ({ cls := "SaturdayKeep", name := "tries", desc := "(I)V" } : Jvm.MethodName) prog_1_method_96_code (3 : Nat) (Option.none : Option Jvm.ClassFile.FieldType)) ∈ lw_all := lw_g (lw_at lw_m8 84 rfl) rfl
theorem q1875 : (Jvm.Cond.instanceMethod ({ cls := "SaturdayKeep", name := "span", desc := "(IZ)I" } : Jvm.MethodName)) ∈ lw_all := lw_g (lw_at lw_m8 89 rfl) rfl
theorem q1876 : (Jvm.Cond.selects "SaturdayKeep" ({ cls := "SaturdayKeep", name := "span", desc := "(IZ)I" } : Jvm.MethodName) ({ cls := "SaturdayKeep", name := "span", desc := "(IZ)I" } : Jvm.MethodName)) ∈ lw_all := lw_g (lw_at lw_m8 90 rfl) rfl
theorem q1877 : (Jvm.Cond.code ({ cls := "SaturdayKeep", name := "span", desc := "(IZ)I" } : Jvm.MethodName) prog_1_method_98_code (6 : Nat) (Option.some Jvm.ClassFile.FieldType.int)) ∈ lw_all := lw_g (lw_at lw_m8 91 rfl) rfl
theorem q1882 : (Jvm.Cond.instanceMethod ({ cls := "SaturdayKeep", name := "led", desc := "(IZ)I" } : Jvm.MethodName)) ∈ lw_all := lw_g (lw_at lw_m8 96 rfl) rfl
theorem q1883 : (Jvm.Cond.selects "SaturdayKeep" ({ cls := "SaturdayKeep", name := "led", desc := "(IZ)I" } : Jvm.MethodName) ({ cls := "SaturdayKeep", name := "led", desc := "(IZ)I" } : Jvm.MethodName)) ∈ lw_all := lw_g (lw_at lw_m8 97 rfl) rfl
theorem q1884 : (Jvm.Cond.code ({ cls := "SaturdayKeep", name := "led", desc := "(IZ)I" } : Jvm.MethodName) prog_1_method_100_code (6 : Nat) (Option.some Jvm.ClassFile.FieldType.int)) ∈ lw_all := lw_g (lw_at lw_m8 98 rfl) rfl
theorem q1885 : (Jvm.Cond.methodLink "SaturdayKeep" (556 : Nat) ({ cls := "SaturdayKeep", name := "ofLog", desc := "(II)I" } : Jvm.MethodName)) ∈ lw_all := lw_g (lw_at lw_m8 99 rfl) rfl
theorem q1886 : (Jvm.Cond.privateMethod ({ cls := "SaturdayKeep", name := "ofLog", desc := "(II)I" } : Jvm.MethodName)) ∈ lw_tbl := lw_at lw_m8 100 rfl
theorem q1887 : (Jvm.Cond.instanceMethod ({ cls := "SaturdayKeep", name := "ofLog", desc := "(II)I" } : Jvm.MethodName)) ∈ lw_all := lw_g (lw_at lw_m8 101 rfl) rfl
theorem q1888 : (Jvm.Cond.code ({ cls := "SaturdayKeep", name := "ofLog", desc := "(II)I" } : Jvm.MethodName) prog_1_method_99_code (3 : Nat) (Option.some Jvm.ClassFile.FieldType.int)) ∈ lw_all := lw_g (lw_at lw_m8 102 rfl) rfl
theorem q1893 : (Jvm.Cond.instanceMethod ({ cls := "SaturdayKeep", name := "log", desc := "(II)I" } : Jvm.MethodName)) ∈ lw_all := lw_g (lw_at lw_m8 107 rfl) rfl
theorem q1894 : (Jvm.Cond.selects "SaturdayKeep" ({ cls := "SaturdayKeep", name := "log", desc := "(II)I" } : Jvm.MethodName) ({ cls := "SaturdayKeep", name := "log", desc := "(II)I" } : Jvm.MethodName)) ∈ lw_all := lw_g (lw_at lw_m8 108 rfl) rfl
theorem q1895 : (Jvm.Cond.code ({ cls := "SaturdayKeep", name := "log", desc := "(II)I" } : Jvm.MethodName) prog_1_method_101_code (3 : Nat) (Option.some Jvm.ClassFile.FieldType.int)) ∈ lw_all := lw_g (lw_at lw_m8 109 rfl) rfl
theorem q2505 : (Jvm.Cond.castable "SaturdayKeep" "java/lang/Object") ∈ lw_tbl := lw_at lw_m10 239 rfl
theorem in_X1 : ∀ w ∈ wsX10, w ∈ lw_all := lw_in wsX10 [381, 383, 385, 387, 389, 391, 393, 395, 397, 399] (by decide +kernel) (by decide +kernel)
