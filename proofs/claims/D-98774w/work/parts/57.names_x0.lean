/-! SaturdayKeepLaw -/
set_option maxRecDepth 100000
def RX0 : String := "SaturdayKeepLaw"
abbrev cX0_house : ByteArray := method_3_code
def yX0_house : MethodName := ⟨RX0, "house", "(LSaturdayKeep;[J)I"⟩
def dkwX0_house_0 : List UInt8 := [43, 3, 42, 182, 0, 7, 133, 80, 167, 0, 9, 77, 4, 172, 77, 5, 172, 3, 172]
abbrev dktX0_house_0 : List UInt8 := dkwX0_house_0 ++ []
theorem dksX0_house_0 : cX0_house.data.toList.drop 0 = dktX0_house_0 := by decide +kernel
theorem dX0_house_0 : decode cX0_house 0 = .ok (.aload_n 1, 1) := dk_43 (dk_at dksX0_house_0 0 rfl rfl)
theorem dX0_house_1 : decode cX0_house 1 = .ok (.iconst 0, 1) := dk_3 (dk_at dksX0_house_0 1 rfl rfl)
theorem dX0_house_2 : decode cX0_house 2 = .ok (.aload_n 0, 1) := dk_42 (dk_at dksX0_house_0 2 rfl rfl)
theorem dX0_house_3 : decode cX0_house 3 = .ok (.invokevirtual 7, 3) := dk_182 0 7 (dk_at dksX0_house_0 3 rfl rfl)
theorem dX0_house_6 : decode cX0_house 6 = .ok (.i2l, 1) := dk_133 (dk_at dksX0_house_0 6 rfl rfl)
theorem dX0_house_7 : decode cX0_house 7 = .ok (.lastore, 1) := dk_80 (dk_at dksX0_house_0 7 rfl rfl)
theorem dX0_house_8 : decode cX0_house 8 = .ok (.goto 9, 3) := dk_167 0 9 (dk_at dksX0_house_0 8 rfl rfl)
theorem dX0_house_11 : decode cX0_house 11 = .ok (.astore_n 2, 1) := dk_77 (dk_at dksX0_house_0 11 rfl rfl)
theorem dX0_house_12 : decode cX0_house 12 = .ok (.iconst 1, 1) := dk_4 (dk_at dksX0_house_0 12 rfl rfl)
theorem dX0_house_13 : decode cX0_house 13 = .ok (.ireturn, 1) := dk_172 (dk_at dksX0_house_0 13 rfl rfl)
theorem dX0_house_14 : decode cX0_house 14 = .ok (.astore_n 2, 1) := dk_77 (dk_at dksX0_house_0 14 rfl rfl)
theorem dX0_house_15 : decode cX0_house 15 = .ok (.iconst 2, 1) := dk_5 (dk_at dksX0_house_0 15 rfl rfl)
theorem dX0_house_16 : decode cX0_house 16 = .ok (.ireturn, 1) := dk_172 (dk_at dksX0_house_0 16 rfl rfl)
theorem dX0_house_17 : decode cX0_house 17 = .ok (.iconst 0, 1) := dk_3 (dk_at dksX0_house_0 17 rfl rfl)
theorem dX0_house_18 : decode cX0_house 18 = .ok (.ireturn, 1) := dk_172 (dk_at dksX0_house_0 18 rfl rfl)
abbrev cX0_law : ByteArray := method_4_code
def yX0_law : MethodName := ⟨RX0, "law", "(LSaturdayKeep;[J)I"⟩
def dkwX0_law_0 : List UInt8 := [43, 3, 42, 182, 0, 17, 133, 80, 167, 0, 6, 77, 4, 172, 3, 172]
abbrev dktX0_law_0 : List UInt8 := dkwX0_law_0 ++ []
theorem dksX0_law_0 : cX0_law.data.toList.drop 0 = dktX0_law_0 := by decide +kernel
theorem dX0_law_0 : decode cX0_law 0 = .ok (.aload_n 1, 1) := dk_43 (dk_at dksX0_law_0 0 rfl rfl)
theorem dX0_law_1 : decode cX0_law 1 = .ok (.iconst 0, 1) := dk_3 (dk_at dksX0_law_0 1 rfl rfl)
theorem dX0_law_2 : decode cX0_law 2 = .ok (.aload_n 0, 1) := dk_42 (dk_at dksX0_law_0 2 rfl rfl)
theorem dX0_law_3 : decode cX0_law 3 = .ok (.invokevirtual 17, 3) := dk_182 0 17 (dk_at dksX0_law_0 3 rfl rfl)
theorem dX0_law_6 : decode cX0_law 6 = .ok (.i2l, 1) := dk_133 (dk_at dksX0_law_0 6 rfl rfl)
theorem dX0_law_7 : decode cX0_law 7 = .ok (.lastore, 1) := dk_80 (dk_at dksX0_law_0 7 rfl rfl)
theorem dX0_law_8 : decode cX0_law 8 = .ok (.goto 6, 3) := dk_167 0 6 (dk_at dksX0_law_0 8 rfl rfl)
theorem dX0_law_11 : decode cX0_law 11 = .ok (.astore_n 2, 1) := dk_77 (dk_at dksX0_law_0 11 rfl rfl)
theorem dX0_law_12 : decode cX0_law 12 = .ok (.iconst 1, 1) := dk_4 (dk_at dksX0_law_0 12 rfl rfl)
theorem dX0_law_13 : decode cX0_law 13 = .ok (.ireturn, 1) := dk_172 (dk_at dksX0_law_0 13 rfl rfl)
theorem dX0_law_14 : decode cX0_law 14 = .ok (.iconst 0, 1) := dk_3 (dk_at dksX0_law_0 14 rfl rfl)
theorem dX0_law_15 : decode cX0_law 15 = .ok (.ireturn, 1) := dk_172 (dk_at dksX0_law_0 15 rfl rfl)
abbrev cX0_guest : ByteArray := method_5_code
def yX0_guest : MethodName := ⟨RX0, "guest", "(LSaturdayKeep;II[J)I"⟩
def dkwX0_guest_0 : List UInt8 := [45, 3, 42, 27, 28, 182, 0, 20, 133, 80, 167, 0, 11, 58, 4, 4, 172, 58, 4, 5, 172, 3, 172]
abbrev dktX0_guest_0 : List UInt8 := dkwX0_guest_0 ++ []
theorem dksX0_guest_0 : cX0_guest.data.toList.drop 0 = dktX0_guest_0 := by decide +kernel
theorem dX0_guest_0 : decode cX0_guest 0 = .ok (.aload_n 3, 1) := dk_45 (dk_at dksX0_guest_0 0 rfl rfl)
theorem dX0_guest_1 : decode cX0_guest 1 = .ok (.iconst 0, 1) := dk_3 (dk_at dksX0_guest_0 1 rfl rfl)
theorem dX0_guest_2 : decode cX0_guest 2 = .ok (.aload_n 0, 1) := dk_42 (dk_at dksX0_guest_0 2 rfl rfl)
theorem dX0_guest_3 : decode cX0_guest 3 = .ok (.iload_n 1, 1) := dk_27 (dk_at dksX0_guest_0 3 rfl rfl)
theorem dX0_guest_4 : decode cX0_guest 4 = .ok (.iload_n 2, 1) := dk_28 (dk_at dksX0_guest_0 4 rfl rfl)
theorem dX0_guest_5 : decode cX0_guest 5 = .ok (.invokevirtual 20, 3) := dk_182 0 20 (dk_at dksX0_guest_0 5 rfl rfl)
theorem dX0_guest_8 : decode cX0_guest 8 = .ok (.i2l, 1) := dk_133 (dk_at dksX0_guest_0 8 rfl rfl)
theorem dX0_guest_9 : decode cX0_guest 9 = .ok (.lastore, 1) := dk_80 (dk_at dksX0_guest_0 9 rfl rfl)
theorem dX0_guest_10 : decode cX0_guest 10 = .ok (.goto 11, 3) := dk_167 0 11 (dk_at dksX0_guest_0 10 rfl rfl)
theorem dX0_guest_13 : decode cX0_guest 13 = .ok (.astore 4, 2) := dk_58 4 (dk_at dksX0_guest_0 13 rfl rfl)
theorem dX0_guest_15 : decode cX0_guest 15 = .ok (.iconst 1, 1) := dk_4 (dk_at dksX0_guest_0 15 rfl rfl)
theorem dX0_guest_16 : decode cX0_guest 16 = .ok (.ireturn, 1) := dk_172 (dk_at dksX0_guest_0 16 rfl rfl)
theorem dX0_guest_17 : decode cX0_guest 17 = .ok (.astore 4, 2) := dk_58 4 (dk_at dksX0_guest_0 17 rfl rfl)
theorem dX0_guest_19 : decode cX0_guest 19 = .ok (.iconst 2, 1) := dk_5 (dk_at dksX0_guest_0 19 rfl rfl)
theorem dX0_guest_20 : decode cX0_guest 20 = .ok (.ireturn, 1) := dk_172 (dk_at dksX0_guest_0 20 rfl rfl)
theorem dX0_guest_21 : decode cX0_guest 21 = .ok (.iconst 0, 1) := dk_3 (dk_at dksX0_guest_0 21 rfl rfl)
theorem dX0_guest_22 : decode cX0_guest 22 = .ok (.ireturn, 1) := dk_172 (dk_at dksX0_guest_0 22 rfl rfl)
abbrev cX0_room : ByteArray := method_6_code
def yX0_room : MethodName := ⟨RX0, "room", "(LSaturdayKeep;II[J)I"⟩
def dkwX0_room_0 : List UInt8 := [45, 3, 42, 27, 28, 182, 0, 28, 133, 80, 167, 0, 11, 58, 4, 4, 172, 58, 4, 5, 172, 3, 172]
abbrev dktX0_room_0 : List UInt8 := dkwX0_room_0 ++ []
theorem dksX0_room_0 : cX0_room.data.toList.drop 0 = dktX0_room_0 := by decide +kernel
theorem dX0_room_0 : decode cX0_room 0 = .ok (.aload_n 3, 1) := dk_45 (dk_at dksX0_room_0 0 rfl rfl)
theorem dX0_room_1 : decode cX0_room 1 = .ok (.iconst 0, 1) := dk_3 (dk_at dksX0_room_0 1 rfl rfl)
theorem dX0_room_2 : decode cX0_room 2 = .ok (.aload_n 0, 1) := dk_42 (dk_at dksX0_room_0 2 rfl rfl)
theorem dX0_room_3 : decode cX0_room 3 = .ok (.iload_n 1, 1) := dk_27 (dk_at dksX0_room_0 3 rfl rfl)
theorem dX0_room_4 : decode cX0_room 4 = .ok (.iload_n 2, 1) := dk_28 (dk_at dksX0_room_0 4 rfl rfl)
theorem dX0_room_5 : decode cX0_room 5 = .ok (.invokevirtual 28, 3) := dk_182 0 28 (dk_at dksX0_room_0 5 rfl rfl)
theorem dX0_room_8 : decode cX0_room 8 = .ok (.i2l, 1) := dk_133 (dk_at dksX0_room_0 8 rfl rfl)
theorem dX0_room_9 : decode cX0_room 9 = .ok (.lastore, 1) := dk_80 (dk_at dksX0_room_0 9 rfl rfl)
theorem dX0_room_10 : decode cX0_room 10 = .ok (.goto 11, 3) := dk_167 0 11 (dk_at dksX0_room_0 10 rfl rfl)
theorem dX0_room_13 : decode cX0_room 13 = .ok (.astore 4, 2) := dk_58 4 (dk_at dksX0_room_0 13 rfl rfl)
theorem dX0_room_15 : decode cX0_room 15 = .ok (.iconst 1, 1) := dk_4 (dk_at dksX0_room_0 15 rfl rfl)
theorem dX0_room_16 : decode cX0_room 16 = .ok (.ireturn, 1) := dk_172 (dk_at dksX0_room_0 16 rfl rfl)
theorem dX0_room_17 : decode cX0_room 17 = .ok (.astore 4, 2) := dk_58 4 (dk_at dksX0_room_0 17 rfl rfl)
theorem dX0_room_19 : decode cX0_room 19 = .ok (.iconst 2, 1) := dk_5 (dk_at dksX0_room_0 19 rfl rfl)
theorem dX0_room_20 : decode cX0_room 20 = .ok (.ireturn, 1) := dk_172 (dk_at dksX0_room_0 20 rfl rfl)
theorem dX0_room_21 : decode cX0_room 21 = .ok (.iconst 0, 1) := dk_3 (dk_at dksX0_room_0 21 rfl rfl)
theorem dX0_room_22 : decode cX0_room 22 = .ok (.ireturn, 1) := dk_172 (dk_at dksX0_room_0 22 rfl rfl)
abbrev cX0_calendar : ByteArray := method_7_code
def yX0_calendar : MethodName := ⟨RX0, "calendar", "(LSaturdayKeep;IZ[J)I"⟩
def dkwX0_calendar_0 : List UInt8 := [45, 3, 42, 27, 28, 182, 0, 31, 133, 80, 167, 0, 7, 58, 4, 4, 172, 3, 172]
abbrev dktX0_calendar_0 : List UInt8 := dkwX0_calendar_0 ++ []
theorem dksX0_calendar_0 : cX0_calendar.data.toList.drop 0 = dktX0_calendar_0 := by decide +kernel
theorem dX0_calendar_0 : decode cX0_calendar 0 = .ok (.aload_n 3, 1) := dk_45 (dk_at dksX0_calendar_0 0 rfl rfl)
theorem dX0_calendar_1 : decode cX0_calendar 1 = .ok (.iconst 0, 1) := dk_3 (dk_at dksX0_calendar_0 1 rfl rfl)
theorem dX0_calendar_2 : decode cX0_calendar 2 = .ok (.aload_n 0, 1) := dk_42 (dk_at dksX0_calendar_0 2 rfl rfl)
theorem dX0_calendar_3 : decode cX0_calendar 3 = .ok (.iload_n 1, 1) := dk_27 (dk_at dksX0_calendar_0 3 rfl rfl)
theorem dX0_calendar_4 : decode cX0_calendar 4 = .ok (.iload_n 2, 1) := dk_28 (dk_at dksX0_calendar_0 4 rfl rfl)
theorem dX0_calendar_5 : decode cX0_calendar 5 = .ok (.invokevirtual 31, 3) := dk_182 0 31 (dk_at dksX0_calendar_0 5 rfl rfl)
theorem dX0_calendar_8 : decode cX0_calendar 8 = .ok (.i2l, 1) := dk_133 (dk_at dksX0_calendar_0 8 rfl rfl)
theorem dX0_calendar_9 : decode cX0_calendar 9 = .ok (.lastore, 1) := dk_80 (dk_at dksX0_calendar_0 9 rfl rfl)
theorem dX0_calendar_10 : decode cX0_calendar 10 = .ok (.goto 7, 3) := dk_167 0 7 (dk_at dksX0_calendar_0 10 rfl rfl)
theorem dX0_calendar_13 : decode cX0_calendar 13 = .ok (.astore 4, 2) := dk_58 4 (dk_at dksX0_calendar_0 13 rfl rfl)
theorem dX0_calendar_15 : decode cX0_calendar 15 = .ok (.iconst 1, 1) := dk_4 (dk_at dksX0_calendar_0 15 rfl rfl)
theorem dX0_calendar_16 : decode cX0_calendar 16 = .ok (.ireturn, 1) := dk_172 (dk_at dksX0_calendar_0 16 rfl rfl)
theorem dX0_calendar_17 : decode cX0_calendar 17 = .ok (.iconst 0, 1) := dk_3 (dk_at dksX0_calendar_0 17 rfl rfl)
theorem dX0_calendar_18 : decode cX0_calendar 18 = .ok (.ireturn, 1) := dk_172 (dk_at dksX0_calendar_0 18 rfl rfl)
abbrev cX0_saturday : ByteArray := method_8_code
def yX0_saturday : MethodName := ⟨RX0, "saturday", "(LSaturdayKeep;II[J)I"⟩
def dkwX0_saturday_1 : List UInt8 := [58, 4, 5, 172, 3, 172]
abbrev dktX0_saturday_1 : List UInt8 := dkwX0_saturday_1 ++ []
def dkwX0_saturday_0 : List UInt8 := [45, 3, 42, 27, 28, 182, 0, 35, 153, 0, 7, 10, 167, 0, 4, 9, 80, 167, 0, 11, 58, 4, 4, 172]
abbrev dktX0_saturday_0 : List UInt8 := dkwX0_saturday_0 ++ dktX0_saturday_1
theorem dksX0_saturday_0 : cX0_saturday.data.toList.drop 0 = dktX0_saturday_0 := by decide +kernel
theorem dksX0_saturday_1 : cX0_saturday.data.toList.drop 24 = dktX0_saturday_1 := dk_seg dksX0_saturday_0 24 rfl rfl
theorem dX0_saturday_0 : decode cX0_saturday 0 = .ok (.aload_n 3, 1) := dk_45 (dk_at dksX0_saturday_0 0 rfl rfl)
theorem dX0_saturday_1 : decode cX0_saturday 1 = .ok (.iconst 0, 1) := dk_3 (dk_at dksX0_saturday_0 1 rfl rfl)
theorem dX0_saturday_2 : decode cX0_saturday 2 = .ok (.aload_n 0, 1) := dk_42 (dk_at dksX0_saturday_0 2 rfl rfl)
theorem dX0_saturday_3 : decode cX0_saturday 3 = .ok (.iload_n 1, 1) := dk_27 (dk_at dksX0_saturday_0 3 rfl rfl)
theorem dX0_saturday_4 : decode cX0_saturday 4 = .ok (.iload_n 2, 1) := dk_28 (dk_at dksX0_saturday_0 4 rfl rfl)
theorem dX0_saturday_5 : decode cX0_saturday 5 = .ok (.invokevirtual 35, 3) := dk_182 0 35 (dk_at dksX0_saturday_0 5 rfl rfl)
theorem dX0_saturday_8 : decode cX0_saturday 8 = .ok (.ifCond .eq 7, 3) := dk_153 0 7 (dk_at dksX0_saturday_0 8 rfl rfl)
theorem dX0_saturday_11 : decode cX0_saturday 11 = .ok (.lconst 1, 1) := dk_10 (dk_at dksX0_saturday_0 11 rfl rfl)
theorem dX0_saturday_12 : decode cX0_saturday 12 = .ok (.goto 4, 3) := dk_167 0 4 (dk_at dksX0_saturday_0 12 rfl rfl)
theorem dX0_saturday_15 : decode cX0_saturday 15 = .ok (.lconst 0, 1) := dk_9 (dk_at dksX0_saturday_0 15 rfl rfl)
theorem dX0_saturday_16 : decode cX0_saturday 16 = .ok (.lastore, 1) := dk_80 (dk_at dksX0_saturday_0 16 rfl rfl)
theorem dX0_saturday_17 : decode cX0_saturday 17 = .ok (.goto 11, 3) := dk_167 0 11 (dk_at dksX0_saturday_0 17 rfl rfl)
theorem dX0_saturday_20 : decode cX0_saturday 20 = .ok (.astore 4, 2) := dk_58 4 (dk_at dksX0_saturday_0 20 rfl rfl)
theorem dX0_saturday_22 : decode cX0_saturday 22 = .ok (.iconst 1, 1) := dk_4 (dk_at dksX0_saturday_0 22 rfl rfl)
theorem dX0_saturday_23 : decode cX0_saturday 23 = .ok (.ireturn, 1) := dk_172 (dk_at dksX0_saturday_0 23 rfl rfl)
theorem dX0_saturday_24 : decode cX0_saturday 24 = .ok (.astore 4, 2) := dk_58 4 (dk_at dksX0_saturday_1 0 rfl rfl)
theorem dX0_saturday_26 : decode cX0_saturday 26 = .ok (.iconst 2, 1) := dk_5 (dk_at dksX0_saturday_1 2 rfl rfl)
theorem dX0_saturday_27 : decode cX0_saturday 27 = .ok (.ireturn, 1) := dk_172 (dk_at dksX0_saturday_1 3 rfl rfl)
theorem dX0_saturday_28 : decode cX0_saturday 28 = .ok (.iconst 0, 1) := dk_3 (dk_at dksX0_saturday_1 4 rfl rfl)
theorem dX0_saturday_29 : decode cX0_saturday 29 = .ok (.ireturn, 1) := dk_172 (dk_at dksX0_saturday_1 5 rfl rfl)
abbrev cX0_go : ByteArray := method_9_code
def yX0_go : MethodName := ⟨RX0, "go", "(LSaturdayKeep;II[J)I"⟩
def dkwX0_go_0 : List UInt8 := [45, 3, 42, 27, 28, 182, 0, 39, 133, 80, 167, 0, 7, 58, 4, 4, 172, 3, 172]
abbrev dktX0_go_0 : List UInt8 := dkwX0_go_0 ++ []
theorem dksX0_go_0 : cX0_go.data.toList.drop 0 = dktX0_go_0 := by decide +kernel
theorem dX0_go_0 : decode cX0_go 0 = .ok (.aload_n 3, 1) := dk_45 (dk_at dksX0_go_0 0 rfl rfl)
theorem dX0_go_1 : decode cX0_go 1 = .ok (.iconst 0, 1) := dk_3 (dk_at dksX0_go_0 1 rfl rfl)
theorem dX0_go_2 : decode cX0_go 2 = .ok (.aload_n 0, 1) := dk_42 (dk_at dksX0_go_0 2 rfl rfl)
theorem dX0_go_3 : decode cX0_go 3 = .ok (.iload_n 1, 1) := dk_27 (dk_at dksX0_go_0 3 rfl rfl)
theorem dX0_go_4 : decode cX0_go 4 = .ok (.iload_n 2, 1) := dk_28 (dk_at dksX0_go_0 4 rfl rfl)
theorem dX0_go_5 : decode cX0_go 5 = .ok (.invokevirtual 39, 3) := dk_182 0 39 (dk_at dksX0_go_0 5 rfl rfl)
theorem dX0_go_8 : decode cX0_go 8 = .ok (.i2l, 1) := dk_133 (dk_at dksX0_go_0 8 rfl rfl)
theorem dX0_go_9 : decode cX0_go 9 = .ok (.lastore, 1) := dk_80 (dk_at dksX0_go_0 9 rfl rfl)
theorem dX0_go_10 : decode cX0_go 10 = .ok (.goto 7, 3) := dk_167 0 7 (dk_at dksX0_go_0 10 rfl rfl)
theorem dX0_go_13 : decode cX0_go 13 = .ok (.astore 4, 2) := dk_58 4 (dk_at dksX0_go_0 13 rfl rfl)
theorem dX0_go_15 : decode cX0_go 15 = .ok (.iconst 1, 1) := dk_4 (dk_at dksX0_go_0 15 rfl rfl)
theorem dX0_go_16 : decode cX0_go 16 = .ok (.ireturn, 1) := dk_172 (dk_at dksX0_go_0 16 rfl rfl)
theorem dX0_go_17 : decode cX0_go 17 = .ok (.iconst 0, 1) := dk_3 (dk_at dksX0_go_0 17 rfl rfl)
theorem dX0_go_18 : decode cX0_go 18 = .ok (.ireturn, 1) := dk_172 (dk_at dksX0_go_0 18 rfl rfl)
abbrev cX0_come : ByteArray := method_10_code
def yX0_come : MethodName := ⟨RX0, "come", "(LSaturdayKeep;IZ[J)I"⟩
def dkwX0_come_1 : List UInt8 := [3, 172]
abbrev dktX0_come_1 : List UInt8 := dkwX0_come_1 ++ []
def dkwX0_come_0 : List UInt8 := [45, 3, 42, 27, 28, 182, 0, 42, 153, 0, 7, 10, 167, 0, 4, 9, 80, 167, 0, 7, 58, 4, 4, 172]
abbrev dktX0_come_0 : List UInt8 := dkwX0_come_0 ++ dktX0_come_1
theorem dksX0_come_0 : cX0_come.data.toList.drop 0 = dktX0_come_0 := by decide +kernel
theorem dksX0_come_1 : cX0_come.data.toList.drop 24 = dktX0_come_1 := dk_seg dksX0_come_0 24 rfl rfl
theorem dX0_come_0 : decode cX0_come 0 = .ok (.aload_n 3, 1) := dk_45 (dk_at dksX0_come_0 0 rfl rfl)
theorem dX0_come_1 : decode cX0_come 1 = .ok (.iconst 0, 1) := dk_3 (dk_at dksX0_come_0 1 rfl rfl)
theorem dX0_come_2 : decode cX0_come 2 = .ok (.aload_n 0, 1) := dk_42 (dk_at dksX0_come_0 2 rfl rfl)
theorem dX0_come_3 : decode cX0_come 3 = .ok (.iload_n 1, 1) := dk_27 (dk_at dksX0_come_0 3 rfl rfl)
theorem dX0_come_4 : decode cX0_come 4 = .ok (.iload_n 2, 1) := dk_28 (dk_at dksX0_come_0 4 rfl rfl)
theorem dX0_come_5 : decode cX0_come 5 = .ok (.invokevirtual 42, 3) := dk_182 0 42 (dk_at dksX0_come_0 5 rfl rfl)
theorem dX0_come_8 : decode cX0_come 8 = .ok (.ifCond .eq 7, 3) := dk_153 0 7 (dk_at dksX0_come_0 8 rfl rfl)
theorem dX0_come_11 : decode cX0_come 11 = .ok (.lconst 1, 1) := dk_10 (dk_at dksX0_come_0 11 rfl rfl)
theorem dX0_come_12 : decode cX0_come 12 = .ok (.goto 4, 3) := dk_167 0 4 (dk_at dksX0_come_0 12 rfl rfl)
theorem dX0_come_15 : decode cX0_come 15 = .ok (.lconst 0, 1) := dk_9 (dk_at dksX0_come_0 15 rfl rfl)
theorem dX0_come_16 : decode cX0_come 16 = .ok (.lastore, 1) := dk_80 (dk_at dksX0_come_0 16 rfl rfl)
theorem dX0_come_17 : decode cX0_come 17 = .ok (.goto 7, 3) := dk_167 0 7 (dk_at dksX0_come_0 17 rfl rfl)
theorem dX0_come_20 : decode cX0_come 20 = .ok (.astore 4, 2) := dk_58 4 (dk_at dksX0_come_0 20 rfl rfl)
theorem dX0_come_22 : decode cX0_come 22 = .ok (.iconst 1, 1) := dk_4 (dk_at dksX0_come_0 22 rfl rfl)
theorem dX0_come_23 : decode cX0_come 23 = .ok (.ireturn, 1) := dk_172 (dk_at dksX0_come_0 23 rfl rfl)
theorem dX0_come_24 : decode cX0_come 24 = .ok (.iconst 0, 1) := dk_3 (dk_at dksX0_come_1 0 rfl rfl)
theorem dX0_come_25 : decode cX0_come 25 = .ok (.ireturn, 1) := dk_172 (dk_at dksX0_come_1 1 rfl rfl)
abbrev cX0_key : ByteArray := method_11_code
def yX0_key : MethodName := ⟨RX0, "key", "(LSaturdayKeep;IZ[J)I"⟩
def dkwX0_key_1 : List UInt8 := [3, 172]
abbrev dktX0_key_1 : List UInt8 := dkwX0_key_1 ++ []
def dkwX0_key_0 : List UInt8 := [45, 3, 42, 27, 28, 182, 0, 46, 153, 0, 7, 10, 167, 0, 4, 9, 80, 167, 0, 7, 58, 4, 4, 172]
abbrev dktX0_key_0 : List UInt8 := dkwX0_key_0 ++ dktX0_key_1
theorem dksX0_key_0 : cX0_key.data.toList.drop 0 = dktX0_key_0 := by decide +kernel
theorem dksX0_key_1 : cX0_key.data.toList.drop 24 = dktX0_key_1 := dk_seg dksX0_key_0 24 rfl rfl
theorem dX0_key_0 : decode cX0_key 0 = .ok (.aload_n 3, 1) := dk_45 (dk_at dksX0_key_0 0 rfl rfl)
theorem dX0_key_1 : decode cX0_key 1 = .ok (.iconst 0, 1) := dk_3 (dk_at dksX0_key_0 1 rfl rfl)
theorem dX0_key_2 : decode cX0_key 2 = .ok (.aload_n 0, 1) := dk_42 (dk_at dksX0_key_0 2 rfl rfl)
theorem dX0_key_3 : decode cX0_key 3 = .ok (.iload_n 1, 1) := dk_27 (dk_at dksX0_key_0 3 rfl rfl)
theorem dX0_key_4 : decode cX0_key 4 = .ok (.iload_n 2, 1) := dk_28 (dk_at dksX0_key_0 4 rfl rfl)
theorem dX0_key_5 : decode cX0_key 5 = .ok (.invokevirtual 46, 3) := dk_182 0 46 (dk_at dksX0_key_0 5 rfl rfl)
theorem dX0_key_8 : decode cX0_key 8 = .ok (.ifCond .eq 7, 3) := dk_153 0 7 (dk_at dksX0_key_0 8 rfl rfl)
theorem dX0_key_11 : decode cX0_key 11 = .ok (.lconst 1, 1) := dk_10 (dk_at dksX0_key_0 11 rfl rfl)
theorem dX0_key_12 : decode cX0_key 12 = .ok (.goto 4, 3) := dk_167 0 4 (dk_at dksX0_key_0 12 rfl rfl)
theorem dX0_key_15 : decode cX0_key 15 = .ok (.lconst 0, 1) := dk_9 (dk_at dksX0_key_0 15 rfl rfl)
theorem dX0_key_16 : decode cX0_key 16 = .ok (.lastore, 1) := dk_80 (dk_at dksX0_key_0 16 rfl rfl)
theorem dX0_key_17 : decode cX0_key 17 = .ok (.goto 7, 3) := dk_167 0 7 (dk_at dksX0_key_0 17 rfl rfl)
theorem dX0_key_20 : decode cX0_key 20 = .ok (.astore 4, 2) := dk_58 4 (dk_at dksX0_key_0 20 rfl rfl)
theorem dX0_key_22 : decode cX0_key 22 = .ok (.iconst 1, 1) := dk_4 (dk_at dksX0_key_0 22 rfl rfl)
theorem dX0_key_23 : decode cX0_key 23 = .ok (.ireturn, 1) := dk_172 (dk_at dksX0_key_0 23 rfl rfl)
theorem dX0_key_24 : decode cX0_key 24 = .ok (.iconst 0, 1) := dk_3 (dk_at dksX0_key_1 0 rfl rfl)
theorem dX0_key_25 : decode cX0_key 25 = .ok (.ireturn, 1) := dk_172 (dk_at dksX0_key_1 1 rfl rfl)
abbrev cX0_hole : ByteArray := method_12_code
def yX0_hole : MethodName := ⟨RX0, "hole", "(LSaturdayKeep;IIZ[J)I"⟩
def dkwX0_hole_1 : List UInt8 := [4, 172, 58, 5, 5, 172, 3, 172]
abbrev dktX0_hole_1 : List UInt8 := dkwX0_hole_1 ++ []
def dkwX0_hole_0 : List UInt8 := [25, 4, 3, 42, 27, 28, 29, 182, 0, 49, 153, 0, 7, 10, 167, 0, 4, 9, 80, 167, 0, 11, 58, 5]
abbrev dktX0_hole_0 : List UInt8 := dkwX0_hole_0 ++ dktX0_hole_1
theorem dksX0_hole_0 : cX0_hole.data.toList.drop 0 = dktX0_hole_0 := by decide +kernel
theorem dksX0_hole_1 : cX0_hole.data.toList.drop 24 = dktX0_hole_1 := dk_seg dksX0_hole_0 24 rfl rfl
theorem dX0_hole_0 : decode cX0_hole 0 = .ok (.aload 4, 2) := dk_25 4 (dk_at dksX0_hole_0 0 rfl rfl)
theorem dX0_hole_2 : decode cX0_hole 2 = .ok (.iconst 0, 1) := dk_3 (dk_at dksX0_hole_0 2 rfl rfl)
theorem dX0_hole_3 : decode cX0_hole 3 = .ok (.aload_n 0, 1) := dk_42 (dk_at dksX0_hole_0 3 rfl rfl)
theorem dX0_hole_4 : decode cX0_hole 4 = .ok (.iload_n 1, 1) := dk_27 (dk_at dksX0_hole_0 4 rfl rfl)
theorem dX0_hole_5 : decode cX0_hole 5 = .ok (.iload_n 2, 1) := dk_28 (dk_at dksX0_hole_0 5 rfl rfl)
theorem dX0_hole_6 : decode cX0_hole 6 = .ok (.iload_n 3, 1) := dk_29 (dk_at dksX0_hole_0 6 rfl rfl)
theorem dX0_hole_7 : decode cX0_hole 7 = .ok (.invokevirtual 49, 3) := dk_182 0 49 (dk_at dksX0_hole_0 7 rfl rfl)
theorem dX0_hole_10 : decode cX0_hole 10 = .ok (.ifCond .eq 7, 3) := dk_153 0 7 (dk_at dksX0_hole_0 10 rfl rfl)
theorem dX0_hole_13 : decode cX0_hole 13 = .ok (.lconst 1, 1) := dk_10 (dk_at dksX0_hole_0 13 rfl rfl)
theorem dX0_hole_14 : decode cX0_hole 14 = .ok (.goto 4, 3) := dk_167 0 4 (dk_at dksX0_hole_0 14 rfl rfl)
theorem dX0_hole_17 : decode cX0_hole 17 = .ok (.lconst 0, 1) := dk_9 (dk_at dksX0_hole_0 17 rfl rfl)
theorem dX0_hole_18 : decode cX0_hole 18 = .ok (.lastore, 1) := dk_80 (dk_at dksX0_hole_0 18 rfl rfl)
theorem dX0_hole_19 : decode cX0_hole 19 = .ok (.goto 11, 3) := dk_167 0 11 (dk_at dksX0_hole_0 19 rfl rfl)
theorem dX0_hole_22 : decode cX0_hole 22 = .ok (.astore 5, 2) := dk_58 5 (dk_at dksX0_hole_0 22 rfl rfl)
theorem dX0_hole_24 : decode cX0_hole 24 = .ok (.iconst 1, 1) := dk_4 (dk_at dksX0_hole_1 0 rfl rfl)
theorem dX0_hole_25 : decode cX0_hole 25 = .ok (.ireturn, 1) := dk_172 (dk_at dksX0_hole_1 1 rfl rfl)
theorem dX0_hole_26 : decode cX0_hole 26 = .ok (.astore 5, 2) := dk_58 5 (dk_at dksX0_hole_1 2 rfl rfl)
theorem dX0_hole_28 : decode cX0_hole 28 = .ok (.iconst 2, 1) := dk_5 (dk_at dksX0_hole_1 4 rfl rfl)
theorem dX0_hole_29 : decode cX0_hole 29 = .ok (.ireturn, 1) := dk_172 (dk_at dksX0_hole_1 5 rfl rfl)
theorem dX0_hole_30 : decode cX0_hole 30 = .ok (.iconst 0, 1) := dk_3 (dk_at dksX0_hole_1 6 rfl rfl)
theorem dX0_hole_31 : decode cX0_hole 31 = .ok (.ireturn, 1) := dk_172 (dk_at dksX0_hole_1 7 rfl rfl)
abbrev cX0_bath : ByteArray := method_13_code
def yX0_bath : MethodName := ⟨RX0, "bath", "(LSaturdayKeep;I[J)I"⟩
def dkwX0_bath_0 : List UInt8 := [44, 3, 42, 27, 182, 0, 53, 133, 80, 167, 0, 6, 78, 4, 172, 3, 172]
abbrev dktX0_bath_0 : List UInt8 := dkwX0_bath_0 ++ []
theorem dksX0_bath_0 : cX0_bath.data.toList.drop 0 = dktX0_bath_0 := by decide +kernel
theorem dX0_bath_0 : decode cX0_bath 0 = .ok (.aload_n 2, 1) := dk_44 (dk_at dksX0_bath_0 0 rfl rfl)
theorem dX0_bath_1 : decode cX0_bath 1 = .ok (.iconst 0, 1) := dk_3 (dk_at dksX0_bath_0 1 rfl rfl)
theorem dX0_bath_2 : decode cX0_bath 2 = .ok (.aload_n 0, 1) := dk_42 (dk_at dksX0_bath_0 2 rfl rfl)
theorem dX0_bath_3 : decode cX0_bath 3 = .ok (.iload_n 1, 1) := dk_27 (dk_at dksX0_bath_0 3 rfl rfl)
theorem dX0_bath_4 : decode cX0_bath 4 = .ok (.invokevirtual 53, 3) := dk_182 0 53 (dk_at dksX0_bath_0 4 rfl rfl)
theorem dX0_bath_7 : decode cX0_bath 7 = .ok (.i2l, 1) := dk_133 (dk_at dksX0_bath_0 7 rfl rfl)
theorem dX0_bath_8 : decode cX0_bath 8 = .ok (.lastore, 1) := dk_80 (dk_at dksX0_bath_0 8 rfl rfl)
theorem dX0_bath_9 : decode cX0_bath 9 = .ok (.goto 6, 3) := dk_167 0 6 (dk_at dksX0_bath_0 9 rfl rfl)
theorem dX0_bath_12 : decode cX0_bath 12 = .ok (.astore_n 3, 1) := dk_78 (dk_at dksX0_bath_0 12 rfl rfl)
theorem dX0_bath_13 : decode cX0_bath 13 = .ok (.iconst 1, 1) := dk_4 (dk_at dksX0_bath_0 13 rfl rfl)
theorem dX0_bath_14 : decode cX0_bath 14 = .ok (.ireturn, 1) := dk_172 (dk_at dksX0_bath_0 14 rfl rfl)
theorem dX0_bath_15 : decode cX0_bath 15 = .ok (.iconst 0, 1) := dk_3 (dk_at dksX0_bath_0 15 rfl rfl)
theorem dX0_bath_16 : decode cX0_bath 16 = .ok (.ireturn, 1) := dk_172 (dk_at dksX0_bath_0 16 rfl rfl)
abbrev cX0_keep : ByteArray := method_14_code
def yX0_keep : MethodName := ⟨RX0, "keep", "(LSaturdayKeep;I[J)I"⟩
def dkwX0_keep_0 : List UInt8 := [44, 3, 42, 27, 182, 0, 57, 133, 80, 167, 0, 6, 78, 4, 172, 3, 172]
abbrev dktX0_keep_0 : List UInt8 := dkwX0_keep_0 ++ []
theorem dksX0_keep_0 : cX0_keep.data.toList.drop 0 = dktX0_keep_0 := by decide +kernel
theorem dX0_keep_0 : decode cX0_keep 0 = .ok (.aload_n 2, 1) := dk_44 (dk_at dksX0_keep_0 0 rfl rfl)
theorem dX0_keep_1 : decode cX0_keep 1 = .ok (.iconst 0, 1) := dk_3 (dk_at dksX0_keep_0 1 rfl rfl)
theorem dX0_keep_2 : decode cX0_keep 2 = .ok (.aload_n 0, 1) := dk_42 (dk_at dksX0_keep_0 2 rfl rfl)
theorem dX0_keep_3 : decode cX0_keep 3 = .ok (.iload_n 1, 1) := dk_27 (dk_at dksX0_keep_0 3 rfl rfl)
theorem dX0_keep_4 : decode cX0_keep 4 = .ok (.invokevirtual 57, 3) := dk_182 0 57 (dk_at dksX0_keep_0 4 rfl rfl)
theorem dX0_keep_7 : decode cX0_keep 7 = .ok (.i2l, 1) := dk_133 (dk_at dksX0_keep_0 7 rfl rfl)
theorem dX0_keep_8 : decode cX0_keep 8 = .ok (.lastore, 1) := dk_80 (dk_at dksX0_keep_0 8 rfl rfl)
theorem dX0_keep_9 : decode cX0_keep 9 = .ok (.goto 6, 3) := dk_167 0 6 (dk_at dksX0_keep_0 9 rfl rfl)
theorem dX0_keep_12 : decode cX0_keep 12 = .ok (.astore_n 3, 1) := dk_78 (dk_at dksX0_keep_0 12 rfl rfl)
theorem dX0_keep_13 : decode cX0_keep 13 = .ok (.iconst 1, 1) := dk_4 (dk_at dksX0_keep_0 13 rfl rfl)
theorem dX0_keep_14 : decode cX0_keep 14 = .ok (.ireturn, 1) := dk_172 (dk_at dksX0_keep_0 14 rfl rfl)
theorem dX0_keep_15 : decode cX0_keep 15 = .ok (.iconst 0, 1) := dk_3 (dk_at dksX0_keep_0 15 rfl rfl)
theorem dX0_keep_16 : decode cX0_keep 16 = .ok (.ireturn, 1) := dk_172 (dk_at dksX0_keep_0 16 rfl rfl)
abbrev cX0_masons : ByteArray := method_15_code
def yX0_masons : MethodName := ⟨RX0, "masons", "(LSaturdayKeep;I[J)I"⟩
def dkwX0_masons_0 : List UInt8 := [44, 3, 42, 27, 182, 0, 60, 133, 80, 167, 0, 6, 78, 4, 172, 3, 172]
abbrev dktX0_masons_0 : List UInt8 := dkwX0_masons_0 ++ []
theorem dksX0_masons_0 : cX0_masons.data.toList.drop 0 = dktX0_masons_0 := by decide +kernel
theorem dX0_masons_0 : decode cX0_masons 0 = .ok (.aload_n 2, 1) := dk_44 (dk_at dksX0_masons_0 0 rfl rfl)
theorem dX0_masons_1 : decode cX0_masons 1 = .ok (.iconst 0, 1) := dk_3 (dk_at dksX0_masons_0 1 rfl rfl)
theorem dX0_masons_2 : decode cX0_masons 2 = .ok (.aload_n 0, 1) := dk_42 (dk_at dksX0_masons_0 2 rfl rfl)
theorem dX0_masons_3 : decode cX0_masons 3 = .ok (.iload_n 1, 1) := dk_27 (dk_at dksX0_masons_0 3 rfl rfl)
theorem dX0_masons_4 : decode cX0_masons 4 = .ok (.invokevirtual 60, 3) := dk_182 0 60 (dk_at dksX0_masons_0 4 rfl rfl)
theorem dX0_masons_7 : decode cX0_masons 7 = .ok (.i2l, 1) := dk_133 (dk_at dksX0_masons_0 7 rfl rfl)
theorem dX0_masons_8 : decode cX0_masons 8 = .ok (.lastore, 1) := dk_80 (dk_at dksX0_masons_0 8 rfl rfl)
theorem dX0_masons_9 : decode cX0_masons 9 = .ok (.goto 6, 3) := dk_167 0 6 (dk_at dksX0_masons_0 9 rfl rfl)
theorem dX0_masons_12 : decode cX0_masons 12 = .ok (.astore_n 3, 1) := dk_78 (dk_at dksX0_masons_0 12 rfl rfl)
theorem dX0_masons_13 : decode cX0_masons 13 = .ok (.iconst 1, 1) := dk_4 (dk_at dksX0_masons_0 13 rfl rfl)
theorem dX0_masons_14 : decode cX0_masons 14 = .ok (.ireturn, 1) := dk_172 (dk_at dksX0_masons_0 14 rfl rfl)
theorem dX0_masons_15 : decode cX0_masons 15 = .ok (.iconst 0, 1) := dk_3 (dk_at dksX0_masons_0 15 rfl rfl)
theorem dX0_masons_16 : decode cX0_masons 16 = .ok (.ireturn, 1) := dk_172 (dk_at dksX0_masons_0 16 rfl rfl)
abbrev cX0_buy : ByteArray := method_16_code
def yX0_buy : MethodName := ⟨RX0, "buy", "(LSaturdayKeep;I[J)I"⟩
def dkwX0_buy_0 : List UInt8 := [44, 3, 42, 27, 182, 0, 63, 133, 80, 167, 0, 6, 78, 4, 172, 3, 172]
abbrev dktX0_buy_0 : List UInt8 := dkwX0_buy_0 ++ []
theorem dksX0_buy_0 : cX0_buy.data.toList.drop 0 = dktX0_buy_0 := by decide +kernel
theorem dX0_buy_0 : decode cX0_buy 0 = .ok (.aload_n 2, 1) := dk_44 (dk_at dksX0_buy_0 0 rfl rfl)
theorem dX0_buy_1 : decode cX0_buy 1 = .ok (.iconst 0, 1) := dk_3 (dk_at dksX0_buy_0 1 rfl rfl)
theorem dX0_buy_2 : decode cX0_buy 2 = .ok (.aload_n 0, 1) := dk_42 (dk_at dksX0_buy_0 2 rfl rfl)
theorem dX0_buy_3 : decode cX0_buy 3 = .ok (.iload_n 1, 1) := dk_27 (dk_at dksX0_buy_0 3 rfl rfl)
theorem dX0_buy_4 : decode cX0_buy 4 = .ok (.invokevirtual 63, 3) := dk_182 0 63 (dk_at dksX0_buy_0 4 rfl rfl)
theorem dX0_buy_7 : decode cX0_buy 7 = .ok (.i2l, 1) := dk_133 (dk_at dksX0_buy_0 7 rfl rfl)
theorem dX0_buy_8 : decode cX0_buy 8 = .ok (.lastore, 1) := dk_80 (dk_at dksX0_buy_0 8 rfl rfl)
theorem dX0_buy_9 : decode cX0_buy 9 = .ok (.goto 6, 3) := dk_167 0 6 (dk_at dksX0_buy_0 9 rfl rfl)
theorem dX0_buy_12 : decode cX0_buy 12 = .ok (.astore_n 3, 1) := dk_78 (dk_at dksX0_buy_0 12 rfl rfl)
theorem dX0_buy_13 : decode cX0_buy 13 = .ok (.iconst 1, 1) := dk_4 (dk_at dksX0_buy_0 13 rfl rfl)
theorem dX0_buy_14 : decode cX0_buy 14 = .ok (.ireturn, 1) := dk_172 (dk_at dksX0_buy_0 14 rfl rfl)
theorem dX0_buy_15 : decode cX0_buy 15 = .ok (.iconst 0, 1) := dk_3 (dk_at dksX0_buy_0 15 rfl rfl)
theorem dX0_buy_16 : decode cX0_buy 16 = .ok (.ireturn, 1) := dk_172 (dk_at dksX0_buy_0 16 rfl rfl)
abbrev cX0_calm : ByteArray := method_17_code
def yX0_calm : MethodName := ⟨RX0, "calm", "(LSaturdayKeep;I[J)I"⟩
def dkwX0_calm_0 : List UInt8 := [44, 3, 42, 27, 182, 0, 66, 133, 80, 167, 0, 6, 78, 4, 172, 3, 172]
abbrev dktX0_calm_0 : List UInt8 := dkwX0_calm_0 ++ []
theorem dksX0_calm_0 : cX0_calm.data.toList.drop 0 = dktX0_calm_0 := by decide +kernel
theorem dX0_calm_0 : decode cX0_calm 0 = .ok (.aload_n 2, 1) := dk_44 (dk_at dksX0_calm_0 0 rfl rfl)
theorem dX0_calm_1 : decode cX0_calm 1 = .ok (.iconst 0, 1) := dk_3 (dk_at dksX0_calm_0 1 rfl rfl)
theorem dX0_calm_2 : decode cX0_calm 2 = .ok (.aload_n 0, 1) := dk_42 (dk_at dksX0_calm_0 2 rfl rfl)
theorem dX0_calm_3 : decode cX0_calm 3 = .ok (.iload_n 1, 1) := dk_27 (dk_at dksX0_calm_0 3 rfl rfl)
theorem dX0_calm_4 : decode cX0_calm 4 = .ok (.invokevirtual 66, 3) := dk_182 0 66 (dk_at dksX0_calm_0 4 rfl rfl)
theorem dX0_calm_7 : decode cX0_calm 7 = .ok (.i2l, 1) := dk_133 (dk_at dksX0_calm_0 7 rfl rfl)
theorem dX0_calm_8 : decode cX0_calm 8 = .ok (.lastore, 1) := dk_80 (dk_at dksX0_calm_0 8 rfl rfl)
theorem dX0_calm_9 : decode cX0_calm 9 = .ok (.goto 6, 3) := dk_167 0 6 (dk_at dksX0_calm_0 9 rfl rfl)
theorem dX0_calm_12 : decode cX0_calm 12 = .ok (.astore_n 3, 1) := dk_78 (dk_at dksX0_calm_0 12 rfl rfl)
theorem dX0_calm_13 : decode cX0_calm 13 = .ok (.iconst 1, 1) := dk_4 (dk_at dksX0_calm_0 13 rfl rfl)
theorem dX0_calm_14 : decode cX0_calm 14 = .ok (.ireturn, 1) := dk_172 (dk_at dksX0_calm_0 14 rfl rfl)
theorem dX0_calm_15 : decode cX0_calm 15 = .ok (.iconst 0, 1) := dk_3 (dk_at dksX0_calm_0 15 rfl rfl)
theorem dX0_calm_16 : decode cX0_calm 16 = .ok (.ireturn, 1) := dk_172 (dk_at dksX0_calm_0 16 rfl rfl)
abbrev cX0_days : ByteArray := method_18_code
def yX0_days : MethodName := ⟨RX0, "days", "(LSaturdayKeep;I[J)I"⟩
def dkwX0_days_0 : List UInt8 := [44, 3, 42, 27, 182, 0, 69, 133, 80, 167, 0, 6, 78, 4, 172, 3, 172]
abbrev dktX0_days_0 : List UInt8 := dkwX0_days_0 ++ []
theorem dksX0_days_0 : cX0_days.data.toList.drop 0 = dktX0_days_0 := by decide +kernel
theorem dX0_days_0 : decode cX0_days 0 = .ok (.aload_n 2, 1) := dk_44 (dk_at dksX0_days_0 0 rfl rfl)
theorem dX0_days_1 : decode cX0_days 1 = .ok (.iconst 0, 1) := dk_3 (dk_at dksX0_days_0 1 rfl rfl)
theorem dX0_days_2 : decode cX0_days 2 = .ok (.aload_n 0, 1) := dk_42 (dk_at dksX0_days_0 2 rfl rfl)
theorem dX0_days_3 : decode cX0_days 3 = .ok (.iload_n 1, 1) := dk_27 (dk_at dksX0_days_0 3 rfl rfl)
theorem dX0_days_4 : decode cX0_days 4 = .ok (.invokevirtual 69, 3) := dk_182 0 69 (dk_at dksX0_days_0 4 rfl rfl)
theorem dX0_days_7 : decode cX0_days 7 = .ok (.i2l, 1) := dk_133 (dk_at dksX0_days_0 7 rfl rfl)
theorem dX0_days_8 : decode cX0_days 8 = .ok (.lastore, 1) := dk_80 (dk_at dksX0_days_0 8 rfl rfl)
theorem dX0_days_9 : decode cX0_days 9 = .ok (.goto 6, 3) := dk_167 0 6 (dk_at dksX0_days_0 9 rfl rfl)
theorem dX0_days_12 : decode cX0_days 12 = .ok (.astore_n 3, 1) := dk_78 (dk_at dksX0_days_0 12 rfl rfl)
theorem dX0_days_13 : decode cX0_days 13 = .ok (.iconst 1, 1) := dk_4 (dk_at dksX0_days_0 13 rfl rfl)
theorem dX0_days_14 : decode cX0_days 14 = .ok (.ireturn, 1) := dk_172 (dk_at dksX0_days_0 14 rfl rfl)
theorem dX0_days_15 : decode cX0_days 15 = .ok (.iconst 0, 1) := dk_3 (dk_at dksX0_days_0 15 rfl rfl)
theorem dX0_days_16 : decode cX0_days 16 = .ok (.ireturn, 1) := dk_172 (dk_at dksX0_days_0 16 rfl rfl)
abbrev cX0_ahead : ByteArray := method_19_code
def yX0_ahead : MethodName := ⟨RX0, "ahead", "(LSaturdayKeep;III[J)I"⟩
def dkwX0_ahead_1 : List UInt8 := [58, 5, 6, 172, 3, 172]
abbrev dktX0_ahead_1 : List UInt8 := dkwX0_ahead_1 ++ []
def dkwX0_ahead_0 : List UInt8 := [25, 4, 3, 42, 27, 28, 29, 182, 0, 72, 133, 80, 167, 0, 15, 58, 5, 4, 172, 58, 5, 5, 172]
abbrev dktX0_ahead_0 : List UInt8 := dkwX0_ahead_0 ++ dktX0_ahead_1
theorem dksX0_ahead_0 : cX0_ahead.data.toList.drop 0 = dktX0_ahead_0 := by decide +kernel
theorem dksX0_ahead_1 : cX0_ahead.data.toList.drop 23 = dktX0_ahead_1 := dk_seg dksX0_ahead_0 23 rfl rfl
theorem dX0_ahead_0 : decode cX0_ahead 0 = .ok (.aload 4, 2) := dk_25 4 (dk_at dksX0_ahead_0 0 rfl rfl)
theorem dX0_ahead_2 : decode cX0_ahead 2 = .ok (.iconst 0, 1) := dk_3 (dk_at dksX0_ahead_0 2 rfl rfl)
theorem dX0_ahead_3 : decode cX0_ahead 3 = .ok (.aload_n 0, 1) := dk_42 (dk_at dksX0_ahead_0 3 rfl rfl)
theorem dX0_ahead_4 : decode cX0_ahead 4 = .ok (.iload_n 1, 1) := dk_27 (dk_at dksX0_ahead_0 4 rfl rfl)
theorem dX0_ahead_5 : decode cX0_ahead 5 = .ok (.iload_n 2, 1) := dk_28 (dk_at dksX0_ahead_0 5 rfl rfl)
theorem dX0_ahead_6 : decode cX0_ahead 6 = .ok (.iload_n 3, 1) := dk_29 (dk_at dksX0_ahead_0 6 rfl rfl)
theorem dX0_ahead_7 : decode cX0_ahead 7 = .ok (.invokevirtual 72, 3) := dk_182 0 72 (dk_at dksX0_ahead_0 7 rfl rfl)
theorem dX0_ahead_10 : decode cX0_ahead 10 = .ok (.i2l, 1) := dk_133 (dk_at dksX0_ahead_0 10 rfl rfl)
theorem dX0_ahead_11 : decode cX0_ahead 11 = .ok (.lastore, 1) := dk_80 (dk_at dksX0_ahead_0 11 rfl rfl)
theorem dX0_ahead_12 : decode cX0_ahead 12 = .ok (.goto 15, 3) := dk_167 0 15 (dk_at dksX0_ahead_0 12 rfl rfl)
theorem dX0_ahead_15 : decode cX0_ahead 15 = .ok (.astore 5, 2) := dk_58 5 (dk_at dksX0_ahead_0 15 rfl rfl)
theorem dX0_ahead_17 : decode cX0_ahead 17 = .ok (.iconst 1, 1) := dk_4 (dk_at dksX0_ahead_0 17 rfl rfl)
theorem dX0_ahead_18 : decode cX0_ahead 18 = .ok (.ireturn, 1) := dk_172 (dk_at dksX0_ahead_0 18 rfl rfl)
theorem dX0_ahead_19 : decode cX0_ahead 19 = .ok (.astore 5, 2) := dk_58 5 (dk_at dksX0_ahead_0 19 rfl rfl)
theorem dX0_ahead_21 : decode cX0_ahead 21 = .ok (.iconst 2, 1) := dk_5 (dk_at dksX0_ahead_0 21 rfl rfl)
theorem dX0_ahead_22 : decode cX0_ahead 22 = .ok (.ireturn, 1) := dk_172 (dk_at dksX0_ahead_0 22 rfl rfl)
theorem dX0_ahead_23 : decode cX0_ahead 23 = .ok (.astore 5, 2) := dk_58 5 (dk_at dksX0_ahead_1 0 rfl rfl)
theorem dX0_ahead_25 : decode cX0_ahead 25 = .ok (.iconst 3, 1) := dk_6 (dk_at dksX0_ahead_1 2 rfl rfl)
theorem dX0_ahead_26 : decode cX0_ahead 26 = .ok (.ireturn, 1) := dk_172 (dk_at dksX0_ahead_1 3 rfl rfl)
theorem dX0_ahead_27 : decode cX0_ahead 27 = .ok (.iconst 0, 1) := dk_3 (dk_at dksX0_ahead_1 4 rfl rfl)
theorem dX0_ahead_28 : decode cX0_ahead 28 = .ok (.ireturn, 1) := dk_172 (dk_at dksX0_ahead_1 5 rfl rfl)
abbrev cX0_saturdays : ByteArray := method_20_code
def yX0_saturdays : MethodName := ⟨RX0, "saturdays", "(LSaturdayKeep;I[J)I"⟩
def dkwX0_saturdays_0 : List UInt8 := [44, 3, 42, 27, 182, 0, 76, 133, 80, 167, 0, 6, 78, 4, 172, 3, 172]
abbrev dktX0_saturdays_0 : List UInt8 := dkwX0_saturdays_0 ++ []
theorem dksX0_saturdays_0 : cX0_saturdays.data.toList.drop 0 = dktX0_saturdays_0 := by decide +kernel
theorem dX0_saturdays_0 : decode cX0_saturdays 0 = .ok (.aload_n 2, 1) := dk_44 (dk_at dksX0_saturdays_0 0 rfl rfl)
theorem dX0_saturdays_1 : decode cX0_saturdays 1 = .ok (.iconst 0, 1) := dk_3 (dk_at dksX0_saturdays_0 1 rfl rfl)
theorem dX0_saturdays_2 : decode cX0_saturdays 2 = .ok (.aload_n 0, 1) := dk_42 (dk_at dksX0_saturdays_0 2 rfl rfl)
theorem dX0_saturdays_3 : decode cX0_saturdays 3 = .ok (.iload_n 1, 1) := dk_27 (dk_at dksX0_saturdays_0 3 rfl rfl)
theorem dX0_saturdays_4 : decode cX0_saturdays 4 = .ok (.invokevirtual 76, 3) := dk_182 0 76 (dk_at dksX0_saturdays_0 4 rfl rfl)
theorem dX0_saturdays_7 : decode cX0_saturdays 7 = .ok (.i2l, 1) := dk_133 (dk_at dksX0_saturdays_0 7 rfl rfl)
theorem dX0_saturdays_8 : decode cX0_saturdays 8 = .ok (.lastore, 1) := dk_80 (dk_at dksX0_saturdays_0 8 rfl rfl)
theorem dX0_saturdays_9 : decode cX0_saturdays 9 = .ok (.goto 6, 3) := dk_167 0 6 (dk_at dksX0_saturdays_0 9 rfl rfl)
theorem dX0_saturdays_12 : decode cX0_saturdays 12 = .ok (.astore_n 3, 1) := dk_78 (dk_at dksX0_saturdays_0 12 rfl rfl)
theorem dX0_saturdays_13 : decode cX0_saturdays 13 = .ok (.iconst 1, 1) := dk_4 (dk_at dksX0_saturdays_0 13 rfl rfl)
theorem dX0_saturdays_14 : decode cX0_saturdays 14 = .ok (.ireturn, 1) := dk_172 (dk_at dksX0_saturdays_0 14 rfl rfl)
theorem dX0_saturdays_15 : decode cX0_saturdays 15 = .ok (.iconst 0, 1) := dk_3 (dk_at dksX0_saturdays_0 15 rfl rfl)
theorem dX0_saturdays_16 : decode cX0_saturdays 16 = .ok (.ireturn, 1) := dk_172 (dk_at dksX0_saturdays_0 16 rfl rfl)
abbrev cX0_first : ByteArray := method_21_code
def yX0_first : MethodName := ⟨RX0, "first", "(LSaturdayKeep;II[J)I"⟩
def dkwX0_first_0 : List UInt8 := [45, 3, 42, 27, 28, 182, 0, 79, 133, 80, 167, 0, 11, 58, 4, 4, 172, 58, 4, 5, 172, 3, 172]
abbrev dktX0_first_0 : List UInt8 := dkwX0_first_0 ++ []
theorem dksX0_first_0 : cX0_first.data.toList.drop 0 = dktX0_first_0 := by decide +kernel
theorem dX0_first_0 : decode cX0_first 0 = .ok (.aload_n 3, 1) := dk_45 (dk_at dksX0_first_0 0 rfl rfl)
theorem dX0_first_1 : decode cX0_first 1 = .ok (.iconst 0, 1) := dk_3 (dk_at dksX0_first_0 1 rfl rfl)
theorem dX0_first_2 : decode cX0_first 2 = .ok (.aload_n 0, 1) := dk_42 (dk_at dksX0_first_0 2 rfl rfl)
theorem dX0_first_3 : decode cX0_first 3 = .ok (.iload_n 1, 1) := dk_27 (dk_at dksX0_first_0 3 rfl rfl)
theorem dX0_first_4 : decode cX0_first 4 = .ok (.iload_n 2, 1) := dk_28 (dk_at dksX0_first_0 4 rfl rfl)
theorem dX0_first_5 : decode cX0_first 5 = .ok (.invokevirtual 79, 3) := dk_182 0 79 (dk_at dksX0_first_0 5 rfl rfl)
theorem dX0_first_8 : decode cX0_first 8 = .ok (.i2l, 1) := dk_133 (dk_at dksX0_first_0 8 rfl rfl)
theorem dX0_first_9 : decode cX0_first 9 = .ok (.lastore, 1) := dk_80 (dk_at dksX0_first_0 9 rfl rfl)
theorem dX0_first_10 : decode cX0_first 10 = .ok (.goto 11, 3) := dk_167 0 11 (dk_at dksX0_first_0 10 rfl rfl)
theorem dX0_first_13 : decode cX0_first 13 = .ok (.astore 4, 2) := dk_58 4 (dk_at dksX0_first_0 13 rfl rfl)
theorem dX0_first_15 : decode cX0_first 15 = .ok (.iconst 1, 1) := dk_4 (dk_at dksX0_first_0 15 rfl rfl)
theorem dX0_first_16 : decode cX0_first 16 = .ok (.ireturn, 1) := dk_172 (dk_at dksX0_first_0 16 rfl rfl)
theorem dX0_first_17 : decode cX0_first 17 = .ok (.astore 4, 2) := dk_58 4 (dk_at dksX0_first_0 17 rfl rfl)
theorem dX0_first_19 : decode cX0_first 19 = .ok (.iconst 2, 1) := dk_5 (dk_at dksX0_first_0 19 rfl rfl)
theorem dX0_first_20 : decode cX0_first 20 = .ok (.ireturn, 1) := dk_172 (dk_at dksX0_first_0 20 rfl rfl)
theorem dX0_first_21 : decode cX0_first 21 = .ok (.iconst 0, 1) := dk_3 (dk_at dksX0_first_0 21 rfl rfl)
theorem dX0_first_22 : decode cX0_first 22 = .ok (.ireturn, 1) := dk_172 (dk_at dksX0_first_0 22 rfl rfl)
abbrev cX0_stand : ByteArray := method_22_code
def yX0_stand : MethodName := ⟨RX0, "stand", "(LSaturdayKeep;I[J)I"⟩
def dkwX0_stand_0 : List UInt8 := [44, 3, 42, 27, 182, 0, 82, 133, 80, 167, 0, 6, 78, 4, 172, 3, 172]
abbrev dktX0_stand_0 : List UInt8 := dkwX0_stand_0 ++ []
theorem dksX0_stand_0 : cX0_stand.data.toList.drop 0 = dktX0_stand_0 := by decide +kernel
theorem dX0_stand_0 : decode cX0_stand 0 = .ok (.aload_n 2, 1) := dk_44 (dk_at dksX0_stand_0 0 rfl rfl)
theorem dX0_stand_1 : decode cX0_stand 1 = .ok (.iconst 0, 1) := dk_3 (dk_at dksX0_stand_0 1 rfl rfl)
theorem dX0_stand_2 : decode cX0_stand 2 = .ok (.aload_n 0, 1) := dk_42 (dk_at dksX0_stand_0 2 rfl rfl)
theorem dX0_stand_3 : decode cX0_stand 3 = .ok (.iload_n 1, 1) := dk_27 (dk_at dksX0_stand_0 3 rfl rfl)
theorem dX0_stand_4 : decode cX0_stand 4 = .ok (.invokevirtual 82, 3) := dk_182 0 82 (dk_at dksX0_stand_0 4 rfl rfl)
theorem dX0_stand_7 : decode cX0_stand 7 = .ok (.i2l, 1) := dk_133 (dk_at dksX0_stand_0 7 rfl rfl)
theorem dX0_stand_8 : decode cX0_stand 8 = .ok (.lastore, 1) := dk_80 (dk_at dksX0_stand_0 8 rfl rfl)
theorem dX0_stand_9 : decode cX0_stand 9 = .ok (.goto 6, 3) := dk_167 0 6 (dk_at dksX0_stand_0 9 rfl rfl)
theorem dX0_stand_12 : decode cX0_stand 12 = .ok (.astore_n 3, 1) := dk_78 (dk_at dksX0_stand_0 12 rfl rfl)
theorem dX0_stand_13 : decode cX0_stand 13 = .ok (.iconst 1, 1) := dk_4 (dk_at dksX0_stand_0 13 rfl rfl)
theorem dX0_stand_14 : decode cX0_stand 14 = .ok (.ireturn, 1) := dk_172 (dk_at dksX0_stand_0 14 rfl rfl)
theorem dX0_stand_15 : decode cX0_stand 15 = .ok (.iconst 0, 1) := dk_3 (dk_at dksX0_stand_0 15 rfl rfl)
theorem dX0_stand_16 : decode cX0_stand 16 = .ok (.ireturn, 1) := dk_172 (dk_at dksX0_stand_0 16 rfl rfl)
abbrev cX0_sent : ByteArray := method_23_code
def yX0_sent : MethodName := ⟨RX0, "sent", "(LSaturdayKeep;I[J)I"⟩
def dkwX0_sent_0 : List UInt8 := [44, 3, 42, 27, 182, 0, 85, 133, 80, 167, 0, 6, 78, 4, 172, 3, 172]
abbrev dktX0_sent_0 : List UInt8 := dkwX0_sent_0 ++ []
theorem dksX0_sent_0 : cX0_sent.data.toList.drop 0 = dktX0_sent_0 := by decide +kernel
theorem dX0_sent_0 : decode cX0_sent 0 = .ok (.aload_n 2, 1) := dk_44 (dk_at dksX0_sent_0 0 rfl rfl)
theorem dX0_sent_1 : decode cX0_sent 1 = .ok (.iconst 0, 1) := dk_3 (dk_at dksX0_sent_0 1 rfl rfl)
theorem dX0_sent_2 : decode cX0_sent 2 = .ok (.aload_n 0, 1) := dk_42 (dk_at dksX0_sent_0 2 rfl rfl)
theorem dX0_sent_3 : decode cX0_sent 3 = .ok (.iload_n 1, 1) := dk_27 (dk_at dksX0_sent_0 3 rfl rfl)
theorem dX0_sent_4 : decode cX0_sent 4 = .ok (.invokevirtual 85, 3) := dk_182 0 85 (dk_at dksX0_sent_0 4 rfl rfl)
theorem dX0_sent_7 : decode cX0_sent 7 = .ok (.i2l, 1) := dk_133 (dk_at dksX0_sent_0 7 rfl rfl)
theorem dX0_sent_8 : decode cX0_sent 8 = .ok (.lastore, 1) := dk_80 (dk_at dksX0_sent_0 8 rfl rfl)
theorem dX0_sent_9 : decode cX0_sent 9 = .ok (.goto 6, 3) := dk_167 0 6 (dk_at dksX0_sent_0 9 rfl rfl)
theorem dX0_sent_12 : decode cX0_sent 12 = .ok (.astore_n 3, 1) := dk_78 (dk_at dksX0_sent_0 12 rfl rfl)
theorem dX0_sent_13 : decode cX0_sent 13 = .ok (.iconst 1, 1) := dk_4 (dk_at dksX0_sent_0 13 rfl rfl)
theorem dX0_sent_14 : decode cX0_sent 14 = .ok (.ireturn, 1) := dk_172 (dk_at dksX0_sent_0 14 rfl rfl)
theorem dX0_sent_15 : decode cX0_sent 15 = .ok (.iconst 0, 1) := dk_3 (dk_at dksX0_sent_0 15 rfl rfl)
theorem dX0_sent_16 : decode cX0_sent 16 = .ok (.ireturn, 1) := dk_172 (dk_at dksX0_sent_0 16 rfl rfl)
abbrev cX0_rests : ByteArray := method_24_code
def yX0_rests : MethodName := ⟨RX0, "rests", "(LSaturdayKeep;I[J)I"⟩
def dkwX0_rests_0 : List UInt8 := [44, 3, 42, 27, 182, 0, 88, 133, 80, 167, 0, 6, 78, 4, 172, 3, 172]
abbrev dktX0_rests_0 : List UInt8 := dkwX0_rests_0 ++ []
theorem dksX0_rests_0 : cX0_rests.data.toList.drop 0 = dktX0_rests_0 := by decide +kernel
theorem dX0_rests_0 : decode cX0_rests 0 = .ok (.aload_n 2, 1) := dk_44 (dk_at dksX0_rests_0 0 rfl rfl)
theorem dX0_rests_1 : decode cX0_rests 1 = .ok (.iconst 0, 1) := dk_3 (dk_at dksX0_rests_0 1 rfl rfl)
theorem dX0_rests_2 : decode cX0_rests 2 = .ok (.aload_n 0, 1) := dk_42 (dk_at dksX0_rests_0 2 rfl rfl)
theorem dX0_rests_3 : decode cX0_rests 3 = .ok (.iload_n 1, 1) := dk_27 (dk_at dksX0_rests_0 3 rfl rfl)
theorem dX0_rests_4 : decode cX0_rests 4 = .ok (.invokevirtual 88, 3) := dk_182 0 88 (dk_at dksX0_rests_0 4 rfl rfl)
theorem dX0_rests_7 : decode cX0_rests 7 = .ok (.i2l, 1) := dk_133 (dk_at dksX0_rests_0 7 rfl rfl)
theorem dX0_rests_8 : decode cX0_rests 8 = .ok (.lastore, 1) := dk_80 (dk_at dksX0_rests_0 8 rfl rfl)
theorem dX0_rests_9 : decode cX0_rests 9 = .ok (.goto 6, 3) := dk_167 0 6 (dk_at dksX0_rests_0 9 rfl rfl)
theorem dX0_rests_12 : decode cX0_rests 12 = .ok (.astore_n 3, 1) := dk_78 (dk_at dksX0_rests_0 12 rfl rfl)
theorem dX0_rests_13 : decode cX0_rests 13 = .ok (.iconst 1, 1) := dk_4 (dk_at dksX0_rests_0 13 rfl rfl)
theorem dX0_rests_14 : decode cX0_rests 14 = .ok (.ireturn, 1) := dk_172 (dk_at dksX0_rests_0 14 rfl rfl)
theorem dX0_rests_15 : decode cX0_rests 15 = .ok (.iconst 0, 1) := dk_3 (dk_at dksX0_rests_0 15 rfl rfl)
theorem dX0_rests_16 : decode cX0_rests 16 = .ok (.ireturn, 1) := dk_172 (dk_at dksX0_rests_0 16 rfl rfl)
abbrev cX0_shifts : ByteArray := method_25_code
def yX0_shifts : MethodName := ⟨RX0, "shifts", "(LSaturdayKeep;[J)I"⟩
def dkwX0_shifts_0 : List UInt8 := [43, 3, 42, 182, 0, 91, 133, 80, 167, 0, 6, 77, 4, 172, 3, 172]
abbrev dktX0_shifts_0 : List UInt8 := dkwX0_shifts_0 ++ []
theorem dksX0_shifts_0 : cX0_shifts.data.toList.drop 0 = dktX0_shifts_0 := by decide +kernel
theorem dX0_shifts_0 : decode cX0_shifts 0 = .ok (.aload_n 1, 1) := dk_43 (dk_at dksX0_shifts_0 0 rfl rfl)
theorem dX0_shifts_1 : decode cX0_shifts 1 = .ok (.iconst 0, 1) := dk_3 (dk_at dksX0_shifts_0 1 rfl rfl)
theorem dX0_shifts_2 : decode cX0_shifts 2 = .ok (.aload_n 0, 1) := dk_42 (dk_at dksX0_shifts_0 2 rfl rfl)
theorem dX0_shifts_3 : decode cX0_shifts 3 = .ok (.invokevirtual 91, 3) := dk_182 0 91 (dk_at dksX0_shifts_0 3 rfl rfl)
theorem dX0_shifts_6 : decode cX0_shifts 6 = .ok (.i2l, 1) := dk_133 (dk_at dksX0_shifts_0 6 rfl rfl)
theorem dX0_shifts_7 : decode cX0_shifts 7 = .ok (.lastore, 1) := dk_80 (dk_at dksX0_shifts_0 7 rfl rfl)
theorem dX0_shifts_8 : decode cX0_shifts 8 = .ok (.goto 6, 3) := dk_167 0 6 (dk_at dksX0_shifts_0 8 rfl rfl)
theorem dX0_shifts_11 : decode cX0_shifts 11 = .ok (.astore_n 2, 1) := dk_77 (dk_at dksX0_shifts_0 11 rfl rfl)
theorem dX0_shifts_12 : decode cX0_shifts 12 = .ok (.iconst 1, 1) := dk_4 (dk_at dksX0_shifts_0 12 rfl rfl)
theorem dX0_shifts_13 : decode cX0_shifts 13 = .ok (.ireturn, 1) := dk_172 (dk_at dksX0_shifts_0 13 rfl rfl)
theorem dX0_shifts_14 : decode cX0_shifts 14 = .ok (.iconst 0, 1) := dk_3 (dk_at dksX0_shifts_0 14 rfl rfl)
theorem dX0_shifts_15 : decode cX0_shifts 15 = .ok (.ireturn, 1) := dk_172 (dk_at dksX0_shifts_0 15 rfl rfl)
abbrev cX0_ask : ByteArray := method_26_code
def yX0_ask : MethodName := ⟨RX0, "ask", "(LSaturdayKeep;[J)I"⟩
def dkwX0_ask_0 : List UInt8 := [43, 3, 42, 182, 0, 94, 133, 80, 167, 0, 6, 77, 4, 172, 3, 172]
abbrev dktX0_ask_0 : List UInt8 := dkwX0_ask_0 ++ []
theorem dksX0_ask_0 : cX0_ask.data.toList.drop 0 = dktX0_ask_0 := by decide +kernel
theorem dX0_ask_0 : decode cX0_ask 0 = .ok (.aload_n 1, 1) := dk_43 (dk_at dksX0_ask_0 0 rfl rfl)
theorem dX0_ask_1 : decode cX0_ask 1 = .ok (.iconst 0, 1) := dk_3 (dk_at dksX0_ask_0 1 rfl rfl)
theorem dX0_ask_2 : decode cX0_ask 2 = .ok (.aload_n 0, 1) := dk_42 (dk_at dksX0_ask_0 2 rfl rfl)
theorem dX0_ask_3 : decode cX0_ask 3 = .ok (.invokevirtual 94, 3) := dk_182 0 94 (dk_at dksX0_ask_0 3 rfl rfl)
theorem dX0_ask_6 : decode cX0_ask 6 = .ok (.i2l, 1) := dk_133 (dk_at dksX0_ask_0 6 rfl rfl)
theorem dX0_ask_7 : decode cX0_ask 7 = .ok (.lastore, 1) := dk_80 (dk_at dksX0_ask_0 7 rfl rfl)
theorem dX0_ask_8 : decode cX0_ask 8 = .ok (.goto 6, 3) := dk_167 0 6 (dk_at dksX0_ask_0 8 rfl rfl)
theorem dX0_ask_11 : decode cX0_ask 11 = .ok (.astore_n 2, 1) := dk_77 (dk_at dksX0_ask_0 11 rfl rfl)
theorem dX0_ask_12 : decode cX0_ask 12 = .ok (.iconst 1, 1) := dk_4 (dk_at dksX0_ask_0 12 rfl rfl)
theorem dX0_ask_13 : decode cX0_ask 13 = .ok (.ireturn, 1) := dk_172 (dk_at dksX0_ask_0 13 rfl rfl)
theorem dX0_ask_14 : decode cX0_ask 14 = .ok (.iconst 0, 1) := dk_3 (dk_at dksX0_ask_0 14 rfl rfl)
theorem dX0_ask_15 : decode cX0_ask 15 = .ok (.ireturn, 1) := dk_172 (dk_at dksX0_ask_0 15 rfl rfl)
abbrev cX0_bored : ByteArray := method_27_code
def yX0_bored : MethodName := ⟨RX0, "bored", "(LSaturdayKeep;Z[J)I"⟩
def dkwX0_bored_0 : List UInt8 := [44, 3, 42, 27, 182, 0, 97, 133, 80, 167, 0, 6, 78, 4, 172, 3, 172]
abbrev dktX0_bored_0 : List UInt8 := dkwX0_bored_0 ++ []
theorem dksX0_bored_0 : cX0_bored.data.toList.drop 0 = dktX0_bored_0 := by decide +kernel
theorem dX0_bored_0 : decode cX0_bored 0 = .ok (.aload_n 2, 1) := dk_44 (dk_at dksX0_bored_0 0 rfl rfl)
theorem dX0_bored_1 : decode cX0_bored 1 = .ok (.iconst 0, 1) := dk_3 (dk_at dksX0_bored_0 1 rfl rfl)
theorem dX0_bored_2 : decode cX0_bored 2 = .ok (.aload_n 0, 1) := dk_42 (dk_at dksX0_bored_0 2 rfl rfl)
theorem dX0_bored_3 : decode cX0_bored 3 = .ok (.iload_n 1, 1) := dk_27 (dk_at dksX0_bored_0 3 rfl rfl)
theorem dX0_bored_4 : decode cX0_bored 4 = .ok (.invokevirtual 97, 3) := dk_182 0 97 (dk_at dksX0_bored_0 4 rfl rfl)
theorem dX0_bored_7 : decode cX0_bored 7 = .ok (.i2l, 1) := dk_133 (dk_at dksX0_bored_0 7 rfl rfl)
theorem dX0_bored_8 : decode cX0_bored 8 = .ok (.lastore, 1) := dk_80 (dk_at dksX0_bored_0 8 rfl rfl)
theorem dX0_bored_9 : decode cX0_bored 9 = .ok (.goto 6, 3) := dk_167 0 6 (dk_at dksX0_bored_0 9 rfl rfl)
theorem dX0_bored_12 : decode cX0_bored 12 = .ok (.astore_n 3, 1) := dk_78 (dk_at dksX0_bored_0 12 rfl rfl)
theorem dX0_bored_13 : decode cX0_bored 13 = .ok (.iconst 1, 1) := dk_4 (dk_at dksX0_bored_0 13 rfl rfl)
theorem dX0_bored_14 : decode cX0_bored 14 = .ok (.ireturn, 1) := dk_172 (dk_at dksX0_bored_0 14 rfl rfl)
theorem dX0_bored_15 : decode cX0_bored 15 = .ok (.iconst 0, 1) := dk_3 (dk_at dksX0_bored_0 15 rfl rfl)
theorem dX0_bored_16 : decode cX0_bored 16 = .ok (.ireturn, 1) := dk_172 (dk_at dksX0_bored_0 16 rfl rfl)
abbrev cX0_look : ByteArray := method_28_code
def yX0_look : MethodName := ⟨RX0, "look", "(LSaturdayKeep;[J)I"⟩
def dkwX0_look_0 : List UInt8 := [43, 3, 42, 182, 0, 101, 133, 80, 167, 0, 6, 77, 4, 172, 3, 172]
abbrev dktX0_look_0 : List UInt8 := dkwX0_look_0 ++ []
theorem dksX0_look_0 : cX0_look.data.toList.drop 0 = dktX0_look_0 := by decide +kernel
theorem dX0_look_0 : decode cX0_look 0 = .ok (.aload_n 1, 1) := dk_43 (dk_at dksX0_look_0 0 rfl rfl)
theorem dX0_look_1 : decode cX0_look 1 = .ok (.iconst 0, 1) := dk_3 (dk_at dksX0_look_0 1 rfl rfl)
theorem dX0_look_2 : decode cX0_look 2 = .ok (.aload_n 0, 1) := dk_42 (dk_at dksX0_look_0 2 rfl rfl)
theorem dX0_look_3 : decode cX0_look 3 = .ok (.invokevirtual 101, 3) := dk_182 0 101 (dk_at dksX0_look_0 3 rfl rfl)
theorem dX0_look_6 : decode cX0_look 6 = .ok (.i2l, 1) := dk_133 (dk_at dksX0_look_0 6 rfl rfl)
theorem dX0_look_7 : decode cX0_look 7 = .ok (.lastore, 1) := dk_80 (dk_at dksX0_look_0 7 rfl rfl)
theorem dX0_look_8 : decode cX0_look 8 = .ok (.goto 6, 3) := dk_167 0 6 (dk_at dksX0_look_0 8 rfl rfl)
theorem dX0_look_11 : decode cX0_look 11 = .ok (.astore_n 2, 1) := dk_77 (dk_at dksX0_look_0 11 rfl rfl)
theorem dX0_look_12 : decode cX0_look 12 = .ok (.iconst 1, 1) := dk_4 (dk_at dksX0_look_0 12 rfl rfl)
theorem dX0_look_13 : decode cX0_look 13 = .ok (.ireturn, 1) := dk_172 (dk_at dksX0_look_0 13 rfl rfl)
theorem dX0_look_14 : decode cX0_look 14 = .ok (.iconst 0, 1) := dk_3 (dk_at dksX0_look_0 14 rfl rfl)
theorem dX0_look_15 : decode cX0_look 15 = .ok (.ireturn, 1) := dk_172 (dk_at dksX0_look_0 15 rfl rfl)
abbrev cX0_line : ByteArray := method_29_code
def yX0_line : MethodName := ⟨RX0, "line", "(LSaturdayKeep;II[J)I"⟩
def dkwX0_line_0 : List UInt8 := [45, 3, 42, 27, 28, 182, 0, 104, 133, 80, 167, 0, 7, 58, 4, 4, 172, 3, 172]
abbrev dktX0_line_0 : List UInt8 := dkwX0_line_0 ++ []
theorem dksX0_line_0 : cX0_line.data.toList.drop 0 = dktX0_line_0 := by decide +kernel
theorem dX0_line_0 : decode cX0_line 0 = .ok (.aload_n 3, 1) := dk_45 (dk_at dksX0_line_0 0 rfl rfl)
theorem dX0_line_1 : decode cX0_line 1 = .ok (.iconst 0, 1) := dk_3 (dk_at dksX0_line_0 1 rfl rfl)
theorem dX0_line_2 : decode cX0_line 2 = .ok (.aload_n 0, 1) := dk_42 (dk_at dksX0_line_0 2 rfl rfl)
theorem dX0_line_3 : decode cX0_line 3 = .ok (.iload_n 1, 1) := dk_27 (dk_at dksX0_line_0 3 rfl rfl)
theorem dX0_line_4 : decode cX0_line 4 = .ok (.iload_n 2, 1) := dk_28 (dk_at dksX0_line_0 4 rfl rfl)
theorem dX0_line_5 : decode cX0_line 5 = .ok (.invokevirtual 104, 3) := dk_182 0 104 (dk_at dksX0_line_0 5 rfl rfl)
theorem dX0_line_8 : decode cX0_line 8 = .ok (.i2l, 1) := dk_133 (dk_at dksX0_line_0 8 rfl rfl)
theorem dX0_line_9 : decode cX0_line 9 = .ok (.lastore, 1) := dk_80 (dk_at dksX0_line_0 9 rfl rfl)
theorem dX0_line_10 : decode cX0_line 10 = .ok (.goto 7, 3) := dk_167 0 7 (dk_at dksX0_line_0 10 rfl rfl)
theorem dX0_line_13 : decode cX0_line 13 = .ok (.astore 4, 2) := dk_58 4 (dk_at dksX0_line_0 13 rfl rfl)
theorem dX0_line_15 : decode cX0_line 15 = .ok (.iconst 1, 1) := dk_4 (dk_at dksX0_line_0 15 rfl rfl)
theorem dX0_line_16 : decode cX0_line 16 = .ok (.ireturn, 1) := dk_172 (dk_at dksX0_line_0 16 rfl rfl)
theorem dX0_line_17 : decode cX0_line 17 = .ok (.iconst 0, 1) := dk_3 (dk_at dksX0_line_0 17 rfl rfl)
theorem dX0_line_18 : decode cX0_line 18 = .ok (.ireturn, 1) := dk_172 (dk_at dksX0_line_0 18 rfl rfl)
abbrev cX0_pass : ByteArray := method_30_code
def yX0_pass : MethodName := ⟨RX0, "pass", "(LSaturdayKeep;II[J)I"⟩
def dkwX0_pass_0 : List UInt8 := [45, 3, 42, 27, 28, 182, 0, 107, 133, 80, 167, 0, 7, 58, 4, 4, 172, 3, 172]
abbrev dktX0_pass_0 : List UInt8 := dkwX0_pass_0 ++ []
theorem dksX0_pass_0 : cX0_pass.data.toList.drop 0 = dktX0_pass_0 := by decide +kernel
theorem dX0_pass_0 : decode cX0_pass 0 = .ok (.aload_n 3, 1) := dk_45 (dk_at dksX0_pass_0 0 rfl rfl)
theorem dX0_pass_1 : decode cX0_pass 1 = .ok (.iconst 0, 1) := dk_3 (dk_at dksX0_pass_0 1 rfl rfl)
theorem dX0_pass_2 : decode cX0_pass 2 = .ok (.aload_n 0, 1) := dk_42 (dk_at dksX0_pass_0 2 rfl rfl)
theorem dX0_pass_3 : decode cX0_pass 3 = .ok (.iload_n 1, 1) := dk_27 (dk_at dksX0_pass_0 3 rfl rfl)
theorem dX0_pass_4 : decode cX0_pass 4 = .ok (.iload_n 2, 1) := dk_28 (dk_at dksX0_pass_0 4 rfl rfl)
theorem dX0_pass_5 : decode cX0_pass 5 = .ok (.invokevirtual 107, 3) := dk_182 0 107 (dk_at dksX0_pass_0 5 rfl rfl)
theorem dX0_pass_8 : decode cX0_pass 8 = .ok (.i2l, 1) := dk_133 (dk_at dksX0_pass_0 8 rfl rfl)
theorem dX0_pass_9 : decode cX0_pass 9 = .ok (.lastore, 1) := dk_80 (dk_at dksX0_pass_0 9 rfl rfl)
theorem dX0_pass_10 : decode cX0_pass 10 = .ok (.goto 7, 3) := dk_167 0 7 (dk_at dksX0_pass_0 10 rfl rfl)
theorem dX0_pass_13 : decode cX0_pass 13 = .ok (.astore 4, 2) := dk_58 4 (dk_at dksX0_pass_0 13 rfl rfl)
theorem dX0_pass_15 : decode cX0_pass 15 = .ok (.iconst 1, 1) := dk_4 (dk_at dksX0_pass_0 15 rfl rfl)
theorem dX0_pass_16 : decode cX0_pass 16 = .ok (.ireturn, 1) := dk_172 (dk_at dksX0_pass_0 16 rfl rfl)
theorem dX0_pass_17 : decode cX0_pass 17 = .ok (.iconst 0, 1) := dk_3 (dk_at dksX0_pass_0 17 rfl rfl)
theorem dX0_pass_18 : decode cX0_pass 18 = .ok (.ireturn, 1) := dk_172 (dk_at dksX0_pass_0 18 rfl rfl)
abbrev cX0_agree : ByteArray := method_31_code
def yX0_agree : MethodName := ⟨RX0, "agree", "(LSaturdayKeep;I[J)I"⟩
def dkwX0_agree_0 : List UInt8 := [44, 3, 42, 27, 182, 0, 110, 133, 80, 167, 0, 6, 78, 4, 172, 3, 172]
abbrev dktX0_agree_0 : List UInt8 := dkwX0_agree_0 ++ []
theorem dksX0_agree_0 : cX0_agree.data.toList.drop 0 = dktX0_agree_0 := by decide +kernel
theorem dX0_agree_0 : decode cX0_agree 0 = .ok (.aload_n 2, 1) := dk_44 (dk_at dksX0_agree_0 0 rfl rfl)
theorem dX0_agree_1 : decode cX0_agree 1 = .ok (.iconst 0, 1) := dk_3 (dk_at dksX0_agree_0 1 rfl rfl)
theorem dX0_agree_2 : decode cX0_agree 2 = .ok (.aload_n 0, 1) := dk_42 (dk_at dksX0_agree_0 2 rfl rfl)
theorem dX0_agree_3 : decode cX0_agree 3 = .ok (.iload_n 1, 1) := dk_27 (dk_at dksX0_agree_0 3 rfl rfl)
theorem dX0_agree_4 : decode cX0_agree 4 = .ok (.invokevirtual 110, 3) := dk_182 0 110 (dk_at dksX0_agree_0 4 rfl rfl)
theorem dX0_agree_7 : decode cX0_agree 7 = .ok (.i2l, 1) := dk_133 (dk_at dksX0_agree_0 7 rfl rfl)
theorem dX0_agree_8 : decode cX0_agree 8 = .ok (.lastore, 1) := dk_80 (dk_at dksX0_agree_0 8 rfl rfl)
theorem dX0_agree_9 : decode cX0_agree 9 = .ok (.goto 6, 3) := dk_167 0 6 (dk_at dksX0_agree_0 9 rfl rfl)
theorem dX0_agree_12 : decode cX0_agree 12 = .ok (.astore_n 3, 1) := dk_78 (dk_at dksX0_agree_0 12 rfl rfl)
theorem dX0_agree_13 : decode cX0_agree 13 = .ok (.iconst 1, 1) := dk_4 (dk_at dksX0_agree_0 13 rfl rfl)
theorem dX0_agree_14 : decode cX0_agree 14 = .ok (.ireturn, 1) := dk_172 (dk_at dksX0_agree_0 14 rfl rfl)
theorem dX0_agree_15 : decode cX0_agree 15 = .ok (.iconst 0, 1) := dk_3 (dk_at dksX0_agree_0 15 rfl rfl)
theorem dX0_agree_16 : decode cX0_agree 16 = .ok (.ireturn, 1) := dk_172 (dk_at dksX0_agree_0 16 rfl rfl)
abbrev cX0_need : ByteArray := method_32_code
def yX0_need : MethodName := ⟨RX0, "need", "(LSaturdayKeep;I[J)I"⟩
def dkwX0_need_0 : List UInt8 := [44, 3, 42, 27, 182, 0, 113, 133, 80, 167, 0, 6, 78, 4, 172, 3, 172]
abbrev dktX0_need_0 : List UInt8 := dkwX0_need_0 ++ []
theorem dksX0_need_0 : cX0_need.data.toList.drop 0 = dktX0_need_0 := by decide +kernel
theorem dX0_need_0 : decode cX0_need 0 = .ok (.aload_n 2, 1) := dk_44 (dk_at dksX0_need_0 0 rfl rfl)
theorem dX0_need_1 : decode cX0_need 1 = .ok (.iconst 0, 1) := dk_3 (dk_at dksX0_need_0 1 rfl rfl)
theorem dX0_need_2 : decode cX0_need 2 = .ok (.aload_n 0, 1) := dk_42 (dk_at dksX0_need_0 2 rfl rfl)
theorem dX0_need_3 : decode cX0_need 3 = .ok (.iload_n 1, 1) := dk_27 (dk_at dksX0_need_0 3 rfl rfl)
theorem dX0_need_4 : decode cX0_need 4 = .ok (.invokevirtual 113, 3) := dk_182 0 113 (dk_at dksX0_need_0 4 rfl rfl)
theorem dX0_need_7 : decode cX0_need 7 = .ok (.i2l, 1) := dk_133 (dk_at dksX0_need_0 7 rfl rfl)
theorem dX0_need_8 : decode cX0_need 8 = .ok (.lastore, 1) := dk_80 (dk_at dksX0_need_0 8 rfl rfl)
theorem dX0_need_9 : decode cX0_need 9 = .ok (.goto 6, 3) := dk_167 0 6 (dk_at dksX0_need_0 9 rfl rfl)
theorem dX0_need_12 : decode cX0_need 12 = .ok (.astore_n 3, 1) := dk_78 (dk_at dksX0_need_0 12 rfl rfl)
theorem dX0_need_13 : decode cX0_need 13 = .ok (.iconst 1, 1) := dk_4 (dk_at dksX0_need_0 13 rfl rfl)
theorem dX0_need_14 : decode cX0_need 14 = .ok (.ireturn, 1) := dk_172 (dk_at dksX0_need_0 14 rfl rfl)
theorem dX0_need_15 : decode cX0_need 15 = .ok (.iconst 0, 1) := dk_3 (dk_at dksX0_need_0 15 rfl rfl)
theorem dX0_need_16 : decode cX0_need 16 = .ok (.ireturn, 1) := dk_172 (dk_at dksX0_need_0 16 rfl rfl)
abbrev cX0_spread : ByteArray := method_33_code
def yX0_spread : MethodName := ⟨RX0, "spread", "(LSaturdayKeep;I[J)I"⟩
def dkwX0_spread_0 : List UInt8 := [44, 3, 42, 27, 182, 0, 116, 133, 80, 167, 0, 6, 78, 4, 172, 3, 172]
abbrev dktX0_spread_0 : List UInt8 := dkwX0_spread_0 ++ []
theorem dksX0_spread_0 : cX0_spread.data.toList.drop 0 = dktX0_spread_0 := by decide +kernel
theorem dX0_spread_0 : decode cX0_spread 0 = .ok (.aload_n 2, 1) := dk_44 (dk_at dksX0_spread_0 0 rfl rfl)
theorem dX0_spread_1 : decode cX0_spread 1 = .ok (.iconst 0, 1) := dk_3 (dk_at dksX0_spread_0 1 rfl rfl)
theorem dX0_spread_2 : decode cX0_spread 2 = .ok (.aload_n 0, 1) := dk_42 (dk_at dksX0_spread_0 2 rfl rfl)
theorem dX0_spread_3 : decode cX0_spread 3 = .ok (.iload_n 1, 1) := dk_27 (dk_at dksX0_spread_0 3 rfl rfl)
theorem dX0_spread_4 : decode cX0_spread 4 = .ok (.invokevirtual 116, 3) := dk_182 0 116 (dk_at dksX0_spread_0 4 rfl rfl)
theorem dX0_spread_7 : decode cX0_spread 7 = .ok (.i2l, 1) := dk_133 (dk_at dksX0_spread_0 7 rfl rfl)
theorem dX0_spread_8 : decode cX0_spread 8 = .ok (.lastore, 1) := dk_80 (dk_at dksX0_spread_0 8 rfl rfl)
theorem dX0_spread_9 : decode cX0_spread 9 = .ok (.goto 6, 3) := dk_167 0 6 (dk_at dksX0_spread_0 9 rfl rfl)
theorem dX0_spread_12 : decode cX0_spread 12 = .ok (.astore_n 3, 1) := dk_78 (dk_at dksX0_spread_0 12 rfl rfl)
theorem dX0_spread_13 : decode cX0_spread 13 = .ok (.iconst 1, 1) := dk_4 (dk_at dksX0_spread_0 13 rfl rfl)
theorem dX0_spread_14 : decode cX0_spread 14 = .ok (.ireturn, 1) := dk_172 (dk_at dksX0_spread_0 14 rfl rfl)
theorem dX0_spread_15 : decode cX0_spread 15 = .ok (.iconst 0, 1) := dk_3 (dk_at dksX0_spread_0 15 rfl rfl)
theorem dX0_spread_16 : decode cX0_spread 16 = .ok (.ireturn, 1) := dk_172 (dk_at dksX0_spread_0 16 rfl rfl)
abbrev cX0_trial : ByteArray := method_34_code
def yX0_trial : MethodName := ⟨RX0, "trial", "(LSaturdayKeep;IZ[J)I"⟩
def dkwX0_trial_0 : List UInt8 := [45, 3, 42, 27, 28, 182, 0, 119, 133, 80, 167, 0, 7, 58, 4, 4, 172, 3, 172]
abbrev dktX0_trial_0 : List UInt8 := dkwX0_trial_0 ++ []
theorem dksX0_trial_0 : cX0_trial.data.toList.drop 0 = dktX0_trial_0 := by decide +kernel
theorem dX0_trial_0 : decode cX0_trial 0 = .ok (.aload_n 3, 1) := dk_45 (dk_at dksX0_trial_0 0 rfl rfl)
theorem dX0_trial_1 : decode cX0_trial 1 = .ok (.iconst 0, 1) := dk_3 (dk_at dksX0_trial_0 1 rfl rfl)
theorem dX0_trial_2 : decode cX0_trial 2 = .ok (.aload_n 0, 1) := dk_42 (dk_at dksX0_trial_0 2 rfl rfl)
theorem dX0_trial_3 : decode cX0_trial 3 = .ok (.iload_n 1, 1) := dk_27 (dk_at dksX0_trial_0 3 rfl rfl)
theorem dX0_trial_4 : decode cX0_trial 4 = .ok (.iload_n 2, 1) := dk_28 (dk_at dksX0_trial_0 4 rfl rfl)
theorem dX0_trial_5 : decode cX0_trial 5 = .ok (.invokevirtual 119, 3) := dk_182 0 119 (dk_at dksX0_trial_0 5 rfl rfl)
theorem dX0_trial_8 : decode cX0_trial 8 = .ok (.i2l, 1) := dk_133 (dk_at dksX0_trial_0 8 rfl rfl)
theorem dX0_trial_9 : decode cX0_trial 9 = .ok (.lastore, 1) := dk_80 (dk_at dksX0_trial_0 9 rfl rfl)
theorem dX0_trial_10 : decode cX0_trial 10 = .ok (.goto 7, 3) := dk_167 0 7 (dk_at dksX0_trial_0 10 rfl rfl)
theorem dX0_trial_13 : decode cX0_trial 13 = .ok (.astore 4, 2) := dk_58 4 (dk_at dksX0_trial_0 13 rfl rfl)
theorem dX0_trial_15 : decode cX0_trial 15 = .ok (.iconst 1, 1) := dk_4 (dk_at dksX0_trial_0 15 rfl rfl)
theorem dX0_trial_16 : decode cX0_trial 16 = .ok (.ireturn, 1) := dk_172 (dk_at dksX0_trial_0 16 rfl rfl)
theorem dX0_trial_17 : decode cX0_trial 17 = .ok (.iconst 0, 1) := dk_3 (dk_at dksX0_trial_0 17 rfl rfl)
theorem dX0_trial_18 : decode cX0_trial 18 = .ok (.ireturn, 1) := dk_172 (dk_at dksX0_trial_0 18 rfl rfl)
abbrev cX0_span : ByteArray := method_35_code
def yX0_span : MethodName := ⟨RX0, "span", "(LSaturdayKeep;IZ[J)I"⟩
def dkwX0_span_0 : List UInt8 := [45, 3, 42, 27, 28, 182, 0, 122, 133, 80, 167, 0, 7, 58, 4, 4, 172, 3, 172]
abbrev dktX0_span_0 : List UInt8 := dkwX0_span_0 ++ []
theorem dksX0_span_0 : cX0_span.data.toList.drop 0 = dktX0_span_0 := by decide +kernel
theorem dX0_span_0 : decode cX0_span 0 = .ok (.aload_n 3, 1) := dk_45 (dk_at dksX0_span_0 0 rfl rfl)
theorem dX0_span_1 : decode cX0_span 1 = .ok (.iconst 0, 1) := dk_3 (dk_at dksX0_span_0 1 rfl rfl)
theorem dX0_span_2 : decode cX0_span 2 = .ok (.aload_n 0, 1) := dk_42 (dk_at dksX0_span_0 2 rfl rfl)
theorem dX0_span_3 : decode cX0_span 3 = .ok (.iload_n 1, 1) := dk_27 (dk_at dksX0_span_0 3 rfl rfl)
theorem dX0_span_4 : decode cX0_span 4 = .ok (.iload_n 2, 1) := dk_28 (dk_at dksX0_span_0 4 rfl rfl)
theorem dX0_span_5 : decode cX0_span 5 = .ok (.invokevirtual 122, 3) := dk_182 0 122 (dk_at dksX0_span_0 5 rfl rfl)
theorem dX0_span_8 : decode cX0_span 8 = .ok (.i2l, 1) := dk_133 (dk_at dksX0_span_0 8 rfl rfl)
theorem dX0_span_9 : decode cX0_span 9 = .ok (.lastore, 1) := dk_80 (dk_at dksX0_span_0 9 rfl rfl)
theorem dX0_span_10 : decode cX0_span 10 = .ok (.goto 7, 3) := dk_167 0 7 (dk_at dksX0_span_0 10 rfl rfl)
theorem dX0_span_13 : decode cX0_span 13 = .ok (.astore 4, 2) := dk_58 4 (dk_at dksX0_span_0 13 rfl rfl)
theorem dX0_span_15 : decode cX0_span 15 = .ok (.iconst 1, 1) := dk_4 (dk_at dksX0_span_0 15 rfl rfl)
theorem dX0_span_16 : decode cX0_span 16 = .ok (.ireturn, 1) := dk_172 (dk_at dksX0_span_0 16 rfl rfl)
theorem dX0_span_17 : decode cX0_span 17 = .ok (.iconst 0, 1) := dk_3 (dk_at dksX0_span_0 17 rfl rfl)
theorem dX0_span_18 : decode cX0_span 18 = .ok (.ireturn, 1) := dk_172 (dk_at dksX0_span_0 18 rfl rfl)
abbrev cX0_led : ByteArray := method_36_code
def yX0_led : MethodName := ⟨RX0, "led", "(LSaturdayKeep;IZ[J)I"⟩
def dkwX0_led_0 : List UInt8 := [45, 3, 42, 27, 28, 182, 0, 125, 133, 80, 167, 0, 7, 58, 4, 4, 172, 3, 172]
abbrev dktX0_led_0 : List UInt8 := dkwX0_led_0 ++ []
theorem dksX0_led_0 : cX0_led.data.toList.drop 0 = dktX0_led_0 := by decide +kernel
theorem dX0_led_0 : decode cX0_led 0 = .ok (.aload_n 3, 1) := dk_45 (dk_at dksX0_led_0 0 rfl rfl)
theorem dX0_led_1 : decode cX0_led 1 = .ok (.iconst 0, 1) := dk_3 (dk_at dksX0_led_0 1 rfl rfl)
theorem dX0_led_2 : decode cX0_led 2 = .ok (.aload_n 0, 1) := dk_42 (dk_at dksX0_led_0 2 rfl rfl)
theorem dX0_led_3 : decode cX0_led 3 = .ok (.iload_n 1, 1) := dk_27 (dk_at dksX0_led_0 3 rfl rfl)
theorem dX0_led_4 : decode cX0_led 4 = .ok (.iload_n 2, 1) := dk_28 (dk_at dksX0_led_0 4 rfl rfl)
theorem dX0_led_5 : decode cX0_led 5 = .ok (.invokevirtual 125, 3) := dk_182 0 125 (dk_at dksX0_led_0 5 rfl rfl)
theorem dX0_led_8 : decode cX0_led 8 = .ok (.i2l, 1) := dk_133 (dk_at dksX0_led_0 8 rfl rfl)
theorem dX0_led_9 : decode cX0_led 9 = .ok (.lastore, 1) := dk_80 (dk_at dksX0_led_0 9 rfl rfl)
theorem dX0_led_10 : decode cX0_led 10 = .ok (.goto 7, 3) := dk_167 0 7 (dk_at dksX0_led_0 10 rfl rfl)
theorem dX0_led_13 : decode cX0_led 13 = .ok (.astore 4, 2) := dk_58 4 (dk_at dksX0_led_0 13 rfl rfl)
theorem dX0_led_15 : decode cX0_led 15 = .ok (.iconst 1, 1) := dk_4 (dk_at dksX0_led_0 15 rfl rfl)
theorem dX0_led_16 : decode cX0_led 16 = .ok (.ireturn, 1) := dk_172 (dk_at dksX0_led_0 16 rfl rfl)
theorem dX0_led_17 : decode cX0_led 17 = .ok (.iconst 0, 1) := dk_3 (dk_at dksX0_led_0 17 rfl rfl)
theorem dX0_led_18 : decode cX0_led 18 = .ok (.ireturn, 1) := dk_172 (dk_at dksX0_led_0 18 rfl rfl)
abbrev cX0_log : ByteArray := method_37_code
def yX0_log : MethodName := ⟨RX0, "log", "(LSaturdayKeep;II[J)I"⟩
def dkwX0_log_0 : List UInt8 := [45, 3, 42, 27, 28, 182, 0, 128, 133, 80, 167, 0, 7, 58, 4, 4, 172, 3, 172]
abbrev dktX0_log_0 : List UInt8 := dkwX0_log_0 ++ []
theorem dksX0_log_0 : cX0_log.data.toList.drop 0 = dktX0_log_0 := by decide +kernel
theorem dX0_log_0 : decode cX0_log 0 = .ok (.aload_n 3, 1) := dk_45 (dk_at dksX0_log_0 0 rfl rfl)
theorem dX0_log_1 : decode cX0_log 1 = .ok (.iconst 0, 1) := dk_3 (dk_at dksX0_log_0 1 rfl rfl)
theorem dX0_log_2 : decode cX0_log 2 = .ok (.aload_n 0, 1) := dk_42 (dk_at dksX0_log_0 2 rfl rfl)
theorem dX0_log_3 : decode cX0_log 3 = .ok (.iload_n 1, 1) := dk_27 (dk_at dksX0_log_0 3 rfl rfl)
theorem dX0_log_4 : decode cX0_log 4 = .ok (.iload_n 2, 1) := dk_28 (dk_at dksX0_log_0 4 rfl rfl)
theorem dX0_log_5 : decode cX0_log 5 = .ok (.invokevirtual 128, 3) := dk_182 0 128 (dk_at dksX0_log_0 5 rfl rfl)
theorem dX0_log_8 : decode cX0_log 8 = .ok (.i2l, 1) := dk_133 (dk_at dksX0_log_0 8 rfl rfl)
theorem dX0_log_9 : decode cX0_log 9 = .ok (.lastore, 1) := dk_80 (dk_at dksX0_log_0 9 rfl rfl)
theorem dX0_log_10 : decode cX0_log 10 = .ok (.goto 7, 3) := dk_167 0 7 (dk_at dksX0_log_0 10 rfl rfl)
theorem dX0_log_13 : decode cX0_log 13 = .ok (.astore 4, 2) := dk_58 4 (dk_at dksX0_log_0 13 rfl rfl)
theorem dX0_log_15 : decode cX0_log 15 = .ok (.iconst 1, 1) := dk_4 (dk_at dksX0_log_0 15 rfl rfl)
theorem dX0_log_16 : decode cX0_log 16 = .ok (.ireturn, 1) := dk_172 (dk_at dksX0_log_0 16 rfl rfl)
theorem dX0_log_17 : decode cX0_log 17 = .ok (.iconst 0, 1) := dk_3 (dk_at dksX0_log_0 17 rfl rfl)
theorem dX0_log_18 : decode cX0_log 18 = .ok (.ireturn, 1) := dk_172 (dk_at dksX0_log_0 18 rfl rfl)
theorem q106 : (Jvm.Cond.initialized "SaturdayKeepLaw") ∈ lw_all := lw_g (lw_at lw_m1 0 rfl) rfl
theorem q148 : (Jvm.Cond.classLink "SaturdayKeepLaw" (8 : Nat) "SaturdayKeep") ∈ lw_all := lw_g (lw_at lw_m1 42 rfl) rfl
theorem q150 : (Jvm.Cond.methodLink "SaturdayKeepLaw" (131 : Nat) ({ cls := "SaturdayKeep", name := "<init>", desc := "()V" } : Jvm.MethodName)) ∈ lw_all := lw_g (lw_at lw_m1 44 rfl) rfl
theorem q402 : (Jvm.Cond.methodLink "SaturdayKeepLaw" (135 : Nat) ({ cls := "SaturdayKeep", name := "feed", desc := "(IIIII)I" } : Jvm.MethodName)) ∈ lw_all := lw_g (lw_at lw_m2 56 rfl) rfl
theorem q410 : (Jvm.Cond.methodLink "SaturdayKeepLaw" (140 : Nat) ({ cls := "SaturdayKeep", name := "end", desc := "(I)Z" } : Jvm.MethodName)) ∈ lw_all := lw_g (lw_at lw_m2 64 rfl) rfl
theorem q418 : (Jvm.Cond.methodLink "SaturdayKeepLaw" (157 : Nat) ({ cls := "SaturdayKeep", name := "fault", desc := "()I" } : Jvm.MethodName)) ∈ lw_all := lw_g (lw_at lw_m2 72 rfl) rfl
theorem q422 : (Jvm.Cond.methodLink "SaturdayKeepLaw" (211 : Nat) ({ cls := "SaturdayKeep", name := "both", desc := "()I" } : Jvm.MethodName)) ∈ lw_all := lw_g (lw_at lw_m2 76 rfl) rfl
theorem q430 : (Jvm.Cond.methodLink "SaturdayKeepLaw" (221 : Nat) ({ cls := "SaturdayKeep", name := "gone", desc := "()I" } : Jvm.MethodName)) ∈ lw_all := lw_g (lw_at lw_m2 84 rfl) rfl
theorem q563 : (Jvm.Cond.methodLink "SaturdayKeepLaw" (228 : Nat) ({ cls := "SaturdayKeep", name := "odds", desc := "()I" } : Jvm.MethodName)) ∈ lw_all := lw_g (lw_at lw_m2 217 rfl) rfl
theorem q593 : (Jvm.Cond.methodLink "SaturdayKeepLaw" (232 : Nat) ({ cls := "SaturdayKeep", name := "send", desc := "()I" } : Jvm.MethodName)) ∈ lw_all := lw_g (lw_at lw_m3 7 rfl) rfl
theorem q597 : (Jvm.Cond.methodLink "SaturdayKeepLaw" (239 : Nat) ({ cls := "SaturdayKeep", name := "mend", desc := "()I" } : Jvm.MethodName)) ∈ lw_all := lw_g (lw_at lw_m3 11 rfl) rfl
theorem q605 : (Jvm.Cond.methodLink "SaturdayKeepLaw" (243 : Nat) ({ cls := "SaturdayKeep", name := "shut", desc := "()I" } : Jvm.MethodName)) ∈ lw_all := lw_g (lw_at lw_m3 19 rfl) rfl
theorem q613 : (Jvm.Cond.methodLink "SaturdayKeepLaw" (247 : Nat) ({ cls := "SaturdayKeep", name := "quiet", desc := "()I" } : Jvm.MethodName)) ∈ lw_all := lw_g (lw_at lw_m3 27 rfl) rfl
theorem q617 : (Jvm.Cond.methodLink "SaturdayKeepLaw" (251 : Nat) ({ cls := "SaturdayKeep", name := "best", desc := "()I" } : Jvm.MethodName)) ∈ lw_all := lw_g (lw_at lw_m3 31 rfl) rfl
theorem q629 : (Jvm.Cond.methodLink "SaturdayKeepLaw" (297 : Nat) ({ cls := "SaturdayKeep", name := "locked", desc := "()I" } : Jvm.MethodName)) ∈ lw_all := lw_g (lw_at lw_m3 43 rfl) rfl
theorem q635 : (Jvm.Cond.methodLink "SaturdayKeepLaw" (310 : Nat) ({ cls := "SaturdayKeep", name := "mutual", desc := "()I" } : Jvm.MethodName)) ∈ lw_all := lw_g (lw_at lw_m3 49 rfl) rfl
theorem q639 : (Jvm.Cond.methodLink "SaturdayKeepLaw" (255 : Nat) ({ cls := "SaturdayKeep", name := "lodge", desc := "(I)I" } : Jvm.MethodName)) ∈ lw_all := lw_g (lw_at lw_m3 53 rfl) rfl
theorem q682 : (Jvm.Cond.methodLink "SaturdayKeepLaw" (275 : Nat) ({ cls := "SaturdayKeep", name := "keenest", desc := "()I" } : Jvm.MethodName)) ∈ lw_all := lw_g (lw_at lw_m3 96 rfl) rfl
theorem q686 : (Jvm.Cond.methodLink "SaturdayKeepLaw" (279 : Nat) ({ cls := "SaturdayKeep", name := "alike", desc := "()I" } : Jvm.MethodName)) ∈ lw_all := lw_g (lw_at lw_m3 100 rfl) rfl
theorem q690 : (Jvm.Cond.methodLink "SaturdayKeepLaw" (286 : Nat) ({ cls := "SaturdayKeep", name := "well", desc := "()I" } : Jvm.MethodName)) ∈ lw_all := lw_g (lw_at lw_m3 104 rfl) rfl
theorem q698 : (Jvm.Cond.methodLink "SaturdayKeepLaw" (293 : Nat) ({ cls := "SaturdayKeep", name := "crowd", desc := "()I" } : Jvm.MethodName)) ∈ lw_all := lw_g (lw_at lw_m3 112 rfl) rfl
theorem q702 : (Jvm.Cond.methodLink "SaturdayKeepLaw" (326 : Nat) ({ cls := "SaturdayKeep", name := "seed", desc := "(I)I" } : Jvm.MethodName)) ∈ lw_all := lw_g (lw_at lw_m3 116 rfl) rfl
theorem q706 : (Jvm.Cond.methodLink "SaturdayKeepLaw" (330 : Nat) ({ cls := "SaturdayKeep", name := "undo", desc := "()Z" } : Jvm.MethodName)) ∈ lw_all := lw_g (lw_at lw_m3 120 rfl) rfl
theorem q724 : (Jvm.Cond.methodLink "SaturdayKeepLaw" (335 : Nat) ({ cls := "SaturdayKeep", name := "image", desc := "()V" } : Jvm.MethodName)) ∈ lw_all := lw_g (lw_at lw_m3 138 rfl) rfl
theorem q728 : (Jvm.Cond.methodLink "SaturdayKeepLaw" (339 : Nat) ({ cls := "SaturdayKeep", name := "back", desc := "()Z" } : Jvm.MethodName)) ∈ lw_all := lw_g (lw_at lw_m3 142 rfl) rfl
theorem q736 : (Jvm.Cond.methodLink "SaturdayKeepLaw" (343 : Nat) ({ cls := "SaturdayKeep", name := "count", desc := "(I)I" } : Jvm.MethodName)) ∈ lw_all := lw_g (lw_at lw_m3 150 rfl) rfl
theorem q749 : (Jvm.Cond.methodLink "SaturdayKeepLaw" (145 : Nat) ({ cls := "SaturdayKeepLaw", name := "house", desc := "(LSaturdayKeep;[J)I" } : Jvm.MethodName)) ∈ lw_all := lw_g (lw_at lw_m3 163 rfl) rfl
theorem q750 : (Jvm.Cond.static ({ cls := "SaturdayKeepLaw", name := "house", desc := "(LSaturdayKeep;[J)I" } : Jvm.MethodName)) ∈ lw_all := lw_g (lw_at lw_m3 164 rfl) rfl
theorem q751 : (Jvm.Cond.codeWith ({ cls := "SaturdayKeepLaw", name := "house", desc := "(LSaturdayKeep;[J)I" } : Jvm.MethodName) method_3_code (3 : Nat) (Option.some Jvm.ClassFile.FieldType.int) [((0 : Nat), (8 : Nat), (11 : Nat), (13 : Nat)), ((0 : Nat), (8 : Nat), (14 : Nat), (15 : Nat))]) ∈ lw_all := lw_g (lw_at lw_m3 165 rfl) rfl
theorem q752 : (Jvm.Cond.classLink "SaturdayKeepLaw" (13 : Nat) "java/lang/IllegalArgumentException") ∈ lw_all := lw_g (lw_at lw_m3 166 rfl) rfl
theorem q753 : (Jvm.Cond.classLink "SaturdayKeepLaw" (15 : Nat) "java/lang/UnsupportedOperationException") ∈ lw_all := lw_g (lw_at lw_m3 167 rfl) rfl
theorem q754 : (Jvm.Cond.methodLink "SaturdayKeepLaw" (7 : Nat) ({ cls := "SaturdayKeep", name := "house", desc := "()I" } : Jvm.MethodName)) ∈ lw_all := lw_g (lw_at lw_m3 168 rfl) rfl
theorem q1296 : (Jvm.Cond.methodLink "SaturdayKeepLaw" (154 : Nat) ({ cls := "SaturdayKeepLaw", name := "law", desc := "(LSaturdayKeep;[J)I" } : Jvm.MethodName)) ∈ lw_all := lw_g (lw_at lw_m5 230 rfl) rfl
theorem q1297 : (Jvm.Cond.static ({ cls := "SaturdayKeepLaw", name := "law", desc := "(LSaturdayKeep;[J)I" } : Jvm.MethodName)) ∈ lw_all := lw_g (lw_at lw_m5 231 rfl) rfl
theorem q1298 : (Jvm.Cond.codeWith ({ cls := "SaturdayKeepLaw", name := "law", desc := "(LSaturdayKeep;[J)I" } : Jvm.MethodName) method_4_code (3 : Nat) (Option.some Jvm.ClassFile.FieldType.int) [((0 : Nat), (8 : Nat), (11 : Nat), (13 : Nat))]) ∈ lw_all := lw_g (lw_at lw_m5 232 rfl) rfl
theorem q1299 : (Jvm.Cond.methodLink "SaturdayKeepLaw" (17 : Nat) ({ cls := "SaturdayKeep", name := "law", desc := "()I" } : Jvm.MethodName)) ∈ lw_all := lw_g (lw_at lw_m5 233 rfl) rfl
theorem q1525 : (Jvm.Cond.methodLink "SaturdayKeepLaw" (161 : Nat) ({ cls := "SaturdayKeepLaw", name := "guest", desc := "(LSaturdayKeep;II[J)I" } : Jvm.MethodName)) ∈ lw_all := lw_g (lw_at lw_m6 219 rfl) rfl
theorem q1526 : (Jvm.Cond.static ({ cls := "SaturdayKeepLaw", name := "guest", desc := "(LSaturdayKeep;II[J)I" } : Jvm.MethodName)) ∈ lw_all := lw_g (lw_at lw_m6 220 rfl) rfl
theorem q1527 : (Jvm.Cond.codeWith ({ cls := "SaturdayKeepLaw", name := "guest", desc := "(LSaturdayKeep;II[J)I" } : Jvm.MethodName) method_5_code (5 : Nat) (Option.some Jvm.ClassFile.FieldType.int) [((0 : Nat), (10 : Nat), (13 : Nat), (24 : Nat)), ((0 : Nat), (10 : Nat), (17 : Nat), (26 : Nat))]) ∈ lw_all := lw_g (lw_at lw_m6 221 rfl) rfl
theorem q1528 : (Jvm.Cond.classLink "SaturdayKeepLaw" (24 : Nat) "java/lang/IndexOutOfBoundsException") ∈ lw_all := lw_g (lw_at lw_m6 222 rfl) rfl
theorem q1547 : (Jvm.Cond.classLink "SaturdayKeepLaw" (26 : Nat) "java/util/NoSuchElementException") ∈ lw_all := lw_g (lw_at lw_m7 1 rfl) rfl
theorem q1548 : (Jvm.Cond.methodLink "SaturdayKeepLaw" (20 : Nat) ({ cls := "SaturdayKeep", name := "guest", desc := "(II)I" } : Jvm.MethodName)) ∈ lw_all := lw_g (lw_at lw_m7 2 rfl) rfl
theorem q1596 : (Jvm.Cond.methodLink "SaturdayKeepLaw" (165 : Nat) ({ cls := "SaturdayKeepLaw", name := "room", desc := "(LSaturdayKeep;II[J)I" } : Jvm.MethodName)) ∈ lw_all := lw_g (lw_at lw_m7 50 rfl) rfl
theorem q1597 : (Jvm.Cond.static ({ cls := "SaturdayKeepLaw", name := "room", desc := "(LSaturdayKeep;II[J)I" } : Jvm.MethodName)) ∈ lw_all := lw_g (lw_at lw_m7 51 rfl) rfl
theorem q1598 : (Jvm.Cond.codeWith ({ cls := "SaturdayKeepLaw", name := "room", desc := "(LSaturdayKeep;II[J)I" } : Jvm.MethodName) method_6_code (5 : Nat) (Option.some Jvm.ClassFile.FieldType.int) [((0 : Nat), (10 : Nat), (13 : Nat), (24 : Nat)), ((0 : Nat), (10 : Nat), (17 : Nat), (26 : Nat))]) ∈ lw_all := lw_g (lw_at lw_m7 52 rfl) rfl
theorem q1599 : (Jvm.Cond.methodLink "SaturdayKeepLaw" (28 : Nat) ({ cls := "SaturdayKeep", name := "room", desc := "(II)I" } : Jvm.MethodName)) ∈ lw_all := lw_g (lw_at lw_m7 53 rfl) rfl
theorem q1606 : (Jvm.Cond.methodLink "SaturdayKeepLaw" (168 : Nat) ({ cls := "SaturdayKeepLaw", name := "calendar", desc := "(LSaturdayKeep;IZ[J)I" } : Jvm.MethodName)) ∈ lw_all := lw_g (lw_at lw_m7 60 rfl) rfl
theorem q1607 : (Jvm.Cond.static ({ cls := "SaturdayKeepLaw", name := "calendar", desc := "(LSaturdayKeep;IZ[J)I" } : Jvm.MethodName)) ∈ lw_all := lw_g (lw_at lw_m7 61 rfl) rfl
theorem q1608 : (Jvm.Cond.codeWith ({ cls := "SaturdayKeepLaw", name := "calendar", desc := "(LSaturdayKeep;IZ[J)I" } : Jvm.MethodName) method_7_code (5 : Nat) (Option.some Jvm.ClassFile.FieldType.int) [((0 : Nat), (10 : Nat), (13 : Nat), (24 : Nat))]) ∈ lw_all := lw_g (lw_at lw_m7 62 rfl) rfl
theorem q1609 : (Jvm.Cond.methodLink "SaturdayKeepLaw" (31 : Nat) ({ cls := "SaturdayKeep", name := "calendar", desc := "(IZ)I" } : Jvm.MethodName)) ∈ lw_all := lw_g (lw_at lw_m7 63 rfl) rfl
theorem q1620 : (Jvm.Cond.methodLink "SaturdayKeepLaw" (172 : Nat) ({ cls := "SaturdayKeepLaw", name := "saturday", desc := "(LSaturdayKeep;II[J)I" } : Jvm.MethodName)) ∈ lw_all := lw_g (lw_at lw_m7 74 rfl) rfl
theorem q1621 : (Jvm.Cond.static ({ cls := "SaturdayKeepLaw", name := "saturday", desc := "(LSaturdayKeep;II[J)I" } : Jvm.MethodName)) ∈ lw_all := lw_g (lw_at lw_m7 75 rfl) rfl
theorem q1622 : (Jvm.Cond.codeWith ({ cls := "SaturdayKeepLaw", name := "saturday", desc := "(LSaturdayKeep;II[J)I" } : Jvm.MethodName) method_8_code (5 : Nat) (Option.some Jvm.ClassFile.FieldType.int) [((0 : Nat), (17 : Nat), (20 : Nat), (24 : Nat)), ((0 : Nat), (17 : Nat), (24 : Nat), (13 : Nat))]) ∈ lw_all := lw_g (lw_at lw_m7 76 rfl) rfl
theorem q1623 : (Jvm.Cond.methodLink "SaturdayKeepLaw" (35 : Nat) ({ cls := "SaturdayKeep", name := "saturday", desc := "(II)Z" } : Jvm.MethodName)) ∈ lw_all := lw_g (lw_at lw_m7 77 rfl) rfl
theorem q1630 : (Jvm.Cond.methodLink "SaturdayKeepLaw" (175 : Nat) ({ cls := "SaturdayKeepLaw", name := "go", desc := "(LSaturdayKeep;II[J)I" } : Jvm.MethodName)) ∈ lw_all := lw_g (lw_at lw_m7 84 rfl) rfl
theorem q1631 : (Jvm.Cond.static ({ cls := "SaturdayKeepLaw", name := "go", desc := "(LSaturdayKeep;II[J)I" } : Jvm.MethodName)) ∈ lw_all := lw_g (lw_at lw_m7 85 rfl) rfl
theorem q1632 : (Jvm.Cond.codeWith ({ cls := "SaturdayKeepLaw", name := "go", desc := "(LSaturdayKeep;II[J)I" } : Jvm.MethodName) method_9_code (5 : Nat) (Option.some Jvm.ClassFile.FieldType.int) [((0 : Nat), (10 : Nat), (13 : Nat), (24 : Nat))]) ∈ lw_all := lw_g (lw_at lw_m7 86 rfl) rfl
theorem q1633 : (Jvm.Cond.methodLink "SaturdayKeepLaw" (39 : Nat) ({ cls := "SaturdayKeep", name := "go", desc := "(II)I" } : Jvm.MethodName)) ∈ lw_all := lw_g (lw_at lw_m7 87 rfl) rfl
theorem q1641 : (Jvm.Cond.methodLink "SaturdayKeepLaw" (178 : Nat) ({ cls := "SaturdayKeepLaw", name := "come", desc := "(LSaturdayKeep;IZ[J)I" } : Jvm.MethodName)) ∈ lw_all := lw_g (lw_at lw_m7 95 rfl) rfl
theorem q1642 : (Jvm.Cond.static ({ cls := "SaturdayKeepLaw", name := "come", desc := "(LSaturdayKeep;IZ[J)I" } : Jvm.MethodName)) ∈ lw_all := lw_g (lw_at lw_m7 96 rfl) rfl
theorem q1643 : (Jvm.Cond.codeWith ({ cls := "SaturdayKeepLaw", name := "come", desc := "(LSaturdayKeep;IZ[J)I" } : Jvm.MethodName) method_10_code (5 : Nat) (Option.some Jvm.ClassFile.FieldType.int) [((0 : Nat), (17 : Nat), (20 : Nat), (24 : Nat))]) ∈ lw_all := lw_g (lw_at lw_m7 97 rfl) rfl
theorem q1644 : (Jvm.Cond.methodLink "SaturdayKeepLaw" (42 : Nat) ({ cls := "SaturdayKeep", name := "come", desc := "(IZ)Z" } : Jvm.MethodName)) ∈ lw_all := lw_g (lw_at lw_m7 98 rfl) rfl
theorem q1648 : (Jvm.Cond.methodLink "SaturdayKeepLaw" (181 : Nat) ({ cls := "SaturdayKeepLaw", name := "key", desc := "(LSaturdayKeep;IZ[J)I" } : Jvm.MethodName)) ∈ lw_all := lw_g (lw_at lw_m7 102 rfl) rfl
theorem q1649 : (Jvm.Cond.static ({ cls := "SaturdayKeepLaw", name := "key", desc := "(LSaturdayKeep;IZ[J)I" } : Jvm.MethodName)) ∈ lw_all := lw_g (lw_at lw_m7 103 rfl) rfl
theorem q1650 : (Jvm.Cond.codeWith ({ cls := "SaturdayKeepLaw", name := "key", desc := "(LSaturdayKeep;IZ[J)I" } : Jvm.MethodName) method_11_code (5 : Nat) (Option.some Jvm.ClassFile.FieldType.int) [((0 : Nat), (17 : Nat), (20 : Nat), (24 : Nat))]) ∈ lw_all := lw_g (lw_at lw_m7 104 rfl) rfl
theorem q1651 : (Jvm.Cond.methodLink "SaturdayKeepLaw" (46 : Nat) ({ cls := "SaturdayKeep", name := "key", desc := "(IZ)Z" } : Jvm.MethodName)) ∈ lw_all := lw_g (lw_at lw_m7 105 rfl) rfl
theorem q1655 : (Jvm.Cond.methodLink "SaturdayKeepLaw" (184 : Nat) ({ cls := "SaturdayKeepLaw", name := "hole", desc := "(LSaturdayKeep;IIZ[J)I" } : Jvm.MethodName)) ∈ lw_all := lw_g (lw_at lw_m7 109 rfl) rfl
theorem q1656 : (Jvm.Cond.static ({ cls := "SaturdayKeepLaw", name := "hole", desc := "(LSaturdayKeep;IIZ[J)I" } : Jvm.MethodName)) ∈ lw_all := lw_g (lw_at lw_m7 110 rfl) rfl
theorem q1657 : (Jvm.Cond.codeWith ({ cls := "SaturdayKeepLaw", name := "hole", desc := "(LSaturdayKeep;IIZ[J)I" } : Jvm.MethodName) method_12_code (6 : Nat) (Option.some Jvm.ClassFile.FieldType.int) [((0 : Nat), (19 : Nat), (22 : Nat), (24 : Nat)), ((0 : Nat), (19 : Nat), (26 : Nat), (13 : Nat))]) ∈ lw_all := lw_g (lw_at lw_m7 111 rfl) rfl
theorem q1658 : (Jvm.Cond.methodLink "SaturdayKeepLaw" (49 : Nat) ({ cls := "SaturdayKeep", name := "hole", desc := "(IIZ)Z" } : Jvm.MethodName)) ∈ lw_all := lw_g (lw_at lw_m7 112 rfl) rfl
theorem q1662 : (Jvm.Cond.methodLink "SaturdayKeepLaw" (188 : Nat) ({ cls := "SaturdayKeepLaw", name := "bath", desc := "(LSaturdayKeep;I[J)I" } : Jvm.MethodName)) ∈ lw_all := lw_g (lw_at lw_m7 116 rfl) rfl
theorem q1663 : (Jvm.Cond.static ({ cls := "SaturdayKeepLaw", name := "bath", desc := "(LSaturdayKeep;I[J)I" } : Jvm.MethodName)) ∈ lw_all := lw_g (lw_at lw_m7 117 rfl) rfl
theorem q1664 : (Jvm.Cond.codeWith ({ cls := "SaturdayKeepLaw", name := "bath", desc := "(LSaturdayKeep;I[J)I" } : Jvm.MethodName) method_13_code (4 : Nat) (Option.some Jvm.ClassFile.FieldType.int) [((0 : Nat), (9 : Nat), (12 : Nat), (24 : Nat))]) ∈ lw_all := lw_g (lw_at lw_m7 118 rfl) rfl
theorem q1665 : (Jvm.Cond.methodLink "SaturdayKeepLaw" (53 : Nat) ({ cls := "SaturdayKeep", name := "bath", desc := "(I)I" } : Jvm.MethodName)) ∈ lw_all := lw_g (lw_at lw_m7 119 rfl) rfl
theorem q1669 : (Jvm.Cond.methodLink "SaturdayKeepLaw" (192 : Nat) ({ cls := "SaturdayKeepLaw", name := "keep", desc := "(LSaturdayKeep;I[J)I" } : Jvm.MethodName)) ∈ lw_all := lw_g (lw_at lw_m7 123 rfl) rfl
theorem q1670 : (Jvm.Cond.static ({ cls := "SaturdayKeepLaw", name := "keep", desc := "(LSaturdayKeep;I[J)I" } : Jvm.MethodName)) ∈ lw_all := lw_g (lw_at lw_m7 124 rfl) rfl
theorem q1671 : (Jvm.Cond.codeWith ({ cls := "SaturdayKeepLaw", name := "keep", desc := "(LSaturdayKeep;I[J)I" } : Jvm.MethodName) method_14_code (4 : Nat) (Option.some Jvm.ClassFile.FieldType.int) [((0 : Nat), (9 : Nat), (12 : Nat), (24 : Nat))]) ∈ lw_all := lw_g (lw_at lw_m7 125 rfl) rfl
theorem q1672 : (Jvm.Cond.methodLink "SaturdayKeepLaw" (57 : Nat) ({ cls := "SaturdayKeep", name := "keep", desc := "(I)I" } : Jvm.MethodName)) ∈ lw_all := lw_g (lw_at lw_m7 126 rfl) rfl
theorem q1676 : (Jvm.Cond.methodLink "SaturdayKeepLaw" (195 : Nat) ({ cls := "SaturdayKeepLaw", name := "masons", desc := "(LSaturdayKeep;I[J)I" } : Jvm.MethodName)) ∈ lw_all := lw_g (lw_at lw_m7 130 rfl) rfl
theorem q1677 : (Jvm.Cond.static ({ cls := "SaturdayKeepLaw", name := "masons", desc := "(LSaturdayKeep;I[J)I" } : Jvm.MethodName)) ∈ lw_all := lw_g (lw_at lw_m7 131 rfl) rfl
theorem q1678 : (Jvm.Cond.codeWith ({ cls := "SaturdayKeepLaw", name := "masons", desc := "(LSaturdayKeep;I[J)I" } : Jvm.MethodName) method_15_code (4 : Nat) (Option.some Jvm.ClassFile.FieldType.int) [((0 : Nat), (9 : Nat), (12 : Nat), (13 : Nat))]) ∈ lw_all := lw_g (lw_at lw_m7 132 rfl) rfl
theorem q1679 : (Jvm.Cond.methodLink "SaturdayKeepLaw" (60 : Nat) ({ cls := "SaturdayKeep", name := "masons", desc := "(I)I" } : Jvm.MethodName)) ∈ lw_all := lw_g (lw_at lw_m7 133 rfl) rfl
theorem q1683 : (Jvm.Cond.methodLink "SaturdayKeepLaw" (198 : Nat) ({ cls := "SaturdayKeepLaw", name := "buy", desc := "(LSaturdayKeep;I[J)I" } : Jvm.MethodName)) ∈ lw_all := lw_g (lw_at lw_m7 137 rfl) rfl
theorem q1684 : (Jvm.Cond.static ({ cls := "SaturdayKeepLaw", name := "buy", desc := "(LSaturdayKeep;I[J)I" } : Jvm.MethodName)) ∈ lw_all := lw_g (lw_at lw_m7 138 rfl) rfl
theorem q1685 : (Jvm.Cond.codeWith ({ cls := "SaturdayKeepLaw", name := "buy", desc := "(LSaturdayKeep;I[J)I" } : Jvm.MethodName) method_16_code (4 : Nat) (Option.some Jvm.ClassFile.FieldType.int) [((0 : Nat), (9 : Nat), (12 : Nat), (13 : Nat))]) ∈ lw_all := lw_g (lw_at lw_m7 139 rfl) rfl
theorem q1686 : (Jvm.Cond.methodLink "SaturdayKeepLaw" (63 : Nat) ({ cls := "SaturdayKeep", name := "buy", desc := "(I)I" } : Jvm.MethodName)) ∈ lw_all := lw_g (lw_at lw_m7 140 rfl) rfl
theorem q1691 : (Jvm.Cond.methodLink "SaturdayKeepLaw" (201 : Nat) ({ cls := "SaturdayKeepLaw", name := "calm", desc := "(LSaturdayKeep;I[J)I" } : Jvm.MethodName)) ∈ lw_all := lw_g (lw_at lw_m7 145 rfl) rfl
theorem q1692 : (Jvm.Cond.static ({ cls := "SaturdayKeepLaw", name := "calm", desc := "(LSaturdayKeep;I[J)I" } : Jvm.MethodName)) ∈ lw_all := lw_g (lw_at lw_m7 146 rfl) rfl
theorem q1693 : (Jvm.Cond.codeWith ({ cls := "SaturdayKeepLaw", name := "calm", desc := "(LSaturdayKeep;I[J)I" } : Jvm.MethodName) method_17_code (4 : Nat) (Option.some Jvm.ClassFile.FieldType.int) [((0 : Nat), (9 : Nat), (12 : Nat), (24 : Nat))]) ∈ lw_all := lw_g (lw_at lw_m7 147 rfl) rfl
theorem q1694 : (Jvm.Cond.methodLink "SaturdayKeepLaw" (66 : Nat) ({ cls := "SaturdayKeep", name := "calm", desc := "(I)I" } : Jvm.MethodName)) ∈ lw_all := lw_g (lw_at lw_m7 148 rfl) rfl
theorem q1698 : (Jvm.Cond.methodLink "SaturdayKeepLaw" (204 : Nat) ({ cls := "SaturdayKeepLaw", name := "days", desc := "(LSaturdayKeep;I[J)I" } : Jvm.MethodName)) ∈ lw_all := lw_g (lw_at lw_m7 152 rfl) rfl
theorem q1699 : (Jvm.Cond.static ({ cls := "SaturdayKeepLaw", name := "days", desc := "(LSaturdayKeep;I[J)I" } : Jvm.MethodName)) ∈ lw_all := lw_g (lw_at lw_m7 153 rfl) rfl
theorem q1700 : (Jvm.Cond.codeWith ({ cls := "SaturdayKeepLaw", name := "days", desc := "(LSaturdayKeep;I[J)I" } : Jvm.MethodName) method_18_code (4 : Nat) (Option.some Jvm.ClassFile.FieldType.int) [((0 : Nat), (9 : Nat), (12 : Nat), (13 : Nat))]) ∈ lw_all := lw_g (lw_at lw_m7 154 rfl) rfl
theorem q1701 : (Jvm.Cond.methodLink "SaturdayKeepLaw" (69 : Nat) ({ cls := "SaturdayKeep", name := "days", desc := "(I)I" } : Jvm.MethodName)) ∈ lw_all := lw_g (lw_at lw_m7 155 rfl) rfl
theorem q1721 : (Jvm.Cond.methodLink "SaturdayKeepLaw" (207 : Nat) ({ cls := "SaturdayKeepLaw", name := "ahead", desc := "(LSaturdayKeep;III[J)I" } : Jvm.MethodName)) ∈ lw_all := lw_g (lw_at lw_m7 175 rfl) rfl
theorem q1722 : (Jvm.Cond.static ({ cls := "SaturdayKeepLaw", name := "ahead", desc := "(LSaturdayKeep;III[J)I" } : Jvm.MethodName)) ∈ lw_all := lw_g (lw_at lw_m7 176 rfl) rfl
theorem q1723 : (Jvm.Cond.codeWith ({ cls := "SaturdayKeepLaw", name := "ahead", desc := "(LSaturdayKeep;III[J)I" } : Jvm.MethodName) method_19_code (6 : Nat) (Option.some Jvm.ClassFile.FieldType.int) [((0 : Nat), (12 : Nat), (15 : Nat), (24 : Nat)), ((0 : Nat), (12 : Nat), (19 : Nat), (13 : Nat)), ((0 : Nat), (12 : Nat), (23 : Nat), (26 : Nat))]) ∈ lw_all := lw_g (lw_at lw_m7 177 rfl) rfl
theorem q1724 : (Jvm.Cond.methodLink "SaturdayKeepLaw" (72 : Nat) ({ cls := "SaturdayKeep", name := "ahead", desc := "(III)I" } : Jvm.MethodName)) ∈ lw_all := lw_g (lw_at lw_m7 178 rfl) rfl
theorem q1732 : (Jvm.Cond.methodLink "SaturdayKeepLaw" (215 : Nat) ({ cls := "SaturdayKeepLaw", name := "saturdays", desc := "(LSaturdayKeep;I[J)I" } : Jvm.MethodName)) ∈ lw_all := lw_g (lw_at lw_m7 186 rfl) rfl
theorem q1733 : (Jvm.Cond.static ({ cls := "SaturdayKeepLaw", name := "saturdays", desc := "(LSaturdayKeep;I[J)I" } : Jvm.MethodName)) ∈ lw_all := lw_g (lw_at lw_m7 187 rfl) rfl
theorem q1734 : (Jvm.Cond.codeWith ({ cls := "SaturdayKeepLaw", name := "saturdays", desc := "(LSaturdayKeep;I[J)I" } : Jvm.MethodName) method_20_code (4 : Nat) (Option.some Jvm.ClassFile.FieldType.int) [((0 : Nat), (9 : Nat), (12 : Nat), (13 : Nat))]) ∈ lw_all := lw_g (lw_at lw_m7 188 rfl) rfl
theorem q1735 : (Jvm.Cond.methodLink "SaturdayKeepLaw" (76 : Nat) ({ cls := "SaturdayKeep", name := "saturdays", desc := "(I)I" } : Jvm.MethodName)) ∈ lw_all := lw_g (lw_at lw_m7 189 rfl) rfl
theorem q1739 : (Jvm.Cond.methodLink "SaturdayKeepLaw" (218 : Nat) ({ cls := "SaturdayKeepLaw", name := "first", desc := "(LSaturdayKeep;II[J)I" } : Jvm.MethodName)) ∈ lw_all := lw_g (lw_at lw_m7 193 rfl) rfl
theorem q1740 : (Jvm.Cond.static ({ cls := "SaturdayKeepLaw", name := "first", desc := "(LSaturdayKeep;II[J)I" } : Jvm.MethodName)) ∈ lw_all := lw_g (lw_at lw_m7 194 rfl) rfl
theorem q1741 : (Jvm.Cond.codeWith ({ cls := "SaturdayKeepLaw", name := "first", desc := "(LSaturdayKeep;II[J)I" } : Jvm.MethodName) method_21_code (5 : Nat) (Option.some Jvm.ClassFile.FieldType.int) [((0 : Nat), (10 : Nat), (13 : Nat), (24 : Nat)), ((0 : Nat), (10 : Nat), (17 : Nat), (13 : Nat))]) ∈ lw_all := lw_g (lw_at lw_m7 195 rfl) rfl
theorem q1742 : (Jvm.Cond.methodLink "SaturdayKeepLaw" (79 : Nat) ({ cls := "SaturdayKeep", name := "first", desc := "(II)I" } : Jvm.MethodName)) ∈ lw_all := lw_g (lw_at lw_m7 196 rfl) rfl
theorem q1746 : (Jvm.Cond.methodLink "SaturdayKeepLaw" (225 : Nat) ({ cls := "SaturdayKeepLaw", name := "stand", desc := "(LSaturdayKeep;I[J)I" } : Jvm.MethodName)) ∈ lw_all := lw_g (lw_at lw_m7 200 rfl) rfl
theorem q1747 : (Jvm.Cond.static ({ cls := "SaturdayKeepLaw", name := "stand", desc := "(LSaturdayKeep;I[J)I" } : Jvm.MethodName)) ∈ lw_all := lw_g (lw_at lw_m7 201 rfl) rfl
theorem q1748 : (Jvm.Cond.codeWith ({ cls := "SaturdayKeepLaw", name := "stand", desc := "(LSaturdayKeep;I[J)I" } : Jvm.MethodName) method_22_code (4 : Nat) (Option.some Jvm.ClassFile.FieldType.int) [((0 : Nat), (9 : Nat), (12 : Nat), (13 : Nat))]) ∈ lw_all := lw_g (lw_at lw_m7 202 rfl) rfl
theorem q1749 : (Jvm.Cond.methodLink "SaturdayKeepLaw" (82 : Nat) ({ cls := "SaturdayKeep", name := "stand", desc := "(I)I" } : Jvm.MethodName)) ∈ lw_all := lw_g (lw_at lw_m7 203 rfl) rfl
theorem q1753 : (Jvm.Cond.methodLink "SaturdayKeepLaw" (236 : Nat) ({ cls := "SaturdayKeepLaw", name := "sent", desc := "(LSaturdayKeep;I[J)I" } : Jvm.MethodName)) ∈ lw_all := lw_g (lw_at lw_m7 207 rfl) rfl
theorem q1754 : (Jvm.Cond.static ({ cls := "SaturdayKeepLaw", name := "sent", desc := "(LSaturdayKeep;I[J)I" } : Jvm.MethodName)) ∈ lw_all := lw_g (lw_at lw_m7 208 rfl) rfl
theorem q1755 : (Jvm.Cond.codeWith ({ cls := "SaturdayKeepLaw", name := "sent", desc := "(LSaturdayKeep;I[J)I" } : Jvm.MethodName) method_23_code (4 : Nat) (Option.some Jvm.ClassFile.FieldType.int) [((0 : Nat), (9 : Nat), (12 : Nat), (13 : Nat))]) ∈ lw_all := lw_g (lw_at lw_m7 209 rfl) rfl
theorem q1756 : (Jvm.Cond.methodLink "SaturdayKeepLaw" (85 : Nat) ({ cls := "SaturdayKeep", name := "sent", desc := "(I)I" } : Jvm.MethodName)) ∈ lw_all := lw_g (lw_at lw_m7 210 rfl) rfl
theorem q1760 : (Jvm.Cond.methodLink "SaturdayKeepLaw" (259 : Nat) ({ cls := "SaturdayKeepLaw", name := "rests", desc := "(LSaturdayKeep;I[J)I" } : Jvm.MethodName)) ∈ lw_all := lw_g (lw_at lw_m7 214 rfl) rfl
theorem q1761 : (Jvm.Cond.static ({ cls := "SaturdayKeepLaw", name := "rests", desc := "(LSaturdayKeep;I[J)I" } : Jvm.MethodName)) ∈ lw_all := lw_g (lw_at lw_m7 215 rfl) rfl
theorem q1762 : (Jvm.Cond.codeWith ({ cls := "SaturdayKeepLaw", name := "rests", desc := "(LSaturdayKeep;I[J)I" } : Jvm.MethodName) method_24_code (4 : Nat) (Option.some Jvm.ClassFile.FieldType.int) [((0 : Nat), (9 : Nat), (12 : Nat), (24 : Nat))]) ∈ lw_all := lw_g (lw_at lw_m7 216 rfl) rfl
theorem q1763 : (Jvm.Cond.methodLink "SaturdayKeepLaw" (88 : Nat) ({ cls := "SaturdayKeep", name := "rests", desc := "(I)I" } : Jvm.MethodName)) ∈ lw_all := lw_g (lw_at lw_m7 217 rfl) rfl
theorem q1775 : (Jvm.Cond.methodLink "SaturdayKeepLaw" (262 : Nat) ({ cls := "SaturdayKeepLaw", name := "shifts", desc := "(LSaturdayKeep;[J)I" } : Jvm.MethodName)) ∈ lw_all := lw_g (lw_at lw_m7 229 rfl) rfl
theorem q1776 : (Jvm.Cond.static ({ cls := "SaturdayKeepLaw", name := "shifts", desc := "(LSaturdayKeep;[J)I" } : Jvm.MethodName)) ∈ lw_all := lw_g (lw_at lw_m7 230 rfl) rfl
theorem q1777 : (Jvm.Cond.codeWith ({ cls := "SaturdayKeepLaw", name := "shifts", desc := "(LSaturdayKeep;[J)I" } : Jvm.MethodName) method_25_code (3 : Nat) (Option.some Jvm.ClassFile.FieldType.int) [((0 : Nat), (8 : Nat), (11 : Nat), (13 : Nat))]) ∈ lw_all := lw_g (lw_at lw_m7 231 rfl) rfl
theorem q1778 : (Jvm.Cond.methodLink "SaturdayKeepLaw" (91 : Nat) ({ cls := "SaturdayKeep", name := "shifts", desc := "()I" } : Jvm.MethodName)) ∈ lw_all := lw_g (lw_at lw_m7 232 rfl) rfl
theorem q1794 : (Jvm.Cond.methodLink "SaturdayKeepLaw" (265 : Nat) ({ cls := "SaturdayKeepLaw", name := "ask", desc := "(LSaturdayKeep;[J)I" } : Jvm.MethodName)) ∈ lw_all := lw_g (lw_at lw_m8 8 rfl) rfl
theorem q1795 : (Jvm.Cond.static ({ cls := "SaturdayKeepLaw", name := "ask", desc := "(LSaturdayKeep;[J)I" } : Jvm.MethodName)) ∈ lw_all := lw_g (lw_at lw_m8 9 rfl) rfl
theorem q1796 : (Jvm.Cond.codeWith ({ cls := "SaturdayKeepLaw", name := "ask", desc := "(LSaturdayKeep;[J)I" } : Jvm.MethodName) method_26_code (3 : Nat) (Option.some Jvm.ClassFile.FieldType.int) [((0 : Nat), (8 : Nat), (11 : Nat), (13 : Nat))]) ∈ lw_all := lw_g (lw_at lw_m8 10 rfl) rfl
theorem q1797 : (Jvm.Cond.methodLink "SaturdayKeepLaw" (94 : Nat) ({ cls := "SaturdayKeep", name := "ask", desc := "()I" } : Jvm.MethodName)) ∈ lw_all := lw_g (lw_at lw_m8 11 rfl) rfl
theorem q1802 : (Jvm.Cond.methodLink "SaturdayKeepLaw" (268 : Nat) ({ cls := "SaturdayKeepLaw", name := "bored", desc := "(LSaturdayKeep;Z[J)I" } : Jvm.MethodName)) ∈ lw_all := lw_g (lw_at lw_m8 16 rfl) rfl
theorem q1803 : (Jvm.Cond.static ({ cls := "SaturdayKeepLaw", name := "bored", desc := "(LSaturdayKeep;Z[J)I" } : Jvm.MethodName)) ∈ lw_all := lw_g (lw_at lw_m8 17 rfl) rfl
theorem q1804 : (Jvm.Cond.codeWith ({ cls := "SaturdayKeepLaw", name := "bored", desc := "(LSaturdayKeep;Z[J)I" } : Jvm.MethodName) method_27_code (4 : Nat) (Option.some Jvm.ClassFile.FieldType.int) [((0 : Nat), (9 : Nat), (12 : Nat), (13 : Nat))]) ∈ lw_all := lw_g (lw_at lw_m8 18 rfl) rfl
theorem q1805 : (Jvm.Cond.methodLink "SaturdayKeepLaw" (97 : Nat) ({ cls := "SaturdayKeep", name := "bored", desc := "(Z)I" } : Jvm.MethodName)) ∈ lw_all := lw_g (lw_at lw_m8 19 rfl) rfl
theorem q1813 : (Jvm.Cond.methodLink "SaturdayKeepLaw" (272 : Nat) ({ cls := "SaturdayKeepLaw", name := "look", desc := "(LSaturdayKeep;[J)I" } : Jvm.MethodName)) ∈ lw_all := lw_g (lw_at lw_m8 27 rfl) rfl
theorem q1814 : (Jvm.Cond.static ({ cls := "SaturdayKeepLaw", name := "look", desc := "(LSaturdayKeep;[J)I" } : Jvm.MethodName)) ∈ lw_all := lw_g (lw_at lw_m8 28 rfl) rfl
theorem q1815 : (Jvm.Cond.codeWith ({ cls := "SaturdayKeepLaw", name := "look", desc := "(LSaturdayKeep;[J)I" } : Jvm.MethodName) method_28_code (3 : Nat) (Option.some Jvm.ClassFile.FieldType.int) [((0 : Nat), (8 : Nat), (11 : Nat), (13 : Nat))]) ∈ lw_all := lw_g (lw_at lw_m8 29 rfl) rfl
theorem q1816 : (Jvm.Cond.methodLink "SaturdayKeepLaw" (101 : Nat) ({ cls := "SaturdayKeep", name := "look", desc := "()I" } : Jvm.MethodName)) ∈ lw_all := lw_g (lw_at lw_m8 30 rfl) rfl
theorem q1820 : (Jvm.Cond.methodLink "SaturdayKeepLaw" (283 : Nat) ({ cls := "SaturdayKeepLaw", name := "line", desc := "(LSaturdayKeep;II[J)I" } : Jvm.MethodName)) ∈ lw_all := lw_g (lw_at lw_m8 34 rfl) rfl
theorem q1821 : (Jvm.Cond.static ({ cls := "SaturdayKeepLaw", name := "line", desc := "(LSaturdayKeep;II[J)I" } : Jvm.MethodName)) ∈ lw_all := lw_g (lw_at lw_m8 35 rfl) rfl
theorem q1822 : (Jvm.Cond.codeWith ({ cls := "SaturdayKeepLaw", name := "line", desc := "(LSaturdayKeep;II[J)I" } : Jvm.MethodName) method_29_code (5 : Nat) (Option.some Jvm.ClassFile.FieldType.int) [((0 : Nat), (10 : Nat), (13 : Nat), (24 : Nat))]) ∈ lw_all := lw_g (lw_at lw_m8 36 rfl) rfl
theorem q1823 : (Jvm.Cond.methodLink "SaturdayKeepLaw" (104 : Nat) ({ cls := "SaturdayKeep", name := "line", desc := "(II)I" } : Jvm.MethodName)) ∈ lw_all := lw_g (lw_at lw_m8 37 rfl) rfl
theorem q1827 : (Jvm.Cond.methodLink "SaturdayKeepLaw" (290 : Nat) ({ cls := "SaturdayKeepLaw", name := "pass", desc := "(LSaturdayKeep;II[J)I" } : Jvm.MethodName)) ∈ lw_all := lw_g (lw_at lw_m8 41 rfl) rfl
theorem q1828 : (Jvm.Cond.static ({ cls := "SaturdayKeepLaw", name := "pass", desc := "(LSaturdayKeep;II[J)I" } : Jvm.MethodName)) ∈ lw_all := lw_g (lw_at lw_m8 42 rfl) rfl
theorem q1829 : (Jvm.Cond.codeWith ({ cls := "SaturdayKeepLaw", name := "pass", desc := "(LSaturdayKeep;II[J)I" } : Jvm.MethodName) method_30_code (5 : Nat) (Option.some Jvm.ClassFile.FieldType.int) [((0 : Nat), (10 : Nat), (13 : Nat), (24 : Nat))]) ∈ lw_all := lw_g (lw_at lw_m8 43 rfl) rfl
theorem q1830 : (Jvm.Cond.methodLink "SaturdayKeepLaw" (107 : Nat) ({ cls := "SaturdayKeep", name := "pass", desc := "(II)I" } : Jvm.MethodName)) ∈ lw_all := lw_g (lw_at lw_m8 44 rfl) rfl
theorem q1839 : (Jvm.Cond.methodLink "SaturdayKeepLaw" (301 : Nat) ({ cls := "SaturdayKeepLaw", name := "agree", desc := "(LSaturdayKeep;I[J)I" } : Jvm.MethodName)) ∈ lw_all := lw_g (lw_at lw_m8 53 rfl) rfl
theorem q1840 : (Jvm.Cond.static ({ cls := "SaturdayKeepLaw", name := "agree", desc := "(LSaturdayKeep;I[J)I" } : Jvm.MethodName)) ∈ lw_all := lw_g (lw_at lw_m8 54 rfl) rfl
theorem q1841 : (Jvm.Cond.codeWith ({ cls := "SaturdayKeepLaw", name := "agree", desc := "(LSaturdayKeep;I[J)I" } : Jvm.MethodName) method_31_code (4 : Nat) (Option.some Jvm.ClassFile.FieldType.int) [((0 : Nat), (9 : Nat), (12 : Nat), (13 : Nat))]) ∈ lw_all := lw_g (lw_at lw_m8 55 rfl) rfl
theorem q1842 : (Jvm.Cond.methodLink "SaturdayKeepLaw" (110 : Nat) ({ cls := "SaturdayKeep", name := "agree", desc := "(I)I" } : Jvm.MethodName)) ∈ lw_all := lw_g (lw_at lw_m8 56 rfl) rfl
theorem q1846 : (Jvm.Cond.methodLink "SaturdayKeepLaw" (304 : Nat) ({ cls := "SaturdayKeepLaw", name := "need", desc := "(LSaturdayKeep;I[J)I" } : Jvm.MethodName)) ∈ lw_all := lw_g (lw_at lw_m8 60 rfl) rfl
theorem q1847 : (Jvm.Cond.static ({ cls := "SaturdayKeepLaw", name := "need", desc := "(LSaturdayKeep;I[J)I" } : Jvm.MethodName)) ∈ lw_all := lw_g (lw_at lw_m8 61 rfl) rfl
theorem q1848 : (Jvm.Cond.codeWith ({ cls := "SaturdayKeepLaw", name := "need", desc := "(LSaturdayKeep;I[J)I" } : Jvm.MethodName) method_32_code (4 : Nat) (Option.some Jvm.ClassFile.FieldType.int) [((0 : Nat), (9 : Nat), (12 : Nat), (13 : Nat))]) ∈ lw_all := lw_g (lw_at lw_m8 62 rfl) rfl
theorem q1849 : (Jvm.Cond.methodLink "SaturdayKeepLaw" (113 : Nat) ({ cls := "SaturdayKeep", name := "need", desc := "(I)I" } : Jvm.MethodName)) ∈ lw_all := lw_g (lw_at lw_m8 63 rfl) rfl
theorem q1853 : (Jvm.Cond.methodLink "SaturdayKeepLaw" (307 : Nat) ({ cls := "SaturdayKeepLaw", name := "spread", desc := "(LSaturdayKeep;I[J)I" } : Jvm.MethodName)) ∈ lw_all := lw_g (lw_at lw_m8 67 rfl) rfl
theorem q1854 : (Jvm.Cond.static ({ cls := "SaturdayKeepLaw", name := "spread", desc := "(LSaturdayKeep;I[J)I" } : Jvm.MethodName)) ∈ lw_all := lw_g (lw_at lw_m8 68 rfl) rfl
theorem q1855 : (Jvm.Cond.codeWith ({ cls := "SaturdayKeepLaw", name := "spread", desc := "(LSaturdayKeep;I[J)I" } : Jvm.MethodName) method_33_code (4 : Nat) (Option.some Jvm.ClassFile.FieldType.int) [((0 : Nat), (9 : Nat), (12 : Nat), (13 : Nat))]) ∈ lw_all := lw_g (lw_at lw_m8 69 rfl) rfl
theorem q1856 : (Jvm.Cond.methodLink "SaturdayKeepLaw" (116 : Nat) ({ cls := "SaturdayKeep", name := "spread", desc := "(I)I" } : Jvm.MethodName)) ∈ lw_all := lw_g (lw_at lw_m8 70 rfl) rfl
theorem q1860 : (Jvm.Cond.methodLink "SaturdayKeepLaw" (314 : Nat) ({ cls := "SaturdayKeepLaw", name := "trial", desc := "(LSaturdayKeep;IZ[J)I" } : Jvm.MethodName)) ∈ lw_all := lw_g (lw_at lw_m8 74 rfl) rfl
theorem q1861 : (Jvm.Cond.static ({ cls := "SaturdayKeepLaw", name := "trial", desc := "(LSaturdayKeep;IZ[J)I" } : Jvm.MethodName)) ∈ lw_all := lw_g (lw_at lw_m8 75 rfl) rfl
theorem q1862 : (Jvm.Cond.codeWith ({ cls := "SaturdayKeepLaw", name := "trial", desc := "(LSaturdayKeep;IZ[J)I" } : Jvm.MethodName) method_34_code (5 : Nat) (Option.some Jvm.ClassFile.FieldType.int) [((0 : Nat), (10 : Nat), (13 : Nat), (13 : Nat))]) ∈ lw_all := lw_g (lw_at lw_m8 76 rfl) rfl
theorem q1863 : (Jvm.Cond.methodLink "SaturdayKeepLaw" (119 : Nat) ({ cls := "SaturdayKeep", name := "trial", desc := "(IZ)I" } : Jvm.MethodName)) ∈ lw_all := lw_g (lw_at lw_m8 77 rfl) rfl
theorem q1871 : (Jvm.Cond.methodLink "SaturdayKeepLaw" (317 : Nat) ({ cls := "SaturdayKeepLaw", name := "span", desc := "(LSaturdayKeep;IZ[J)I" } : Jvm.MethodName)) ∈ lw_all := lw_g (lw_at lw_m8 85 rfl) rfl
theorem q1872 : (Jvm.Cond.static ({ cls := "SaturdayKeepLaw", name := "span", desc := "(LSaturdayKeep;IZ[J)I" } : Jvm.MethodName)) ∈ lw_all := lw_g (lw_at lw_m8 86 rfl) rfl
theorem q1873 : (Jvm.Cond.codeWith ({ cls := "SaturdayKeepLaw", name := "span", desc := "(LSaturdayKeep;IZ[J)I" } : Jvm.MethodName) method_35_code (5 : Nat) (Option.some Jvm.ClassFile.FieldType.int) [((0 : Nat), (10 : Nat), (13 : Nat), (13 : Nat))]) ∈ lw_all := lw_g (lw_at lw_m8 87 rfl) rfl
theorem q1874 : (Jvm.Cond.methodLink "SaturdayKeepLaw" (122 : Nat) ({ cls := "SaturdayKeep", name := "span", desc := "(IZ)I" } : Jvm.MethodName)) ∈ lw_all := lw_g (lw_at lw_m8 88 rfl) rfl
theorem q1878 : (Jvm.Cond.methodLink "SaturdayKeepLaw" (320 : Nat) ({ cls := "SaturdayKeepLaw", name := "led", desc := "(LSaturdayKeep;IZ[J)I" } : Jvm.MethodName)) ∈ lw_all := lw_g (lw_at lw_m8 92 rfl) rfl
theorem q1879 : (Jvm.Cond.static ({ cls := "SaturdayKeepLaw", name := "led", desc := "(LSaturdayKeep;IZ[J)I" } : Jvm.MethodName)) ∈ lw_all := lw_g (lw_at lw_m8 93 rfl) rfl
theorem q1880 : (Jvm.Cond.codeWith ({ cls := "SaturdayKeepLaw", name := "led", desc := "(LSaturdayKeep;IZ[J)I" } : Jvm.MethodName) method_36_code (5 : Nat) (Option.some Jvm.ClassFile.FieldType.int) [((0 : Nat), (10 : Nat), (13 : Nat), (24 : Nat))]) ∈ lw_all := lw_g (lw_at lw_m8 94 rfl) rfl
theorem q1881 : (Jvm.Cond.methodLink "SaturdayKeepLaw" (125 : Nat) ({ cls := "SaturdayKeep", name := "led", desc := "(IZ)I" } : Jvm.MethodName)) ∈ lw_all := lw_g (lw_at lw_m8 95 rfl) rfl
theorem q1889 : (Jvm.Cond.methodLink "SaturdayKeepLaw" (323 : Nat) ({ cls := "SaturdayKeepLaw", name := "log", desc := "(LSaturdayKeep;II[J)I" } : Jvm.MethodName)) ∈ lw_all := lw_g (lw_at lw_m8 103 rfl) rfl
theorem q1890 : (Jvm.Cond.static ({ cls := "SaturdayKeepLaw", name := "log", desc := "(LSaturdayKeep;II[J)I" } : Jvm.MethodName)) ∈ lw_all := lw_g (lw_at lw_m8 104 rfl) rfl
theorem q1891 : (Jvm.Cond.codeWith ({ cls := "SaturdayKeepLaw", name := "log", desc := "(LSaturdayKeep;II[J)I" } : Jvm.MethodName) method_37_code (5 : Nat) (Option.some Jvm.ClassFile.FieldType.int) [((0 : Nat), (10 : Nat), (13 : Nat), (26 : Nat))]) ∈ lw_all := lw_g (lw_at lw_m8 105 rfl) rfl
theorem q1892 : (Jvm.Cond.methodLink "SaturdayKeepLaw" (128 : Nat) ({ cls := "SaturdayKeep", name := "log", desc := "(II)I" } : Jvm.MethodName)) ∈ lw_all := lw_g (lw_at lw_m8 106 rfl) rfl
theorem q1896 : (Jvm.Cond.classLink "SaturdayKeepLaw" (132 : Nat) "SaturdayKeepModel") ∈ lw_all := lw_g (lw_at lw_m8 110 rfl) rfl
theorem q1898 : (Jvm.Cond.methodLink "SaturdayKeepLaw" (134 : Nat) ({ cls := "SaturdayKeepModel", name := "<init>", desc := "()V" } : Jvm.MethodName)) ∈ lw_all := lw_g (lw_at lw_m8 112 rfl) rfl
theorem q1969 : (Jvm.Cond.methodLink "SaturdayKeepLaw" (151 : Nat) ({ cls := "SaturdayKeepModel", name := "thrown", desc := "()I" } : Jvm.MethodName)) ∈ lw_all := lw_g (lw_at lw_m8 183 rfl) rfl
theorem q1973 : (Jvm.Cond.methodLink "SaturdayKeepLaw" (139 : Nat) ({ cls := "SaturdayKeepModel", name := "feed", desc := "(IIIII)I" } : Jvm.MethodName)) ∈ lw_all := lw_g (lw_at lw_m8 187 rfl) rfl
theorem q1977 : (Jvm.Cond.methodLink "SaturdayKeepLaw" (144 : Nat) ({ cls := "SaturdayKeepModel", name := "end", desc := "(I)Z" } : Jvm.MethodName)) ∈ lw_all := lw_g (lw_at lw_m8 191 rfl) rfl
theorem q1984 : (Jvm.Cond.methodLink "SaturdayKeepLaw" (150 : Nat) ({ cls := "SaturdayKeepModel", name := "house", desc := "()I" } : Jvm.MethodName)) ∈ lw_all := lw_g (lw_at lw_m8 198 rfl) rfl
theorem q2120 : (Jvm.Cond.methodLink "SaturdayKeepLaw" (156 : Nat) ({ cls := "SaturdayKeepModel", name := "law", desc := "()I" } : Jvm.MethodName)) ∈ lw_all := lw_g (lw_at lw_m9 94 rfl) rfl
theorem q2124 : (Jvm.Cond.methodLink "SaturdayKeepLaw" (160 : Nat) ({ cls := "SaturdayKeepModel", name := "fault", desc := "()I" } : Jvm.MethodName)) ∈ lw_all := lw_g (lw_at lw_m9 98 rfl) rfl
theorem q2128 : (Jvm.Cond.methodLink "SaturdayKeepLaw" (164 : Nat) ({ cls := "SaturdayKeepModel", name := "guest", desc := "(II)I" } : Jvm.MethodName)) ∈ lw_all := lw_g (lw_at lw_m9 102 rfl) rfl
theorem q2178 : (Jvm.Cond.methodLink "SaturdayKeepLaw" (167 : Nat) ({ cls := "SaturdayKeepModel", name := "room", desc := "(II)I" } : Jvm.MethodName)) ∈ lw_all := lw_g (lw_at lw_m9 152 rfl) rfl
theorem q2197 : (Jvm.Cond.methodLink "SaturdayKeepLaw" (171 : Nat) ({ cls := "SaturdayKeepModel", name := "calendar", desc := "(IZ)I" } : Jvm.MethodName)) ∈ lw_all := lw_g (lw_at lw_m9 171 rfl) rfl
theorem q2201 : (Jvm.Cond.methodLink "SaturdayKeepLaw" (174 : Nat) ({ cls := "SaturdayKeepModel", name := "saturday", desc := "(II)Z" } : Jvm.MethodName)) ∈ lw_all := lw_g (lw_at lw_m9 175 rfl) rfl
theorem q2205 : (Jvm.Cond.methodLink "SaturdayKeepLaw" (177 : Nat) ({ cls := "SaturdayKeepModel", name := "go", desc := "(II)I" } : Jvm.MethodName)) ∈ lw_all := lw_g (lw_at lw_m9 179 rfl) rfl
theorem q2217 : (Jvm.Cond.methodLink "SaturdayKeepLaw" (180 : Nat) ({ cls := "SaturdayKeepModel", name := "come", desc := "(IZ)Z" } : Jvm.MethodName)) ∈ lw_all := lw_g (lw_at lw_m9 191 rfl) rfl
theorem q2221 : (Jvm.Cond.methodLink "SaturdayKeepLaw" (183 : Nat) ({ cls := "SaturdayKeepModel", name := "key", desc := "(IZ)Z" } : Jvm.MethodName)) ∈ lw_all := lw_g (lw_at lw_m9 195 rfl) rfl
theorem q2225 : (Jvm.Cond.methodLink "SaturdayKeepLaw" (187 : Nat) ({ cls := "SaturdayKeepModel", name := "hole", desc := "(IIZ)Z" } : Jvm.MethodName)) ∈ lw_all := lw_g (lw_at lw_m9 199 rfl) rfl
theorem q2229 : (Jvm.Cond.methodLink "SaturdayKeepLaw" (191 : Nat) ({ cls := "SaturdayKeepModel", name := "bath", desc := "(I)I" } : Jvm.MethodName)) ∈ lw_all := lw_g (lw_at lw_m9 203 rfl) rfl
theorem q2233 : (Jvm.Cond.methodLink "SaturdayKeepLaw" (194 : Nat) ({ cls := "SaturdayKeepModel", name := "keep", desc := "(I)I" } : Jvm.MethodName)) ∈ lw_all := lw_g (lw_at lw_m9 207 rfl) rfl
theorem q2237 : (Jvm.Cond.methodLink "SaturdayKeepLaw" (197 : Nat) ({ cls := "SaturdayKeepModel", name := "masons", desc := "(I)I" } : Jvm.MethodName)) ∈ lw_all := lw_g (lw_at lw_m9 211 rfl) rfl
theorem q2241 : (Jvm.Cond.methodLink "SaturdayKeepLaw" (200 : Nat) ({ cls := "SaturdayKeepModel", name := "buy", desc := "(I)I" } : Jvm.MethodName)) ∈ lw_all := lw_g (lw_at lw_m9 215 rfl) rfl
theorem q2248 : (Jvm.Cond.methodLink "SaturdayKeepLaw" (203 : Nat) ({ cls := "SaturdayKeepModel", name := "calm", desc := "(I)I" } : Jvm.MethodName)) ∈ lw_all := lw_g (lw_at lw_m9 222 rfl) rfl
theorem q2252 : (Jvm.Cond.methodLink "SaturdayKeepLaw" (206 : Nat) ({ cls := "SaturdayKeepModel", name := "days", desc := "(I)I" } : Jvm.MethodName)) ∈ lw_all := lw_g (lw_at lw_m9 226 rfl) rfl
theorem q2276 : (Jvm.Cond.methodLink "SaturdayKeepLaw" (210 : Nat) ({ cls := "SaturdayKeepModel", name := "ahead", desc := "(III)I" } : Jvm.MethodName)) ∈ lw_all := lw_g (lw_at lw_m10 10 rfl) rfl
theorem q2280 : (Jvm.Cond.methodLink "SaturdayKeepLaw" (214 : Nat) ({ cls := "SaturdayKeepModel", name := "both", desc := "()I" } : Jvm.MethodName)) ∈ lw_all := lw_g (lw_at lw_m10 14 rfl) rfl
theorem q2284 : (Jvm.Cond.methodLink "SaturdayKeepLaw" (217 : Nat) ({ cls := "SaturdayKeepModel", name := "saturdays", desc := "(I)I" } : Jvm.MethodName)) ∈ lw_all := lw_g (lw_at lw_m10 18 rfl) rfl
theorem q2288 : (Jvm.Cond.methodLink "SaturdayKeepLaw" (220 : Nat) ({ cls := "SaturdayKeepModel", name := "first", desc := "(II)I" } : Jvm.MethodName)) ∈ lw_all := lw_g (lw_at lw_m10 22 rfl) rfl
theorem q2292 : (Jvm.Cond.methodLink "SaturdayKeepLaw" (224 : Nat) ({ cls := "SaturdayKeepModel", name := "gone", desc := "()I" } : Jvm.MethodName)) ∈ lw_all := lw_g (lw_at lw_m10 26 rfl) rfl
theorem q2300 : (Jvm.Cond.methodLink "SaturdayKeepLaw" (227 : Nat) ({ cls := "SaturdayKeepModel", name := "stand", desc := "(I)I" } : Jvm.MethodName)) ∈ lw_all := lw_g (lw_at lw_m10 34 rfl) rfl
theorem q2304 : (Jvm.Cond.methodLink "SaturdayKeepLaw" (231 : Nat) ({ cls := "SaturdayKeepModel", name := "odds", desc := "()I" } : Jvm.MethodName)) ∈ lw_all := lw_g (lw_at lw_m10 38 rfl) rfl
theorem q2314 : (Jvm.Cond.methodLink "SaturdayKeepLaw" (235 : Nat) ({ cls := "SaturdayKeepModel", name := "send", desc := "()I" } : Jvm.MethodName)) ∈ lw_all := lw_g (lw_at lw_m10 48 rfl) rfl
theorem q2318 : (Jvm.Cond.methodLink "SaturdayKeepLaw" (238 : Nat) ({ cls := "SaturdayKeepModel", name := "sent", desc := "(I)I" } : Jvm.MethodName)) ∈ lw_all := lw_g (lw_at lw_m10 52 rfl) rfl
theorem q2322 : (Jvm.Cond.methodLink "SaturdayKeepLaw" (242 : Nat) ({ cls := "SaturdayKeepModel", name := "mend", desc := "()I" } : Jvm.MethodName)) ∈ lw_all := lw_g (lw_at lw_m10 56 rfl) rfl
theorem q2326 : (Jvm.Cond.methodLink "SaturdayKeepLaw" (246 : Nat) ({ cls := "SaturdayKeepModel", name := "shut", desc := "()I" } : Jvm.MethodName)) ∈ lw_all := lw_g (lw_at lw_m10 60 rfl) rfl
theorem q2334 : (Jvm.Cond.methodLink "SaturdayKeepLaw" (250 : Nat) ({ cls := "SaturdayKeepModel", name := "quiet", desc := "()I" } : Jvm.MethodName)) ∈ lw_all := lw_g (lw_at lw_m10 68 rfl) rfl
theorem q2338 : (Jvm.Cond.methodLink "SaturdayKeepLaw" (254 : Nat) ({ cls := "SaturdayKeepModel", name := "best", desc := "()I" } : Jvm.MethodName)) ∈ lw_all := lw_g (lw_at lw_m10 72 rfl) rfl
theorem q2346 : (Jvm.Cond.methodLink "SaturdayKeepLaw" (258 : Nat) ({ cls := "SaturdayKeepModel", name := "lodge", desc := "(I)I" } : Jvm.MethodName)) ∈ lw_all := lw_g (lw_at lw_m10 80 rfl) rfl
theorem q2355 : (Jvm.Cond.methodLink "SaturdayKeepLaw" (261 : Nat) ({ cls := "SaturdayKeepModel", name := "rests", desc := "(I)I" } : Jvm.MethodName)) ∈ lw_all := lw_g (lw_at lw_m10 89 rfl) rfl
theorem q2367 : (Jvm.Cond.methodLink "SaturdayKeepLaw" (264 : Nat) ({ cls := "SaturdayKeepModel", name := "shifts", desc := "()I" } : Jvm.MethodName)) ∈ lw_all := lw_g (lw_at lw_m10 101 rfl) rfl
theorem q2379 : (Jvm.Cond.methodLink "SaturdayKeepLaw" (267 : Nat) ({ cls := "SaturdayKeepModel", name := "ask", desc := "()I" } : Jvm.MethodName)) ∈ lw_all := lw_g (lw_at lw_m10 113 rfl) rfl
theorem q2383 : (Jvm.Cond.methodLink "SaturdayKeepLaw" (271 : Nat) ({ cls := "SaturdayKeepModel", name := "bored", desc := "(Z)I" } : Jvm.MethodName)) ∈ lw_all := lw_g (lw_at lw_m10 117 rfl) rfl
theorem q2391 : (Jvm.Cond.methodLink "SaturdayKeepLaw" (274 : Nat) ({ cls := "SaturdayKeepModel", name := "look", desc := "()I" } : Jvm.MethodName)) ∈ lw_all := lw_g (lw_at lw_m10 125 rfl) rfl
theorem q2395 : (Jvm.Cond.methodLink "SaturdayKeepLaw" (278 : Nat) ({ cls := "SaturdayKeepModel", name := "keenest", desc := "()I" } : Jvm.MethodName)) ∈ lw_all := lw_g (lw_at lw_m10 129 rfl) rfl
theorem q2399 : (Jvm.Cond.methodLink "SaturdayKeepLaw" (282 : Nat) ({ cls := "SaturdayKeepModel", name := "alike", desc := "()I" } : Jvm.MethodName)) ∈ lw_all := lw_g (lw_at lw_m10 133 rfl) rfl
theorem q2403 : (Jvm.Cond.methodLink "SaturdayKeepLaw" (285 : Nat) ({ cls := "SaturdayKeepModel", name := "line", desc := "(II)I" } : Jvm.MethodName)) ∈ lw_all := lw_g (lw_at lw_m10 137 rfl) rfl
theorem q2407 : (Jvm.Cond.methodLink "SaturdayKeepLaw" (289 : Nat) ({ cls := "SaturdayKeepModel", name := "well", desc := "()I" } : Jvm.MethodName)) ∈ lw_all := lw_g (lw_at lw_m10 141 rfl) rfl
theorem q2411 : (Jvm.Cond.methodLink "SaturdayKeepLaw" (292 : Nat) ({ cls := "SaturdayKeepModel", name := "pass", desc := "(II)I" } : Jvm.MethodName)) ∈ lw_all := lw_g (lw_at lw_m10 145 rfl) rfl
theorem q2419 : (Jvm.Cond.methodLink "SaturdayKeepLaw" (296 : Nat) ({ cls := "SaturdayKeepModel", name := "crowd", desc := "()I" } : Jvm.MethodName)) ∈ lw_all := lw_g (lw_at lw_m10 153 rfl) rfl
theorem q2423 : (Jvm.Cond.methodLink "SaturdayKeepLaw" (300 : Nat) ({ cls := "SaturdayKeepModel", name := "locked", desc := "()I" } : Jvm.MethodName)) ∈ lw_all := lw_g (lw_at lw_m10 157 rfl) rfl
theorem q2427 : (Jvm.Cond.methodLink "SaturdayKeepLaw" (303 : Nat) ({ cls := "SaturdayKeepModel", name := "agree", desc := "(I)I" } : Jvm.MethodName)) ∈ lw_all := lw_g (lw_at lw_m10 161 rfl) rfl
theorem q2431 : (Jvm.Cond.methodLink "SaturdayKeepLaw" (306 : Nat) ({ cls := "SaturdayKeepModel", name := "need", desc := "(I)I" } : Jvm.MethodName)) ∈ lw_all := lw_g (lw_at lw_m10 165 rfl) rfl
theorem q2435 : (Jvm.Cond.methodLink "SaturdayKeepLaw" (309 : Nat) ({ cls := "SaturdayKeepModel", name := "spread", desc := "(I)I" } : Jvm.MethodName)) ∈ lw_all := lw_g (lw_at lw_m10 169 rfl) rfl
theorem q2439 : (Jvm.Cond.methodLink "SaturdayKeepLaw" (313 : Nat) ({ cls := "SaturdayKeepModel", name := "mutual", desc := "()I" } : Jvm.MethodName)) ∈ lw_all := lw_g (lw_at lw_m10 173 rfl) rfl
theorem q2443 : (Jvm.Cond.methodLink "SaturdayKeepLaw" (316 : Nat) ({ cls := "SaturdayKeepModel", name := "trial", desc := "(IZ)I" } : Jvm.MethodName)) ∈ lw_all := lw_g (lw_at lw_m10 177 rfl) rfl
theorem q2451 : (Jvm.Cond.methodLink "SaturdayKeepLaw" (319 : Nat) ({ cls := "SaturdayKeepModel", name := "span", desc := "(IZ)I" } : Jvm.MethodName)) ∈ lw_all := lw_g (lw_at lw_m10 185 rfl) rfl
theorem q2455 : (Jvm.Cond.methodLink "SaturdayKeepLaw" (322 : Nat) ({ cls := "SaturdayKeepModel", name := "led", desc := "(IZ)I" } : Jvm.MethodName)) ∈ lw_all := lw_g (lw_at lw_m10 189 rfl) rfl
theorem q2463 : (Jvm.Cond.methodLink "SaturdayKeepLaw" (325 : Nat) ({ cls := "SaturdayKeepModel", name := "log", desc := "(II)I" } : Jvm.MethodName)) ∈ lw_all := lw_g (lw_at lw_m10 197 rfl) rfl
theorem q2467 : (Jvm.Cond.methodLink "SaturdayKeepLaw" (329 : Nat) ({ cls := "SaturdayKeepModel", name := "seed", desc := "(I)I" } : Jvm.MethodName)) ∈ lw_all := lw_g (lw_at lw_m10 201 rfl) rfl
theorem q2471 : (Jvm.Cond.methodLink "SaturdayKeepLaw" (334 : Nat) ({ cls := "SaturdayKeepModel", name := "undo", desc := "()Z" } : Jvm.MethodName)) ∈ lw_all := lw_g (lw_at lw_m10 205 rfl) rfl
theorem q2475 : (Jvm.Cond.methodLink "SaturdayKeepLaw" (338 : Nat) ({ cls := "SaturdayKeepModel", name := "image", desc := "()V" } : Jvm.MethodName)) ∈ lw_all := lw_g (lw_at lw_m10 209 rfl) rfl
theorem q2479 : (Jvm.Cond.methodLink "SaturdayKeepLaw" (342 : Nat) ({ cls := "SaturdayKeepModel", name := "back", desc := "()Z" } : Jvm.MethodName)) ∈ lw_all := lw_g (lw_at lw_m10 213 rfl) rfl
theorem q2483 : (Jvm.Cond.methodLink "SaturdayKeepLaw" (346 : Nat) ({ cls := "SaturdayKeepModel", name := "count", desc := "(I)I" } : Jvm.MethodName)) ∈ lw_all := lw_g (lw_at lw_m10 217 rfl) rfl
