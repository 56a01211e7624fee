/-! BallotFoundryLaw -/
set_option maxRecDepth 100000
def RX0 : String := "BallotFoundryLaw"
abbrev cX0_bar : ByteArray := method_3_code
def yX0_bar : MethodName := ⟨RX0, "bar", "(LBallotFoundry;IIZ[J)I"⟩
def dkwX0_bar_1 : List UInt8 := [4, 172, 58, 5, 5, 172, 3, 172]
abbrev dktX0_bar_1 : List UInt8 := dkwX0_bar_1 ++ []
def dkwX0_bar_0 : List UInt8 := [25, 4, 3, 42, 27, 28, 29, 182, 0, 7, 153, 0, 7, 10, 167, 0, 4, 9, 80, 167, 0, 11, 58, 5]
abbrev dktX0_bar_0 : List UInt8 := dkwX0_bar_0 ++ dktX0_bar_1
theorem dksX0_bar_0 : cX0_bar.data.toList.drop 0 = dktX0_bar_0 := by decide +kernel
theorem dksX0_bar_1 : cX0_bar.data.toList.drop 24 = dktX0_bar_1 := dk_seg dksX0_bar_0 24 rfl rfl
theorem dX0_bar_0 : decode cX0_bar 0 = .ok (.aload 4, 2) := dk_25 4 (dk_at dksX0_bar_0 0 rfl rfl)
theorem dX0_bar_2 : decode cX0_bar 2 = .ok (.iconst 0, 1) := dk_3 (dk_at dksX0_bar_0 2 rfl rfl)
theorem dX0_bar_3 : decode cX0_bar 3 = .ok (.aload_n 0, 1) := dk_42 (dk_at dksX0_bar_0 3 rfl rfl)
theorem dX0_bar_4 : decode cX0_bar 4 = .ok (.iload_n 1, 1) := dk_27 (dk_at dksX0_bar_0 4 rfl rfl)
theorem dX0_bar_5 : decode cX0_bar 5 = .ok (.iload_n 2, 1) := dk_28 (dk_at dksX0_bar_0 5 rfl rfl)
theorem dX0_bar_6 : decode cX0_bar 6 = .ok (.iload_n 3, 1) := dk_29 (dk_at dksX0_bar_0 6 rfl rfl)
theorem dX0_bar_7 : decode cX0_bar 7 = .ok (.invokevirtual 7, 3) := dk_182 0 7 (dk_at dksX0_bar_0 7 rfl rfl)
theorem dX0_bar_10 : decode cX0_bar 10 = .ok (.ifCond .eq 7, 3) := dk_153 0 7 (dk_at dksX0_bar_0 10 rfl rfl)
theorem dX0_bar_13 : decode cX0_bar 13 = .ok (.lconst 1, 1) := dk_10 (dk_at dksX0_bar_0 13 rfl rfl)
theorem dX0_bar_14 : decode cX0_bar 14 = .ok (.goto 4, 3) := dk_167 0 4 (dk_at dksX0_bar_0 14 rfl rfl)
theorem dX0_bar_17 : decode cX0_bar 17 = .ok (.lconst 0, 1) := dk_9 (dk_at dksX0_bar_0 17 rfl rfl)
theorem dX0_bar_18 : decode cX0_bar 18 = .ok (.lastore, 1) := dk_80 (dk_at dksX0_bar_0 18 rfl rfl)
theorem dX0_bar_19 : decode cX0_bar 19 = .ok (.goto 11, 3) := dk_167 0 11 (dk_at dksX0_bar_0 19 rfl rfl)
theorem dX0_bar_22 : decode cX0_bar 22 = .ok (.astore 5, 2) := dk_58 5 (dk_at dksX0_bar_0 22 rfl rfl)
theorem dX0_bar_24 : decode cX0_bar 24 = .ok (.iconst 1, 1) := dk_4 (dk_at dksX0_bar_1 0 rfl rfl)
theorem dX0_bar_25 : decode cX0_bar 25 = .ok (.ireturn, 1) := dk_172 (dk_at dksX0_bar_1 1 rfl rfl)
theorem dX0_bar_26 : decode cX0_bar 26 = .ok (.astore 5, 2) := dk_58 5 (dk_at dksX0_bar_1 2 rfl rfl)
theorem dX0_bar_28 : decode cX0_bar 28 = .ok (.iconst 2, 1) := dk_5 (dk_at dksX0_bar_1 4 rfl rfl)
theorem dX0_bar_29 : decode cX0_bar 29 = .ok (.ireturn, 1) := dk_172 (dk_at dksX0_bar_1 5 rfl rfl)
theorem dX0_bar_30 : decode cX0_bar 30 = .ok (.iconst 0, 1) := dk_3 (dk_at dksX0_bar_1 6 rfl rfl)
theorem dX0_bar_31 : decode cX0_bar 31 = .ok (.ireturn, 1) := dk_172 (dk_at dksX0_bar_1 7 rfl rfl)
abbrev cX0_way : ByteArray := method_4_code
def yX0_way : MethodName := ⟨RX0, "way", "(LBallotFoundry;II[J)I"⟩
def dkwX0_way_0 : List UInt8 := [45, 3, 42, 27, 28, 182, 0, 17, 133, 80, 167, 0, 7, 58, 4, 4, 172, 3, 172]
abbrev dktX0_way_0 : List UInt8 := dkwX0_way_0 ++ []
theorem dksX0_way_0 : cX0_way.data.toList.drop 0 = dktX0_way_0 := by decide +kernel
theorem dX0_way_0 : decode cX0_way 0 = .ok (.aload_n 3, 1) := dk_45 (dk_at dksX0_way_0 0 rfl rfl)
theorem dX0_way_1 : decode cX0_way 1 = .ok (.iconst 0, 1) := dk_3 (dk_at dksX0_way_0 1 rfl rfl)
theorem dX0_way_2 : decode cX0_way 2 = .ok (.aload_n 0, 1) := dk_42 (dk_at dksX0_way_0 2 rfl rfl)
theorem dX0_way_3 : decode cX0_way 3 = .ok (.iload_n 1, 1) := dk_27 (dk_at dksX0_way_0 3 rfl rfl)
theorem dX0_way_4 : decode cX0_way 4 = .ok (.iload_n 2, 1) := dk_28 (dk_at dksX0_way_0 4 rfl rfl)
theorem dX0_way_5 : decode cX0_way 5 = .ok (.invokevirtual 17, 3) := dk_182 0 17 (dk_at dksX0_way_0 5 rfl rfl)
theorem dX0_way_8 : decode cX0_way 8 = .ok (.i2l, 1) := dk_133 (dk_at dksX0_way_0 8 rfl rfl)
theorem dX0_way_9 : decode cX0_way 9 = .ok (.lastore, 1) := dk_80 (dk_at dksX0_way_0 9 rfl rfl)
theorem dX0_way_10 : decode cX0_way 10 = .ok (.goto 7, 3) := dk_167 0 7 (dk_at dksX0_way_0 10 rfl rfl)
theorem dX0_way_13 : decode cX0_way 13 = .ok (.astore 4, 2) := dk_58 4 (dk_at dksX0_way_0 13 rfl rfl)
theorem dX0_way_15 : decode cX0_way 15 = .ok (.iconst 1, 1) := dk_4 (dk_at dksX0_way_0 15 rfl rfl)
theorem dX0_way_16 : decode cX0_way 16 = .ok (.ireturn, 1) := dk_172 (dk_at dksX0_way_0 16 rfl rfl)
theorem dX0_way_17 : decode cX0_way 17 = .ok (.iconst 0, 1) := dk_3 (dk_at dksX0_way_0 17 rfl rfl)
theorem dX0_way_18 : decode cX0_way 18 = .ok (.ireturn, 1) := dk_172 (dk_at dksX0_way_0 18 rfl rfl)
abbrev cX0_station : ByteArray := method_5_code
def yX0_station : MethodName := ⟨RX0, "station", "(LBallotFoundry;II[J)I"⟩
def dkwX0_station_1 : List UInt8 := [172, 3, 172]
abbrev dktX0_station_1 : List UInt8 := dkwX0_station_1 ++ []
def dkwX0_station_0 : List UInt8 := [45, 3, 42, 27, 28, 182, 0, 21, 133, 80, 167, 0, 15, 58, 4, 4, 172, 58, 4, 5, 172, 58, 4, 6]
abbrev dktX0_station_0 : List UInt8 := dkwX0_station_0 ++ dktX0_station_1
theorem dksX0_station_0 : cX0_station.data.toList.drop 0 = dktX0_station_0 := by decide +kernel
theorem dksX0_station_1 : cX0_station.data.toList.drop 24 = dktX0_station_1 := dk_seg dksX0_station_0 24 rfl rfl
theorem dX0_station_0 : decode cX0_station 0 = .ok (.aload_n 3, 1) := dk_45 (dk_at dksX0_station_0 0 rfl rfl)
theorem dX0_station_1 : decode cX0_station 1 = .ok (.iconst 0, 1) := dk_3 (dk_at dksX0_station_0 1 rfl rfl)
theorem dX0_station_2 : decode cX0_station 2 = .ok (.aload_n 0, 1) := dk_42 (dk_at dksX0_station_0 2 rfl rfl)
theorem dX0_station_3 : decode cX0_station 3 = .ok (.iload_n 1, 1) := dk_27 (dk_at dksX0_station_0 3 rfl rfl)
theorem dX0_station_4 : decode cX0_station 4 = .ok (.iload_n 2, 1) := dk_28 (dk_at dksX0_station_0 4 rfl rfl)
theorem dX0_station_5 : decode cX0_station 5 = .ok (.invokevirtual 21, 3) := dk_182 0 21 (dk_at dksX0_station_0 5 rfl rfl)
theorem dX0_station_8 : decode cX0_station 8 = .ok (.i2l, 1) := dk_133 (dk_at dksX0_station_0 8 rfl rfl)
theorem dX0_station_9 : decode cX0_station 9 = .ok (.lastore, 1) := dk_80 (dk_at dksX0_station_0 9 rfl rfl)
theorem dX0_station_10 : decode cX0_station 10 = .ok (.goto 15, 3) := dk_167 0 15 (dk_at dksX0_station_0 10 rfl rfl)
theorem dX0_station_13 : decode cX0_station 13 = .ok (.astore 4, 2) := dk_58 4 (dk_at dksX0_station_0 13 rfl rfl)
theorem dX0_station_15 : decode cX0_station 15 = .ok (.iconst 1, 1) := dk_4 (dk_at dksX0_station_0 15 rfl rfl)
theorem dX0_station_16 : decode cX0_station 16 = .ok (.ireturn, 1) := dk_172 (dk_at dksX0_station_0 16 rfl rfl)
theorem dX0_station_17 : decode cX0_station 17 = .ok (.astore 4, 2) := dk_58 4 (dk_at dksX0_station_0 17 rfl rfl)
theorem dX0_station_19 : decode cX0_station 19 = .ok (.iconst 2, 1) := dk_5 (dk_at dksX0_station_0 19 rfl rfl)
theorem dX0_station_20 : decode cX0_station 20 = .ok (.ireturn, 1) := dk_172 (dk_at dksX0_station_0 20 rfl rfl)
theorem dX0_station_21 : decode cX0_station 21 = .ok (.astore 4, 2) := dk_58 4 (dk_at dksX0_station_0 21 rfl rfl)
theorem dX0_station_23 : decode cX0_station 23 = .ok (.iconst 3, 1) := dk_6 (dk_at dksX0_station_0 23 rfl rfl)
theorem dX0_station_24 : decode cX0_station 24 = .ok (.ireturn, 1) := dk_172 (dk_at dksX0_station_1 0 rfl rfl)
theorem dX0_station_25 : decode cX0_station 25 = .ok (.iconst 0, 1) := dk_3 (dk_at dksX0_station_1 1 rfl rfl)
theorem dX0_station_26 : decode cX0_station 26 = .ok (.ireturn, 1) := dk_172 (dk_at dksX0_station_1 2 rfl rfl)
abbrev cX0_setSeats : ByteArray := method_6_code
def yX0_setSeats : MethodName := ⟨RX0, "setSeats", "(LBallotFoundry;II[J)I"⟩
def dkwX0_setSeats_0 : List UInt8 := [45, 3, 42, 27, 28, 182, 0, 26, 133, 80, 167, 0, 11, 58, 4, 4, 172, 58, 4, 5, 172, 3, 172]
abbrev dktX0_setSeats_0 : List UInt8 := dkwX0_setSeats_0 ++ []
theorem dksX0_setSeats_0 : cX0_setSeats.data.toList.drop 0 = dktX0_setSeats_0 := by decide +kernel
theorem dX0_setSeats_0 : decode cX0_setSeats 0 = .ok (.aload_n 3, 1) := dk_45 (dk_at dksX0_setSeats_0 0 rfl rfl)
theorem dX0_setSeats_1 : decode cX0_setSeats 1 = .ok (.iconst 0, 1) := dk_3 (dk_at dksX0_setSeats_0 1 rfl rfl)
theorem dX0_setSeats_2 : decode cX0_setSeats 2 = .ok (.aload_n 0, 1) := dk_42 (dk_at dksX0_setSeats_0 2 rfl rfl)
theorem dX0_setSeats_3 : decode cX0_setSeats 3 = .ok (.iload_n 1, 1) := dk_27 (dk_at dksX0_setSeats_0 3 rfl rfl)
theorem dX0_setSeats_4 : decode cX0_setSeats 4 = .ok (.iload_n 2, 1) := dk_28 (dk_at dksX0_setSeats_0 4 rfl rfl)
theorem dX0_setSeats_5 : decode cX0_setSeats 5 = .ok (.invokevirtual 26, 3) := dk_182 0 26 (dk_at dksX0_setSeats_0 5 rfl rfl)
theorem dX0_setSeats_8 : decode cX0_setSeats 8 = .ok (.i2l, 1) := dk_133 (dk_at dksX0_setSeats_0 8 rfl rfl)
theorem dX0_setSeats_9 : decode cX0_setSeats 9 = .ok (.lastore, 1) := dk_80 (dk_at dksX0_setSeats_0 9 rfl rfl)
theorem dX0_setSeats_10 : decode cX0_setSeats 10 = .ok (.goto 11, 3) := dk_167 0 11 (dk_at dksX0_setSeats_0 10 rfl rfl)
theorem dX0_setSeats_13 : decode cX0_setSeats 13 = .ok (.astore 4, 2) := dk_58 4 (dk_at dksX0_setSeats_0 13 rfl rfl)
theorem dX0_setSeats_15 : decode cX0_setSeats 15 = .ok (.iconst 1, 1) := dk_4 (dk_at dksX0_setSeats_0 15 rfl rfl)
theorem dX0_setSeats_16 : decode cX0_setSeats 16 = .ok (.ireturn, 1) := dk_172 (dk_at dksX0_setSeats_0 16 rfl rfl)
theorem dX0_setSeats_17 : decode cX0_setSeats 17 = .ok (.astore 4, 2) := dk_58 4 (dk_at dksX0_setSeats_0 17 rfl rfl)
theorem dX0_setSeats_19 : decode cX0_setSeats 19 = .ok (.iconst 2, 1) := dk_5 (dk_at dksX0_setSeats_0 19 rfl rfl)
theorem dX0_setSeats_20 : decode cX0_setSeats 20 = .ok (.ireturn, 1) := dk_172 (dk_at dksX0_setSeats_0 20 rfl rfl)
theorem dX0_setSeats_21 : decode cX0_setSeats 21 = .ok (.iconst 0, 1) := dk_3 (dk_at dksX0_setSeats_0 21 rfl rfl)
theorem dX0_setSeats_22 : decode cX0_setSeats 22 = .ok (.ireturn, 1) := dk_172 (dk_at dksX0_setSeats_0 22 rfl rfl)
abbrev cX0_person : ByteArray := method_7_code
def yX0_person : MethodName := ⟨RX0, "person", "(LBallotFoundry;II[J)I"⟩
def dkwX0_person_1 : List UInt8 := [172, 3, 172]
abbrev dktX0_person_1 : List UInt8 := dkwX0_person_1 ++ []
def dkwX0_person_0 : List UInt8 := [45, 3, 42, 27, 28, 182, 0, 29, 133, 80, 167, 0, 15, 58, 4, 4, 172, 58, 4, 5, 172, 58, 4, 6]
abbrev dktX0_person_0 : List UInt8 := dkwX0_person_0 ++ dktX0_person_1
theorem dksX0_person_0 : cX0_person.data.toList.drop 0 = dktX0_person_0 := by decide +kernel
theorem dksX0_person_1 : cX0_person.data.toList.drop 24 = dktX0_person_1 := dk_seg dksX0_person_0 24 rfl rfl
theorem dX0_person_0 : decode cX0_person 0 = .ok (.aload_n 3, 1) := dk_45 (dk_at dksX0_person_0 0 rfl rfl)
theorem dX0_person_1 : decode cX0_person 1 = .ok (.iconst 0, 1) := dk_3 (dk_at dksX0_person_0 1 rfl rfl)
theorem dX0_person_2 : decode cX0_person 2 = .ok (.aload_n 0, 1) := dk_42 (dk_at dksX0_person_0 2 rfl rfl)
theorem dX0_person_3 : decode cX0_person 3 = .ok (.iload_n 1, 1) := dk_27 (dk_at dksX0_person_0 3 rfl rfl)
theorem dX0_person_4 : decode cX0_person 4 = .ok (.iload_n 2, 1) := dk_28 (dk_at dksX0_person_0 4 rfl rfl)
theorem dX0_person_5 : decode cX0_person 5 = .ok (.invokevirtual 29, 3) := dk_182 0 29 (dk_at dksX0_person_0 5 rfl rfl)
theorem dX0_person_8 : decode cX0_person 8 = .ok (.i2l, 1) := dk_133 (dk_at dksX0_person_0 8 rfl rfl)
theorem dX0_person_9 : decode cX0_person 9 = .ok (.lastore, 1) := dk_80 (dk_at dksX0_person_0 9 rfl rfl)
theorem dX0_person_10 : decode cX0_person 10 = .ok (.goto 15, 3) := dk_167 0 15 (dk_at dksX0_person_0 10 rfl rfl)
theorem dX0_person_13 : decode cX0_person 13 = .ok (.astore 4, 2) := dk_58 4 (dk_at dksX0_person_0 13 rfl rfl)
theorem dX0_person_15 : decode cX0_person 15 = .ok (.iconst 1, 1) := dk_4 (dk_at dksX0_person_0 15 rfl rfl)
theorem dX0_person_16 : decode cX0_person 16 = .ok (.ireturn, 1) := dk_172 (dk_at dksX0_person_0 16 rfl rfl)
theorem dX0_person_17 : decode cX0_person 17 = .ok (.astore 4, 2) := dk_58 4 (dk_at dksX0_person_0 17 rfl rfl)
theorem dX0_person_19 : decode cX0_person 19 = .ok (.iconst 2, 1) := dk_5 (dk_at dksX0_person_0 19 rfl rfl)
theorem dX0_person_20 : decode cX0_person 20 = .ok (.ireturn, 1) := dk_172 (dk_at dksX0_person_0 20 rfl rfl)
theorem dX0_person_21 : decode cX0_person 21 = .ok (.astore 4, 2) := dk_58 4 (dk_at dksX0_person_0 21 rfl rfl)
theorem dX0_person_23 : decode cX0_person 23 = .ok (.iconst 3, 1) := dk_6 (dk_at dksX0_person_0 23 rfl rfl)
theorem dX0_person_24 : decode cX0_person 24 = .ok (.ireturn, 1) := dk_172 (dk_at dksX0_person_1 0 rfl rfl)
theorem dX0_person_25 : decode cX0_person 25 = .ok (.iconst 0, 1) := dk_3 (dk_at dksX0_person_1 1 rfl rfl)
theorem dX0_person_26 : decode cX0_person 26 = .ok (.ireturn, 1) := dk_172 (dk_at dksX0_person_1 2 rfl rfl)
abbrev cX0_move : ByteArray := method_8_code
def yX0_move : MethodName := ⟨RX0, "move", "(LBallotFoundry;II[J)I"⟩
def dkwX0_move_0 : List UInt8 := [45, 3, 42, 27, 28, 182, 0, 32, 133, 80, 167, 0, 11, 58, 4, 4, 172, 58, 4, 5, 172, 3, 172]
abbrev dktX0_move_0 : List UInt8 := dkwX0_move_0 ++ []
theorem dksX0_move_0 : cX0_move.data.toList.drop 0 = dktX0_move_0 := by decide +kernel
theorem dX0_move_0 : decode cX0_move 0 = .ok (.aload_n 3, 1) := dk_45 (dk_at dksX0_move_0 0 rfl rfl)
theorem dX0_move_1 : decode cX0_move 1 = .ok (.iconst 0, 1) := dk_3 (dk_at dksX0_move_0 1 rfl rfl)
theorem dX0_move_2 : decode cX0_move 2 = .ok (.aload_n 0, 1) := dk_42 (dk_at dksX0_move_0 2 rfl rfl)
theorem dX0_move_3 : decode cX0_move 3 = .ok (.iload_n 1, 1) := dk_27 (dk_at dksX0_move_0 3 rfl rfl)
theorem dX0_move_4 : decode cX0_move 4 = .ok (.iload_n 2, 1) := dk_28 (dk_at dksX0_move_0 4 rfl rfl)
theorem dX0_move_5 : decode cX0_move 5 = .ok (.invokevirtual 32, 3) := dk_182 0 32 (dk_at dksX0_move_0 5 rfl rfl)
theorem dX0_move_8 : decode cX0_move 8 = .ok (.i2l, 1) := dk_133 (dk_at dksX0_move_0 8 rfl rfl)
theorem dX0_move_9 : decode cX0_move 9 = .ok (.lastore, 1) := dk_80 (dk_at dksX0_move_0 9 rfl rfl)
theorem dX0_move_10 : decode cX0_move 10 = .ok (.goto 11, 3) := dk_167 0 11 (dk_at dksX0_move_0 10 rfl rfl)
theorem dX0_move_13 : decode cX0_move 13 = .ok (.astore 4, 2) := dk_58 4 (dk_at dksX0_move_0 13 rfl rfl)
theorem dX0_move_15 : decode cX0_move 15 = .ok (.iconst 1, 1) := dk_4 (dk_at dksX0_move_0 15 rfl rfl)
theorem dX0_move_16 : decode cX0_move 16 = .ok (.ireturn, 1) := dk_172 (dk_at dksX0_move_0 16 rfl rfl)
theorem dX0_move_17 : decode cX0_move 17 = .ok (.astore 4, 2) := dk_58 4 (dk_at dksX0_move_0 17 rfl rfl)
theorem dX0_move_19 : decode cX0_move 19 = .ok (.iconst 2, 1) := dk_5 (dk_at dksX0_move_0 19 rfl rfl)
theorem dX0_move_20 : decode cX0_move 20 = .ok (.ireturn, 1) := dk_172 (dk_at dksX0_move_0 20 rfl rfl)
theorem dX0_move_21 : decode cX0_move 21 = .ok (.iconst 0, 1) := dk_3 (dk_at dksX0_move_0 21 rfl rfl)
theorem dX0_move_22 : decode cX0_move 22 = .ok (.ireturn, 1) := dk_172 (dk_at dksX0_move_0 22 rfl rfl)
abbrev cX0_die : ByteArray := method_9_code
def yX0_die : MethodName := ⟨RX0, "die", "(LBallotFoundry;I[J)I"⟩
def dkwX0_die_1 : List UInt8 := [172, 3, 172]
abbrev dktX0_die_1 : List UInt8 := dkwX0_die_1 ++ []
def dkwX0_die_0 : List UInt8 := [44, 3, 42, 27, 182, 0, 35, 153, 0, 7, 10, 167, 0, 4, 9, 80, 167, 0, 9, 78, 4, 172, 78, 5]
abbrev dktX0_die_0 : List UInt8 := dkwX0_die_0 ++ dktX0_die_1
theorem dksX0_die_0 : cX0_die.data.toList.drop 0 = dktX0_die_0 := by decide +kernel
theorem dksX0_die_1 : cX0_die.data.toList.drop 24 = dktX0_die_1 := dk_seg dksX0_die_0 24 rfl rfl
theorem dX0_die_0 : decode cX0_die 0 = .ok (.aload_n 2, 1) := dk_44 (dk_at dksX0_die_0 0 rfl rfl)
theorem dX0_die_1 : decode cX0_die 1 = .ok (.iconst 0, 1) := dk_3 (dk_at dksX0_die_0 1 rfl rfl)
theorem dX0_die_2 : decode cX0_die 2 = .ok (.aload_n 0, 1) := dk_42 (dk_at dksX0_die_0 2 rfl rfl)
theorem dX0_die_3 : decode cX0_die 3 = .ok (.iload_n 1, 1) := dk_27 (dk_at dksX0_die_0 3 rfl rfl)
theorem dX0_die_4 : decode cX0_die 4 = .ok (.invokevirtual 35, 3) := dk_182 0 35 (dk_at dksX0_die_0 4 rfl rfl)
theorem dX0_die_7 : decode cX0_die 7 = .ok (.ifCond .eq 7, 3) := dk_153 0 7 (dk_at dksX0_die_0 7 rfl rfl)
theorem dX0_die_10 : decode cX0_die 10 = .ok (.lconst 1, 1) := dk_10 (dk_at dksX0_die_0 10 rfl rfl)
theorem dX0_die_11 : decode cX0_die 11 = .ok (.goto 4, 3) := dk_167 0 4 (dk_at dksX0_die_0 11 rfl rfl)
theorem dX0_die_14 : decode cX0_die 14 = .ok (.lconst 0, 1) := dk_9 (dk_at dksX0_die_0 14 rfl rfl)
theorem dX0_die_15 : decode cX0_die 15 = .ok (.lastore, 1) := dk_80 (dk_at dksX0_die_0 15 rfl rfl)
theorem dX0_die_16 : decode cX0_die 16 = .ok (.goto 9, 3) := dk_167 0 9 (dk_at dksX0_die_0 16 rfl rfl)
theorem dX0_die_19 : decode cX0_die 19 = .ok (.astore_n 3, 1) := dk_78 (dk_at dksX0_die_0 19 rfl rfl)
theorem dX0_die_20 : decode cX0_die 20 = .ok (.iconst 1, 1) := dk_4 (dk_at dksX0_die_0 20 rfl rfl)
theorem dX0_die_21 : decode cX0_die 21 = .ok (.ireturn, 1) := dk_172 (dk_at dksX0_die_0 21 rfl rfl)
theorem dX0_die_22 : decode cX0_die 22 = .ok (.astore_n 3, 1) := dk_78 (dk_at dksX0_die_0 22 rfl rfl)
theorem dX0_die_23 : decode cX0_die 23 = .ok (.iconst 2, 1) := dk_5 (dk_at dksX0_die_0 23 rfl rfl)
theorem dX0_die_24 : decode cX0_die 24 = .ok (.ireturn, 1) := dk_172 (dk_at dksX0_die_1 0 rfl rfl)
theorem dX0_die_25 : decode cX0_die 25 = .ok (.iconst 0, 1) := dk_3 (dk_at dksX0_die_1 1 rfl rfl)
theorem dX0_die_26 : decode cX0_die 26 = .ok (.ireturn, 1) := dk_172 (dk_at dksX0_die_1 2 rfl rfl)
abbrev cX0_dwells : ByteArray := method_10_code
def yX0_dwells : MethodName := ⟨RX0, "dwells", "(LBallotFoundry;II[J)I"⟩
def dkwX0_dwells_0 : List UInt8 := [45, 3, 42, 27, 28, 182, 0, 39, 133, 80, 167, 0, 11, 58, 4, 4, 172, 58, 4, 5, 172, 3, 172]
abbrev dktX0_dwells_0 : List UInt8 := dkwX0_dwells_0 ++ []
theorem dksX0_dwells_0 : cX0_dwells.data.toList.drop 0 = dktX0_dwells_0 := by decide +kernel
theorem dX0_dwells_0 : decode cX0_dwells 0 = .ok (.aload_n 3, 1) := dk_45 (dk_at dksX0_dwells_0 0 rfl rfl)
theorem dX0_dwells_1 : decode cX0_dwells 1 = .ok (.iconst 0, 1) := dk_3 (dk_at dksX0_dwells_0 1 rfl rfl)
theorem dX0_dwells_2 : decode cX0_dwells 2 = .ok (.aload_n 0, 1) := dk_42 (dk_at dksX0_dwells_0 2 rfl rfl)
theorem dX0_dwells_3 : decode cX0_dwells 3 = .ok (.iload_n 1, 1) := dk_27 (dk_at dksX0_dwells_0 3 rfl rfl)
theorem dX0_dwells_4 : decode cX0_dwells 4 = .ok (.iload_n 2, 1) := dk_28 (dk_at dksX0_dwells_0 4 rfl rfl)
theorem dX0_dwells_5 : decode cX0_dwells 5 = .ok (.invokevirtual 39, 3) := dk_182 0 39 (dk_at dksX0_dwells_0 5 rfl rfl)
theorem dX0_dwells_8 : decode cX0_dwells 8 = .ok (.i2l, 1) := dk_133 (dk_at dksX0_dwells_0 8 rfl rfl)
theorem dX0_dwells_9 : decode cX0_dwells 9 = .ok (.lastore, 1) := dk_80 (dk_at dksX0_dwells_0 9 rfl rfl)
theorem dX0_dwells_10 : decode cX0_dwells 10 = .ok (.goto 11, 3) := dk_167 0 11 (dk_at dksX0_dwells_0 10 rfl rfl)
theorem dX0_dwells_13 : decode cX0_dwells 13 = .ok (.astore 4, 2) := dk_58 4 (dk_at dksX0_dwells_0 13 rfl rfl)
theorem dX0_dwells_15 : decode cX0_dwells 15 = .ok (.iconst 1, 1) := dk_4 (dk_at dksX0_dwells_0 15 rfl rfl)
theorem dX0_dwells_16 : decode cX0_dwells 16 = .ok (.ireturn, 1) := dk_172 (dk_at dksX0_dwells_0 16 rfl rfl)
theorem dX0_dwells_17 : decode cX0_dwells 17 = .ok (.astore 4, 2) := dk_58 4 (dk_at dksX0_dwells_0 17 rfl rfl)
theorem dX0_dwells_19 : decode cX0_dwells 19 = .ok (.iconst 2, 1) := dk_5 (dk_at dksX0_dwells_0 19 rfl rfl)
theorem dX0_dwells_20 : decode cX0_dwells 20 = .ok (.ireturn, 1) := dk_172 (dk_at dksX0_dwells_0 20 rfl rfl)
theorem dX0_dwells_21 : decode cX0_dwells 21 = .ok (.iconst 0, 1) := dk_3 (dk_at dksX0_dwells_0 21 rfl rfl)
theorem dX0_dwells_22 : decode cX0_dwells 22 = .ok (.ireturn, 1) := dk_172 (dk_at dksX0_dwells_0 22 rfl rfl)
abbrev cX0_call : ByteArray := method_11_code
def yX0_call : MethodName := ⟨RX0, "call", "(LBallotFoundry;IIZ[J)I"⟩
def dkwX0_call_1 : List UInt8 := [172]
abbrev dktX0_call_1 : List UInt8 := dkwX0_call_1 ++ []
def dkwX0_call_0 : List UInt8 := [25, 4, 3, 42, 27, 28, 29, 182, 0, 42, 133, 80, 167, 0, 11, 58, 5, 4, 172, 58, 5, 5, 172, 3]
abbrev dktX0_call_0 : List UInt8 := dkwX0_call_0 ++ dktX0_call_1
theorem dksX0_call_0 : cX0_call.data.toList.drop 0 = dktX0_call_0 := by decide +kernel
theorem dksX0_call_1 : cX0_call.data.toList.drop 24 = dktX0_call_1 := dk_seg dksX0_call_0 24 rfl rfl
theorem dX0_call_0 : decode cX0_call 0 = .ok (.aload 4, 2) := dk_25 4 (dk_at dksX0_call_0 0 rfl rfl)
theorem dX0_call_2 : decode cX0_call 2 = .ok (.iconst 0, 1) := dk_3 (dk_at dksX0_call_0 2 rfl rfl)
theorem dX0_call_3 : decode cX0_call 3 = .ok (.aload_n 0, 1) := dk_42 (dk_at dksX0_call_0 3 rfl rfl)
theorem dX0_call_4 : decode cX0_call 4 = .ok (.iload_n 1, 1) := dk_27 (dk_at dksX0_call_0 4 rfl rfl)
theorem dX0_call_5 : decode cX0_call 5 = .ok (.iload_n 2, 1) := dk_28 (dk_at dksX0_call_0 5 rfl rfl)
theorem dX0_call_6 : decode cX0_call 6 = .ok (.iload_n 3, 1) := dk_29 (dk_at dksX0_call_0 6 rfl rfl)
theorem dX0_call_7 : decode cX0_call 7 = .ok (.invokevirtual 42, 3) := dk_182 0 42 (dk_at dksX0_call_0 7 rfl rfl)
theorem dX0_call_10 : decode cX0_call 10 = .ok (.i2l, 1) := dk_133 (dk_at dksX0_call_0 10 rfl rfl)
theorem dX0_call_11 : decode cX0_call 11 = .ok (.lastore, 1) := dk_80 (dk_at dksX0_call_0 11 rfl rfl)
theorem dX0_call_12 : decode cX0_call 12 = .ok (.goto 11, 3) := dk_167 0 11 (dk_at dksX0_call_0 12 rfl rfl)
theorem dX0_call_15 : decode cX0_call 15 = .ok (.astore 5, 2) := dk_58 5 (dk_at dksX0_call_0 15 rfl rfl)
theorem dX0_call_17 : decode cX0_call 17 = .ok (.iconst 1, 1) := dk_4 (dk_at dksX0_call_0 17 rfl rfl)
theorem dX0_call_18 : decode cX0_call 18 = .ok (.ireturn, 1) := dk_172 (dk_at dksX0_call_0 18 rfl rfl)
theorem dX0_call_19 : decode cX0_call 19 = .ok (.astore 5, 2) := dk_58 5 (dk_at dksX0_call_0 19 rfl rfl)
theorem dX0_call_21 : decode cX0_call 21 = .ok (.iconst 2, 1) := dk_5 (dk_at dksX0_call_0 21 rfl rfl)
theorem dX0_call_22 : decode cX0_call 22 = .ok (.ireturn, 1) := dk_172 (dk_at dksX0_call_0 22 rfl rfl)
theorem dX0_call_23 : decode cX0_call 23 = .ok (.iconst 0, 1) := dk_3 (dk_at dksX0_call_0 23 rfl rfl)
theorem dX0_call_24 : decode cX0_call 24 = .ok (.ireturn, 1) := dk_172 (dk_at dksX0_call_1 0 rfl rfl)
abbrev cX0_seed : ByteArray := method_12_code
def yX0_seed : MethodName := ⟨RX0, "seed", "(LBallotFoundry;II[J)I"⟩
def dkwX0_seed_1 : List UInt8 := [172, 3, 172]
abbrev dktX0_seed_1 : List UInt8 := dkwX0_seed_1 ++ []
def dkwX0_seed_0 : List UInt8 := [45, 3, 42, 27, 28, 182, 0, 46, 133, 80, 167, 0, 15, 58, 4, 4, 172, 58, 4, 5, 172, 58, 4, 6]
abbrev dktX0_seed_0 : List UInt8 := dkwX0_seed_0 ++ dktX0_seed_1
theorem dksX0_seed_0 : cX0_seed.data.toList.drop 0 = dktX0_seed_0 := by decide +kernel
theorem dksX0_seed_1 : cX0_seed.data.toList.drop 24 = dktX0_seed_1 := dk_seg dksX0_seed_0 24 rfl rfl
theorem dX0_seed_0 : decode cX0_seed 0 = .ok (.aload_n 3, 1) := dk_45 (dk_at dksX0_seed_0 0 rfl rfl)
theorem dX0_seed_1 : decode cX0_seed 1 = .ok (.iconst 0, 1) := dk_3 (dk_at dksX0_seed_0 1 rfl rfl)
theorem dX0_seed_2 : decode cX0_seed 2 = .ok (.aload_n 0, 1) := dk_42 (dk_at dksX0_seed_0 2 rfl rfl)
theorem dX0_seed_3 : decode cX0_seed 3 = .ok (.iload_n 1, 1) := dk_27 (dk_at dksX0_seed_0 3 rfl rfl)
theorem dX0_seed_4 : decode cX0_seed 4 = .ok (.iload_n 2, 1) := dk_28 (dk_at dksX0_seed_0 4 rfl rfl)
theorem dX0_seed_5 : decode cX0_seed 5 = .ok (.invokevirtual 46, 3) := dk_182 0 46 (dk_at dksX0_seed_0 5 rfl rfl)
theorem dX0_seed_8 : decode cX0_seed 8 = .ok (.i2l, 1) := dk_133 (dk_at dksX0_seed_0 8 rfl rfl)
theorem dX0_seed_9 : decode cX0_seed 9 = .ok (.lastore, 1) := dk_80 (dk_at dksX0_seed_0 9 rfl rfl)
theorem dX0_seed_10 : decode cX0_seed 10 = .ok (.goto 15, 3) := dk_167 0 15 (dk_at dksX0_seed_0 10 rfl rfl)
theorem dX0_seed_13 : decode cX0_seed 13 = .ok (.astore 4, 2) := dk_58 4 (dk_at dksX0_seed_0 13 rfl rfl)
theorem dX0_seed_15 : decode cX0_seed 15 = .ok (.iconst 1, 1) := dk_4 (dk_at dksX0_seed_0 15 rfl rfl)
theorem dX0_seed_16 : decode cX0_seed 16 = .ok (.ireturn, 1) := dk_172 (dk_at dksX0_seed_0 16 rfl rfl)
theorem dX0_seed_17 : decode cX0_seed 17 = .ok (.astore 4, 2) := dk_58 4 (dk_at dksX0_seed_0 17 rfl rfl)
theorem dX0_seed_19 : decode cX0_seed 19 = .ok (.iconst 2, 1) := dk_5 (dk_at dksX0_seed_0 19 rfl rfl)
theorem dX0_seed_20 : decode cX0_seed 20 = .ok (.ireturn, 1) := dk_172 (dk_at dksX0_seed_0 20 rfl rfl)
theorem dX0_seed_21 : decode cX0_seed 21 = .ok (.astore 4, 2) := dk_58 4 (dk_at dksX0_seed_0 21 rfl rfl)
theorem dX0_seed_23 : decode cX0_seed 23 = .ok (.iconst 3, 1) := dk_6 (dk_at dksX0_seed_0 23 rfl rfl)
theorem dX0_seed_24 : decode cX0_seed 24 = .ok (.ireturn, 1) := dk_172 (dk_at dksX0_seed_1 0 rfl rfl)
theorem dX0_seed_25 : decode cX0_seed 25 = .ok (.iconst 0, 1) := dk_3 (dk_at dksX0_seed_1 1 rfl rfl)
theorem dX0_seed_26 : decode cX0_seed 26 = .ok (.ireturn, 1) := dk_172 (dk_at dksX0_seed_1 2 rfl rfl)
abbrev cX0_advance : ByteArray := method_13_code
def yX0_advance : MethodName := ⟨RX0, "advance", "(LBallotFoundry;I[J)I"⟩
def dkwX0_advance_0 : List UInt8 := [44, 3, 42, 27, 182, 0, 49, 133, 80, 167, 0, 9, 78, 4, 172, 78, 5, 172, 3, 172]
abbrev dktX0_advance_0 : List UInt8 := dkwX0_advance_0 ++ []
theorem dksX0_advance_0 : cX0_advance.data.toList.drop 0 = dktX0_advance_0 := by decide +kernel
theorem dX0_advance_0 : decode cX0_advance 0 = .ok (.aload_n 2, 1) := dk_44 (dk_at dksX0_advance_0 0 rfl rfl)
theorem dX0_advance_1 : decode cX0_advance 1 = .ok (.iconst 0, 1) := dk_3 (dk_at dksX0_advance_0 1 rfl rfl)
theorem dX0_advance_2 : decode cX0_advance 2 = .ok (.aload_n 0, 1) := dk_42 (dk_at dksX0_advance_0 2 rfl rfl)
theorem dX0_advance_3 : decode cX0_advance 3 = .ok (.iload_n 1, 1) := dk_27 (dk_at dksX0_advance_0 3 rfl rfl)
theorem dX0_advance_4 : decode cX0_advance 4 = .ok (.invokevirtual 49, 3) := dk_182 0 49 (dk_at dksX0_advance_0 4 rfl rfl)
theorem dX0_advance_7 : decode cX0_advance 7 = .ok (.i2l, 1) := dk_133 (dk_at dksX0_advance_0 7 rfl rfl)
theorem dX0_advance_8 : decode cX0_advance 8 = .ok (.lastore, 1) := dk_80 (dk_at dksX0_advance_0 8 rfl rfl)
theorem dX0_advance_9 : decode cX0_advance 9 = .ok (.goto 9, 3) := dk_167 0 9 (dk_at dksX0_advance_0 9 rfl rfl)
theorem dX0_advance_12 : decode cX0_advance 12 = .ok (.astore_n 3, 1) := dk_78 (dk_at dksX0_advance_0 12 rfl rfl)
theorem dX0_advance_13 : decode cX0_advance 13 = .ok (.iconst 1, 1) := dk_4 (dk_at dksX0_advance_0 13 rfl rfl)
theorem dX0_advance_14 : decode cX0_advance 14 = .ok (.ireturn, 1) := dk_172 (dk_at dksX0_advance_0 14 rfl rfl)
theorem dX0_advance_15 : decode cX0_advance 15 = .ok (.astore_n 3, 1) := dk_78 (dk_at dksX0_advance_0 15 rfl rfl)
theorem dX0_advance_16 : decode cX0_advance 16 = .ok (.iconst 2, 1) := dk_5 (dk_at dksX0_advance_0 16 rfl rfl)
theorem dX0_advance_17 : decode cX0_advance 17 = .ok (.ireturn, 1) := dk_172 (dk_at dksX0_advance_0 17 rfl rfl)
theorem dX0_advance_18 : decode cX0_advance 18 = .ok (.iconst 0, 1) := dk_3 (dk_at dksX0_advance_0 18 rfl rfl)
theorem dX0_advance_19 : decode cX0_advance 19 = .ok (.ireturn, 1) := dk_172 (dk_at dksX0_advance_0 19 rfl rfl)
abbrev cX0_isOnRoll : ByteArray := method_14_code
def yX0_isOnRoll : MethodName := ⟨RX0, "isOnRoll", "(LBallotFoundry;I[J)I"⟩
def dkwX0_isOnRoll_0 : List UInt8 := [44, 3, 42, 27, 182, 0, 53, 153, 0, 7, 10, 167, 0, 4, 9, 80, 167, 0, 6, 78, 4, 172, 3, 172]
abbrev dktX0_isOnRoll_0 : List UInt8 := dkwX0_isOnRoll_0 ++ []
theorem dksX0_isOnRoll_0 : cX0_isOnRoll.data.toList.drop 0 = dktX0_isOnRoll_0 := by decide +kernel
theorem dX0_isOnRoll_0 : decode cX0_isOnRoll 0 = .ok (.aload_n 2, 1) := dk_44 (dk_at dksX0_isOnRoll_0 0 rfl rfl)
theorem dX0_isOnRoll_1 : decode cX0_isOnRoll 1 = .ok (.iconst 0, 1) := dk_3 (dk_at dksX0_isOnRoll_0 1 rfl rfl)
theorem dX0_isOnRoll_2 : decode cX0_isOnRoll 2 = .ok (.aload_n 0, 1) := dk_42 (dk_at dksX0_isOnRoll_0 2 rfl rfl)
theorem dX0_isOnRoll_3 : decode cX0_isOnRoll 3 = .ok (.iload_n 1, 1) := dk_27 (dk_at dksX0_isOnRoll_0 3 rfl rfl)
theorem dX0_isOnRoll_4 : decode cX0_isOnRoll 4 = .ok (.invokevirtual 53, 3) := dk_182 0 53 (dk_at dksX0_isOnRoll_0 4 rfl rfl)
theorem dX0_isOnRoll_7 : decode cX0_isOnRoll 7 = .ok (.ifCond .eq 7, 3) := dk_153 0 7 (dk_at dksX0_isOnRoll_0 7 rfl rfl)
theorem dX0_isOnRoll_10 : decode cX0_isOnRoll 10 = .ok (.lconst 1, 1) := dk_10 (dk_at dksX0_isOnRoll_0 10 rfl rfl)
theorem dX0_isOnRoll_11 : decode cX0_isOnRoll 11 = .ok (.goto 4, 3) := dk_167 0 4 (dk_at dksX0_isOnRoll_0 11 rfl rfl)
theorem dX0_isOnRoll_14 : decode cX0_isOnRoll 14 = .ok (.lconst 0, 1) := dk_9 (dk_at dksX0_isOnRoll_0 14 rfl rfl)
theorem dX0_isOnRoll_15 : decode cX0_isOnRoll 15 = .ok (.lastore, 1) := dk_80 (dk_at dksX0_isOnRoll_0 15 rfl rfl)
theorem dX0_isOnRoll_16 : decode cX0_isOnRoll 16 = .ok (.goto 6, 3) := dk_167 0 6 (dk_at dksX0_isOnRoll_0 16 rfl rfl)
theorem dX0_isOnRoll_19 : decode cX0_isOnRoll 19 = .ok (.astore_n 3, 1) := dk_78 (dk_at dksX0_isOnRoll_0 19 rfl rfl)
theorem dX0_isOnRoll_20 : decode cX0_isOnRoll 20 = .ok (.iconst 1, 1) := dk_4 (dk_at dksX0_isOnRoll_0 20 rfl rfl)
theorem dX0_isOnRoll_21 : decode cX0_isOnRoll 21 = .ok (.ireturn, 1) := dk_172 (dk_at dksX0_isOnRoll_0 21 rfl rfl)
theorem dX0_isOnRoll_22 : decode cX0_isOnRoll 22 = .ok (.iconst 0, 1) := dk_3 (dk_at dksX0_isOnRoll_0 22 rfl rfl)
theorem dX0_isOnRoll_23 : decode cX0_isOnRoll 23 = .ok (.ireturn, 1) := dk_172 (dk_at dksX0_isOnRoll_0 23 rfl rfl)
abbrev cX0_stationOf : ByteArray := method_15_code
def yX0_stationOf : MethodName := ⟨RX0, "stationOf", "(LBallotFoundry;I[J)I"⟩
def dkwX0_stationOf_0 : List UInt8 := [44, 3, 42, 27, 182, 0, 56, 133, 80, 167, 0, 6, 78, 4, 172, 3, 172]
abbrev dktX0_stationOf_0 : List UInt8 := dkwX0_stationOf_0 ++ []
theorem dksX0_stationOf_0 : cX0_stationOf.data.toList.drop 0 = dktX0_stationOf_0 := by decide +kernel
theorem dX0_stationOf_0 : decode cX0_stationOf 0 = .ok (.aload_n 2, 1) := dk_44 (dk_at dksX0_stationOf_0 0 rfl rfl)
theorem dX0_stationOf_1 : decode cX0_stationOf 1 = .ok (.iconst 0, 1) := dk_3 (dk_at dksX0_stationOf_0 1 rfl rfl)
theorem dX0_stationOf_2 : decode cX0_stationOf 2 = .ok (.aload_n 0, 1) := dk_42 (dk_at dksX0_stationOf_0 2 rfl rfl)
theorem dX0_stationOf_3 : decode cX0_stationOf 3 = .ok (.iload_n 1, 1) := dk_27 (dk_at dksX0_stationOf_0 3 rfl rfl)
theorem dX0_stationOf_4 : decode cX0_stationOf 4 = .ok (.invokevirtual 56, 3) := dk_182 0 56 (dk_at dksX0_stationOf_0 4 rfl rfl)
theorem dX0_stationOf_7 : decode cX0_stationOf 7 = .ok (.i2l, 1) := dk_133 (dk_at dksX0_stationOf_0 7 rfl rfl)
theorem dX0_stationOf_8 : decode cX0_stationOf 8 = .ok (.lastore, 1) := dk_80 (dk_at dksX0_stationOf_0 8 rfl rfl)
theorem dX0_stationOf_9 : decode cX0_stationOf 9 = .ok (.goto 6, 3) := dk_167 0 6 (dk_at dksX0_stationOf_0 9 rfl rfl)
theorem dX0_stationOf_12 : decode cX0_stationOf 12 = .ok (.astore_n 3, 1) := dk_78 (dk_at dksX0_stationOf_0 12 rfl rfl)
theorem dX0_stationOf_13 : decode cX0_stationOf 13 = .ok (.iconst 1, 1) := dk_4 (dk_at dksX0_stationOf_0 13 rfl rfl)
theorem dX0_stationOf_14 : decode cX0_stationOf 14 = .ok (.ireturn, 1) := dk_172 (dk_at dksX0_stationOf_0 14 rfl rfl)
theorem dX0_stationOf_15 : decode cX0_stationOf 15 = .ok (.iconst 0, 1) := dk_3 (dk_at dksX0_stationOf_0 15 rfl rfl)
theorem dX0_stationOf_16 : decode cX0_stationOf 16 = .ok (.ireturn, 1) := dk_172 (dk_at dksX0_stationOf_0 16 rfl rfl)
abbrev cX0_peopleOf : ByteArray := method_16_code
def yX0_peopleOf : MethodName := ⟨RX0, "peopleOf", "(LBallotFoundry;I[J)I"⟩
def dkwX0_peopleOf_0 : List UInt8 := [44, 3, 42, 27, 182, 0, 59, 133, 80, 167, 0, 6, 78, 4, 172, 3, 172]
abbrev dktX0_peopleOf_0 : List UInt8 := dkwX0_peopleOf_0 ++ []
theorem dksX0_peopleOf_0 : cX0_peopleOf.data.toList.drop 0 = dktX0_peopleOf_0 := by decide +kernel
theorem dX0_peopleOf_0 : decode cX0_peopleOf 0 = .ok (.aload_n 2, 1) := dk_44 (dk_at dksX0_peopleOf_0 0 rfl rfl)
theorem dX0_peopleOf_1 : decode cX0_peopleOf 1 = .ok (.iconst 0, 1) := dk_3 (dk_at dksX0_peopleOf_0 1 rfl rfl)
theorem dX0_peopleOf_2 : decode cX0_peopleOf 2 = .ok (.aload_n 0, 1) := dk_42 (dk_at dksX0_peopleOf_0 2 rfl rfl)
theorem dX0_peopleOf_3 : decode cX0_peopleOf 3 = .ok (.iload_n 1, 1) := dk_27 (dk_at dksX0_peopleOf_0 3 rfl rfl)
theorem dX0_peopleOf_4 : decode cX0_peopleOf 4 = .ok (.invokevirtual 59, 3) := dk_182 0 59 (dk_at dksX0_peopleOf_0 4 rfl rfl)
theorem dX0_peopleOf_7 : decode cX0_peopleOf 7 = .ok (.i2l, 1) := dk_133 (dk_at dksX0_peopleOf_0 7 rfl rfl)
theorem dX0_peopleOf_8 : decode cX0_peopleOf 8 = .ok (.lastore, 1) := dk_80 (dk_at dksX0_peopleOf_0 8 rfl rfl)
theorem dX0_peopleOf_9 : decode cX0_peopleOf 9 = .ok (.goto 6, 3) := dk_167 0 6 (dk_at dksX0_peopleOf_0 9 rfl rfl)
theorem dX0_peopleOf_12 : decode cX0_peopleOf 12 = .ok (.astore_n 3, 1) := dk_78 (dk_at dksX0_peopleOf_0 12 rfl rfl)
theorem dX0_peopleOf_13 : decode cX0_peopleOf 13 = .ok (.iconst 1, 1) := dk_4 (dk_at dksX0_peopleOf_0 13 rfl rfl)
theorem dX0_peopleOf_14 : decode cX0_peopleOf 14 = .ok (.ireturn, 1) := dk_172 (dk_at dksX0_peopleOf_0 14 rfl rfl)
theorem dX0_peopleOf_15 : decode cX0_peopleOf 15 = .ok (.iconst 0, 1) := dk_3 (dk_at dksX0_peopleOf_0 15 rfl rfl)
theorem dX0_peopleOf_16 : decode cX0_peopleOf 16 = .ok (.ireturn, 1) := dk_172 (dk_at dksX0_peopleOf_0 16 rfl rfl)
abbrev cX0_early : ByteArray := method_17_code
def yX0_early : MethodName := ⟨RX0, "early", "(LBallotFoundry;II[J)I"⟩
def dkwX0_early_1 : List UInt8 := [172, 3, 172]
abbrev dktX0_early_1 : List UInt8 := dkwX0_early_1 ++ []
def dkwX0_early_0 : List UInt8 := [45, 3, 42, 27, 28, 182, 0, 62, 133, 80, 167, 0, 15, 58, 4, 4, 172, 58, 4, 5, 172, 58, 4, 6]
abbrev dktX0_early_0 : List UInt8 := dkwX0_early_0 ++ dktX0_early_1
theorem dksX0_early_0 : cX0_early.data.toList.drop 0 = dktX0_early_0 := by decide +kernel
theorem dksX0_early_1 : cX0_early.data.toList.drop 24 = dktX0_early_1 := dk_seg dksX0_early_0 24 rfl rfl
theorem dX0_early_0 : decode cX0_early 0 = .ok (.aload_n 3, 1) := dk_45 (dk_at dksX0_early_0 0 rfl rfl)
theorem dX0_early_1 : decode cX0_early 1 = .ok (.iconst 0, 1) := dk_3 (dk_at dksX0_early_0 1 rfl rfl)
theorem dX0_early_2 : decode cX0_early 2 = .ok (.aload_n 0, 1) := dk_42 (dk_at dksX0_early_0 2 rfl rfl)
theorem dX0_early_3 : decode cX0_early 3 = .ok (.iload_n 1, 1) := dk_27 (dk_at dksX0_early_0 3 rfl rfl)
theorem dX0_early_4 : decode cX0_early 4 = .ok (.iload_n 2, 1) := dk_28 (dk_at dksX0_early_0 4 rfl rfl)
theorem dX0_early_5 : decode cX0_early 5 = .ok (.invokevirtual 62, 3) := dk_182 0 62 (dk_at dksX0_early_0 5 rfl rfl)
theorem dX0_early_8 : decode cX0_early 8 = .ok (.i2l, 1) := dk_133 (dk_at dksX0_early_0 8 rfl rfl)
theorem dX0_early_9 : decode cX0_early 9 = .ok (.lastore, 1) := dk_80 (dk_at dksX0_early_0 9 rfl rfl)
theorem dX0_early_10 : decode cX0_early 10 = .ok (.goto 15, 3) := dk_167 0 15 (dk_at dksX0_early_0 10 rfl rfl)
theorem dX0_early_13 : decode cX0_early 13 = .ok (.astore 4, 2) := dk_58 4 (dk_at dksX0_early_0 13 rfl rfl)
theorem dX0_early_15 : decode cX0_early 15 = .ok (.iconst 1, 1) := dk_4 (dk_at dksX0_early_0 15 rfl rfl)
theorem dX0_early_16 : decode cX0_early 16 = .ok (.ireturn, 1) := dk_172 (dk_at dksX0_early_0 16 rfl rfl)
theorem dX0_early_17 : decode cX0_early 17 = .ok (.astore 4, 2) := dk_58 4 (dk_at dksX0_early_0 17 rfl rfl)
theorem dX0_early_19 : decode cX0_early 19 = .ok (.iconst 2, 1) := dk_5 (dk_at dksX0_early_0 19 rfl rfl)
theorem dX0_early_20 : decode cX0_early 20 = .ok (.ireturn, 1) := dk_172 (dk_at dksX0_early_0 20 rfl rfl)
theorem dX0_early_21 : decode cX0_early 21 = .ok (.astore 4, 2) := dk_58 4 (dk_at dksX0_early_0 21 rfl rfl)
theorem dX0_early_23 : decode cX0_early 23 = .ok (.iconst 3, 1) := dk_6 (dk_at dksX0_early_0 23 rfl rfl)
theorem dX0_early_24 : decode cX0_early 24 = .ok (.ireturn, 1) := dk_172 (dk_at dksX0_early_1 0 rfl rfl)
theorem dX0_early_25 : decode cX0_early 25 = .ok (.iconst 0, 1) := dk_3 (dk_at dksX0_early_1 1 rfl rfl)
theorem dX0_early_26 : decode cX0_early 26 = .ok (.ireturn, 1) := dk_172 (dk_at dksX0_early_1 2 rfl rfl)
abbrev cX0_vote : ByteArray := method_18_code
def yX0_vote : MethodName := ⟨RX0, "vote", "(LBallotFoundry;III[J)I"⟩
def dkwX0_vote_1 : List UInt8 := [58, 5, 6, 172, 3, 172]
abbrev dktX0_vote_1 : List UInt8 := dkwX0_vote_1 ++ []
def dkwX0_vote_0 : List UInt8 := [25, 4, 3, 42, 27, 28, 29, 182, 0, 65, 133, 80, 167, 0, 15, 58, 5, 4, 172, 58, 5, 5, 172]
abbrev dktX0_vote_0 : List UInt8 := dkwX0_vote_0 ++ dktX0_vote_1
theorem dksX0_vote_0 : cX0_vote.data.toList.drop 0 = dktX0_vote_0 := by decide +kernel
theorem dksX0_vote_1 : cX0_vote.data.toList.drop 23 = dktX0_vote_1 := dk_seg dksX0_vote_0 23 rfl rfl
theorem dX0_vote_0 : decode cX0_vote 0 = .ok (.aload 4, 2) := dk_25 4 (dk_at dksX0_vote_0 0 rfl rfl)
theorem dX0_vote_2 : decode cX0_vote 2 = .ok (.iconst 0, 1) := dk_3 (dk_at dksX0_vote_0 2 rfl rfl)
theorem dX0_vote_3 : decode cX0_vote 3 = .ok (.aload_n 0, 1) := dk_42 (dk_at dksX0_vote_0 3 rfl rfl)
theorem dX0_vote_4 : decode cX0_vote 4 = .ok (.iload_n 1, 1) := dk_27 (dk_at dksX0_vote_0 4 rfl rfl)
theorem dX0_vote_5 : decode cX0_vote 5 = .ok (.iload_n 2, 1) := dk_28 (dk_at dksX0_vote_0 5 rfl rfl)
theorem dX0_vote_6 : decode cX0_vote 6 = .ok (.iload_n 3, 1) := dk_29 (dk_at dksX0_vote_0 6 rfl rfl)
theorem dX0_vote_7 : decode cX0_vote 7 = .ok (.invokevirtual 65, 3) := dk_182 0 65 (dk_at dksX0_vote_0 7 rfl rfl)
theorem dX0_vote_10 : decode cX0_vote 10 = .ok (.i2l, 1) := dk_133 (dk_at dksX0_vote_0 10 rfl rfl)
theorem dX0_vote_11 : decode cX0_vote 11 = .ok (.lastore, 1) := dk_80 (dk_at dksX0_vote_0 11 rfl rfl)
theorem dX0_vote_12 : decode cX0_vote 12 = .ok (.goto 15, 3) := dk_167 0 15 (dk_at dksX0_vote_0 12 rfl rfl)
theorem dX0_vote_15 : decode cX0_vote 15 = .ok (.astore 5, 2) := dk_58 5 (dk_at dksX0_vote_0 15 rfl rfl)
theorem dX0_vote_17 : decode cX0_vote 17 = .ok (.iconst 1, 1) := dk_4 (dk_at dksX0_vote_0 17 rfl rfl)
theorem dX0_vote_18 : decode cX0_vote 18 = .ok (.ireturn, 1) := dk_172 (dk_at dksX0_vote_0 18 rfl rfl)
theorem dX0_vote_19 : decode cX0_vote 19 = .ok (.astore 5, 2) := dk_58 5 (dk_at dksX0_vote_0 19 rfl rfl)
theorem dX0_vote_21 : decode cX0_vote 21 = .ok (.iconst 2, 1) := dk_5 (dk_at dksX0_vote_0 21 rfl rfl)
theorem dX0_vote_22 : decode cX0_vote 22 = .ok (.ireturn, 1) := dk_172 (dk_at dksX0_vote_0 22 rfl rfl)
theorem dX0_vote_23 : decode cX0_vote 23 = .ok (.astore 5, 2) := dk_58 5 (dk_at dksX0_vote_1 0 rfl rfl)
theorem dX0_vote_25 : decode cX0_vote 25 = .ok (.iconst 3, 1) := dk_6 (dk_at dksX0_vote_1 2 rfl rfl)
theorem dX0_vote_26 : decode cX0_vote 26 = .ok (.ireturn, 1) := dk_172 (dk_at dksX0_vote_1 3 rfl rfl)
theorem dX0_vote_27 : decode cX0_vote 27 = .ok (.iconst 0, 1) := dk_3 (dk_at dksX0_vote_1 4 rfl rfl)
theorem dX0_vote_28 : decode cX0_vote 28 = .ok (.ireturn, 1) := dk_172 (dk_at dksX0_vote_1 5 rfl rfl)
abbrev cX0_open : ByteArray := method_19_code
def yX0_open : MethodName := ⟨RX0, "open", "(LBallotFoundry;I[J)I"⟩
def dkwX0_open_0 : List UInt8 := [44, 3, 42, 27, 182, 0, 69, 133, 80, 167, 0, 9, 78, 4, 172, 78, 5, 172, 3, 172]
abbrev dktX0_open_0 : List UInt8 := dkwX0_open_0 ++ []
theorem dksX0_open_0 : cX0_open.data.toList.drop 0 = dktX0_open_0 := by decide +kernel
theorem dX0_open_0 : decode cX0_open 0 = .ok (.aload_n 2, 1) := dk_44 (dk_at dksX0_open_0 0 rfl rfl)
theorem dX0_open_1 : decode cX0_open 1 = .ok (.iconst 0, 1) := dk_3 (dk_at dksX0_open_0 1 rfl rfl)
theorem dX0_open_2 : decode cX0_open 2 = .ok (.aload_n 0, 1) := dk_42 (dk_at dksX0_open_0 2 rfl rfl)
theorem dX0_open_3 : decode cX0_open 3 = .ok (.iload_n 1, 1) := dk_27 (dk_at dksX0_open_0 3 rfl rfl)
theorem dX0_open_4 : decode cX0_open 4 = .ok (.invokevirtual 69, 3) := dk_182 0 69 (dk_at dksX0_open_0 4 rfl rfl)
theorem dX0_open_7 : decode cX0_open 7 = .ok (.i2l, 1) := dk_133 (dk_at dksX0_open_0 7 rfl rfl)
theorem dX0_open_8 : decode cX0_open 8 = .ok (.lastore, 1) := dk_80 (dk_at dksX0_open_0 8 rfl rfl)
theorem dX0_open_9 : decode cX0_open 9 = .ok (.goto 9, 3) := dk_167 0 9 (dk_at dksX0_open_0 9 rfl rfl)
theorem dX0_open_12 : decode cX0_open 12 = .ok (.astore_n 3, 1) := dk_78 (dk_at dksX0_open_0 12 rfl rfl)
theorem dX0_open_13 : decode cX0_open 13 = .ok (.iconst 1, 1) := dk_4 (dk_at dksX0_open_0 13 rfl rfl)
theorem dX0_open_14 : decode cX0_open 14 = .ok (.ireturn, 1) := dk_172 (dk_at dksX0_open_0 14 rfl rfl)
theorem dX0_open_15 : decode cX0_open 15 = .ok (.astore_n 3, 1) := dk_78 (dk_at dksX0_open_0 15 rfl rfl)
theorem dX0_open_16 : decode cX0_open 16 = .ok (.iconst 2, 1) := dk_5 (dk_at dksX0_open_0 16 rfl rfl)
theorem dX0_open_17 : decode cX0_open 17 = .ok (.ireturn, 1) := dk_172 (dk_at dksX0_open_0 17 rfl rfl)
theorem dX0_open_18 : decode cX0_open 18 = .ok (.iconst 0, 1) := dk_3 (dk_at dksX0_open_0 18 rfl rfl)
theorem dX0_open_19 : decode cX0_open 19 = .ok (.ireturn, 1) := dk_172 (dk_at dksX0_open_0 19 rfl rfl)
abbrev cX0_stateOf : ByteArray := method_20_code
def yX0_stateOf : MethodName := ⟨RX0, "stateOf", "(LBallotFoundry;I[J)I"⟩
def dkwX0_stateOf_0 : List UInt8 := [44, 3, 42, 27, 182, 0, 72, 133, 80, 167, 0, 6, 78, 4, 172, 3, 172]
abbrev dktX0_stateOf_0 : List UInt8 := dkwX0_stateOf_0 ++ []
theorem dksX0_stateOf_0 : cX0_stateOf.data.toList.drop 0 = dktX0_stateOf_0 := by decide +kernel
theorem dX0_stateOf_0 : decode cX0_stateOf 0 = .ok (.aload_n 2, 1) := dk_44 (dk_at dksX0_stateOf_0 0 rfl rfl)
theorem dX0_stateOf_1 : decode cX0_stateOf 1 = .ok (.iconst 0, 1) := dk_3 (dk_at dksX0_stateOf_0 1 rfl rfl)
theorem dX0_stateOf_2 : decode cX0_stateOf 2 = .ok (.aload_n 0, 1) := dk_42 (dk_at dksX0_stateOf_0 2 rfl rfl)
theorem dX0_stateOf_3 : decode cX0_stateOf 3 = .ok (.iload_n 1, 1) := dk_27 (dk_at dksX0_stateOf_0 3 rfl rfl)
theorem dX0_stateOf_4 : decode cX0_stateOf 4 = .ok (.invokevirtual 72, 3) := dk_182 0 72 (dk_at dksX0_stateOf_0 4 rfl rfl)
theorem dX0_stateOf_7 : decode cX0_stateOf 7 = .ok (.i2l, 1) := dk_133 (dk_at dksX0_stateOf_0 7 rfl rfl)
theorem dX0_stateOf_8 : decode cX0_stateOf 8 = .ok (.lastore, 1) := dk_80 (dk_at dksX0_stateOf_0 8 rfl rfl)
theorem dX0_stateOf_9 : decode cX0_stateOf 9 = .ok (.goto 6, 3) := dk_167 0 6 (dk_at dksX0_stateOf_0 9 rfl rfl)
theorem dX0_stateOf_12 : decode cX0_stateOf 12 = .ok (.astore_n 3, 1) := dk_78 (dk_at dksX0_stateOf_0 12 rfl rfl)
theorem dX0_stateOf_13 : decode cX0_stateOf 13 = .ok (.iconst 1, 1) := dk_4 (dk_at dksX0_stateOf_0 13 rfl rfl)
theorem dX0_stateOf_14 : decode cX0_stateOf 14 = .ok (.ireturn, 1) := dk_172 (dk_at dksX0_stateOf_0 14 rfl rfl)
theorem dX0_stateOf_15 : decode cX0_stateOf 15 = .ok (.iconst 0, 1) := dk_3 (dk_at dksX0_stateOf_0 15 rfl rfl)
theorem dX0_stateOf_16 : decode cX0_stateOf 16 = .ok (.ireturn, 1) := dk_172 (dk_at dksX0_stateOf_0 16 rfl rfl)
abbrev cX0_personOf : ByteArray := method_21_code
def yX0_personOf : MethodName := ⟨RX0, "personOf", "(LBallotFoundry;I[J)I"⟩
def dkwX0_personOf_0 : List UInt8 := [44, 3, 42, 27, 182, 0, 75, 133, 80, 167, 0, 6, 78, 4, 172, 3, 172]
abbrev dktX0_personOf_0 : List UInt8 := dkwX0_personOf_0 ++ []
theorem dksX0_personOf_0 : cX0_personOf.data.toList.drop 0 = dktX0_personOf_0 := by decide +kernel
theorem dX0_personOf_0 : decode cX0_personOf 0 = .ok (.aload_n 2, 1) := dk_44 (dk_at dksX0_personOf_0 0 rfl rfl)
theorem dX0_personOf_1 : decode cX0_personOf 1 = .ok (.iconst 0, 1) := dk_3 (dk_at dksX0_personOf_0 1 rfl rfl)
theorem dX0_personOf_2 : decode cX0_personOf 2 = .ok (.aload_n 0, 1) := dk_42 (dk_at dksX0_personOf_0 2 rfl rfl)
theorem dX0_personOf_3 : decode cX0_personOf 3 = .ok (.iload_n 1, 1) := dk_27 (dk_at dksX0_personOf_0 3 rfl rfl)
theorem dX0_personOf_4 : decode cX0_personOf 4 = .ok (.invokevirtual 75, 3) := dk_182 0 75 (dk_at dksX0_personOf_0 4 rfl rfl)
theorem dX0_personOf_7 : decode cX0_personOf 7 = .ok (.i2l, 1) := dk_133 (dk_at dksX0_personOf_0 7 rfl rfl)
theorem dX0_personOf_8 : decode cX0_personOf 8 = .ok (.lastore, 1) := dk_80 (dk_at dksX0_personOf_0 8 rfl rfl)
theorem dX0_personOf_9 : decode cX0_personOf 9 = .ok (.goto 6, 3) := dk_167 0 6 (dk_at dksX0_personOf_0 9 rfl rfl)
theorem dX0_personOf_12 : decode cX0_personOf 12 = .ok (.astore_n 3, 1) := dk_78 (dk_at dksX0_personOf_0 12 rfl rfl)
theorem dX0_personOf_13 : decode cX0_personOf 13 = .ok (.iconst 1, 1) := dk_4 (dk_at dksX0_personOf_0 13 rfl rfl)
theorem dX0_personOf_14 : decode cX0_personOf 14 = .ok (.ireturn, 1) := dk_172 (dk_at dksX0_personOf_0 14 rfl rfl)
theorem dX0_personOf_15 : decode cX0_personOf 15 = .ok (.iconst 0, 1) := dk_3 (dk_at dksX0_personOf_0 15 rfl rfl)
theorem dX0_personOf_16 : decode cX0_personOf 16 = .ok (.ireturn, 1) := dk_172 (dk_at dksX0_personOf_0 16 rfl rfl)
abbrev cX0_ballots : ByteArray := method_22_code
def yX0_ballots : MethodName := ⟨RX0, "ballots", "(LBallotFoundry;I[J)I"⟩
def dkwX0_ballots_0 : List UInt8 := [44, 3, 42, 27, 182, 0, 78, 133, 80, 167, 0, 6, 78, 4, 172, 3, 172]
abbrev dktX0_ballots_0 : List UInt8 := dkwX0_ballots_0 ++ []
theorem dksX0_ballots_0 : cX0_ballots.data.toList.drop 0 = dktX0_ballots_0 := by decide +kernel
theorem dX0_ballots_0 : decode cX0_ballots 0 = .ok (.aload_n 2, 1) := dk_44 (dk_at dksX0_ballots_0 0 rfl rfl)
theorem dX0_ballots_1 : decode cX0_ballots 1 = .ok (.iconst 0, 1) := dk_3 (dk_at dksX0_ballots_0 1 rfl rfl)
theorem dX0_ballots_2 : decode cX0_ballots 2 = .ok (.aload_n 0, 1) := dk_42 (dk_at dksX0_ballots_0 2 rfl rfl)
theorem dX0_ballots_3 : decode cX0_ballots 3 = .ok (.iload_n 1, 1) := dk_27 (dk_at dksX0_ballots_0 3 rfl rfl)
theorem dX0_ballots_4 : decode cX0_ballots 4 = .ok (.invokevirtual 78, 3) := dk_182 0 78 (dk_at dksX0_ballots_0 4 rfl rfl)
theorem dX0_ballots_7 : decode cX0_ballots 7 = .ok (.i2l, 1) := dk_133 (dk_at dksX0_ballots_0 7 rfl rfl)
theorem dX0_ballots_8 : decode cX0_ballots 8 = .ok (.lastore, 1) := dk_80 (dk_at dksX0_ballots_0 8 rfl rfl)
theorem dX0_ballots_9 : decode cX0_ballots 9 = .ok (.goto 6, 3) := dk_167 0 6 (dk_at dksX0_ballots_0 9 rfl rfl)
theorem dX0_ballots_12 : decode cX0_ballots 12 = .ok (.astore_n 3, 1) := dk_78 (dk_at dksX0_ballots_0 12 rfl rfl)
theorem dX0_ballots_13 : decode cX0_ballots 13 = .ok (.iconst 1, 1) := dk_4 (dk_at dksX0_ballots_0 13 rfl rfl)
theorem dX0_ballots_14 : decode cX0_ballots 14 = .ok (.ireturn, 1) := dk_172 (dk_at dksX0_ballots_0 14 rfl rfl)
theorem dX0_ballots_15 : decode cX0_ballots 15 = .ok (.iconst 0, 1) := dk_3 (dk_at dksX0_ballots_0 15 rfl rfl)
theorem dX0_ballots_16 : decode cX0_ballots 16 = .ok (.ireturn, 1) := dk_172 (dk_at dksX0_ballots_0 16 rfl rfl)
abbrev cX0_setSlip : ByteArray := method_23_code
def yX0_setSlip : MethodName := ⟨RX0, "setSlip", "(LBallotFoundry;II[J)I"⟩
def dkwX0_setSlip_0 : List UInt8 := [45, 3, 42, 27, 28, 182, 0, 81, 133, 80, 167, 0, 11, 58, 4, 4, 172, 58, 4, 5, 172, 3, 172]
abbrev dktX0_setSlip_0 : List UInt8 := dkwX0_setSlip_0 ++ []
theorem dksX0_setSlip_0 : cX0_setSlip.data.toList.drop 0 = dktX0_setSlip_0 := by decide +kernel
theorem dX0_setSlip_0 : decode cX0_setSlip 0 = .ok (.aload_n 3, 1) := dk_45 (dk_at dksX0_setSlip_0 0 rfl rfl)
theorem dX0_setSlip_1 : decode cX0_setSlip 1 = .ok (.iconst 0, 1) := dk_3 (dk_at dksX0_setSlip_0 1 rfl rfl)
theorem dX0_setSlip_2 : decode cX0_setSlip 2 = .ok (.aload_n 0, 1) := dk_42 (dk_at dksX0_setSlip_0 2 rfl rfl)
theorem dX0_setSlip_3 : decode cX0_setSlip 3 = .ok (.iload_n 1, 1) := dk_27 (dk_at dksX0_setSlip_0 3 rfl rfl)
theorem dX0_setSlip_4 : decode cX0_setSlip 4 = .ok (.iload_n 2, 1) := dk_28 (dk_at dksX0_setSlip_0 4 rfl rfl)
theorem dX0_setSlip_5 : decode cX0_setSlip 5 = .ok (.invokevirtual 81, 3) := dk_182 0 81 (dk_at dksX0_setSlip_0 5 rfl rfl)
theorem dX0_setSlip_8 : decode cX0_setSlip 8 = .ok (.i2l, 1) := dk_133 (dk_at dksX0_setSlip_0 8 rfl rfl)
theorem dX0_setSlip_9 : decode cX0_setSlip 9 = .ok (.lastore, 1) := dk_80 (dk_at dksX0_setSlip_0 9 rfl rfl)
theorem dX0_setSlip_10 : decode cX0_setSlip 10 = .ok (.goto 11, 3) := dk_167 0 11 (dk_at dksX0_setSlip_0 10 rfl rfl)
theorem dX0_setSlip_13 : decode cX0_setSlip 13 = .ok (.astore 4, 2) := dk_58 4 (dk_at dksX0_setSlip_0 13 rfl rfl)
theorem dX0_setSlip_15 : decode cX0_setSlip 15 = .ok (.iconst 1, 1) := dk_4 (dk_at dksX0_setSlip_0 15 rfl rfl)
theorem dX0_setSlip_16 : decode cX0_setSlip 16 = .ok (.ireturn, 1) := dk_172 (dk_at dksX0_setSlip_0 16 rfl rfl)
theorem dX0_setSlip_17 : decode cX0_setSlip 17 = .ok (.astore 4, 2) := dk_58 4 (dk_at dksX0_setSlip_0 17 rfl rfl)
theorem dX0_setSlip_19 : decode cX0_setSlip 19 = .ok (.iconst 2, 1) := dk_5 (dk_at dksX0_setSlip_0 19 rfl rfl)
theorem dX0_setSlip_20 : decode cX0_setSlip 20 = .ok (.ireturn, 1) := dk_172 (dk_at dksX0_setSlip_0 20 rfl rfl)
theorem dX0_setSlip_21 : decode cX0_setSlip 21 = .ok (.iconst 0, 1) := dk_3 (dk_at dksX0_setSlip_0 21 rfl rfl)
theorem dX0_setSlip_22 : decode cX0_setSlip 22 = .ok (.ireturn, 1) := dk_172 (dk_at dksX0_setSlip_0 22 rfl rfl)
abbrev cX0_count : ByteArray := method_24_code
def yX0_count : MethodName := ⟨RX0, "count", "(LBallotFoundry;II[J)I"⟩
def dkwX0_count_1 : List UInt8 := [58, 4, 5, 172, 3, 172]
abbrev dktX0_count_1 : List UInt8 := dkwX0_count_1 ++ []
def dkwX0_count_0 : List UInt8 := [45, 3, 42, 27, 28, 182, 0, 84, 153, 0, 7, 10, 167, 0, 4, 9, 80, 167, 0, 11, 58, 4, 4, 172]
abbrev dktX0_count_0 : List UInt8 := dkwX0_count_0 ++ dktX0_count_1
theorem dksX0_count_0 : cX0_count.data.toList.drop 0 = dktX0_count_0 := by decide +kernel
theorem dksX0_count_1 : cX0_count.data.toList.drop 24 = dktX0_count_1 := dk_seg dksX0_count_0 24 rfl rfl
theorem dX0_count_0 : decode cX0_count 0 = .ok (.aload_n 3, 1) := dk_45 (dk_at dksX0_count_0 0 rfl rfl)
theorem dX0_count_1 : decode cX0_count 1 = .ok (.iconst 0, 1) := dk_3 (dk_at dksX0_count_0 1 rfl rfl)
theorem dX0_count_2 : decode cX0_count 2 = .ok (.aload_n 0, 1) := dk_42 (dk_at dksX0_count_0 2 rfl rfl)
theorem dX0_count_3 : decode cX0_count 3 = .ok (.iload_n 1, 1) := dk_27 (dk_at dksX0_count_0 3 rfl rfl)
theorem dX0_count_4 : decode cX0_count 4 = .ok (.iload_n 2, 1) := dk_28 (dk_at dksX0_count_0 4 rfl rfl)
theorem dX0_count_5 : decode cX0_count 5 = .ok (.invokevirtual 84, 3) := dk_182 0 84 (dk_at dksX0_count_0 5 rfl rfl)
theorem dX0_count_8 : decode cX0_count 8 = .ok (.ifCond .eq 7, 3) := dk_153 0 7 (dk_at dksX0_count_0 8 rfl rfl)
theorem dX0_count_11 : decode cX0_count 11 = .ok (.lconst 1, 1) := dk_10 (dk_at dksX0_count_0 11 rfl rfl)
theorem dX0_count_12 : decode cX0_count 12 = .ok (.goto 4, 3) := dk_167 0 4 (dk_at dksX0_count_0 12 rfl rfl)
theorem dX0_count_15 : decode cX0_count 15 = .ok (.lconst 0, 1) := dk_9 (dk_at dksX0_count_0 15 rfl rfl)
theorem dX0_count_16 : decode cX0_count 16 = .ok (.lastore, 1) := dk_80 (dk_at dksX0_count_0 16 rfl rfl)
theorem dX0_count_17 : decode cX0_count 17 = .ok (.goto 11, 3) := dk_167 0 11 (dk_at dksX0_count_0 17 rfl rfl)
theorem dX0_count_20 : decode cX0_count 20 = .ok (.astore 4, 2) := dk_58 4 (dk_at dksX0_count_0 20 rfl rfl)
theorem dX0_count_22 : decode cX0_count 22 = .ok (.iconst 1, 1) := dk_4 (dk_at dksX0_count_0 22 rfl rfl)
theorem dX0_count_23 : decode cX0_count 23 = .ok (.ireturn, 1) := dk_172 (dk_at dksX0_count_0 23 rfl rfl)
theorem dX0_count_24 : decode cX0_count 24 = .ok (.astore 4, 2) := dk_58 4 (dk_at dksX0_count_1 0 rfl rfl)
theorem dX0_count_26 : decode cX0_count 26 = .ok (.iconst 2, 1) := dk_5 (dk_at dksX0_count_1 2 rfl rfl)
theorem dX0_count_27 : decode cX0_count 27 = .ok (.ireturn, 1) := dk_172 (dk_at dksX0_count_1 3 rfl rfl)
theorem dX0_count_28 : decode cX0_count 28 = .ok (.iconst 0, 1) := dk_3 (dk_at dksX0_count_1 4 rfl rfl)
theorem dX0_count_29 : decode cX0_count 29 = .ok (.ireturn, 1) := dk_172 (dk_at dksX0_count_1 5 rfl rfl)
abbrev cX0_recount : ByteArray := method_25_code
def yX0_recount : MethodName := ⟨RX0, "recount", "(LBallotFoundry;I[J)I"⟩
def dkwX0_recount_0 : List UInt8 := [44, 3, 42, 27, 182, 0, 88, 133, 80, 167, 0, 9, 78, 4, 172, 78, 5, 172, 3, 172]
abbrev dktX0_recount_0 : List UInt8 := dkwX0_recount_0 ++ []
theorem dksX0_recount_0 : cX0_recount.data.toList.drop 0 = dktX0_recount_0 := by decide +kernel
theorem dX0_recount_0 : decode cX0_recount 0 = .ok (.aload_n 2, 1) := dk_44 (dk_at dksX0_recount_0 0 rfl rfl)
theorem dX0_recount_1 : decode cX0_recount 1 = .ok (.iconst 0, 1) := dk_3 (dk_at dksX0_recount_0 1 rfl rfl)
theorem dX0_recount_2 : decode cX0_recount 2 = .ok (.aload_n 0, 1) := dk_42 (dk_at dksX0_recount_0 2 rfl rfl)
theorem dX0_recount_3 : decode cX0_recount 3 = .ok (.iload_n 1, 1) := dk_27 (dk_at dksX0_recount_0 3 rfl rfl)
theorem dX0_recount_4 : decode cX0_recount 4 = .ok (.invokevirtual 88, 3) := dk_182 0 88 (dk_at dksX0_recount_0 4 rfl rfl)
theorem dX0_recount_7 : decode cX0_recount 7 = .ok (.i2l, 1) := dk_133 (dk_at dksX0_recount_0 7 rfl rfl)
theorem dX0_recount_8 : decode cX0_recount 8 = .ok (.lastore, 1) := dk_80 (dk_at dksX0_recount_0 8 rfl rfl)
theorem dX0_recount_9 : decode cX0_recount 9 = .ok (.goto 9, 3) := dk_167 0 9 (dk_at dksX0_recount_0 9 rfl rfl)
theorem dX0_recount_12 : decode cX0_recount 12 = .ok (.astore_n 3, 1) := dk_78 (dk_at dksX0_recount_0 12 rfl rfl)
theorem dX0_recount_13 : decode cX0_recount 13 = .ok (.iconst 1, 1) := dk_4 (dk_at dksX0_recount_0 13 rfl rfl)
theorem dX0_recount_14 : decode cX0_recount 14 = .ok (.ireturn, 1) := dk_172 (dk_at dksX0_recount_0 14 rfl rfl)
theorem dX0_recount_15 : decode cX0_recount 15 = .ok (.astore_n 3, 1) := dk_78 (dk_at dksX0_recount_0 15 rfl rfl)
theorem dX0_recount_16 : decode cX0_recount 16 = .ok (.iconst 2, 1) := dk_5 (dk_at dksX0_recount_0 16 rfl rfl)
theorem dX0_recount_17 : decode cX0_recount 17 = .ok (.ireturn, 1) := dk_172 (dk_at dksX0_recount_0 17 rfl rfl)
theorem dX0_recount_18 : decode cX0_recount 18 = .ok (.iconst 0, 1) := dk_3 (dk_at dksX0_recount_0 18 rfl rfl)
theorem dX0_recount_19 : decode cX0_recount 19 = .ok (.ireturn, 1) := dk_172 (dk_at dksX0_recount_0 19 rfl rfl)
abbrev cX0_isSettled : ByteArray := method_26_code
def yX0_isSettled : MethodName := ⟨RX0, "isSettled", "(LBallotFoundry;I[J)I"⟩
def dkwX0_isSettled_0 : List UInt8 := [44, 3, 42, 27, 182, 0, 91, 153, 0, 7, 10, 167, 0, 4, 9, 80, 167, 0, 6, 78, 4, 172, 3, 172]
abbrev dktX0_isSettled_0 : List UInt8 := dkwX0_isSettled_0 ++ []
theorem dksX0_isSettled_0 : cX0_isSettled.data.toList.drop 0 = dktX0_isSettled_0 := by decide +kernel
theorem dX0_isSettled_0 : decode cX0_isSettled 0 = .ok (.aload_n 2, 1) := dk_44 (dk_at dksX0_isSettled_0 0 rfl rfl)
theorem dX0_isSettled_1 : decode cX0_isSettled 1 = .ok (.iconst 0, 1) := dk_3 (dk_at dksX0_isSettled_0 1 rfl rfl)
theorem dX0_isSettled_2 : decode cX0_isSettled 2 = .ok (.aload_n 0, 1) := dk_42 (dk_at dksX0_isSettled_0 2 rfl rfl)
theorem dX0_isSettled_3 : decode cX0_isSettled 3 = .ok (.iload_n 1, 1) := dk_27 (dk_at dksX0_isSettled_0 3 rfl rfl)
theorem dX0_isSettled_4 : decode cX0_isSettled 4 = .ok (.invokevirtual 91, 3) := dk_182 0 91 (dk_at dksX0_isSettled_0 4 rfl rfl)
theorem dX0_isSettled_7 : decode cX0_isSettled 7 = .ok (.ifCond .eq 7, 3) := dk_153 0 7 (dk_at dksX0_isSettled_0 7 rfl rfl)
theorem dX0_isSettled_10 : decode cX0_isSettled 10 = .ok (.lconst 1, 1) := dk_10 (dk_at dksX0_isSettled_0 10 rfl rfl)
theorem dX0_isSettled_11 : decode cX0_isSettled 11 = .ok (.goto 4, 3) := dk_167 0 4 (dk_at dksX0_isSettled_0 11 rfl rfl)
theorem dX0_isSettled_14 : decode cX0_isSettled 14 = .ok (.lconst 0, 1) := dk_9 (dk_at dksX0_isSettled_0 14 rfl rfl)
theorem dX0_isSettled_15 : decode cX0_isSettled 15 = .ok (.lastore, 1) := dk_80 (dk_at dksX0_isSettled_0 15 rfl rfl)
theorem dX0_isSettled_16 : decode cX0_isSettled 16 = .ok (.goto 6, 3) := dk_167 0 6 (dk_at dksX0_isSettled_0 16 rfl rfl)
theorem dX0_isSettled_19 : decode cX0_isSettled 19 = .ok (.astore_n 3, 1) := dk_78 (dk_at dksX0_isSettled_0 19 rfl rfl)
theorem dX0_isSettled_20 : decode cX0_isSettled 20 = .ok (.iconst 1, 1) := dk_4 (dk_at dksX0_isSettled_0 20 rfl rfl)
theorem dX0_isSettled_21 : decode cX0_isSettled 21 = .ok (.ireturn, 1) := dk_172 (dk_at dksX0_isSettled_0 21 rfl rfl)
theorem dX0_isSettled_22 : decode cX0_isSettled 22 = .ok (.iconst 0, 1) := dk_3 (dk_at dksX0_isSettled_0 22 rfl rfl)
theorem dX0_isSettled_23 : decode cX0_isSettled 23 = .ok (.ireturn, 1) := dk_172 (dk_at dksX0_isSettled_0 23 rfl rfl)
abbrev cX0_numberOf : ByteArray := method_27_code
def yX0_numberOf : MethodName := ⟨RX0, "numberOf", "(LBallotFoundry;II[J)I"⟩
def dkwX0_numberOf_0 : List UInt8 := [45, 3, 42, 27, 28, 182, 0, 94, 133, 80, 167, 0, 11, 58, 4, 4, 172, 58, 4, 5, 172, 3, 172]
abbrev dktX0_numberOf_0 : List UInt8 := dkwX0_numberOf_0 ++ []
theorem dksX0_numberOf_0 : cX0_numberOf.data.toList.drop 0 = dktX0_numberOf_0 := by decide +kernel
theorem dX0_numberOf_0 : decode cX0_numberOf 0 = .ok (.aload_n 3, 1) := dk_45 (dk_at dksX0_numberOf_0 0 rfl rfl)
theorem dX0_numberOf_1 : decode cX0_numberOf 1 = .ok (.iconst 0, 1) := dk_3 (dk_at dksX0_numberOf_0 1 rfl rfl)
theorem dX0_numberOf_2 : decode cX0_numberOf 2 = .ok (.aload_n 0, 1) := dk_42 (dk_at dksX0_numberOf_0 2 rfl rfl)
theorem dX0_numberOf_3 : decode cX0_numberOf 3 = .ok (.iload_n 1, 1) := dk_27 (dk_at dksX0_numberOf_0 3 rfl rfl)
theorem dX0_numberOf_4 : decode cX0_numberOf 4 = .ok (.iload_n 2, 1) := dk_28 (dk_at dksX0_numberOf_0 4 rfl rfl)
theorem dX0_numberOf_5 : decode cX0_numberOf 5 = .ok (.invokevirtual 94, 3) := dk_182 0 94 (dk_at dksX0_numberOf_0 5 rfl rfl)
theorem dX0_numberOf_8 : decode cX0_numberOf 8 = .ok (.i2l, 1) := dk_133 (dk_at dksX0_numberOf_0 8 rfl rfl)
theorem dX0_numberOf_9 : decode cX0_numberOf 9 = .ok (.lastore, 1) := dk_80 (dk_at dksX0_numberOf_0 9 rfl rfl)
theorem dX0_numberOf_10 : decode cX0_numberOf 10 = .ok (.goto 11, 3) := dk_167 0 11 (dk_at dksX0_numberOf_0 10 rfl rfl)
theorem dX0_numberOf_13 : decode cX0_numberOf 13 = .ok (.astore 4, 2) := dk_58 4 (dk_at dksX0_numberOf_0 13 rfl rfl)
theorem dX0_numberOf_15 : decode cX0_numberOf 15 = .ok (.iconst 1, 1) := dk_4 (dk_at dksX0_numberOf_0 15 rfl rfl)
theorem dX0_numberOf_16 : decode cX0_numberOf 16 = .ok (.ireturn, 1) := dk_172 (dk_at dksX0_numberOf_0 16 rfl rfl)
theorem dX0_numberOf_17 : decode cX0_numberOf 17 = .ok (.astore 4, 2) := dk_58 4 (dk_at dksX0_numberOf_0 17 rfl rfl)
theorem dX0_numberOf_19 : decode cX0_numberOf 19 = .ok (.iconst 2, 1) := dk_5 (dk_at dksX0_numberOf_0 19 rfl rfl)
theorem dX0_numberOf_20 : decode cX0_numberOf 20 = .ok (.ireturn, 1) := dk_172 (dk_at dksX0_numberOf_0 20 rfl rfl)
theorem dX0_numberOf_21 : decode cX0_numberOf 21 = .ok (.iconst 0, 1) := dk_3 (dk_at dksX0_numberOf_0 21 rfl rfl)
theorem dX0_numberOf_22 : decode cX0_numberOf 22 = .ok (.ireturn, 1) := dk_172 (dk_at dksX0_numberOf_0 22 rfl rfl)
abbrev cX0_misread : ByteArray := method_28_code
def yX0_misread : MethodName := ⟨RX0, "misread", "(LBallotFoundry;I[J)I"⟩
def dkwX0_misread_0 : List UInt8 := [44, 3, 42, 27, 182, 0, 97, 133, 80, 167, 0, 6, 78, 4, 172, 3, 172]
abbrev dktX0_misread_0 : List UInt8 := dkwX0_misread_0 ++ []
theorem dksX0_misread_0 : cX0_misread.data.toList.drop 0 = dktX0_misread_0 := by decide +kernel
theorem dX0_misread_0 : decode cX0_misread 0 = .ok (.aload_n 2, 1) := dk_44 (dk_at dksX0_misread_0 0 rfl rfl)
theorem dX0_misread_1 : decode cX0_misread 1 = .ok (.iconst 0, 1) := dk_3 (dk_at dksX0_misread_0 1 rfl rfl)
theorem dX0_misread_2 : decode cX0_misread 2 = .ok (.aload_n 0, 1) := dk_42 (dk_at dksX0_misread_0 2 rfl rfl)
theorem dX0_misread_3 : decode cX0_misread 3 = .ok (.iload_n 1, 1) := dk_27 (dk_at dksX0_misread_0 3 rfl rfl)
theorem dX0_misread_4 : decode cX0_misread 4 = .ok (.invokevirtual 97, 3) := dk_182 0 97 (dk_at dksX0_misread_0 4 rfl rfl)
theorem dX0_misread_7 : decode cX0_misread 7 = .ok (.i2l, 1) := dk_133 (dk_at dksX0_misread_0 7 rfl rfl)
theorem dX0_misread_8 : decode cX0_misread 8 = .ok (.lastore, 1) := dk_80 (dk_at dksX0_misread_0 8 rfl rfl)
theorem dX0_misread_9 : decode cX0_misread 9 = .ok (.goto 6, 3) := dk_167 0 6 (dk_at dksX0_misread_0 9 rfl rfl)
theorem dX0_misread_12 : decode cX0_misread 12 = .ok (.astore_n 3, 1) := dk_78 (dk_at dksX0_misread_0 12 rfl rfl)
theorem dX0_misread_13 : decode cX0_misread 13 = .ok (.iconst 1, 1) := dk_4 (dk_at dksX0_misread_0 13 rfl rfl)
theorem dX0_misread_14 : decode cX0_misread 14 = .ok (.ireturn, 1) := dk_172 (dk_at dksX0_misread_0 14 rfl rfl)
theorem dX0_misread_15 : decode cX0_misread 15 = .ok (.iconst 0, 1) := dk_3 (dk_at dksX0_misread_0 15 rfl rfl)
theorem dX0_misread_16 : decode cX0_misread 16 = .ok (.ireturn, 1) := dk_172 (dk_at dksX0_misread_0 16 rfl rfl)
abbrev cX0_votes : ByteArray := method_29_code
def yX0_votes : MethodName := ⟨RX0, "votes", "(LBallotFoundry;I[J)I"⟩
def dkwX0_votes_0 : List UInt8 := [44, 3, 42, 27, 182, 0, 100, 133, 80, 167, 0, 6, 78, 4, 172, 3, 172]
abbrev dktX0_votes_0 : List UInt8 := dkwX0_votes_0 ++ []
theorem dksX0_votes_0 : cX0_votes.data.toList.drop 0 = dktX0_votes_0 := by decide +kernel
theorem dX0_votes_0 : decode cX0_votes 0 = .ok (.aload_n 2, 1) := dk_44 (dk_at dksX0_votes_0 0 rfl rfl)
theorem dX0_votes_1 : decode cX0_votes 1 = .ok (.iconst 0, 1) := dk_3 (dk_at dksX0_votes_0 1 rfl rfl)
theorem dX0_votes_2 : decode cX0_votes 2 = .ok (.aload_n 0, 1) := dk_42 (dk_at dksX0_votes_0 2 rfl rfl)
theorem dX0_votes_3 : decode cX0_votes 3 = .ok (.iload_n 1, 1) := dk_27 (dk_at dksX0_votes_0 3 rfl rfl)
theorem dX0_votes_4 : decode cX0_votes 4 = .ok (.invokevirtual 100, 3) := dk_182 0 100 (dk_at dksX0_votes_0 4 rfl rfl)
theorem dX0_votes_7 : decode cX0_votes 7 = .ok (.i2l, 1) := dk_133 (dk_at dksX0_votes_0 7 rfl rfl)
theorem dX0_votes_8 : decode cX0_votes 8 = .ok (.lastore, 1) := dk_80 (dk_at dksX0_votes_0 8 rfl rfl)
theorem dX0_votes_9 : decode cX0_votes 9 = .ok (.goto 6, 3) := dk_167 0 6 (dk_at dksX0_votes_0 9 rfl rfl)
theorem dX0_votes_12 : decode cX0_votes 12 = .ok (.astore_n 3, 1) := dk_78 (dk_at dksX0_votes_0 12 rfl rfl)
theorem dX0_votes_13 : decode cX0_votes 13 = .ok (.iconst 1, 1) := dk_4 (dk_at dksX0_votes_0 13 rfl rfl)
theorem dX0_votes_14 : decode cX0_votes 14 = .ok (.ireturn, 1) := dk_172 (dk_at dksX0_votes_0 14 rfl rfl)
theorem dX0_votes_15 : decode cX0_votes 15 = .ok (.iconst 0, 1) := dk_3 (dk_at dksX0_votes_0 15 rfl rfl)
theorem dX0_votes_16 : decode cX0_votes 16 = .ok (.ireturn, 1) := dk_172 (dk_at dksX0_votes_0 16 rfl rfl)
abbrev cX0_seats : ByteArray := method_30_code
def yX0_seats : MethodName := ⟨RX0, "seats", "(LBallotFoundry;I[J)I"⟩
def dkwX0_seats_0 : List UInt8 := [44, 3, 42, 27, 182, 0, 103, 133, 80, 167, 0, 6, 78, 4, 172, 3, 172]
abbrev dktX0_seats_0 : List UInt8 := dkwX0_seats_0 ++ []
theorem dksX0_seats_0 : cX0_seats.data.toList.drop 0 = dktX0_seats_0 := by decide +kernel
theorem dX0_seats_0 : decode cX0_seats 0 = .ok (.aload_n 2, 1) := dk_44 (dk_at dksX0_seats_0 0 rfl rfl)
theorem dX0_seats_1 : decode cX0_seats 1 = .ok (.iconst 0, 1) := dk_3 (dk_at dksX0_seats_0 1 rfl rfl)
theorem dX0_seats_2 : decode cX0_seats 2 = .ok (.aload_n 0, 1) := dk_42 (dk_at dksX0_seats_0 2 rfl rfl)
theorem dX0_seats_3 : decode cX0_seats 3 = .ok (.iload_n 1, 1) := dk_27 (dk_at dksX0_seats_0 3 rfl rfl)
theorem dX0_seats_4 : decode cX0_seats 4 = .ok (.invokevirtual 103, 3) := dk_182 0 103 (dk_at dksX0_seats_0 4 rfl rfl)
theorem dX0_seats_7 : decode cX0_seats 7 = .ok (.i2l, 1) := dk_133 (dk_at dksX0_seats_0 7 rfl rfl)
theorem dX0_seats_8 : decode cX0_seats 8 = .ok (.lastore, 1) := dk_80 (dk_at dksX0_seats_0 8 rfl rfl)
theorem dX0_seats_9 : decode cX0_seats 9 = .ok (.goto 6, 3) := dk_167 0 6 (dk_at dksX0_seats_0 9 rfl rfl)
theorem dX0_seats_12 : decode cX0_seats 12 = .ok (.astore_n 3, 1) := dk_78 (dk_at dksX0_seats_0 12 rfl rfl)
theorem dX0_seats_13 : decode cX0_seats 13 = .ok (.iconst 1, 1) := dk_4 (dk_at dksX0_seats_0 13 rfl rfl)
theorem dX0_seats_14 : decode cX0_seats 14 = .ok (.ireturn, 1) := dk_172 (dk_at dksX0_seats_0 14 rfl rfl)
theorem dX0_seats_15 : decode cX0_seats 15 = .ok (.iconst 0, 1) := dk_3 (dk_at dksX0_seats_0 15 rfl rfl)
theorem dX0_seats_16 : decode cX0_seats 16 = .ok (.ireturn, 1) := dk_172 (dk_at dksX0_seats_0 16 rfl rfl)
abbrev cX0_seatAt : ByteArray := method_31_code
def yX0_seatAt : MethodName := ⟨RX0, "seatAt", "(LBallotFoundry;I[J)I"⟩
def dkwX0_seatAt_0 : List UInt8 := [44, 3, 42, 27, 182, 0, 106, 133, 80, 167, 0, 6, 78, 4, 172, 3, 172]
abbrev dktX0_seatAt_0 : List UInt8 := dkwX0_seatAt_0 ++ []
theorem dksX0_seatAt_0 : cX0_seatAt.data.toList.drop 0 = dktX0_seatAt_0 := by decide +kernel
theorem dX0_seatAt_0 : decode cX0_seatAt 0 = .ok (.aload_n 2, 1) := dk_44 (dk_at dksX0_seatAt_0 0 rfl rfl)
theorem dX0_seatAt_1 : decode cX0_seatAt 1 = .ok (.iconst 0, 1) := dk_3 (dk_at dksX0_seatAt_0 1 rfl rfl)
theorem dX0_seatAt_2 : decode cX0_seatAt 2 = .ok (.aload_n 0, 1) := dk_42 (dk_at dksX0_seatAt_0 2 rfl rfl)
theorem dX0_seatAt_3 : decode cX0_seatAt 3 = .ok (.iload_n 1, 1) := dk_27 (dk_at dksX0_seatAt_0 3 rfl rfl)
theorem dX0_seatAt_4 : decode cX0_seatAt 4 = .ok (.invokevirtual 106, 3) := dk_182 0 106 (dk_at dksX0_seatAt_0 4 rfl rfl)
theorem dX0_seatAt_7 : decode cX0_seatAt 7 = .ok (.i2l, 1) := dk_133 (dk_at dksX0_seatAt_0 7 rfl rfl)
theorem dX0_seatAt_8 : decode cX0_seatAt 8 = .ok (.lastore, 1) := dk_80 (dk_at dksX0_seatAt_0 8 rfl rfl)
theorem dX0_seatAt_9 : decode cX0_seatAt 9 = .ok (.goto 6, 3) := dk_167 0 6 (dk_at dksX0_seatAt_0 9 rfl rfl)
theorem dX0_seatAt_12 : decode cX0_seatAt 12 = .ok (.astore_n 3, 1) := dk_78 (dk_at dksX0_seatAt_0 12 rfl rfl)
theorem dX0_seatAt_13 : decode cX0_seatAt 13 = .ok (.iconst 1, 1) := dk_4 (dk_at dksX0_seatAt_0 13 rfl rfl)
theorem dX0_seatAt_14 : decode cX0_seatAt 14 = .ok (.ireturn, 1) := dk_172 (dk_at dksX0_seatAt_0 14 rfl rfl)
theorem dX0_seatAt_15 : decode cX0_seatAt 15 = .ok (.iconst 0, 1) := dk_3 (dk_at dksX0_seatAt_0 15 rfl rfl)
theorem dX0_seatAt_16 : decode cX0_seatAt 16 = .ok (.ireturn, 1) := dk_172 (dk_at dksX0_seatAt_0 16 rfl rfl)
abbrev cX0_seatsByBallots : ByteArray := method_32_code
def yX0_seatsByBallots : MethodName := ⟨RX0, "seatsByBallots", "(LBallotFoundry;I[J)I"⟩
def dkwX0_seatsByBallots_0 : List UInt8 := [44, 3, 42, 27, 182, 0, 109, 133, 80, 167, 0, 6, 78, 4, 172, 3, 172]
abbrev dktX0_seatsByBallots_0 : List UInt8 := dkwX0_seatsByBallots_0 ++ []
theorem dksX0_seatsByBallots_0 : cX0_seatsByBallots.data.toList.drop 0 = dktX0_seatsByBallots_0 := by decide +kernel
theorem dX0_seatsByBallots_0 : decode cX0_seatsByBallots 0 = .ok (.aload_n 2, 1) := dk_44 (dk_at dksX0_seatsByBallots_0 0 rfl rfl)
theorem dX0_seatsByBallots_1 : decode cX0_seatsByBallots 1 = .ok (.iconst 0, 1) := dk_3 (dk_at dksX0_seatsByBallots_0 1 rfl rfl)
theorem dX0_seatsByBallots_2 : decode cX0_seatsByBallots 2 = .ok (.aload_n 0, 1) := dk_42 (dk_at dksX0_seatsByBallots_0 2 rfl rfl)
theorem dX0_seatsByBallots_3 : decode cX0_seatsByBallots 3 = .ok (.iload_n 1, 1) := dk_27 (dk_at dksX0_seatsByBallots_0 3 rfl rfl)
theorem dX0_seatsByBallots_4 : decode cX0_seatsByBallots 4 = .ok (.invokevirtual 109, 3) := dk_182 0 109 (dk_at dksX0_seatsByBallots_0 4 rfl rfl)
theorem dX0_seatsByBallots_7 : decode cX0_seatsByBallots 7 = .ok (.i2l, 1) := dk_133 (dk_at dksX0_seatsByBallots_0 7 rfl rfl)
theorem dX0_seatsByBallots_8 : decode cX0_seatsByBallots 8 = .ok (.lastore, 1) := dk_80 (dk_at dksX0_seatsByBallots_0 8 rfl rfl)
theorem dX0_seatsByBallots_9 : decode cX0_seatsByBallots 9 = .ok (.goto 6, 3) := dk_167 0 6 (dk_at dksX0_seatsByBallots_0 9 rfl rfl)
theorem dX0_seatsByBallots_12 : decode cX0_seatsByBallots 12 = .ok (.astore_n 3, 1) := dk_78 (dk_at dksX0_seatsByBallots_0 12 rfl rfl)
theorem dX0_seatsByBallots_13 : decode cX0_seatsByBallots 13 = .ok (.iconst 1, 1) := dk_4 (dk_at dksX0_seatsByBallots_0 13 rfl rfl)
theorem dX0_seatsByBallots_14 : decode cX0_seatsByBallots 14 = .ok (.ireturn, 1) := dk_172 (dk_at dksX0_seatsByBallots_0 14 rfl rfl)
theorem dX0_seatsByBallots_15 : decode cX0_seatsByBallots 15 = .ok (.iconst 0, 1) := dk_3 (dk_at dksX0_seatsByBallots_0 15 rfl rfl)
theorem dX0_seatsByBallots_16 : decode cX0_seatsByBallots 16 = .ok (.ireturn, 1) := dk_172 (dk_at dksX0_seatsByBallots_0 16 rfl rfl)
abbrev cX0_signAt : ByteArray := method_33_code
def yX0_signAt : MethodName := ⟨RX0, "signAt", "(LBallotFoundry;II[J)I"⟩
def dkwX0_signAt_0 : List UInt8 := [45, 3, 42, 27, 28, 182, 0, 112, 133, 80, 167, 0, 7, 58, 4, 4, 172, 3, 172]
abbrev dktX0_signAt_0 : List UInt8 := dkwX0_signAt_0 ++ []
theorem dksX0_signAt_0 : cX0_signAt.data.toList.drop 0 = dktX0_signAt_0 := by decide +kernel
theorem dX0_signAt_0 : decode cX0_signAt 0 = .ok (.aload_n 3, 1) := dk_45 (dk_at dksX0_signAt_0 0 rfl rfl)
theorem dX0_signAt_1 : decode cX0_signAt 1 = .ok (.iconst 0, 1) := dk_3 (dk_at dksX0_signAt_0 1 rfl rfl)
theorem dX0_signAt_2 : decode cX0_signAt 2 = .ok (.aload_n 0, 1) := dk_42 (dk_at dksX0_signAt_0 2 rfl rfl)
theorem dX0_signAt_3 : decode cX0_signAt 3 = .ok (.iload_n 1, 1) := dk_27 (dk_at dksX0_signAt_0 3 rfl rfl)
theorem dX0_signAt_4 : decode cX0_signAt 4 = .ok (.iload_n 2, 1) := dk_28 (dk_at dksX0_signAt_0 4 rfl rfl)
theorem dX0_signAt_5 : decode cX0_signAt 5 = .ok (.invokevirtual 112, 3) := dk_182 0 112 (dk_at dksX0_signAt_0 5 rfl rfl)
theorem dX0_signAt_8 : decode cX0_signAt 8 = .ok (.i2l, 1) := dk_133 (dk_at dksX0_signAt_0 8 rfl rfl)
theorem dX0_signAt_9 : decode cX0_signAt 9 = .ok (.lastore, 1) := dk_80 (dk_at dksX0_signAt_0 9 rfl rfl)
theorem dX0_signAt_10 : decode cX0_signAt 10 = .ok (.goto 7, 3) := dk_167 0 7 (dk_at dksX0_signAt_0 10 rfl rfl)
theorem dX0_signAt_13 : decode cX0_signAt 13 = .ok (.astore 4, 2) := dk_58 4 (dk_at dksX0_signAt_0 13 rfl rfl)
theorem dX0_signAt_15 : decode cX0_signAt 15 = .ok (.iconst 1, 1) := dk_4 (dk_at dksX0_signAt_0 15 rfl rfl)
theorem dX0_signAt_16 : decode cX0_signAt 16 = .ok (.ireturn, 1) := dk_172 (dk_at dksX0_signAt_0 16 rfl rfl)
theorem dX0_signAt_17 : decode cX0_signAt 17 = .ok (.iconst 0, 1) := dk_3 (dk_at dksX0_signAt_0 17 rfl rfl)
theorem dX0_signAt_18 : decode cX0_signAt 18 = .ok (.ireturn, 1) := dk_172 (dk_at dksX0_signAt_0 18 rfl rfl)
theorem q43 : (Jvm.Cond.initialized "BallotFoundryLaw") ∈ lw_all := lw_g (lw_at lw_m1 0 rfl) rfl
theorem q81 : (Jvm.Cond.classLink "BallotFoundryLaw" (8 : Nat) "BallotFoundry") ∈ lw_all := lw_g (lw_at lw_m1 38 rfl) rfl
theorem q83 : (Jvm.Cond.methodLink "BallotFoundryLaw" (115 : Nat) ({ cls := "BallotFoundry", name := "<init>", desc := "()V" } : Jvm.MethodName)) ∈ lw_all := lw_g (lw_at lw_m1 40 rfl) rfl
theorem q142 : (Jvm.Cond.methodLink "BallotFoundryLaw" (161 : Nat) ({ cls := "BallotFoundry", name := "today", desc := "()I" } : Jvm.MethodName)) ∈ lw_all := lw_g (lw_at lw_m1 99 rfl) rfl
theorem q146 : (Jvm.Cond.methodLink "BallotFoundryLaw" (165 : Nat) ({ cls := "BallotFoundry", name := "stage", desc := "()I" } : Jvm.MethodName)) ∈ lw_all := lw_g (lw_at lw_m1 103 rfl) rfl
theorem q150 : (Jvm.Cond.methodLink "BallotFoundryLaw" (188 : Nat) ({ cls := "BallotFoundry", name := "envelopes", desc := "()I" } : Jvm.MethodName)) ∈ lw_all := lw_g (lw_at lw_m1 107 rfl) rfl
theorem q164 : (Jvm.Cond.methodLink "BallotFoundryLaw" (228 : Nat) ({ cls := "BallotFoundry", name := "lots", desc := "()I" } : Jvm.MethodName)) ∈ lw_all := lw_g (lw_at lw_m1 121 rfl) rfl
theorem q281 : (Jvm.Cond.methodLink "BallotFoundryLaw" (235 : Nat) ({ cls := "BallotFoundry", name := "notes", desc := "()I" } : Jvm.MethodName)) ∈ lw_all := lw_g (lw_at lw_m1 238 rfl) rfl
theorem q285 : (Jvm.Cond.methodLink "BallotFoundryLaw" (119 : Nat) ({ cls := "BallotFoundryLaw", name := "bar", desc := "(LBallotFoundry;IIZ[J)I" } : Jvm.MethodName)) ∈ lw_all := lw_g (lw_at lw_m2 2 rfl) rfl
theorem q286 : (Jvm.Cond.static ({ cls := "BallotFoundryLaw", name := "bar", desc := "(LBallotFoundry;IIZ[J)I" } : Jvm.MethodName)) ∈ lw_all := lw_g (lw_at lw_m2 3 rfl) rfl
theorem q287 : (Jvm.Cond.codeWith ({ cls := "BallotFoundryLaw", name := "bar", desc := "(LBallotFoundry;IIZ[J)I" } : Jvm.MethodName) method_3_code (6 : Nat) (Option.some Jvm.ClassFile.FieldType.int) [((0 : Nat), (19 : Nat), (22 : Nat), (13 : Nat)), ((0 : Nat), (19 : Nat), (26 : Nat), (15 : Nat))]) ∈ lw_all := lw_g (lw_at lw_m2 4 rfl) rfl
theorem q288 : (Jvm.Cond.classLink "BallotFoundryLaw" (13 : Nat) "java/lang/IndexOutOfBoundsException") ∈ lw_all := lw_g (lw_at lw_m2 5 rfl) rfl
theorem q365 : (Jvm.Cond.classLink "BallotFoundryLaw" (15 : Nat) "java/lang/IllegalArgumentException") ∈ lw_all := lw_g (lw_at lw_m2 82 rfl) rfl
theorem q366 : (Jvm.Cond.methodLink "BallotFoundryLaw" (7 : Nat) ({ cls := "BallotFoundry", name := "bar", desc := "(IIZ)Z" } : Jvm.MethodName)) ∈ lw_all := lw_g (lw_at lw_m2 83 rfl) rfl
theorem q421 : (Jvm.Cond.methodLink "BallotFoundryLaw" (129 : Nat) ({ cls := "BallotFoundryLaw", name := "way", desc := "(LBallotFoundry;II[J)I" } : Jvm.MethodName)) ∈ lw_all := lw_g (lw_at lw_m2 138 rfl) rfl
theorem q422 : (Jvm.Cond.static ({ cls := "BallotFoundryLaw", name := "way", desc := "(LBallotFoundry;II[J)I" } : Jvm.MethodName)) ∈ lw_all := lw_g (lw_at lw_m2 139 rfl) rfl
theorem q423 : (Jvm.Cond.codeWith ({ cls := "BallotFoundryLaw", name := "way", desc := "(LBallotFoundry;II[J)I" } : Jvm.MethodName) method_4_code (5 : Nat) (Option.some Jvm.ClassFile.FieldType.int) [((0 : Nat), (10 : Nat), (13 : Nat), (13 : Nat))]) ∈ lw_all := lw_g (lw_at lw_m2 140 rfl) rfl
theorem q424 : (Jvm.Cond.methodLink "BallotFoundryLaw" (17 : Nat) ({ cls := "BallotFoundry", name := "way", desc := "(II)I" } : Jvm.MethodName)) ∈ lw_all := lw_g (lw_at lw_m2 141 rfl) rfl
theorem q432 : (Jvm.Cond.methodLink "BallotFoundryLaw" (133 : Nat) ({ cls := "BallotFoundryLaw", name := "station", desc := "(LBallotFoundry;II[J)I" } : Jvm.MethodName)) ∈ lw_all := lw_g (lw_at lw_m2 149 rfl) rfl
theorem q433 : (Jvm.Cond.static ({ cls := "BallotFoundryLaw", name := "station", desc := "(LBallotFoundry;II[J)I" } : Jvm.MethodName)) ∈ lw_all := lw_g (lw_at lw_m2 150 rfl) rfl
theorem q434 : (Jvm.Cond.codeWith ({ cls := "BallotFoundryLaw", name := "station", desc := "(LBallotFoundry;II[J)I" } : Jvm.MethodName) method_5_code (5 : Nat) (Option.some Jvm.ClassFile.FieldType.int) [((0 : Nat), (10 : Nat), (13 : Nat), (13 : Nat)), ((0 : Nat), (10 : Nat), (17 : Nat), (15 : Nat)), ((0 : Nat), (10 : Nat), (21 : Nat), (24 : Nat))]) ∈ lw_all := lw_g (lw_at lw_m2 151 rfl) rfl
theorem q435 : (Jvm.Cond.classLink "BallotFoundryLaw" (24 : Nat) "java/lang/IllegalStateException") ∈ lw_all := lw_g (lw_at lw_m2 152 rfl) rfl
theorem q436 : (Jvm.Cond.methodLink "BallotFoundryLaw" (21 : Nat) ({ cls := "BallotFoundry", name := "station", desc := "(II)I" } : Jvm.MethodName)) ∈ lw_all := lw_g (lw_at lw_m2 153 rfl) rfl
theorem q543 : (Jvm.Cond.methodLink "BallotFoundryLaw" (136 : Nat) ({ cls := "BallotFoundryLaw", name := "setSeats", desc := "(LBallotFoundry;II[J)I" } : Jvm.MethodName)) ∈ lw_all := lw_g (lw_at lw_m3 20 rfl) rfl
theorem q544 : (Jvm.Cond.static ({ cls := "BallotFoundryLaw", name := "setSeats", desc := "(LBallotFoundry;II[J)I" } : Jvm.MethodName)) ∈ lw_all := lw_g (lw_at lw_m3 21 rfl) rfl
theorem q545 : (Jvm.Cond.codeWith ({ cls := "BallotFoundryLaw", name := "setSeats", desc := "(LBallotFoundry;II[J)I" } : Jvm.MethodName) method_6_code (5 : Nat) (Option.some Jvm.ClassFile.FieldType.int) [((0 : Nat), (10 : Nat), (13 : Nat), (13 : Nat)), ((0 : Nat), (10 : Nat), (17 : Nat), (15 : Nat))]) ∈ lw_all := lw_g (lw_at lw_m3 22 rfl) rfl
theorem q546 : (Jvm.Cond.methodLink "BallotFoundryLaw" (26 : Nat) ({ cls := "BallotFoundry", name := "setSeats", desc := "(II)I" } : Jvm.MethodName)) ∈ lw_all := lw_g (lw_at lw_m3 23 rfl) rfl
theorem q552 : (Jvm.Cond.methodLink "BallotFoundryLaw" (139 : Nat) ({ cls := "BallotFoundryLaw", name := "person", desc := "(LBallotFoundry;II[J)I" } : Jvm.MethodName)) ∈ lw_all := lw_g (lw_at lw_m3 29 rfl) rfl
theorem q553 : (Jvm.Cond.static ({ cls := "BallotFoundryLaw", name := "person", desc := "(LBallotFoundry;II[J)I" } : Jvm.MethodName)) ∈ lw_all := lw_g (lw_at lw_m3 30 rfl) rfl
theorem q554 : (Jvm.Cond.codeWith ({ cls := "BallotFoundryLaw", name := "person", desc := "(LBallotFoundry;II[J)I" } : Jvm.MethodName) method_7_code (5 : Nat) (Option.some Jvm.ClassFile.FieldType.int) [((0 : Nat), (10 : Nat), (13 : Nat), (13 : Nat)), ((0 : Nat), (10 : Nat), (17 : Nat), (15 : Nat)), ((0 : Nat), (10 : Nat), (21 : Nat), (24 : Nat))]) ∈ lw_all := lw_g (lw_at lw_m3 31 rfl) rfl
theorem q555 : (Jvm.Cond.methodLink "BallotFoundryLaw" (29 : Nat) ({ cls := "BallotFoundry", name := "person", desc := "(II)I" } : Jvm.MethodName)) ∈ lw_all := lw_g (lw_at lw_m3 32 rfl) rfl
theorem q607 : (Jvm.Cond.methodLink "BallotFoundryLaw" (142 : Nat) ({ cls := "BallotFoundryLaw", name := "move", desc := "(LBallotFoundry;II[J)I" } : Jvm.MethodName)) ∈ lw_all := lw_g (lw_at lw_m3 84 rfl) rfl
theorem q608 : (Jvm.Cond.static ({ cls := "BallotFoundryLaw", name := "move", desc := "(LBallotFoundry;II[J)I" } : Jvm.MethodName)) ∈ lw_all := lw_g (lw_at lw_m3 85 rfl) rfl
theorem q609 : (Jvm.Cond.codeWith ({ cls := "BallotFoundryLaw", name := "move", desc := "(LBallotFoundry;II[J)I" } : Jvm.MethodName) method_8_code (5 : Nat) (Option.some Jvm.ClassFile.FieldType.int) [((0 : Nat), (10 : Nat), (13 : Nat), (13 : Nat)), ((0 : Nat), (10 : Nat), (17 : Nat), (24 : Nat))]) ∈ lw_all := lw_g (lw_at lw_m3 86 rfl) rfl
theorem q610 : (Jvm.Cond.methodLink "BallotFoundryLaw" (32 : Nat) ({ cls := "BallotFoundry", name := "move", desc := "(II)I" } : Jvm.MethodName)) ∈ lw_all := lw_g (lw_at lw_m3 87 rfl) rfl
theorem q627 : (Jvm.Cond.methodLink "BallotFoundryLaw" (145 : Nat) ({ cls := "BallotFoundryLaw", name := "die", desc := "(LBallotFoundry;I[J)I" } : Jvm.MethodName)) ∈ lw_all := lw_g (lw_at lw_m3 104 rfl) rfl
theorem q628 : (Jvm.Cond.static ({ cls := "BallotFoundryLaw", name := "die", desc := "(LBallotFoundry;I[J)I" } : Jvm.MethodName)) ∈ lw_all := lw_g (lw_at lw_m3 105 rfl) rfl
theorem q629 : (Jvm.Cond.codeWith ({ cls := "BallotFoundryLaw", name := "die", desc := "(LBallotFoundry;I[J)I" } : Jvm.MethodName) method_9_code (4 : Nat) (Option.some Jvm.ClassFile.FieldType.int) [((0 : Nat), (16 : Nat), (19 : Nat), (13 : Nat)), ((0 : Nat), (16 : Nat), (22 : Nat), (24 : Nat))]) ∈ lw_all := lw_g (lw_at lw_m3 106 rfl) rfl
theorem q630 : (Jvm.Cond.methodLink "BallotFoundryLaw" (35 : Nat) ({ cls := "BallotFoundry", name := "die", desc := "(I)Z" } : Jvm.MethodName)) ∈ lw_all := lw_g (lw_at lw_m3 107 rfl) rfl
theorem q677 : (Jvm.Cond.methodLink "BallotFoundryLaw" (149 : Nat) ({ cls := "BallotFoundryLaw", name := "dwells", desc := "(LBallotFoundry;II[J)I" } : Jvm.MethodName)) ∈ lw_all := lw_g (lw_at lw_m3 154 rfl) rfl
theorem q678 : (Jvm.Cond.static ({ cls := "BallotFoundryLaw", name := "dwells", desc := "(LBallotFoundry;II[J)I" } : Jvm.MethodName)) ∈ lw_all := lw_g (lw_at lw_m3 155 rfl) rfl
theorem q679 : (Jvm.Cond.codeWith ({ cls := "BallotFoundryLaw", name := "dwells", desc := "(LBallotFoundry;II[J)I" } : Jvm.MethodName) method_10_code (5 : Nat) (Option.some Jvm.ClassFile.FieldType.int) [((0 : Nat), (10 : Nat), (13 : Nat), (13 : Nat)), ((0 : Nat), (10 : Nat), (17 : Nat), (15 : Nat))]) ∈ lw_all := lw_g (lw_at lw_m3 156 rfl) rfl
theorem q680 : (Jvm.Cond.methodLink "BallotFoundryLaw" (39 : Nat) ({ cls := "BallotFoundry", name := "dwells", desc := "(II)I" } : Jvm.MethodName)) ∈ lw_all := lw_g (lw_at lw_m3 157 rfl) rfl
theorem q688 : (Jvm.Cond.methodLink "BallotFoundryLaw" (152 : Nat) ({ cls := "BallotFoundryLaw", name := "call", desc := "(LBallotFoundry;IIZ[J)I" } : Jvm.MethodName)) ∈ lw_all := lw_g (lw_at lw_m3 165 rfl) rfl
theorem q689 : (Jvm.Cond.static ({ cls := "BallotFoundryLaw", name := "call", desc := "(LBallotFoundry;IIZ[J)I" } : Jvm.MethodName)) ∈ lw_all := lw_g (lw_at lw_m3 166 rfl) rfl
theorem q690 : (Jvm.Cond.codeWith ({ cls := "BallotFoundryLaw", name := "call", desc := "(LBallotFoundry;IIZ[J)I" } : Jvm.MethodName) method_11_code (6 : Nat) (Option.some Jvm.ClassFile.FieldType.int) [((0 : Nat), (12 : Nat), (15 : Nat), (15 : Nat)), ((0 : Nat), (12 : Nat), (19 : Nat), (24 : Nat))]) ∈ lw_all := lw_g (lw_at lw_m3 167 rfl) rfl
theorem q691 : (Jvm.Cond.methodLink "BallotFoundryLaw" (42 : Nat) ({ cls := "BallotFoundry", name := "call", desc := "(IIZ)I" } : Jvm.MethodName)) ∈ lw_all := lw_g (lw_at lw_m3 168 rfl) rfl
theorem q755 : (Jvm.Cond.methodLink "BallotFoundryLaw" (155 : Nat) ({ cls := "BallotFoundryLaw", name := "seed", desc := "(LBallotFoundry;II[J)I" } : Jvm.MethodName)) ∈ lw_all := lw_g (lw_at lw_m3 232 rfl) rfl
theorem q756 : (Jvm.Cond.static ({ cls := "BallotFoundryLaw", name := "seed", desc := "(LBallotFoundry;II[J)I" } : Jvm.MethodName)) ∈ lw_all := lw_g (lw_at lw_m3 233 rfl) rfl
theorem q757 : (Jvm.Cond.codeWith ({ cls := "BallotFoundryLaw", name := "seed", desc := "(LBallotFoundry;II[J)I" } : Jvm.MethodName) method_12_code (5 : Nat) (Option.some Jvm.ClassFile.FieldType.int) [((0 : Nat), (10 : Nat), (13 : Nat), (13 : Nat)), ((0 : Nat), (10 : Nat), (17 : Nat), (15 : Nat)), ((0 : Nat), (10 : Nat), (21 : Nat), (24 : Nat))]) ∈ lw_all := lw_g (lw_at lw_m3 234 rfl) rfl
theorem q758 : (Jvm.Cond.methodLink "BallotFoundryLaw" (46 : Nat) ({ cls := "BallotFoundry", name := "seed", desc := "(II)I" } : Jvm.MethodName)) ∈ lw_all := lw_g (lw_at lw_m3 235 rfl) rfl
theorem q762 : (Jvm.Cond.methodLink "BallotFoundryLaw" (158 : Nat) ({ cls := "BallotFoundryLaw", name := "advance", desc := "(LBallotFoundry;I[J)I" } : Jvm.MethodName)) ∈ lw_all := lw_g (lw_at lw_m3 239 rfl) rfl
theorem q763 : (Jvm.Cond.static ({ cls := "BallotFoundryLaw", name := "advance", desc := "(LBallotFoundry;I[J)I" } : Jvm.MethodName)) ∈ lw_all := lw_g (lw_at lw_m4 0 rfl) rfl
theorem q764 : (Jvm.Cond.codeWith ({ cls := "BallotFoundryLaw", name := "advance", desc := "(LBallotFoundry;I[J)I" } : Jvm.MethodName) method_13_code (4 : Nat) (Option.some Jvm.ClassFile.FieldType.int) [((0 : Nat), (9 : Nat), (12 : Nat), (15 : Nat)), ((0 : Nat), (9 : Nat), (15 : Nat), (24 : Nat))]) ∈ lw_all := lw_g (lw_at lw_m4 1 rfl) rfl
theorem q765 : (Jvm.Cond.methodLink "BallotFoundryLaw" (49 : Nat) ({ cls := "BallotFoundry", name := "advance", desc := "(I)I" } : Jvm.MethodName)) ∈ lw_all := lw_g (lw_at lw_m4 2 rfl) rfl
theorem q841 : (Jvm.Cond.methodLink "BallotFoundryLaw" (169 : Nat) ({ cls := "BallotFoundryLaw", name := "isOnRoll", desc := "(LBallotFoundry;I[J)I" } : Jvm.MethodName)) ∈ lw_all := lw_g (lw_at lw_m4 78 rfl) rfl
theorem q842 : (Jvm.Cond.static ({ cls := "BallotFoundryLaw", name := "isOnRoll", desc := "(LBallotFoundry;I[J)I" } : Jvm.MethodName)) ∈ lw_all := lw_g (lw_at lw_m4 79 rfl) rfl
theorem q843 : (Jvm.Cond.codeWith ({ cls := "BallotFoundryLaw", name := "isOnRoll", desc := "(LBallotFoundry;I[J)I" } : Jvm.MethodName) method_14_code (4 : Nat) (Option.some Jvm.ClassFile.FieldType.int) [((0 : Nat), (16 : Nat), (19 : Nat), (13 : Nat))]) ∈ lw_all := lw_g (lw_at lw_m4 80 rfl) rfl
theorem q844 : (Jvm.Cond.methodLink "BallotFoundryLaw" (53 : Nat) ({ cls := "BallotFoundry", name := "isOnRoll", desc := "(I)Z" } : Jvm.MethodName)) ∈ lw_all := lw_g (lw_at lw_m4 81 rfl) rfl
theorem q852 : (Jvm.Cond.methodLink "BallotFoundryLaw" (172 : Nat) ({ cls := "BallotFoundryLaw", name := "stationOf", desc := "(LBallotFoundry;I[J)I" } : Jvm.MethodName)) ∈ lw_all := lw_g (lw_at lw_m4 89 rfl) rfl
theorem q853 : (Jvm.Cond.static ({ cls := "BallotFoundryLaw", name := "stationOf", desc := "(LBallotFoundry;I[J)I" } : Jvm.MethodName)) ∈ lw_all := lw_g (lw_at lw_m4 90 rfl) rfl
theorem q854 : (Jvm.Cond.codeWith ({ cls := "BallotFoundryLaw", name := "stationOf", desc := "(LBallotFoundry;I[J)I" } : Jvm.MethodName) method_15_code (4 : Nat) (Option.some Jvm.ClassFile.FieldType.int) [((0 : Nat), (9 : Nat), (12 : Nat), (13 : Nat))]) ∈ lw_all := lw_g (lw_at lw_m4 91 rfl) rfl
theorem q855 : (Jvm.Cond.methodLink "BallotFoundryLaw" (56 : Nat) ({ cls := "BallotFoundry", name := "stationOf", desc := "(I)I" } : Jvm.MethodName)) ∈ lw_all := lw_g (lw_at lw_m4 92 rfl) rfl
theorem q859 : (Jvm.Cond.methodLink "BallotFoundryLaw" (175 : Nat) ({ cls := "BallotFoundryLaw", name := "peopleOf", desc := "(LBallotFoundry;I[J)I" } : Jvm.MethodName)) ∈ lw_all := lw_g (lw_at lw_m4 96 rfl) rfl
theorem q860 : (Jvm.Cond.static ({ cls := "BallotFoundryLaw", name := "peopleOf", desc := "(LBallotFoundry;I[J)I" } : Jvm.MethodName)) ∈ lw_all := lw_g (lw_at lw_m4 97 rfl) rfl
theorem q861 : (Jvm.Cond.codeWith ({ cls := "BallotFoundryLaw", name := "peopleOf", desc := "(LBallotFoundry;I[J)I" } : Jvm.MethodName) method_16_code (4 : Nat) (Option.some Jvm.ClassFile.FieldType.int) [((0 : Nat), (9 : Nat), (12 : Nat), (13 : Nat))]) ∈ lw_all := lw_g (lw_at lw_m4 98 rfl) rfl
theorem q862 : (Jvm.Cond.methodLink "BallotFoundryLaw" (59 : Nat) ({ cls := "BallotFoundry", name := "peopleOf", desc := "(I)I" } : Jvm.MethodName)) ∈ lw_all := lw_g (lw_at lw_m4 99 rfl) rfl
theorem q870 : (Jvm.Cond.methodLink "BallotFoundryLaw" (178 : Nat) ({ cls := "BallotFoundryLaw", name := "early", desc := "(LBallotFoundry;II[J)I" } : Jvm.MethodName)) ∈ lw_all := lw_g (lw_at lw_m4 107 rfl) rfl
theorem q871 : (Jvm.Cond.static ({ cls := "BallotFoundryLaw", name := "early", desc := "(LBallotFoundry;II[J)I" } : Jvm.MethodName)) ∈ lw_all := lw_g (lw_at lw_m4 108 rfl) rfl
theorem q872 : (Jvm.Cond.codeWith ({ cls := "BallotFoundryLaw", name := "early", desc := "(LBallotFoundry;II[J)I" } : Jvm.MethodName) method_17_code (5 : Nat) (Option.some Jvm.ClassFile.FieldType.int) [((0 : Nat), (10 : Nat), (13 : Nat), (13 : Nat)), ((0 : Nat), (10 : Nat), (17 : Nat), (15 : Nat)), ((0 : Nat), (10 : Nat), (21 : Nat), (24 : Nat))]) ∈ lw_all := lw_g (lw_at lw_m4 109 rfl) rfl
theorem q873 : (Jvm.Cond.methodLink "BallotFoundryLaw" (62 : Nat) ({ cls := "BallotFoundry", name := "early", desc := "(II)I" } : Jvm.MethodName)) ∈ lw_all := lw_g (lw_at lw_m4 110 rfl) rfl
theorem q902 : (Jvm.Cond.methodLink "BallotFoundryLaw" (181 : Nat) ({ cls := "BallotFoundryLaw", name := "vote", desc := "(LBallotFoundry;III[J)I" } : Jvm.MethodName)) ∈ lw_all := lw_g (lw_at lw_m4 139 rfl) rfl
theorem q903 : (Jvm.Cond.static ({ cls := "BallotFoundryLaw", name := "vote", desc := "(LBallotFoundry;III[J)I" } : Jvm.MethodName)) ∈ lw_all := lw_g (lw_at lw_m4 140 rfl) rfl
theorem q904 : (Jvm.Cond.codeWith ({ cls := "BallotFoundryLaw", name := "vote", desc := "(LBallotFoundry;III[J)I" } : Jvm.MethodName) method_18_code (6 : Nat) (Option.some Jvm.ClassFile.FieldType.int) [((0 : Nat), (12 : Nat), (15 : Nat), (13 : Nat)), ((0 : Nat), (12 : Nat), (19 : Nat), (15 : Nat)), ((0 : Nat), (12 : Nat), (23 : Nat), (24 : Nat))]) ∈ lw_all := lw_g (lw_at lw_m4 141 rfl) rfl
theorem q905 : (Jvm.Cond.methodLink "BallotFoundryLaw" (65 : Nat) ({ cls := "BallotFoundry", name := "vote", desc := "(III)I" } : Jvm.MethodName)) ∈ lw_all := lw_g (lw_at lw_m4 142 rfl) rfl
theorem q911 : (Jvm.Cond.methodLink "BallotFoundryLaw" (185 : Nat) ({ cls := "BallotFoundryLaw", name := "open", desc := "(LBallotFoundry;I[J)I" } : Jvm.MethodName)) ∈ lw_all := lw_g (lw_at lw_m4 148 rfl) rfl
theorem q912 : (Jvm.Cond.static ({ cls := "BallotFoundryLaw", name := "open", desc := "(LBallotFoundry;I[J)I" } : Jvm.MethodName)) ∈ lw_all := lw_g (lw_at lw_m4 149 rfl) rfl
theorem q913 : (Jvm.Cond.codeWith ({ cls := "BallotFoundryLaw", name := "open", desc := "(LBallotFoundry;I[J)I" } : Jvm.MethodName) method_19_code (4 : Nat) (Option.some Jvm.ClassFile.FieldType.int) [((0 : Nat), (9 : Nat), (12 : Nat), (13 : Nat)), ((0 : Nat), (9 : Nat), (15 : Nat), (24 : Nat))]) ∈ lw_all := lw_g (lw_at lw_m4 150 rfl) rfl
theorem q914 : (Jvm.Cond.methodLink "BallotFoundryLaw" (69 : Nat) ({ cls := "BallotFoundry", name := "open", desc := "(I)I" } : Jvm.MethodName)) ∈ lw_all := lw_g (lw_at lw_m4 151 rfl) rfl
theorem q967 : (Jvm.Cond.methodLink "BallotFoundryLaw" (192 : Nat) ({ cls := "BallotFoundryLaw", name := "stateOf", desc := "(LBallotFoundry;I[J)I" } : Jvm.MethodName)) ∈ lw_all := lw_g (lw_at lw_m4 204 rfl) rfl
theorem q968 : (Jvm.Cond.static ({ cls := "BallotFoundryLaw", name := "stateOf", desc := "(LBallotFoundry;I[J)I" } : Jvm.MethodName)) ∈ lw_all := lw_g (lw_at lw_m4 205 rfl) rfl
theorem q969 : (Jvm.Cond.codeWith ({ cls := "BallotFoundryLaw", name := "stateOf", desc := "(LBallotFoundry;I[J)I" } : Jvm.MethodName) method_20_code (4 : Nat) (Option.some Jvm.ClassFile.FieldType.int) [((0 : Nat), (9 : Nat), (12 : Nat), (13 : Nat))]) ∈ lw_all := lw_g (lw_at lw_m4 206 rfl) rfl
theorem q970 : (Jvm.Cond.methodLink "BallotFoundryLaw" (72 : Nat) ({ cls := "BallotFoundry", name := "stateOf", desc := "(I)I" } : Jvm.MethodName)) ∈ lw_all := lw_g (lw_at lw_m4 207 rfl) rfl
theorem q979 : (Jvm.Cond.methodLink "BallotFoundryLaw" (195 : Nat) ({ cls := "BallotFoundryLaw", name := "personOf", desc := "(LBallotFoundry;I[J)I" } : Jvm.MethodName)) ∈ lw_all := lw_g (lw_at lw_m4 216 rfl) rfl
theorem q980 : (Jvm.Cond.static ({ cls := "BallotFoundryLaw", name := "personOf", desc := "(LBallotFoundry;I[J)I" } : Jvm.MethodName)) ∈ lw_all := lw_g (lw_at lw_m4 217 rfl) rfl
theorem q981 : (Jvm.Cond.codeWith ({ cls := "BallotFoundryLaw", name := "personOf", desc := "(LBallotFoundry;I[J)I" } : Jvm.MethodName) method_21_code (4 : Nat) (Option.some Jvm.ClassFile.FieldType.int) [((0 : Nat), (9 : Nat), (12 : Nat), (13 : Nat))]) ∈ lw_all := lw_g (lw_at lw_m4 218 rfl) rfl
theorem q982 : (Jvm.Cond.methodLink "BallotFoundryLaw" (75 : Nat) ({ cls := "BallotFoundry", name := "personOf", desc := "(I)I" } : Jvm.MethodName)) ∈ lw_all := lw_g (lw_at lw_m4 219 rfl) rfl
theorem q986 : (Jvm.Cond.methodLink "BallotFoundryLaw" (198 : Nat) ({ cls := "BallotFoundryLaw", name := "ballots", desc := "(LBallotFoundry;I[J)I" } : Jvm.MethodName)) ∈ lw_all := lw_g (lw_at lw_m4 223 rfl) rfl
theorem q987 : (Jvm.Cond.static ({ cls := "BallotFoundryLaw", name := "ballots", desc := "(LBallotFoundry;I[J)I" } : Jvm.MethodName)) ∈ lw_all := lw_g (lw_at lw_m4 224 rfl) rfl
theorem q988 : (Jvm.Cond.codeWith ({ cls := "BallotFoundryLaw", name := "ballots", desc := "(LBallotFoundry;I[J)I" } : Jvm.MethodName) method_22_code (4 : Nat) (Option.some Jvm.ClassFile.FieldType.int) [((0 : Nat), (9 : Nat), (12 : Nat), (13 : Nat))]) ∈ lw_all := lw_g (lw_at lw_m4 225 rfl) rfl
theorem q989 : (Jvm.Cond.methodLink "BallotFoundryLaw" (78 : Nat) ({ cls := "BallotFoundry", name := "ballots", desc := "(I)I" } : Jvm.MethodName)) ∈ lw_all := lw_g (lw_at lw_m4 226 rfl) rfl
theorem q993 : (Jvm.Cond.methodLink "BallotFoundryLaw" (201 : Nat) ({ cls := "BallotFoundryLaw", name := "setSlip", desc := "(LBallotFoundry;II[J)I" } : Jvm.MethodName)) ∈ lw_all := lw_g (lw_at lw_m4 230 rfl) rfl
theorem q994 : (Jvm.Cond.static ({ cls := "BallotFoundryLaw", name := "setSlip", desc := "(LBallotFoundry;II[J)I" } : Jvm.MethodName)) ∈ lw_all := lw_g (lw_at lw_m4 231 rfl) rfl
theorem q995 : (Jvm.Cond.codeWith ({ cls := "BallotFoundryLaw", name := "setSlip", desc := "(LBallotFoundry;II[J)I" } : Jvm.MethodName) method_23_code (5 : Nat) (Option.some Jvm.ClassFile.FieldType.int) [((0 : Nat), (10 : Nat), (13 : Nat), (13 : Nat)), ((0 : Nat), (10 : Nat), (17 : Nat), (15 : Nat))]) ∈ lw_all := lw_g (lw_at lw_m4 232 rfl) rfl
theorem q996 : (Jvm.Cond.methodLink "BallotFoundryLaw" (81 : Nat) ({ cls := "BallotFoundry", name := "setSlip", desc := "(II)I" } : Jvm.MethodName)) ∈ lw_all := lw_g (lw_at lw_m4 233 rfl) rfl
theorem q1000 : (Jvm.Cond.methodLink "BallotFoundryLaw" (204 : Nat) ({ cls := "BallotFoundryLaw", name := "count", desc := "(LBallotFoundry;II[J)I" } : Jvm.MethodName)) ∈ lw_all := lw_g (lw_at lw_m4 237 rfl) rfl
theorem q1001 : (Jvm.Cond.static ({ cls := "BallotFoundryLaw", name := "count", desc := "(LBallotFoundry;II[J)I" } : Jvm.MethodName)) ∈ lw_all := lw_g (lw_at lw_m4 238 rfl) rfl
theorem q1002 : (Jvm.Cond.codeWith ({ cls := "BallotFoundryLaw", name := "count", desc := "(LBallotFoundry;II[J)I" } : Jvm.MethodName) method_24_code (5 : Nat) (Option.some Jvm.ClassFile.FieldType.int) [((0 : Nat), (17 : Nat), (20 : Nat), (13 : Nat)), ((0 : Nat), (17 : Nat), (24 : Nat), (24 : Nat))]) ∈ lw_all := lw_g (lw_at lw_m4 239 rfl) rfl
theorem q1003 : (Jvm.Cond.methodLink "BallotFoundryLaw" (84 : Nat) ({ cls := "BallotFoundry", name := "count", desc := "(II)Z" } : Jvm.MethodName)) ∈ lw_all := lw_g (lw_at lw_m5 0 rfl) rfl
theorem q1026 : (Jvm.Cond.methodLink "BallotFoundryLaw" (207 : Nat) ({ cls := "BallotFoundryLaw", name := "recount", desc := "(LBallotFoundry;I[J)I" } : Jvm.MethodName)) ∈ lw_all := lw_g (lw_at lw_m5 23 rfl) rfl
theorem q1027 : (Jvm.Cond.static ({ cls := "BallotFoundryLaw", name := "recount", desc := "(LBallotFoundry;I[J)I" } : Jvm.MethodName)) ∈ lw_all := lw_g (lw_at lw_m5 24 rfl) rfl
theorem q1028 : (Jvm.Cond.codeWith ({ cls := "BallotFoundryLaw", name := "recount", desc := "(LBallotFoundry;I[J)I" } : Jvm.MethodName) method_25_code (4 : Nat) (Option.some Jvm.ClassFile.FieldType.int) [((0 : Nat), (9 : Nat), (12 : Nat), (13 : Nat)), ((0 : Nat), (9 : Nat), (15 : Nat), (24 : Nat))]) ∈ lw_all := lw_g (lw_at lw_m5 25 rfl) rfl
theorem q1029 : (Jvm.Cond.methodLink "BallotFoundryLaw" (88 : Nat) ({ cls := "BallotFoundry", name := "recount", desc := "(I)I" } : Jvm.MethodName)) ∈ lw_all := lw_g (lw_at lw_m5 26 rfl) rfl
theorem q1042 : (Jvm.Cond.methodLink "BallotFoundryLaw" (210 : Nat) ({ cls := "BallotFoundryLaw", name := "isSettled", desc := "(LBallotFoundry;I[J)I" } : Jvm.MethodName)) ∈ lw_all := lw_g (lw_at lw_m5 39 rfl) rfl
theorem q1043 : (Jvm.Cond.static ({ cls := "BallotFoundryLaw", name := "isSettled", desc := "(LBallotFoundry;I[J)I" } : Jvm.MethodName)) ∈ lw_all := lw_g (lw_at lw_m5 40 rfl) rfl
theorem q1044 : (Jvm.Cond.codeWith ({ cls := "BallotFoundryLaw", name := "isSettled", desc := "(LBallotFoundry;I[J)I" } : Jvm.MethodName) method_26_code (4 : Nat) (Option.some Jvm.ClassFile.FieldType.int) [((0 : Nat), (16 : Nat), (19 : Nat), (13 : Nat))]) ∈ lw_all := lw_g (lw_at lw_m5 41 rfl) rfl
theorem q1045 : (Jvm.Cond.methodLink "BallotFoundryLaw" (91 : Nat) ({ cls := "BallotFoundry", name := "isSettled", desc := "(I)Z" } : Jvm.MethodName)) ∈ lw_all := lw_g (lw_at lw_m5 42 rfl) rfl
theorem q1049 : (Jvm.Cond.methodLink "BallotFoundryLaw" (213 : Nat) ({ cls := "BallotFoundryLaw", name := "numberOf", desc := "(LBallotFoundry;II[J)I" } : Jvm.MethodName)) ∈ lw_all := lw_g (lw_at lw_m5 46 rfl) rfl
theorem q1050 : (Jvm.Cond.static ({ cls := "BallotFoundryLaw", name := "numberOf", desc := "(LBallotFoundry;II[J)I" } : Jvm.MethodName)) ∈ lw_all := lw_g (lw_at lw_m5 47 rfl) rfl
theorem q1051 : (Jvm.Cond.codeWith ({ cls := "BallotFoundryLaw", name := "numberOf", desc := "(LBallotFoundry;II[J)I" } : Jvm.MethodName) method_27_code (5 : Nat) (Option.some Jvm.ClassFile.FieldType.int) [((0 : Nat), (10 : Nat), (13 : Nat), (13 : Nat)), ((0 : Nat), (10 : Nat), (17 : Nat), (15 : Nat))]) ∈ lw_all := lw_g (lw_at lw_m5 48 rfl) rfl
theorem q1052 : (Jvm.Cond.methodLink "BallotFoundryLaw" (94 : Nat) ({ cls := "BallotFoundry", name := "numberOf", desc := "(II)I" } : Jvm.MethodName)) ∈ lw_all := lw_g (lw_at lw_m5 49 rfl) rfl
theorem q1056 : (Jvm.Cond.methodLink "BallotFoundryLaw" (216 : Nat) ({ cls := "BallotFoundryLaw", name := "misread", desc := "(LBallotFoundry;I[J)I" } : Jvm.MethodName)) ∈ lw_all := lw_g (lw_at lw_m5 53 rfl) rfl
theorem q1057 : (Jvm.Cond.static ({ cls := "BallotFoundryLaw", name := "misread", desc := "(LBallotFoundry;I[J)I" } : Jvm.MethodName)) ∈ lw_all := lw_g (lw_at lw_m5 54 rfl) rfl
theorem q1058 : (Jvm.Cond.codeWith ({ cls := "BallotFoundryLaw", name := "misread", desc := "(LBallotFoundry;I[J)I" } : Jvm.MethodName) method_28_code (4 : Nat) (Option.some Jvm.ClassFile.FieldType.int) [((0 : Nat), (9 : Nat), (12 : Nat), (13 : Nat))]) ∈ lw_all := lw_g (lw_at lw_m5 55 rfl) rfl
theorem q1059 : (Jvm.Cond.methodLink "BallotFoundryLaw" (97 : Nat) ({ cls := "BallotFoundry", name := "misread", desc := "(I)I" } : Jvm.MethodName)) ∈ lw_all := lw_g (lw_at lw_m5 56 rfl) rfl
theorem q1063 : (Jvm.Cond.methodLink "BallotFoundryLaw" (219 : Nat) ({ cls := "BallotFoundryLaw", name := "votes", desc := "(LBallotFoundry;I[J)I" } : Jvm.MethodName)) ∈ lw_all := lw_g (lw_at lw_m5 60 rfl) rfl
theorem q1064 : (Jvm.Cond.static ({ cls := "BallotFoundryLaw", name := "votes", desc := "(LBallotFoundry;I[J)I" } : Jvm.MethodName)) ∈ lw_all := lw_g (lw_at lw_m5 61 rfl) rfl
theorem q1065 : (Jvm.Cond.codeWith ({ cls := "BallotFoundryLaw", name := "votes", desc := "(LBallotFoundry;I[J)I" } : Jvm.MethodName) method_29_code (4 : Nat) (Option.some Jvm.ClassFile.FieldType.int) [((0 : Nat), (9 : Nat), (12 : Nat), (13 : Nat))]) ∈ lw_all := lw_g (lw_at lw_m5 62 rfl) rfl
theorem q1066 : (Jvm.Cond.methodLink "BallotFoundryLaw" (100 : Nat) ({ cls := "BallotFoundry", name := "votes", desc := "(I)I" } : Jvm.MethodName)) ∈ lw_all := lw_g (lw_at lw_m5 63 rfl) rfl
theorem q1070 : (Jvm.Cond.methodLink "BallotFoundryLaw" (222 : Nat) ({ cls := "BallotFoundryLaw", name := "seats", desc := "(LBallotFoundry;I[J)I" } : Jvm.MethodName)) ∈ lw_all := lw_g (lw_at lw_m5 67 rfl) rfl
theorem q1071 : (Jvm.Cond.static ({ cls := "BallotFoundryLaw", name := "seats", desc := "(LBallotFoundry;I[J)I" } : Jvm.MethodName)) ∈ lw_all := lw_g (lw_at lw_m5 68 rfl) rfl
theorem q1072 : (Jvm.Cond.codeWith ({ cls := "BallotFoundryLaw", name := "seats", desc := "(LBallotFoundry;I[J)I" } : Jvm.MethodName) method_30_code (4 : Nat) (Option.some Jvm.ClassFile.FieldType.int) [((0 : Nat), (9 : Nat), (12 : Nat), (13 : Nat))]) ∈ lw_all := lw_g (lw_at lw_m5 69 rfl) rfl
theorem q1073 : (Jvm.Cond.methodLink "BallotFoundryLaw" (103 : Nat) ({ cls := "BallotFoundry", name := "seats", desc := "(I)I" } : Jvm.MethodName)) ∈ lw_all := lw_g (lw_at lw_m5 70 rfl) rfl
theorem q1077 : (Jvm.Cond.methodLink "BallotFoundryLaw" (225 : Nat) ({ cls := "BallotFoundryLaw", name := "seatAt", desc := "(LBallotFoundry;I[J)I" } : Jvm.MethodName)) ∈ lw_all := lw_g (lw_at lw_m5 74 rfl) rfl
theorem q1078 : (Jvm.Cond.static ({ cls := "BallotFoundryLaw", name := "seatAt", desc := "(LBallotFoundry;I[J)I" } : Jvm.MethodName)) ∈ lw_all := lw_g (lw_at lw_m5 75 rfl) rfl
theorem q1079 : (Jvm.Cond.codeWith ({ cls := "BallotFoundryLaw", name := "seatAt", desc := "(LBallotFoundry;I[J)I" } : Jvm.MethodName) method_31_code (4 : Nat) (Option.some Jvm.ClassFile.FieldType.int) [((0 : Nat), (9 : Nat), (12 : Nat), (13 : Nat))]) ∈ lw_all := lw_g (lw_at lw_m5 76 rfl) rfl
theorem q1080 : (Jvm.Cond.methodLink "BallotFoundryLaw" (106 : Nat) ({ cls := "BallotFoundry", name := "seatAt", desc := "(I)I" } : Jvm.MethodName)) ∈ lw_all := lw_g (lw_at lw_m5 77 rfl) rfl
theorem q1084 : (Jvm.Cond.methodLink "BallotFoundryLaw" (232 : Nat) ({ cls := "BallotFoundryLaw", name := "seatsByBallots", desc := "(LBallotFoundry;I[J)I" } : Jvm.MethodName)) ∈ lw_all := lw_g (lw_at lw_m5 81 rfl) rfl
theorem q1085 : (Jvm.Cond.static ({ cls := "BallotFoundryLaw", name := "seatsByBallots", desc := "(LBallotFoundry;I[J)I" } : Jvm.MethodName)) ∈ lw_all := lw_g (lw_at lw_m5 82 rfl) rfl
theorem q1086 : (Jvm.Cond.codeWith ({ cls := "BallotFoundryLaw", name := "seatsByBallots", desc := "(LBallotFoundry;I[J)I" } : Jvm.MethodName) method_32_code (4 : Nat) (Option.some Jvm.ClassFile.FieldType.int) [((0 : Nat), (9 : Nat), (12 : Nat), (13 : Nat))]) ∈ lw_all := lw_g (lw_at lw_m5 83 rfl) rfl
theorem q1087 : (Jvm.Cond.methodLink "BallotFoundryLaw" (109 : Nat) ({ cls := "BallotFoundry", name := "seatsByBallots", desc := "(I)I" } : Jvm.MethodName)) ∈ lw_all := lw_g (lw_at lw_m5 84 rfl) rfl
theorem q1091 : (Jvm.Cond.methodLink "BallotFoundryLaw" (239 : Nat) ({ cls := "BallotFoundryLaw", name := "signAt", desc := "(LBallotFoundry;II[J)I" } : Jvm.MethodName)) ∈ lw_all := lw_g (lw_at lw_m5 88 rfl) rfl
theorem q1092 : (Jvm.Cond.static ({ cls := "BallotFoundryLaw", name := "signAt", desc := "(LBallotFoundry;II[J)I" } : Jvm.MethodName)) ∈ lw_all := lw_g (lw_at lw_m5 89 rfl) rfl
theorem q1093 : (Jvm.Cond.codeWith ({ cls := "BallotFoundryLaw", name := "signAt", desc := "(LBallotFoundry;II[J)I" } : Jvm.MethodName) method_33_code (5 : Nat) (Option.some Jvm.ClassFile.FieldType.int) [((0 : Nat), (10 : Nat), (13 : Nat), (13 : Nat))]) ∈ lw_all := lw_g (lw_at lw_m5 90 rfl) rfl
theorem q1094 : (Jvm.Cond.methodLink "BallotFoundryLaw" (112 : Nat) ({ cls := "BallotFoundry", name := "signAt", desc := "(II)I" } : Jvm.MethodName)) ∈ lw_all := lw_g (lw_at lw_m5 91 rfl) rfl
theorem q1378 : (Jvm.Cond.classLink "BallotFoundryLaw" (116 : Nat) "BallotFoundryModel") ∈ lw_all := lw_g (lw_at lw_m6 135 rfl) rfl
theorem q1380 : (Jvm.Cond.methodLink "BallotFoundryLaw" (118 : Nat) ({ cls := "BallotFoundryModel", name := "<init>", desc := "()V" } : Jvm.MethodName)) ∈ lw_all := lw_g (lw_at lw_m6 137 rfl) rfl
theorem q1521 : (Jvm.Cond.methodLink "BallotFoundryLaw" (125 : Nat) ({ cls := "BallotFoundryModel", name := "thrown", desc := "()I" } : Jvm.MethodName)) ∈ lw_all := lw_g (lw_at lw_m7 38 rfl) rfl
theorem q1525 : (Jvm.Cond.methodLink "BallotFoundryLaw" (124 : Nat) ({ cls := "BallotFoundryModel", name := "bar", desc := "(IIZ)Z" } : Jvm.MethodName)) ∈ lw_all := lw_g (lw_at lw_m7 42 rfl) rfl
theorem q1542 : (Jvm.Cond.methodLink "BallotFoundryLaw" (132 : Nat) ({ cls := "BallotFoundryModel", name := "way", desc := "(II)I" } : Jvm.MethodName)) ∈ lw_all := lw_g (lw_at lw_m7 59 rfl) rfl
theorem q1554 : (Jvm.Cond.methodLink "BallotFoundryLaw" (135 : Nat) ({ cls := "BallotFoundryModel", name := "station", desc := "(II)I" } : Jvm.MethodName)) ∈ lw_all := lw_g (lw_at lw_m7 71 rfl) rfl
theorem q1562 : (Jvm.Cond.methodLink "BallotFoundryLaw" (138 : Nat) ({ cls := "BallotFoundryModel", name := "setSeats", desc := "(II)I" } : Jvm.MethodName)) ∈ lw_all := lw_g (lw_at lw_m7 79 rfl) rfl
theorem q1570 : (Jvm.Cond.methodLink "BallotFoundryLaw" (141 : Nat) ({ cls := "BallotFoundryModel", name := "person", desc := "(II)I" } : Jvm.MethodName)) ∈ lw_all := lw_g (lw_at lw_m7 87 rfl) rfl
theorem q1578 : (Jvm.Cond.methodLink "BallotFoundryLaw" (144 : Nat) ({ cls := "BallotFoundryModel", name := "move", desc := "(II)I" } : Jvm.MethodName)) ∈ lw_all := lw_g (lw_at lw_m7 95 rfl) rfl
theorem q1590 : (Jvm.Cond.methodLink "BallotFoundryLaw" (148 : Nat) ({ cls := "BallotFoundryModel", name := "die", desc := "(I)Z" } : Jvm.MethodName)) ∈ lw_all := lw_g (lw_at lw_m7 107 rfl) rfl
theorem q1606 : (Jvm.Cond.methodLink "BallotFoundryLaw" (151 : Nat) ({ cls := "BallotFoundryModel", name := "dwells", desc := "(II)I" } : Jvm.MethodName)) ∈ lw_all := lw_g (lw_at lw_m7 123 rfl) rfl
theorem q1610 : (Jvm.Cond.methodLink "BallotFoundryLaw" (154 : Nat) ({ cls := "BallotFoundryModel", name := "call", desc := "(IIZ)I" } : Jvm.MethodName)) ∈ lw_all := lw_g (lw_at lw_m7 127 rfl) rfl
theorem q1614 : (Jvm.Cond.methodLink "BallotFoundryLaw" (157 : Nat) ({ cls := "BallotFoundryModel", name := "seed", desc := "(II)I" } : Jvm.MethodName)) ∈ lw_all := lw_g (lw_at lw_m7 131 rfl) rfl
theorem q1618 : (Jvm.Cond.methodLink "BallotFoundryLaw" (160 : Nat) ({ cls := "BallotFoundryModel", name := "advance", desc := "(I)I" } : Jvm.MethodName)) ∈ lw_all := lw_g (lw_at lw_m7 135 rfl) rfl
theorem q1638 : (Jvm.Cond.methodLink "BallotFoundryLaw" (164 : Nat) ({ cls := "BallotFoundryModel", name := "today", desc := "()I" } : Jvm.MethodName)) ∈ lw_all := lw_g (lw_at lw_m7 155 rfl) rfl
theorem q1646 : (Jvm.Cond.methodLink "BallotFoundryLaw" (168 : Nat) ({ cls := "BallotFoundryModel", name := "stage", desc := "()I" } : Jvm.MethodName)) ∈ lw_all := lw_g (lw_at lw_m7 163 rfl) rfl
theorem q1650 : (Jvm.Cond.methodLink "BallotFoundryLaw" (171 : Nat) ({ cls := "BallotFoundryModel", name := "isOnRoll", desc := "(I)Z" } : Jvm.MethodName)) ∈ lw_all := lw_g (lw_at lw_m7 167 rfl) rfl
theorem q1654 : (Jvm.Cond.methodLink "BallotFoundryLaw" (174 : Nat) ({ cls := "BallotFoundryModel", name := "stationOf", desc := "(I)I" } : Jvm.MethodName)) ∈ lw_all := lw_g (lw_at lw_m7 171 rfl) rfl
theorem q1658 : (Jvm.Cond.methodLink "BallotFoundryLaw" (177 : Nat) ({ cls := "BallotFoundryModel", name := "peopleOf", desc := "(I)I" } : Jvm.MethodName)) ∈ lw_all := lw_g (lw_at lw_m7 175 rfl) rfl
theorem q1662 : (Jvm.Cond.methodLink "BallotFoundryLaw" (180 : Nat) ({ cls := "BallotFoundryModel", name := "early", desc := "(II)I" } : Jvm.MethodName)) ∈ lw_all := lw_g (lw_at lw_m7 179 rfl) rfl
theorem q1670 : (Jvm.Cond.methodLink "BallotFoundryLaw" (184 : Nat) ({ cls := "BallotFoundryModel", name := "vote", desc := "(III)I" } : Jvm.MethodName)) ∈ lw_all := lw_g (lw_at lw_m7 187 rfl) rfl
theorem q1674 : (Jvm.Cond.methodLink "BallotFoundryLaw" (187 : Nat) ({ cls := "BallotFoundryModel", name := "open", desc := "(I)I" } : Jvm.MethodName)) ∈ lw_all := lw_g (lw_at lw_m7 191 rfl) rfl
theorem q1678 : (Jvm.Cond.methodLink "BallotFoundryLaw" (191 : Nat) ({ cls := "BallotFoundryModel", name := "envelopes", desc := "()I" } : Jvm.MethodName)) ∈ lw_all := lw_g (lw_at lw_m7 195 rfl) rfl
theorem q1682 : (Jvm.Cond.methodLink "BallotFoundryLaw" (194 : Nat) ({ cls := "BallotFoundryModel", name := "stateOf", desc := "(I)I" } : Jvm.MethodName)) ∈ lw_all := lw_g (lw_at lw_m7 199 rfl) rfl
theorem q1686 : (Jvm.Cond.methodLink "BallotFoundryLaw" (197 : Nat) ({ cls := "BallotFoundryModel", name := "personOf", desc := "(I)I" } : Jvm.MethodName)) ∈ lw_all := lw_g (lw_at lw_m7 203 rfl) rfl
theorem q1690 : (Jvm.Cond.methodLink "BallotFoundryLaw" (200 : Nat) ({ cls := "BallotFoundryModel", name := "ballots", desc := "(I)I" } : Jvm.MethodName)) ∈ lw_all := lw_g (lw_at lw_m7 207 rfl) rfl
theorem q1694 : (Jvm.Cond.methodLink "BallotFoundryLaw" (203 : Nat) ({ cls := "BallotFoundryModel", name := "setSlip", desc := "(II)I" } : Jvm.MethodName)) ∈ lw_all := lw_g (lw_at lw_m7 211 rfl) rfl
theorem q1698 : (Jvm.Cond.methodLink "BallotFoundryLaw" (206 : Nat) ({ cls := "BallotFoundryModel", name := "count", desc := "(II)Z" } : Jvm.MethodName)) ∈ lw_all := lw_g (lw_at lw_m7 215 rfl) rfl
theorem q1706 : (Jvm.Cond.methodLink "BallotFoundryLaw" (209 : Nat) ({ cls := "BallotFoundryModel", name := "recount", desc := "(I)I" } : Jvm.MethodName)) ∈ lw_all := lw_g (lw_at lw_m7 223 rfl) rfl
theorem q1710 : (Jvm.Cond.methodLink "BallotFoundryLaw" (212 : Nat) ({ cls := "BallotFoundryModel", name := "isSettled", desc := "(I)Z" } : Jvm.MethodName)) ∈ lw_all := lw_g (lw_at lw_m7 227 rfl) rfl
theorem q1714 : (Jvm.Cond.methodLink "BallotFoundryLaw" (215 : Nat) ({ cls := "BallotFoundryModel", name := "numberOf", desc := "(II)I" } : Jvm.MethodName)) ∈ lw_all := lw_g (lw_at lw_m7 231 rfl) rfl
theorem q1718 : (Jvm.Cond.methodLink "BallotFoundryLaw" (218 : Nat) ({ cls := "BallotFoundryModel", name := "misread", desc := "(I)I" } : Jvm.MethodName)) ∈ lw_all := lw_g (lw_at lw_m7 235 rfl) rfl
theorem q1726 : (Jvm.Cond.methodLink "BallotFoundryLaw" (221 : Nat) ({ cls := "BallotFoundryModel", name := "votes", desc := "(I)I" } : Jvm.MethodName)) ∈ lw_all := lw_g (lw_at lw_m8 3 rfl) rfl
theorem q1750 : (Jvm.Cond.methodLink "BallotFoundryLaw" (224 : Nat) ({ cls := "BallotFoundryModel", name := "seats", desc := "(I)I" } : Jvm.MethodName)) ∈ lw_all := lw_g (lw_at lw_m8 27 rfl) rfl
theorem q1754 : (Jvm.Cond.methodLink "BallotFoundryLaw" (227 : Nat) ({ cls := "BallotFoundryModel", name := "seatAt", desc := "(I)I" } : Jvm.MethodName)) ∈ lw_all := lw_g (lw_at lw_m8 31 rfl) rfl
theorem q1758 : (Jvm.Cond.methodLink "BallotFoundryLaw" (231 : Nat) ({ cls := "BallotFoundryModel", name := "lots", desc := "()I" } : Jvm.MethodName)) ∈ lw_all := lw_g (lw_at lw_m8 35 rfl) rfl
theorem q1762 : (Jvm.Cond.methodLink "BallotFoundryLaw" (234 : Nat) ({ cls := "BallotFoundryModel", name := "seatsByBallots", desc := "(I)I" } : Jvm.MethodName)) ∈ lw_all := lw_g (lw_at lw_m8 39 rfl) rfl
theorem q1766 : (Jvm.Cond.methodLink "BallotFoundryLaw" (238 : Nat) ({ cls := "BallotFoundryModel", name := "notes", desc := "()I" } : Jvm.MethodName)) ∈ lw_all := lw_g (lw_at lw_m8 43 rfl) rfl
theorem q1770 : (Jvm.Cond.methodLink "BallotFoundryLaw" (241 : Nat) ({ cls := "BallotFoundryModel", name := "signAt", desc := "(II)I" } : Jvm.MethodName)) ∈ lw_all := lw_g (lw_at lw_m8 47 rfl) rfl

/-! the law's own entry -/
set_option maxRecDepth 100000
abbrev cL_law : ByteArray := code
def dkwL_law_93 : List UInt8 := [153, 0, 5, 3, 172, 167, 0, 3, 132, 4, 4, 167, 247, 44, 4, 172]
abbrev dktL_law_93 : List UInt8 := dkwL_law_93 ++ []
def dkwL_law_92 : List UInt8 := [182, 0, 125, 21, 5, 159, 0, 5, 3, 172, 21, 5, 154, 0, 15, 45, 3, 47, 21, 6, 133, 148]
abbrev dktL_law_92 : List UInt8 := dkwL_law_92 ++ dktL_law_93
def dkwL_law_91 : List UInt8 := [184, 0, 239, 54, 5, 44, 42, 21, 4, 4, 96, 46, 42, 21, 4, 5, 96, 46, 182, 0, 241, 54, 6, 44]
abbrev dktL_law_91 : List UInt8 := dkwL_law_91 ++ dktL_law_92
def dkwL_law_90 : List UInt8 := [182, 0, 238, 159, 0, 73, 3, 172, 43, 42, 21, 4, 4, 96, 46, 42, 21, 4, 5, 96, 46, 45]
abbrev dktL_law_90 : List UInt8 := dkwL_law_90 ++ dktL_law_91
def dkwL_law_89 : List UInt8 := [154, 0, 15, 45, 3, 47, 21, 6, 133, 148, 153, 0, 5, 3, 172, 167, 0, 84, 43, 182, 0, 235, 44]
abbrev dktL_law_89 : List UInt8 := dkwL_law_89 ++ dktL_law_90
def dkwL_law_88 : List UInt8 := [21, 4, 4, 96, 46, 182, 0, 234, 54, 6, 44, 182, 0, 125, 21, 5, 159, 0, 5, 3, 172, 21, 5]
abbrev dktL_law_88 : List UInt8 := dkwL_law_88 ++ dktL_law_89
def dkwL_law_87 : List UInt8 := [182, 0, 231, 159, 0, 142, 3, 172, 43, 42, 21, 4, 4, 96, 46, 45, 184, 0, 232, 54, 5, 44, 42]
abbrev dktL_law_87 : List UInt8 := dkwL_law_87 ++ dktL_law_88
def dkwL_law_86 : List UInt8 := [154, 0, 15, 45, 3, 47, 21, 6, 133, 148, 153, 0, 5, 3, 172, 167, 0, 153, 43, 182, 0, 228, 44]
abbrev dktL_law_86 : List UInt8 := dkwL_law_86 ++ dktL_law_87
def dkwL_law_85 : List UInt8 := [21, 4, 4, 96, 46, 182, 0, 227, 54, 6, 44, 182, 0, 125, 21, 5, 159, 0, 5, 3, 172, 21, 5]
abbrev dktL_law_85 : List UInt8 := dkwL_law_85 ++ dktL_law_86
def dkwL_law_84 : List UInt8 := [153, 0, 5, 3, 172, 167, 0, 209, 43, 42, 21, 4, 4, 96, 46, 45, 184, 0, 225, 54, 5, 44, 42]
abbrev dktL_law_84 : List UInt8 := dkwL_law_84 ++ dktL_law_85
def dkwL_law_83 : List UInt8 := [182, 0, 125, 21, 5, 159, 0, 5, 3, 172, 21, 5, 154, 0, 15, 45, 3, 47, 21, 6, 133, 148]
abbrev dktL_law_83 : List UInt8 := dkwL_law_83 ++ dktL_law_84
def dkwL_law_82 : List UInt8 := [21, 4, 4, 96, 46, 45, 184, 0, 222, 54, 5, 44, 42, 21, 4, 4, 96, 46, 182, 0, 224, 54, 6, 44]
abbrev dktL_law_82 : List UInt8 := dkwL_law_82 ++ dktL_law_83
def dkwL_law_81 : List UInt8 := [172, 21, 5, 154, 0, 15, 45, 3, 47, 21, 6, 133, 148, 153, 0, 5, 3, 172, 167, 1, 9, 43, 42]
abbrev dktL_law_81 : List UInt8 := dkwL_law_81 ++ dktL_law_82
def dkwL_law_80 : List UInt8 := [54, 5, 44, 42, 21, 4, 4, 96, 46, 182, 0, 221, 54, 6, 44, 182, 0, 125, 21, 5, 159, 0, 5, 3]
abbrev dktL_law_80 : List UInt8 := dkwL_law_80 ++ dktL_law_81
def dkwL_law_79 : List UInt8 := [21, 6, 133, 148, 153, 0, 5, 3, 172, 167, 1, 65, 43, 42, 21, 4, 4, 96, 46, 45, 184, 0, 219]
abbrev dktL_law_79 : List UInt8 := dkwL_law_79 ++ dktL_law_80
def dkwL_law_78 : List UInt8 := [182, 0, 218, 54, 6, 44, 182, 0, 125, 21, 5, 159, 0, 5, 3, 172, 21, 5, 154, 0, 15, 45, 3, 47]
abbrev dktL_law_78 : List UInt8 := dkwL_law_78 ++ dktL_law_79
def dkwL_law_77 : List UInt8 := [167, 1, 121, 43, 42, 21, 4, 4, 96, 46, 45, 184, 0, 216, 54, 5, 44, 42, 21, 4, 4, 96, 46]
abbrev dktL_law_77 : List UInt8 := dkwL_law_77 ++ dktL_law_78
def dkwL_law_76 : List UInt8 := [159, 0, 5, 3, 172, 21, 5, 154, 0, 15, 45, 3, 47, 21, 6, 133, 148, 153, 0, 5, 3, 172]
abbrev dktL_law_76 : List UInt8 := dkwL_law_76 ++ dktL_law_77
def dkwL_law_75 : List UInt8 := [21, 4, 4, 96, 46, 42, 21, 4, 5, 96, 46, 182, 0, 215, 54, 6, 44, 182, 0, 125, 21, 5]
abbrev dktL_law_75 : List UInt8 := dkwL_law_75 ++ dktL_law_76
def dkwL_law_74 : List UInt8 := [167, 1, 189, 43, 42, 21, 4, 4, 96, 46, 42, 21, 4, 5, 96, 46, 45, 184, 0, 213, 54, 5, 44, 42]
abbrev dktL_law_74 : List UInt8 := dkwL_law_74 ++ dktL_law_75
def dkwL_law_73 : List UInt8 := [154, 0, 22, 45, 3, 47, 21, 6, 153, 0, 7, 10, 167, 0, 4, 9, 148, 153, 0, 5, 3, 172]
abbrev dktL_law_73 : List UInt8 := dkwL_law_73 ++ dktL_law_74
def dkwL_law_72 : List UInt8 := [21, 4, 4, 96, 46, 182, 0, 212, 54, 6, 44, 182, 0, 125, 21, 5, 159, 0, 5, 3, 172, 21, 5]
abbrev dktL_law_72 : List UInt8 := dkwL_law_72 ++ dktL_law_73
def dkwL_law_71 : List UInt8 := [153, 0, 5, 3, 172, 167, 1, 252, 43, 42, 21, 4, 4, 96, 46, 45, 184, 0, 210, 54, 5, 44, 42]
abbrev dktL_law_71 : List UInt8 := dkwL_law_71 ++ dktL_law_72
def dkwL_law_70 : List UInt8 := [182, 0, 125, 21, 5, 159, 0, 5, 3, 172, 21, 5, 154, 0, 15, 45, 3, 47, 21, 6, 133, 148]
abbrev dktL_law_70 : List UInt8 := dkwL_law_70 ++ dktL_law_71
def dkwL_law_69 : List UInt8 := [21, 4, 4, 96, 46, 45, 184, 0, 207, 54, 5, 44, 42, 21, 4, 4, 96, 46, 182, 0, 209, 54, 6, 44]
abbrev dktL_law_69 : List UInt8 := dkwL_law_69 ++ dktL_law_70
def dkwL_law_68 : List UInt8 := [3, 47, 21, 6, 153, 0, 7, 10, 167, 0, 4, 9, 148, 153, 0, 5, 3, 172, 167, 2, 52, 43, 42]
abbrev dktL_law_68 : List UInt8 := dkwL_law_68 ++ dktL_law_69
def dkwL_law_67 : List UInt8 := [96, 46, 182, 0, 206, 54, 6, 44, 182, 0, 125, 21, 5, 159, 0, 5, 3, 172, 21, 5, 154, 0, 22, 45]
abbrev dktL_law_67 : List UInt8 := dkwL_law_67 ++ dktL_law_68
def dkwL_law_66 : List UInt8 := [46, 42, 21, 4, 5, 96, 46, 45, 184, 0, 204, 54, 5, 44, 42, 21, 4, 4, 96, 46, 42, 21, 4, 5]
abbrev dktL_law_66 : List UInt8 := dkwL_law_66 ++ dktL_law_67
def dkwL_law_65 : List UInt8 := [154, 0, 15, 45, 3, 47, 21, 6, 133, 148, 153, 0, 5, 3, 172, 167, 2, 127, 43, 42, 21, 4, 4, 96]
abbrev dktL_law_65 : List UInt8 := dkwL_law_65 ++ dktL_law_66
def dkwL_law_64 : List UInt8 := [42, 21, 4, 5, 96, 46, 182, 0, 203, 54, 6, 44, 182, 0, 125, 21, 5, 159, 0, 5, 3, 172, 21, 5]
abbrev dktL_law_64 : List UInt8 := dkwL_law_64 ++ dktL_law_65
def dkwL_law_63 : List UInt8 := [21, 4, 4, 96, 46, 42, 21, 4, 5, 96, 46, 45, 184, 0, 201, 54, 5, 44, 42, 21, 4, 4, 96, 46]
abbrev dktL_law_63 : List UInt8 := dkwL_law_63 ++ dktL_law_64
def dkwL_law_62 : List UInt8 := [172, 21, 5, 154, 0, 15, 45, 3, 47, 21, 6, 133, 148, 153, 0, 5, 3, 172, 167, 2, 195, 43, 42]
abbrev dktL_law_62 : List UInt8 := dkwL_law_62 ++ dktL_law_63
def dkwL_law_61 : List UInt8 := [54, 5, 44, 42, 21, 4, 4, 96, 46, 182, 0, 200, 54, 6, 44, 182, 0, 125, 21, 5, 159, 0, 5, 3]
abbrev dktL_law_61 : List UInt8 := dkwL_law_61 ++ dktL_law_62
def dkwL_law_60 : List UInt8 := [21, 6, 133, 148, 153, 0, 5, 3, 172, 167, 2, 251, 43, 42, 21, 4, 4, 96, 46, 45, 184, 0, 198]
abbrev dktL_law_60 : List UInt8 := dkwL_law_60 ++ dktL_law_61
def dkwL_law_59 : List UInt8 := [182, 0, 197, 54, 6, 44, 182, 0, 125, 21, 5, 159, 0, 5, 3, 172, 21, 5, 154, 0, 15, 45, 3, 47]
abbrev dktL_law_59 : List UInt8 := dkwL_law_59 ++ dktL_law_60
def dkwL_law_58 : List UInt8 := [167, 3, 51, 43, 42, 21, 4, 4, 96, 46, 45, 184, 0, 195, 54, 5, 44, 42, 21, 4, 4, 96, 46]
abbrev dktL_law_58 : List UInt8 := dkwL_law_58 ++ dktL_law_59
def dkwL_law_57 : List UInt8 := [159, 0, 5, 3, 172, 21, 5, 154, 0, 15, 45, 3, 47, 21, 6, 133, 148, 153, 0, 5, 3, 172]
abbrev dktL_law_57 : List UInt8 := dkwL_law_57 ++ dktL_law_58
def dkwL_law_56 : List UInt8 := [184, 0, 192, 54, 5, 44, 42, 21, 4, 4, 96, 46, 182, 0, 194, 54, 6, 44, 182, 0, 125, 21, 5]
abbrev dktL_law_56 : List UInt8 := dkwL_law_56 ++ dktL_law_57
def dkwL_law_55 : List UInt8 := [167, 3, 120, 43, 182, 0, 188, 44, 182, 0, 191, 159, 3, 109, 3, 172, 43, 42, 21, 4, 4, 96, 46, 45]
abbrev dktL_law_55 : List UInt8 := dkwL_law_55 ++ dktL_law_56
def dkwL_law_54 : List UInt8 := [21, 5, 159, 0, 5, 3, 172, 21, 5, 154, 0, 15, 45, 3, 47, 21, 6, 133, 148, 153, 0, 5, 3, 172]
abbrev dktL_law_54 : List UInt8 := dkwL_law_54 ++ dktL_law_55
def dkwL_law_53 : List UInt8 := [46, 45, 184, 0, 185, 54, 5, 44, 42, 21, 4, 4, 96, 46, 182, 0, 187, 54, 6, 44, 182, 0, 125]
abbrev dktL_law_53 : List UInt8 := dkwL_law_53 ++ dktL_law_54
def dkwL_law_52 : List UInt8 := [154, 0, 15, 45, 3, 47, 21, 6, 133, 148, 153, 0, 5, 3, 172, 167, 3, 176, 43, 42, 21, 4, 4, 96]
abbrev dktL_law_52 : List UInt8 := dkwL_law_52 ++ dktL_law_53
def dkwL_law_51 : List UInt8 := [21, 4, 6, 96, 46, 182, 0, 184, 54, 6, 44, 182, 0, 125, 21, 5, 159, 0, 5, 3, 172, 21, 5]
abbrev dktL_law_51 : List UInt8 := dkwL_law_51 ++ dktL_law_52
def dkwL_law_50 : List UInt8 := [6, 96, 46, 45, 184, 0, 181, 54, 5, 44, 42, 21, 4, 4, 96, 46, 42, 21, 4, 5, 96, 46, 42]
abbrev dktL_law_50 : List UInt8 := dkwL_law_50 ++ dktL_law_51
def dkwL_law_49 : List UInt8 := [153, 0, 5, 3, 172, 167, 4, 0, 43, 42, 21, 4, 4, 96, 46, 42, 21, 4, 5, 96, 46, 42, 21, 4]
abbrev dktL_law_49 : List UInt8 := dkwL_law_49 ++ dktL_law_50
def dkwL_law_48 : List UInt8 := [182, 0, 125, 21, 5, 159, 0, 5, 3, 172, 21, 5, 154, 0, 15, 45, 3, 47, 21, 6, 133, 148]
abbrev dktL_law_48 : List UInt8 := dkwL_law_48 ++ dktL_law_49
def dkwL_law_47 : List UInt8 := [184, 0, 178, 54, 5, 44, 42, 21, 4, 4, 96, 46, 42, 21, 4, 5, 96, 46, 182, 0, 180, 54, 6, 44]
abbrev dktL_law_47 : List UInt8 := dkwL_law_47 ++ dktL_law_48
def dkwL_law_46 : List UInt8 := [153, 0, 5, 3, 172, 167, 4, 68, 43, 42, 21, 4, 4, 96, 46, 42, 21, 4, 5, 96, 46, 45]
abbrev dktL_law_46 : List UInt8 := dkwL_law_46 ++ dktL_law_47
def dkwL_law_45 : List UInt8 := [182, 0, 125, 21, 5, 159, 0, 5, 3, 172, 21, 5, 154, 0, 15, 45, 3, 47, 21, 6, 133, 148]
abbrev dktL_law_45 : List UInt8 := dkwL_law_45 ++ dktL_law_46
def dkwL_law_44 : List UInt8 := [21, 4, 4, 96, 46, 45, 184, 0, 175, 54, 5, 44, 42, 21, 4, 4, 96, 46, 182, 0, 177, 54, 6, 44]
abbrev dktL_law_44 : List UInt8 := dkwL_law_44 ++ dktL_law_45
def dkwL_law_43 : List UInt8 := [172, 21, 5, 154, 0, 15, 45, 3, 47, 21, 6, 133, 148, 153, 0, 5, 3, 172, 167, 4, 124, 43, 42]
abbrev dktL_law_43 : List UInt8 := dkwL_law_43 ++ dktL_law_44
def dkwL_law_42 : List UInt8 := [54, 5, 44, 42, 21, 4, 4, 96, 46, 182, 0, 174, 54, 6, 44, 182, 0, 125, 21, 5, 159, 0, 5, 3]
abbrev dktL_law_42 : List UInt8 := dkwL_law_42 ++ dktL_law_43
def dkwL_law_41 : List UInt8 := [167, 0, 4, 9, 148, 153, 0, 5, 3, 172, 167, 4, 180, 43, 42, 21, 4, 4, 96, 46, 45, 184, 0, 172]
abbrev dktL_law_41 : List UInt8 := dkwL_law_41 ++ dktL_law_42
def dkwL_law_40 : List UInt8 := [182, 0, 125, 21, 5, 159, 0, 5, 3, 172, 21, 5, 154, 0, 22, 45, 3, 47, 21, 6, 153, 0, 7, 10]
abbrev dktL_law_40 : List UInt8 := dkwL_law_40 ++ dktL_law_41
def dkwL_law_39 : List UInt8 := [21, 4, 4, 96, 46, 45, 184, 0, 169, 54, 5, 44, 42, 21, 4, 4, 96, 46, 182, 0, 171, 54, 6, 44]
abbrev dktL_law_39 : List UInt8 := dkwL_law_39 ++ dktL_law_40
def dkwL_law_38 : List UInt8 := [182, 0, 164, 159, 5, 2, 3, 172, 43, 182, 0, 165, 44, 182, 0, 168, 159, 4, 245, 3, 172, 43, 42]
abbrev dktL_law_38 : List UInt8 := dkwL_law_38 ++ dktL_law_39
def dkwL_law_37 : List UInt8 := [154, 0, 15, 45, 3, 47, 21, 6, 133, 148, 153, 0, 5, 3, 172, 167, 5, 13, 43, 182, 0, 161, 44]
abbrev dktL_law_37 : List UInt8 := dkwL_law_37 ++ dktL_law_38
def dkwL_law_36 : List UInt8 := [21, 4, 4, 96, 46, 182, 0, 160, 54, 6, 44, 182, 0, 125, 21, 5, 159, 0, 5, 3, 172, 21, 5]
abbrev dktL_law_36 : List UInt8 := dkwL_law_36 ++ dktL_law_37
def dkwL_law_35 : List UInt8 := [153, 0, 5, 3, 172, 167, 5, 69, 43, 42, 21, 4, 4, 96, 46, 45, 184, 0, 158, 54, 5, 44, 42]
abbrev dktL_law_35 : List UInt8 := dkwL_law_35 ++ dktL_law_36
def dkwL_law_34 : List UInt8 := [182, 0, 125, 21, 5, 159, 0, 5, 3, 172, 21, 5, 154, 0, 15, 45, 3, 47, 21, 6, 133, 148]
abbrev dktL_law_34 : List UInt8 := dkwL_law_34 ++ dktL_law_35
def dkwL_law_33 : List UInt8 := [184, 0, 155, 54, 5, 44, 42, 21, 4, 4, 96, 46, 42, 21, 4, 5, 96, 46, 182, 0, 157, 54, 6, 44]
abbrev dktL_law_33 : List UInt8 := dkwL_law_33 ++ dktL_law_34
def dkwL_law_32 : List UInt8 := [153, 0, 5, 3, 172, 167, 5, 137, 43, 42, 21, 4, 4, 96, 46, 42, 21, 4, 5, 96, 46, 45]
abbrev dktL_law_32 : List UInt8 := dkwL_law_32 ++ dktL_law_33
def dkwL_law_31 : List UInt8 := [182, 0, 125, 21, 5, 159, 0, 5, 3, 172, 21, 5, 154, 0, 15, 45, 3, 47, 21, 6, 133, 148]
abbrev dktL_law_31 : List UInt8 := dkwL_law_31 ++ dktL_law_32
def dkwL_law_30 : List UInt8 := [5, 96, 46, 42, 21, 4, 6, 96, 46, 153, 0, 7, 4, 167, 0, 4, 3, 182, 0, 154, 54, 6, 44]
abbrev dktL_law_30 : List UInt8 := dkwL_law_30 ++ dktL_law_31
def dkwL_law_29 : List UInt8 := [153, 0, 7, 4, 167, 0, 4, 3, 45, 184, 0, 152, 54, 5, 44, 42, 21, 4, 4, 96, 46, 42, 21, 4]
abbrev dktL_law_29 : List UInt8 := dkwL_law_29 ++ dktL_law_30
def dkwL_law_28 : List UInt8 := [167, 5, 233, 43, 42, 21, 4, 4, 96, 46, 42, 21, 4, 5, 96, 46, 42, 21, 4, 6, 96, 46]
abbrev dktL_law_28 : List UInt8 := dkwL_law_28 ++ dktL_law_29
def dkwL_law_27 : List UInt8 := [159, 0, 5, 3, 172, 21, 5, 154, 0, 15, 45, 3, 47, 21, 6, 133, 148, 153, 0, 5, 3, 172]
abbrev dktL_law_27 : List UInt8 := dkwL_law_27 ++ dktL_law_28
def dkwL_law_26 : List UInt8 := [21, 4, 4, 96, 46, 42, 21, 4, 5, 96, 46, 182, 0, 151, 54, 6, 44, 182, 0, 125, 21, 5]
abbrev dktL_law_26 : List UInt8 := dkwL_law_26 ++ dktL_law_27
def dkwL_law_25 : List UInt8 := [167, 6, 45, 43, 42, 21, 4, 4, 96, 46, 42, 21, 4, 5, 96, 46, 45, 184, 0, 149, 54, 5, 44, 42]
abbrev dktL_law_25 : List UInt8 := dkwL_law_25 ++ dktL_law_26
def dkwL_law_24 : List UInt8 := [154, 0, 22, 45, 3, 47, 21, 6, 153, 0, 7, 10, 167, 0, 4, 9, 148, 153, 0, 5, 3, 172]
abbrev dktL_law_24 : List UInt8 := dkwL_law_24 ++ dktL_law_25
def dkwL_law_23 : List UInt8 := [21, 4, 4, 96, 46, 182, 0, 148, 54, 6, 44, 182, 0, 125, 21, 5, 159, 0, 5, 3, 172, 21, 5]
abbrev dktL_law_23 : List UInt8 := dkwL_law_23 ++ dktL_law_24
def dkwL_law_22 : List UInt8 := [153, 0, 5, 3, 172, 167, 6, 108, 43, 42, 21, 4, 4, 96, 46, 45, 184, 0, 145, 54, 5, 44, 42]
abbrev dktL_law_22 : List UInt8 := dkwL_law_22 ++ dktL_law_23
def dkwL_law_21 : List UInt8 := [182, 0, 125, 21, 5, 159, 0, 5, 3, 172, 21, 5, 154, 0, 15, 45, 3, 47, 21, 6, 133, 148]
abbrev dktL_law_21 : List UInt8 := dkwL_law_21 ++ dktL_law_22
def dkwL_law_20 : List UInt8 := [184, 0, 142, 54, 5, 44, 42, 21, 4, 4, 96, 46, 42, 21, 4, 5, 96, 46, 182, 0, 144, 54, 6, 44]
abbrev dktL_law_20 : List UInt8 := dkwL_law_20 ++ dktL_law_21
def dkwL_law_19 : List UInt8 := [153, 0, 5, 3, 172, 167, 6, 176, 43, 42, 21, 4, 4, 96, 46, 42, 21, 4, 5, 96, 46, 45]
abbrev dktL_law_19 : List UInt8 := dkwL_law_19 ++ dktL_law_20
def dkwL_law_18 : List UInt8 := [182, 0, 125, 21, 5, 159, 0, 5, 3, 172, 21, 5, 154, 0, 15, 45, 3, 47, 21, 6, 133, 148]
abbrev dktL_law_18 : List UInt8 := dkwL_law_18 ++ dktL_law_19
def dkwL_law_17 : List UInt8 := [184, 0, 139, 54, 5, 44, 42, 21, 4, 4, 96, 46, 42, 21, 4, 5, 96, 46, 182, 0, 141, 54, 6, 44]
abbrev dktL_law_17 : List UInt8 := dkwL_law_17 ++ dktL_law_18
def dkwL_law_16 : List UInt8 := [153, 0, 5, 3, 172, 167, 6, 244, 43, 42, 21, 4, 4, 96, 46, 42, 21, 4, 5, 96, 46, 45]
abbrev dktL_law_16 : List UInt8 := dkwL_law_16 ++ dktL_law_17
def dkwL_law_15 : List UInt8 := [182, 0, 125, 21, 5, 159, 0, 5, 3, 172, 21, 5, 154, 0, 15, 45, 3, 47, 21, 6, 133, 148]
abbrev dktL_law_15 : List UInt8 := dkwL_law_15 ++ dktL_law_16
def dkwL_law_14 : List UInt8 := [184, 0, 136, 54, 5, 44, 42, 21, 4, 4, 96, 46, 42, 21, 4, 5, 96, 46, 182, 0, 138, 54, 6, 44]
abbrev dktL_law_14 : List UInt8 := dkwL_law_14 ++ dktL_law_15
def dkwL_law_13 : List UInt8 := [153, 0, 5, 3, 172, 167, 7, 56, 43, 42, 21, 4, 4, 96, 46, 42, 21, 4, 5, 96, 46, 45]
abbrev dktL_law_13 : List UInt8 := dkwL_law_13 ++ dktL_law_14
def dkwL_law_12 : List UInt8 := [182, 0, 125, 21, 5, 159, 0, 5, 3, 172, 21, 5, 154, 0, 15, 45, 3, 47, 21, 6, 133, 148]
abbrev dktL_law_12 : List UInt8 := dkwL_law_12 ++ dktL_law_13
def dkwL_law_11 : List UInt8 := [184, 0, 133, 54, 5, 44, 42, 21, 4, 4, 96, 46, 42, 21, 4, 5, 96, 46, 182, 0, 135, 54, 6, 44]
abbrev dktL_law_11 : List UInt8 := dkwL_law_11 ++ dktL_law_12
def dkwL_law_10 : List UInt8 := [153, 0, 5, 3, 172, 167, 7, 124, 43, 42, 21, 4, 4, 96, 46, 42, 21, 4, 5, 96, 46, 45]
abbrev dktL_law_10 : List UInt8 := dkwL_law_10 ++ dktL_law_11
def dkwL_law_9 : List UInt8 := [182, 0, 125, 21, 5, 159, 0, 5, 3, 172, 21, 5, 154, 0, 15, 45, 3, 47, 21, 6, 133, 148]
abbrev dktL_law_9 : List UInt8 := dkwL_law_9 ++ dktL_law_10
def dkwL_law_8 : List UInt8 := [184, 0, 129, 54, 5, 44, 42, 21, 4, 4, 96, 46, 42, 21, 4, 5, 96, 46, 182, 0, 132, 54, 6, 44]
abbrev dktL_law_8 : List UInt8 := dkwL_law_8 ++ dktL_law_9
def dkwL_law_7 : List UInt8 := [153, 0, 5, 3, 172, 167, 7, 192, 43, 42, 21, 4, 4, 96, 46, 42, 21, 4, 5, 96, 46, 45]
abbrev dktL_law_7 : List UInt8 := dkwL_law_7 ++ dktL_law_8
def dkwL_law_6 : List UInt8 := [159, 0, 5, 3, 172, 21, 5, 154, 0, 22, 45, 3, 47, 21, 6, 153, 0, 7, 10, 167, 0, 4, 9, 148]
abbrev dktL_law_6 : List UInt8 := dkwL_law_6 ++ dktL_law_7
def dkwL_law_5 : List UInt8 := [21, 4, 6, 96, 46, 153, 0, 7, 4, 167, 0, 4, 3, 182, 0, 124, 54, 6, 44, 182, 0, 125, 21, 5]
abbrev dktL_law_5 : List UInt8 := dkwL_law_5 ++ dktL_law_6
def dkwL_law_4 : List UInt8 := [167, 0, 4, 3, 45, 184, 0, 119, 54, 5, 44, 42, 21, 4, 4, 96, 46, 42, 21, 4, 5, 96, 46, 42]
abbrev dktL_law_4 : List UInt8 := dkwL_law_4 ++ dktL_law_5
def dkwL_law_3 : List UInt8 := [43, 42, 21, 4, 4, 96, 46, 42, 21, 4, 5, 96, 46, 42, 21, 4, 6, 96, 46, 153, 0, 7, 4]
abbrev dktL_law_3 : List UInt8 := dkwL_law_3 ++ dktL_law_4
def dkwL_law_2 : List UInt8 := [170, 0, 0, 8, 193, 0, 0, 0, 0, 0, 0, 0, 35, 0, 0, 0, 157, 0, 0, 1, 4, 0, 0, 1, 72, 0, 0, 1, 140, 0, 0, 1, 208, 0, 0, 2, 20, 0, 0, 2, 88, 0, 0, 2, 151, 0, 0, 2, 219, 0, 0, 3, 59, 0, 0, 3, 127, 0, 0, 3, 183, 0, 0, 3, 196, 0, 0, 3, 209, 0, 0, 4, 16, 0, 0, 4, 72, 0, 0, 4, 128, 0, 0, 4, 196, 0, 0, 5, 20, 0, 0, 5, 76, 0, 0, 5, 89, 0, 0, 5, 145, 0, 0, 5, 201, 0, 0, 6, 1, 0, 0, 6, 69, 0, 0, 6, 144, 0, 0, 6, 200, 0, 0, 7, 7, 0, 0, 7, 75, 0, 0, 7, 131, 0, 0, 7, 187, 0, 0, 7, 243, 0, 0, 8, 43, 0, 0, 8, 56, 0, 0, 8, 112, 0, 0, 8, 125]
abbrev dktL_law_2 : List UInt8 := dkwL_law_2 ++ dktL_law_3
def dkwL_law_1 : List UInt8 := [21, 4, 42, 190, 7, 100, 163, 8, 209, 42, 21, 4, 46, 16, 63, 126]
abbrev dktL_law_1 : List UInt8 := dkwL_law_1 ++ dktL_law_2
def dkwL_law_0 : List UInt8 := [187, 0, 8, 89, 183, 0, 115, 76, 187, 0, 116, 89, 183, 0, 118, 77, 4, 188, 11, 78, 3, 54, 4]
abbrev dktL_law_0 : List UInt8 := dkwL_law_0 ++ dktL_law_1
theorem dksL_law_0 : cL_law.data.toList.drop 0 = dktL_law_0 := by decide +kernel
theorem dksL_law_1 : cL_law.data.toList.drop 23 = dktL_law_1 := dk_seg dksL_law_0 23 rfl rfl
theorem dksL_law_2 : cL_law.data.toList.drop 39 = dktL_law_2 := dk_seg dksL_law_1 16 rfl rfl
theorem dksL_law_3 : cL_law.data.toList.drop 196 = dktL_law_3 := dk_seg dksL_law_2 157 rfl rfl
theorem dksL_law_4 : cL_law.data.toList.drop 219 = dktL_law_4 := dk_seg dksL_law_3 23 rfl rfl
theorem dksL_law_5 : cL_law.data.toList.drop 243 = dktL_law_5 := dk_seg dksL_law_4 24 rfl rfl
theorem dksL_law_6 : cL_law.data.toList.drop 267 = dktL_law_6 := dk_seg dksL_law_5 24 rfl rfl
theorem dksL_law_7 : cL_law.data.toList.drop 291 = dktL_law_7 := dk_seg dksL_law_6 24 rfl rfl
theorem dksL_law_8 : cL_law.data.toList.drop 313 = dktL_law_8 := dk_seg dksL_law_7 22 rfl rfl
theorem dksL_law_9 : cL_law.data.toList.drop 337 = dktL_law_9 := dk_seg dksL_law_8 24 rfl rfl
theorem dksL_law_10 : cL_law.data.toList.drop 359 = dktL_law_10 := dk_seg dksL_law_9 22 rfl rfl
theorem dksL_law_11 : cL_law.data.toList.drop 381 = dktL_law_11 := dk_seg dksL_law_10 22 rfl rfl
theorem dksL_law_12 : cL_law.data.toList.drop 405 = dktL_law_12 := dk_seg dksL_law_11 24 rfl rfl
theorem dksL_law_13 : cL_law.data.toList.drop 427 = dktL_law_13 := dk_seg dksL_law_12 22 rfl rfl
theorem dksL_law_14 : cL_law.data.toList.drop 449 = dktL_law_14 := dk_seg dksL_law_13 22 rfl rfl
theorem dksL_law_15 : cL_law.data.toList.drop 473 = dktL_law_15 := dk_seg dksL_law_14 24 rfl rfl
theorem dksL_law_16 : cL_law.data.toList.drop 495 = dktL_law_16 := dk_seg dksL_law_15 22 rfl rfl
theorem dksL_law_17 : cL_law.data.toList.drop 517 = dktL_law_17 := dk_seg dksL_law_16 22 rfl rfl
theorem dksL_law_18 : cL_law.data.toList.drop 541 = dktL_law_18 := dk_seg dksL_law_17 24 rfl rfl
theorem dksL_law_19 : cL_law.data.toList.drop 563 = dktL_law_19 := dk_seg dksL_law_18 22 rfl rfl
theorem dksL_law_20 : cL_law.data.toList.drop 585 = dktL_law_20 := dk_seg dksL_law_19 22 rfl rfl
theorem dksL_law_21 : cL_law.data.toList.drop 609 = dktL_law_21 := dk_seg dksL_law_20 24 rfl rfl
theorem dksL_law_22 : cL_law.data.toList.drop 631 = dktL_law_22 := dk_seg dksL_law_21 22 rfl rfl
theorem dksL_law_23 : cL_law.data.toList.drop 654 = dktL_law_23 := dk_seg dksL_law_22 23 rfl rfl
theorem dksL_law_24 : cL_law.data.toList.drop 677 = dktL_law_24 := dk_seg dksL_law_23 23 rfl rfl
theorem dksL_law_25 : cL_law.data.toList.drop 699 = dktL_law_25 := dk_seg dksL_law_24 22 rfl rfl
theorem dksL_law_26 : cL_law.data.toList.drop 723 = dktL_law_26 := dk_seg dksL_law_25 24 rfl rfl
theorem dksL_law_27 : cL_law.data.toList.drop 745 = dktL_law_27 := dk_seg dksL_law_26 22 rfl rfl
theorem dksL_law_28 : cL_law.data.toList.drop 767 = dktL_law_28 := dk_seg dksL_law_27 22 rfl rfl
theorem dksL_law_29 : cL_law.data.toList.drop 789 = dktL_law_29 := dk_seg dksL_law_28 22 rfl rfl
theorem dksL_law_30 : cL_law.data.toList.drop 813 = dktL_law_30 := dk_seg dksL_law_29 24 rfl rfl
theorem dksL_law_31 : cL_law.data.toList.drop 836 = dktL_law_31 := dk_seg dksL_law_30 23 rfl rfl
theorem dksL_law_32 : cL_law.data.toList.drop 858 = dktL_law_32 := dk_seg dksL_law_31 22 rfl rfl
theorem dksL_law_33 : cL_law.data.toList.drop 880 = dktL_law_33 := dk_seg dksL_law_32 22 rfl rfl
theorem dksL_law_34 : cL_law.data.toList.drop 904 = dktL_law_34 := dk_seg dksL_law_33 24 rfl rfl
theorem dksL_law_35 : cL_law.data.toList.drop 926 = dktL_law_35 := dk_seg dksL_law_34 22 rfl rfl
theorem dksL_law_36 : cL_law.data.toList.drop 949 = dktL_law_36 := dk_seg dksL_law_35 23 rfl rfl
theorem dksL_law_37 : cL_law.data.toList.drop 972 = dktL_law_37 := dk_seg dksL_law_36 23 rfl rfl
theorem dksL_law_38 : cL_law.data.toList.drop 995 = dktL_law_38 := dk_seg dksL_law_37 23 rfl rfl
theorem dksL_law_39 : cL_law.data.toList.drop 1018 = dktL_law_39 := dk_seg dksL_law_38 23 rfl rfl
theorem dksL_law_40 : cL_law.data.toList.drop 1042 = dktL_law_40 := dk_seg dksL_law_39 24 rfl rfl
theorem dksL_law_41 : cL_law.data.toList.drop 1066 = dktL_law_41 := dk_seg dksL_law_40 24 rfl rfl
theorem dksL_law_42 : cL_law.data.toList.drop 1090 = dktL_law_42 := dk_seg dksL_law_41 24 rfl rfl
theorem dksL_law_43 : cL_law.data.toList.drop 1114 = dktL_law_43 := dk_seg dksL_law_42 24 rfl rfl
theorem dksL_law_44 : cL_law.data.toList.drop 1137 = dktL_law_44 := dk_seg dksL_law_43 23 rfl rfl
theorem dksL_law_45 : cL_law.data.toList.drop 1161 = dktL_law_45 := dk_seg dksL_law_44 24 rfl rfl
theorem dksL_law_46 : cL_law.data.toList.drop 1183 = dktL_law_46 := dk_seg dksL_law_45 22 rfl rfl
theorem dksL_law_47 : cL_law.data.toList.drop 1205 = dktL_law_47 := dk_seg dksL_law_46 22 rfl rfl
theorem dksL_law_48 : cL_law.data.toList.drop 1229 = dktL_law_48 := dk_seg dksL_law_47 24 rfl rfl
theorem dksL_law_49 : cL_law.data.toList.drop 1251 = dktL_law_49 := dk_seg dksL_law_48 22 rfl rfl
theorem dksL_law_50 : cL_law.data.toList.drop 1275 = dktL_law_50 := dk_seg dksL_law_49 24 rfl rfl
theorem dksL_law_51 : cL_law.data.toList.drop 1298 = dktL_law_51 := dk_seg dksL_law_50 23 rfl rfl
theorem dksL_law_52 : cL_law.data.toList.drop 1321 = dktL_law_52 := dk_seg dksL_law_51 23 rfl rfl
theorem dksL_law_53 : cL_law.data.toList.drop 1345 = dktL_law_53 := dk_seg dksL_law_52 24 rfl rfl
theorem dksL_law_54 : cL_law.data.toList.drop 1368 = dktL_law_54 := dk_seg dksL_law_53 23 rfl rfl
theorem dksL_law_55 : cL_law.data.toList.drop 1392 = dktL_law_55 := dk_seg dksL_law_54 24 rfl rfl
theorem dksL_law_56 : cL_law.data.toList.drop 1416 = dktL_law_56 := dk_seg dksL_law_55 24 rfl rfl
theorem dksL_law_57 : cL_law.data.toList.drop 1439 = dktL_law_57 := dk_seg dksL_law_56 23 rfl rfl
theorem dksL_law_58 : cL_law.data.toList.drop 1461 = dktL_law_58 := dk_seg dksL_law_57 22 rfl rfl
theorem dksL_law_59 : cL_law.data.toList.drop 1484 = dktL_law_59 := dk_seg dksL_law_58 23 rfl rfl
theorem dksL_law_60 : cL_law.data.toList.drop 1508 = dktL_law_60 := dk_seg dksL_law_59 24 rfl rfl
theorem dksL_law_61 : cL_law.data.toList.drop 1531 = dktL_law_61 := dk_seg dksL_law_60 23 rfl rfl
theorem dksL_law_62 : cL_law.data.toList.drop 1555 = dktL_law_62 := dk_seg dksL_law_61 24 rfl rfl
theorem dksL_law_63 : cL_law.data.toList.drop 1578 = dktL_law_63 := dk_seg dksL_law_62 23 rfl rfl
theorem dksL_law_64 : cL_law.data.toList.drop 1602 = dktL_law_64 := dk_seg dksL_law_63 24 rfl rfl
theorem dksL_law_65 : cL_law.data.toList.drop 1626 = dktL_law_65 := dk_seg dksL_law_64 24 rfl rfl
theorem dksL_law_66 : cL_law.data.toList.drop 1650 = dktL_law_66 := dk_seg dksL_law_65 24 rfl rfl
theorem dksL_law_67 : cL_law.data.toList.drop 1674 = dktL_law_67 := dk_seg dksL_law_66 24 rfl rfl
theorem dksL_law_68 : cL_law.data.toList.drop 1698 = dktL_law_68 := dk_seg dksL_law_67 24 rfl rfl
theorem dksL_law_69 : cL_law.data.toList.drop 1721 = dktL_law_69 := dk_seg dksL_law_68 23 rfl rfl
theorem dksL_law_70 : cL_law.data.toList.drop 1745 = dktL_law_70 := dk_seg dksL_law_69 24 rfl rfl
theorem dksL_law_71 : cL_law.data.toList.drop 1767 = dktL_law_71 := dk_seg dksL_law_70 22 rfl rfl
theorem dksL_law_72 : cL_law.data.toList.drop 1790 = dktL_law_72 := dk_seg dksL_law_71 23 rfl rfl
theorem dksL_law_73 : cL_law.data.toList.drop 1813 = dktL_law_73 := dk_seg dksL_law_72 23 rfl rfl
theorem dksL_law_74 : cL_law.data.toList.drop 1835 = dktL_law_74 := dk_seg dksL_law_73 22 rfl rfl
theorem dksL_law_75 : cL_law.data.toList.drop 1859 = dktL_law_75 := dk_seg dksL_law_74 24 rfl rfl
theorem dksL_law_76 : cL_law.data.toList.drop 1881 = dktL_law_76 := dk_seg dksL_law_75 22 rfl rfl
theorem dksL_law_77 : cL_law.data.toList.drop 1903 = dktL_law_77 := dk_seg dksL_law_76 22 rfl rfl
theorem dksL_law_78 : cL_law.data.toList.drop 1926 = dktL_law_78 := dk_seg dksL_law_77 23 rfl rfl
theorem dksL_law_79 : cL_law.data.toList.drop 1950 = dktL_law_79 := dk_seg dksL_law_78 24 rfl rfl
theorem dksL_law_80 : cL_law.data.toList.drop 1973 = dktL_law_80 := dk_seg dksL_law_79 23 rfl rfl
theorem dksL_law_81 : cL_law.data.toList.drop 1997 = dktL_law_81 := dk_seg dksL_law_80 24 rfl rfl
theorem dksL_law_82 : cL_law.data.toList.drop 2020 = dktL_law_82 := dk_seg dksL_law_81 23 rfl rfl
theorem dksL_law_83 : cL_law.data.toList.drop 2044 = dktL_law_83 := dk_seg dksL_law_82 24 rfl rfl
theorem dksL_law_84 : cL_law.data.toList.drop 2066 = dktL_law_84 := dk_seg dksL_law_83 22 rfl rfl
theorem dksL_law_85 : cL_law.data.toList.drop 2089 = dktL_law_85 := dk_seg dksL_law_84 23 rfl rfl
theorem dksL_law_86 : cL_law.data.toList.drop 2112 = dktL_law_86 := dk_seg dksL_law_85 23 rfl rfl
theorem dksL_law_87 : cL_law.data.toList.drop 2135 = dktL_law_87 := dk_seg dksL_law_86 23 rfl rfl
theorem dksL_law_88 : cL_law.data.toList.drop 2158 = dktL_law_88 := dk_seg dksL_law_87 23 rfl rfl
theorem dksL_law_89 : cL_law.data.toList.drop 2181 = dktL_law_89 := dk_seg dksL_law_88 23 rfl rfl
theorem dksL_law_90 : cL_law.data.toList.drop 2204 = dktL_law_90 := dk_seg dksL_law_89 23 rfl rfl
theorem dksL_law_91 : cL_law.data.toList.drop 2226 = dktL_law_91 := dk_seg dksL_law_90 22 rfl rfl
theorem dksL_law_92 : cL_law.data.toList.drop 2250 = dktL_law_92 := dk_seg dksL_law_91 24 rfl rfl
theorem dksL_law_93 : cL_law.data.toList.drop 2272 = dktL_law_93 := dk_seg dksL_law_92 22 rfl rfl
theorem dL_law_0 : decode cL_law 0 = .ok (.new 8, 3) := dk_187 0 8 (dk_at dksL_law_0 0 rfl rfl)
theorem dL_law_3 : decode cL_law 3 = .ok (.dup, 1) := dk_89 (dk_at dksL_law_0 3 rfl rfl)
theorem dL_law_4 : decode cL_law 4 = .ok (.invokespecial 115, 3) := dk_183 0 115 (dk_at dksL_law_0 4 rfl rfl)
theorem dL_law_7 : decode cL_law 7 = .ok (.astore_n 1, 1) := dk_76 (dk_at dksL_law_0 7 rfl rfl)
theorem dL_law_8 : decode cL_law 8 = .ok (.new 116, 3) := dk_187 0 116 (dk_at dksL_law_0 8 rfl rfl)
theorem dL_law_11 : decode cL_law 11 = .ok (.dup, 1) := dk_89 (dk_at dksL_law_0 11 rfl rfl)
theorem dL_law_12 : decode cL_law 12 = .ok (.invokespecial 118, 3) := dk_183 0 118 (dk_at dksL_law_0 12 rfl rfl)
theorem dL_law_15 : decode cL_law 15 = .ok (.astore_n 2, 1) := dk_77 (dk_at dksL_law_0 15 rfl rfl)
theorem dL_law_16 : decode cL_law 16 = .ok (.iconst 1, 1) := dk_4 (dk_at dksL_law_0 16 rfl rfl)
theorem dL_law_17 : decode cL_law 17 = .ok (.newarray .long, 2) := dk_188_11 (dk_at dksL_law_0 17 rfl rfl)
theorem dL_law_19 : decode cL_law 19 = .ok (.astore_n 3, 1) := dk_78 (dk_at dksL_law_0 19 rfl rfl)
theorem dL_law_20 : decode cL_law 20 = .ok (.iconst 0, 1) := dk_3 (dk_at dksL_law_0 20 rfl rfl)
theorem dL_law_21 : decode cL_law 21 = .ok (.istore 4, 2) := dk_54 4 (dk_at dksL_law_0 21 rfl rfl)
theorem dL_law_23 : decode cL_law 23 = .ok (.iload 4, 2) := dk_21 4 (dk_at dksL_law_1 0 rfl rfl)
theorem dL_law_25 : decode cL_law 25 = .ok (.aload_n 0, 1) := dk_42 (dk_at dksL_law_1 2 rfl rfl)
theorem dL_law_26 : decode cL_law 26 = .ok (.arraylength, 1) := dk_190 (dk_at dksL_law_1 3 rfl rfl)
theorem dL_law_27 : decode cL_law 27 = .ok (.iconst 4, 1) := dk_7 (dk_at dksL_law_1 4 rfl rfl)
theorem dL_law_28 : decode cL_law 28 = .ok (.isub, 1) := dk_100 (dk_at dksL_law_1 5 rfl rfl)
theorem dL_law_29 : decode cL_law 29 = .ok (.if_icmp .gt 2257, 3) := dk_163 8 209 (dk_at dksL_law_1 6 rfl rfl)
theorem dL_law_32 : decode cL_law 32 = .ok (.aload_n 0, 1) := dk_42 (dk_at dksL_law_1 9 rfl rfl)
theorem dL_law_33 : decode cL_law 33 = .ok (.iload 4, 2) := dk_21 4 (dk_at dksL_law_1 10 rfl rfl)
theorem dL_law_35 : decode cL_law 35 = .ok (.iaload, 1) := dk_46 (dk_at dksL_law_1 12 rfl rfl)
theorem dL_law_36 : decode cL_law 36 = .ok (.bipush 63, 2) := dk_16 63 (dk_at dksL_law_1 13 rfl rfl)
theorem dL_law_38 : decode cL_law 38 = .ok (.iand, 1) := dk_126 (dk_at dksL_law_1 15 rfl rfl)
theorem dL_law_39 : decode cL_law 39 = .ok (.tableswitch 2241 0 35 #[157, 260, 328, 396, 464, 532, 600, 663, 731, 827, 895, 951, 964, 977, 1040, 1096, 1152, 1220, 1300, 1356, 1369, 1425, 1481, 1537, 1605, 1680, 1736, 1799, 1867, 1923, 1979, 2035, 2091, 2104, 2160, 2173], 157) := by decide +kernel
theorem dL_law_196 : decode cL_law 196 = .ok (.aload_n 1, 1) := dk_43 (dk_at dksL_law_3 0 rfl rfl)
theorem dL_law_197 : decode cL_law 197 = .ok (.aload_n 0, 1) := dk_42 (dk_at dksL_law_3 1 rfl rfl)
theorem dL_law_198 : decode cL_law 198 = .ok (.iload 4, 2) := dk_21 4 (dk_at dksL_law_3 2 rfl rfl)
theorem dL_law_200 : decode cL_law 200 = .ok (.iconst 1, 1) := dk_4 (dk_at dksL_law_3 4 rfl rfl)
theorem dL_law_201 : decode cL_law 201 = .ok (.iadd, 1) := dk_96 (dk_at dksL_law_3 5 rfl rfl)
theorem dL_law_202 : decode cL_law 202 = .ok (.iaload, 1) := dk_46 (dk_at dksL_law_3 6 rfl rfl)
theorem dL_law_203 : decode cL_law 203 = .ok (.aload_n 0, 1) := dk_42 (dk_at dksL_law_3 7 rfl rfl)
theorem dL_law_204 : decode cL_law 204 = .ok (.iload 4, 2) := dk_21 4 (dk_at dksL_law_3 8 rfl rfl)
theorem dL_law_206 : decode cL_law 206 = .ok (.iconst 2, 1) := dk_5 (dk_at dksL_law_3 10 rfl rfl)
theorem dL_law_207 : decode cL_law 207 = .ok (.iadd, 1) := dk_96 (dk_at dksL_law_3 11 rfl rfl)
theorem dL_law_208 : decode cL_law 208 = .ok (.iaload, 1) := dk_46 (dk_at dksL_law_3 12 rfl rfl)
theorem dL_law_209 : decode cL_law 209 = .ok (.aload_n 0, 1) := dk_42 (dk_at dksL_law_3 13 rfl rfl)
theorem dL_law_210 : decode cL_law 210 = .ok (.iload 4, 2) := dk_21 4 (dk_at dksL_law_3 14 rfl rfl)
theorem dL_law_212 : decode cL_law 212 = .ok (.iconst 3, 1) := dk_6 (dk_at dksL_law_3 16 rfl rfl)
theorem dL_law_213 : decode cL_law 213 = .ok (.iadd, 1) := dk_96 (dk_at dksL_law_3 17 rfl rfl)
theorem dL_law_214 : decode cL_law 214 = .ok (.iaload, 1) := dk_46 (dk_at dksL_law_3 18 rfl rfl)
theorem dL_law_215 : decode cL_law 215 = .ok (.ifCond .eq 7, 3) := dk_153 0 7 (dk_at dksL_law_3 19 rfl rfl)
theorem dL_law_218 : decode cL_law 218 = .ok (.iconst 1, 1) := dk_4 (dk_at dksL_law_3 22 rfl rfl)
theorem dL_law_219 : decode cL_law 219 = .ok (.goto 4, 3) := dk_167 0 4 (dk_at dksL_law_4 0 rfl rfl)
theorem dL_law_222 : decode cL_law 222 = .ok (.iconst 0, 1) := dk_3 (dk_at dksL_law_4 3 rfl rfl)
theorem dL_law_223 : decode cL_law 223 = .ok (.aload_n 3, 1) := dk_45 (dk_at dksL_law_4 4 rfl rfl)
theorem dL_law_224 : decode cL_law 224 = .ok (.invokestatic 119, 3) := dk_184 0 119 (dk_at dksL_law_4 5 rfl rfl)
theorem dL_law_227 : decode cL_law 227 = .ok (.istore 5, 2) := dk_54 5 (dk_at dksL_law_4 8 rfl rfl)
theorem dL_law_229 : decode cL_law 229 = .ok (.aload_n 2, 1) := dk_44 (dk_at dksL_law_4 10 rfl rfl)
theorem dL_law_230 : decode cL_law 230 = .ok (.aload_n 0, 1) := dk_42 (dk_at dksL_law_4 11 rfl rfl)
theorem dL_law_231 : decode cL_law 231 = .ok (.iload 4, 2) := dk_21 4 (dk_at dksL_law_4 12 rfl rfl)
theorem dL_law_233 : decode cL_law 233 = .ok (.iconst 1, 1) := dk_4 (dk_at dksL_law_4 14 rfl rfl)
theorem dL_law_234 : decode cL_law 234 = .ok (.iadd, 1) := dk_96 (dk_at dksL_law_4 15 rfl rfl)
theorem dL_law_235 : decode cL_law 235 = .ok (.iaload, 1) := dk_46 (dk_at dksL_law_4 16 rfl rfl)
theorem dL_law_236 : decode cL_law 236 = .ok (.aload_n 0, 1) := dk_42 (dk_at dksL_law_4 17 rfl rfl)
theorem dL_law_237 : decode cL_law 237 = .ok (.iload 4, 2) := dk_21 4 (dk_at dksL_law_4 18 rfl rfl)
theorem dL_law_239 : decode cL_law 239 = .ok (.iconst 2, 1) := dk_5 (dk_at dksL_law_4 20 rfl rfl)
theorem dL_law_240 : decode cL_law 240 = .ok (.iadd, 1) := dk_96 (dk_at dksL_law_4 21 rfl rfl)
theorem dL_law_241 : decode cL_law 241 = .ok (.iaload, 1) := dk_46 (dk_at dksL_law_4 22 rfl rfl)
theorem dL_law_242 : decode cL_law 242 = .ok (.aload_n 0, 1) := dk_42 (dk_at dksL_law_4 23 rfl rfl)
theorem dL_law_243 : decode cL_law 243 = .ok (.iload 4, 2) := dk_21 4 (dk_at dksL_law_5 0 rfl rfl)
theorem dL_law_245 : decode cL_law 245 = .ok (.iconst 3, 1) := dk_6 (dk_at dksL_law_5 2 rfl rfl)
theorem dL_law_246 : decode cL_law 246 = .ok (.iadd, 1) := dk_96 (dk_at dksL_law_5 3 rfl rfl)
theorem dL_law_247 : decode cL_law 247 = .ok (.iaload, 1) := dk_46 (dk_at dksL_law_5 4 rfl rfl)
theorem dL_law_248 : decode cL_law 248 = .ok (.ifCond .eq 7, 3) := dk_153 0 7 (dk_at dksL_law_5 5 rfl rfl)
theorem dL_law_251 : decode cL_law 251 = .ok (.iconst 1, 1) := dk_4 (dk_at dksL_law_5 8 rfl rfl)
theorem dL_law_252 : decode cL_law 252 = .ok (.goto 4, 3) := dk_167 0 4 (dk_at dksL_law_5 9 rfl rfl)
theorem dL_law_255 : decode cL_law 255 = .ok (.iconst 0, 1) := dk_3 (dk_at dksL_law_5 12 rfl rfl)
theorem dL_law_256 : decode cL_law 256 = .ok (.invokevirtual 124, 3) := dk_182 0 124 (dk_at dksL_law_5 13 rfl rfl)
theorem dL_law_259 : decode cL_law 259 = .ok (.istore 6, 2) := dk_54 6 (dk_at dksL_law_5 16 rfl rfl)
theorem dL_law_261 : decode cL_law 261 = .ok (.aload_n 2, 1) := dk_44 (dk_at dksL_law_5 18 rfl rfl)
theorem dL_law_262 : decode cL_law 262 = .ok (.invokevirtual 125, 3) := dk_182 0 125 (dk_at dksL_law_5 19 rfl rfl)
theorem dL_law_265 : decode cL_law 265 = .ok (.iload 5, 2) := dk_21 5 (dk_at dksL_law_5 22 rfl rfl)
theorem dL_law_267 : decode cL_law 267 = .ok (.if_icmp .eq 5, 3) := dk_159 0 5 (dk_at dksL_law_6 0 rfl rfl)
theorem dL_law_270 : decode cL_law 270 = .ok (.iconst 0, 1) := dk_3 (dk_at dksL_law_6 3 rfl rfl)
theorem dL_law_271 : decode cL_law 271 = .ok (.ireturn, 1) := dk_172 (dk_at dksL_law_6 4 rfl rfl)
theorem dL_law_272 : decode cL_law 272 = .ok (.iload 5, 2) := dk_21 5 (dk_at dksL_law_6 5 rfl rfl)
theorem dL_law_274 : decode cL_law 274 = .ok (.ifCond .ne 22, 3) := dk_154 0 22 (dk_at dksL_law_6 7 rfl rfl)
theorem dL_law_277 : decode cL_law 277 = .ok (.aload_n 3, 1) := dk_45 (dk_at dksL_law_6 10 rfl rfl)
theorem dL_law_278 : decode cL_law 278 = .ok (.iconst 0, 1) := dk_3 (dk_at dksL_law_6 11 rfl rfl)
theorem dL_law_279 : decode cL_law 279 = .ok (.laload, 1) := dk_47 (dk_at dksL_law_6 12 rfl rfl)
theorem dL_law_280 : decode cL_law 280 = .ok (.iload 6, 2) := dk_21 6 (dk_at dksL_law_6 13 rfl rfl)
theorem dL_law_282 : decode cL_law 282 = .ok (.ifCond .eq 7, 3) := dk_153 0 7 (dk_at dksL_law_6 15 rfl rfl)
theorem dL_law_285 : decode cL_law 285 = .ok (.lconst 1, 1) := dk_10 (dk_at dksL_law_6 18 rfl rfl)
theorem dL_law_286 : decode cL_law 286 = .ok (.goto 4, 3) := dk_167 0 4 (dk_at dksL_law_6 19 rfl rfl)
theorem dL_law_289 : decode cL_law 289 = .ok (.lconst 0, 1) := dk_9 (dk_at dksL_law_6 22 rfl rfl)
theorem dL_law_290 : decode cL_law 290 = .ok (.lcmp, 1) := dk_148 (dk_at dksL_law_6 23 rfl rfl)
theorem dL_law_291 : decode cL_law 291 = .ok (.ifCond .eq 5, 3) := dk_153 0 5 (dk_at dksL_law_7 0 rfl rfl)
theorem dL_law_294 : decode cL_law 294 = .ok (.iconst 0, 1) := dk_3 (dk_at dksL_law_7 3 rfl rfl)
theorem dL_law_295 : decode cL_law 295 = .ok (.ireturn, 1) := dk_172 (dk_at dksL_law_7 4 rfl rfl)
theorem dL_law_296 : decode cL_law 296 = .ok (.goto 1984, 3) := dk_167 7 192 (dk_at dksL_law_7 5 rfl rfl)
theorem dL_law_299 : decode cL_law 299 = .ok (.aload_n 1, 1) := dk_43 (dk_at dksL_law_7 8 rfl rfl)
theorem dL_law_300 : decode cL_law 300 = .ok (.aload_n 0, 1) := dk_42 (dk_at dksL_law_7 9 rfl rfl)
theorem dL_law_301 : decode cL_law 301 = .ok (.iload 4, 2) := dk_21 4 (dk_at dksL_law_7 10 rfl rfl)
theorem dL_law_303 : decode cL_law 303 = .ok (.iconst 1, 1) := dk_4 (dk_at dksL_law_7 12 rfl rfl)
theorem dL_law_304 : decode cL_law 304 = .ok (.iadd, 1) := dk_96 (dk_at dksL_law_7 13 rfl rfl)
theorem dL_law_305 : decode cL_law 305 = .ok (.iaload, 1) := dk_46 (dk_at dksL_law_7 14 rfl rfl)
theorem dL_law_306 : decode cL_law 306 = .ok (.aload_n 0, 1) := dk_42 (dk_at dksL_law_7 15 rfl rfl)
theorem dL_law_307 : decode cL_law 307 = .ok (.iload 4, 2) := dk_21 4 (dk_at dksL_law_7 16 rfl rfl)
theorem dL_law_309 : decode cL_law 309 = .ok (.iconst 2, 1) := dk_5 (dk_at dksL_law_7 18 rfl rfl)
theorem dL_law_310 : decode cL_law 310 = .ok (.iadd, 1) := dk_96 (dk_at dksL_law_7 19 rfl rfl)
theorem dL_law_311 : decode cL_law 311 = .ok (.iaload, 1) := dk_46 (dk_at dksL_law_7 20 rfl rfl)
theorem dL_law_312 : decode cL_law 312 = .ok (.aload_n 3, 1) := dk_45 (dk_at dksL_law_7 21 rfl rfl)
theorem dL_law_313 : decode cL_law 313 = .ok (.invokestatic 129, 3) := dk_184 0 129 (dk_at dksL_law_8 0 rfl rfl)
theorem dL_law_316 : decode cL_law 316 = .ok (.istore 5, 2) := dk_54 5 (dk_at dksL_law_8 3 rfl rfl)
theorem dL_law_318 : decode cL_law 318 = .ok (.aload_n 2, 1) := dk_44 (dk_at dksL_law_8 5 rfl rfl)
theorem dL_law_319 : decode cL_law 319 = .ok (.aload_n 0, 1) := dk_42 (dk_at dksL_law_8 6 rfl rfl)
theorem dL_law_320 : decode cL_law 320 = .ok (.iload 4, 2) := dk_21 4 (dk_at dksL_law_8 7 rfl rfl)
theorem dL_law_322 : decode cL_law 322 = .ok (.iconst 1, 1) := dk_4 (dk_at dksL_law_8 9 rfl rfl)
theorem dL_law_323 : decode cL_law 323 = .ok (.iadd, 1) := dk_96 (dk_at dksL_law_8 10 rfl rfl)
theorem dL_law_324 : decode cL_law 324 = .ok (.iaload, 1) := dk_46 (dk_at dksL_law_8 11 rfl rfl)
theorem dL_law_325 : decode cL_law 325 = .ok (.aload_n 0, 1) := dk_42 (dk_at dksL_law_8 12 rfl rfl)
theorem dL_law_326 : decode cL_law 326 = .ok (.iload 4, 2) := dk_21 4 (dk_at dksL_law_8 13 rfl rfl)
theorem dL_law_328 : decode cL_law 328 = .ok (.iconst 2, 1) := dk_5 (dk_at dksL_law_8 15 rfl rfl)
theorem dL_law_329 : decode cL_law 329 = .ok (.iadd, 1) := dk_96 (dk_at dksL_law_8 16 rfl rfl)
theorem dL_law_330 : decode cL_law 330 = .ok (.iaload, 1) := dk_46 (dk_at dksL_law_8 17 rfl rfl)
theorem dL_law_331 : decode cL_law 331 = .ok (.invokevirtual 132, 3) := dk_182 0 132 (dk_at dksL_law_8 18 rfl rfl)
theorem dL_law_334 : decode cL_law 334 = .ok (.istore 6, 2) := dk_54 6 (dk_at dksL_law_8 21 rfl rfl)
theorem dL_law_336 : decode cL_law 336 = .ok (.aload_n 2, 1) := dk_44 (dk_at dksL_law_8 23 rfl rfl)
theorem dL_law_337 : decode cL_law 337 = .ok (.invokevirtual 125, 3) := dk_182 0 125 (dk_at dksL_law_9 0 rfl rfl)
theorem dL_law_340 : decode cL_law 340 = .ok (.iload 5, 2) := dk_21 5 (dk_at dksL_law_9 3 rfl rfl)
theorem dL_law_342 : decode cL_law 342 = .ok (.if_icmp .eq 5, 3) := dk_159 0 5 (dk_at dksL_law_9 5 rfl rfl)
theorem dL_law_345 : decode cL_law 345 = .ok (.iconst 0, 1) := dk_3 (dk_at dksL_law_9 8 rfl rfl)
theorem dL_law_346 : decode cL_law 346 = .ok (.ireturn, 1) := dk_172 (dk_at dksL_law_9 9 rfl rfl)
theorem dL_law_347 : decode cL_law 347 = .ok (.iload 5, 2) := dk_21 5 (dk_at dksL_law_9 10 rfl rfl)
theorem dL_law_349 : decode cL_law 349 = .ok (.ifCond .ne 15, 3) := dk_154 0 15 (dk_at dksL_law_9 12 rfl rfl)
theorem dL_law_352 : decode cL_law 352 = .ok (.aload_n 3, 1) := dk_45 (dk_at dksL_law_9 15 rfl rfl)
theorem dL_law_353 : decode cL_law 353 = .ok (.iconst 0, 1) := dk_3 (dk_at dksL_law_9 16 rfl rfl)
theorem dL_law_354 : decode cL_law 354 = .ok (.laload, 1) := dk_47 (dk_at dksL_law_9 17 rfl rfl)
theorem dL_law_355 : decode cL_law 355 = .ok (.iload 6, 2) := dk_21 6 (dk_at dksL_law_9 18 rfl rfl)
theorem dL_law_357 : decode cL_law 357 = .ok (.i2l, 1) := dk_133 (dk_at dksL_law_9 20 rfl rfl)
theorem dL_law_358 : decode cL_law 358 = .ok (.lcmp, 1) := dk_148 (dk_at dksL_law_9 21 rfl rfl)
theorem dL_law_359 : decode cL_law 359 = .ok (.ifCond .eq 5, 3) := dk_153 0 5 (dk_at dksL_law_10 0 rfl rfl)
theorem dL_law_362 : decode cL_law 362 = .ok (.iconst 0, 1) := dk_3 (dk_at dksL_law_10 3 rfl rfl)
theorem dL_law_363 : decode cL_law 363 = .ok (.ireturn, 1) := dk_172 (dk_at dksL_law_10 4 rfl rfl)
theorem dL_law_364 : decode cL_law 364 = .ok (.goto 1916, 3) := dk_167 7 124 (dk_at dksL_law_10 5 rfl rfl)
theorem dL_law_367 : decode cL_law 367 = .ok (.aload_n 1, 1) := dk_43 (dk_at dksL_law_10 8 rfl rfl)
theorem dL_law_368 : decode cL_law 368 = .ok (.aload_n 0, 1) := dk_42 (dk_at dksL_law_10 9 rfl rfl)
theorem dL_law_369 : decode cL_law 369 = .ok (.iload 4, 2) := dk_21 4 (dk_at dksL_law_10 10 rfl rfl)
theorem dL_law_371 : decode cL_law 371 = .ok (.iconst 1, 1) := dk_4 (dk_at dksL_law_10 12 rfl rfl)
theorem dL_law_372 : decode cL_law 372 = .ok (.iadd, 1) := dk_96 (dk_at dksL_law_10 13 rfl rfl)
theorem dL_law_373 : decode cL_law 373 = .ok (.iaload, 1) := dk_46 (dk_at dksL_law_10 14 rfl rfl)
theorem dL_law_374 : decode cL_law 374 = .ok (.aload_n 0, 1) := dk_42 (dk_at dksL_law_10 15 rfl rfl)
theorem dL_law_375 : decode cL_law 375 = .ok (.iload 4, 2) := dk_21 4 (dk_at dksL_law_10 16 rfl rfl)
theorem dL_law_377 : decode cL_law 377 = .ok (.iconst 2, 1) := dk_5 (dk_at dksL_law_10 18 rfl rfl)
theorem dL_law_378 : decode cL_law 378 = .ok (.iadd, 1) := dk_96 (dk_at dksL_law_10 19 rfl rfl)
theorem dL_law_379 : decode cL_law 379 = .ok (.iaload, 1) := dk_46 (dk_at dksL_law_10 20 rfl rfl)
theorem dL_law_380 : decode cL_law 380 = .ok (.aload_n 3, 1) := dk_45 (dk_at dksL_law_10 21 rfl rfl)
theorem dL_law_381 : decode cL_law 381 = .ok (.invokestatic 133, 3) := dk_184 0 133 (dk_at dksL_law_11 0 rfl rfl)
theorem dL_law_384 : decode cL_law 384 = .ok (.istore 5, 2) := dk_54 5 (dk_at dksL_law_11 3 rfl rfl)
theorem dL_law_386 : decode cL_law 386 = .ok (.aload_n 2, 1) := dk_44 (dk_at dksL_law_11 5 rfl rfl)
theorem dL_law_387 : decode cL_law 387 = .ok (.aload_n 0, 1) := dk_42 (dk_at dksL_law_11 6 rfl rfl)
theorem dL_law_388 : decode cL_law 388 = .ok (.iload 4, 2) := dk_21 4 (dk_at dksL_law_11 7 rfl rfl)
theorem dL_law_390 : decode cL_law 390 = .ok (.iconst 1, 1) := dk_4 (dk_at dksL_law_11 9 rfl rfl)
theorem dL_law_391 : decode cL_law 391 = .ok (.iadd, 1) := dk_96 (dk_at dksL_law_11 10 rfl rfl)
theorem dL_law_392 : decode cL_law 392 = .ok (.iaload, 1) := dk_46 (dk_at dksL_law_11 11 rfl rfl)
theorem dL_law_393 : decode cL_law 393 = .ok (.aload_n 0, 1) := dk_42 (dk_at dksL_law_11 12 rfl rfl)
theorem dL_law_394 : decode cL_law 394 = .ok (.iload 4, 2) := dk_21 4 (dk_at dksL_law_11 13 rfl rfl)
theorem dL_law_396 : decode cL_law 396 = .ok (.iconst 2, 1) := dk_5 (dk_at dksL_law_11 15 rfl rfl)
theorem dL_law_397 : decode cL_law 397 = .ok (.iadd, 1) := dk_96 (dk_at dksL_law_11 16 rfl rfl)
theorem dL_law_398 : decode cL_law 398 = .ok (.iaload, 1) := dk_46 (dk_at dksL_law_11 17 rfl rfl)
theorem dL_law_399 : decode cL_law 399 = .ok (.invokevirtual 135, 3) := dk_182 0 135 (dk_at dksL_law_11 18 rfl rfl)
theorem dL_law_402 : decode cL_law 402 = .ok (.istore 6, 2) := dk_54 6 (dk_at dksL_law_11 21 rfl rfl)
theorem dL_law_404 : decode cL_law 404 = .ok (.aload_n 2, 1) := dk_44 (dk_at dksL_law_11 23 rfl rfl)
theorem dL_law_405 : decode cL_law 405 = .ok (.invokevirtual 125, 3) := dk_182 0 125 (dk_at dksL_law_12 0 rfl rfl)
theorem dL_law_408 : decode cL_law 408 = .ok (.iload 5, 2) := dk_21 5 (dk_at dksL_law_12 3 rfl rfl)
theorem dL_law_410 : decode cL_law 410 = .ok (.if_icmp .eq 5, 3) := dk_159 0 5 (dk_at dksL_law_12 5 rfl rfl)
theorem dL_law_413 : decode cL_law 413 = .ok (.iconst 0, 1) := dk_3 (dk_at dksL_law_12 8 rfl rfl)
theorem dL_law_414 : decode cL_law 414 = .ok (.ireturn, 1) := dk_172 (dk_at dksL_law_12 9 rfl rfl)
theorem dL_law_415 : decode cL_law 415 = .ok (.iload 5, 2) := dk_21 5 (dk_at dksL_law_12 10 rfl rfl)
theorem dL_law_417 : decode cL_law 417 = .ok (.ifCond .ne 15, 3) := dk_154 0 15 (dk_at dksL_law_12 12 rfl rfl)
theorem dL_law_420 : decode cL_law 420 = .ok (.aload_n 3, 1) := dk_45 (dk_at dksL_law_12 15 rfl rfl)
theorem dL_law_421 : decode cL_law 421 = .ok (.iconst 0, 1) := dk_3 (dk_at dksL_law_12 16 rfl rfl)
theorem dL_law_422 : decode cL_law 422 = .ok (.laload, 1) := dk_47 (dk_at dksL_law_12 17 rfl rfl)
theorem dL_law_423 : decode cL_law 423 = .ok (.iload 6, 2) := dk_21 6 (dk_at dksL_law_12 18 rfl rfl)
theorem dL_law_425 : decode cL_law 425 = .ok (.i2l, 1) := dk_133 (dk_at dksL_law_12 20 rfl rfl)
theorem dL_law_426 : decode cL_law 426 = .ok (.lcmp, 1) := dk_148 (dk_at dksL_law_12 21 rfl rfl)
theorem dL_law_427 : decode cL_law 427 = .ok (.ifCond .eq 5, 3) := dk_153 0 5 (dk_at dksL_law_13 0 rfl rfl)
theorem dL_law_430 : decode cL_law 430 = .ok (.iconst 0, 1) := dk_3 (dk_at dksL_law_13 3 rfl rfl)
theorem dL_law_431 : decode cL_law 431 = .ok (.ireturn, 1) := dk_172 (dk_at dksL_law_13 4 rfl rfl)
theorem dL_law_432 : decode cL_law 432 = .ok (.goto 1848, 3) := dk_167 7 56 (dk_at dksL_law_13 5 rfl rfl)
theorem dL_law_435 : decode cL_law 435 = .ok (.aload_n 1, 1) := dk_43 (dk_at dksL_law_13 8 rfl rfl)
theorem dL_law_436 : decode cL_law 436 = .ok (.aload_n 0, 1) := dk_42 (dk_at dksL_law_13 9 rfl rfl)
theorem dL_law_437 : decode cL_law 437 = .ok (.iload 4, 2) := dk_21 4 (dk_at dksL_law_13 10 rfl rfl)
theorem dL_law_439 : decode cL_law 439 = .ok (.iconst 1, 1) := dk_4 (dk_at dksL_law_13 12 rfl rfl)
theorem dL_law_440 : decode cL_law 440 = .ok (.iadd, 1) := dk_96 (dk_at dksL_law_13 13 rfl rfl)
theorem dL_law_441 : decode cL_law 441 = .ok (.iaload, 1) := dk_46 (dk_at dksL_law_13 14 rfl rfl)
theorem dL_law_442 : decode cL_law 442 = .ok (.aload_n 0, 1) := dk_42 (dk_at dksL_law_13 15 rfl rfl)
theorem dL_law_443 : decode cL_law 443 = .ok (.iload 4, 2) := dk_21 4 (dk_at dksL_law_13 16 rfl rfl)
theorem dL_law_445 : decode cL_law 445 = .ok (.iconst 2, 1) := dk_5 (dk_at dksL_law_13 18 rfl rfl)
theorem dL_law_446 : decode cL_law 446 = .ok (.iadd, 1) := dk_96 (dk_at dksL_law_13 19 rfl rfl)
theorem dL_law_447 : decode cL_law 447 = .ok (.iaload, 1) := dk_46 (dk_at dksL_law_13 20 rfl rfl)
theorem dL_law_448 : decode cL_law 448 = .ok (.aload_n 3, 1) := dk_45 (dk_at dksL_law_13 21 rfl rfl)
theorem dL_law_449 : decode cL_law 449 = .ok (.invokestatic 136, 3) := dk_184 0 136 (dk_at dksL_law_14 0 rfl rfl)
theorem dL_law_452 : decode cL_law 452 = .ok (.istore 5, 2) := dk_54 5 (dk_at dksL_law_14 3 rfl rfl)
theorem dL_law_454 : decode cL_law 454 = .ok (.aload_n 2, 1) := dk_44 (dk_at dksL_law_14 5 rfl rfl)
theorem dL_law_455 : decode cL_law 455 = .ok (.aload_n 0, 1) := dk_42 (dk_at dksL_law_14 6 rfl rfl)
theorem dL_law_456 : decode cL_law 456 = .ok (.iload 4, 2) := dk_21 4 (dk_at dksL_law_14 7 rfl rfl)
theorem dL_law_458 : decode cL_law 458 = .ok (.iconst 1, 1) := dk_4 (dk_at dksL_law_14 9 rfl rfl)
theorem dL_law_459 : decode cL_law 459 = .ok (.iadd, 1) := dk_96 (dk_at dksL_law_14 10 rfl rfl)
theorem dL_law_460 : decode cL_law 460 = .ok (.iaload, 1) := dk_46 (dk_at dksL_law_14 11 rfl rfl)
theorem dL_law_461 : decode cL_law 461 = .ok (.aload_n 0, 1) := dk_42 (dk_at dksL_law_14 12 rfl rfl)
theorem dL_law_462 : decode cL_law 462 = .ok (.iload 4, 2) := dk_21 4 (dk_at dksL_law_14 13 rfl rfl)
theorem dL_law_464 : decode cL_law 464 = .ok (.iconst 2, 1) := dk_5 (dk_at dksL_law_14 15 rfl rfl)
theorem dL_law_465 : decode cL_law 465 = .ok (.iadd, 1) := dk_96 (dk_at dksL_law_14 16 rfl rfl)
theorem dL_law_466 : decode cL_law 466 = .ok (.iaload, 1) := dk_46 (dk_at dksL_law_14 17 rfl rfl)
theorem dL_law_467 : decode cL_law 467 = .ok (.invokevirtual 138, 3) := dk_182 0 138 (dk_at dksL_law_14 18 rfl rfl)
theorem dL_law_470 : decode cL_law 470 = .ok (.istore 6, 2) := dk_54 6 (dk_at dksL_law_14 21 rfl rfl)
theorem dL_law_472 : decode cL_law 472 = .ok (.aload_n 2, 1) := dk_44 (dk_at dksL_law_14 23 rfl rfl)
theorem dL_law_473 : decode cL_law 473 = .ok (.invokevirtual 125, 3) := dk_182 0 125 (dk_at dksL_law_15 0 rfl rfl)
theorem dL_law_476 : decode cL_law 476 = .ok (.iload 5, 2) := dk_21 5 (dk_at dksL_law_15 3 rfl rfl)
theorem dL_law_478 : decode cL_law 478 = .ok (.if_icmp .eq 5, 3) := dk_159 0 5 (dk_at dksL_law_15 5 rfl rfl)
theorem dL_law_481 : decode cL_law 481 = .ok (.iconst 0, 1) := dk_3 (dk_at dksL_law_15 8 rfl rfl)
theorem dL_law_482 : decode cL_law 482 = .ok (.ireturn, 1) := dk_172 (dk_at dksL_law_15 9 rfl rfl)
theorem dL_law_483 : decode cL_law 483 = .ok (.iload 5, 2) := dk_21 5 (dk_at dksL_law_15 10 rfl rfl)
theorem dL_law_485 : decode cL_law 485 = .ok (.ifCond .ne 15, 3) := dk_154 0 15 (dk_at dksL_law_15 12 rfl rfl)
theorem dL_law_488 : decode cL_law 488 = .ok (.aload_n 3, 1) := dk_45 (dk_at dksL_law_15 15 rfl rfl)
theorem dL_law_489 : decode cL_law 489 = .ok (.iconst 0, 1) := dk_3 (dk_at dksL_law_15 16 rfl rfl)
theorem dL_law_490 : decode cL_law 490 = .ok (.laload, 1) := dk_47 (dk_at dksL_law_15 17 rfl rfl)
theorem dL_law_491 : decode cL_law 491 = .ok (.iload 6, 2) := dk_21 6 (dk_at dksL_law_15 18 rfl rfl)
theorem dL_law_493 : decode cL_law 493 = .ok (.i2l, 1) := dk_133 (dk_at dksL_law_15 20 rfl rfl)
theorem dL_law_494 : decode cL_law 494 = .ok (.lcmp, 1) := dk_148 (dk_at dksL_law_15 21 rfl rfl)
theorem dL_law_495 : decode cL_law 495 = .ok (.ifCond .eq 5, 3) := dk_153 0 5 (dk_at dksL_law_16 0 rfl rfl)
theorem dL_law_498 : decode cL_law 498 = .ok (.iconst 0, 1) := dk_3 (dk_at dksL_law_16 3 rfl rfl)
theorem dL_law_499 : decode cL_law 499 = .ok (.ireturn, 1) := dk_172 (dk_at dksL_law_16 4 rfl rfl)
theorem dL_law_500 : decode cL_law 500 = .ok (.goto 1780, 3) := dk_167 6 244 (dk_at dksL_law_16 5 rfl rfl)
theorem dL_law_503 : decode cL_law 503 = .ok (.aload_n 1, 1) := dk_43 (dk_at dksL_law_16 8 rfl rfl)
theorem dL_law_504 : decode cL_law 504 = .ok (.aload_n 0, 1) := dk_42 (dk_at dksL_law_16 9 rfl rfl)
theorem dL_law_505 : decode cL_law 505 = .ok (.iload 4, 2) := dk_21 4 (dk_at dksL_law_16 10 rfl rfl)
theorem dL_law_507 : decode cL_law 507 = .ok (.iconst 1, 1) := dk_4 (dk_at dksL_law_16 12 rfl rfl)
theorem dL_law_508 : decode cL_law 508 = .ok (.iadd, 1) := dk_96 (dk_at dksL_law_16 13 rfl rfl)
theorem dL_law_509 : decode cL_law 509 = .ok (.iaload, 1) := dk_46 (dk_at dksL_law_16 14 rfl rfl)
theorem dL_law_510 : decode cL_law 510 = .ok (.aload_n 0, 1) := dk_42 (dk_at dksL_law_16 15 rfl rfl)
theorem dL_law_511 : decode cL_law 511 = .ok (.iload 4, 2) := dk_21 4 (dk_at dksL_law_16 16 rfl rfl)
theorem dL_law_513 : decode cL_law 513 = .ok (.iconst 2, 1) := dk_5 (dk_at dksL_law_16 18 rfl rfl)
theorem dL_law_514 : decode cL_law 514 = .ok (.iadd, 1) := dk_96 (dk_at dksL_law_16 19 rfl rfl)
theorem dL_law_515 : decode cL_law 515 = .ok (.iaload, 1) := dk_46 (dk_at dksL_law_16 20 rfl rfl)
theorem dL_law_516 : decode cL_law 516 = .ok (.aload_n 3, 1) := dk_45 (dk_at dksL_law_16 21 rfl rfl)
theorem dL_law_517 : decode cL_law 517 = .ok (.invokestatic 139, 3) := dk_184 0 139 (dk_at dksL_law_17 0 rfl rfl)
theorem dL_law_520 : decode cL_law 520 = .ok (.istore 5, 2) := dk_54 5 (dk_at dksL_law_17 3 rfl rfl)
theorem dL_law_522 : decode cL_law 522 = .ok (.aload_n 2, 1) := dk_44 (dk_at dksL_law_17 5 rfl rfl)
theorem dL_law_523 : decode cL_law 523 = .ok (.aload_n 0, 1) := dk_42 (dk_at dksL_law_17 6 rfl rfl)
theorem dL_law_524 : decode cL_law 524 = .ok (.iload 4, 2) := dk_21 4 (dk_at dksL_law_17 7 rfl rfl)
theorem dL_law_526 : decode cL_law 526 = .ok (.iconst 1, 1) := dk_4 (dk_at dksL_law_17 9 rfl rfl)
theorem dL_law_527 : decode cL_law 527 = .ok (.iadd, 1) := dk_96 (dk_at dksL_law_17 10 rfl rfl)
theorem dL_law_528 : decode cL_law 528 = .ok (.iaload, 1) := dk_46 (dk_at dksL_law_17 11 rfl rfl)
theorem dL_law_529 : decode cL_law 529 = .ok (.aload_n 0, 1) := dk_42 (dk_at dksL_law_17 12 rfl rfl)
theorem dL_law_530 : decode cL_law 530 = .ok (.iload 4, 2) := dk_21 4 (dk_at dksL_law_17 13 rfl rfl)
theorem dL_law_532 : decode cL_law 532 = .ok (.iconst 2, 1) := dk_5 (dk_at dksL_law_17 15 rfl rfl)
theorem dL_law_533 : decode cL_law 533 = .ok (.iadd, 1) := dk_96 (dk_at dksL_law_17 16 rfl rfl)
theorem dL_law_534 : decode cL_law 534 = .ok (.iaload, 1) := dk_46 (dk_at dksL_law_17 17 rfl rfl)
theorem dL_law_535 : decode cL_law 535 = .ok (.invokevirtual 141, 3) := dk_182 0 141 (dk_at dksL_law_17 18 rfl rfl)
theorem dL_law_538 : decode cL_law 538 = .ok (.istore 6, 2) := dk_54 6 (dk_at dksL_law_17 21 rfl rfl)
theorem dL_law_540 : decode cL_law 540 = .ok (.aload_n 2, 1) := dk_44 (dk_at dksL_law_17 23 rfl rfl)
theorem dL_law_541 : decode cL_law 541 = .ok (.invokevirtual 125, 3) := dk_182 0 125 (dk_at dksL_law_18 0 rfl rfl)
theorem dL_law_544 : decode cL_law 544 = .ok (.iload 5, 2) := dk_21 5 (dk_at dksL_law_18 3 rfl rfl)
theorem dL_law_546 : decode cL_law 546 = .ok (.if_icmp .eq 5, 3) := dk_159 0 5 (dk_at dksL_law_18 5 rfl rfl)
theorem dL_law_549 : decode cL_law 549 = .ok (.iconst 0, 1) := dk_3 (dk_at dksL_law_18 8 rfl rfl)
theorem dL_law_550 : decode cL_law 550 = .ok (.ireturn, 1) := dk_172 (dk_at dksL_law_18 9 rfl rfl)
theorem dL_law_551 : decode cL_law 551 = .ok (.iload 5, 2) := dk_21 5 (dk_at dksL_law_18 10 rfl rfl)
theorem dL_law_553 : decode cL_law 553 = .ok (.ifCond .ne 15, 3) := dk_154 0 15 (dk_at dksL_law_18 12 rfl rfl)
theorem dL_law_556 : decode cL_law 556 = .ok (.aload_n 3, 1) := dk_45 (dk_at dksL_law_18 15 rfl rfl)
theorem dL_law_557 : decode cL_law 557 = .ok (.iconst 0, 1) := dk_3 (dk_at dksL_law_18 16 rfl rfl)
theorem dL_law_558 : decode cL_law 558 = .ok (.laload, 1) := dk_47 (dk_at dksL_law_18 17 rfl rfl)
theorem dL_law_559 : decode cL_law 559 = .ok (.iload 6, 2) := dk_21 6 (dk_at dksL_law_18 18 rfl rfl)
theorem dL_law_561 : decode cL_law 561 = .ok (.i2l, 1) := dk_133 (dk_at dksL_law_18 20 rfl rfl)
theorem dL_law_562 : decode cL_law 562 = .ok (.lcmp, 1) := dk_148 (dk_at dksL_law_18 21 rfl rfl)
theorem dL_law_563 : decode cL_law 563 = .ok (.ifCond .eq 5, 3) := dk_153 0 5 (dk_at dksL_law_19 0 rfl rfl)
theorem dL_law_566 : decode cL_law 566 = .ok (.iconst 0, 1) := dk_3 (dk_at dksL_law_19 3 rfl rfl)
theorem dL_law_567 : decode cL_law 567 = .ok (.ireturn, 1) := dk_172 (dk_at dksL_law_19 4 rfl rfl)
theorem dL_law_568 : decode cL_law 568 = .ok (.goto 1712, 3) := dk_167 6 176 (dk_at dksL_law_19 5 rfl rfl)
theorem dL_law_571 : decode cL_law 571 = .ok (.aload_n 1, 1) := dk_43 (dk_at dksL_law_19 8 rfl rfl)
theorem dL_law_572 : decode cL_law 572 = .ok (.aload_n 0, 1) := dk_42 (dk_at dksL_law_19 9 rfl rfl)
theorem dL_law_573 : decode cL_law 573 = .ok (.iload 4, 2) := dk_21 4 (dk_at dksL_law_19 10 rfl rfl)
theorem dL_law_575 : decode cL_law 575 = .ok (.iconst 1, 1) := dk_4 (dk_at dksL_law_19 12 rfl rfl)
theorem dL_law_576 : decode cL_law 576 = .ok (.iadd, 1) := dk_96 (dk_at dksL_law_19 13 rfl rfl)
theorem dL_law_577 : decode cL_law 577 = .ok (.iaload, 1) := dk_46 (dk_at dksL_law_19 14 rfl rfl)
theorem dL_law_578 : decode cL_law 578 = .ok (.aload_n 0, 1) := dk_42 (dk_at dksL_law_19 15 rfl rfl)
theorem dL_law_579 : decode cL_law 579 = .ok (.iload 4, 2) := dk_21 4 (dk_at dksL_law_19 16 rfl rfl)
theorem dL_law_581 : decode cL_law 581 = .ok (.iconst 2, 1) := dk_5 (dk_at dksL_law_19 18 rfl rfl)
theorem dL_law_582 : decode cL_law 582 = .ok (.iadd, 1) := dk_96 (dk_at dksL_law_19 19 rfl rfl)
theorem dL_law_583 : decode cL_law 583 = .ok (.iaload, 1) := dk_46 (dk_at dksL_law_19 20 rfl rfl)
theorem dL_law_584 : decode cL_law 584 = .ok (.aload_n 3, 1) := dk_45 (dk_at dksL_law_19 21 rfl rfl)
theorem dL_law_585 : decode cL_law 585 = .ok (.invokestatic 142, 3) := dk_184 0 142 (dk_at dksL_law_20 0 rfl rfl)
theorem dL_law_588 : decode cL_law 588 = .ok (.istore 5, 2) := dk_54 5 (dk_at dksL_law_20 3 rfl rfl)
theorem dL_law_590 : decode cL_law 590 = .ok (.aload_n 2, 1) := dk_44 (dk_at dksL_law_20 5 rfl rfl)
theorem dL_law_591 : decode cL_law 591 = .ok (.aload_n 0, 1) := dk_42 (dk_at dksL_law_20 6 rfl rfl)
theorem dL_law_592 : decode cL_law 592 = .ok (.iload 4, 2) := dk_21 4 (dk_at dksL_law_20 7 rfl rfl)
theorem dL_law_594 : decode cL_law 594 = .ok (.iconst 1, 1) := dk_4 (dk_at dksL_law_20 9 rfl rfl)
theorem dL_law_595 : decode cL_law 595 = .ok (.iadd, 1) := dk_96 (dk_at dksL_law_20 10 rfl rfl)
theorem dL_law_596 : decode cL_law 596 = .ok (.iaload, 1) := dk_46 (dk_at dksL_law_20 11 rfl rfl)
theorem dL_law_597 : decode cL_law 597 = .ok (.aload_n 0, 1) := dk_42 (dk_at dksL_law_20 12 rfl rfl)
theorem dL_law_598 : decode cL_law 598 = .ok (.iload 4, 2) := dk_21 4 (dk_at dksL_law_20 13 rfl rfl)
theorem dL_law_600 : decode cL_law 600 = .ok (.iconst 2, 1) := dk_5 (dk_at dksL_law_20 15 rfl rfl)
theorem dL_law_601 : decode cL_law 601 = .ok (.iadd, 1) := dk_96 (dk_at dksL_law_20 16 rfl rfl)
theorem dL_law_602 : decode cL_law 602 = .ok (.iaload, 1) := dk_46 (dk_at dksL_law_20 17 rfl rfl)
theorem dL_law_603 : decode cL_law 603 = .ok (.invokevirtual 144, 3) := dk_182 0 144 (dk_at dksL_law_20 18 rfl rfl)
theorem dL_law_606 : decode cL_law 606 = .ok (.istore 6, 2) := dk_54 6 (dk_at dksL_law_20 21 rfl rfl)
theorem dL_law_608 : decode cL_law 608 = .ok (.aload_n 2, 1) := dk_44 (dk_at dksL_law_20 23 rfl rfl)
theorem dL_law_609 : decode cL_law 609 = .ok (.invokevirtual 125, 3) := dk_182 0 125 (dk_at dksL_law_21 0 rfl rfl)
theorem dL_law_612 : decode cL_law 612 = .ok (.iload 5, 2) := dk_21 5 (dk_at dksL_law_21 3 rfl rfl)
theorem dL_law_614 : decode cL_law 614 = .ok (.if_icmp .eq 5, 3) := dk_159 0 5 (dk_at dksL_law_21 5 rfl rfl)
theorem dL_law_617 : decode cL_law 617 = .ok (.iconst 0, 1) := dk_3 (dk_at dksL_law_21 8 rfl rfl)
theorem dL_law_618 : decode cL_law 618 = .ok (.ireturn, 1) := dk_172 (dk_at dksL_law_21 9 rfl rfl)
theorem dL_law_619 : decode cL_law 619 = .ok (.iload 5, 2) := dk_21 5 (dk_at dksL_law_21 10 rfl rfl)
theorem dL_law_621 : decode cL_law 621 = .ok (.ifCond .ne 15, 3) := dk_154 0 15 (dk_at dksL_law_21 12 rfl rfl)
theorem dL_law_624 : decode cL_law 624 = .ok (.aload_n 3, 1) := dk_45 (dk_at dksL_law_21 15 rfl rfl)
theorem dL_law_625 : decode cL_law 625 = .ok (.iconst 0, 1) := dk_3 (dk_at dksL_law_21 16 rfl rfl)
theorem dL_law_626 : decode cL_law 626 = .ok (.laload, 1) := dk_47 (dk_at dksL_law_21 17 rfl rfl)
theorem dL_law_627 : decode cL_law 627 = .ok (.iload 6, 2) := dk_21 6 (dk_at dksL_law_21 18 rfl rfl)
theorem dL_law_629 : decode cL_law 629 = .ok (.i2l, 1) := dk_133 (dk_at dksL_law_21 20 rfl rfl)
theorem dL_law_630 : decode cL_law 630 = .ok (.lcmp, 1) := dk_148 (dk_at dksL_law_21 21 rfl rfl)
theorem dL_law_631 : decode cL_law 631 = .ok (.ifCond .eq 5, 3) := dk_153 0 5 (dk_at dksL_law_22 0 rfl rfl)
theorem dL_law_634 : decode cL_law 634 = .ok (.iconst 0, 1) := dk_3 (dk_at dksL_law_22 3 rfl rfl)
theorem dL_law_635 : decode cL_law 635 = .ok (.ireturn, 1) := dk_172 (dk_at dksL_law_22 4 rfl rfl)
theorem dL_law_636 : decode cL_law 636 = .ok (.goto 1644, 3) := dk_167 6 108 (dk_at dksL_law_22 5 rfl rfl)
theorem dL_law_639 : decode cL_law 639 = .ok (.aload_n 1, 1) := dk_43 (dk_at dksL_law_22 8 rfl rfl)
theorem dL_law_640 : decode cL_law 640 = .ok (.aload_n 0, 1) := dk_42 (dk_at dksL_law_22 9 rfl rfl)
theorem dL_law_641 : decode cL_law 641 = .ok (.iload 4, 2) := dk_21 4 (dk_at dksL_law_22 10 rfl rfl)
theorem dL_law_643 : decode cL_law 643 = .ok (.iconst 1, 1) := dk_4 (dk_at dksL_law_22 12 rfl rfl)
theorem dL_law_644 : decode cL_law 644 = .ok (.iadd, 1) := dk_96 (dk_at dksL_law_22 13 rfl rfl)
theorem dL_law_645 : decode cL_law 645 = .ok (.iaload, 1) := dk_46 (dk_at dksL_law_22 14 rfl rfl)
theorem dL_law_646 : decode cL_law 646 = .ok (.aload_n 3, 1) := dk_45 (dk_at dksL_law_22 15 rfl rfl)
theorem dL_law_647 : decode cL_law 647 = .ok (.invokestatic 145, 3) := dk_184 0 145 (dk_at dksL_law_22 16 rfl rfl)
theorem dL_law_650 : decode cL_law 650 = .ok (.istore 5, 2) := dk_54 5 (dk_at dksL_law_22 19 rfl rfl)
theorem dL_law_652 : decode cL_law 652 = .ok (.aload_n 2, 1) := dk_44 (dk_at dksL_law_22 21 rfl rfl)
theorem dL_law_653 : decode cL_law 653 = .ok (.aload_n 0, 1) := dk_42 (dk_at dksL_law_22 22 rfl rfl)
theorem dL_law_654 : decode cL_law 654 = .ok (.iload 4, 2) := dk_21 4 (dk_at dksL_law_23 0 rfl rfl)
theorem dL_law_656 : decode cL_law 656 = .ok (.iconst 1, 1) := dk_4 (dk_at dksL_law_23 2 rfl rfl)
theorem dL_law_657 : decode cL_law 657 = .ok (.iadd, 1) := dk_96 (dk_at dksL_law_23 3 rfl rfl)
theorem dL_law_658 : decode cL_law 658 = .ok (.iaload, 1) := dk_46 (dk_at dksL_law_23 4 rfl rfl)
theorem dL_law_659 : decode cL_law 659 = .ok (.invokevirtual 148, 3) := dk_182 0 148 (dk_at dksL_law_23 5 rfl rfl)
theorem dL_law_662 : decode cL_law 662 = .ok (.istore 6, 2) := dk_54 6 (dk_at dksL_law_23 8 rfl rfl)
theorem dL_law_664 : decode cL_law 664 = .ok (.aload_n 2, 1) := dk_44 (dk_at dksL_law_23 10 rfl rfl)
theorem dL_law_665 : decode cL_law 665 = .ok (.invokevirtual 125, 3) := dk_182 0 125 (dk_at dksL_law_23 11 rfl rfl)
theorem dL_law_668 : decode cL_law 668 = .ok (.iload 5, 2) := dk_21 5 (dk_at dksL_law_23 14 rfl rfl)
theorem dL_law_670 : decode cL_law 670 = .ok (.if_icmp .eq 5, 3) := dk_159 0 5 (dk_at dksL_law_23 16 rfl rfl)
theorem dL_law_673 : decode cL_law 673 = .ok (.iconst 0, 1) := dk_3 (dk_at dksL_law_23 19 rfl rfl)
theorem dL_law_674 : decode cL_law 674 = .ok (.ireturn, 1) := dk_172 (dk_at dksL_law_23 20 rfl rfl)
theorem dL_law_675 : decode cL_law 675 = .ok (.iload 5, 2) := dk_21 5 (dk_at dksL_law_23 21 rfl rfl)
theorem dL_law_677 : decode cL_law 677 = .ok (.ifCond .ne 22, 3) := dk_154 0 22 (dk_at dksL_law_24 0 rfl rfl)
theorem dL_law_680 : decode cL_law 680 = .ok (.aload_n 3, 1) := dk_45 (dk_at dksL_law_24 3 rfl rfl)
theorem dL_law_681 : decode cL_law 681 = .ok (.iconst 0, 1) := dk_3 (dk_at dksL_law_24 4 rfl rfl)
theorem dL_law_682 : decode cL_law 682 = .ok (.laload, 1) := dk_47 (dk_at dksL_law_24 5 rfl rfl)
theorem dL_law_683 : decode cL_law 683 = .ok (.iload 6, 2) := dk_21 6 (dk_at dksL_law_24 6 rfl rfl)
theorem dL_law_685 : decode cL_law 685 = .ok (.ifCond .eq 7, 3) := dk_153 0 7 (dk_at dksL_law_24 8 rfl rfl)
theorem dL_law_688 : decode cL_law 688 = .ok (.lconst 1, 1) := dk_10 (dk_at dksL_law_24 11 rfl rfl)
theorem dL_law_689 : decode cL_law 689 = .ok (.goto 4, 3) := dk_167 0 4 (dk_at dksL_law_24 12 rfl rfl)
theorem dL_law_692 : decode cL_law 692 = .ok (.lconst 0, 1) := dk_9 (dk_at dksL_law_24 15 rfl rfl)
theorem dL_law_693 : decode cL_law 693 = .ok (.lcmp, 1) := dk_148 (dk_at dksL_law_24 16 rfl rfl)
theorem dL_law_694 : decode cL_law 694 = .ok (.ifCond .eq 5, 3) := dk_153 0 5 (dk_at dksL_law_24 17 rfl rfl)
theorem dL_law_697 : decode cL_law 697 = .ok (.iconst 0, 1) := dk_3 (dk_at dksL_law_24 20 rfl rfl)
theorem dL_law_698 : decode cL_law 698 = .ok (.ireturn, 1) := dk_172 (dk_at dksL_law_24 21 rfl rfl)
theorem dL_law_699 : decode cL_law 699 = .ok (.goto 1581, 3) := dk_167 6 45 (dk_at dksL_law_25 0 rfl rfl)
theorem dL_law_702 : decode cL_law 702 = .ok (.aload_n 1, 1) := dk_43 (dk_at dksL_law_25 3 rfl rfl)
theorem dL_law_703 : decode cL_law 703 = .ok (.aload_n 0, 1) := dk_42 (dk_at dksL_law_25 4 rfl rfl)
theorem dL_law_704 : decode cL_law 704 = .ok (.iload 4, 2) := dk_21 4 (dk_at dksL_law_25 5 rfl rfl)
theorem dL_law_706 : decode cL_law 706 = .ok (.iconst 1, 1) := dk_4 (dk_at dksL_law_25 7 rfl rfl)
theorem dL_law_707 : decode cL_law 707 = .ok (.iadd, 1) := dk_96 (dk_at dksL_law_25 8 rfl rfl)
theorem dL_law_708 : decode cL_law 708 = .ok (.iaload, 1) := dk_46 (dk_at dksL_law_25 9 rfl rfl)
theorem dL_law_709 : decode cL_law 709 = .ok (.aload_n 0, 1) := dk_42 (dk_at dksL_law_25 10 rfl rfl)
theorem dL_law_710 : decode cL_law 710 = .ok (.iload 4, 2) := dk_21 4 (dk_at dksL_law_25 11 rfl rfl)
theorem dL_law_712 : decode cL_law 712 = .ok (.iconst 2, 1) := dk_5 (dk_at dksL_law_25 13 rfl rfl)
theorem dL_law_713 : decode cL_law 713 = .ok (.iadd, 1) := dk_96 (dk_at dksL_law_25 14 rfl rfl)
theorem dL_law_714 : decode cL_law 714 = .ok (.iaload, 1) := dk_46 (dk_at dksL_law_25 15 rfl rfl)
theorem dL_law_715 : decode cL_law 715 = .ok (.aload_n 3, 1) := dk_45 (dk_at dksL_law_25 16 rfl rfl)
theorem dL_law_716 : decode cL_law 716 = .ok (.invokestatic 149, 3) := dk_184 0 149 (dk_at dksL_law_25 17 rfl rfl)
theorem dL_law_719 : decode cL_law 719 = .ok (.istore 5, 2) := dk_54 5 (dk_at dksL_law_25 20 rfl rfl)
theorem dL_law_721 : decode cL_law 721 = .ok (.aload_n 2, 1) := dk_44 (dk_at dksL_law_25 22 rfl rfl)
theorem dL_law_722 : decode cL_law 722 = .ok (.aload_n 0, 1) := dk_42 (dk_at dksL_law_25 23 rfl rfl)
theorem dL_law_723 : decode cL_law 723 = .ok (.iload 4, 2) := dk_21 4 (dk_at dksL_law_26 0 rfl rfl)
theorem dL_law_725 : decode cL_law 725 = .ok (.iconst 1, 1) := dk_4 (dk_at dksL_law_26 2 rfl rfl)
theorem dL_law_726 : decode cL_law 726 = .ok (.iadd, 1) := dk_96 (dk_at dksL_law_26 3 rfl rfl)
theorem dL_law_727 : decode cL_law 727 = .ok (.iaload, 1) := dk_46 (dk_at dksL_law_26 4 rfl rfl)
theorem dL_law_728 : decode cL_law 728 = .ok (.aload_n 0, 1) := dk_42 (dk_at dksL_law_26 5 rfl rfl)
theorem dL_law_729 : decode cL_law 729 = .ok (.iload 4, 2) := dk_21 4 (dk_at dksL_law_26 6 rfl rfl)
theorem dL_law_731 : decode cL_law 731 = .ok (.iconst 2, 1) := dk_5 (dk_at dksL_law_26 8 rfl rfl)
theorem dL_law_732 : decode cL_law 732 = .ok (.iadd, 1) := dk_96 (dk_at dksL_law_26 9 rfl rfl)
theorem dL_law_733 : decode cL_law 733 = .ok (.iaload, 1) := dk_46 (dk_at dksL_law_26 10 rfl rfl)
theorem dL_law_734 : decode cL_law 734 = .ok (.invokevirtual 151, 3) := dk_182 0 151 (dk_at dksL_law_26 11 rfl rfl)
theorem dL_law_737 : decode cL_law 737 = .ok (.istore 6, 2) := dk_54 6 (dk_at dksL_law_26 14 rfl rfl)
theorem dL_law_739 : decode cL_law 739 = .ok (.aload_n 2, 1) := dk_44 (dk_at dksL_law_26 16 rfl rfl)
theorem dL_law_740 : decode cL_law 740 = .ok (.invokevirtual 125, 3) := dk_182 0 125 (dk_at dksL_law_26 17 rfl rfl)
theorem dL_law_743 : decode cL_law 743 = .ok (.iload 5, 2) := dk_21 5 (dk_at dksL_law_26 20 rfl rfl)
theorem dL_law_745 : decode cL_law 745 = .ok (.if_icmp .eq 5, 3) := dk_159 0 5 (dk_at dksL_law_27 0 rfl rfl)
theorem dL_law_748 : decode cL_law 748 = .ok (.iconst 0, 1) := dk_3 (dk_at dksL_law_27 3 rfl rfl)
theorem dL_law_749 : decode cL_law 749 = .ok (.ireturn, 1) := dk_172 (dk_at dksL_law_27 4 rfl rfl)
theorem dL_law_750 : decode cL_law 750 = .ok (.iload 5, 2) := dk_21 5 (dk_at dksL_law_27 5 rfl rfl)
theorem dL_law_752 : decode cL_law 752 = .ok (.ifCond .ne 15, 3) := dk_154 0 15 (dk_at dksL_law_27 7 rfl rfl)
theorem dL_law_755 : decode cL_law 755 = .ok (.aload_n 3, 1) := dk_45 (dk_at dksL_law_27 10 rfl rfl)
theorem dL_law_756 : decode cL_law 756 = .ok (.iconst 0, 1) := dk_3 (dk_at dksL_law_27 11 rfl rfl)
theorem dL_law_757 : decode cL_law 757 = .ok (.laload, 1) := dk_47 (dk_at dksL_law_27 12 rfl rfl)
theorem dL_law_758 : decode cL_law 758 = .ok (.iload 6, 2) := dk_21 6 (dk_at dksL_law_27 13 rfl rfl)
theorem dL_law_760 : decode cL_law 760 = .ok (.i2l, 1) := dk_133 (dk_at dksL_law_27 15 rfl rfl)
theorem dL_law_761 : decode cL_law 761 = .ok (.lcmp, 1) := dk_148 (dk_at dksL_law_27 16 rfl rfl)
theorem dL_law_762 : decode cL_law 762 = .ok (.ifCond .eq 5, 3) := dk_153 0 5 (dk_at dksL_law_27 17 rfl rfl)
theorem dL_law_765 : decode cL_law 765 = .ok (.iconst 0, 1) := dk_3 (dk_at dksL_law_27 20 rfl rfl)
theorem dL_law_766 : decode cL_law 766 = .ok (.ireturn, 1) := dk_172 (dk_at dksL_law_27 21 rfl rfl)
theorem dL_law_767 : decode cL_law 767 = .ok (.goto 1513, 3) := dk_167 5 233 (dk_at dksL_law_28 0 rfl rfl)
theorem dL_law_770 : decode cL_law 770 = .ok (.aload_n 1, 1) := dk_43 (dk_at dksL_law_28 3 rfl rfl)
theorem dL_law_771 : decode cL_law 771 = .ok (.aload_n 0, 1) := dk_42 (dk_at dksL_law_28 4 rfl rfl)
theorem dL_law_772 : decode cL_law 772 = .ok (.iload 4, 2) := dk_21 4 (dk_at dksL_law_28 5 rfl rfl)
theorem dL_law_774 : decode cL_law 774 = .ok (.iconst 1, 1) := dk_4 (dk_at dksL_law_28 7 rfl rfl)
theorem dL_law_775 : decode cL_law 775 = .ok (.iadd, 1) := dk_96 (dk_at dksL_law_28 8 rfl rfl)
theorem dL_law_776 : decode cL_law 776 = .ok (.iaload, 1) := dk_46 (dk_at dksL_law_28 9 rfl rfl)
theorem dL_law_777 : decode cL_law 777 = .ok (.aload_n 0, 1) := dk_42 (dk_at dksL_law_28 10 rfl rfl)
theorem dL_law_778 : decode cL_law 778 = .ok (.iload 4, 2) := dk_21 4 (dk_at dksL_law_28 11 rfl rfl)
theorem dL_law_780 : decode cL_law 780 = .ok (.iconst 2, 1) := dk_5 (dk_at dksL_law_28 13 rfl rfl)
theorem dL_law_781 : decode cL_law 781 = .ok (.iadd, 1) := dk_96 (dk_at dksL_law_28 14 rfl rfl)
theorem dL_law_782 : decode cL_law 782 = .ok (.iaload, 1) := dk_46 (dk_at dksL_law_28 15 rfl rfl)
theorem dL_law_783 : decode cL_law 783 = .ok (.aload_n 0, 1) := dk_42 (dk_at dksL_law_28 16 rfl rfl)
theorem dL_law_784 : decode cL_law 784 = .ok (.iload 4, 2) := dk_21 4 (dk_at dksL_law_28 17 rfl rfl)
theorem dL_law_786 : decode cL_law 786 = .ok (.iconst 3, 1) := dk_6 (dk_at dksL_law_28 19 rfl rfl)
theorem dL_law_787 : decode cL_law 787 = .ok (.iadd, 1) := dk_96 (dk_at dksL_law_28 20 rfl rfl)
theorem dL_law_788 : decode cL_law 788 = .ok (.iaload, 1) := dk_46 (dk_at dksL_law_28 21 rfl rfl)
theorem dL_law_789 : decode cL_law 789 = .ok (.ifCond .eq 7, 3) := dk_153 0 7 (dk_at dksL_law_29 0 rfl rfl)
theorem dL_law_792 : decode cL_law 792 = .ok (.iconst 1, 1) := dk_4 (dk_at dksL_law_29 3 rfl rfl)
theorem dL_law_793 : decode cL_law 793 = .ok (.goto 4, 3) := dk_167 0 4 (dk_at dksL_law_29 4 rfl rfl)
theorem dL_law_796 : decode cL_law 796 = .ok (.iconst 0, 1) := dk_3 (dk_at dksL_law_29 7 rfl rfl)
theorem dL_law_797 : decode cL_law 797 = .ok (.aload_n 3, 1) := dk_45 (dk_at dksL_law_29 8 rfl rfl)
theorem dL_law_798 : decode cL_law 798 = .ok (.invokestatic 152, 3) := dk_184 0 152 (dk_at dksL_law_29 9 rfl rfl)
theorem dL_law_801 : decode cL_law 801 = .ok (.istore 5, 2) := dk_54 5 (dk_at dksL_law_29 12 rfl rfl)
theorem dL_law_803 : decode cL_law 803 = .ok (.aload_n 2, 1) := dk_44 (dk_at dksL_law_29 14 rfl rfl)
theorem dL_law_804 : decode cL_law 804 = .ok (.aload_n 0, 1) := dk_42 (dk_at dksL_law_29 15 rfl rfl)
theorem dL_law_805 : decode cL_law 805 = .ok (.iload 4, 2) := dk_21 4 (dk_at dksL_law_29 16 rfl rfl)
theorem dL_law_807 : decode cL_law 807 = .ok (.iconst 1, 1) := dk_4 (dk_at dksL_law_29 18 rfl rfl)
theorem dL_law_808 : decode cL_law 808 = .ok (.iadd, 1) := dk_96 (dk_at dksL_law_29 19 rfl rfl)
theorem dL_law_809 : decode cL_law 809 = .ok (.iaload, 1) := dk_46 (dk_at dksL_law_29 20 rfl rfl)
theorem dL_law_810 : decode cL_law 810 = .ok (.aload_n 0, 1) := dk_42 (dk_at dksL_law_29 21 rfl rfl)
theorem dL_law_811 : decode cL_law 811 = .ok (.iload 4, 2) := dk_21 4 (dk_at dksL_law_29 22 rfl rfl)
theorem dL_law_813 : decode cL_law 813 = .ok (.iconst 2, 1) := dk_5 (dk_at dksL_law_30 0 rfl rfl)
theorem dL_law_814 : decode cL_law 814 = .ok (.iadd, 1) := dk_96 (dk_at dksL_law_30 1 rfl rfl)
theorem dL_law_815 : decode cL_law 815 = .ok (.iaload, 1) := dk_46 (dk_at dksL_law_30 2 rfl rfl)
theorem dL_law_816 : decode cL_law 816 = .ok (.aload_n 0, 1) := dk_42 (dk_at dksL_law_30 3 rfl rfl)
theorem dL_law_817 : decode cL_law 817 = .ok (.iload 4, 2) := dk_21 4 (dk_at dksL_law_30 4 rfl rfl)
theorem dL_law_819 : decode cL_law 819 = .ok (.iconst 3, 1) := dk_6 (dk_at dksL_law_30 6 rfl rfl)
theorem dL_law_820 : decode cL_law 820 = .ok (.iadd, 1) := dk_96 (dk_at dksL_law_30 7 rfl rfl)
theorem dL_law_821 : decode cL_law 821 = .ok (.iaload, 1) := dk_46 (dk_at dksL_law_30 8 rfl rfl)
theorem dL_law_822 : decode cL_law 822 = .ok (.ifCond .eq 7, 3) := dk_153 0 7 (dk_at dksL_law_30 9 rfl rfl)
theorem dL_law_825 : decode cL_law 825 = .ok (.iconst 1, 1) := dk_4 (dk_at dksL_law_30 12 rfl rfl)
theorem dL_law_826 : decode cL_law 826 = .ok (.goto 4, 3) := dk_167 0 4 (dk_at dksL_law_30 13 rfl rfl)
theorem dL_law_829 : decode cL_law 829 = .ok (.iconst 0, 1) := dk_3 (dk_at dksL_law_30 16 rfl rfl)
theorem dL_law_830 : decode cL_law 830 = .ok (.invokevirtual 154, 3) := dk_182 0 154 (dk_at dksL_law_30 17 rfl rfl)
theorem dL_law_833 : decode cL_law 833 = .ok (.istore 6, 2) := dk_54 6 (dk_at dksL_law_30 20 rfl rfl)
theorem dL_law_835 : decode cL_law 835 = .ok (.aload_n 2, 1) := dk_44 (dk_at dksL_law_30 22 rfl rfl)
theorem dL_law_836 : decode cL_law 836 = .ok (.invokevirtual 125, 3) := dk_182 0 125 (dk_at dksL_law_31 0 rfl rfl)
theorem dL_law_839 : decode cL_law 839 = .ok (.iload 5, 2) := dk_21 5 (dk_at dksL_law_31 3 rfl rfl)
theorem dL_law_841 : decode cL_law 841 = .ok (.if_icmp .eq 5, 3) := dk_159 0 5 (dk_at dksL_law_31 5 rfl rfl)
theorem dL_law_844 : decode cL_law 844 = .ok (.iconst 0, 1) := dk_3 (dk_at dksL_law_31 8 rfl rfl)
theorem dL_law_845 : decode cL_law 845 = .ok (.ireturn, 1) := dk_172 (dk_at dksL_law_31 9 rfl rfl)
theorem dL_law_846 : decode cL_law 846 = .ok (.iload 5, 2) := dk_21 5 (dk_at dksL_law_31 10 rfl rfl)
theorem dL_law_848 : decode cL_law 848 = .ok (.ifCond .ne 15, 3) := dk_154 0 15 (dk_at dksL_law_31 12 rfl rfl)
theorem dL_law_851 : decode cL_law 851 = .ok (.aload_n 3, 1) := dk_45 (dk_at dksL_law_31 15 rfl rfl)
theorem dL_law_852 : decode cL_law 852 = .ok (.iconst 0, 1) := dk_3 (dk_at dksL_law_31 16 rfl rfl)
theorem dL_law_853 : decode cL_law 853 = .ok (.laload, 1) := dk_47 (dk_at dksL_law_31 17 rfl rfl)
theorem dL_law_854 : decode cL_law 854 = .ok (.iload 6, 2) := dk_21 6 (dk_at dksL_law_31 18 rfl rfl)
theorem dL_law_856 : decode cL_law 856 = .ok (.i2l, 1) := dk_133 (dk_at dksL_law_31 20 rfl rfl)
theorem dL_law_857 : decode cL_law 857 = .ok (.lcmp, 1) := dk_148 (dk_at dksL_law_31 21 rfl rfl)
theorem dL_law_858 : decode cL_law 858 = .ok (.ifCond .eq 5, 3) := dk_153 0 5 (dk_at dksL_law_32 0 rfl rfl)
theorem dL_law_861 : decode cL_law 861 = .ok (.iconst 0, 1) := dk_3 (dk_at dksL_law_32 3 rfl rfl)
theorem dL_law_862 : decode cL_law 862 = .ok (.ireturn, 1) := dk_172 (dk_at dksL_law_32 4 rfl rfl)
theorem dL_law_863 : decode cL_law 863 = .ok (.goto 1417, 3) := dk_167 5 137 (dk_at dksL_law_32 5 rfl rfl)
theorem dL_law_866 : decode cL_law 866 = .ok (.aload_n 1, 1) := dk_43 (dk_at dksL_law_32 8 rfl rfl)
theorem dL_law_867 : decode cL_law 867 = .ok (.aload_n 0, 1) := dk_42 (dk_at dksL_law_32 9 rfl rfl)
theorem dL_law_868 : decode cL_law 868 = .ok (.iload 4, 2) := dk_21 4 (dk_at dksL_law_32 10 rfl rfl)
theorem dL_law_870 : decode cL_law 870 = .ok (.iconst 1, 1) := dk_4 (dk_at dksL_law_32 12 rfl rfl)
theorem dL_law_871 : decode cL_law 871 = .ok (.iadd, 1) := dk_96 (dk_at dksL_law_32 13 rfl rfl)
theorem dL_law_872 : decode cL_law 872 = .ok (.iaload, 1) := dk_46 (dk_at dksL_law_32 14 rfl rfl)
theorem dL_law_873 : decode cL_law 873 = .ok (.aload_n 0, 1) := dk_42 (dk_at dksL_law_32 15 rfl rfl)
theorem dL_law_874 : decode cL_law 874 = .ok (.iload 4, 2) := dk_21 4 (dk_at dksL_law_32 16 rfl rfl)
theorem dL_law_876 : decode cL_law 876 = .ok (.iconst 2, 1) := dk_5 (dk_at dksL_law_32 18 rfl rfl)
theorem dL_law_877 : decode cL_law 877 = .ok (.iadd, 1) := dk_96 (dk_at dksL_law_32 19 rfl rfl)
theorem dL_law_878 : decode cL_law 878 = .ok (.iaload, 1) := dk_46 (dk_at dksL_law_32 20 rfl rfl)
theorem dL_law_879 : decode cL_law 879 = .ok (.aload_n 3, 1) := dk_45 (dk_at dksL_law_32 21 rfl rfl)
theorem dL_law_880 : decode cL_law 880 = .ok (.invokestatic 155, 3) := dk_184 0 155 (dk_at dksL_law_33 0 rfl rfl)
theorem dL_law_883 : decode cL_law 883 = .ok (.istore 5, 2) := dk_54 5 (dk_at dksL_law_33 3 rfl rfl)
theorem dL_law_885 : decode cL_law 885 = .ok (.aload_n 2, 1) := dk_44 (dk_at dksL_law_33 5 rfl rfl)
theorem dL_law_886 : decode cL_law 886 = .ok (.aload_n 0, 1) := dk_42 (dk_at dksL_law_33 6 rfl rfl)
theorem dL_law_887 : decode cL_law 887 = .ok (.iload 4, 2) := dk_21 4 (dk_at dksL_law_33 7 rfl rfl)
theorem dL_law_889 : decode cL_law 889 = .ok (.iconst 1, 1) := dk_4 (dk_at dksL_law_33 9 rfl rfl)
theorem dL_law_890 : decode cL_law 890 = .ok (.iadd, 1) := dk_96 (dk_at dksL_law_33 10 rfl rfl)
theorem dL_law_891 : decode cL_law 891 = .ok (.iaload, 1) := dk_46 (dk_at dksL_law_33 11 rfl rfl)
theorem dL_law_892 : decode cL_law 892 = .ok (.aload_n 0, 1) := dk_42 (dk_at dksL_law_33 12 rfl rfl)
theorem dL_law_893 : decode cL_law 893 = .ok (.iload 4, 2) := dk_21 4 (dk_at dksL_law_33 13 rfl rfl)
theorem dL_law_895 : decode cL_law 895 = .ok (.iconst 2, 1) := dk_5 (dk_at dksL_law_33 15 rfl rfl)
theorem dL_law_896 : decode cL_law 896 = .ok (.iadd, 1) := dk_96 (dk_at dksL_law_33 16 rfl rfl)
theorem dL_law_897 : decode cL_law 897 = .ok (.iaload, 1) := dk_46 (dk_at dksL_law_33 17 rfl rfl)
theorem dL_law_898 : decode cL_law 898 = .ok (.invokevirtual 157, 3) := dk_182 0 157 (dk_at dksL_law_33 18 rfl rfl)
theorem dL_law_901 : decode cL_law 901 = .ok (.istore 6, 2) := dk_54 6 (dk_at dksL_law_33 21 rfl rfl)
theorem dL_law_903 : decode cL_law 903 = .ok (.aload_n 2, 1) := dk_44 (dk_at dksL_law_33 23 rfl rfl)
theorem dL_law_904 : decode cL_law 904 = .ok (.invokevirtual 125, 3) := dk_182 0 125 (dk_at dksL_law_34 0 rfl rfl)
theorem dL_law_907 : decode cL_law 907 = .ok (.iload 5, 2) := dk_21 5 (dk_at dksL_law_34 3 rfl rfl)
theorem dL_law_909 : decode cL_law 909 = .ok (.if_icmp .eq 5, 3) := dk_159 0 5 (dk_at dksL_law_34 5 rfl rfl)
theorem dL_law_912 : decode cL_law 912 = .ok (.iconst 0, 1) := dk_3 (dk_at dksL_law_34 8 rfl rfl)
theorem dL_law_913 : decode cL_law 913 = .ok (.ireturn, 1) := dk_172 (dk_at dksL_law_34 9 rfl rfl)
theorem dL_law_914 : decode cL_law 914 = .ok (.iload 5, 2) := dk_21 5 (dk_at dksL_law_34 10 rfl rfl)
theorem dL_law_916 : decode cL_law 916 = .ok (.ifCond .ne 15, 3) := dk_154 0 15 (dk_at dksL_law_34 12 rfl rfl)
theorem dL_law_919 : decode cL_law 919 = .ok (.aload_n 3, 1) := dk_45 (dk_at dksL_law_34 15 rfl rfl)
theorem dL_law_920 : decode cL_law 920 = .ok (.iconst 0, 1) := dk_3 (dk_at dksL_law_34 16 rfl rfl)
theorem dL_law_921 : decode cL_law 921 = .ok (.laload, 1) := dk_47 (dk_at dksL_law_34 17 rfl rfl)
theorem dL_law_922 : decode cL_law 922 = .ok (.iload 6, 2) := dk_21 6 (dk_at dksL_law_34 18 rfl rfl)
theorem dL_law_924 : decode cL_law 924 = .ok (.i2l, 1) := dk_133 (dk_at dksL_law_34 20 rfl rfl)
theorem dL_law_925 : decode cL_law 925 = .ok (.lcmp, 1) := dk_148 (dk_at dksL_law_34 21 rfl rfl)
theorem dL_law_926 : decode cL_law 926 = .ok (.ifCond .eq 5, 3) := dk_153 0 5 (dk_at dksL_law_35 0 rfl rfl)
theorem dL_law_929 : decode cL_law 929 = .ok (.iconst 0, 1) := dk_3 (dk_at dksL_law_35 3 rfl rfl)
theorem dL_law_930 : decode cL_law 930 = .ok (.ireturn, 1) := dk_172 (dk_at dksL_law_35 4 rfl rfl)
theorem dL_law_931 : decode cL_law 931 = .ok (.goto 1349, 3) := dk_167 5 69 (dk_at dksL_law_35 5 rfl rfl)
theorem dL_law_934 : decode cL_law 934 = .ok (.aload_n 1, 1) := dk_43 (dk_at dksL_law_35 8 rfl rfl)
theorem dL_law_935 : decode cL_law 935 = .ok (.aload_n 0, 1) := dk_42 (dk_at dksL_law_35 9 rfl rfl)
theorem dL_law_936 : decode cL_law 936 = .ok (.iload 4, 2) := dk_21 4 (dk_at dksL_law_35 10 rfl rfl)
theorem dL_law_938 : decode cL_law 938 = .ok (.iconst 1, 1) := dk_4 (dk_at dksL_law_35 12 rfl rfl)
theorem dL_law_939 : decode cL_law 939 = .ok (.iadd, 1) := dk_96 (dk_at dksL_law_35 13 rfl rfl)
theorem dL_law_940 : decode cL_law 940 = .ok (.iaload, 1) := dk_46 (dk_at dksL_law_35 14 rfl rfl)
theorem dL_law_941 : decode cL_law 941 = .ok (.aload_n 3, 1) := dk_45 (dk_at dksL_law_35 15 rfl rfl)
theorem dL_law_942 : decode cL_law 942 = .ok (.invokestatic 158, 3) := dk_184 0 158 (dk_at dksL_law_35 16 rfl rfl)
theorem dL_law_945 : decode cL_law 945 = .ok (.istore 5, 2) := dk_54 5 (dk_at dksL_law_35 19 rfl rfl)
theorem dL_law_947 : decode cL_law 947 = .ok (.aload_n 2, 1) := dk_44 (dk_at dksL_law_35 21 rfl rfl)
theorem dL_law_948 : decode cL_law 948 = .ok (.aload_n 0, 1) := dk_42 (dk_at dksL_law_35 22 rfl rfl)
theorem dL_law_949 : decode cL_law 949 = .ok (.iload 4, 2) := dk_21 4 (dk_at dksL_law_36 0 rfl rfl)
theorem dL_law_951 : decode cL_law 951 = .ok (.iconst 1, 1) := dk_4 (dk_at dksL_law_36 2 rfl rfl)
theorem dL_law_952 : decode cL_law 952 = .ok (.iadd, 1) := dk_96 (dk_at dksL_law_36 3 rfl rfl)
theorem dL_law_953 : decode cL_law 953 = .ok (.iaload, 1) := dk_46 (dk_at dksL_law_36 4 rfl rfl)
theorem dL_law_954 : decode cL_law 954 = .ok (.invokevirtual 160, 3) := dk_182 0 160 (dk_at dksL_law_36 5 rfl rfl)
theorem dL_law_957 : decode cL_law 957 = .ok (.istore 6, 2) := dk_54 6 (dk_at dksL_law_36 8 rfl rfl)
theorem dL_law_959 : decode cL_law 959 = .ok (.aload_n 2, 1) := dk_44 (dk_at dksL_law_36 10 rfl rfl)
theorem dL_law_960 : decode cL_law 960 = .ok (.invokevirtual 125, 3) := dk_182 0 125 (dk_at dksL_law_36 11 rfl rfl)
theorem dL_law_963 : decode cL_law 963 = .ok (.iload 5, 2) := dk_21 5 (dk_at dksL_law_36 14 rfl rfl)
theorem dL_law_965 : decode cL_law 965 = .ok (.if_icmp .eq 5, 3) := dk_159 0 5 (dk_at dksL_law_36 16 rfl rfl)
theorem dL_law_968 : decode cL_law 968 = .ok (.iconst 0, 1) := dk_3 (dk_at dksL_law_36 19 rfl rfl)
theorem dL_law_969 : decode cL_law 969 = .ok (.ireturn, 1) := dk_172 (dk_at dksL_law_36 20 rfl rfl)
theorem dL_law_970 : decode cL_law 970 = .ok (.iload 5, 2) := dk_21 5 (dk_at dksL_law_36 21 rfl rfl)
theorem dL_law_972 : decode cL_law 972 = .ok (.ifCond .ne 15, 3) := dk_154 0 15 (dk_at dksL_law_37 0 rfl rfl)
theorem dL_law_975 : decode cL_law 975 = .ok (.aload_n 3, 1) := dk_45 (dk_at dksL_law_37 3 rfl rfl)
theorem dL_law_976 : decode cL_law 976 = .ok (.iconst 0, 1) := dk_3 (dk_at dksL_law_37 4 rfl rfl)
theorem dL_law_977 : decode cL_law 977 = .ok (.laload, 1) := dk_47 (dk_at dksL_law_37 5 rfl rfl)
theorem dL_law_978 : decode cL_law 978 = .ok (.iload 6, 2) := dk_21 6 (dk_at dksL_law_37 6 rfl rfl)
theorem dL_law_980 : decode cL_law 980 = .ok (.i2l, 1) := dk_133 (dk_at dksL_law_37 8 rfl rfl)
theorem dL_law_981 : decode cL_law 981 = .ok (.lcmp, 1) := dk_148 (dk_at dksL_law_37 9 rfl rfl)
theorem dL_law_982 : decode cL_law 982 = .ok (.ifCond .eq 5, 3) := dk_153 0 5 (dk_at dksL_law_37 10 rfl rfl)
theorem dL_law_985 : decode cL_law 985 = .ok (.iconst 0, 1) := dk_3 (dk_at dksL_law_37 13 rfl rfl)
theorem dL_law_986 : decode cL_law 986 = .ok (.ireturn, 1) := dk_172 (dk_at dksL_law_37 14 rfl rfl)
theorem dL_law_987 : decode cL_law 987 = .ok (.goto 1293, 3) := dk_167 5 13 (dk_at dksL_law_37 15 rfl rfl)
theorem dL_law_990 : decode cL_law 990 = .ok (.aload_n 1, 1) := dk_43 (dk_at dksL_law_37 18 rfl rfl)
theorem dL_law_991 : decode cL_law 991 = .ok (.invokevirtual 161, 3) := dk_182 0 161 (dk_at dksL_law_37 19 rfl rfl)
theorem dL_law_994 : decode cL_law 994 = .ok (.aload_n 2, 1) := dk_44 (dk_at dksL_law_37 22 rfl rfl)
theorem dL_law_995 : decode cL_law 995 = .ok (.invokevirtual 164, 3) := dk_182 0 164 (dk_at dksL_law_38 0 rfl rfl)
theorem dL_law_998 : decode cL_law 998 = .ok (.if_icmp .eq 1282, 3) := dk_159 5 2 (dk_at dksL_law_38 3 rfl rfl)
theorem dL_law_1001 : decode cL_law 1001 = .ok (.iconst 0, 1) := dk_3 (dk_at dksL_law_38 6 rfl rfl)
theorem dL_law_1002 : decode cL_law 1002 = .ok (.ireturn, 1) := dk_172 (dk_at dksL_law_38 7 rfl rfl)
theorem dL_law_1003 : decode cL_law 1003 = .ok (.aload_n 1, 1) := dk_43 (dk_at dksL_law_38 8 rfl rfl)
theorem dL_law_1004 : decode cL_law 1004 = .ok (.invokevirtual 165, 3) := dk_182 0 165 (dk_at dksL_law_38 9 rfl rfl)
theorem dL_law_1007 : decode cL_law 1007 = .ok (.aload_n 2, 1) := dk_44 (dk_at dksL_law_38 12 rfl rfl)
theorem dL_law_1008 : decode cL_law 1008 = .ok (.invokevirtual 168, 3) := dk_182 0 168 (dk_at dksL_law_38 13 rfl rfl)
theorem dL_law_1011 : decode cL_law 1011 = .ok (.if_icmp .eq 1269, 3) := dk_159 4 245 (dk_at dksL_law_38 16 rfl rfl)
theorem dL_law_1014 : decode cL_law 1014 = .ok (.iconst 0, 1) := dk_3 (dk_at dksL_law_38 19 rfl rfl)
theorem dL_law_1015 : decode cL_law 1015 = .ok (.ireturn, 1) := dk_172 (dk_at dksL_law_38 20 rfl rfl)
theorem dL_law_1016 : decode cL_law 1016 = .ok (.aload_n 1, 1) := dk_43 (dk_at dksL_law_38 21 rfl rfl)
theorem dL_law_1017 : decode cL_law 1017 = .ok (.aload_n 0, 1) := dk_42 (dk_at dksL_law_38 22 rfl rfl)
theorem dL_law_1018 : decode cL_law 1018 = .ok (.iload 4, 2) := dk_21 4 (dk_at dksL_law_39 0 rfl rfl)
theorem dL_law_1020 : decode cL_law 1020 = .ok (.iconst 1, 1) := dk_4 (dk_at dksL_law_39 2 rfl rfl)
theorem dL_law_1021 : decode cL_law 1021 = .ok (.iadd, 1) := dk_96 (dk_at dksL_law_39 3 rfl rfl)
theorem dL_law_1022 : decode cL_law 1022 = .ok (.iaload, 1) := dk_46 (dk_at dksL_law_39 4 rfl rfl)
theorem dL_law_1023 : decode cL_law 1023 = .ok (.aload_n 3, 1) := dk_45 (dk_at dksL_law_39 5 rfl rfl)
theorem dL_law_1024 : decode cL_law 1024 = .ok (.invokestatic 169, 3) := dk_184 0 169 (dk_at dksL_law_39 6 rfl rfl)
theorem dL_law_1027 : decode cL_law 1027 = .ok (.istore 5, 2) := dk_54 5 (dk_at dksL_law_39 9 rfl rfl)
theorem dL_law_1029 : decode cL_law 1029 = .ok (.aload_n 2, 1) := dk_44 (dk_at dksL_law_39 11 rfl rfl)
theorem dL_law_1030 : decode cL_law 1030 = .ok (.aload_n 0, 1) := dk_42 (dk_at dksL_law_39 12 rfl rfl)
theorem dL_law_1031 : decode cL_law 1031 = .ok (.iload 4, 2) := dk_21 4 (dk_at dksL_law_39 13 rfl rfl)
theorem dL_law_1033 : decode cL_law 1033 = .ok (.iconst 1, 1) := dk_4 (dk_at dksL_law_39 15 rfl rfl)
theorem dL_law_1034 : decode cL_law 1034 = .ok (.iadd, 1) := dk_96 (dk_at dksL_law_39 16 rfl rfl)
theorem dL_law_1035 : decode cL_law 1035 = .ok (.iaload, 1) := dk_46 (dk_at dksL_law_39 17 rfl rfl)
theorem dL_law_1036 : decode cL_law 1036 = .ok (.invokevirtual 171, 3) := dk_182 0 171 (dk_at dksL_law_39 18 rfl rfl)
theorem dL_law_1039 : decode cL_law 1039 = .ok (.istore 6, 2) := dk_54 6 (dk_at dksL_law_39 21 rfl rfl)
theorem dL_law_1041 : decode cL_law 1041 = .ok (.aload_n 2, 1) := dk_44 (dk_at dksL_law_39 23 rfl rfl)
theorem dL_law_1042 : decode cL_law 1042 = .ok (.invokevirtual 125, 3) := dk_182 0 125 (dk_at dksL_law_40 0 rfl rfl)
theorem dL_law_1045 : decode cL_law 1045 = .ok (.iload 5, 2) := dk_21 5 (dk_at dksL_law_40 3 rfl rfl)
theorem dL_law_1047 : decode cL_law 1047 = .ok (.if_icmp .eq 5, 3) := dk_159 0 5 (dk_at dksL_law_40 5 rfl rfl)
theorem dL_law_1050 : decode cL_law 1050 = .ok (.iconst 0, 1) := dk_3 (dk_at dksL_law_40 8 rfl rfl)
theorem dL_law_1051 : decode cL_law 1051 = .ok (.ireturn, 1) := dk_172 (dk_at dksL_law_40 9 rfl rfl)
theorem dL_law_1052 : decode cL_law 1052 = .ok (.iload 5, 2) := dk_21 5 (dk_at dksL_law_40 10 rfl rfl)
theorem dL_law_1054 : decode cL_law 1054 = .ok (.ifCond .ne 22, 3) := dk_154 0 22 (dk_at dksL_law_40 12 rfl rfl)
theorem dL_law_1057 : decode cL_law 1057 = .ok (.aload_n 3, 1) := dk_45 (dk_at dksL_law_40 15 rfl rfl)
theorem dL_law_1058 : decode cL_law 1058 = .ok (.iconst 0, 1) := dk_3 (dk_at dksL_law_40 16 rfl rfl)
theorem dL_law_1059 : decode cL_law 1059 = .ok (.laload, 1) := dk_47 (dk_at dksL_law_40 17 rfl rfl)
theorem dL_law_1060 : decode cL_law 1060 = .ok (.iload 6, 2) := dk_21 6 (dk_at dksL_law_40 18 rfl rfl)
theorem dL_law_1062 : decode cL_law 1062 = .ok (.ifCond .eq 7, 3) := dk_153 0 7 (dk_at dksL_law_40 20 rfl rfl)
theorem dL_law_1065 : decode cL_law 1065 = .ok (.lconst 1, 1) := dk_10 (dk_at dksL_law_40 23 rfl rfl)
theorem dL_law_1066 : decode cL_law 1066 = .ok (.goto 4, 3) := dk_167 0 4 (dk_at dksL_law_41 0 rfl rfl)
theorem dL_law_1069 : decode cL_law 1069 = .ok (.lconst 0, 1) := dk_9 (dk_at dksL_law_41 3 rfl rfl)
theorem dL_law_1070 : decode cL_law 1070 = .ok (.lcmp, 1) := dk_148 (dk_at dksL_law_41 4 rfl rfl)
theorem dL_law_1071 : decode cL_law 1071 = .ok (.ifCond .eq 5, 3) := dk_153 0 5 (dk_at dksL_law_41 5 rfl rfl)
theorem dL_law_1074 : decode cL_law 1074 = .ok (.iconst 0, 1) := dk_3 (dk_at dksL_law_41 8 rfl rfl)
theorem dL_law_1075 : decode cL_law 1075 = .ok (.ireturn, 1) := dk_172 (dk_at dksL_law_41 9 rfl rfl)
theorem dL_law_1076 : decode cL_law 1076 = .ok (.goto 1204, 3) := dk_167 4 180 (dk_at dksL_law_41 10 rfl rfl)
theorem dL_law_1079 : decode cL_law 1079 = .ok (.aload_n 1, 1) := dk_43 (dk_at dksL_law_41 13 rfl rfl)
theorem dL_law_1080 : decode cL_law 1080 = .ok (.aload_n 0, 1) := dk_42 (dk_at dksL_law_41 14 rfl rfl)
theorem dL_law_1081 : decode cL_law 1081 = .ok (.iload 4, 2) := dk_21 4 (dk_at dksL_law_41 15 rfl rfl)
theorem dL_law_1083 : decode cL_law 1083 = .ok (.iconst 1, 1) := dk_4 (dk_at dksL_law_41 17 rfl rfl)
theorem dL_law_1084 : decode cL_law 1084 = .ok (.iadd, 1) := dk_96 (dk_at dksL_law_41 18 rfl rfl)
theorem dL_law_1085 : decode cL_law 1085 = .ok (.iaload, 1) := dk_46 (dk_at dksL_law_41 19 rfl rfl)
theorem dL_law_1086 : decode cL_law 1086 = .ok (.aload_n 3, 1) := dk_45 (dk_at dksL_law_41 20 rfl rfl)
theorem dL_law_1087 : decode cL_law 1087 = .ok (.invokestatic 172, 3) := dk_184 0 172 (dk_at dksL_law_41 21 rfl rfl)
theorem dL_law_1090 : decode cL_law 1090 = .ok (.istore 5, 2) := dk_54 5 (dk_at dksL_law_42 0 rfl rfl)
theorem dL_law_1092 : decode cL_law 1092 = .ok (.aload_n 2, 1) := dk_44 (dk_at dksL_law_42 2 rfl rfl)
theorem dL_law_1093 : decode cL_law 1093 = .ok (.aload_n 0, 1) := dk_42 (dk_at dksL_law_42 3 rfl rfl)
theorem dL_law_1094 : decode cL_law 1094 = .ok (.iload 4, 2) := dk_21 4 (dk_at dksL_law_42 4 rfl rfl)
theorem dL_law_1096 : decode cL_law 1096 = .ok (.iconst 1, 1) := dk_4 (dk_at dksL_law_42 6 rfl rfl)
theorem dL_law_1097 : decode cL_law 1097 = .ok (.iadd, 1) := dk_96 (dk_at dksL_law_42 7 rfl rfl)
theorem dL_law_1098 : decode cL_law 1098 = .ok (.iaload, 1) := dk_46 (dk_at dksL_law_42 8 rfl rfl)
theorem dL_law_1099 : decode cL_law 1099 = .ok (.invokevirtual 174, 3) := dk_182 0 174 (dk_at dksL_law_42 9 rfl rfl)
theorem dL_law_1102 : decode cL_law 1102 = .ok (.istore 6, 2) := dk_54 6 (dk_at dksL_law_42 12 rfl rfl)
theorem dL_law_1104 : decode cL_law 1104 = .ok (.aload_n 2, 1) := dk_44 (dk_at dksL_law_42 14 rfl rfl)
theorem dL_law_1105 : decode cL_law 1105 = .ok (.invokevirtual 125, 3) := dk_182 0 125 (dk_at dksL_law_42 15 rfl rfl)
theorem dL_law_1108 : decode cL_law 1108 = .ok (.iload 5, 2) := dk_21 5 (dk_at dksL_law_42 18 rfl rfl)
theorem dL_law_1110 : decode cL_law 1110 = .ok (.if_icmp .eq 5, 3) := dk_159 0 5 (dk_at dksL_law_42 20 rfl rfl)
theorem dL_law_1113 : decode cL_law 1113 = .ok (.iconst 0, 1) := dk_3 (dk_at dksL_law_42 23 rfl rfl)
theorem dL_law_1114 : decode cL_law 1114 = .ok (.ireturn, 1) := dk_172 (dk_at dksL_law_43 0 rfl rfl)
theorem dL_law_1115 : decode cL_law 1115 = .ok (.iload 5, 2) := dk_21 5 (dk_at dksL_law_43 1 rfl rfl)
theorem dL_law_1117 : decode cL_law 1117 = .ok (.ifCond .ne 15, 3) := dk_154 0 15 (dk_at dksL_law_43 3 rfl rfl)
theorem dL_law_1120 : decode cL_law 1120 = .ok (.aload_n 3, 1) := dk_45 (dk_at dksL_law_43 6 rfl rfl)
theorem dL_law_1121 : decode cL_law 1121 = .ok (.iconst 0, 1) := dk_3 (dk_at dksL_law_43 7 rfl rfl)
theorem dL_law_1122 : decode cL_law 1122 = .ok (.laload, 1) := dk_47 (dk_at dksL_law_43 8 rfl rfl)
theorem dL_law_1123 : decode cL_law 1123 = .ok (.iload 6, 2) := dk_21 6 (dk_at dksL_law_43 9 rfl rfl)
theorem dL_law_1125 : decode cL_law 1125 = .ok (.i2l, 1) := dk_133 (dk_at dksL_law_43 11 rfl rfl)
theorem dL_law_1126 : decode cL_law 1126 = .ok (.lcmp, 1) := dk_148 (dk_at dksL_law_43 12 rfl rfl)
theorem dL_law_1127 : decode cL_law 1127 = .ok (.ifCond .eq 5, 3) := dk_153 0 5 (dk_at dksL_law_43 13 rfl rfl)
theorem dL_law_1130 : decode cL_law 1130 = .ok (.iconst 0, 1) := dk_3 (dk_at dksL_law_43 16 rfl rfl)
theorem dL_law_1131 : decode cL_law 1131 = .ok (.ireturn, 1) := dk_172 (dk_at dksL_law_43 17 rfl rfl)
theorem dL_law_1132 : decode cL_law 1132 = .ok (.goto 1148, 3) := dk_167 4 124 (dk_at dksL_law_43 18 rfl rfl)
theorem dL_law_1135 : decode cL_law 1135 = .ok (.aload_n 1, 1) := dk_43 (dk_at dksL_law_43 21 rfl rfl)
theorem dL_law_1136 : decode cL_law 1136 = .ok (.aload_n 0, 1) := dk_42 (dk_at dksL_law_43 22 rfl rfl)
theorem dL_law_1137 : decode cL_law 1137 = .ok (.iload 4, 2) := dk_21 4 (dk_at dksL_law_44 0 rfl rfl)
theorem dL_law_1139 : decode cL_law 1139 = .ok (.iconst 1, 1) := dk_4 (dk_at dksL_law_44 2 rfl rfl)
theorem dL_law_1140 : decode cL_law 1140 = .ok (.iadd, 1) := dk_96 (dk_at dksL_law_44 3 rfl rfl)
theorem dL_law_1141 : decode cL_law 1141 = .ok (.iaload, 1) := dk_46 (dk_at dksL_law_44 4 rfl rfl)
theorem dL_law_1142 : decode cL_law 1142 = .ok (.aload_n 3, 1) := dk_45 (dk_at dksL_law_44 5 rfl rfl)
theorem dL_law_1143 : decode cL_law 1143 = .ok (.invokestatic 175, 3) := dk_184 0 175 (dk_at dksL_law_44 6 rfl rfl)
theorem dL_law_1146 : decode cL_law 1146 = .ok (.istore 5, 2) := dk_54 5 (dk_at dksL_law_44 9 rfl rfl)
theorem dL_law_1148 : decode cL_law 1148 = .ok (.aload_n 2, 1) := dk_44 (dk_at dksL_law_44 11 rfl rfl)
theorem dL_law_1149 : decode cL_law 1149 = .ok (.aload_n 0, 1) := dk_42 (dk_at dksL_law_44 12 rfl rfl)
theorem dL_law_1150 : decode cL_law 1150 = .ok (.iload 4, 2) := dk_21 4 (dk_at dksL_law_44 13 rfl rfl)
theorem dL_law_1152 : decode cL_law 1152 = .ok (.iconst 1, 1) := dk_4 (dk_at dksL_law_44 15 rfl rfl)
theorem dL_law_1153 : decode cL_law 1153 = .ok (.iadd, 1) := dk_96 (dk_at dksL_law_44 16 rfl rfl)
theorem dL_law_1154 : decode cL_law 1154 = .ok (.iaload, 1) := dk_46 (dk_at dksL_law_44 17 rfl rfl)
theorem dL_law_1155 : decode cL_law 1155 = .ok (.invokevirtual 177, 3) := dk_182 0 177 (dk_at dksL_law_44 18 rfl rfl)
theorem dL_law_1158 : decode cL_law 1158 = .ok (.istore 6, 2) := dk_54 6 (dk_at dksL_law_44 21 rfl rfl)
theorem dL_law_1160 : decode cL_law 1160 = .ok (.aload_n 2, 1) := dk_44 (dk_at dksL_law_44 23 rfl rfl)
theorem dL_law_1161 : decode cL_law 1161 = .ok (.invokevirtual 125, 3) := dk_182 0 125 (dk_at dksL_law_45 0 rfl rfl)
theorem dL_law_1164 : decode cL_law 1164 = .ok (.iload 5, 2) := dk_21 5 (dk_at dksL_law_45 3 rfl rfl)
theorem dL_law_1166 : decode cL_law 1166 = .ok (.if_icmp .eq 5, 3) := dk_159 0 5 (dk_at dksL_law_45 5 rfl rfl)
theorem dL_law_1169 : decode cL_law 1169 = .ok (.iconst 0, 1) := dk_3 (dk_at dksL_law_45 8 rfl rfl)
theorem dL_law_1170 : decode cL_law 1170 = .ok (.ireturn, 1) := dk_172 (dk_at dksL_law_45 9 rfl rfl)
theorem dL_law_1171 : decode cL_law 1171 = .ok (.iload 5, 2) := dk_21 5 (dk_at dksL_law_45 10 rfl rfl)
theorem dL_law_1173 : decode cL_law 1173 = .ok (.ifCond .ne 15, 3) := dk_154 0 15 (dk_at dksL_law_45 12 rfl rfl)
theorem dL_law_1176 : decode cL_law 1176 = .ok (.aload_n 3, 1) := dk_45 (dk_at dksL_law_45 15 rfl rfl)
theorem dL_law_1177 : decode cL_law 1177 = .ok (.iconst 0, 1) := dk_3 (dk_at dksL_law_45 16 rfl rfl)
theorem dL_law_1178 : decode cL_law 1178 = .ok (.laload, 1) := dk_47 (dk_at dksL_law_45 17 rfl rfl)
theorem dL_law_1179 : decode cL_law 1179 = .ok (.iload 6, 2) := dk_21 6 (dk_at dksL_law_45 18 rfl rfl)
theorem dL_law_1181 : decode cL_law 1181 = .ok (.i2l, 1) := dk_133 (dk_at dksL_law_45 20 rfl rfl)
theorem dL_law_1182 : decode cL_law 1182 = .ok (.lcmp, 1) := dk_148 (dk_at dksL_law_45 21 rfl rfl)
theorem dL_law_1183 : decode cL_law 1183 = .ok (.ifCond .eq 5, 3) := dk_153 0 5 (dk_at dksL_law_46 0 rfl rfl)
theorem dL_law_1186 : decode cL_law 1186 = .ok (.iconst 0, 1) := dk_3 (dk_at dksL_law_46 3 rfl rfl)
theorem dL_law_1187 : decode cL_law 1187 = .ok (.ireturn, 1) := dk_172 (dk_at dksL_law_46 4 rfl rfl)
theorem dL_law_1188 : decode cL_law 1188 = .ok (.goto 1092, 3) := dk_167 4 68 (dk_at dksL_law_46 5 rfl rfl)
theorem dL_law_1191 : decode cL_law 1191 = .ok (.aload_n 1, 1) := dk_43 (dk_at dksL_law_46 8 rfl rfl)
theorem dL_law_1192 : decode cL_law 1192 = .ok (.aload_n 0, 1) := dk_42 (dk_at dksL_law_46 9 rfl rfl)
theorem dL_law_1193 : decode cL_law 1193 = .ok (.iload 4, 2) := dk_21 4 (dk_at dksL_law_46 10 rfl rfl)
theorem dL_law_1195 : decode cL_law 1195 = .ok (.iconst 1, 1) := dk_4 (dk_at dksL_law_46 12 rfl rfl)
theorem dL_law_1196 : decode cL_law 1196 = .ok (.iadd, 1) := dk_96 (dk_at dksL_law_46 13 rfl rfl)
theorem dL_law_1197 : decode cL_law 1197 = .ok (.iaload, 1) := dk_46 (dk_at dksL_law_46 14 rfl rfl)
theorem dL_law_1198 : decode cL_law 1198 = .ok (.aload_n 0, 1) := dk_42 (dk_at dksL_law_46 15 rfl rfl)
theorem dL_law_1199 : decode cL_law 1199 = .ok (.iload 4, 2) := dk_21 4 (dk_at dksL_law_46 16 rfl rfl)
theorem dL_law_1201 : decode cL_law 1201 = .ok (.iconst 2, 1) := dk_5 (dk_at dksL_law_46 18 rfl rfl)
theorem dL_law_1202 : decode cL_law 1202 = .ok (.iadd, 1) := dk_96 (dk_at dksL_law_46 19 rfl rfl)
theorem dL_law_1203 : decode cL_law 1203 = .ok (.iaload, 1) := dk_46 (dk_at dksL_law_46 20 rfl rfl)
theorem dL_law_1204 : decode cL_law 1204 = .ok (.aload_n 3, 1) := dk_45 (dk_at dksL_law_46 21 rfl rfl)
theorem dL_law_1205 : decode cL_law 1205 = .ok (.invokestatic 178, 3) := dk_184 0 178 (dk_at dksL_law_47 0 rfl rfl)
theorem dL_law_1208 : decode cL_law 1208 = .ok (.istore 5, 2) := dk_54 5 (dk_at dksL_law_47 3 rfl rfl)
theorem dL_law_1210 : decode cL_law 1210 = .ok (.aload_n 2, 1) := dk_44 (dk_at dksL_law_47 5 rfl rfl)
theorem dL_law_1211 : decode cL_law 1211 = .ok (.aload_n 0, 1) := dk_42 (dk_at dksL_law_47 6 rfl rfl)
theorem dL_law_1212 : decode cL_law 1212 = .ok (.iload 4, 2) := dk_21 4 (dk_at dksL_law_47 7 rfl rfl)
theorem dL_law_1214 : decode cL_law 1214 = .ok (.iconst 1, 1) := dk_4 (dk_at dksL_law_47 9 rfl rfl)
theorem dL_law_1215 : decode cL_law 1215 = .ok (.iadd, 1) := dk_96 (dk_at dksL_law_47 10 rfl rfl)
theorem dL_law_1216 : decode cL_law 1216 = .ok (.iaload, 1) := dk_46 (dk_at dksL_law_47 11 rfl rfl)
theorem dL_law_1217 : decode cL_law 1217 = .ok (.aload_n 0, 1) := dk_42 (dk_at dksL_law_47 12 rfl rfl)
theorem dL_law_1218 : decode cL_law 1218 = .ok (.iload 4, 2) := dk_21 4 (dk_at dksL_law_47 13 rfl rfl)
theorem dL_law_1220 : decode cL_law 1220 = .ok (.iconst 2, 1) := dk_5 (dk_at dksL_law_47 15 rfl rfl)
theorem dL_law_1221 : decode cL_law 1221 = .ok (.iadd, 1) := dk_96 (dk_at dksL_law_47 16 rfl rfl)
theorem dL_law_1222 : decode cL_law 1222 = .ok (.iaload, 1) := dk_46 (dk_at dksL_law_47 17 rfl rfl)
theorem dL_law_1223 : decode cL_law 1223 = .ok (.invokevirtual 180, 3) := dk_182 0 180 (dk_at dksL_law_47 18 rfl rfl)
theorem dL_law_1226 : decode cL_law 1226 = .ok (.istore 6, 2) := dk_54 6 (dk_at dksL_law_47 21 rfl rfl)
theorem dL_law_1228 : decode cL_law 1228 = .ok (.aload_n 2, 1) := dk_44 (dk_at dksL_law_47 23 rfl rfl)
theorem dL_law_1229 : decode cL_law 1229 = .ok (.invokevirtual 125, 3) := dk_182 0 125 (dk_at dksL_law_48 0 rfl rfl)
theorem dL_law_1232 : decode cL_law 1232 = .ok (.iload 5, 2) := dk_21 5 (dk_at dksL_law_48 3 rfl rfl)
theorem dL_law_1234 : decode cL_law 1234 = .ok (.if_icmp .eq 5, 3) := dk_159 0 5 (dk_at dksL_law_48 5 rfl rfl)
theorem dL_law_1237 : decode cL_law 1237 = .ok (.iconst 0, 1) := dk_3 (dk_at dksL_law_48 8 rfl rfl)
theorem dL_law_1238 : decode cL_law 1238 = .ok (.ireturn, 1) := dk_172 (dk_at dksL_law_48 9 rfl rfl)
theorem dL_law_1239 : decode cL_law 1239 = .ok (.iload 5, 2) := dk_21 5 (dk_at dksL_law_48 10 rfl rfl)
theorem dL_law_1241 : decode cL_law 1241 = .ok (.ifCond .ne 15, 3) := dk_154 0 15 (dk_at dksL_law_48 12 rfl rfl)
theorem dL_law_1244 : decode cL_law 1244 = .ok (.aload_n 3, 1) := dk_45 (dk_at dksL_law_48 15 rfl rfl)
theorem dL_law_1245 : decode cL_law 1245 = .ok (.iconst 0, 1) := dk_3 (dk_at dksL_law_48 16 rfl rfl)
theorem dL_law_1246 : decode cL_law 1246 = .ok (.laload, 1) := dk_47 (dk_at dksL_law_48 17 rfl rfl)
theorem dL_law_1247 : decode cL_law 1247 = .ok (.iload 6, 2) := dk_21 6 (dk_at dksL_law_48 18 rfl rfl)
theorem dL_law_1249 : decode cL_law 1249 = .ok (.i2l, 1) := dk_133 (dk_at dksL_law_48 20 rfl rfl)
theorem dL_law_1250 : decode cL_law 1250 = .ok (.lcmp, 1) := dk_148 (dk_at dksL_law_48 21 rfl rfl)
theorem dL_law_1251 : decode cL_law 1251 = .ok (.ifCond .eq 5, 3) := dk_153 0 5 (dk_at dksL_law_49 0 rfl rfl)
theorem dL_law_1254 : decode cL_law 1254 = .ok (.iconst 0, 1) := dk_3 (dk_at dksL_law_49 3 rfl rfl)
theorem dL_law_1255 : decode cL_law 1255 = .ok (.ireturn, 1) := dk_172 (dk_at dksL_law_49 4 rfl rfl)
theorem dL_law_1256 : decode cL_law 1256 = .ok (.goto 1024, 3) := dk_167 4 0 (dk_at dksL_law_49 5 rfl rfl)
theorem dL_law_1259 : decode cL_law 1259 = .ok (.aload_n 1, 1) := dk_43 (dk_at dksL_law_49 8 rfl rfl)
theorem dL_law_1260 : decode cL_law 1260 = .ok (.aload_n 0, 1) := dk_42 (dk_at dksL_law_49 9 rfl rfl)
theorem dL_law_1261 : decode cL_law 1261 = .ok (.iload 4, 2) := dk_21 4 (dk_at dksL_law_49 10 rfl rfl)
theorem dL_law_1263 : decode cL_law 1263 = .ok (.iconst 1, 1) := dk_4 (dk_at dksL_law_49 12 rfl rfl)
theorem dL_law_1264 : decode cL_law 1264 = .ok (.iadd, 1) := dk_96 (dk_at dksL_law_49 13 rfl rfl)
theorem dL_law_1265 : decode cL_law 1265 = .ok (.iaload, 1) := dk_46 (dk_at dksL_law_49 14 rfl rfl)
theorem dL_law_1266 : decode cL_law 1266 = .ok (.aload_n 0, 1) := dk_42 (dk_at dksL_law_49 15 rfl rfl)
theorem dL_law_1267 : decode cL_law 1267 = .ok (.iload 4, 2) := dk_21 4 (dk_at dksL_law_49 16 rfl rfl)
theorem dL_law_1269 : decode cL_law 1269 = .ok (.iconst 2, 1) := dk_5 (dk_at dksL_law_49 18 rfl rfl)
theorem dL_law_1270 : decode cL_law 1270 = .ok (.iadd, 1) := dk_96 (dk_at dksL_law_49 19 rfl rfl)
theorem dL_law_1271 : decode cL_law 1271 = .ok (.iaload, 1) := dk_46 (dk_at dksL_law_49 20 rfl rfl)
theorem dL_law_1272 : decode cL_law 1272 = .ok (.aload_n 0, 1) := dk_42 (dk_at dksL_law_49 21 rfl rfl)
theorem dL_law_1273 : decode cL_law 1273 = .ok (.iload 4, 2) := dk_21 4 (dk_at dksL_law_49 22 rfl rfl)
theorem dL_law_1275 : decode cL_law 1275 = .ok (.iconst 3, 1) := dk_6 (dk_at dksL_law_50 0 rfl rfl)
theorem dL_law_1276 : decode cL_law 1276 = .ok (.iadd, 1) := dk_96 (dk_at dksL_law_50 1 rfl rfl)
theorem dL_law_1277 : decode cL_law 1277 = .ok (.iaload, 1) := dk_46 (dk_at dksL_law_50 2 rfl rfl)
theorem dL_law_1278 : decode cL_law 1278 = .ok (.aload_n 3, 1) := dk_45 (dk_at dksL_law_50 3 rfl rfl)
theorem dL_law_1279 : decode cL_law 1279 = .ok (.invokestatic 181, 3) := dk_184 0 181 (dk_at dksL_law_50 4 rfl rfl)
theorem dL_law_1282 : decode cL_law 1282 = .ok (.istore 5, 2) := dk_54 5 (dk_at dksL_law_50 7 rfl rfl)
theorem dL_law_1284 : decode cL_law 1284 = .ok (.aload_n 2, 1) := dk_44 (dk_at dksL_law_50 9 rfl rfl)
theorem dL_law_1285 : decode cL_law 1285 = .ok (.aload_n 0, 1) := dk_42 (dk_at dksL_law_50 10 rfl rfl)
theorem dL_law_1286 : decode cL_law 1286 = .ok (.iload 4, 2) := dk_21 4 (dk_at dksL_law_50 11 rfl rfl)
theorem dL_law_1288 : decode cL_law 1288 = .ok (.iconst 1, 1) := dk_4 (dk_at dksL_law_50 13 rfl rfl)
theorem dL_law_1289 : decode cL_law 1289 = .ok (.iadd, 1) := dk_96 (dk_at dksL_law_50 14 rfl rfl)
theorem dL_law_1290 : decode cL_law 1290 = .ok (.iaload, 1) := dk_46 (dk_at dksL_law_50 15 rfl rfl)
theorem dL_law_1291 : decode cL_law 1291 = .ok (.aload_n 0, 1) := dk_42 (dk_at dksL_law_50 16 rfl rfl)
theorem dL_law_1292 : decode cL_law 1292 = .ok (.iload 4, 2) := dk_21 4 (dk_at dksL_law_50 17 rfl rfl)
theorem dL_law_1294 : decode cL_law 1294 = .ok (.iconst 2, 1) := dk_5 (dk_at dksL_law_50 19 rfl rfl)
theorem dL_law_1295 : decode cL_law 1295 = .ok (.iadd, 1) := dk_96 (dk_at dksL_law_50 20 rfl rfl)
theorem dL_law_1296 : decode cL_law 1296 = .ok (.iaload, 1) := dk_46 (dk_at dksL_law_50 21 rfl rfl)
theorem dL_law_1297 : decode cL_law 1297 = .ok (.aload_n 0, 1) := dk_42 (dk_at dksL_law_50 22 rfl rfl)
theorem dL_law_1298 : decode cL_law 1298 = .ok (.iload 4, 2) := dk_21 4 (dk_at dksL_law_51 0 rfl rfl)
theorem dL_law_1300 : decode cL_law 1300 = .ok (.iconst 3, 1) := dk_6 (dk_at dksL_law_51 2 rfl rfl)
theorem dL_law_1301 : decode cL_law 1301 = .ok (.iadd, 1) := dk_96 (dk_at dksL_law_51 3 rfl rfl)
theorem dL_law_1302 : decode cL_law 1302 = .ok (.iaload, 1) := dk_46 (dk_at dksL_law_51 4 rfl rfl)
theorem dL_law_1303 : decode cL_law 1303 = .ok (.invokevirtual 184, 3) := dk_182 0 184 (dk_at dksL_law_51 5 rfl rfl)
theorem dL_law_1306 : decode cL_law 1306 = .ok (.istore 6, 2) := dk_54 6 (dk_at dksL_law_51 8 rfl rfl)
theorem dL_law_1308 : decode cL_law 1308 = .ok (.aload_n 2, 1) := dk_44 (dk_at dksL_law_51 10 rfl rfl)
theorem dL_law_1309 : decode cL_law 1309 = .ok (.invokevirtual 125, 3) := dk_182 0 125 (dk_at dksL_law_51 11 rfl rfl)
theorem dL_law_1312 : decode cL_law 1312 = .ok (.iload 5, 2) := dk_21 5 (dk_at dksL_law_51 14 rfl rfl)
theorem dL_law_1314 : decode cL_law 1314 = .ok (.if_icmp .eq 5, 3) := dk_159 0 5 (dk_at dksL_law_51 16 rfl rfl)
theorem dL_law_1317 : decode cL_law 1317 = .ok (.iconst 0, 1) := dk_3 (dk_at dksL_law_51 19 rfl rfl)
theorem dL_law_1318 : decode cL_law 1318 = .ok (.ireturn, 1) := dk_172 (dk_at dksL_law_51 20 rfl rfl)
theorem dL_law_1319 : decode cL_law 1319 = .ok (.iload 5, 2) := dk_21 5 (dk_at dksL_law_51 21 rfl rfl)
theorem dL_law_1321 : decode cL_law 1321 = .ok (.ifCond .ne 15, 3) := dk_154 0 15 (dk_at dksL_law_52 0 rfl rfl)
theorem dL_law_1324 : decode cL_law 1324 = .ok (.aload_n 3, 1) := dk_45 (dk_at dksL_law_52 3 rfl rfl)
theorem dL_law_1325 : decode cL_law 1325 = .ok (.iconst 0, 1) := dk_3 (dk_at dksL_law_52 4 rfl rfl)
theorem dL_law_1326 : decode cL_law 1326 = .ok (.laload, 1) := dk_47 (dk_at dksL_law_52 5 rfl rfl)
theorem dL_law_1327 : decode cL_law 1327 = .ok (.iload 6, 2) := dk_21 6 (dk_at dksL_law_52 6 rfl rfl)
theorem dL_law_1329 : decode cL_law 1329 = .ok (.i2l, 1) := dk_133 (dk_at dksL_law_52 8 rfl rfl)
theorem dL_law_1330 : decode cL_law 1330 = .ok (.lcmp, 1) := dk_148 (dk_at dksL_law_52 9 rfl rfl)
theorem dL_law_1331 : decode cL_law 1331 = .ok (.ifCond .eq 5, 3) := dk_153 0 5 (dk_at dksL_law_52 10 rfl rfl)
theorem dL_law_1334 : decode cL_law 1334 = .ok (.iconst 0, 1) := dk_3 (dk_at dksL_law_52 13 rfl rfl)
theorem dL_law_1335 : decode cL_law 1335 = .ok (.ireturn, 1) := dk_172 (dk_at dksL_law_52 14 rfl rfl)
theorem dL_law_1336 : decode cL_law 1336 = .ok (.goto 944, 3) := dk_167 3 176 (dk_at dksL_law_52 15 rfl rfl)
theorem dL_law_1339 : decode cL_law 1339 = .ok (.aload_n 1, 1) := dk_43 (dk_at dksL_law_52 18 rfl rfl)
theorem dL_law_1340 : decode cL_law 1340 = .ok (.aload_n 0, 1) := dk_42 (dk_at dksL_law_52 19 rfl rfl)
theorem dL_law_1341 : decode cL_law 1341 = .ok (.iload 4, 2) := dk_21 4 (dk_at dksL_law_52 20 rfl rfl)
theorem dL_law_1343 : decode cL_law 1343 = .ok (.iconst 1, 1) := dk_4 (dk_at dksL_law_52 22 rfl rfl)
theorem dL_law_1344 : decode cL_law 1344 = .ok (.iadd, 1) := dk_96 (dk_at dksL_law_52 23 rfl rfl)
theorem dL_law_1345 : decode cL_law 1345 = .ok (.iaload, 1) := dk_46 (dk_at dksL_law_53 0 rfl rfl)
theorem dL_law_1346 : decode cL_law 1346 = .ok (.aload_n 3, 1) := dk_45 (dk_at dksL_law_53 1 rfl rfl)
theorem dL_law_1347 : decode cL_law 1347 = .ok (.invokestatic 185, 3) := dk_184 0 185 (dk_at dksL_law_53 2 rfl rfl)
theorem dL_law_1350 : decode cL_law 1350 = .ok (.istore 5, 2) := dk_54 5 (dk_at dksL_law_53 5 rfl rfl)
theorem dL_law_1352 : decode cL_law 1352 = .ok (.aload_n 2, 1) := dk_44 (dk_at dksL_law_53 7 rfl rfl)
theorem dL_law_1353 : decode cL_law 1353 = .ok (.aload_n 0, 1) := dk_42 (dk_at dksL_law_53 8 rfl rfl)
theorem dL_law_1354 : decode cL_law 1354 = .ok (.iload 4, 2) := dk_21 4 (dk_at dksL_law_53 9 rfl rfl)
theorem dL_law_1356 : decode cL_law 1356 = .ok (.iconst 1, 1) := dk_4 (dk_at dksL_law_53 11 rfl rfl)
theorem dL_law_1357 : decode cL_law 1357 = .ok (.iadd, 1) := dk_96 (dk_at dksL_law_53 12 rfl rfl)
theorem dL_law_1358 : decode cL_law 1358 = .ok (.iaload, 1) := dk_46 (dk_at dksL_law_53 13 rfl rfl)
theorem dL_law_1359 : decode cL_law 1359 = .ok (.invokevirtual 187, 3) := dk_182 0 187 (dk_at dksL_law_53 14 rfl rfl)
theorem dL_law_1362 : decode cL_law 1362 = .ok (.istore 6, 2) := dk_54 6 (dk_at dksL_law_53 17 rfl rfl)
theorem dL_law_1364 : decode cL_law 1364 = .ok (.aload_n 2, 1) := dk_44 (dk_at dksL_law_53 19 rfl rfl)
theorem dL_law_1365 : decode cL_law 1365 = .ok (.invokevirtual 125, 3) := dk_182 0 125 (dk_at dksL_law_53 20 rfl rfl)
theorem dL_law_1368 : decode cL_law 1368 = .ok (.iload 5, 2) := dk_21 5 (dk_at dksL_law_54 0 rfl rfl)
theorem dL_law_1370 : decode cL_law 1370 = .ok (.if_icmp .eq 5, 3) := dk_159 0 5 (dk_at dksL_law_54 2 rfl rfl)
theorem dL_law_1373 : decode cL_law 1373 = .ok (.iconst 0, 1) := dk_3 (dk_at dksL_law_54 5 rfl rfl)
theorem dL_law_1374 : decode cL_law 1374 = .ok (.ireturn, 1) := dk_172 (dk_at dksL_law_54 6 rfl rfl)
theorem dL_law_1375 : decode cL_law 1375 = .ok (.iload 5, 2) := dk_21 5 (dk_at dksL_law_54 7 rfl rfl)
theorem dL_law_1377 : decode cL_law 1377 = .ok (.ifCond .ne 15, 3) := dk_154 0 15 (dk_at dksL_law_54 9 rfl rfl)
theorem dL_law_1380 : decode cL_law 1380 = .ok (.aload_n 3, 1) := dk_45 (dk_at dksL_law_54 12 rfl rfl)
theorem dL_law_1381 : decode cL_law 1381 = .ok (.iconst 0, 1) := dk_3 (dk_at dksL_law_54 13 rfl rfl)
theorem dL_law_1382 : decode cL_law 1382 = .ok (.laload, 1) := dk_47 (dk_at dksL_law_54 14 rfl rfl)
theorem dL_law_1383 : decode cL_law 1383 = .ok (.iload 6, 2) := dk_21 6 (dk_at dksL_law_54 15 rfl rfl)
theorem dL_law_1385 : decode cL_law 1385 = .ok (.i2l, 1) := dk_133 (dk_at dksL_law_54 17 rfl rfl)
theorem dL_law_1386 : decode cL_law 1386 = .ok (.lcmp, 1) := dk_148 (dk_at dksL_law_54 18 rfl rfl)
theorem dL_law_1387 : decode cL_law 1387 = .ok (.ifCond .eq 5, 3) := dk_153 0 5 (dk_at dksL_law_54 19 rfl rfl)
theorem dL_law_1390 : decode cL_law 1390 = .ok (.iconst 0, 1) := dk_3 (dk_at dksL_law_54 22 rfl rfl)
theorem dL_law_1391 : decode cL_law 1391 = .ok (.ireturn, 1) := dk_172 (dk_at dksL_law_54 23 rfl rfl)
theorem dL_law_1392 : decode cL_law 1392 = .ok (.goto 888, 3) := dk_167 3 120 (dk_at dksL_law_55 0 rfl rfl)
theorem dL_law_1395 : decode cL_law 1395 = .ok (.aload_n 1, 1) := dk_43 (dk_at dksL_law_55 3 rfl rfl)
theorem dL_law_1396 : decode cL_law 1396 = .ok (.invokevirtual 188, 3) := dk_182 0 188 (dk_at dksL_law_55 4 rfl rfl)
theorem dL_law_1399 : decode cL_law 1399 = .ok (.aload_n 2, 1) := dk_44 (dk_at dksL_law_55 7 rfl rfl)
theorem dL_law_1400 : decode cL_law 1400 = .ok (.invokevirtual 191, 3) := dk_182 0 191 (dk_at dksL_law_55 8 rfl rfl)
theorem dL_law_1403 : decode cL_law 1403 = .ok (.if_icmp .eq 877, 3) := dk_159 3 109 (dk_at dksL_law_55 11 rfl rfl)
theorem dL_law_1406 : decode cL_law 1406 = .ok (.iconst 0, 1) := dk_3 (dk_at dksL_law_55 14 rfl rfl)
theorem dL_law_1407 : decode cL_law 1407 = .ok (.ireturn, 1) := dk_172 (dk_at dksL_law_55 15 rfl rfl)
theorem dL_law_1408 : decode cL_law 1408 = .ok (.aload_n 1, 1) := dk_43 (dk_at dksL_law_55 16 rfl rfl)
theorem dL_law_1409 : decode cL_law 1409 = .ok (.aload_n 0, 1) := dk_42 (dk_at dksL_law_55 17 rfl rfl)
theorem dL_law_1410 : decode cL_law 1410 = .ok (.iload 4, 2) := dk_21 4 (dk_at dksL_law_55 18 rfl rfl)
theorem dL_law_1412 : decode cL_law 1412 = .ok (.iconst 1, 1) := dk_4 (dk_at dksL_law_55 20 rfl rfl)
theorem dL_law_1413 : decode cL_law 1413 = .ok (.iadd, 1) := dk_96 (dk_at dksL_law_55 21 rfl rfl)
theorem dL_law_1414 : decode cL_law 1414 = .ok (.iaload, 1) := dk_46 (dk_at dksL_law_55 22 rfl rfl)
theorem dL_law_1415 : decode cL_law 1415 = .ok (.aload_n 3, 1) := dk_45 (dk_at dksL_law_55 23 rfl rfl)
theorem dL_law_1416 : decode cL_law 1416 = .ok (.invokestatic 192, 3) := dk_184 0 192 (dk_at dksL_law_56 0 rfl rfl)
theorem dL_law_1419 : decode cL_law 1419 = .ok (.istore 5, 2) := dk_54 5 (dk_at dksL_law_56 3 rfl rfl)
theorem dL_law_1421 : decode cL_law 1421 = .ok (.aload_n 2, 1) := dk_44 (dk_at dksL_law_56 5 rfl rfl)
theorem dL_law_1422 : decode cL_law 1422 = .ok (.aload_n 0, 1) := dk_42 (dk_at dksL_law_56 6 rfl rfl)
theorem dL_law_1423 : decode cL_law 1423 = .ok (.iload 4, 2) := dk_21 4 (dk_at dksL_law_56 7 rfl rfl)
theorem dL_law_1425 : decode cL_law 1425 = .ok (.iconst 1, 1) := dk_4 (dk_at dksL_law_56 9 rfl rfl)
theorem dL_law_1426 : decode cL_law 1426 = .ok (.iadd, 1) := dk_96 (dk_at dksL_law_56 10 rfl rfl)
theorem dL_law_1427 : decode cL_law 1427 = .ok (.iaload, 1) := dk_46 (dk_at dksL_law_56 11 rfl rfl)
theorem dL_law_1428 : decode cL_law 1428 = .ok (.invokevirtual 194, 3) := dk_182 0 194 (dk_at dksL_law_56 12 rfl rfl)
theorem dL_law_1431 : decode cL_law 1431 = .ok (.istore 6, 2) := dk_54 6 (dk_at dksL_law_56 15 rfl rfl)
theorem dL_law_1433 : decode cL_law 1433 = .ok (.aload_n 2, 1) := dk_44 (dk_at dksL_law_56 17 rfl rfl)
theorem dL_law_1434 : decode cL_law 1434 = .ok (.invokevirtual 125, 3) := dk_182 0 125 (dk_at dksL_law_56 18 rfl rfl)
theorem dL_law_1437 : decode cL_law 1437 = .ok (.iload 5, 2) := dk_21 5 (dk_at dksL_law_56 21 rfl rfl)
theorem dL_law_1439 : decode cL_law 1439 = .ok (.if_icmp .eq 5, 3) := dk_159 0 5 (dk_at dksL_law_57 0 rfl rfl)
theorem dL_law_1442 : decode cL_law 1442 = .ok (.iconst 0, 1) := dk_3 (dk_at dksL_law_57 3 rfl rfl)
theorem dL_law_1443 : decode cL_law 1443 = .ok (.ireturn, 1) := dk_172 (dk_at dksL_law_57 4 rfl rfl)
theorem dL_law_1444 : decode cL_law 1444 = .ok (.iload 5, 2) := dk_21 5 (dk_at dksL_law_57 5 rfl rfl)
theorem dL_law_1446 : decode cL_law 1446 = .ok (.ifCond .ne 15, 3) := dk_154 0 15 (dk_at dksL_law_57 7 rfl rfl)
theorem dL_law_1449 : decode cL_law 1449 = .ok (.aload_n 3, 1) := dk_45 (dk_at dksL_law_57 10 rfl rfl)
theorem dL_law_1450 : decode cL_law 1450 = .ok (.iconst 0, 1) := dk_3 (dk_at dksL_law_57 11 rfl rfl)
theorem dL_law_1451 : decode cL_law 1451 = .ok (.laload, 1) := dk_47 (dk_at dksL_law_57 12 rfl rfl)
theorem dL_law_1452 : decode cL_law 1452 = .ok (.iload 6, 2) := dk_21 6 (dk_at dksL_law_57 13 rfl rfl)
theorem dL_law_1454 : decode cL_law 1454 = .ok (.i2l, 1) := dk_133 (dk_at dksL_law_57 15 rfl rfl)
theorem dL_law_1455 : decode cL_law 1455 = .ok (.lcmp, 1) := dk_148 (dk_at dksL_law_57 16 rfl rfl)
theorem dL_law_1456 : decode cL_law 1456 = .ok (.ifCond .eq 5, 3) := dk_153 0 5 (dk_at dksL_law_57 17 rfl rfl)
theorem dL_law_1459 : decode cL_law 1459 = .ok (.iconst 0, 1) := dk_3 (dk_at dksL_law_57 20 rfl rfl)
theorem dL_law_1460 : decode cL_law 1460 = .ok (.ireturn, 1) := dk_172 (dk_at dksL_law_57 21 rfl rfl)
theorem dL_law_1461 : decode cL_law 1461 = .ok (.goto 819, 3) := dk_167 3 51 (dk_at dksL_law_58 0 rfl rfl)
theorem dL_law_1464 : decode cL_law 1464 = .ok (.aload_n 1, 1) := dk_43 (dk_at dksL_law_58 3 rfl rfl)
theorem dL_law_1465 : decode cL_law 1465 = .ok (.aload_n 0, 1) := dk_42 (dk_at dksL_law_58 4 rfl rfl)
theorem dL_law_1466 : decode cL_law 1466 = .ok (.iload 4, 2) := dk_21 4 (dk_at dksL_law_58 5 rfl rfl)
theorem dL_law_1468 : decode cL_law 1468 = .ok (.iconst 1, 1) := dk_4 (dk_at dksL_law_58 7 rfl rfl)
theorem dL_law_1469 : decode cL_law 1469 = .ok (.iadd, 1) := dk_96 (dk_at dksL_law_58 8 rfl rfl)
theorem dL_law_1470 : decode cL_law 1470 = .ok (.iaload, 1) := dk_46 (dk_at dksL_law_58 9 rfl rfl)
theorem dL_law_1471 : decode cL_law 1471 = .ok (.aload_n 3, 1) := dk_45 (dk_at dksL_law_58 10 rfl rfl)
theorem dL_law_1472 : decode cL_law 1472 = .ok (.invokestatic 195, 3) := dk_184 0 195 (dk_at dksL_law_58 11 rfl rfl)
theorem dL_law_1475 : decode cL_law 1475 = .ok (.istore 5, 2) := dk_54 5 (dk_at dksL_law_58 14 rfl rfl)
theorem dL_law_1477 : decode cL_law 1477 = .ok (.aload_n 2, 1) := dk_44 (dk_at dksL_law_58 16 rfl rfl)
theorem dL_law_1478 : decode cL_law 1478 = .ok (.aload_n 0, 1) := dk_42 (dk_at dksL_law_58 17 rfl rfl)
theorem dL_law_1479 : decode cL_law 1479 = .ok (.iload 4, 2) := dk_21 4 (dk_at dksL_law_58 18 rfl rfl)
theorem dL_law_1481 : decode cL_law 1481 = .ok (.iconst 1, 1) := dk_4 (dk_at dksL_law_58 20 rfl rfl)
theorem dL_law_1482 : decode cL_law 1482 = .ok (.iadd, 1) := dk_96 (dk_at dksL_law_58 21 rfl rfl)
theorem dL_law_1483 : decode cL_law 1483 = .ok (.iaload, 1) := dk_46 (dk_at dksL_law_58 22 rfl rfl)
theorem dL_law_1484 : decode cL_law 1484 = .ok (.invokevirtual 197, 3) := dk_182 0 197 (dk_at dksL_law_59 0 rfl rfl)
theorem dL_law_1487 : decode cL_law 1487 = .ok (.istore 6, 2) := dk_54 6 (dk_at dksL_law_59 3 rfl rfl)
theorem dL_law_1489 : decode cL_law 1489 = .ok (.aload_n 2, 1) := dk_44 (dk_at dksL_law_59 5 rfl rfl)
theorem dL_law_1490 : decode cL_law 1490 = .ok (.invokevirtual 125, 3) := dk_182 0 125 (dk_at dksL_law_59 6 rfl rfl)
theorem dL_law_1493 : decode cL_law 1493 = .ok (.iload 5, 2) := dk_21 5 (dk_at dksL_law_59 9 rfl rfl)
theorem dL_law_1495 : decode cL_law 1495 = .ok (.if_icmp .eq 5, 3) := dk_159 0 5 (dk_at dksL_law_59 11 rfl rfl)
theorem dL_law_1498 : decode cL_law 1498 = .ok (.iconst 0, 1) := dk_3 (dk_at dksL_law_59 14 rfl rfl)
theorem dL_law_1499 : decode cL_law 1499 = .ok (.ireturn, 1) := dk_172 (dk_at dksL_law_59 15 rfl rfl)
theorem dL_law_1500 : decode cL_law 1500 = .ok (.iload 5, 2) := dk_21 5 (dk_at dksL_law_59 16 rfl rfl)
theorem dL_law_1502 : decode cL_law 1502 = .ok (.ifCond .ne 15, 3) := dk_154 0 15 (dk_at dksL_law_59 18 rfl rfl)
theorem dL_law_1505 : decode cL_law 1505 = .ok (.aload_n 3, 1) := dk_45 (dk_at dksL_law_59 21 rfl rfl)
theorem dL_law_1506 : decode cL_law 1506 = .ok (.iconst 0, 1) := dk_3 (dk_at dksL_law_59 22 rfl rfl)
theorem dL_law_1507 : decode cL_law 1507 = .ok (.laload, 1) := dk_47 (dk_at dksL_law_59 23 rfl rfl)
theorem dL_law_1508 : decode cL_law 1508 = .ok (.iload 6, 2) := dk_21 6 (dk_at dksL_law_60 0 rfl rfl)
theorem dL_law_1510 : decode cL_law 1510 = .ok (.i2l, 1) := dk_133 (dk_at dksL_law_60 2 rfl rfl)
theorem dL_law_1511 : decode cL_law 1511 = .ok (.lcmp, 1) := dk_148 (dk_at dksL_law_60 3 rfl rfl)
theorem dL_law_1512 : decode cL_law 1512 = .ok (.ifCond .eq 5, 3) := dk_153 0 5 (dk_at dksL_law_60 4 rfl rfl)
theorem dL_law_1515 : decode cL_law 1515 = .ok (.iconst 0, 1) := dk_3 (dk_at dksL_law_60 7 rfl rfl)
theorem dL_law_1516 : decode cL_law 1516 = .ok (.ireturn, 1) := dk_172 (dk_at dksL_law_60 8 rfl rfl)
theorem dL_law_1517 : decode cL_law 1517 = .ok (.goto 763, 3) := dk_167 2 251 (dk_at dksL_law_60 9 rfl rfl)
theorem dL_law_1520 : decode cL_law 1520 = .ok (.aload_n 1, 1) := dk_43 (dk_at dksL_law_60 12 rfl rfl)
theorem dL_law_1521 : decode cL_law 1521 = .ok (.aload_n 0, 1) := dk_42 (dk_at dksL_law_60 13 rfl rfl)
theorem dL_law_1522 : decode cL_law 1522 = .ok (.iload 4, 2) := dk_21 4 (dk_at dksL_law_60 14 rfl rfl)
theorem dL_law_1524 : decode cL_law 1524 = .ok (.iconst 1, 1) := dk_4 (dk_at dksL_law_60 16 rfl rfl)
theorem dL_law_1525 : decode cL_law 1525 = .ok (.iadd, 1) := dk_96 (dk_at dksL_law_60 17 rfl rfl)
theorem dL_law_1526 : decode cL_law 1526 = .ok (.iaload, 1) := dk_46 (dk_at dksL_law_60 18 rfl rfl)
theorem dL_law_1527 : decode cL_law 1527 = .ok (.aload_n 3, 1) := dk_45 (dk_at dksL_law_60 19 rfl rfl)
theorem dL_law_1528 : decode cL_law 1528 = .ok (.invokestatic 198, 3) := dk_184 0 198 (dk_at dksL_law_60 20 rfl rfl)
theorem dL_law_1531 : decode cL_law 1531 = .ok (.istore 5, 2) := dk_54 5 (dk_at dksL_law_61 0 rfl rfl)
theorem dL_law_1533 : decode cL_law 1533 = .ok (.aload_n 2, 1) := dk_44 (dk_at dksL_law_61 2 rfl rfl)
theorem dL_law_1534 : decode cL_law 1534 = .ok (.aload_n 0, 1) := dk_42 (dk_at dksL_law_61 3 rfl rfl)
theorem dL_law_1535 : decode cL_law 1535 = .ok (.iload 4, 2) := dk_21 4 (dk_at dksL_law_61 4 rfl rfl)
theorem dL_law_1537 : decode cL_law 1537 = .ok (.iconst 1, 1) := dk_4 (dk_at dksL_law_61 6 rfl rfl)
theorem dL_law_1538 : decode cL_law 1538 = .ok (.iadd, 1) := dk_96 (dk_at dksL_law_61 7 rfl rfl)
theorem dL_law_1539 : decode cL_law 1539 = .ok (.iaload, 1) := dk_46 (dk_at dksL_law_61 8 rfl rfl)
theorem dL_law_1540 : decode cL_law 1540 = .ok (.invokevirtual 200, 3) := dk_182 0 200 (dk_at dksL_law_61 9 rfl rfl)
theorem dL_law_1543 : decode cL_law 1543 = .ok (.istore 6, 2) := dk_54 6 (dk_at dksL_law_61 12 rfl rfl)
theorem dL_law_1545 : decode cL_law 1545 = .ok (.aload_n 2, 1) := dk_44 (dk_at dksL_law_61 14 rfl rfl)
theorem dL_law_1546 : decode cL_law 1546 = .ok (.invokevirtual 125, 3) := dk_182 0 125 (dk_at dksL_law_61 15 rfl rfl)
theorem dL_law_1549 : decode cL_law 1549 = .ok (.iload 5, 2) := dk_21 5 (dk_at dksL_law_61 18 rfl rfl)
theorem dL_law_1551 : decode cL_law 1551 = .ok (.if_icmp .eq 5, 3) := dk_159 0 5 (dk_at dksL_law_61 20 rfl rfl)
theorem dL_law_1554 : decode cL_law 1554 = .ok (.iconst 0, 1) := dk_3 (dk_at dksL_law_61 23 rfl rfl)
theorem dL_law_1555 : decode cL_law 1555 = .ok (.ireturn, 1) := dk_172 (dk_at dksL_law_62 0 rfl rfl)
theorem dL_law_1556 : decode cL_law 1556 = .ok (.iload 5, 2) := dk_21 5 (dk_at dksL_law_62 1 rfl rfl)
theorem dL_law_1558 : decode cL_law 1558 = .ok (.ifCond .ne 15, 3) := dk_154 0 15 (dk_at dksL_law_62 3 rfl rfl)
theorem dL_law_1561 : decode cL_law 1561 = .ok (.aload_n 3, 1) := dk_45 (dk_at dksL_law_62 6 rfl rfl)
theorem dL_law_1562 : decode cL_law 1562 = .ok (.iconst 0, 1) := dk_3 (dk_at dksL_law_62 7 rfl rfl)
theorem dL_law_1563 : decode cL_law 1563 = .ok (.laload, 1) := dk_47 (dk_at dksL_law_62 8 rfl rfl)
theorem dL_law_1564 : decode cL_law 1564 = .ok (.iload 6, 2) := dk_21 6 (dk_at dksL_law_62 9 rfl rfl)
theorem dL_law_1566 : decode cL_law 1566 = .ok (.i2l, 1) := dk_133 (dk_at dksL_law_62 11 rfl rfl)
theorem dL_law_1567 : decode cL_law 1567 = .ok (.lcmp, 1) := dk_148 (dk_at dksL_law_62 12 rfl rfl)
theorem dL_law_1568 : decode cL_law 1568 = .ok (.ifCond .eq 5, 3) := dk_153 0 5 (dk_at dksL_law_62 13 rfl rfl)
theorem dL_law_1571 : decode cL_law 1571 = .ok (.iconst 0, 1) := dk_3 (dk_at dksL_law_62 16 rfl rfl)
theorem dL_law_1572 : decode cL_law 1572 = .ok (.ireturn, 1) := dk_172 (dk_at dksL_law_62 17 rfl rfl)
theorem dL_law_1573 : decode cL_law 1573 = .ok (.goto 707, 3) := dk_167 2 195 (dk_at dksL_law_62 18 rfl rfl)
theorem dL_law_1576 : decode cL_law 1576 = .ok (.aload_n 1, 1) := dk_43 (dk_at dksL_law_62 21 rfl rfl)
theorem dL_law_1577 : decode cL_law 1577 = .ok (.aload_n 0, 1) := dk_42 (dk_at dksL_law_62 22 rfl rfl)
theorem dL_law_1578 : decode cL_law 1578 = .ok (.iload 4, 2) := dk_21 4 (dk_at dksL_law_63 0 rfl rfl)
theorem dL_law_1580 : decode cL_law 1580 = .ok (.iconst 1, 1) := dk_4 (dk_at dksL_law_63 2 rfl rfl)
theorem dL_law_1581 : decode cL_law 1581 = .ok (.iadd, 1) := dk_96 (dk_at dksL_law_63 3 rfl rfl)
theorem dL_law_1582 : decode cL_law 1582 = .ok (.iaload, 1) := dk_46 (dk_at dksL_law_63 4 rfl rfl)
theorem dL_law_1583 : decode cL_law 1583 = .ok (.aload_n 0, 1) := dk_42 (dk_at dksL_law_63 5 rfl rfl)
theorem dL_law_1584 : decode cL_law 1584 = .ok (.iload 4, 2) := dk_21 4 (dk_at dksL_law_63 6 rfl rfl)
theorem dL_law_1586 : decode cL_law 1586 = .ok (.iconst 2, 1) := dk_5 (dk_at dksL_law_63 8 rfl rfl)
theorem dL_law_1587 : decode cL_law 1587 = .ok (.iadd, 1) := dk_96 (dk_at dksL_law_63 9 rfl rfl)
theorem dL_law_1588 : decode cL_law 1588 = .ok (.iaload, 1) := dk_46 (dk_at dksL_law_63 10 rfl rfl)
theorem dL_law_1589 : decode cL_law 1589 = .ok (.aload_n 3, 1) := dk_45 (dk_at dksL_law_63 11 rfl rfl)
theorem dL_law_1590 : decode cL_law 1590 = .ok (.invokestatic 201, 3) := dk_184 0 201 (dk_at dksL_law_63 12 rfl rfl)
theorem dL_law_1593 : decode cL_law 1593 = .ok (.istore 5, 2) := dk_54 5 (dk_at dksL_law_63 15 rfl rfl)
theorem dL_law_1595 : decode cL_law 1595 = .ok (.aload_n 2, 1) := dk_44 (dk_at dksL_law_63 17 rfl rfl)
theorem dL_law_1596 : decode cL_law 1596 = .ok (.aload_n 0, 1) := dk_42 (dk_at dksL_law_63 18 rfl rfl)
theorem dL_law_1597 : decode cL_law 1597 = .ok (.iload 4, 2) := dk_21 4 (dk_at dksL_law_63 19 rfl rfl)
theorem dL_law_1599 : decode cL_law 1599 = .ok (.iconst 1, 1) := dk_4 (dk_at dksL_law_63 21 rfl rfl)
theorem dL_law_1600 : decode cL_law 1600 = .ok (.iadd, 1) := dk_96 (dk_at dksL_law_63 22 rfl rfl)
theorem dL_law_1601 : decode cL_law 1601 = .ok (.iaload, 1) := dk_46 (dk_at dksL_law_63 23 rfl rfl)
theorem dL_law_1602 : decode cL_law 1602 = .ok (.aload_n 0, 1) := dk_42 (dk_at dksL_law_64 0 rfl rfl)
theorem dL_law_1603 : decode cL_law 1603 = .ok (.iload 4, 2) := dk_21 4 (dk_at dksL_law_64 1 rfl rfl)
theorem dL_law_1605 : decode cL_law 1605 = .ok (.iconst 2, 1) := dk_5 (dk_at dksL_law_64 3 rfl rfl)
theorem dL_law_1606 : decode cL_law 1606 = .ok (.iadd, 1) := dk_96 (dk_at dksL_law_64 4 rfl rfl)
theorem dL_law_1607 : decode cL_law 1607 = .ok (.iaload, 1) := dk_46 (dk_at dksL_law_64 5 rfl rfl)
theorem dL_law_1608 : decode cL_law 1608 = .ok (.invokevirtual 203, 3) := dk_182 0 203 (dk_at dksL_law_64 6 rfl rfl)
theorem dL_law_1611 : decode cL_law 1611 = .ok (.istore 6, 2) := dk_54 6 (dk_at dksL_law_64 9 rfl rfl)
theorem dL_law_1613 : decode cL_law 1613 = .ok (.aload_n 2, 1) := dk_44 (dk_at dksL_law_64 11 rfl rfl)
theorem dL_law_1614 : decode cL_law 1614 = .ok (.invokevirtual 125, 3) := dk_182 0 125 (dk_at dksL_law_64 12 rfl rfl)
theorem dL_law_1617 : decode cL_law 1617 = .ok (.iload 5, 2) := dk_21 5 (dk_at dksL_law_64 15 rfl rfl)
theorem dL_law_1619 : decode cL_law 1619 = .ok (.if_icmp .eq 5, 3) := dk_159 0 5 (dk_at dksL_law_64 17 rfl rfl)
theorem dL_law_1622 : decode cL_law 1622 = .ok (.iconst 0, 1) := dk_3 (dk_at dksL_law_64 20 rfl rfl)
theorem dL_law_1623 : decode cL_law 1623 = .ok (.ireturn, 1) := dk_172 (dk_at dksL_law_64 21 rfl rfl)
theorem dL_law_1624 : decode cL_law 1624 = .ok (.iload 5, 2) := dk_21 5 (dk_at dksL_law_64 22 rfl rfl)
theorem dL_law_1626 : decode cL_law 1626 = .ok (.ifCond .ne 15, 3) := dk_154 0 15 (dk_at dksL_law_65 0 rfl rfl)
theorem dL_law_1629 : decode cL_law 1629 = .ok (.aload_n 3, 1) := dk_45 (dk_at dksL_law_65 3 rfl rfl)
theorem dL_law_1630 : decode cL_law 1630 = .ok (.iconst 0, 1) := dk_3 (dk_at dksL_law_65 4 rfl rfl)
theorem dL_law_1631 : decode cL_law 1631 = .ok (.laload, 1) := dk_47 (dk_at dksL_law_65 5 rfl rfl)
theorem dL_law_1632 : decode cL_law 1632 = .ok (.iload 6, 2) := dk_21 6 (dk_at dksL_law_65 6 rfl rfl)
theorem dL_law_1634 : decode cL_law 1634 = .ok (.i2l, 1) := dk_133 (dk_at dksL_law_65 8 rfl rfl)
theorem dL_law_1635 : decode cL_law 1635 = .ok (.lcmp, 1) := dk_148 (dk_at dksL_law_65 9 rfl rfl)
theorem dL_law_1636 : decode cL_law 1636 = .ok (.ifCond .eq 5, 3) := dk_153 0 5 (dk_at dksL_law_65 10 rfl rfl)
theorem dL_law_1639 : decode cL_law 1639 = .ok (.iconst 0, 1) := dk_3 (dk_at dksL_law_65 13 rfl rfl)
theorem dL_law_1640 : decode cL_law 1640 = .ok (.ireturn, 1) := dk_172 (dk_at dksL_law_65 14 rfl rfl)
theorem dL_law_1641 : decode cL_law 1641 = .ok (.goto 639, 3) := dk_167 2 127 (dk_at dksL_law_65 15 rfl rfl)
theorem dL_law_1644 : decode cL_law 1644 = .ok (.aload_n 1, 1) := dk_43 (dk_at dksL_law_65 18 rfl rfl)
theorem dL_law_1645 : decode cL_law 1645 = .ok (.aload_n 0, 1) := dk_42 (dk_at dksL_law_65 19 rfl rfl)
theorem dL_law_1646 : decode cL_law 1646 = .ok (.iload 4, 2) := dk_21 4 (dk_at dksL_law_65 20 rfl rfl)
theorem dL_law_1648 : decode cL_law 1648 = .ok (.iconst 1, 1) := dk_4 (dk_at dksL_law_65 22 rfl rfl)
theorem dL_law_1649 : decode cL_law 1649 = .ok (.iadd, 1) := dk_96 (dk_at dksL_law_65 23 rfl rfl)
theorem dL_law_1650 : decode cL_law 1650 = .ok (.iaload, 1) := dk_46 (dk_at dksL_law_66 0 rfl rfl)
theorem dL_law_1651 : decode cL_law 1651 = .ok (.aload_n 0, 1) := dk_42 (dk_at dksL_law_66 1 rfl rfl)
theorem dL_law_1652 : decode cL_law 1652 = .ok (.iload 4, 2) := dk_21 4 (dk_at dksL_law_66 2 rfl rfl)
theorem dL_law_1654 : decode cL_law 1654 = .ok (.iconst 2, 1) := dk_5 (dk_at dksL_law_66 4 rfl rfl)
theorem dL_law_1655 : decode cL_law 1655 = .ok (.iadd, 1) := dk_96 (dk_at dksL_law_66 5 rfl rfl)
theorem dL_law_1656 : decode cL_law 1656 = .ok (.iaload, 1) := dk_46 (dk_at dksL_law_66 6 rfl rfl)
theorem dL_law_1657 : decode cL_law 1657 = .ok (.aload_n 3, 1) := dk_45 (dk_at dksL_law_66 7 rfl rfl)
theorem dL_law_1658 : decode cL_law 1658 = .ok (.invokestatic 204, 3) := dk_184 0 204 (dk_at dksL_law_66 8 rfl rfl)
theorem dL_law_1661 : decode cL_law 1661 = .ok (.istore 5, 2) := dk_54 5 (dk_at dksL_law_66 11 rfl rfl)
theorem dL_law_1663 : decode cL_law 1663 = .ok (.aload_n 2, 1) := dk_44 (dk_at dksL_law_66 13 rfl rfl)
theorem dL_law_1664 : decode cL_law 1664 = .ok (.aload_n 0, 1) := dk_42 (dk_at dksL_law_66 14 rfl rfl)
theorem dL_law_1665 : decode cL_law 1665 = .ok (.iload 4, 2) := dk_21 4 (dk_at dksL_law_66 15 rfl rfl)
theorem dL_law_1667 : decode cL_law 1667 = .ok (.iconst 1, 1) := dk_4 (dk_at dksL_law_66 17 rfl rfl)
theorem dL_law_1668 : decode cL_law 1668 = .ok (.iadd, 1) := dk_96 (dk_at dksL_law_66 18 rfl rfl)
theorem dL_law_1669 : decode cL_law 1669 = .ok (.iaload, 1) := dk_46 (dk_at dksL_law_66 19 rfl rfl)
theorem dL_law_1670 : decode cL_law 1670 = .ok (.aload_n 0, 1) := dk_42 (dk_at dksL_law_66 20 rfl rfl)
theorem dL_law_1671 : decode cL_law 1671 = .ok (.iload 4, 2) := dk_21 4 (dk_at dksL_law_66 21 rfl rfl)
theorem dL_law_1673 : decode cL_law 1673 = .ok (.iconst 2, 1) := dk_5 (dk_at dksL_law_66 23 rfl rfl)
theorem dL_law_1674 : decode cL_law 1674 = .ok (.iadd, 1) := dk_96 (dk_at dksL_law_67 0 rfl rfl)
theorem dL_law_1675 : decode cL_law 1675 = .ok (.iaload, 1) := dk_46 (dk_at dksL_law_67 1 rfl rfl)
theorem dL_law_1676 : decode cL_law 1676 = .ok (.invokevirtual 206, 3) := dk_182 0 206 (dk_at dksL_law_67 2 rfl rfl)
theorem dL_law_1679 : decode cL_law 1679 = .ok (.istore 6, 2) := dk_54 6 (dk_at dksL_law_67 5 rfl rfl)
theorem dL_law_1681 : decode cL_law 1681 = .ok (.aload_n 2, 1) := dk_44 (dk_at dksL_law_67 7 rfl rfl)
theorem dL_law_1682 : decode cL_law 1682 = .ok (.invokevirtual 125, 3) := dk_182 0 125 (dk_at dksL_law_67 8 rfl rfl)
theorem dL_law_1685 : decode cL_law 1685 = .ok (.iload 5, 2) := dk_21 5 (dk_at dksL_law_67 11 rfl rfl)
theorem dL_law_1687 : decode cL_law 1687 = .ok (.if_icmp .eq 5, 3) := dk_159 0 5 (dk_at dksL_law_67 13 rfl rfl)
theorem dL_law_1690 : decode cL_law 1690 = .ok (.iconst 0, 1) := dk_3 (dk_at dksL_law_67 16 rfl rfl)
theorem dL_law_1691 : decode cL_law 1691 = .ok (.ireturn, 1) := dk_172 (dk_at dksL_law_67 17 rfl rfl)
theorem dL_law_1692 : decode cL_law 1692 = .ok (.iload 5, 2) := dk_21 5 (dk_at dksL_law_67 18 rfl rfl)
theorem dL_law_1694 : decode cL_law 1694 = .ok (.ifCond .ne 22, 3) := dk_154 0 22 (dk_at dksL_law_67 20 rfl rfl)
theorem dL_law_1697 : decode cL_law 1697 = .ok (.aload_n 3, 1) := dk_45 (dk_at dksL_law_67 23 rfl rfl)
theorem dL_law_1698 : decode cL_law 1698 = .ok (.iconst 0, 1) := dk_3 (dk_at dksL_law_68 0 rfl rfl)
theorem dL_law_1699 : decode cL_law 1699 = .ok (.laload, 1) := dk_47 (dk_at dksL_law_68 1 rfl rfl)
theorem dL_law_1700 : decode cL_law 1700 = .ok (.iload 6, 2) := dk_21 6 (dk_at dksL_law_68 2 rfl rfl)
theorem dL_law_1702 : decode cL_law 1702 = .ok (.ifCond .eq 7, 3) := dk_153 0 7 (dk_at dksL_law_68 4 rfl rfl)
theorem dL_law_1705 : decode cL_law 1705 = .ok (.lconst 1, 1) := dk_10 (dk_at dksL_law_68 7 rfl rfl)
theorem dL_law_1706 : decode cL_law 1706 = .ok (.goto 4, 3) := dk_167 0 4 (dk_at dksL_law_68 8 rfl rfl)
theorem dL_law_1709 : decode cL_law 1709 = .ok (.lconst 0, 1) := dk_9 (dk_at dksL_law_68 11 rfl rfl)
theorem dL_law_1710 : decode cL_law 1710 = .ok (.lcmp, 1) := dk_148 (dk_at dksL_law_68 12 rfl rfl)
theorem dL_law_1711 : decode cL_law 1711 = .ok (.ifCond .eq 5, 3) := dk_153 0 5 (dk_at dksL_law_68 13 rfl rfl)
theorem dL_law_1714 : decode cL_law 1714 = .ok (.iconst 0, 1) := dk_3 (dk_at dksL_law_68 16 rfl rfl)
theorem dL_law_1715 : decode cL_law 1715 = .ok (.ireturn, 1) := dk_172 (dk_at dksL_law_68 17 rfl rfl)
theorem dL_law_1716 : decode cL_law 1716 = .ok (.goto 564, 3) := dk_167 2 52 (dk_at dksL_law_68 18 rfl rfl)
theorem dL_law_1719 : decode cL_law 1719 = .ok (.aload_n 1, 1) := dk_43 (dk_at dksL_law_68 21 rfl rfl)
theorem dL_law_1720 : decode cL_law 1720 = .ok (.aload_n 0, 1) := dk_42 (dk_at dksL_law_68 22 rfl rfl)
theorem dL_law_1721 : decode cL_law 1721 = .ok (.iload 4, 2) := dk_21 4 (dk_at dksL_law_69 0 rfl rfl)
theorem dL_law_1723 : decode cL_law 1723 = .ok (.iconst 1, 1) := dk_4 (dk_at dksL_law_69 2 rfl rfl)
theorem dL_law_1724 : decode cL_law 1724 = .ok (.iadd, 1) := dk_96 (dk_at dksL_law_69 3 rfl rfl)
theorem dL_law_1725 : decode cL_law 1725 = .ok (.iaload, 1) := dk_46 (dk_at dksL_law_69 4 rfl rfl)
theorem dL_law_1726 : decode cL_law 1726 = .ok (.aload_n 3, 1) := dk_45 (dk_at dksL_law_69 5 rfl rfl)
theorem dL_law_1727 : decode cL_law 1727 = .ok (.invokestatic 207, 3) := dk_184 0 207 (dk_at dksL_law_69 6 rfl rfl)
theorem dL_law_1730 : decode cL_law 1730 = .ok (.istore 5, 2) := dk_54 5 (dk_at dksL_law_69 9 rfl rfl)
theorem dL_law_1732 : decode cL_law 1732 = .ok (.aload_n 2, 1) := dk_44 (dk_at dksL_law_69 11 rfl rfl)
theorem dL_law_1733 : decode cL_law 1733 = .ok (.aload_n 0, 1) := dk_42 (dk_at dksL_law_69 12 rfl rfl)
theorem dL_law_1734 : decode cL_law 1734 = .ok (.iload 4, 2) := dk_21 4 (dk_at dksL_law_69 13 rfl rfl)
theorem dL_law_1736 : decode cL_law 1736 = .ok (.iconst 1, 1) := dk_4 (dk_at dksL_law_69 15 rfl rfl)
theorem dL_law_1737 : decode cL_law 1737 = .ok (.iadd, 1) := dk_96 (dk_at dksL_law_69 16 rfl rfl)
theorem dL_law_1738 : decode cL_law 1738 = .ok (.iaload, 1) := dk_46 (dk_at dksL_law_69 17 rfl rfl)
theorem dL_law_1739 : decode cL_law 1739 = .ok (.invokevirtual 209, 3) := dk_182 0 209 (dk_at dksL_law_69 18 rfl rfl)
theorem dL_law_1742 : decode cL_law 1742 = .ok (.istore 6, 2) := dk_54 6 (dk_at dksL_law_69 21 rfl rfl)
theorem dL_law_1744 : decode cL_law 1744 = .ok (.aload_n 2, 1) := dk_44 (dk_at dksL_law_69 23 rfl rfl)
theorem dL_law_1745 : decode cL_law 1745 = .ok (.invokevirtual 125, 3) := dk_182 0 125 (dk_at dksL_law_70 0 rfl rfl)
theorem dL_law_1748 : decode cL_law 1748 = .ok (.iload 5, 2) := dk_21 5 (dk_at dksL_law_70 3 rfl rfl)
theorem dL_law_1750 : decode cL_law 1750 = .ok (.if_icmp .eq 5, 3) := dk_159 0 5 (dk_at dksL_law_70 5 rfl rfl)
theorem dL_law_1753 : decode cL_law 1753 = .ok (.iconst 0, 1) := dk_3 (dk_at dksL_law_70 8 rfl rfl)
theorem dL_law_1754 : decode cL_law 1754 = .ok (.ireturn, 1) := dk_172 (dk_at dksL_law_70 9 rfl rfl)
theorem dL_law_1755 : decode cL_law 1755 = .ok (.iload 5, 2) := dk_21 5 (dk_at dksL_law_70 10 rfl rfl)
theorem dL_law_1757 : decode cL_law 1757 = .ok (.ifCond .ne 15, 3) := dk_154 0 15 (dk_at dksL_law_70 12 rfl rfl)
theorem dL_law_1760 : decode cL_law 1760 = .ok (.aload_n 3, 1) := dk_45 (dk_at dksL_law_70 15 rfl rfl)
theorem dL_law_1761 : decode cL_law 1761 = .ok (.iconst 0, 1) := dk_3 (dk_at dksL_law_70 16 rfl rfl)
theorem dL_law_1762 : decode cL_law 1762 = .ok (.laload, 1) := dk_47 (dk_at dksL_law_70 17 rfl rfl)
theorem dL_law_1763 : decode cL_law 1763 = .ok (.iload 6, 2) := dk_21 6 (dk_at dksL_law_70 18 rfl rfl)
theorem dL_law_1765 : decode cL_law 1765 = .ok (.i2l, 1) := dk_133 (dk_at dksL_law_70 20 rfl rfl)
theorem dL_law_1766 : decode cL_law 1766 = .ok (.lcmp, 1) := dk_148 (dk_at dksL_law_70 21 rfl rfl)
theorem dL_law_1767 : decode cL_law 1767 = .ok (.ifCond .eq 5, 3) := dk_153 0 5 (dk_at dksL_law_71 0 rfl rfl)
theorem dL_law_1770 : decode cL_law 1770 = .ok (.iconst 0, 1) := dk_3 (dk_at dksL_law_71 3 rfl rfl)
theorem dL_law_1771 : decode cL_law 1771 = .ok (.ireturn, 1) := dk_172 (dk_at dksL_law_71 4 rfl rfl)
theorem dL_law_1772 : decode cL_law 1772 = .ok (.goto 508, 3) := dk_167 1 252 (dk_at dksL_law_71 5 rfl rfl)
theorem dL_law_1775 : decode cL_law 1775 = .ok (.aload_n 1, 1) := dk_43 (dk_at dksL_law_71 8 rfl rfl)
theorem dL_law_1776 : decode cL_law 1776 = .ok (.aload_n 0, 1) := dk_42 (dk_at dksL_law_71 9 rfl rfl)
theorem dL_law_1777 : decode cL_law 1777 = .ok (.iload 4, 2) := dk_21 4 (dk_at dksL_law_71 10 rfl rfl)
theorem dL_law_1779 : decode cL_law 1779 = .ok (.iconst 1, 1) := dk_4 (dk_at dksL_law_71 12 rfl rfl)
theorem dL_law_1780 : decode cL_law 1780 = .ok (.iadd, 1) := dk_96 (dk_at dksL_law_71 13 rfl rfl)
theorem dL_law_1781 : decode cL_law 1781 = .ok (.iaload, 1) := dk_46 (dk_at dksL_law_71 14 rfl rfl)
theorem dL_law_1782 : decode cL_law 1782 = .ok (.aload_n 3, 1) := dk_45 (dk_at dksL_law_71 15 rfl rfl)
theorem dL_law_1783 : decode cL_law 1783 = .ok (.invokestatic 210, 3) := dk_184 0 210 (dk_at dksL_law_71 16 rfl rfl)
theorem dL_law_1786 : decode cL_law 1786 = .ok (.istore 5, 2) := dk_54 5 (dk_at dksL_law_71 19 rfl rfl)
theorem dL_law_1788 : decode cL_law 1788 = .ok (.aload_n 2, 1) := dk_44 (dk_at dksL_law_71 21 rfl rfl)
theorem dL_law_1789 : decode cL_law 1789 = .ok (.aload_n 0, 1) := dk_42 (dk_at dksL_law_71 22 rfl rfl)
theorem dL_law_1790 : decode cL_law 1790 = .ok (.iload 4, 2) := dk_21 4 (dk_at dksL_law_72 0 rfl rfl)
theorem dL_law_1792 : decode cL_law 1792 = .ok (.iconst 1, 1) := dk_4 (dk_at dksL_law_72 2 rfl rfl)
theorem dL_law_1793 : decode cL_law 1793 = .ok (.iadd, 1) := dk_96 (dk_at dksL_law_72 3 rfl rfl)
theorem dL_law_1794 : decode cL_law 1794 = .ok (.iaload, 1) := dk_46 (dk_at dksL_law_72 4 rfl rfl)
theorem dL_law_1795 : decode cL_law 1795 = .ok (.invokevirtual 212, 3) := dk_182 0 212 (dk_at dksL_law_72 5 rfl rfl)
theorem dL_law_1798 : decode cL_law 1798 = .ok (.istore 6, 2) := dk_54 6 (dk_at dksL_law_72 8 rfl rfl)
theorem dL_law_1800 : decode cL_law 1800 = .ok (.aload_n 2, 1) := dk_44 (dk_at dksL_law_72 10 rfl rfl)
theorem dL_law_1801 : decode cL_law 1801 = .ok (.invokevirtual 125, 3) := dk_182 0 125 (dk_at dksL_law_72 11 rfl rfl)
theorem dL_law_1804 : decode cL_law 1804 = .ok (.iload 5, 2) := dk_21 5 (dk_at dksL_law_72 14 rfl rfl)
theorem dL_law_1806 : decode cL_law 1806 = .ok (.if_icmp .eq 5, 3) := dk_159 0 5 (dk_at dksL_law_72 16 rfl rfl)
theorem dL_law_1809 : decode cL_law 1809 = .ok (.iconst 0, 1) := dk_3 (dk_at dksL_law_72 19 rfl rfl)
theorem dL_law_1810 : decode cL_law 1810 = .ok (.ireturn, 1) := dk_172 (dk_at dksL_law_72 20 rfl rfl)
theorem dL_law_1811 : decode cL_law 1811 = .ok (.iload 5, 2) := dk_21 5 (dk_at dksL_law_72 21 rfl rfl)
theorem dL_law_1813 : decode cL_law 1813 = .ok (.ifCond .ne 22, 3) := dk_154 0 22 (dk_at dksL_law_73 0 rfl rfl)
theorem dL_law_1816 : decode cL_law 1816 = .ok (.aload_n 3, 1) := dk_45 (dk_at dksL_law_73 3 rfl rfl)
theorem dL_law_1817 : decode cL_law 1817 = .ok (.iconst 0, 1) := dk_3 (dk_at dksL_law_73 4 rfl rfl)
theorem dL_law_1818 : decode cL_law 1818 = .ok (.laload, 1) := dk_47 (dk_at dksL_law_73 5 rfl rfl)
theorem dL_law_1819 : decode cL_law 1819 = .ok (.iload 6, 2) := dk_21 6 (dk_at dksL_law_73 6 rfl rfl)
theorem dL_law_1821 : decode cL_law 1821 = .ok (.ifCond .eq 7, 3) := dk_153 0 7 (dk_at dksL_law_73 8 rfl rfl)
theorem dL_law_1824 : decode cL_law 1824 = .ok (.lconst 1, 1) := dk_10 (dk_at dksL_law_73 11 rfl rfl)
theorem dL_law_1825 : decode cL_law 1825 = .ok (.goto 4, 3) := dk_167 0 4 (dk_at dksL_law_73 12 rfl rfl)
theorem dL_law_1828 : decode cL_law 1828 = .ok (.lconst 0, 1) := dk_9 (dk_at dksL_law_73 15 rfl rfl)
theorem dL_law_1829 : decode cL_law 1829 = .ok (.lcmp, 1) := dk_148 (dk_at dksL_law_73 16 rfl rfl)
theorem dL_law_1830 : decode cL_law 1830 = .ok (.ifCond .eq 5, 3) := dk_153 0 5 (dk_at dksL_law_73 17 rfl rfl)
theorem dL_law_1833 : decode cL_law 1833 = .ok (.iconst 0, 1) := dk_3 (dk_at dksL_law_73 20 rfl rfl)
theorem dL_law_1834 : decode cL_law 1834 = .ok (.ireturn, 1) := dk_172 (dk_at dksL_law_73 21 rfl rfl)
theorem dL_law_1835 : decode cL_law 1835 = .ok (.goto 445, 3) := dk_167 1 189 (dk_at dksL_law_74 0 rfl rfl)
theorem dL_law_1838 : decode cL_law 1838 = .ok (.aload_n 1, 1) := dk_43 (dk_at dksL_law_74 3 rfl rfl)
theorem dL_law_1839 : decode cL_law 1839 = .ok (.aload_n 0, 1) := dk_42 (dk_at dksL_law_74 4 rfl rfl)
theorem dL_law_1840 : decode cL_law 1840 = .ok (.iload 4, 2) := dk_21 4 (dk_at dksL_law_74 5 rfl rfl)
theorem dL_law_1842 : decode cL_law 1842 = .ok (.iconst 1, 1) := dk_4 (dk_at dksL_law_74 7 rfl rfl)
theorem dL_law_1843 : decode cL_law 1843 = .ok (.iadd, 1) := dk_96 (dk_at dksL_law_74 8 rfl rfl)
theorem dL_law_1844 : decode cL_law 1844 = .ok (.iaload, 1) := dk_46 (dk_at dksL_law_74 9 rfl rfl)
theorem dL_law_1845 : decode cL_law 1845 = .ok (.aload_n 0, 1) := dk_42 (dk_at dksL_law_74 10 rfl rfl)
theorem dL_law_1846 : decode cL_law 1846 = .ok (.iload 4, 2) := dk_21 4 (dk_at dksL_law_74 11 rfl rfl)
theorem dL_law_1848 : decode cL_law 1848 = .ok (.iconst 2, 1) := dk_5 (dk_at dksL_law_74 13 rfl rfl)
theorem dL_law_1849 : decode cL_law 1849 = .ok (.iadd, 1) := dk_96 (dk_at dksL_law_74 14 rfl rfl)
theorem dL_law_1850 : decode cL_law 1850 = .ok (.iaload, 1) := dk_46 (dk_at dksL_law_74 15 rfl rfl)
theorem dL_law_1851 : decode cL_law 1851 = .ok (.aload_n 3, 1) := dk_45 (dk_at dksL_law_74 16 rfl rfl)
theorem dL_law_1852 : decode cL_law 1852 = .ok (.invokestatic 213, 3) := dk_184 0 213 (dk_at dksL_law_74 17 rfl rfl)
theorem dL_law_1855 : decode cL_law 1855 = .ok (.istore 5, 2) := dk_54 5 (dk_at dksL_law_74 20 rfl rfl)
theorem dL_law_1857 : decode cL_law 1857 = .ok (.aload_n 2, 1) := dk_44 (dk_at dksL_law_74 22 rfl rfl)
theorem dL_law_1858 : decode cL_law 1858 = .ok (.aload_n 0, 1) := dk_42 (dk_at dksL_law_74 23 rfl rfl)
theorem dL_law_1859 : decode cL_law 1859 = .ok (.iload 4, 2) := dk_21 4 (dk_at dksL_law_75 0 rfl rfl)
theorem dL_law_1861 : decode cL_law 1861 = .ok (.iconst 1, 1) := dk_4 (dk_at dksL_law_75 2 rfl rfl)
theorem dL_law_1862 : decode cL_law 1862 = .ok (.iadd, 1) := dk_96 (dk_at dksL_law_75 3 rfl rfl)
theorem dL_law_1863 : decode cL_law 1863 = .ok (.iaload, 1) := dk_46 (dk_at dksL_law_75 4 rfl rfl)
theorem dL_law_1864 : decode cL_law 1864 = .ok (.aload_n 0, 1) := dk_42 (dk_at dksL_law_75 5 rfl rfl)
theorem dL_law_1865 : decode cL_law 1865 = .ok (.iload 4, 2) := dk_21 4 (dk_at dksL_law_75 6 rfl rfl)
theorem dL_law_1867 : decode cL_law 1867 = .ok (.iconst 2, 1) := dk_5 (dk_at dksL_law_75 8 rfl rfl)
theorem dL_law_1868 : decode cL_law 1868 = .ok (.iadd, 1) := dk_96 (dk_at dksL_law_75 9 rfl rfl)
theorem dL_law_1869 : decode cL_law 1869 = .ok (.iaload, 1) := dk_46 (dk_at dksL_law_75 10 rfl rfl)
theorem dL_law_1870 : decode cL_law 1870 = .ok (.invokevirtual 215, 3) := dk_182 0 215 (dk_at dksL_law_75 11 rfl rfl)
theorem dL_law_1873 : decode cL_law 1873 = .ok (.istore 6, 2) := dk_54 6 (dk_at dksL_law_75 14 rfl rfl)
theorem dL_law_1875 : decode cL_law 1875 = .ok (.aload_n 2, 1) := dk_44 (dk_at dksL_law_75 16 rfl rfl)
theorem dL_law_1876 : decode cL_law 1876 = .ok (.invokevirtual 125, 3) := dk_182 0 125 (dk_at dksL_law_75 17 rfl rfl)
theorem dL_law_1879 : decode cL_law 1879 = .ok (.iload 5, 2) := dk_21 5 (dk_at dksL_law_75 20 rfl rfl)
theorem dL_law_1881 : decode cL_law 1881 = .ok (.if_icmp .eq 5, 3) := dk_159 0 5 (dk_at dksL_law_76 0 rfl rfl)
theorem dL_law_1884 : decode cL_law 1884 = .ok (.iconst 0, 1) := dk_3 (dk_at dksL_law_76 3 rfl rfl)
theorem dL_law_1885 : decode cL_law 1885 = .ok (.ireturn, 1) := dk_172 (dk_at dksL_law_76 4 rfl rfl)
theorem dL_law_1886 : decode cL_law 1886 = .ok (.iload 5, 2) := dk_21 5 (dk_at dksL_law_76 5 rfl rfl)
theorem dL_law_1888 : decode cL_law 1888 = .ok (.ifCond .ne 15, 3) := dk_154 0 15 (dk_at dksL_law_76 7 rfl rfl)
theorem dL_law_1891 : decode cL_law 1891 = .ok (.aload_n 3, 1) := dk_45 (dk_at dksL_law_76 10 rfl rfl)
theorem dL_law_1892 : decode cL_law 1892 = .ok (.iconst 0, 1) := dk_3 (dk_at dksL_law_76 11 rfl rfl)
theorem dL_law_1893 : decode cL_law 1893 = .ok (.laload, 1) := dk_47 (dk_at dksL_law_76 12 rfl rfl)
theorem dL_law_1894 : decode cL_law 1894 = .ok (.iload 6, 2) := dk_21 6 (dk_at dksL_law_76 13 rfl rfl)
theorem dL_law_1896 : decode cL_law 1896 = .ok (.i2l, 1) := dk_133 (dk_at dksL_law_76 15 rfl rfl)
theorem dL_law_1897 : decode cL_law 1897 = .ok (.lcmp, 1) := dk_148 (dk_at dksL_law_76 16 rfl rfl)
theorem dL_law_1898 : decode cL_law 1898 = .ok (.ifCond .eq 5, 3) := dk_153 0 5 (dk_at dksL_law_76 17 rfl rfl)
theorem dL_law_1901 : decode cL_law 1901 = .ok (.iconst 0, 1) := dk_3 (dk_at dksL_law_76 20 rfl rfl)
theorem dL_law_1902 : decode cL_law 1902 = .ok (.ireturn, 1) := dk_172 (dk_at dksL_law_76 21 rfl rfl)
theorem dL_law_1903 : decode cL_law 1903 = .ok (.goto 377, 3) := dk_167 1 121 (dk_at dksL_law_77 0 rfl rfl)
theorem dL_law_1906 : decode cL_law 1906 = .ok (.aload_n 1, 1) := dk_43 (dk_at dksL_law_77 3 rfl rfl)
theorem dL_law_1907 : decode cL_law 1907 = .ok (.aload_n 0, 1) := dk_42 (dk_at dksL_law_77 4 rfl rfl)
theorem dL_law_1908 : decode cL_law 1908 = .ok (.iload 4, 2) := dk_21 4 (dk_at dksL_law_77 5 rfl rfl)
theorem dL_law_1910 : decode cL_law 1910 = .ok (.iconst 1, 1) := dk_4 (dk_at dksL_law_77 7 rfl rfl)
theorem dL_law_1911 : decode cL_law 1911 = .ok (.iadd, 1) := dk_96 (dk_at dksL_law_77 8 rfl rfl)
theorem dL_law_1912 : decode cL_law 1912 = .ok (.iaload, 1) := dk_46 (dk_at dksL_law_77 9 rfl rfl)
theorem dL_law_1913 : decode cL_law 1913 = .ok (.aload_n 3, 1) := dk_45 (dk_at dksL_law_77 10 rfl rfl)
theorem dL_law_1914 : decode cL_law 1914 = .ok (.invokestatic 216, 3) := dk_184 0 216 (dk_at dksL_law_77 11 rfl rfl)
theorem dL_law_1917 : decode cL_law 1917 = .ok (.istore 5, 2) := dk_54 5 (dk_at dksL_law_77 14 rfl rfl)
theorem dL_law_1919 : decode cL_law 1919 = .ok (.aload_n 2, 1) := dk_44 (dk_at dksL_law_77 16 rfl rfl)
theorem dL_law_1920 : decode cL_law 1920 = .ok (.aload_n 0, 1) := dk_42 (dk_at dksL_law_77 17 rfl rfl)
theorem dL_law_1921 : decode cL_law 1921 = .ok (.iload 4, 2) := dk_21 4 (dk_at dksL_law_77 18 rfl rfl)
theorem dL_law_1923 : decode cL_law 1923 = .ok (.iconst 1, 1) := dk_4 (dk_at dksL_law_77 20 rfl rfl)
theorem dL_law_1924 : decode cL_law 1924 = .ok (.iadd, 1) := dk_96 (dk_at dksL_law_77 21 rfl rfl)
theorem dL_law_1925 : decode cL_law 1925 = .ok (.iaload, 1) := dk_46 (dk_at dksL_law_77 22 rfl rfl)
theorem dL_law_1926 : decode cL_law 1926 = .ok (.invokevirtual 218, 3) := dk_182 0 218 (dk_at dksL_law_78 0 rfl rfl)
theorem dL_law_1929 : decode cL_law 1929 = .ok (.istore 6, 2) := dk_54 6 (dk_at dksL_law_78 3 rfl rfl)
theorem dL_law_1931 : decode cL_law 1931 = .ok (.aload_n 2, 1) := dk_44 (dk_at dksL_law_78 5 rfl rfl)
theorem dL_law_1932 : decode cL_law 1932 = .ok (.invokevirtual 125, 3) := dk_182 0 125 (dk_at dksL_law_78 6 rfl rfl)
theorem dL_law_1935 : decode cL_law 1935 = .ok (.iload 5, 2) := dk_21 5 (dk_at dksL_law_78 9 rfl rfl)
theorem dL_law_1937 : decode cL_law 1937 = .ok (.if_icmp .eq 5, 3) := dk_159 0 5 (dk_at dksL_law_78 11 rfl rfl)
theorem dL_law_1940 : decode cL_law 1940 = .ok (.iconst 0, 1) := dk_3 (dk_at dksL_law_78 14 rfl rfl)
theorem dL_law_1941 : decode cL_law 1941 = .ok (.ireturn, 1) := dk_172 (dk_at dksL_law_78 15 rfl rfl)
theorem dL_law_1942 : decode cL_law 1942 = .ok (.iload 5, 2) := dk_21 5 (dk_at dksL_law_78 16 rfl rfl)
theorem dL_law_1944 : decode cL_law 1944 = .ok (.ifCond .ne 15, 3) := dk_154 0 15 (dk_at dksL_law_78 18 rfl rfl)
theorem dL_law_1947 : decode cL_law 1947 = .ok (.aload_n 3, 1) := dk_45 (dk_at dksL_law_78 21 rfl rfl)
theorem dL_law_1948 : decode cL_law 1948 = .ok (.iconst 0, 1) := dk_3 (dk_at dksL_law_78 22 rfl rfl)
theorem dL_law_1949 : decode cL_law 1949 = .ok (.laload, 1) := dk_47 (dk_at dksL_law_78 23 rfl rfl)
theorem dL_law_1950 : decode cL_law 1950 = .ok (.iload 6, 2) := dk_21 6 (dk_at dksL_law_79 0 rfl rfl)
theorem dL_law_1952 : decode cL_law 1952 = .ok (.i2l, 1) := dk_133 (dk_at dksL_law_79 2 rfl rfl)
theorem dL_law_1953 : decode cL_law 1953 = .ok (.lcmp, 1) := dk_148 (dk_at dksL_law_79 3 rfl rfl)
theorem dL_law_1954 : decode cL_law 1954 = .ok (.ifCond .eq 5, 3) := dk_153 0 5 (dk_at dksL_law_79 4 rfl rfl)
theorem dL_law_1957 : decode cL_law 1957 = .ok (.iconst 0, 1) := dk_3 (dk_at dksL_law_79 7 rfl rfl)
theorem dL_law_1958 : decode cL_law 1958 = .ok (.ireturn, 1) := dk_172 (dk_at dksL_law_79 8 rfl rfl)
theorem dL_law_1959 : decode cL_law 1959 = .ok (.goto 321, 3) := dk_167 1 65 (dk_at dksL_law_79 9 rfl rfl)
theorem dL_law_1962 : decode cL_law 1962 = .ok (.aload_n 1, 1) := dk_43 (dk_at dksL_law_79 12 rfl rfl)
theorem dL_law_1963 : decode cL_law 1963 = .ok (.aload_n 0, 1) := dk_42 (dk_at dksL_law_79 13 rfl rfl)
theorem dL_law_1964 : decode cL_law 1964 = .ok (.iload 4, 2) := dk_21 4 (dk_at dksL_law_79 14 rfl rfl)
theorem dL_law_1966 : decode cL_law 1966 = .ok (.iconst 1, 1) := dk_4 (dk_at dksL_law_79 16 rfl rfl)
theorem dL_law_1967 : decode cL_law 1967 = .ok (.iadd, 1) := dk_96 (dk_at dksL_law_79 17 rfl rfl)
theorem dL_law_1968 : decode cL_law 1968 = .ok (.iaload, 1) := dk_46 (dk_at dksL_law_79 18 rfl rfl)
theorem dL_law_1969 : decode cL_law 1969 = .ok (.aload_n 3, 1) := dk_45 (dk_at dksL_law_79 19 rfl rfl)
theorem dL_law_1970 : decode cL_law 1970 = .ok (.invokestatic 219, 3) := dk_184 0 219 (dk_at dksL_law_79 20 rfl rfl)
theorem dL_law_1973 : decode cL_law 1973 = .ok (.istore 5, 2) := dk_54 5 (dk_at dksL_law_80 0 rfl rfl)
theorem dL_law_1975 : decode cL_law 1975 = .ok (.aload_n 2, 1) := dk_44 (dk_at dksL_law_80 2 rfl rfl)
theorem dL_law_1976 : decode cL_law 1976 = .ok (.aload_n 0, 1) := dk_42 (dk_at dksL_law_80 3 rfl rfl)
theorem dL_law_1977 : decode cL_law 1977 = .ok (.iload 4, 2) := dk_21 4 (dk_at dksL_law_80 4 rfl rfl)
theorem dL_law_1979 : decode cL_law 1979 = .ok (.iconst 1, 1) := dk_4 (dk_at dksL_law_80 6 rfl rfl)
theorem dL_law_1980 : decode cL_law 1980 = .ok (.iadd, 1) := dk_96 (dk_at dksL_law_80 7 rfl rfl)
theorem dL_law_1981 : decode cL_law 1981 = .ok (.iaload, 1) := dk_46 (dk_at dksL_law_80 8 rfl rfl)
theorem dL_law_1982 : decode cL_law 1982 = .ok (.invokevirtual 221, 3) := dk_182 0 221 (dk_at dksL_law_80 9 rfl rfl)
theorem dL_law_1985 : decode cL_law 1985 = .ok (.istore 6, 2) := dk_54 6 (dk_at dksL_law_80 12 rfl rfl)
theorem dL_law_1987 : decode cL_law 1987 = .ok (.aload_n 2, 1) := dk_44 (dk_at dksL_law_80 14 rfl rfl)
theorem dL_law_1988 : decode cL_law 1988 = .ok (.invokevirtual 125, 3) := dk_182 0 125 (dk_at dksL_law_80 15 rfl rfl)
theorem dL_law_1991 : decode cL_law 1991 = .ok (.iload 5, 2) := dk_21 5 (dk_at dksL_law_80 18 rfl rfl)
theorem dL_law_1993 : decode cL_law 1993 = .ok (.if_icmp .eq 5, 3) := dk_159 0 5 (dk_at dksL_law_80 20 rfl rfl)
theorem dL_law_1996 : decode cL_law 1996 = .ok (.iconst 0, 1) := dk_3 (dk_at dksL_law_80 23 rfl rfl)
theorem dL_law_1997 : decode cL_law 1997 = .ok (.ireturn, 1) := dk_172 (dk_at dksL_law_81 0 rfl rfl)
theorem dL_law_1998 : decode cL_law 1998 = .ok (.iload 5, 2) := dk_21 5 (dk_at dksL_law_81 1 rfl rfl)
theorem dL_law_2000 : decode cL_law 2000 = .ok (.ifCond .ne 15, 3) := dk_154 0 15 (dk_at dksL_law_81 3 rfl rfl)
theorem dL_law_2003 : decode cL_law 2003 = .ok (.aload_n 3, 1) := dk_45 (dk_at dksL_law_81 6 rfl rfl)
theorem dL_law_2004 : decode cL_law 2004 = .ok (.iconst 0, 1) := dk_3 (dk_at dksL_law_81 7 rfl rfl)
theorem dL_law_2005 : decode cL_law 2005 = .ok (.laload, 1) := dk_47 (dk_at dksL_law_81 8 rfl rfl)
theorem dL_law_2006 : decode cL_law 2006 = .ok (.iload 6, 2) := dk_21 6 (dk_at dksL_law_81 9 rfl rfl)
theorem dL_law_2008 : decode cL_law 2008 = .ok (.i2l, 1) := dk_133 (dk_at dksL_law_81 11 rfl rfl)
theorem dL_law_2009 : decode cL_law 2009 = .ok (.lcmp, 1) := dk_148 (dk_at dksL_law_81 12 rfl rfl)
theorem dL_law_2010 : decode cL_law 2010 = .ok (.ifCond .eq 5, 3) := dk_153 0 5 (dk_at dksL_law_81 13 rfl rfl)
theorem dL_law_2013 : decode cL_law 2013 = .ok (.iconst 0, 1) := dk_3 (dk_at dksL_law_81 16 rfl rfl)
theorem dL_law_2014 : decode cL_law 2014 = .ok (.ireturn, 1) := dk_172 (dk_at dksL_law_81 17 rfl rfl)
theorem dL_law_2015 : decode cL_law 2015 = .ok (.goto 265, 3) := dk_167 1 9 (dk_at dksL_law_81 18 rfl rfl)
theorem dL_law_2018 : decode cL_law 2018 = .ok (.aload_n 1, 1) := dk_43 (dk_at dksL_law_81 21 rfl rfl)
theorem dL_law_2019 : decode cL_law 2019 = .ok (.aload_n 0, 1) := dk_42 (dk_at dksL_law_81 22 rfl rfl)
theorem dL_law_2020 : decode cL_law 2020 = .ok (.iload 4, 2) := dk_21 4 (dk_at dksL_law_82 0 rfl rfl)
theorem dL_law_2022 : decode cL_law 2022 = .ok (.iconst 1, 1) := dk_4 (dk_at dksL_law_82 2 rfl rfl)
theorem dL_law_2023 : decode cL_law 2023 = .ok (.iadd, 1) := dk_96 (dk_at dksL_law_82 3 rfl rfl)
theorem dL_law_2024 : decode cL_law 2024 = .ok (.iaload, 1) := dk_46 (dk_at dksL_law_82 4 rfl rfl)
theorem dL_law_2025 : decode cL_law 2025 = .ok (.aload_n 3, 1) := dk_45 (dk_at dksL_law_82 5 rfl rfl)
theorem dL_law_2026 : decode cL_law 2026 = .ok (.invokestatic 222, 3) := dk_184 0 222 (dk_at dksL_law_82 6 rfl rfl)
theorem dL_law_2029 : decode cL_law 2029 = .ok (.istore 5, 2) := dk_54 5 (dk_at dksL_law_82 9 rfl rfl)
theorem dL_law_2031 : decode cL_law 2031 = .ok (.aload_n 2, 1) := dk_44 (dk_at dksL_law_82 11 rfl rfl)
theorem dL_law_2032 : decode cL_law 2032 = .ok (.aload_n 0, 1) := dk_42 (dk_at dksL_law_82 12 rfl rfl)
theorem dL_law_2033 : decode cL_law 2033 = .ok (.iload 4, 2) := dk_21 4 (dk_at dksL_law_82 13 rfl rfl)
theorem dL_law_2035 : decode cL_law 2035 = .ok (.iconst 1, 1) := dk_4 (dk_at dksL_law_82 15 rfl rfl)
theorem dL_law_2036 : decode cL_law 2036 = .ok (.iadd, 1) := dk_96 (dk_at dksL_law_82 16 rfl rfl)
theorem dL_law_2037 : decode cL_law 2037 = .ok (.iaload, 1) := dk_46 (dk_at dksL_law_82 17 rfl rfl)
theorem dL_law_2038 : decode cL_law 2038 = .ok (.invokevirtual 224, 3) := dk_182 0 224 (dk_at dksL_law_82 18 rfl rfl)
theorem dL_law_2041 : decode cL_law 2041 = .ok (.istore 6, 2) := dk_54 6 (dk_at dksL_law_82 21 rfl rfl)
theorem dL_law_2043 : decode cL_law 2043 = .ok (.aload_n 2, 1) := dk_44 (dk_at dksL_law_82 23 rfl rfl)
theorem dL_law_2044 : decode cL_law 2044 = .ok (.invokevirtual 125, 3) := dk_182 0 125 (dk_at dksL_law_83 0 rfl rfl)
theorem dL_law_2047 : decode cL_law 2047 = .ok (.iload 5, 2) := dk_21 5 (dk_at dksL_law_83 3 rfl rfl)
theorem dL_law_2049 : decode cL_law 2049 = .ok (.if_icmp .eq 5, 3) := dk_159 0 5 (dk_at dksL_law_83 5 rfl rfl)
theorem dL_law_2052 : decode cL_law 2052 = .ok (.iconst 0, 1) := dk_3 (dk_at dksL_law_83 8 rfl rfl)
theorem dL_law_2053 : decode cL_law 2053 = .ok (.ireturn, 1) := dk_172 (dk_at dksL_law_83 9 rfl rfl)
theorem dL_law_2054 : decode cL_law 2054 = .ok (.iload 5, 2) := dk_21 5 (dk_at dksL_law_83 10 rfl rfl)
theorem dL_law_2056 : decode cL_law 2056 = .ok (.ifCond .ne 15, 3) := dk_154 0 15 (dk_at dksL_law_83 12 rfl rfl)
theorem dL_law_2059 : decode cL_law 2059 = .ok (.aload_n 3, 1) := dk_45 (dk_at dksL_law_83 15 rfl rfl)
theorem dL_law_2060 : decode cL_law 2060 = .ok (.iconst 0, 1) := dk_3 (dk_at dksL_law_83 16 rfl rfl)
theorem dL_law_2061 : decode cL_law 2061 = .ok (.laload, 1) := dk_47 (dk_at dksL_law_83 17 rfl rfl)
theorem dL_law_2062 : decode cL_law 2062 = .ok (.iload 6, 2) := dk_21 6 (dk_at dksL_law_83 18 rfl rfl)
theorem dL_law_2064 : decode cL_law 2064 = .ok (.i2l, 1) := dk_133 (dk_at dksL_law_83 20 rfl rfl)
theorem dL_law_2065 : decode cL_law 2065 = .ok (.lcmp, 1) := dk_148 (dk_at dksL_law_83 21 rfl rfl)
theorem dL_law_2066 : decode cL_law 2066 = .ok (.ifCond .eq 5, 3) := dk_153 0 5 (dk_at dksL_law_84 0 rfl rfl)
theorem dL_law_2069 : decode cL_law 2069 = .ok (.iconst 0, 1) := dk_3 (dk_at dksL_law_84 3 rfl rfl)
theorem dL_law_2070 : decode cL_law 2070 = .ok (.ireturn, 1) := dk_172 (dk_at dksL_law_84 4 rfl rfl)
theorem dL_law_2071 : decode cL_law 2071 = .ok (.goto 209, 3) := dk_167 0 209 (dk_at dksL_law_84 5 rfl rfl)
theorem dL_law_2074 : decode cL_law 2074 = .ok (.aload_n 1, 1) := dk_43 (dk_at dksL_law_84 8 rfl rfl)
theorem dL_law_2075 : decode cL_law 2075 = .ok (.aload_n 0, 1) := dk_42 (dk_at dksL_law_84 9 rfl rfl)
theorem dL_law_2076 : decode cL_law 2076 = .ok (.iload 4, 2) := dk_21 4 (dk_at dksL_law_84 10 rfl rfl)
theorem dL_law_2078 : decode cL_law 2078 = .ok (.iconst 1, 1) := dk_4 (dk_at dksL_law_84 12 rfl rfl)
theorem dL_law_2079 : decode cL_law 2079 = .ok (.iadd, 1) := dk_96 (dk_at dksL_law_84 13 rfl rfl)
theorem dL_law_2080 : decode cL_law 2080 = .ok (.iaload, 1) := dk_46 (dk_at dksL_law_84 14 rfl rfl)
theorem dL_law_2081 : decode cL_law 2081 = .ok (.aload_n 3, 1) := dk_45 (dk_at dksL_law_84 15 rfl rfl)
theorem dL_law_2082 : decode cL_law 2082 = .ok (.invokestatic 225, 3) := dk_184 0 225 (dk_at dksL_law_84 16 rfl rfl)
theorem dL_law_2085 : decode cL_law 2085 = .ok (.istore 5, 2) := dk_54 5 (dk_at dksL_law_84 19 rfl rfl)
theorem dL_law_2087 : decode cL_law 2087 = .ok (.aload_n 2, 1) := dk_44 (dk_at dksL_law_84 21 rfl rfl)
theorem dL_law_2088 : decode cL_law 2088 = .ok (.aload_n 0, 1) := dk_42 (dk_at dksL_law_84 22 rfl rfl)
theorem dL_law_2089 : decode cL_law 2089 = .ok (.iload 4, 2) := dk_21 4 (dk_at dksL_law_85 0 rfl rfl)
theorem dL_law_2091 : decode cL_law 2091 = .ok (.iconst 1, 1) := dk_4 (dk_at dksL_law_85 2 rfl rfl)
theorem dL_law_2092 : decode cL_law 2092 = .ok (.iadd, 1) := dk_96 (dk_at dksL_law_85 3 rfl rfl)
theorem dL_law_2093 : decode cL_law 2093 = .ok (.iaload, 1) := dk_46 (dk_at dksL_law_85 4 rfl rfl)
theorem dL_law_2094 : decode cL_law 2094 = .ok (.invokevirtual 227, 3) := dk_182 0 227 (dk_at dksL_law_85 5 rfl rfl)
theorem dL_law_2097 : decode cL_law 2097 = .ok (.istore 6, 2) := dk_54 6 (dk_at dksL_law_85 8 rfl rfl)
theorem dL_law_2099 : decode cL_law 2099 = .ok (.aload_n 2, 1) := dk_44 (dk_at dksL_law_85 10 rfl rfl)
theorem dL_law_2100 : decode cL_law 2100 = .ok (.invokevirtual 125, 3) := dk_182 0 125 (dk_at dksL_law_85 11 rfl rfl)
theorem dL_law_2103 : decode cL_law 2103 = .ok (.iload 5, 2) := dk_21 5 (dk_at dksL_law_85 14 rfl rfl)
theorem dL_law_2105 : decode cL_law 2105 = .ok (.if_icmp .eq 5, 3) := dk_159 0 5 (dk_at dksL_law_85 16 rfl rfl)
theorem dL_law_2108 : decode cL_law 2108 = .ok (.iconst 0, 1) := dk_3 (dk_at dksL_law_85 19 rfl rfl)
theorem dL_law_2109 : decode cL_law 2109 = .ok (.ireturn, 1) := dk_172 (dk_at dksL_law_85 20 rfl rfl)
theorem dL_law_2110 : decode cL_law 2110 = .ok (.iload 5, 2) := dk_21 5 (dk_at dksL_law_85 21 rfl rfl)
theorem dL_law_2112 : decode cL_law 2112 = .ok (.ifCond .ne 15, 3) := dk_154 0 15 (dk_at dksL_law_86 0 rfl rfl)
theorem dL_law_2115 : decode cL_law 2115 = .ok (.aload_n 3, 1) := dk_45 (dk_at dksL_law_86 3 rfl rfl)
theorem dL_law_2116 : decode cL_law 2116 = .ok (.iconst 0, 1) := dk_3 (dk_at dksL_law_86 4 rfl rfl)
theorem dL_law_2117 : decode cL_law 2117 = .ok (.laload, 1) := dk_47 (dk_at dksL_law_86 5 rfl rfl)
theorem dL_law_2118 : decode cL_law 2118 = .ok (.iload 6, 2) := dk_21 6 (dk_at dksL_law_86 6 rfl rfl)
theorem dL_law_2120 : decode cL_law 2120 = .ok (.i2l, 1) := dk_133 (dk_at dksL_law_86 8 rfl rfl)
theorem dL_law_2121 : decode cL_law 2121 = .ok (.lcmp, 1) := dk_148 (dk_at dksL_law_86 9 rfl rfl)
theorem dL_law_2122 : decode cL_law 2122 = .ok (.ifCond .eq 5, 3) := dk_153 0 5 (dk_at dksL_law_86 10 rfl rfl)
theorem dL_law_2125 : decode cL_law 2125 = .ok (.iconst 0, 1) := dk_3 (dk_at dksL_law_86 13 rfl rfl)
theorem dL_law_2126 : decode cL_law 2126 = .ok (.ireturn, 1) := dk_172 (dk_at dksL_law_86 14 rfl rfl)
theorem dL_law_2127 : decode cL_law 2127 = .ok (.goto 153, 3) := dk_167 0 153 (dk_at dksL_law_86 15 rfl rfl)
theorem dL_law_2130 : decode cL_law 2130 = .ok (.aload_n 1, 1) := dk_43 (dk_at dksL_law_86 18 rfl rfl)
theorem dL_law_2131 : decode cL_law 2131 = .ok (.invokevirtual 228, 3) := dk_182 0 228 (dk_at dksL_law_86 19 rfl rfl)
theorem dL_law_2134 : decode cL_law 2134 = .ok (.aload_n 2, 1) := dk_44 (dk_at dksL_law_86 22 rfl rfl)
theorem dL_law_2135 : decode cL_law 2135 = .ok (.invokevirtual 231, 3) := dk_182 0 231 (dk_at dksL_law_87 0 rfl rfl)
theorem dL_law_2138 : decode cL_law 2138 = .ok (.if_icmp .eq 142, 3) := dk_159 0 142 (dk_at dksL_law_87 3 rfl rfl)
theorem dL_law_2141 : decode cL_law 2141 = .ok (.iconst 0, 1) := dk_3 (dk_at dksL_law_87 6 rfl rfl)
theorem dL_law_2142 : decode cL_law 2142 = .ok (.ireturn, 1) := dk_172 (dk_at dksL_law_87 7 rfl rfl)
theorem dL_law_2143 : decode cL_law 2143 = .ok (.aload_n 1, 1) := dk_43 (dk_at dksL_law_87 8 rfl rfl)
theorem dL_law_2144 : decode cL_law 2144 = .ok (.aload_n 0, 1) := dk_42 (dk_at dksL_law_87 9 rfl rfl)
theorem dL_law_2145 : decode cL_law 2145 = .ok (.iload 4, 2) := dk_21 4 (dk_at dksL_law_87 10 rfl rfl)
theorem dL_law_2147 : decode cL_law 2147 = .ok (.iconst 1, 1) := dk_4 (dk_at dksL_law_87 12 rfl rfl)
theorem dL_law_2148 : decode cL_law 2148 = .ok (.iadd, 1) := dk_96 (dk_at dksL_law_87 13 rfl rfl)
theorem dL_law_2149 : decode cL_law 2149 = .ok (.iaload, 1) := dk_46 (dk_at dksL_law_87 14 rfl rfl)
theorem dL_law_2150 : decode cL_law 2150 = .ok (.aload_n 3, 1) := dk_45 (dk_at dksL_law_87 15 rfl rfl)
theorem dL_law_2151 : decode cL_law 2151 = .ok (.invokestatic 232, 3) := dk_184 0 232 (dk_at dksL_law_87 16 rfl rfl)
theorem dL_law_2154 : decode cL_law 2154 = .ok (.istore 5, 2) := dk_54 5 (dk_at dksL_law_87 19 rfl rfl)
theorem dL_law_2156 : decode cL_law 2156 = .ok (.aload_n 2, 1) := dk_44 (dk_at dksL_law_87 21 rfl rfl)
theorem dL_law_2157 : decode cL_law 2157 = .ok (.aload_n 0, 1) := dk_42 (dk_at dksL_law_87 22 rfl rfl)
theorem dL_law_2158 : decode cL_law 2158 = .ok (.iload 4, 2) := dk_21 4 (dk_at dksL_law_88 0 rfl rfl)
theorem dL_law_2160 : decode cL_law 2160 = .ok (.iconst 1, 1) := dk_4 (dk_at dksL_law_88 2 rfl rfl)
theorem dL_law_2161 : decode cL_law 2161 = .ok (.iadd, 1) := dk_96 (dk_at dksL_law_88 3 rfl rfl)
theorem dL_law_2162 : decode cL_law 2162 = .ok (.iaload, 1) := dk_46 (dk_at dksL_law_88 4 rfl rfl)
theorem dL_law_2163 : decode cL_law 2163 = .ok (.invokevirtual 234, 3) := dk_182 0 234 (dk_at dksL_law_88 5 rfl rfl)
theorem dL_law_2166 : decode cL_law 2166 = .ok (.istore 6, 2) := dk_54 6 (dk_at dksL_law_88 8 rfl rfl)
theorem dL_law_2168 : decode cL_law 2168 = .ok (.aload_n 2, 1) := dk_44 (dk_at dksL_law_88 10 rfl rfl)
theorem dL_law_2169 : decode cL_law 2169 = .ok (.invokevirtual 125, 3) := dk_182 0 125 (dk_at dksL_law_88 11 rfl rfl)
theorem dL_law_2172 : decode cL_law 2172 = .ok (.iload 5, 2) := dk_21 5 (dk_at dksL_law_88 14 rfl rfl)
theorem dL_law_2174 : decode cL_law 2174 = .ok (.if_icmp .eq 5, 3) := dk_159 0 5 (dk_at dksL_law_88 16 rfl rfl)
theorem dL_law_2177 : decode cL_law 2177 = .ok (.iconst 0, 1) := dk_3 (dk_at dksL_law_88 19 rfl rfl)
theorem dL_law_2178 : decode cL_law 2178 = .ok (.ireturn, 1) := dk_172 (dk_at dksL_law_88 20 rfl rfl)
theorem dL_law_2179 : decode cL_law 2179 = .ok (.iload 5, 2) := dk_21 5 (dk_at dksL_law_88 21 rfl rfl)
theorem dL_law_2181 : decode cL_law 2181 = .ok (.ifCond .ne 15, 3) := dk_154 0 15 (dk_at dksL_law_89 0 rfl rfl)
theorem dL_law_2184 : decode cL_law 2184 = .ok (.aload_n 3, 1) := dk_45 (dk_at dksL_law_89 3 rfl rfl)
theorem dL_law_2185 : decode cL_law 2185 = .ok (.iconst 0, 1) := dk_3 (dk_at dksL_law_89 4 rfl rfl)
theorem dL_law_2186 : decode cL_law 2186 = .ok (.laload, 1) := dk_47 (dk_at dksL_law_89 5 rfl rfl)
theorem dL_law_2187 : decode cL_law 2187 = .ok (.iload 6, 2) := dk_21 6 (dk_at dksL_law_89 6 rfl rfl)
theorem dL_law_2189 : decode cL_law 2189 = .ok (.i2l, 1) := dk_133 (dk_at dksL_law_89 8 rfl rfl)
theorem dL_law_2190 : decode cL_law 2190 = .ok (.lcmp, 1) := dk_148 (dk_at dksL_law_89 9 rfl rfl)
theorem dL_law_2191 : decode cL_law 2191 = .ok (.ifCond .eq 5, 3) := dk_153 0 5 (dk_at dksL_law_89 10 rfl rfl)
theorem dL_law_2194 : decode cL_law 2194 = .ok (.iconst 0, 1) := dk_3 (dk_at dksL_law_89 13 rfl rfl)
theorem dL_law_2195 : decode cL_law 2195 = .ok (.ireturn, 1) := dk_172 (dk_at dksL_law_89 14 rfl rfl)
theorem dL_law_2196 : decode cL_law 2196 = .ok (.goto 84, 3) := dk_167 0 84 (dk_at dksL_law_89 15 rfl rfl)
theorem dL_law_2199 : decode cL_law 2199 = .ok (.aload_n 1, 1) := dk_43 (dk_at dksL_law_89 18 rfl rfl)
theorem dL_law_2200 : decode cL_law 2200 = .ok (.invokevirtual 235, 3) := dk_182 0 235 (dk_at dksL_law_89 19 rfl rfl)
theorem dL_law_2203 : decode cL_law 2203 = .ok (.aload_n 2, 1) := dk_44 (dk_at dksL_law_89 22 rfl rfl)
theorem dL_law_2204 : decode cL_law 2204 = .ok (.invokevirtual 238, 3) := dk_182 0 238 (dk_at dksL_law_90 0 rfl rfl)
theorem dL_law_2207 : decode cL_law 2207 = .ok (.if_icmp .eq 73, 3) := dk_159 0 73 (dk_at dksL_law_90 3 rfl rfl)
theorem dL_law_2210 : decode cL_law 2210 = .ok (.iconst 0, 1) := dk_3 (dk_at dksL_law_90 6 rfl rfl)
theorem dL_law_2211 : decode cL_law 2211 = .ok (.ireturn, 1) := dk_172 (dk_at dksL_law_90 7 rfl rfl)
theorem dL_law_2212 : decode cL_law 2212 = .ok (.aload_n 1, 1) := dk_43 (dk_at dksL_law_90 8 rfl rfl)
theorem dL_law_2213 : decode cL_law 2213 = .ok (.aload_n 0, 1) := dk_42 (dk_at dksL_law_90 9 rfl rfl)
theorem dL_law_2214 : decode cL_law 2214 = .ok (.iload 4, 2) := dk_21 4 (dk_at dksL_law_90 10 rfl rfl)
theorem dL_law_2216 : decode cL_law 2216 = .ok (.iconst 1, 1) := dk_4 (dk_at dksL_law_90 12 rfl rfl)
theorem dL_law_2217 : decode cL_law 2217 = .ok (.iadd, 1) := dk_96 (dk_at dksL_law_90 13 rfl rfl)
theorem dL_law_2218 : decode cL_law 2218 = .ok (.iaload, 1) := dk_46 (dk_at dksL_law_90 14 rfl rfl)
theorem dL_law_2219 : decode cL_law 2219 = .ok (.aload_n 0, 1) := dk_42 (dk_at dksL_law_90 15 rfl rfl)
theorem dL_law_2220 : decode cL_law 2220 = .ok (.iload 4, 2) := dk_21 4 (dk_at dksL_law_90 16 rfl rfl)
theorem dL_law_2222 : decode cL_law 2222 = .ok (.iconst 2, 1) := dk_5 (dk_at dksL_law_90 18 rfl rfl)
theorem dL_law_2223 : decode cL_law 2223 = .ok (.iadd, 1) := dk_96 (dk_at dksL_law_90 19 rfl rfl)
theorem dL_law_2224 : decode cL_law 2224 = .ok (.iaload, 1) := dk_46 (dk_at dksL_law_90 20 rfl rfl)
theorem dL_law_2225 : decode cL_law 2225 = .ok (.aload_n 3, 1) := dk_45 (dk_at dksL_law_90 21 rfl rfl)
theorem dL_law_2226 : decode cL_law 2226 = .ok (.invokestatic 239, 3) := dk_184 0 239 (dk_at dksL_law_91 0 rfl rfl)
theorem dL_law_2229 : decode cL_law 2229 = .ok (.istore 5, 2) := dk_54 5 (dk_at dksL_law_91 3 rfl rfl)
theorem dL_law_2231 : decode cL_law 2231 = .ok (.aload_n 2, 1) := dk_44 (dk_at dksL_law_91 5 rfl rfl)
theorem dL_law_2232 : decode cL_law 2232 = .ok (.aload_n 0, 1) := dk_42 (dk_at dksL_law_91 6 rfl rfl)
theorem dL_law_2233 : decode cL_law 2233 = .ok (.iload 4, 2) := dk_21 4 (dk_at dksL_law_91 7 rfl rfl)
theorem dL_law_2235 : decode cL_law 2235 = .ok (.iconst 1, 1) := dk_4 (dk_at dksL_law_91 9 rfl rfl)
theorem dL_law_2236 : decode cL_law 2236 = .ok (.iadd, 1) := dk_96 (dk_at dksL_law_91 10 rfl rfl)
theorem dL_law_2237 : decode cL_law 2237 = .ok (.iaload, 1) := dk_46 (dk_at dksL_law_91 11 rfl rfl)
theorem dL_law_2238 : decode cL_law 2238 = .ok (.aload_n 0, 1) := dk_42 (dk_at dksL_law_91 12 rfl rfl)
theorem dL_law_2239 : decode cL_law 2239 = .ok (.iload 4, 2) := dk_21 4 (dk_at dksL_law_91 13 rfl rfl)
theorem dL_law_2241 : decode cL_law 2241 = .ok (.iconst 2, 1) := dk_5 (dk_at dksL_law_91 15 rfl rfl)
theorem dL_law_2242 : decode cL_law 2242 = .ok (.iadd, 1) := dk_96 (dk_at dksL_law_91 16 rfl rfl)
theorem dL_law_2243 : decode cL_law 2243 = .ok (.iaload, 1) := dk_46 (dk_at dksL_law_91 17 rfl rfl)
theorem dL_law_2244 : decode cL_law 2244 = .ok (.invokevirtual 241, 3) := dk_182 0 241 (dk_at dksL_law_91 18 rfl rfl)
theorem dL_law_2247 : decode cL_law 2247 = .ok (.istore 6, 2) := dk_54 6 (dk_at dksL_law_91 21 rfl rfl)
theorem dL_law_2249 : decode cL_law 2249 = .ok (.aload_n 2, 1) := dk_44 (dk_at dksL_law_91 23 rfl rfl)
theorem dL_law_2250 : decode cL_law 2250 = .ok (.invokevirtual 125, 3) := dk_182 0 125 (dk_at dksL_law_92 0 rfl rfl)
theorem dL_law_2253 : decode cL_law 2253 = .ok (.iload 5, 2) := dk_21 5 (dk_at dksL_law_92 3 rfl rfl)
theorem dL_law_2255 : decode cL_law 2255 = .ok (.if_icmp .eq 5, 3) := dk_159 0 5 (dk_at dksL_law_92 5 rfl rfl)
theorem dL_law_2258 : decode cL_law 2258 = .ok (.iconst 0, 1) := dk_3 (dk_at dksL_law_92 8 rfl rfl)
theorem dL_law_2259 : decode cL_law 2259 = .ok (.ireturn, 1) := dk_172 (dk_at dksL_law_92 9 rfl rfl)
theorem dL_law_2260 : decode cL_law 2260 = .ok (.iload 5, 2) := dk_21 5 (dk_at dksL_law_92 10 rfl rfl)
theorem dL_law_2262 : decode cL_law 2262 = .ok (.ifCond .ne 15, 3) := dk_154 0 15 (dk_at dksL_law_92 12 rfl rfl)
theorem dL_law_2265 : decode cL_law 2265 = .ok (.aload_n 3, 1) := dk_45 (dk_at dksL_law_92 15 rfl rfl)
theorem dL_law_2266 : decode cL_law 2266 = .ok (.iconst 0, 1) := dk_3 (dk_at dksL_law_92 16 rfl rfl)
theorem dL_law_2267 : decode cL_law 2267 = .ok (.laload, 1) := dk_47 (dk_at dksL_law_92 17 rfl rfl)
theorem dL_law_2268 : decode cL_law 2268 = .ok (.iload 6, 2) := dk_21 6 (dk_at dksL_law_92 18 rfl rfl)
theorem dL_law_2270 : decode cL_law 2270 = .ok (.i2l, 1) := dk_133 (dk_at dksL_law_92 20 rfl rfl)
theorem dL_law_2271 : decode cL_law 2271 = .ok (.lcmp, 1) := dk_148 (dk_at dksL_law_92 21 rfl rfl)
theorem dL_law_2272 : decode cL_law 2272 = .ok (.ifCond .eq 5, 3) := dk_153 0 5 (dk_at dksL_law_93 0 rfl rfl)
theorem dL_law_2275 : decode cL_law 2275 = .ok (.iconst 0, 1) := dk_3 (dk_at dksL_law_93 3 rfl rfl)
theorem dL_law_2276 : decode cL_law 2276 = .ok (.ireturn, 1) := dk_172 (dk_at dksL_law_93 4 rfl rfl)
theorem dL_law_2277 : decode cL_law 2277 = .ok (.goto 3, 3) := dk_167 0 3 (dk_at dksL_law_93 5 rfl rfl)
theorem dL_law_2280 : decode cL_law 2280 = .ok (.iinc 4 4, 3) := dk_132 4 4 (dk_at dksL_law_93 8 rfl rfl)
theorem dL_law_2283 : decode cL_law 2283 = .ok (.goto (-2260), 3) := dk_167 247 44 (dk_at dksL_law_93 11 rfl rfl)
theorem dL_law_2286 : decode cL_law 2286 = .ok (.iconst 1, 1) := dk_4 (dk_at dksL_law_93 14 rfl rfl)
theorem dL_law_2287 : decode cL_law 2287 = .ok (.ireturn, 1) := dk_172 (dk_at dksL_law_93 15 rfl rfl)
