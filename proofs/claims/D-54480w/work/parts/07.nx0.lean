/-! DrawerRingLaw -/
set_option maxRecDepth 100000
def RX0 : String := "DrawerRingLaw"
abbrev cX0_put : ByteArray := method_3_code
def yX0_put : MethodName := ⟨RX0, "put", "(LDrawerRing;II[J)I"⟩
def dkwX0_put_1 : List UInt8 := [172, 3, 172]
abbrev dktX0_put_1 : List UInt8 := dkwX0_put_1 ++ []
def dkwX0_put_0 : List UInt8 := [45, 3, 42, 27, 28, 182, 0, 7, 133, 80, 167, 0, 15, 58, 4, 4, 172, 58, 4, 5, 172, 58, 4, 6]
abbrev dktX0_put_0 : List UInt8 := dkwX0_put_0 ++ dktX0_put_1
theorem dksX0_put_0 : cX0_put.data.toList.drop 0 = dktX0_put_0 := by decide +kernel
theorem dksX0_put_1 : cX0_put.data.toList.drop 24 = dktX0_put_1 := dk_seg dksX0_put_0 24 rfl rfl
theorem dX0_put_0 : decode cX0_put 0 = .ok (.aload_n 3, 1) := dk_45 (dk_at dksX0_put_0 0 rfl rfl)
theorem dX0_put_1 : decode cX0_put 1 = .ok (.iconst 0, 1) := dk_3 (dk_at dksX0_put_0 1 rfl rfl)
theorem dX0_put_2 : decode cX0_put 2 = .ok (.aload_n 0, 1) := dk_42 (dk_at dksX0_put_0 2 rfl rfl)
theorem dX0_put_3 : decode cX0_put 3 = .ok (.iload_n 1, 1) := dk_27 (dk_at dksX0_put_0 3 rfl rfl)
theorem dX0_put_4 : decode cX0_put 4 = .ok (.iload_n 2, 1) := dk_28 (dk_at dksX0_put_0 4 rfl rfl)
theorem dX0_put_5 : decode cX0_put 5 = .ok (.invokevirtual 7, 3) := dk_182 0 7 (dk_at dksX0_put_0 5 rfl rfl)
theorem dX0_put_8 : decode cX0_put 8 = .ok (.i2l, 1) := dk_133 (dk_at dksX0_put_0 8 rfl rfl)
theorem dX0_put_9 : decode cX0_put 9 = .ok (.lastore, 1) := dk_80 (dk_at dksX0_put_0 9 rfl rfl)
theorem dX0_put_10 : decode cX0_put 10 = .ok (.goto 15, 3) := dk_167 0 15 (dk_at dksX0_put_0 10 rfl rfl)
theorem dX0_put_13 : decode cX0_put 13 = .ok (.astore 4, 2) := dk_58 4 (dk_at dksX0_put_0 13 rfl rfl)
theorem dX0_put_15 : decode cX0_put 15 = .ok (.iconst 1, 1) := dk_4 (dk_at dksX0_put_0 15 rfl rfl)
theorem dX0_put_16 : decode cX0_put 16 = .ok (.ireturn, 1) := dk_172 (dk_at dksX0_put_0 16 rfl rfl)
theorem dX0_put_17 : decode cX0_put 17 = .ok (.astore 4, 2) := dk_58 4 (dk_at dksX0_put_0 17 rfl rfl)
theorem dX0_put_19 : decode cX0_put 19 = .ok (.iconst 2, 1) := dk_5 (dk_at dksX0_put_0 19 rfl rfl)
theorem dX0_put_20 : decode cX0_put 20 = .ok (.ireturn, 1) := dk_172 (dk_at dksX0_put_0 20 rfl rfl)
theorem dX0_put_21 : decode cX0_put 21 = .ok (.astore 4, 2) := dk_58 4 (dk_at dksX0_put_0 21 rfl rfl)
theorem dX0_put_23 : decode cX0_put 23 = .ok (.iconst 3, 1) := dk_6 (dk_at dksX0_put_0 23 rfl rfl)
theorem dX0_put_24 : decode cX0_put 24 = .ok (.ireturn, 1) := dk_172 (dk_at dksX0_put_1 0 rfl rfl)
theorem dX0_put_25 : decode cX0_put 25 = .ok (.iconst 0, 1) := dk_3 (dk_at dksX0_put_1 1 rfl rfl)
theorem dX0_put_26 : decode cX0_put 26 = .ok (.ireturn, 1) := dk_172 (dk_at dksX0_put_1 2 rfl rfl)
abbrev cX0_move : ByteArray := method_4_code
def yX0_move : MethodName := ⟨RX0, "move", "(LDrawerRing;II[J)I"⟩
def dkwX0_move_0 : List UInt8 := [45, 3, 42, 27, 28, 182, 0, 19, 133, 80, 167, 0, 11, 58, 4, 4, 172, 58, 4, 5, 172, 3, 172]
abbrev dktX0_move_0 : List UInt8 := dkwX0_move_0 ++ []
theorem dksX0_move_0 : cX0_move.data.toList.drop 0 = dktX0_move_0 := by decide +kernel
theorem dX0_move_0 : decode cX0_move 0 = .ok (.aload_n 3, 1) := dk_45 (dk_at dksX0_move_0 0 rfl rfl)
theorem dX0_move_1 : decode cX0_move 1 = .ok (.iconst 0, 1) := dk_3 (dk_at dksX0_move_0 1 rfl rfl)
theorem dX0_move_2 : decode cX0_move 2 = .ok (.aload_n 0, 1) := dk_42 (dk_at dksX0_move_0 2 rfl rfl)
theorem dX0_move_3 : decode cX0_move 3 = .ok (.iload_n 1, 1) := dk_27 (dk_at dksX0_move_0 3 rfl rfl)
theorem dX0_move_4 : decode cX0_move 4 = .ok (.iload_n 2, 1) := dk_28 (dk_at dksX0_move_0 4 rfl rfl)
theorem dX0_move_5 : decode cX0_move 5 = .ok (.invokevirtual 19, 3) := dk_182 0 19 (dk_at dksX0_move_0 5 rfl rfl)
theorem dX0_move_8 : decode cX0_move 8 = .ok (.i2l, 1) := dk_133 (dk_at dksX0_move_0 8 rfl rfl)
theorem dX0_move_9 : decode cX0_move 9 = .ok (.lastore, 1) := dk_80 (dk_at dksX0_move_0 9 rfl rfl)
theorem dX0_move_10 : decode cX0_move 10 = .ok (.goto 11, 3) := dk_167 0 11 (dk_at dksX0_move_0 10 rfl rfl)
theorem dX0_move_13 : decode cX0_move 13 = .ok (.astore 4, 2) := dk_58 4 (dk_at dksX0_move_0 13 rfl rfl)
theorem dX0_move_15 : decode cX0_move 15 = .ok (.iconst 1, 1) := dk_4 (dk_at dksX0_move_0 15 rfl rfl)
theorem dX0_move_16 : decode cX0_move 16 = .ok (.ireturn, 1) := dk_172 (dk_at dksX0_move_0 16 rfl rfl)
theorem dX0_move_17 : decode cX0_move 17 = .ok (.astore 4, 2) := dk_58 4 (dk_at dksX0_move_0 17 rfl rfl)
theorem dX0_move_19 : decode cX0_move 19 = .ok (.iconst 2, 1) := dk_5 (dk_at dksX0_move_0 19 rfl rfl)
theorem dX0_move_20 : decode cX0_move 20 = .ok (.ireturn, 1) := dk_172 (dk_at dksX0_move_0 20 rfl rfl)
theorem dX0_move_21 : decode cX0_move 21 = .ok (.iconst 0, 1) := dk_3 (dk_at dksX0_move_0 21 rfl rfl)
theorem dX0_move_22 : decode cX0_move 22 = .ok (.ireturn, 1) := dk_172 (dk_at dksX0_move_0 22 rfl rfl)
abbrev cX0_pick : ByteArray := method_5_code
def yX0_pick : MethodName := ⟨RX0, "pick", "(LDrawerRing;I[J)I"⟩
def dkwX0_pick_0 : List UInt8 := [44, 3, 42, 27, 182, 0, 22, 133, 80, 167, 0, 9, 78, 4, 172, 78, 5, 172, 3, 172]
abbrev dktX0_pick_0 : List UInt8 := dkwX0_pick_0 ++ []
theorem dksX0_pick_0 : cX0_pick.data.toList.drop 0 = dktX0_pick_0 := by decide +kernel
theorem dX0_pick_0 : decode cX0_pick 0 = .ok (.aload_n 2, 1) := dk_44 (dk_at dksX0_pick_0 0 rfl rfl)
theorem dX0_pick_1 : decode cX0_pick 1 = .ok (.iconst 0, 1) := dk_3 (dk_at dksX0_pick_0 1 rfl rfl)
theorem dX0_pick_2 : decode cX0_pick 2 = .ok (.aload_n 0, 1) := dk_42 (dk_at dksX0_pick_0 2 rfl rfl)
theorem dX0_pick_3 : decode cX0_pick 3 = .ok (.iload_n 1, 1) := dk_27 (dk_at dksX0_pick_0 3 rfl rfl)
theorem dX0_pick_4 : decode cX0_pick 4 = .ok (.invokevirtual 22, 3) := dk_182 0 22 (dk_at dksX0_pick_0 4 rfl rfl)
theorem dX0_pick_7 : decode cX0_pick 7 = .ok (.i2l, 1) := dk_133 (dk_at dksX0_pick_0 7 rfl rfl)
theorem dX0_pick_8 : decode cX0_pick 8 = .ok (.lastore, 1) := dk_80 (dk_at dksX0_pick_0 8 rfl rfl)
theorem dX0_pick_9 : decode cX0_pick 9 = .ok (.goto 9, 3) := dk_167 0 9 (dk_at dksX0_pick_0 9 rfl rfl)
theorem dX0_pick_12 : decode cX0_pick 12 = .ok (.astore_n 3, 1) := dk_78 (dk_at dksX0_pick_0 12 rfl rfl)
theorem dX0_pick_13 : decode cX0_pick 13 = .ok (.iconst 1, 1) := dk_4 (dk_at dksX0_pick_0 13 rfl rfl)
theorem dX0_pick_14 : decode cX0_pick 14 = .ok (.ireturn, 1) := dk_172 (dk_at dksX0_pick_0 14 rfl rfl)
theorem dX0_pick_15 : decode cX0_pick 15 = .ok (.astore_n 3, 1) := dk_78 (dk_at dksX0_pick_0 15 rfl rfl)
theorem dX0_pick_16 : decode cX0_pick 16 = .ok (.iconst 2, 1) := dk_5 (dk_at dksX0_pick_0 16 rfl rfl)
theorem dX0_pick_17 : decode cX0_pick 17 = .ok (.ireturn, 1) := dk_172 (dk_at dksX0_pick_0 17 rfl rfl)
theorem dX0_pick_18 : decode cX0_pick 18 = .ok (.iconst 0, 1) := dk_3 (dk_at dksX0_pick_0 18 rfl rfl)
theorem dX0_pick_19 : decode cX0_pick 19 = .ok (.ireturn, 1) := dk_172 (dk_at dksX0_pick_0 19 rfl rfl)
abbrev cX0_turn : ByteArray := method_6_code
def yX0_turn : MethodName := ⟨RX0, "turn", "(LDrawerRing;I[J)I"⟩
def dkwX0_turn_0 : List UInt8 := [44, 3, 42, 27, 182, 0, 26, 133, 80, 167, 0, 9, 78, 4, 172, 78, 5, 172, 3, 172]
abbrev dktX0_turn_0 : List UInt8 := dkwX0_turn_0 ++ []
theorem dksX0_turn_0 : cX0_turn.data.toList.drop 0 = dktX0_turn_0 := by decide +kernel
theorem dX0_turn_0 : decode cX0_turn 0 = .ok (.aload_n 2, 1) := dk_44 (dk_at dksX0_turn_0 0 rfl rfl)
theorem dX0_turn_1 : decode cX0_turn 1 = .ok (.iconst 0, 1) := dk_3 (dk_at dksX0_turn_0 1 rfl rfl)
theorem dX0_turn_2 : decode cX0_turn 2 = .ok (.aload_n 0, 1) := dk_42 (dk_at dksX0_turn_0 2 rfl rfl)
theorem dX0_turn_3 : decode cX0_turn 3 = .ok (.iload_n 1, 1) := dk_27 (dk_at dksX0_turn_0 3 rfl rfl)
theorem dX0_turn_4 : decode cX0_turn 4 = .ok (.invokevirtual 26, 3) := dk_182 0 26 (dk_at dksX0_turn_0 4 rfl rfl)
theorem dX0_turn_7 : decode cX0_turn 7 = .ok (.i2l, 1) := dk_133 (dk_at dksX0_turn_0 7 rfl rfl)
theorem dX0_turn_8 : decode cX0_turn 8 = .ok (.lastore, 1) := dk_80 (dk_at dksX0_turn_0 8 rfl rfl)
theorem dX0_turn_9 : decode cX0_turn 9 = .ok (.goto 9, 3) := dk_167 0 9 (dk_at dksX0_turn_0 9 rfl rfl)
theorem dX0_turn_12 : decode cX0_turn 12 = .ok (.astore_n 3, 1) := dk_78 (dk_at dksX0_turn_0 12 rfl rfl)
theorem dX0_turn_13 : decode cX0_turn 13 = .ok (.iconst 1, 1) := dk_4 (dk_at dksX0_turn_0 13 rfl rfl)
theorem dX0_turn_14 : decode cX0_turn 14 = .ok (.ireturn, 1) := dk_172 (dk_at dksX0_turn_0 14 rfl rfl)
theorem dX0_turn_15 : decode cX0_turn 15 = .ok (.astore_n 3, 1) := dk_78 (dk_at dksX0_turn_0 15 rfl rfl)
theorem dX0_turn_16 : decode cX0_turn 16 = .ok (.iconst 2, 1) := dk_5 (dk_at dksX0_turn_0 16 rfl rfl)
theorem dX0_turn_17 : decode cX0_turn 17 = .ok (.ireturn, 1) := dk_172 (dk_at dksX0_turn_0 17 rfl rfl)
theorem dX0_turn_18 : decode cX0_turn 18 = .ok (.iconst 0, 1) := dk_3 (dk_at dksX0_turn_0 18 rfl rfl)
theorem dX0_turn_19 : decode cX0_turn 19 = .ok (.ireturn, 1) := dk_172 (dk_at dksX0_turn_0 19 rfl rfl)
abbrev cX0_jam : ByteArray := method_7_code
def yX0_jam : MethodName := ⟨RX0, "jam", "(LDrawerRing;IZ[J)I"⟩
def dkwX0_jam_0 : List UInt8 := [45, 3, 42, 27, 28, 182, 0, 29, 133, 80, 167, 0, 7, 58, 4, 4, 172, 3, 172]
abbrev dktX0_jam_0 : List UInt8 := dkwX0_jam_0 ++ []
theorem dksX0_jam_0 : cX0_jam.data.toList.drop 0 = dktX0_jam_0 := by decide +kernel
theorem dX0_jam_0 : decode cX0_jam 0 = .ok (.aload_n 3, 1) := dk_45 (dk_at dksX0_jam_0 0 rfl rfl)
theorem dX0_jam_1 : decode cX0_jam 1 = .ok (.iconst 0, 1) := dk_3 (dk_at dksX0_jam_0 1 rfl rfl)
theorem dX0_jam_2 : decode cX0_jam 2 = .ok (.aload_n 0, 1) := dk_42 (dk_at dksX0_jam_0 2 rfl rfl)
theorem dX0_jam_3 : decode cX0_jam 3 = .ok (.iload_n 1, 1) := dk_27 (dk_at dksX0_jam_0 3 rfl rfl)
theorem dX0_jam_4 : decode cX0_jam 4 = .ok (.iload_n 2, 1) := dk_28 (dk_at dksX0_jam_0 4 rfl rfl)
theorem dX0_jam_5 : decode cX0_jam 5 = .ok (.invokevirtual 29, 3) := dk_182 0 29 (dk_at dksX0_jam_0 5 rfl rfl)
theorem dX0_jam_8 : decode cX0_jam 8 = .ok (.i2l, 1) := dk_133 (dk_at dksX0_jam_0 8 rfl rfl)
theorem dX0_jam_9 : decode cX0_jam 9 = .ok (.lastore, 1) := dk_80 (dk_at dksX0_jam_0 9 rfl rfl)
theorem dX0_jam_10 : decode cX0_jam 10 = .ok (.goto 7, 3) := dk_167 0 7 (dk_at dksX0_jam_0 10 rfl rfl)
theorem dX0_jam_13 : decode cX0_jam 13 = .ok (.astore 4, 2) := dk_58 4 (dk_at dksX0_jam_0 13 rfl rfl)
theorem dX0_jam_15 : decode cX0_jam 15 = .ok (.iconst 1, 1) := dk_4 (dk_at dksX0_jam_0 15 rfl rfl)
theorem dX0_jam_16 : decode cX0_jam 16 = .ok (.ireturn, 1) := dk_172 (dk_at dksX0_jam_0 16 rfl rfl)
theorem dX0_jam_17 : decode cX0_jam 17 = .ok (.iconst 0, 1) := dk_3 (dk_at dksX0_jam_0 17 rfl rfl)
theorem dX0_jam_18 : decode cX0_jam 18 = .ok (.ireturn, 1) := dk_172 (dk_at dksX0_jam_0 18 rfl rfl)
abbrev cX0_set : ByteArray := method_8_code
def yX0_set : MethodName := ⟨RX0, "set", "(LDrawerRing;II[J)I"⟩
def dkwX0_set_1 : List UInt8 := [172, 3, 172]
abbrev dktX0_set_1 : List UInt8 := dkwX0_set_1 ++ []
def dkwX0_set_0 : List UInt8 := [45, 3, 42, 27, 28, 182, 0, 33, 133, 80, 167, 0, 15, 58, 4, 4, 172, 58, 4, 5, 172, 58, 4, 6]
abbrev dktX0_set_0 : List UInt8 := dkwX0_set_0 ++ dktX0_set_1
theorem dksX0_set_0 : cX0_set.data.toList.drop 0 = dktX0_set_0 := by decide +kernel
theorem dksX0_set_1 : cX0_set.data.toList.drop 24 = dktX0_set_1 := dk_seg dksX0_set_0 24 rfl rfl
theorem dX0_set_0 : decode cX0_set 0 = .ok (.aload_n 3, 1) := dk_45 (dk_at dksX0_set_0 0 rfl rfl)
theorem dX0_set_1 : decode cX0_set 1 = .ok (.iconst 0, 1) := dk_3 (dk_at dksX0_set_0 1 rfl rfl)
theorem dX0_set_2 : decode cX0_set 2 = .ok (.aload_n 0, 1) := dk_42 (dk_at dksX0_set_0 2 rfl rfl)
theorem dX0_set_3 : decode cX0_set 3 = .ok (.iload_n 1, 1) := dk_27 (dk_at dksX0_set_0 3 rfl rfl)
theorem dX0_set_4 : decode cX0_set 4 = .ok (.iload_n 2, 1) := dk_28 (dk_at dksX0_set_0 4 rfl rfl)
theorem dX0_set_5 : decode cX0_set 5 = .ok (.invokevirtual 33, 3) := dk_182 0 33 (dk_at dksX0_set_0 5 rfl rfl)
theorem dX0_set_8 : decode cX0_set 8 = .ok (.i2l, 1) := dk_133 (dk_at dksX0_set_0 8 rfl rfl)
theorem dX0_set_9 : decode cX0_set 9 = .ok (.lastore, 1) := dk_80 (dk_at dksX0_set_0 9 rfl rfl)
theorem dX0_set_10 : decode cX0_set 10 = .ok (.goto 15, 3) := dk_167 0 15 (dk_at dksX0_set_0 10 rfl rfl)
theorem dX0_set_13 : decode cX0_set 13 = .ok (.astore 4, 2) := dk_58 4 (dk_at dksX0_set_0 13 rfl rfl)
theorem dX0_set_15 : decode cX0_set 15 = .ok (.iconst 1, 1) := dk_4 (dk_at dksX0_set_0 15 rfl rfl)
theorem dX0_set_16 : decode cX0_set 16 = .ok (.ireturn, 1) := dk_172 (dk_at dksX0_set_0 16 rfl rfl)
theorem dX0_set_17 : decode cX0_set 17 = .ok (.astore 4, 2) := dk_58 4 (dk_at dksX0_set_0 17 rfl rfl)
theorem dX0_set_19 : decode cX0_set 19 = .ok (.iconst 2, 1) := dk_5 (dk_at dksX0_set_0 19 rfl rfl)
theorem dX0_set_20 : decode cX0_set 20 = .ok (.ireturn, 1) := dk_172 (dk_at dksX0_set_0 20 rfl rfl)
theorem dX0_set_21 : decode cX0_set 21 = .ok (.astore 4, 2) := dk_58 4 (dk_at dksX0_set_0 21 rfl rfl)
theorem dX0_set_23 : decode cX0_set 23 = .ok (.iconst 3, 1) := dk_6 (dk_at dksX0_set_0 23 rfl rfl)
theorem dX0_set_24 : decode cX0_set 24 = .ok (.ireturn, 1) := dk_172 (dk_at dksX0_set_1 0 rfl rfl)
theorem dX0_set_25 : decode cX0_set 25 = .ok (.iconst 0, 1) := dk_3 (dk_at dksX0_set_1 1 rfl rfl)
theorem dX0_set_26 : decode cX0_set 26 = .ok (.ireturn, 1) := dk_172 (dk_at dksX0_set_1 2 rfl rfl)
abbrev cX0_append : ByteArray := method_9_code
def yX0_append : MethodName := ⟨RX0, "append", "(LDrawerRing;I[J)I"⟩
def dkwX0_append_0 : List UInt8 := [44, 3, 42, 27, 182, 0, 36, 133, 80, 167, 0, 9, 78, 4, 172, 78, 5, 172, 3, 172]
abbrev dktX0_append_0 : List UInt8 := dkwX0_append_0 ++ []
theorem dksX0_append_0 : cX0_append.data.toList.drop 0 = dktX0_append_0 := by decide +kernel
theorem dX0_append_0 : decode cX0_append 0 = .ok (.aload_n 2, 1) := dk_44 (dk_at dksX0_append_0 0 rfl rfl)
theorem dX0_append_1 : decode cX0_append 1 = .ok (.iconst 0, 1) := dk_3 (dk_at dksX0_append_0 1 rfl rfl)
theorem dX0_append_2 : decode cX0_append 2 = .ok (.aload_n 0, 1) := dk_42 (dk_at dksX0_append_0 2 rfl rfl)
theorem dX0_append_3 : decode cX0_append 3 = .ok (.iload_n 1, 1) := dk_27 (dk_at dksX0_append_0 3 rfl rfl)
theorem dX0_append_4 : decode cX0_append 4 = .ok (.invokevirtual 36, 3) := dk_182 0 36 (dk_at dksX0_append_0 4 rfl rfl)
theorem dX0_append_7 : decode cX0_append 7 = .ok (.i2l, 1) := dk_133 (dk_at dksX0_append_0 7 rfl rfl)
theorem dX0_append_8 : decode cX0_append 8 = .ok (.lastore, 1) := dk_80 (dk_at dksX0_append_0 8 rfl rfl)
theorem dX0_append_9 : decode cX0_append 9 = .ok (.goto 9, 3) := dk_167 0 9 (dk_at dksX0_append_0 9 rfl rfl)
theorem dX0_append_12 : decode cX0_append 12 = .ok (.astore_n 3, 1) := dk_78 (dk_at dksX0_append_0 12 rfl rfl)
theorem dX0_append_13 : decode cX0_append 13 = .ok (.iconst 1, 1) := dk_4 (dk_at dksX0_append_0 13 rfl rfl)
theorem dX0_append_14 : decode cX0_append 14 = .ok (.ireturn, 1) := dk_172 (dk_at dksX0_append_0 14 rfl rfl)
theorem dX0_append_15 : decode cX0_append 15 = .ok (.astore_n 3, 1) := dk_78 (dk_at dksX0_append_0 15 rfl rfl)
theorem dX0_append_16 : decode cX0_append 16 = .ok (.iconst 2, 1) := dk_5 (dk_at dksX0_append_0 16 rfl rfl)
theorem dX0_append_17 : decode cX0_append 17 = .ok (.ireturn, 1) := dk_172 (dk_at dksX0_append_0 17 rfl rfl)
theorem dX0_append_18 : decode cX0_append 18 = .ok (.iconst 0, 1) := dk_3 (dk_at dksX0_append_0 18 rfl rfl)
theorem dX0_append_19 : decode cX0_append 19 = .ok (.ireturn, 1) := dk_172 (dk_at dksX0_append_0 19 rfl rfl)
abbrev cX0_pickAll : ByteArray := method_10_code
def yX0_pickAll : MethodName := ⟨RX0, "pickAll", "(LDrawerRing;[J)I"⟩
def dkwX0_pickAll_0 : List UInt8 := [43, 3, 42, 182, 0, 39, 133, 80, 167, 0, 6, 77, 4, 172, 3, 172]
abbrev dktX0_pickAll_0 : List UInt8 := dkwX0_pickAll_0 ++ []
theorem dksX0_pickAll_0 : cX0_pickAll.data.toList.drop 0 = dktX0_pickAll_0 := by decide +kernel
theorem dX0_pickAll_0 : decode cX0_pickAll 0 = .ok (.aload_n 1, 1) := dk_43 (dk_at dksX0_pickAll_0 0 rfl rfl)
theorem dX0_pickAll_1 : decode cX0_pickAll 1 = .ok (.iconst 0, 1) := dk_3 (dk_at dksX0_pickAll_0 1 rfl rfl)
theorem dX0_pickAll_2 : decode cX0_pickAll 2 = .ok (.aload_n 0, 1) := dk_42 (dk_at dksX0_pickAll_0 2 rfl rfl)
theorem dX0_pickAll_3 : decode cX0_pickAll 3 = .ok (.invokevirtual 39, 3) := dk_182 0 39 (dk_at dksX0_pickAll_0 3 rfl rfl)
theorem dX0_pickAll_6 : decode cX0_pickAll 6 = .ok (.i2l, 1) := dk_133 (dk_at dksX0_pickAll_0 6 rfl rfl)
theorem dX0_pickAll_7 : decode cX0_pickAll 7 = .ok (.lastore, 1) := dk_80 (dk_at dksX0_pickAll_0 7 rfl rfl)
theorem dX0_pickAll_8 : decode cX0_pickAll 8 = .ok (.goto 6, 3) := dk_167 0 6 (dk_at dksX0_pickAll_0 8 rfl rfl)
theorem dX0_pickAll_11 : decode cX0_pickAll 11 = .ok (.astore_n 2, 1) := dk_77 (dk_at dksX0_pickAll_0 11 rfl rfl)
theorem dX0_pickAll_12 : decode cX0_pickAll 12 = .ok (.iconst 1, 1) := dk_4 (dk_at dksX0_pickAll_0 12 rfl rfl)
theorem dX0_pickAll_13 : decode cX0_pickAll 13 = .ok (.ireturn, 1) := dk_172 (dk_at dksX0_pickAll_0 13 rfl rfl)
theorem dX0_pickAll_14 : decode cX0_pickAll 14 = .ok (.iconst 0, 1) := dk_3 (dk_at dksX0_pickAll_0 14 rfl rfl)
theorem dX0_pickAll_15 : decode cX0_pickAll 15 = .ok (.ireturn, 1) := dk_172 (dk_at dksX0_pickAll_0 15 rfl rfl)
abbrev cX0_undo : ByteArray := method_11_code
def yX0_undo : MethodName := ⟨RX0, "undo", "(LDrawerRing;[J)I"⟩
def dkwX0_undo_0 : List UInt8 := [43, 3, 42, 182, 0, 43, 133, 80, 167, 0, 6, 77, 4, 172, 3, 172]
abbrev dktX0_undo_0 : List UInt8 := dkwX0_undo_0 ++ []
theorem dksX0_undo_0 : cX0_undo.data.toList.drop 0 = dktX0_undo_0 := by decide +kernel
theorem dX0_undo_0 : decode cX0_undo 0 = .ok (.aload_n 1, 1) := dk_43 (dk_at dksX0_undo_0 0 rfl rfl)
theorem dX0_undo_1 : decode cX0_undo 1 = .ok (.iconst 0, 1) := dk_3 (dk_at dksX0_undo_0 1 rfl rfl)
theorem dX0_undo_2 : decode cX0_undo 2 = .ok (.aload_n 0, 1) := dk_42 (dk_at dksX0_undo_0 2 rfl rfl)
theorem dX0_undo_3 : decode cX0_undo 3 = .ok (.invokevirtual 43, 3) := dk_182 0 43 (dk_at dksX0_undo_0 3 rfl rfl)
theorem dX0_undo_6 : decode cX0_undo 6 = .ok (.i2l, 1) := dk_133 (dk_at dksX0_undo_0 6 rfl rfl)
theorem dX0_undo_7 : decode cX0_undo 7 = .ok (.lastore, 1) := dk_80 (dk_at dksX0_undo_0 7 rfl rfl)
theorem dX0_undo_8 : decode cX0_undo 8 = .ok (.goto 6, 3) := dk_167 0 6 (dk_at dksX0_undo_0 8 rfl rfl)
theorem dX0_undo_11 : decode cX0_undo 11 = .ok (.astore_n 2, 1) := dk_77 (dk_at dksX0_undo_0 11 rfl rfl)
theorem dX0_undo_12 : decode cX0_undo 12 = .ok (.iconst 1, 1) := dk_4 (dk_at dksX0_undo_0 12 rfl rfl)
theorem dX0_undo_13 : decode cX0_undo 13 = .ok (.ireturn, 1) := dk_172 (dk_at dksX0_undo_0 13 rfl rfl)
theorem dX0_undo_14 : decode cX0_undo 14 = .ok (.iconst 0, 1) := dk_3 (dk_at dksX0_undo_0 14 rfl rfl)
theorem dX0_undo_15 : decode cX0_undo 15 = .ok (.ireturn, 1) := dk_172 (dk_at dksX0_undo_0 15 rfl rfl)
abbrev cX0_drawer : ByteArray := method_12_code
def yX0_drawer : MethodName := ⟨RX0, "drawer", "(LDrawerRing;II[J)I"⟩
def dkwX0_drawer_0 : List UInt8 := [45, 3, 42, 27, 28, 182, 0, 46, 133, 80, 167, 0, 11, 58, 4, 4, 172, 58, 4, 5, 172, 3, 172]
abbrev dktX0_drawer_0 : List UInt8 := dkwX0_drawer_0 ++ []
theorem dksX0_drawer_0 : cX0_drawer.data.toList.drop 0 = dktX0_drawer_0 := by decide +kernel
theorem dX0_drawer_0 : decode cX0_drawer 0 = .ok (.aload_n 3, 1) := dk_45 (dk_at dksX0_drawer_0 0 rfl rfl)
theorem dX0_drawer_1 : decode cX0_drawer 1 = .ok (.iconst 0, 1) := dk_3 (dk_at dksX0_drawer_0 1 rfl rfl)
theorem dX0_drawer_2 : decode cX0_drawer 2 = .ok (.aload_n 0, 1) := dk_42 (dk_at dksX0_drawer_0 2 rfl rfl)
theorem dX0_drawer_3 : decode cX0_drawer 3 = .ok (.iload_n 1, 1) := dk_27 (dk_at dksX0_drawer_0 3 rfl rfl)
theorem dX0_drawer_4 : decode cX0_drawer 4 = .ok (.iload_n 2, 1) := dk_28 (dk_at dksX0_drawer_0 4 rfl rfl)
theorem dX0_drawer_5 : decode cX0_drawer 5 = .ok (.invokevirtual 46, 3) := dk_182 0 46 (dk_at dksX0_drawer_0 5 rfl rfl)
theorem dX0_drawer_8 : decode cX0_drawer 8 = .ok (.i2l, 1) := dk_133 (dk_at dksX0_drawer_0 8 rfl rfl)
theorem dX0_drawer_9 : decode cX0_drawer 9 = .ok (.lastore, 1) := dk_80 (dk_at dksX0_drawer_0 9 rfl rfl)
theorem dX0_drawer_10 : decode cX0_drawer 10 = .ok (.goto 11, 3) := dk_167 0 11 (dk_at dksX0_drawer_0 10 rfl rfl)
theorem dX0_drawer_13 : decode cX0_drawer 13 = .ok (.astore 4, 2) := dk_58 4 (dk_at dksX0_drawer_0 13 rfl rfl)
theorem dX0_drawer_15 : decode cX0_drawer 15 = .ok (.iconst 1, 1) := dk_4 (dk_at dksX0_drawer_0 15 rfl rfl)
theorem dX0_drawer_16 : decode cX0_drawer 16 = .ok (.ireturn, 1) := dk_172 (dk_at dksX0_drawer_0 16 rfl rfl)
theorem dX0_drawer_17 : decode cX0_drawer 17 = .ok (.astore 4, 2) := dk_58 4 (dk_at dksX0_drawer_0 17 rfl rfl)
theorem dX0_drawer_19 : decode cX0_drawer 19 = .ok (.iconst 2, 1) := dk_5 (dk_at dksX0_drawer_0 19 rfl rfl)
theorem dX0_drawer_20 : decode cX0_drawer 20 = .ok (.ireturn, 1) := dk_172 (dk_at dksX0_drawer_0 20 rfl rfl)
theorem dX0_drawer_21 : decode cX0_drawer 21 = .ok (.iconst 0, 1) := dk_3 (dk_at dksX0_drawer_0 21 rfl rfl)
theorem dX0_drawer_22 : decode cX0_drawer 22 = .ok (.ireturn, 1) := dk_172 (dk_at dksX0_drawer_0 22 rfl rfl)
abbrev cX0_item : ByteArray := method_13_code
def yX0_item : MethodName := ⟨RX0, "item", "(LDrawerRing;II[J)I"⟩
def dkwX0_item_0 : List UInt8 := [45, 3, 42, 27, 28, 182, 0, 49, 133, 80, 167, 0, 11, 58, 4, 4, 172, 58, 4, 5, 172, 3, 172]
abbrev dktX0_item_0 : List UInt8 := dkwX0_item_0 ++ []
theorem dksX0_item_0 : cX0_item.data.toList.drop 0 = dktX0_item_0 := by decide +kernel
theorem dX0_item_0 : decode cX0_item 0 = .ok (.aload_n 3, 1) := dk_45 (dk_at dksX0_item_0 0 rfl rfl)
theorem dX0_item_1 : decode cX0_item 1 = .ok (.iconst 0, 1) := dk_3 (dk_at dksX0_item_0 1 rfl rfl)
theorem dX0_item_2 : decode cX0_item 2 = .ok (.aload_n 0, 1) := dk_42 (dk_at dksX0_item_0 2 rfl rfl)
theorem dX0_item_3 : decode cX0_item 3 = .ok (.iload_n 1, 1) := dk_27 (dk_at dksX0_item_0 3 rfl rfl)
theorem dX0_item_4 : decode cX0_item 4 = .ok (.iload_n 2, 1) := dk_28 (dk_at dksX0_item_0 4 rfl rfl)
theorem dX0_item_5 : decode cX0_item 5 = .ok (.invokevirtual 49, 3) := dk_182 0 49 (dk_at dksX0_item_0 5 rfl rfl)
theorem dX0_item_8 : decode cX0_item 8 = .ok (.i2l, 1) := dk_133 (dk_at dksX0_item_0 8 rfl rfl)
theorem dX0_item_9 : decode cX0_item 9 = .ok (.lastore, 1) := dk_80 (dk_at dksX0_item_0 9 rfl rfl)
theorem dX0_item_10 : decode cX0_item 10 = .ok (.goto 11, 3) := dk_167 0 11 (dk_at dksX0_item_0 10 rfl rfl)
theorem dX0_item_13 : decode cX0_item 13 = .ok (.astore 4, 2) := dk_58 4 (dk_at dksX0_item_0 13 rfl rfl)
theorem dX0_item_15 : decode cX0_item 15 = .ok (.iconst 1, 1) := dk_4 (dk_at dksX0_item_0 15 rfl rfl)
theorem dX0_item_16 : decode cX0_item 16 = .ok (.ireturn, 1) := dk_172 (dk_at dksX0_item_0 16 rfl rfl)
theorem dX0_item_17 : decode cX0_item 17 = .ok (.astore 4, 2) := dk_58 4 (dk_at dksX0_item_0 17 rfl rfl)
theorem dX0_item_19 : decode cX0_item 19 = .ok (.iconst 2, 1) := dk_5 (dk_at dksX0_item_0 19 rfl rfl)
theorem dX0_item_20 : decode cX0_item 20 = .ok (.ireturn, 1) := dk_172 (dk_at dksX0_item_0 20 rfl rfl)
theorem dX0_item_21 : decode cX0_item 21 = .ok (.iconst 0, 1) := dk_3 (dk_at dksX0_item_0 21 rfl rfl)
theorem dX0_item_22 : decode cX0_item 22 = .ok (.ireturn, 1) := dk_172 (dk_at dksX0_item_0 22 rfl rfl)
abbrev cX0_count : ByteArray := method_14_code
def yX0_count : MethodName := ⟨RX0, "count", "(LDrawerRing;I[J)I"⟩
def dkwX0_count_0 : List UInt8 := [44, 3, 42, 27, 182, 0, 52, 133, 80, 167, 0, 6, 78, 4, 172, 3, 172]
abbrev dktX0_count_0 : List UInt8 := dkwX0_count_0 ++ []
theorem dksX0_count_0 : cX0_count.data.toList.drop 0 = dktX0_count_0 := by decide +kernel
theorem dX0_count_0 : decode cX0_count 0 = .ok (.aload_n 2, 1) := dk_44 (dk_at dksX0_count_0 0 rfl rfl)
theorem dX0_count_1 : decode cX0_count 1 = .ok (.iconst 0, 1) := dk_3 (dk_at dksX0_count_0 1 rfl rfl)
theorem dX0_count_2 : decode cX0_count 2 = .ok (.aload_n 0, 1) := dk_42 (dk_at dksX0_count_0 2 rfl rfl)
theorem dX0_count_3 : decode cX0_count 3 = .ok (.iload_n 1, 1) := dk_27 (dk_at dksX0_count_0 3 rfl rfl)
theorem dX0_count_4 : decode cX0_count 4 = .ok (.invokevirtual 52, 3) := dk_182 0 52 (dk_at dksX0_count_0 4 rfl rfl)
theorem dX0_count_7 : decode cX0_count 7 = .ok (.i2l, 1) := dk_133 (dk_at dksX0_count_0 7 rfl rfl)
theorem dX0_count_8 : decode cX0_count 8 = .ok (.lastore, 1) := dk_80 (dk_at dksX0_count_0 8 rfl rfl)
theorem dX0_count_9 : decode cX0_count 9 = .ok (.goto 6, 3) := dk_167 0 6 (dk_at dksX0_count_0 9 rfl rfl)
theorem dX0_count_12 : decode cX0_count 12 = .ok (.astore_n 3, 1) := dk_78 (dk_at dksX0_count_0 12 rfl rfl)
theorem dX0_count_13 : decode cX0_count 13 = .ok (.iconst 1, 1) := dk_4 (dk_at dksX0_count_0 13 rfl rfl)
theorem dX0_count_14 : decode cX0_count 14 = .ok (.ireturn, 1) := dk_172 (dk_at dksX0_count_0 14 rfl rfl)
theorem dX0_count_15 : decode cX0_count 15 = .ok (.iconst 0, 1) := dk_3 (dk_at dksX0_count_0 15 rfl rfl)
theorem dX0_count_16 : decode cX0_count 16 = .ok (.ireturn, 1) := dk_172 (dk_at dksX0_count_0 16 rfl rfl)
abbrev cX0_setting : ByteArray := method_15_code
def yX0_setting : MethodName := ⟨RX0, "setting", "(LDrawerRing;I[J)I"⟩
def dkwX0_setting_0 : List UInt8 := [44, 3, 42, 27, 182, 0, 55, 133, 80, 167, 0, 6, 78, 4, 172, 3, 172]
abbrev dktX0_setting_0 : List UInt8 := dkwX0_setting_0 ++ []
theorem dksX0_setting_0 : cX0_setting.data.toList.drop 0 = dktX0_setting_0 := by decide +kernel
theorem dX0_setting_0 : decode cX0_setting 0 = .ok (.aload_n 2, 1) := dk_44 (dk_at dksX0_setting_0 0 rfl rfl)
theorem dX0_setting_1 : decode cX0_setting 1 = .ok (.iconst 0, 1) := dk_3 (dk_at dksX0_setting_0 1 rfl rfl)
theorem dX0_setting_2 : decode cX0_setting 2 = .ok (.aload_n 0, 1) := dk_42 (dk_at dksX0_setting_0 2 rfl rfl)
theorem dX0_setting_3 : decode cX0_setting 3 = .ok (.iload_n 1, 1) := dk_27 (dk_at dksX0_setting_0 3 rfl rfl)
theorem dX0_setting_4 : decode cX0_setting 4 = .ok (.invokevirtual 55, 3) := dk_182 0 55 (dk_at dksX0_setting_0 4 rfl rfl)
theorem dX0_setting_7 : decode cX0_setting 7 = .ok (.i2l, 1) := dk_133 (dk_at dksX0_setting_0 7 rfl rfl)
theorem dX0_setting_8 : decode cX0_setting 8 = .ok (.lastore, 1) := dk_80 (dk_at dksX0_setting_0 8 rfl rfl)
theorem dX0_setting_9 : decode cX0_setting 9 = .ok (.goto 6, 3) := dk_167 0 6 (dk_at dksX0_setting_0 9 rfl rfl)
theorem dX0_setting_12 : decode cX0_setting 12 = .ok (.astore_n 3, 1) := dk_78 (dk_at dksX0_setting_0 12 rfl rfl)
theorem dX0_setting_13 : decode cX0_setting 13 = .ok (.iconst 1, 1) := dk_4 (dk_at dksX0_setting_0 13 rfl rfl)
theorem dX0_setting_14 : decode cX0_setting 14 = .ok (.ireturn, 1) := dk_172 (dk_at dksX0_setting_0 14 rfl rfl)
theorem dX0_setting_15 : decode cX0_setting 15 = .ok (.iconst 0, 1) := dk_3 (dk_at dksX0_setting_0 15 rfl rfl)
theorem dX0_setting_16 : decode cX0_setting 16 = .ok (.ireturn, 1) := dk_172 (dk_at dksX0_setting_0 16 rfl rfl)
abbrev cX0_way : ByteArray := method_16_code
def yX0_way : MethodName := ⟨RX0, "way", "(LDrawerRing;I[J)I"⟩
def dkwX0_way_0 : List UInt8 := [44, 3, 42, 27, 182, 0, 58, 133, 80, 167, 0, 6, 78, 4, 172, 3, 172]
abbrev dktX0_way_0 : List UInt8 := dkwX0_way_0 ++ []
theorem dksX0_way_0 : cX0_way.data.toList.drop 0 = dktX0_way_0 := by decide +kernel
theorem dX0_way_0 : decode cX0_way 0 = .ok (.aload_n 2, 1) := dk_44 (dk_at dksX0_way_0 0 rfl rfl)
theorem dX0_way_1 : decode cX0_way 1 = .ok (.iconst 0, 1) := dk_3 (dk_at dksX0_way_0 1 rfl rfl)
theorem dX0_way_2 : decode cX0_way 2 = .ok (.aload_n 0, 1) := dk_42 (dk_at dksX0_way_0 2 rfl rfl)
theorem dX0_way_3 : decode cX0_way 3 = .ok (.iload_n 1, 1) := dk_27 (dk_at dksX0_way_0 3 rfl rfl)
theorem dX0_way_4 : decode cX0_way 4 = .ok (.invokevirtual 58, 3) := dk_182 0 58 (dk_at dksX0_way_0 4 rfl rfl)
theorem dX0_way_7 : decode cX0_way 7 = .ok (.i2l, 1) := dk_133 (dk_at dksX0_way_0 7 rfl rfl)
theorem dX0_way_8 : decode cX0_way 8 = .ok (.lastore, 1) := dk_80 (dk_at dksX0_way_0 8 rfl rfl)
theorem dX0_way_9 : decode cX0_way 9 = .ok (.goto 6, 3) := dk_167 0 6 (dk_at dksX0_way_0 9 rfl rfl)
theorem dX0_way_12 : decode cX0_way 12 = .ok (.astore_n 3, 1) := dk_78 (dk_at dksX0_way_0 12 rfl rfl)
theorem dX0_way_13 : decode cX0_way 13 = .ok (.iconst 1, 1) := dk_4 (dk_at dksX0_way_0 13 rfl rfl)
theorem dX0_way_14 : decode cX0_way 14 = .ok (.ireturn, 1) := dk_172 (dk_at dksX0_way_0 14 rfl rfl)
theorem dX0_way_15 : decode cX0_way 15 = .ok (.iconst 0, 1) := dk_3 (dk_at dksX0_way_0 15 rfl rfl)
theorem dX0_way_16 : decode cX0_way 16 = .ok (.ireturn, 1) := dk_172 (dk_at dksX0_way_0 16 rfl rfl)
abbrev cX0_ifPut : ByteArray := method_17_code
def yX0_ifPut : MethodName := ⟨RX0, "ifPut", "(LDrawerRing;II[J)I"⟩
def dkwX0_ifPut_0 : List UInt8 := [45, 3, 42, 27, 28, 182, 0, 61, 133, 80, 167, 0, 11, 58, 4, 4, 172, 58, 4, 5, 172, 3, 172]
abbrev dktX0_ifPut_0 : List UInt8 := dkwX0_ifPut_0 ++ []
theorem dksX0_ifPut_0 : cX0_ifPut.data.toList.drop 0 = dktX0_ifPut_0 := by decide +kernel
theorem dX0_ifPut_0 : decode cX0_ifPut 0 = .ok (.aload_n 3, 1) := dk_45 (dk_at dksX0_ifPut_0 0 rfl rfl)
theorem dX0_ifPut_1 : decode cX0_ifPut 1 = .ok (.iconst 0, 1) := dk_3 (dk_at dksX0_ifPut_0 1 rfl rfl)
theorem dX0_ifPut_2 : decode cX0_ifPut 2 = .ok (.aload_n 0, 1) := dk_42 (dk_at dksX0_ifPut_0 2 rfl rfl)
theorem dX0_ifPut_3 : decode cX0_ifPut 3 = .ok (.iload_n 1, 1) := dk_27 (dk_at dksX0_ifPut_0 3 rfl rfl)
theorem dX0_ifPut_4 : decode cX0_ifPut 4 = .ok (.iload_n 2, 1) := dk_28 (dk_at dksX0_ifPut_0 4 rfl rfl)
theorem dX0_ifPut_5 : decode cX0_ifPut 5 = .ok (.invokevirtual 61, 3) := dk_182 0 61 (dk_at dksX0_ifPut_0 5 rfl rfl)
theorem dX0_ifPut_8 : decode cX0_ifPut 8 = .ok (.i2l, 1) := dk_133 (dk_at dksX0_ifPut_0 8 rfl rfl)
theorem dX0_ifPut_9 : decode cX0_ifPut 9 = .ok (.lastore, 1) := dk_80 (dk_at dksX0_ifPut_0 9 rfl rfl)
theorem dX0_ifPut_10 : decode cX0_ifPut 10 = .ok (.goto 11, 3) := dk_167 0 11 (dk_at dksX0_ifPut_0 10 rfl rfl)
theorem dX0_ifPut_13 : decode cX0_ifPut 13 = .ok (.astore 4, 2) := dk_58 4 (dk_at dksX0_ifPut_0 13 rfl rfl)
theorem dX0_ifPut_15 : decode cX0_ifPut 15 = .ok (.iconst 1, 1) := dk_4 (dk_at dksX0_ifPut_0 15 rfl rfl)
theorem dX0_ifPut_16 : decode cX0_ifPut 16 = .ok (.ireturn, 1) := dk_172 (dk_at dksX0_ifPut_0 16 rfl rfl)
theorem dX0_ifPut_17 : decode cX0_ifPut 17 = .ok (.astore 4, 2) := dk_58 4 (dk_at dksX0_ifPut_0 17 rfl rfl)
theorem dX0_ifPut_19 : decode cX0_ifPut 19 = .ok (.iconst 2, 1) := dk_5 (dk_at dksX0_ifPut_0 19 rfl rfl)
theorem dX0_ifPut_20 : decode cX0_ifPut 20 = .ok (.ireturn, 1) := dk_172 (dk_at dksX0_ifPut_0 20 rfl rfl)
theorem dX0_ifPut_21 : decode cX0_ifPut 21 = .ok (.iconst 0, 1) := dk_3 (dk_at dksX0_ifPut_0 21 rfl rfl)
theorem dX0_ifPut_22 : decode cX0_ifPut 22 = .ok (.ireturn, 1) := dk_172 (dk_at dksX0_ifPut_0 22 rfl rfl)
abbrev cX0_bestDrawer : ByteArray := method_18_code
def yX0_bestDrawer : MethodName := ⟨RX0, "bestDrawer", "(LDrawerRing;I[J)I"⟩
def dkwX0_bestDrawer_0 : List UInt8 := [44, 3, 42, 27, 182, 0, 64, 133, 80, 167, 0, 6, 78, 4, 172, 3, 172]
abbrev dktX0_bestDrawer_0 : List UInt8 := dkwX0_bestDrawer_0 ++ []
theorem dksX0_bestDrawer_0 : cX0_bestDrawer.data.toList.drop 0 = dktX0_bestDrawer_0 := by decide +kernel
theorem dX0_bestDrawer_0 : decode cX0_bestDrawer 0 = .ok (.aload_n 2, 1) := dk_44 (dk_at dksX0_bestDrawer_0 0 rfl rfl)
theorem dX0_bestDrawer_1 : decode cX0_bestDrawer 1 = .ok (.iconst 0, 1) := dk_3 (dk_at dksX0_bestDrawer_0 1 rfl rfl)
theorem dX0_bestDrawer_2 : decode cX0_bestDrawer 2 = .ok (.aload_n 0, 1) := dk_42 (dk_at dksX0_bestDrawer_0 2 rfl rfl)
theorem dX0_bestDrawer_3 : decode cX0_bestDrawer 3 = .ok (.iload_n 1, 1) := dk_27 (dk_at dksX0_bestDrawer_0 3 rfl rfl)
theorem dX0_bestDrawer_4 : decode cX0_bestDrawer 4 = .ok (.invokevirtual 64, 3) := dk_182 0 64 (dk_at dksX0_bestDrawer_0 4 rfl rfl)
theorem dX0_bestDrawer_7 : decode cX0_bestDrawer 7 = .ok (.i2l, 1) := dk_133 (dk_at dksX0_bestDrawer_0 7 rfl rfl)
theorem dX0_bestDrawer_8 : decode cX0_bestDrawer 8 = .ok (.lastore, 1) := dk_80 (dk_at dksX0_bestDrawer_0 8 rfl rfl)
theorem dX0_bestDrawer_9 : decode cX0_bestDrawer 9 = .ok (.goto 6, 3) := dk_167 0 6 (dk_at dksX0_bestDrawer_0 9 rfl rfl)
theorem dX0_bestDrawer_12 : decode cX0_bestDrawer 12 = .ok (.astore_n 3, 1) := dk_78 (dk_at dksX0_bestDrawer_0 12 rfl rfl)
theorem dX0_bestDrawer_13 : decode cX0_bestDrawer 13 = .ok (.iconst 1, 1) := dk_4 (dk_at dksX0_bestDrawer_0 13 rfl rfl)
theorem dX0_bestDrawer_14 : decode cX0_bestDrawer 14 = .ok (.ireturn, 1) := dk_172 (dk_at dksX0_bestDrawer_0 14 rfl rfl)
theorem dX0_bestDrawer_15 : decode cX0_bestDrawer 15 = .ok (.iconst 0, 1) := dk_3 (dk_at dksX0_bestDrawer_0 15 rfl rfl)
theorem dX0_bestDrawer_16 : decode cX0_bestDrawer 16 = .ok (.ireturn, 1) := dk_172 (dk_at dksX0_bestDrawer_0 16 rfl rfl)
abbrev cX0_ifPicked : ByteArray := method_19_code
def yX0_ifPicked : MethodName := ⟨RX0, "ifPicked", "(LDrawerRing;II[J)I"⟩
def dkwX0_ifPicked_0 : List UInt8 := [45, 3, 42, 27, 28, 182, 0, 67, 133, 80, 167, 0, 7, 58, 4, 4, 172, 3, 172]
abbrev dktX0_ifPicked_0 : List UInt8 := dkwX0_ifPicked_0 ++ []
theorem dksX0_ifPicked_0 : cX0_ifPicked.data.toList.drop 0 = dktX0_ifPicked_0 := by decide +kernel
theorem dX0_ifPicked_0 : decode cX0_ifPicked 0 = .ok (.aload_n 3, 1) := dk_45 (dk_at dksX0_ifPicked_0 0 rfl rfl)
theorem dX0_ifPicked_1 : decode cX0_ifPicked 1 = .ok (.iconst 0, 1) := dk_3 (dk_at dksX0_ifPicked_0 1 rfl rfl)
theorem dX0_ifPicked_2 : decode cX0_ifPicked 2 = .ok (.aload_n 0, 1) := dk_42 (dk_at dksX0_ifPicked_0 2 rfl rfl)
theorem dX0_ifPicked_3 : decode cX0_ifPicked 3 = .ok (.iload_n 1, 1) := dk_27 (dk_at dksX0_ifPicked_0 3 rfl rfl)
theorem dX0_ifPicked_4 : decode cX0_ifPicked 4 = .ok (.iload_n 2, 1) := dk_28 (dk_at dksX0_ifPicked_0 4 rfl rfl)
theorem dX0_ifPicked_5 : decode cX0_ifPicked 5 = .ok (.invokevirtual 67, 3) := dk_182 0 67 (dk_at dksX0_ifPicked_0 5 rfl rfl)
theorem dX0_ifPicked_8 : decode cX0_ifPicked 8 = .ok (.i2l, 1) := dk_133 (dk_at dksX0_ifPicked_0 8 rfl rfl)
theorem dX0_ifPicked_9 : decode cX0_ifPicked 9 = .ok (.lastore, 1) := dk_80 (dk_at dksX0_ifPicked_0 9 rfl rfl)
theorem dX0_ifPicked_10 : decode cX0_ifPicked 10 = .ok (.goto 7, 3) := dk_167 0 7 (dk_at dksX0_ifPicked_0 10 rfl rfl)
theorem dX0_ifPicked_13 : decode cX0_ifPicked 13 = .ok (.astore 4, 2) := dk_58 4 (dk_at dksX0_ifPicked_0 13 rfl rfl)
theorem dX0_ifPicked_15 : decode cX0_ifPicked 15 = .ok (.iconst 1, 1) := dk_4 (dk_at dksX0_ifPicked_0 15 rfl rfl)
theorem dX0_ifPicked_16 : decode cX0_ifPicked 16 = .ok (.ireturn, 1) := dk_172 (dk_at dksX0_ifPicked_0 16 rfl rfl)
theorem dX0_ifPicked_17 : decode cX0_ifPicked 17 = .ok (.iconst 0, 1) := dk_3 (dk_at dksX0_ifPicked_0 17 rfl rfl)
theorem dX0_ifPicked_18 : decode cX0_ifPicked 18 = .ok (.ireturn, 1) := dk_172 (dk_at dksX0_ifPicked_0 18 rfl rfl)
theorem q71 : (Jvm.Cond.initialized "DrawerRingLaw") ∈ lw_all := lw_g (lw_at lw_m1 0 rfl) rfl
theorem q112 : (Jvm.Cond.classLink "DrawerRingLaw" (8 : Nat) "DrawerRing") ∈ lw_all := lw_g (lw_at lw_m1 41 rfl) rfl
theorem q114 : (Jvm.Cond.methodLink "DrawerRingLaw" (70 : Nat) ({ cls := "DrawerRing", name := "<init>", desc := "()V" } : Jvm.MethodName)) ∈ lw_all := lw_g (lw_at lw_m1 43 rfl) rfl
theorem q284 : (Jvm.Cond.methodLink "DrawerRingLaw" (103 : Nat) ({ cls := "DrawerRing", name := "clearBuffer", desc := "()I" } : Jvm.MethodName)) ∈ lw_all := lw_g (lw_at lw_m1 213 rfl) rfl
theorem q636 : (Jvm.Cond.methodLink "DrawerRingLaw" (107 : Nat) ({ cls := "DrawerRing", name := "firstError", desc := "()I" } : Jvm.MethodName)) ∈ lw_all := lw_g (lw_at lw_m3 85 rfl) rfl
theorem q719 : (Jvm.Cond.methodLink "DrawerRingLaw" (130 : Nat) ({ cls := "DrawerRing", name := "refusal", desc := "(I)I" } : Jvm.MethodName)) ∈ lw_all := lw_g (lw_at lw_m3 168 rfl) rfl
theorem q1113 : (Jvm.Cond.methodLink "DrawerRingLaw" (146 : Nat) ({ cls := "DrawerRing", name := "evenness", desc := "()D" } : Jvm.MethodName)) ∈ lw_all := lw_g (lw_at lw_m5 82 rfl) rfl
theorem q1127 : (Jvm.Cond.methodLink "DrawerRingLaw" (151 : Nat) ({ cls := "DrawerRing", name := "digest", desc := "()J" } : Jvm.MethodName)) ∈ lw_all := lw_g (lw_at lw_m5 96 rfl) rfl
theorem q1513 : (Jvm.Cond.methodLink "DrawerRingLaw" (74 : Nat) ({ cls := "DrawerRingLaw", name := "put", desc := "(LDrawerRing;II[J)I" } : Jvm.MethodName)) ∈ lw_all := lw_g (lw_at lw_m7 2 rfl) rfl
theorem q1514 : (Jvm.Cond.static ({ cls := "DrawerRingLaw", name := "put", desc := "(LDrawerRing;II[J)I" } : Jvm.MethodName)) ∈ lw_all := lw_g (lw_at lw_m7 3 rfl) rfl
theorem q1515 : (Jvm.Cond.codeWith ({ cls := "DrawerRingLaw", name := "put", desc := "(LDrawerRing;II[J)I" } : Jvm.MethodName) method_3_code (5 : Nat) (Option.some Jvm.ClassFile.FieldType.int) [((0 : Nat), (10 : Nat), (13 : Nat), (13 : Nat)), ((0 : Nat), (10 : Nat), (17 : Nat), (15 : Nat)), ((0 : Nat), (10 : Nat), (21 : Nat), (17 : Nat))]) ∈ lw_all := lw_g (lw_at lw_m7 4 rfl) rfl
theorem q1516 : (Jvm.Cond.classLink "DrawerRingLaw" (13 : Nat) "java/lang/IndexOutOfBoundsException") ∈ lw_all := lw_g (lw_at lw_m7 5 rfl) rfl
theorem q1519 : (Jvm.Cond.classLink "DrawerRingLaw" (15 : Nat) "java/lang/IllegalArgumentException") ∈ lw_all := lw_g (lw_at lw_m7 8 rfl) rfl
theorem q1520 : (Jvm.Cond.classLink "DrawerRingLaw" (17 : Nat) "java/lang/IllegalStateException") ∈ lw_all := lw_g (lw_at lw_m7 9 rfl) rfl
theorem q1521 : (Jvm.Cond.methodLink "DrawerRingLaw" (7 : Nat) ({ cls := "DrawerRing", name := "put", desc := "(II)I" } : Jvm.MethodName)) ∈ lw_all := lw_g (lw_at lw_m7 10 rfl) rfl
theorem q1603 : (Jvm.Cond.methodLink "DrawerRingLaw" (83 : Nat) ({ cls := "DrawerRingLaw", name := "move", desc := "(LDrawerRing;II[J)I" } : Jvm.MethodName)) ∈ lw_all := lw_g (lw_at lw_m7 92 rfl) rfl
theorem q1604 : (Jvm.Cond.static ({ cls := "DrawerRingLaw", name := "move", desc := "(LDrawerRing;II[J)I" } : Jvm.MethodName)) ∈ lw_all := lw_g (lw_at lw_m7 93 rfl) rfl
theorem q1605 : (Jvm.Cond.codeWith ({ cls := "DrawerRingLaw", name := "move", desc := "(LDrawerRing;II[J)I" } : Jvm.MethodName) method_4_code (5 : Nat) (Option.some Jvm.ClassFile.FieldType.int) [((0 : Nat), (10 : Nat), (13 : Nat), (13 : Nat)), ((0 : Nat), (10 : Nat), (17 : Nat), (17 : Nat))]) ∈ lw_all := lw_g (lw_at lw_m7 94 rfl) rfl
theorem q1606 : (Jvm.Cond.methodLink "DrawerRingLaw" (19 : Nat) ({ cls := "DrawerRing", name := "move", desc := "(II)I" } : Jvm.MethodName)) ∈ lw_all := lw_g (lw_at lw_m7 95 rfl) rfl
theorem q1611 : (Jvm.Cond.methodLink "DrawerRingLaw" (86 : Nat) ({ cls := "DrawerRingLaw", name := "pick", desc := "(LDrawerRing;I[J)I" } : Jvm.MethodName)) ∈ lw_all := lw_g (lw_at lw_m7 100 rfl) rfl
theorem q1612 : (Jvm.Cond.static ({ cls := "DrawerRingLaw", name := "pick", desc := "(LDrawerRing;I[J)I" } : Jvm.MethodName)) ∈ lw_all := lw_g (lw_at lw_m7 101 rfl) rfl
theorem q1613 : (Jvm.Cond.codeWith ({ cls := "DrawerRingLaw", name := "pick", desc := "(LDrawerRing;I[J)I" } : Jvm.MethodName) method_5_code (4 : Nat) (Option.some Jvm.ClassFile.FieldType.int) [((0 : Nat), (9 : Nat), (12 : Nat), (13 : Nat)), ((0 : Nat), (9 : Nat), (15 : Nat), (17 : Nat))]) ∈ lw_all := lw_g (lw_at lw_m7 102 rfl) rfl
theorem q1614 : (Jvm.Cond.methodLink "DrawerRingLaw" (22 : Nat) ({ cls := "DrawerRing", name := "pick", desc := "(I)I" } : Jvm.MethodName)) ∈ lw_all := lw_g (lw_at lw_m7 103 rfl) rfl
theorem q1619 : (Jvm.Cond.methodLink "DrawerRingLaw" (90 : Nat) ({ cls := "DrawerRingLaw", name := "turn", desc := "(LDrawerRing;I[J)I" } : Jvm.MethodName)) ∈ lw_all := lw_g (lw_at lw_m7 108 rfl) rfl
theorem q1620 : (Jvm.Cond.static ({ cls := "DrawerRingLaw", name := "turn", desc := "(LDrawerRing;I[J)I" } : Jvm.MethodName)) ∈ lw_all := lw_g (lw_at lw_m7 109 rfl) rfl
theorem q1621 : (Jvm.Cond.codeWith ({ cls := "DrawerRingLaw", name := "turn", desc := "(LDrawerRing;I[J)I" } : Jvm.MethodName) method_6_code (4 : Nat) (Option.some Jvm.ClassFile.FieldType.int) [((0 : Nat), (9 : Nat), (12 : Nat), (13 : Nat)), ((0 : Nat), (9 : Nat), (15 : Nat), (17 : Nat))]) ∈ lw_all := lw_g (lw_at lw_m7 110 rfl) rfl
theorem q1622 : (Jvm.Cond.methodLink "DrawerRingLaw" (26 : Nat) ({ cls := "DrawerRing", name := "turn", desc := "(I)I" } : Jvm.MethodName)) ∈ lw_all := lw_g (lw_at lw_m7 111 rfl) rfl
theorem q1627 : (Jvm.Cond.methodLink "DrawerRingLaw" (93 : Nat) ({ cls := "DrawerRingLaw", name := "jam", desc := "(LDrawerRing;IZ[J)I" } : Jvm.MethodName)) ∈ lw_all := lw_g (lw_at lw_m7 116 rfl) rfl
theorem q1628 : (Jvm.Cond.static ({ cls := "DrawerRingLaw", name := "jam", desc := "(LDrawerRing;IZ[J)I" } : Jvm.MethodName)) ∈ lw_all := lw_g (lw_at lw_m7 117 rfl) rfl
theorem q1629 : (Jvm.Cond.codeWith ({ cls := "DrawerRingLaw", name := "jam", desc := "(LDrawerRing;IZ[J)I" } : Jvm.MethodName) method_7_code (5 : Nat) (Option.some Jvm.ClassFile.FieldType.int) [((0 : Nat), (10 : Nat), (13 : Nat), (13 : Nat))]) ∈ lw_all := lw_g (lw_at lw_m7 118 rfl) rfl
theorem q1630 : (Jvm.Cond.methodLink "DrawerRingLaw" (29 : Nat) ({ cls := "DrawerRing", name := "jam", desc := "(IZ)I" } : Jvm.MethodName)) ∈ lw_all := lw_g (lw_at lw_m7 119 rfl) rfl
theorem q1634 : (Jvm.Cond.methodLink "DrawerRingLaw" (97 : Nat) ({ cls := "DrawerRingLaw", name := "set", desc := "(LDrawerRing;II[J)I" } : Jvm.MethodName)) ∈ lw_all := lw_g (lw_at lw_m7 123 rfl) rfl
theorem q1635 : (Jvm.Cond.static ({ cls := "DrawerRingLaw", name := "set", desc := "(LDrawerRing;II[J)I" } : Jvm.MethodName)) ∈ lw_all := lw_g (lw_at lw_m7 124 rfl) rfl
theorem q1636 : (Jvm.Cond.codeWith ({ cls := "DrawerRingLaw", name := "set", desc := "(LDrawerRing;II[J)I" } : Jvm.MethodName) method_8_code (5 : Nat) (Option.some Jvm.ClassFile.FieldType.int) [((0 : Nat), (10 : Nat), (13 : Nat), (13 : Nat)), ((0 : Nat), (10 : Nat), (17 : Nat), (15 : Nat)), ((0 : Nat), (10 : Nat), (21 : Nat), (17 : Nat))]) ∈ lw_all := lw_g (lw_at lw_m7 125 rfl) rfl
theorem q1637 : (Jvm.Cond.methodLink "DrawerRingLaw" (33 : Nat) ({ cls := "DrawerRing", name := "set", desc := "(II)I" } : Jvm.MethodName)) ∈ lw_all := lw_g (lw_at lw_m7 126 rfl) rfl
theorem q1648 : (Jvm.Cond.methodLink "DrawerRingLaw" (100 : Nat) ({ cls := "DrawerRingLaw", name := "append", desc := "(LDrawerRing;I[J)I" } : Jvm.MethodName)) ∈ lw_all := lw_g (lw_at lw_m7 137 rfl) rfl
theorem q1649 : (Jvm.Cond.static ({ cls := "DrawerRingLaw", name := "append", desc := "(LDrawerRing;I[J)I" } : Jvm.MethodName)) ∈ lw_all := lw_g (lw_at lw_m7 138 rfl) rfl
theorem q1650 : (Jvm.Cond.codeWith ({ cls := "DrawerRingLaw", name := "append", desc := "(LDrawerRing;I[J)I" } : Jvm.MethodName) method_9_code (4 : Nat) (Option.some Jvm.ClassFile.FieldType.int) [((0 : Nat), (9 : Nat), (12 : Nat), (15 : Nat)), ((0 : Nat), (9 : Nat), (15 : Nat), (17 : Nat))]) ∈ lw_all := lw_g (lw_at lw_m7 139 rfl) rfl
theorem q1651 : (Jvm.Cond.methodLink "DrawerRingLaw" (36 : Nat) ({ cls := "DrawerRing", name := "append", desc := "(I)I" } : Jvm.MethodName)) ∈ lw_all := lw_g (lw_at lw_m7 140 rfl) rfl
theorem q1672 : (Jvm.Cond.methodLink "DrawerRingLaw" (111 : Nat) ({ cls := "DrawerRingLaw", name := "pickAll", desc := "(LDrawerRing;[J)I" } : Jvm.MethodName)) ∈ lw_all := lw_g (lw_at lw_m7 161 rfl) rfl
theorem q1673 : (Jvm.Cond.static ({ cls := "DrawerRingLaw", name := "pickAll", desc := "(LDrawerRing;[J)I" } : Jvm.MethodName)) ∈ lw_all := lw_g (lw_at lw_m7 162 rfl) rfl
theorem q1674 : (Jvm.Cond.codeWith ({ cls := "DrawerRingLaw", name := "pickAll", desc := "(LDrawerRing;[J)I" } : Jvm.MethodName) method_10_code (3 : Nat) (Option.some Jvm.ClassFile.FieldType.int) [((0 : Nat), (8 : Nat), (11 : Nat), (15 : Nat))]) ∈ lw_all := lw_g (lw_at lw_m7 163 rfl) rfl
theorem q1675 : (Jvm.Cond.methodLink "DrawerRingLaw" (39 : Nat) ({ cls := "DrawerRing", name := "pickAll", desc := "()I" } : Jvm.MethodName)) ∈ lw_all := lw_g (lw_at lw_m7 164 rfl) rfl
theorem q1679 : (Jvm.Cond.methodLink "DrawerRingLaw" (115 : Nat) ({ cls := "DrawerRingLaw", name := "undo", desc := "(LDrawerRing;[J)I" } : Jvm.MethodName)) ∈ lw_all := lw_g (lw_at lw_m7 168 rfl) rfl
theorem q1680 : (Jvm.Cond.static ({ cls := "DrawerRingLaw", name := "undo", desc := "(LDrawerRing;[J)I" } : Jvm.MethodName)) ∈ lw_all := lw_g (lw_at lw_m7 169 rfl) rfl
theorem q1681 : (Jvm.Cond.codeWith ({ cls := "DrawerRingLaw", name := "undo", desc := "(LDrawerRing;[J)I" } : Jvm.MethodName) method_11_code (3 : Nat) (Option.some Jvm.ClassFile.FieldType.int) [((0 : Nat), (8 : Nat), (11 : Nat), (17 : Nat))]) ∈ lw_all := lw_g (lw_at lw_m7 170 rfl) rfl
theorem q1682 : (Jvm.Cond.methodLink "DrawerRingLaw" (43 : Nat) ({ cls := "DrawerRing", name := "undo", desc := "()I" } : Jvm.MethodName)) ∈ lw_all := lw_g (lw_at lw_m7 171 rfl) rfl
theorem q1690 : (Jvm.Cond.methodLink "DrawerRingLaw" (118 : Nat) ({ cls := "DrawerRingLaw", name := "drawer", desc := "(LDrawerRing;II[J)I" } : Jvm.MethodName)) ∈ lw_all := lw_g (lw_at lw_m7 179 rfl) rfl
theorem q1691 : (Jvm.Cond.static ({ cls := "DrawerRingLaw", name := "drawer", desc := "(LDrawerRing;II[J)I" } : Jvm.MethodName)) ∈ lw_all := lw_g (lw_at lw_m7 180 rfl) rfl
theorem q1692 : (Jvm.Cond.codeWith ({ cls := "DrawerRingLaw", name := "drawer", desc := "(LDrawerRing;II[J)I" } : Jvm.MethodName) method_12_code (5 : Nat) (Option.some Jvm.ClassFile.FieldType.int) [((0 : Nat), (10 : Nat), (13 : Nat), (13 : Nat)), ((0 : Nat), (10 : Nat), (17 : Nat), (15 : Nat))]) ∈ lw_all := lw_g (lw_at lw_m7 181 rfl) rfl
theorem q1693 : (Jvm.Cond.methodLink "DrawerRingLaw" (46 : Nat) ({ cls := "DrawerRing", name := "drawer", desc := "(II)I" } : Jvm.MethodName)) ∈ lw_all := lw_g (lw_at lw_m7 182 rfl) rfl
theorem q1697 : (Jvm.Cond.methodLink "DrawerRingLaw" (121 : Nat) ({ cls := "DrawerRingLaw", name := "item", desc := "(LDrawerRing;II[J)I" } : Jvm.MethodName)) ∈ lw_all := lw_g (lw_at lw_m7 186 rfl) rfl
theorem q1698 : (Jvm.Cond.static ({ cls := "DrawerRingLaw", name := "item", desc := "(LDrawerRing;II[J)I" } : Jvm.MethodName)) ∈ lw_all := lw_g (lw_at lw_m7 187 rfl) rfl
theorem q1699 : (Jvm.Cond.codeWith ({ cls := "DrawerRingLaw", name := "item", desc := "(LDrawerRing;II[J)I" } : Jvm.MethodName) method_13_code (5 : Nat) (Option.some Jvm.ClassFile.FieldType.int) [((0 : Nat), (10 : Nat), (13 : Nat), (13 : Nat)), ((0 : Nat), (10 : Nat), (17 : Nat), (15 : Nat))]) ∈ lw_all := lw_g (lw_at lw_m7 188 rfl) rfl
theorem q1700 : (Jvm.Cond.methodLink "DrawerRingLaw" (49 : Nat) ({ cls := "DrawerRing", name := "item", desc := "(II)I" } : Jvm.MethodName)) ∈ lw_all := lw_g (lw_at lw_m7 189 rfl) rfl
theorem q1704 : (Jvm.Cond.methodLink "DrawerRingLaw" (124 : Nat) ({ cls := "DrawerRingLaw", name := "count", desc := "(LDrawerRing;I[J)I" } : Jvm.MethodName)) ∈ lw_all := lw_g (lw_at lw_m7 193 rfl) rfl
theorem q1705 : (Jvm.Cond.static ({ cls := "DrawerRingLaw", name := "count", desc := "(LDrawerRing;I[J)I" } : Jvm.MethodName)) ∈ lw_all := lw_g (lw_at lw_m7 194 rfl) rfl
theorem q1706 : (Jvm.Cond.codeWith ({ cls := "DrawerRingLaw", name := "count", desc := "(LDrawerRing;I[J)I" } : Jvm.MethodName) method_14_code (4 : Nat) (Option.some Jvm.ClassFile.FieldType.int) [((0 : Nat), (9 : Nat), (12 : Nat), (15 : Nat))]) ∈ lw_all := lw_g (lw_at lw_m7 195 rfl) rfl
theorem q1707 : (Jvm.Cond.methodLink "DrawerRingLaw" (52 : Nat) ({ cls := "DrawerRing", name := "count", desc := "(I)I" } : Jvm.MethodName)) ∈ lw_all := lw_g (lw_at lw_m7 196 rfl) rfl
theorem q1711 : (Jvm.Cond.methodLink "DrawerRingLaw" (127 : Nat) ({ cls := "DrawerRingLaw", name := "setting", desc := "(LDrawerRing;I[J)I" } : Jvm.MethodName)) ∈ lw_all := lw_g (lw_at lw_m7 200 rfl) rfl
theorem q1712 : (Jvm.Cond.static ({ cls := "DrawerRingLaw", name := "setting", desc := "(LDrawerRing;I[J)I" } : Jvm.MethodName)) ∈ lw_all := lw_g (lw_at lw_m7 201 rfl) rfl
theorem q1713 : (Jvm.Cond.codeWith ({ cls := "DrawerRingLaw", name := "setting", desc := "(LDrawerRing;I[J)I" } : Jvm.MethodName) method_15_code (4 : Nat) (Option.some Jvm.ClassFile.FieldType.int) [((0 : Nat), (9 : Nat), (12 : Nat), (13 : Nat))]) ∈ lw_all := lw_g (lw_at lw_m7 202 rfl) rfl
theorem q1714 : (Jvm.Cond.methodLink "DrawerRingLaw" (55 : Nat) ({ cls := "DrawerRing", name := "setting", desc := "(I)I" } : Jvm.MethodName)) ∈ lw_all := lw_g (lw_at lw_m7 203 rfl) rfl
theorem q1718 : (Jvm.Cond.methodLink "DrawerRingLaw" (134 : Nat) ({ cls := "DrawerRingLaw", name := "way", desc := "(LDrawerRing;I[J)I" } : Jvm.MethodName)) ∈ lw_all := lw_g (lw_at lw_m7 207 rfl) rfl
theorem q1719 : (Jvm.Cond.static ({ cls := "DrawerRingLaw", name := "way", desc := "(LDrawerRing;I[J)I" } : Jvm.MethodName)) ∈ lw_all := lw_g (lw_at lw_m7 208 rfl) rfl
theorem q1720 : (Jvm.Cond.codeWith ({ cls := "DrawerRingLaw", name := "way", desc := "(LDrawerRing;I[J)I" } : Jvm.MethodName) method_16_code (4 : Nat) (Option.some Jvm.ClassFile.FieldType.int) [((0 : Nat), (9 : Nat), (12 : Nat), (13 : Nat))]) ∈ lw_all := lw_g (lw_at lw_m7 209 rfl) rfl
theorem q1721 : (Jvm.Cond.methodLink "DrawerRingLaw" (58 : Nat) ({ cls := "DrawerRing", name := "way", desc := "(I)I" } : Jvm.MethodName)) ∈ lw_all := lw_g (lw_at lw_m7 210 rfl) rfl
theorem q1725 : (Jvm.Cond.methodLink "DrawerRingLaw" (137 : Nat) ({ cls := "DrawerRingLaw", name := "ifPut", desc := "(LDrawerRing;II[J)I" } : Jvm.MethodName)) ∈ lw_all := lw_g (lw_at lw_m7 214 rfl) rfl
theorem q1726 : (Jvm.Cond.static ({ cls := "DrawerRingLaw", name := "ifPut", desc := "(LDrawerRing;II[J)I" } : Jvm.MethodName)) ∈ lw_all := lw_g (lw_at lw_m7 215 rfl) rfl
theorem q1727 : (Jvm.Cond.codeWith ({ cls := "DrawerRingLaw", name := "ifPut", desc := "(LDrawerRing;II[J)I" } : Jvm.MethodName) method_17_code (5 : Nat) (Option.some Jvm.ClassFile.FieldType.int) [((0 : Nat), (10 : Nat), (13 : Nat), (13 : Nat)), ((0 : Nat), (10 : Nat), (17 : Nat), (15 : Nat))]) ∈ lw_all := lw_g (lw_at lw_m7 216 rfl) rfl
theorem q1728 : (Jvm.Cond.methodLink "DrawerRingLaw" (61 : Nat) ({ cls := "DrawerRing", name := "ifPut", desc := "(II)I" } : Jvm.MethodName)) ∈ lw_all := lw_g (lw_at lw_m7 217 rfl) rfl
theorem q1732 : (Jvm.Cond.methodLink "DrawerRingLaw" (140 : Nat) ({ cls := "DrawerRingLaw", name := "bestDrawer", desc := "(LDrawerRing;I[J)I" } : Jvm.MethodName)) ∈ lw_all := lw_g (lw_at lw_m7 221 rfl) rfl
theorem q1733 : (Jvm.Cond.static ({ cls := "DrawerRingLaw", name := "bestDrawer", desc := "(LDrawerRing;I[J)I" } : Jvm.MethodName)) ∈ lw_all := lw_g (lw_at lw_m7 222 rfl) rfl
theorem q1734 : (Jvm.Cond.codeWith ({ cls := "DrawerRingLaw", name := "bestDrawer", desc := "(LDrawerRing;I[J)I" } : Jvm.MethodName) method_18_code (4 : Nat) (Option.some Jvm.ClassFile.FieldType.int) [((0 : Nat), (9 : Nat), (12 : Nat), (15 : Nat))]) ∈ lw_all := lw_g (lw_at lw_m7 223 rfl) rfl
theorem q1735 : (Jvm.Cond.methodLink "DrawerRingLaw" (64 : Nat) ({ cls := "DrawerRing", name := "bestDrawer", desc := "(I)I" } : Jvm.MethodName)) ∈ lw_all := lw_g (lw_at lw_m7 224 rfl) rfl
theorem q1739 : (Jvm.Cond.methodLink "DrawerRingLaw" (143 : Nat) ({ cls := "DrawerRingLaw", name := "ifPicked", desc := "(LDrawerRing;II[J)I" } : Jvm.MethodName)) ∈ lw_all := lw_g (lw_at lw_m7 228 rfl) rfl
theorem q1740 : (Jvm.Cond.static ({ cls := "DrawerRingLaw", name := "ifPicked", desc := "(LDrawerRing;II[J)I" } : Jvm.MethodName)) ∈ lw_all := lw_g (lw_at lw_m7 229 rfl) rfl
theorem q1741 : (Jvm.Cond.codeWith ({ cls := "DrawerRingLaw", name := "ifPicked", desc := "(LDrawerRing;II[J)I" } : Jvm.MethodName) method_19_code (5 : Nat) (Option.some Jvm.ClassFile.FieldType.int) [((0 : Nat), (10 : Nat), (13 : Nat), (15 : Nat))]) ∈ lw_all := lw_g (lw_at lw_m7 230 rfl) rfl
theorem q1742 : (Jvm.Cond.methodLink "DrawerRingLaw" (67 : Nat) ({ cls := "DrawerRing", name := "ifPicked", desc := "(II)I" } : Jvm.MethodName)) ∈ lw_all := lw_g (lw_at lw_m7 231 rfl) rfl
theorem q1746 : (Jvm.Cond.classLink "DrawerRingLaw" (71 : Nat) "DrawerRingModel") ∈ lw_all := lw_g (lw_at lw_m7 235 rfl) rfl
theorem q1748 : (Jvm.Cond.methodLink "DrawerRingLaw" (73 : Nat) ({ cls := "DrawerRingModel", name := "<init>", desc := "()V" } : Jvm.MethodName)) ∈ lw_all := lw_g (lw_at lw_m7 237 rfl) rfl
theorem q1801 : (Jvm.Cond.methodLink "DrawerRingLaw" (80 : Nat) ({ cls := "DrawerRingModel", name := "thrown", desc := "()I" } : Jvm.MethodName)) ∈ lw_all := lw_g (lw_at lw_m8 50 rfl) rfl
theorem q1805 : (Jvm.Cond.methodLink "DrawerRingLaw" (79 : Nat) ({ cls := "DrawerRingModel", name := "put", desc := "(II)I" } : Jvm.MethodName)) ∈ lw_all := lw_g (lw_at lw_m8 54 rfl) rfl
theorem q1846 : (Jvm.Cond.methodLink "DrawerRingLaw" (85 : Nat) ({ cls := "DrawerRingModel", name := "move", desc := "(II)I" } : Jvm.MethodName)) ∈ lw_all := lw_g (lw_at lw_m8 95 rfl) rfl
theorem q1854 : (Jvm.Cond.methodLink "DrawerRingLaw" (89 : Nat) ({ cls := "DrawerRingModel", name := "pick", desc := "(I)I" } : Jvm.MethodName)) ∈ lw_all := lw_g (lw_at lw_m8 103 rfl) rfl
theorem q1885 : (Jvm.Cond.methodLink "DrawerRingLaw" (92 : Nat) ({ cls := "DrawerRingModel", name := "turn", desc := "(I)I" } : Jvm.MethodName)) ∈ lw_all := lw_g (lw_at lw_m8 134 rfl) rfl
theorem q1889 : (Jvm.Cond.methodLink "DrawerRingLaw" (96 : Nat) ({ cls := "DrawerRingModel", name := "jam", desc := "(IZ)I" } : Jvm.MethodName)) ∈ lw_all := lw_g (lw_at lw_m8 138 rfl) rfl
theorem q1893 : (Jvm.Cond.methodLink "DrawerRingLaw" (99 : Nat) ({ cls := "DrawerRingModel", name := "set", desc := "(II)I" } : Jvm.MethodName)) ∈ lw_all := lw_g (lw_at lw_m8 142 rfl) rfl
theorem q1901 : (Jvm.Cond.methodLink "DrawerRingLaw" (102 : Nat) ({ cls := "DrawerRingModel", name := "append", desc := "(I)I" } : Jvm.MethodName)) ∈ lw_all := lw_g (lw_at lw_m8 150 rfl) rfl
theorem q1905 : (Jvm.Cond.methodLink "DrawerRingLaw" (106 : Nat) ({ cls := "DrawerRingModel", name := "clearBuffer", desc := "()I" } : Jvm.MethodName)) ∈ lw_all := lw_g (lw_at lw_m8 154 rfl) rfl
theorem q1909 : (Jvm.Cond.methodLink "DrawerRingLaw" (110 : Nat) ({ cls := "DrawerRingModel", name := "firstError", desc := "()I" } : Jvm.MethodName)) ∈ lw_all := lw_g (lw_at lw_m8 158 rfl) rfl
theorem q1929 : (Jvm.Cond.methodLink "DrawerRingLaw" (114 : Nat) ({ cls := "DrawerRingModel", name := "pickAll", desc := "()I" } : Jvm.MethodName)) ∈ lw_all := lw_g (lw_at lw_m8 178 rfl) rfl
theorem q1965 : (Jvm.Cond.methodLink "DrawerRingLaw" (117 : Nat) ({ cls := "DrawerRingModel", name := "undo", desc := "()I" } : Jvm.MethodName)) ∈ lw_all := lw_g (lw_at lw_m8 214 rfl) rfl
theorem q1969 : (Jvm.Cond.methodLink "DrawerRingLaw" (120 : Nat) ({ cls := "DrawerRingModel", name := "drawer", desc := "(II)I" } : Jvm.MethodName)) ∈ lw_all := lw_g (lw_at lw_m8 218 rfl) rfl
theorem q1981 : (Jvm.Cond.methodLink "DrawerRingLaw" (123 : Nat) ({ cls := "DrawerRingModel", name := "item", desc := "(II)I" } : Jvm.MethodName)) ∈ lw_all := lw_g (lw_at lw_m8 230 rfl) rfl
theorem q1985 : (Jvm.Cond.methodLink "DrawerRingLaw" (126 : Nat) ({ cls := "DrawerRingModel", name := "count", desc := "(I)I" } : Jvm.MethodName)) ∈ lw_all := lw_g (lw_at lw_m8 234 rfl) rfl
theorem q2005 : (Jvm.Cond.methodLink "DrawerRingLaw" (129 : Nat) ({ cls := "DrawerRingModel", name := "setting", desc := "(I)I" } : Jvm.MethodName)) ∈ lw_all := lw_g (lw_at lw_m9 14 rfl) rfl
theorem q2009 : (Jvm.Cond.methodLink "DrawerRingLaw" (133 : Nat) ({ cls := "DrawerRingModel", name := "refusal", desc := "(I)I" } : Jvm.MethodName)) ∈ lw_all := lw_g (lw_at lw_m9 18 rfl) rfl
theorem q2013 : (Jvm.Cond.methodLink "DrawerRingLaw" (136 : Nat) ({ cls := "DrawerRingModel", name := "way", desc := "(I)I" } : Jvm.MethodName)) ∈ lw_all := lw_g (lw_at lw_m9 22 rfl) rfl
theorem q2017 : (Jvm.Cond.methodLink "DrawerRingLaw" (139 : Nat) ({ cls := "DrawerRingModel", name := "ifPut", desc := "(II)I" } : Jvm.MethodName)) ∈ lw_all := lw_g (lw_at lw_m9 26 rfl) rfl
theorem q2025 : (Jvm.Cond.methodLink "DrawerRingLaw" (142 : Nat) ({ cls := "DrawerRingModel", name := "bestDrawer", desc := "(I)I" } : Jvm.MethodName)) ∈ lw_all := lw_g (lw_at lw_m9 34 rfl) rfl
theorem q2033 : (Jvm.Cond.methodLink "DrawerRingLaw" (145 : Nat) ({ cls := "DrawerRingModel", name := "ifPicked", desc := "(II)I" } : Jvm.MethodName)) ∈ lw_all := lw_g (lw_at lw_m9 42 rfl) rfl
theorem q2041 : (Jvm.Cond.methodLink "DrawerRingLaw" (150 : Nat) ({ cls := "DrawerRingModel", name := "evenness", desc := "()D" } : Jvm.MethodName)) ∈ lw_all := lw_g (lw_at lw_m9 50 rfl) rfl
theorem q2049 : (Jvm.Cond.methodLink "DrawerRingLaw" (155 : Nat) ({ cls := "DrawerRingModel", name := "digest", desc := "()J" } : Jvm.MethodName)) ∈ lw_all := lw_g (lw_at lw_m9 58 rfl) rfl

theorem q346 : (Jvm.Cond.sameMethod "[B" "java/lang/Object" "clone" "()Ljava/lang/Object;") ∈ lw_all := lw_g (lw_at lw_m2 35 rfl) rfl
set_option maxRecDepth 100000
theorem q349 : (Jvm.Cond.selects "[B" ({ cls := "[B", name := "clone", desc := "()Ljava/lang/Object;" } : Jvm.MethodName) ({ cls := "java/lang/Object", name := "clone", desc := "()Ljava/lang/Object;" } : Jvm.MethodName)) ∈ lw_all := lw_g (lw_at lw_m2 38 rfl) rfl
theorem q350 : (Jvm.Cond.castable "[B" "java/lang/Cloneable") ∈ lw_tbl := lw_at lw_m2 39 rfl
theorem q2106 : (Jvm.Cond.castable "[B" "java/lang/Object") ∈ lw_tbl := lw_at lw_m9 115 rfl

theorem q2104 : (Jvm.Cond.castable "[I" "java/lang/Object") ∈ lw_tbl := lw_at lw_m9 113 rfl
set_option maxRecDepth 100000

theorem q2110 : (Jvm.Cond.castable "[J" "java/lang/Object") ∈ lw_tbl := lw_at lw_m9 119 rfl
set_option maxRecDepth 100000

theorem q2109 : (Jvm.Cond.castable "[LDrawerRing$Item;" "java/lang/Object") ∈ lw_tbl := lw_at lw_m9 118 rfl
set_option maxRecDepth 100000

theorem q2101 : (Jvm.Cond.sameMethod "[Ljava/lang/Object;" "java/lang/Object" "getClass" "()Ljava/lang/Class;") ∈ lw_all := lw_g (lw_at lw_m9 110 rfl) rfl
set_option maxRecDepth 100000
theorem q2102 : (Jvm.Cond.selects "[Ljava/lang/Object;" ({ cls := "java/lang/Object", name := "getClass", desc := "()Ljava/lang/Class;" } : Jvm.MethodName) ({ cls := "java/lang/Object", name := "getClass", desc := "()Ljava/lang/Class;" } : Jvm.MethodName)) ∈ lw_all := lw_g (lw_at lw_m9 111 rfl) rfl
theorem q2107 : (Jvm.Cond.castable "[Ljava/lang/Object;" "java/lang/Object") ∈ lw_tbl := lw_at lw_m9 116 rfl

theorem q2108 : (Jvm.Cond.castable "[Ljava/util/HashMap$Node;" "java/lang/Object") ∈ lw_tbl := lw_at lw_m9 117 rfl
set_option maxRecDepth 100000

theorem q2105 : (Jvm.Cond.castable "[Z" "java/lang/Object") ∈ lw_tbl := lw_at lw_m9 114 rfl
set_option maxRecDepth 100000

theorem q913 : (Jvm.Cond.interfaceMethod "java/lang/Comparable" "java/lang/Comparable" "compareTo" "(Ljava/lang/Object;)I") ∈ lw_tbl := lw_at lw_m4 122 rfl
set_option maxRecDepth 100000
theorem q914 : (Jvm.Cond.declares ({ cls := "java/lang/Comparable", name := "compareTo", desc := "(Ljava/lang/Object;)I" } : Jvm.MethodName)) ∈ lw_tbl := lw_at lw_m4 123 rfl

theorem q99 : (Jvm.Cond.initialized "java/lang/Number") ∈ lw_all := lw_g (lw_at lw_m1 28 rfl) rfl
set_option maxRecDepth 100000

theorem q94 : (Jvm.Cond.initialized "java/lang/System") ∈ lw_all := lw_g (lw_at lw_m1 23 rfl) rfl
set_option maxRecDepth 100000
theorem q356 : (Jvm.Cond.static ({ cls := "java/lang/System", name := "arraycopy", desc := "(Ljava/lang/Object;ILjava/lang/Object;II)V" } : Jvm.MethodName)) ∈ lw_all := lw_g (lw_at lw_m2 45 rfl) rfl
theorem q357 : (Jvm.Cond.native ({ cls := "java/lang/System", name := "arraycopy", desc := "(Ljava/lang/Object;ILjava/lang/Object;II)V" } : Jvm.MethodName)) ∈ lw_all := lw_g (lw_at lw_m2 46 rfl) rfl

theorem q794 : (Jvm.Cond.interfaceMethod "jdk/internal/access/JavaLangAccess" "jdk/internal/access/JavaLangAccess" "getUTF16Char" "([BI)C") ∈ lw_tbl := lw_at lw_m4 3 rfl
set_option maxRecDepth 100000
theorem q795 : (Jvm.Cond.declares ({ cls := "jdk/internal/access/JavaLangAccess", name := "getUTF16Char", desc := "([BI)C" } : Jvm.MethodName)) ∈ lw_tbl := lw_at lw_m4 4 rfl

theorem q103 : (Jvm.Cond.initialized "jdk/internal/misc/UnsafeConstants") ∈ lw_all := lw_g (lw_at lw_m1 32 rfl) rfl
set_option maxRecDepth 100000
theorem q972 : (Jvm.Cond.laysStatic "jdk/internal/misc/UnsafeConstants" "BIG_ENDIAN" "Z") ∈ lw_tbl := lw_at lw_m4 181 rfl

theorem q230 : (Jvm.Cond.arrayClass Jvm.ClassFile.FieldType.int) ∈ lw_all := lw_g (lw_at lw_m1 159 rfl) rfl
set_option maxRecDepth 100000
theorem q231 : (Jvm.Cond.arrayClass Jvm.ClassFile.FieldType.boolean) ∈ lw_all := lw_g (lw_at lw_m1 160 rfl) rfl
theorem q266 : (Jvm.Cond.arrayClass Jvm.ClassFile.FieldType.byte) ∈ lw_all := lw_g (lw_at lw_m1 195 rfl) rfl
theorem q1272 : (Jvm.Cond.arrayOver (Jvm.ClassFile.FieldType.object "java/lang/Object")) ∈ lw_tbl := lw_at lw_m6 1 rfl
theorem q1292 : (Jvm.Cond.arrayOver (Jvm.ClassFile.FieldType.object "java/util/HashMap$Node")) ∈ lw_tbl := lw_at lw_m6 21 rfl
theorem q1487 : (Jvm.Cond.arrayOver (Jvm.ClassFile.FieldType.object "DrawerRing$Item")) ∈ lw_tbl := lw_at lw_m6 216 rfl
theorem q2060 : (Jvm.Cond.arrayClass Jvm.ClassFile.FieldType.long) ∈ lw_all := lw_g (lw_at lw_m9 69 rfl) rfl
theorem q2111 : (Jvm.Cond.arrayClass Jvm.ClassFile.FieldType.char) ∈ lw_all := lw_g (lw_at lw_m9 120 rfl) rfl
theorem q2112 : (Jvm.Cond.arrayClass Jvm.ClassFile.FieldType.short) ∈ lw_all := lw_g (lw_at lw_m9 121 rfl) rfl

