/-! VowelTorusLaw -/
set_option maxRecDepth 100000
def RX0 : String := "VowelTorusLaw"
abbrev cX0_board : ByteArray := method_3_code
def yX0_board : MethodName := ⟨RX0, "board", "(LVowelTorus;II[J)I"⟩
def dkwX0_board_0 : List UInt8 := [45, 3, 42, 27, 28, 182, 0, 7, 133, 80, 167, 0, 7, 58, 4, 4, 172, 3, 172]
abbrev dktX0_board_0 : List UInt8 := dkwX0_board_0 ++ []
theorem dksX0_board_0 : cX0_board.data.toList.drop 0 = dktX0_board_0 := by decide +kernel
theorem dX0_board_0 : decode cX0_board 0 = .ok (.aload_n 3, 1) := dk_45 (dk_at dksX0_board_0 0 rfl rfl)
theorem dX0_board_1 : decode cX0_board 1 = .ok (.iconst 0, 1) := dk_3 (dk_at dksX0_board_0 1 rfl rfl)
theorem dX0_board_2 : decode cX0_board 2 = .ok (.aload_n 0, 1) := dk_42 (dk_at dksX0_board_0 2 rfl rfl)
theorem dX0_board_3 : decode cX0_board 3 = .ok (.iload_n 1, 1) := dk_27 (dk_at dksX0_board_0 3 rfl rfl)
theorem dX0_board_4 : decode cX0_board 4 = .ok (.iload_n 2, 1) := dk_28 (dk_at dksX0_board_0 4 rfl rfl)
theorem dX0_board_5 : decode cX0_board 5 = .ok (.invokevirtual 7, 3) := dk_182 0 7 (dk_at dksX0_board_0 5 rfl rfl)
theorem dX0_board_8 : decode cX0_board 8 = .ok (.i2l, 1) := dk_133 (dk_at dksX0_board_0 8 rfl rfl)
theorem dX0_board_9 : decode cX0_board 9 = .ok (.lastore, 1) := dk_80 (dk_at dksX0_board_0 9 rfl rfl)
theorem dX0_board_10 : decode cX0_board 10 = .ok (.goto 7, 3) := dk_167 0 7 (dk_at dksX0_board_0 10 rfl rfl)
theorem dX0_board_13 : decode cX0_board 13 = .ok (.astore 4, 2) := dk_58 4 (dk_at dksX0_board_0 13 rfl rfl)
theorem dX0_board_15 : decode cX0_board 15 = .ok (.iconst 1, 1) := dk_4 (dk_at dksX0_board_0 15 rfl rfl)
theorem dX0_board_16 : decode cX0_board 16 = .ok (.ireturn, 1) := dk_172 (dk_at dksX0_board_0 16 rfl rfl)
theorem dX0_board_17 : decode cX0_board 17 = .ok (.iconst 0, 1) := dk_3 (dk_at dksX0_board_0 17 rfl rfl)
theorem dX0_board_18 : decode cX0_board 18 = .ok (.ireturn, 1) := dk_172 (dk_at dksX0_board_0 18 rfl rfl)
abbrev cX0_put : ByteArray := method_4_code
def yX0_put : MethodName := ⟨RX0, "put", "(LVowelTorus;IC[J)I"⟩
def dkwX0_put_1 : List UInt8 := [172, 3, 172]
abbrev dktX0_put_1 : List UInt8 := dkwX0_put_1 ++ []
def dkwX0_put_0 : List UInt8 := [45, 3, 42, 27, 28, 182, 0, 15, 133, 80, 167, 0, 15, 58, 4, 4, 172, 58, 4, 5, 172, 58, 4, 6]
abbrev dktX0_put_0 : List UInt8 := dkwX0_put_0 ++ dktX0_put_1
theorem dksX0_put_0 : cX0_put.data.toList.drop 0 = dktX0_put_0 := by decide +kernel
theorem dksX0_put_1 : cX0_put.data.toList.drop 24 = dktX0_put_1 := dk_seg dksX0_put_0 24 rfl rfl
theorem dX0_put_0 : decode cX0_put 0 = .ok (.aload_n 3, 1) := dk_45 (dk_at dksX0_put_0 0 rfl rfl)
theorem dX0_put_1 : decode cX0_put 1 = .ok (.iconst 0, 1) := dk_3 (dk_at dksX0_put_0 1 rfl rfl)
theorem dX0_put_2 : decode cX0_put 2 = .ok (.aload_n 0, 1) := dk_42 (dk_at dksX0_put_0 2 rfl rfl)
theorem dX0_put_3 : decode cX0_put 3 = .ok (.iload_n 1, 1) := dk_27 (dk_at dksX0_put_0 3 rfl rfl)
theorem dX0_put_4 : decode cX0_put 4 = .ok (.iload_n 2, 1) := dk_28 (dk_at dksX0_put_0 4 rfl rfl)
theorem dX0_put_5 : decode cX0_put 5 = .ok (.invokevirtual 15, 3) := dk_182 0 15 (dk_at dksX0_put_0 5 rfl rfl)
theorem dX0_put_8 : decode cX0_put 8 = .ok (.i2l, 1) := dk_133 (dk_at dksX0_put_0 8 rfl rfl)
theorem dX0_put_9 : decode cX0_put 9 = .ok (.lastore, 1) := dk_80 (dk_at dksX0_put_0 9 rfl rfl)
theorem dX0_put_10 : decode cX0_put 10 = .ok (.goto 15, 3) := dk_167 0 15 (dk_at dksX0_put_0 10 rfl rfl)
theorem dX0_put_13 : decode cX0_put 13 = .ok (.astore 4, 2) := dk_58 4 (dk_at dksX0_put_0 13 rfl rfl)
theorem dX0_put_15 : decode cX0_put 15 = .ok (.iconst 1, 1) := dk_4 (dk_at dksX0_put_0 15 rfl rfl)
theorem dX0_put_16 : decode cX0_put 16 = .ok (.ireturn, 1) := dk_172 (dk_at dksX0_put_0 16 rfl rfl)
theorem dX0_put_17 : decode cX0_put 17 = .ok (.astore 4, 2) := dk_58 4 (dk_at dksX0_put_0 17 rfl rfl)
theorem dX0_put_19 : decode cX0_put 19 = .ok (.iconst 2, 1) := dk_5 (dk_at dksX0_put_0 19 rfl rfl)
theorem dX0_put_20 : decode cX0_put 20 = .ok (.ireturn, 1) := dk_172 (dk_at dksX0_put_0 20 rfl rfl)
theorem dX0_put_21 : decode cX0_put 21 = .ok (.astore 4, 2) := dk_58 4 (dk_at dksX0_put_0 21 rfl rfl)
theorem dX0_put_23 : decode cX0_put 23 = .ok (.iconst 3, 1) := dk_6 (dk_at dksX0_put_0 23 rfl rfl)
theorem dX0_put_24 : decode cX0_put 24 = .ok (.ireturn, 1) := dk_172 (dk_at dksX0_put_1 0 rfl rfl)
theorem dX0_put_25 : decode cX0_put 25 = .ok (.iconst 0, 1) := dk_3 (dk_at dksX0_put_1 1 rfl rfl)
theorem dX0_put_26 : decode cX0_put 26 = .ok (.ireturn, 1) := dk_172 (dk_at dksX0_put_1 2 rfl rfl)
abbrev cX0_goal : ByteArray := method_5_code
def yX0_goal : MethodName := ⟨RX0, "goal", "(LVowelTorus;IC[J)I"⟩
def dkwX0_goal_1 : List UInt8 := [172, 3, 172]
abbrev dktX0_goal_1 : List UInt8 := dkwX0_goal_1 ++ []
def dkwX0_goal_0 : List UInt8 := [45, 3, 42, 27, 28, 182, 0, 23, 133, 80, 167, 0, 15, 58, 4, 4, 172, 58, 4, 5, 172, 58, 4, 6]
abbrev dktX0_goal_0 : List UInt8 := dkwX0_goal_0 ++ dktX0_goal_1
theorem dksX0_goal_0 : cX0_goal.data.toList.drop 0 = dktX0_goal_0 := by decide +kernel
theorem dksX0_goal_1 : cX0_goal.data.toList.drop 24 = dktX0_goal_1 := dk_seg dksX0_goal_0 24 rfl rfl
theorem dX0_goal_0 : decode cX0_goal 0 = .ok (.aload_n 3, 1) := dk_45 (dk_at dksX0_goal_0 0 rfl rfl)
theorem dX0_goal_1 : decode cX0_goal 1 = .ok (.iconst 0, 1) := dk_3 (dk_at dksX0_goal_0 1 rfl rfl)
theorem dX0_goal_2 : decode cX0_goal 2 = .ok (.aload_n 0, 1) := dk_42 (dk_at dksX0_goal_0 2 rfl rfl)
theorem dX0_goal_3 : decode cX0_goal 3 = .ok (.iload_n 1, 1) := dk_27 (dk_at dksX0_goal_0 3 rfl rfl)
theorem dX0_goal_4 : decode cX0_goal 4 = .ok (.iload_n 2, 1) := dk_28 (dk_at dksX0_goal_0 4 rfl rfl)
theorem dX0_goal_5 : decode cX0_goal 5 = .ok (.invokevirtual 23, 3) := dk_182 0 23 (dk_at dksX0_goal_0 5 rfl rfl)
theorem dX0_goal_8 : decode cX0_goal 8 = .ok (.i2l, 1) := dk_133 (dk_at dksX0_goal_0 8 rfl rfl)
theorem dX0_goal_9 : decode cX0_goal 9 = .ok (.lastore, 1) := dk_80 (dk_at dksX0_goal_0 9 rfl rfl)
theorem dX0_goal_10 : decode cX0_goal 10 = .ok (.goto 15, 3) := dk_167 0 15 (dk_at dksX0_goal_0 10 rfl rfl)
theorem dX0_goal_13 : decode cX0_goal 13 = .ok (.astore 4, 2) := dk_58 4 (dk_at dksX0_goal_0 13 rfl rfl)
theorem dX0_goal_15 : decode cX0_goal 15 = .ok (.iconst 1, 1) := dk_4 (dk_at dksX0_goal_0 15 rfl rfl)
theorem dX0_goal_16 : decode cX0_goal 16 = .ok (.ireturn, 1) := dk_172 (dk_at dksX0_goal_0 16 rfl rfl)
theorem dX0_goal_17 : decode cX0_goal 17 = .ok (.astore 4, 2) := dk_58 4 (dk_at dksX0_goal_0 17 rfl rfl)
theorem dX0_goal_19 : decode cX0_goal 19 = .ok (.iconst 2, 1) := dk_5 (dk_at dksX0_goal_0 19 rfl rfl)
theorem dX0_goal_20 : decode cX0_goal 20 = .ok (.ireturn, 1) := dk_172 (dk_at dksX0_goal_0 20 rfl rfl)
theorem dX0_goal_21 : decode cX0_goal 21 = .ok (.astore 4, 2) := dk_58 4 (dk_at dksX0_goal_0 21 rfl rfl)
theorem dX0_goal_23 : decode cX0_goal 23 = .ok (.iconst 3, 1) := dk_6 (dk_at dksX0_goal_0 23 rfl rfl)
theorem dX0_goal_24 : decode cX0_goal 24 = .ok (.ireturn, 1) := dk_172 (dk_at dksX0_goal_1 0 rfl rfl)
theorem dX0_goal_25 : decode cX0_goal 25 = .ok (.iconst 0, 1) := dk_3 (dk_at dksX0_goal_1 1 rfl rfl)
theorem dX0_goal_26 : decode cX0_goal 26 = .ok (.ireturn, 1) := dk_172 (dk_at dksX0_goal_1 2 rfl rfl)
abbrev cX0_turn : ByteArray := method_6_code
def yX0_turn : MethodName := ⟨RX0, "turn", "(LVowelTorus;I[J)I"⟩
def dkwX0_turn_0 : List UInt8 := [44, 3, 42, 27, 182, 0, 26, 133, 80, 167, 0, 9, 78, 4, 172, 78, 5, 172, 3, 172]
abbrev dktX0_turn_0 : List UInt8 := dkwX0_turn_0 ++ []
theorem dksX0_turn_0 : cX0_turn.data.toList.drop 0 = dktX0_turn_0 := by decide +kernel
theorem dX0_turn_0 : decode cX0_turn 0 = .ok (.aload_n 2, 1) := dk_44 (dk_at dksX0_turn_0 0 rfl rfl)
theorem dX0_turn_1 : decode cX0_turn 1 = .ok (.iconst 0, 1) := dk_3 (dk_at dksX0_turn_0 1 rfl rfl)
theorem dX0_turn_2 : decode cX0_turn 2 = .ok (.aload_n 0, 1) := dk_42 (dk_at dksX0_turn_0 2 rfl rfl)
theorem dX0_turn_3 : decode cX0_turn 3 = .ok (.iload_n 1, 1) := dk_27 (dk_at dksX0_turn_0 3 rfl rfl)
theorem dX0_turn_4 : decode cX0_turn 4 = .ok (.invokevirtual 26, 3) := dk_182 0 26 (dk_at dksX0_turn_0 4 rfl rfl)
theorem dX0_turn_7 : decode cX0_turn 7 = .ok (.i2l, 1) := dk_133 (dk_at dksX0_turn_0 7 rfl rfl)
theorem dX0_turn_8 : decode cX0_turn 8 = .ok (.lastore, 1) := dk_80 (dk_at dksX0_turn_0 8 rfl rfl)
theorem dX0_turn_9 : decode cX0_turn 9 = .ok (.goto 9, 3) := dk_167 0 9 (dk_at dksX0_turn_0 9 rfl rfl)
theorem dX0_turn_12 : decode cX0_turn 12 = .ok (.astore_n 3, 1) := dk_78 (dk_at dksX0_turn_0 12 rfl rfl)
theorem dX0_turn_13 : decode cX0_turn 13 = .ok (.iconst 1, 1) := dk_4 (dk_at dksX0_turn_0 13 rfl rfl)
theorem dX0_turn_14 : decode cX0_turn 14 = .ok (.ireturn, 1) := dk_172 (dk_at dksX0_turn_0 14 rfl rfl)
theorem dX0_turn_15 : decode cX0_turn 15 = .ok (.astore_n 3, 1) := dk_78 (dk_at dksX0_turn_0 15 rfl rfl)
theorem dX0_turn_16 : decode cX0_turn 16 = .ok (.iconst 2, 1) := dk_5 (dk_at dksX0_turn_0 16 rfl rfl)
theorem dX0_turn_17 : decode cX0_turn 17 = .ok (.ireturn, 1) := dk_172 (dk_at dksX0_turn_0 17 rfl rfl)
theorem dX0_turn_18 : decode cX0_turn 18 = .ok (.iconst 0, 1) := dk_3 (dk_at dksX0_turn_0 18 rfl rfl)
theorem dX0_turn_19 : decode cX0_turn 19 = .ok (.ireturn, 1) := dk_172 (dk_at dksX0_turn_0 19 rfl rfl)
abbrev cX0_swap : ByteArray := method_7_code
def yX0_swap : MethodName := ⟨RX0, "swap", "(LVowelTorus;II[J)I"⟩
def dkwX0_swap_0 : List UInt8 := [45, 3, 42, 27, 28, 182, 0, 30, 133, 80, 167, 0, 11, 58, 4, 4, 172, 58, 4, 5, 172, 3, 172]
abbrev dktX0_swap_0 : List UInt8 := dkwX0_swap_0 ++ []
theorem dksX0_swap_0 : cX0_swap.data.toList.drop 0 = dktX0_swap_0 := by decide +kernel
theorem dX0_swap_0 : decode cX0_swap 0 = .ok (.aload_n 3, 1) := dk_45 (dk_at dksX0_swap_0 0 rfl rfl)
theorem dX0_swap_1 : decode cX0_swap 1 = .ok (.iconst 0, 1) := dk_3 (dk_at dksX0_swap_0 1 rfl rfl)
theorem dX0_swap_2 : decode cX0_swap 2 = .ok (.aload_n 0, 1) := dk_42 (dk_at dksX0_swap_0 2 rfl rfl)
theorem dX0_swap_3 : decode cX0_swap 3 = .ok (.iload_n 1, 1) := dk_27 (dk_at dksX0_swap_0 3 rfl rfl)
theorem dX0_swap_4 : decode cX0_swap 4 = .ok (.iload_n 2, 1) := dk_28 (dk_at dksX0_swap_0 4 rfl rfl)
theorem dX0_swap_5 : decode cX0_swap 5 = .ok (.invokevirtual 30, 3) := dk_182 0 30 (dk_at dksX0_swap_0 5 rfl rfl)
theorem dX0_swap_8 : decode cX0_swap 8 = .ok (.i2l, 1) := dk_133 (dk_at dksX0_swap_0 8 rfl rfl)
theorem dX0_swap_9 : decode cX0_swap 9 = .ok (.lastore, 1) := dk_80 (dk_at dksX0_swap_0 9 rfl rfl)
theorem dX0_swap_10 : decode cX0_swap 10 = .ok (.goto 11, 3) := dk_167 0 11 (dk_at dksX0_swap_0 10 rfl rfl)
theorem dX0_swap_13 : decode cX0_swap 13 = .ok (.astore 4, 2) := dk_58 4 (dk_at dksX0_swap_0 13 rfl rfl)
theorem dX0_swap_15 : decode cX0_swap 15 = .ok (.iconst 1, 1) := dk_4 (dk_at dksX0_swap_0 15 rfl rfl)
theorem dX0_swap_16 : decode cX0_swap 16 = .ok (.ireturn, 1) := dk_172 (dk_at dksX0_swap_0 16 rfl rfl)
theorem dX0_swap_17 : decode cX0_swap 17 = .ok (.astore 4, 2) := dk_58 4 (dk_at dksX0_swap_0 17 rfl rfl)
theorem dX0_swap_19 : decode cX0_swap 19 = .ok (.iconst 2, 1) := dk_5 (dk_at dksX0_swap_0 19 rfl rfl)
theorem dX0_swap_20 : decode cX0_swap 20 = .ok (.ireturn, 1) := dk_172 (dk_at dksX0_swap_0 20 rfl rfl)
theorem dX0_swap_21 : decode cX0_swap 21 = .ok (.iconst 0, 1) := dk_3 (dk_at dksX0_swap_0 21 rfl rfl)
theorem dX0_swap_22 : decode cX0_swap 22 = .ok (.ireturn, 1) := dk_172 (dk_at dksX0_swap_0 22 rfl rfl)
abbrev cX0_bar : ByteArray := method_8_code
def yX0_bar : MethodName := ⟨RX0, "bar", "(LVowelTorus;I[J)I"⟩
def dkwX0_bar_0 : List UInt8 := [44, 3, 42, 27, 182, 0, 33, 153, 0, 7, 10, 167, 0, 4, 9, 80, 167, 0, 6, 78, 4, 172, 3, 172]
abbrev dktX0_bar_0 : List UInt8 := dkwX0_bar_0 ++ []
theorem dksX0_bar_0 : cX0_bar.data.toList.drop 0 = dktX0_bar_0 := by decide +kernel
theorem dX0_bar_0 : decode cX0_bar 0 = .ok (.aload_n 2, 1) := dk_44 (dk_at dksX0_bar_0 0 rfl rfl)
theorem dX0_bar_1 : decode cX0_bar 1 = .ok (.iconst 0, 1) := dk_3 (dk_at dksX0_bar_0 1 rfl rfl)
theorem dX0_bar_2 : decode cX0_bar 2 = .ok (.aload_n 0, 1) := dk_42 (dk_at dksX0_bar_0 2 rfl rfl)
theorem dX0_bar_3 : decode cX0_bar 3 = .ok (.iload_n 1, 1) := dk_27 (dk_at dksX0_bar_0 3 rfl rfl)
theorem dX0_bar_4 : decode cX0_bar 4 = .ok (.invokevirtual 33, 3) := dk_182 0 33 (dk_at dksX0_bar_0 4 rfl rfl)
theorem dX0_bar_7 : decode cX0_bar 7 = .ok (.ifCond .eq 7, 3) := dk_153 0 7 (dk_at dksX0_bar_0 7 rfl rfl)
theorem dX0_bar_10 : decode cX0_bar 10 = .ok (.lconst 1, 1) := dk_10 (dk_at dksX0_bar_0 10 rfl rfl)
theorem dX0_bar_11 : decode cX0_bar 11 = .ok (.goto 4, 3) := dk_167 0 4 (dk_at dksX0_bar_0 11 rfl rfl)
theorem dX0_bar_14 : decode cX0_bar 14 = .ok (.lconst 0, 1) := dk_9 (dk_at dksX0_bar_0 14 rfl rfl)
theorem dX0_bar_15 : decode cX0_bar 15 = .ok (.lastore, 1) := dk_80 (dk_at dksX0_bar_0 15 rfl rfl)
theorem dX0_bar_16 : decode cX0_bar 16 = .ok (.goto 6, 3) := dk_167 0 6 (dk_at dksX0_bar_0 16 rfl rfl)
theorem dX0_bar_19 : decode cX0_bar 19 = .ok (.astore_n 3, 1) := dk_78 (dk_at dksX0_bar_0 19 rfl rfl)
theorem dX0_bar_20 : decode cX0_bar 20 = .ok (.iconst 1, 1) := dk_4 (dk_at dksX0_bar_0 20 rfl rfl)
theorem dX0_bar_21 : decode cX0_bar 21 = .ok (.ireturn, 1) := dk_172 (dk_at dksX0_bar_0 21 rfl rfl)
theorem dX0_bar_22 : decode cX0_bar 22 = .ok (.iconst 0, 1) := dk_3 (dk_at dksX0_bar_0 22 rfl rfl)
theorem dX0_bar_23 : decode cX0_bar 23 = .ok (.ireturn, 1) := dk_172 (dk_at dksX0_bar_0 23 rfl rfl)
abbrev cX0_scramble : ByteArray := method_9_code
def yX0_scramble : MethodName := ⟨RX0, "scramble", "(LVowelTorus;II[J)I"⟩
def dkwX0_scramble_0 : List UInt8 := [45, 3, 42, 27, 28, 182, 0, 37, 133, 80, 167, 0, 7, 58, 4, 4, 172, 3, 172]
abbrev dktX0_scramble_0 : List UInt8 := dkwX0_scramble_0 ++ []
theorem dksX0_scramble_0 : cX0_scramble.data.toList.drop 0 = dktX0_scramble_0 := by decide +kernel
theorem dX0_scramble_0 : decode cX0_scramble 0 = .ok (.aload_n 3, 1) := dk_45 (dk_at dksX0_scramble_0 0 rfl rfl)
theorem dX0_scramble_1 : decode cX0_scramble 1 = .ok (.iconst 0, 1) := dk_3 (dk_at dksX0_scramble_0 1 rfl rfl)
theorem dX0_scramble_2 : decode cX0_scramble 2 = .ok (.aload_n 0, 1) := dk_42 (dk_at dksX0_scramble_0 2 rfl rfl)
theorem dX0_scramble_3 : decode cX0_scramble 3 = .ok (.iload_n 1, 1) := dk_27 (dk_at dksX0_scramble_0 3 rfl rfl)
theorem dX0_scramble_4 : decode cX0_scramble 4 = .ok (.iload_n 2, 1) := dk_28 (dk_at dksX0_scramble_0 4 rfl rfl)
theorem dX0_scramble_5 : decode cX0_scramble 5 = .ok (.invokevirtual 37, 3) := dk_182 0 37 (dk_at dksX0_scramble_0 5 rfl rfl)
theorem dX0_scramble_8 : decode cX0_scramble 8 = .ok (.i2l, 1) := dk_133 (dk_at dksX0_scramble_0 8 rfl rfl)
theorem dX0_scramble_9 : decode cX0_scramble 9 = .ok (.lastore, 1) := dk_80 (dk_at dksX0_scramble_0 9 rfl rfl)
theorem dX0_scramble_10 : decode cX0_scramble 10 = .ok (.goto 7, 3) := dk_167 0 7 (dk_at dksX0_scramble_0 10 rfl rfl)
theorem dX0_scramble_13 : decode cX0_scramble 13 = .ok (.astore 4, 2) := dk_58 4 (dk_at dksX0_scramble_0 13 rfl rfl)
theorem dX0_scramble_15 : decode cX0_scramble 15 = .ok (.iconst 1, 1) := dk_4 (dk_at dksX0_scramble_0 15 rfl rfl)
theorem dX0_scramble_16 : decode cX0_scramble 16 = .ok (.ireturn, 1) := dk_172 (dk_at dksX0_scramble_0 16 rfl rfl)
theorem dX0_scramble_17 : decode cX0_scramble 17 = .ok (.iconst 0, 1) := dk_3 (dk_at dksX0_scramble_0 17 rfl rfl)
theorem dX0_scramble_18 : decode cX0_scramble 18 = .ok (.ireturn, 1) := dk_172 (dk_at dksX0_scramble_0 18 rfl rfl)
abbrev cX0_step : ByteArray := method_10_code
def yX0_step : MethodName := ⟨RX0, "step", "(LVowelTorus;[J)I"⟩
def dkwX0_step_0 : List UInt8 := [43, 3, 42, 182, 0, 40, 133, 80, 167, 0, 9, 77, 4, 172, 77, 5, 172, 3, 172]
abbrev dktX0_step_0 : List UInt8 := dkwX0_step_0 ++ []
theorem dksX0_step_0 : cX0_step.data.toList.drop 0 = dktX0_step_0 := by decide +kernel
theorem dX0_step_0 : decode cX0_step 0 = .ok (.aload_n 1, 1) := dk_43 (dk_at dksX0_step_0 0 rfl rfl)
theorem dX0_step_1 : decode cX0_step 1 = .ok (.iconst 0, 1) := dk_3 (dk_at dksX0_step_0 1 rfl rfl)
theorem dX0_step_2 : decode cX0_step 2 = .ok (.aload_n 0, 1) := dk_42 (dk_at dksX0_step_0 2 rfl rfl)
theorem dX0_step_3 : decode cX0_step 3 = .ok (.invokevirtual 40, 3) := dk_182 0 40 (dk_at dksX0_step_0 3 rfl rfl)
theorem dX0_step_6 : decode cX0_step 6 = .ok (.i2l, 1) := dk_133 (dk_at dksX0_step_0 6 rfl rfl)
theorem dX0_step_7 : decode cX0_step 7 = .ok (.lastore, 1) := dk_80 (dk_at dksX0_step_0 7 rfl rfl)
theorem dX0_step_8 : decode cX0_step 8 = .ok (.goto 9, 3) := dk_167 0 9 (dk_at dksX0_step_0 8 rfl rfl)
theorem dX0_step_11 : decode cX0_step 11 = .ok (.astore_n 2, 1) := dk_77 (dk_at dksX0_step_0 11 rfl rfl)
theorem dX0_step_12 : decode cX0_step 12 = .ok (.iconst 1, 1) := dk_4 (dk_at dksX0_step_0 12 rfl rfl)
theorem dX0_step_13 : decode cX0_step 13 = .ok (.ireturn, 1) := dk_172 (dk_at dksX0_step_0 13 rfl rfl)
theorem dX0_step_14 : decode cX0_step 14 = .ok (.astore_n 2, 1) := dk_77 (dk_at dksX0_step_0 14 rfl rfl)
theorem dX0_step_15 : decode cX0_step 15 = .ok (.iconst 2, 1) := dk_5 (dk_at dksX0_step_0 15 rfl rfl)
theorem dX0_step_16 : decode cX0_step 16 = .ok (.ireturn, 1) := dk_172 (dk_at dksX0_step_0 16 rfl rfl)
theorem dX0_step_17 : decode cX0_step 17 = .ok (.iconst 0, 1) := dk_3 (dk_at dksX0_step_0 17 rfl rfl)
theorem dX0_step_18 : decode cX0_step 18 = .ok (.ireturn, 1) := dk_172 (dk_at dksX0_step_0 18 rfl rfl)
abbrev cX0_letter : ByteArray := method_11_code
def yX0_letter : MethodName := ⟨RX0, "letter", "(LVowelTorus;I[J)I"⟩
def dkwX0_letter_0 : List UInt8 := [44, 3, 42, 27, 182, 0, 46, 133, 80, 167, 0, 6, 78, 4, 172, 3, 172]
abbrev dktX0_letter_0 : List UInt8 := dkwX0_letter_0 ++ []
theorem dksX0_letter_0 : cX0_letter.data.toList.drop 0 = dktX0_letter_0 := by decide +kernel
theorem dX0_letter_0 : decode cX0_letter 0 = .ok (.aload_n 2, 1) := dk_44 (dk_at dksX0_letter_0 0 rfl rfl)
theorem dX0_letter_1 : decode cX0_letter 1 = .ok (.iconst 0, 1) := dk_3 (dk_at dksX0_letter_0 1 rfl rfl)
theorem dX0_letter_2 : decode cX0_letter 2 = .ok (.aload_n 0, 1) := dk_42 (dk_at dksX0_letter_0 2 rfl rfl)
theorem dX0_letter_3 : decode cX0_letter 3 = .ok (.iload_n 1, 1) := dk_27 (dk_at dksX0_letter_0 3 rfl rfl)
theorem dX0_letter_4 : decode cX0_letter 4 = .ok (.invokevirtual 46, 3) := dk_182 0 46 (dk_at dksX0_letter_0 4 rfl rfl)
theorem dX0_letter_7 : decode cX0_letter 7 = .ok (.i2l, 1) := dk_133 (dk_at dksX0_letter_0 7 rfl rfl)
theorem dX0_letter_8 : decode cX0_letter 8 = .ok (.lastore, 1) := dk_80 (dk_at dksX0_letter_0 8 rfl rfl)
theorem dX0_letter_9 : decode cX0_letter 9 = .ok (.goto 6, 3) := dk_167 0 6 (dk_at dksX0_letter_0 9 rfl rfl)
theorem dX0_letter_12 : decode cX0_letter 12 = .ok (.astore_n 3, 1) := dk_78 (dk_at dksX0_letter_0 12 rfl rfl)
theorem dX0_letter_13 : decode cX0_letter 13 = .ok (.iconst 1, 1) := dk_4 (dk_at dksX0_letter_0 13 rfl rfl)
theorem dX0_letter_14 : decode cX0_letter 14 = .ok (.ireturn, 1) := dk_172 (dk_at dksX0_letter_0 14 rfl rfl)
theorem dX0_letter_15 : decode cX0_letter 15 = .ok (.iconst 0, 1) := dk_3 (dk_at dksX0_letter_0 15 rfl rfl)
theorem dX0_letter_16 : decode cX0_letter 16 = .ok (.ireturn, 1) := dk_172 (dk_at dksX0_letter_0 16 rfl rfl)
abbrev cX0_sign : ByteArray := method_12_code
def yX0_sign : MethodName := ⟨RX0, "sign", "(LVowelTorus;I[J)I"⟩
def dkwX0_sign_0 : List UInt8 := [44, 3, 42, 27, 182, 0, 50, 133, 80, 167, 0, 6, 78, 4, 172, 3, 172]
abbrev dktX0_sign_0 : List UInt8 := dkwX0_sign_0 ++ []
theorem dksX0_sign_0 : cX0_sign.data.toList.drop 0 = dktX0_sign_0 := by decide +kernel
theorem dX0_sign_0 : decode cX0_sign 0 = .ok (.aload_n 2, 1) := dk_44 (dk_at dksX0_sign_0 0 rfl rfl)
theorem dX0_sign_1 : decode cX0_sign 1 = .ok (.iconst 0, 1) := dk_3 (dk_at dksX0_sign_0 1 rfl rfl)
theorem dX0_sign_2 : decode cX0_sign 2 = .ok (.aload_n 0, 1) := dk_42 (dk_at dksX0_sign_0 2 rfl rfl)
theorem dX0_sign_3 : decode cX0_sign 3 = .ok (.iload_n 1, 1) := dk_27 (dk_at dksX0_sign_0 3 rfl rfl)
theorem dX0_sign_4 : decode cX0_sign 4 = .ok (.invokevirtual 50, 3) := dk_182 0 50 (dk_at dksX0_sign_0 4 rfl rfl)
theorem dX0_sign_7 : decode cX0_sign 7 = .ok (.i2l, 1) := dk_133 (dk_at dksX0_sign_0 7 rfl rfl)
theorem dX0_sign_8 : decode cX0_sign 8 = .ok (.lastore, 1) := dk_80 (dk_at dksX0_sign_0 8 rfl rfl)
theorem dX0_sign_9 : decode cX0_sign 9 = .ok (.goto 6, 3) := dk_167 0 6 (dk_at dksX0_sign_0 9 rfl rfl)
theorem dX0_sign_12 : decode cX0_sign 12 = .ok (.astore_n 3, 1) := dk_78 (dk_at dksX0_sign_0 12 rfl rfl)
theorem dX0_sign_13 : decode cX0_sign 13 = .ok (.iconst 1, 1) := dk_4 (dk_at dksX0_sign_0 13 rfl rfl)
theorem dX0_sign_14 : decode cX0_sign 14 = .ok (.ireturn, 1) := dk_172 (dk_at dksX0_sign_0 14 rfl rfl)
theorem dX0_sign_15 : decode cX0_sign 15 = .ok (.iconst 0, 1) := dk_3 (dk_at dksX0_sign_0 15 rfl rfl)
theorem dX0_sign_16 : decode cX0_sign 16 = .ok (.ireturn, 1) := dk_172 (dk_at dksX0_sign_0 16 rfl rfl)
abbrev cX0_isBarred : ByteArray := method_13_code
def yX0_isBarred : MethodName := ⟨RX0, "isBarred", "(LVowelTorus;I[J)I"⟩
def dkwX0_isBarred_0 : List UInt8 := [44, 3, 42, 27, 182, 0, 53, 153, 0, 7, 10, 167, 0, 4, 9, 80, 167, 0, 6, 78, 4, 172, 3, 172]
abbrev dktX0_isBarred_0 : List UInt8 := dkwX0_isBarred_0 ++ []
theorem dksX0_isBarred_0 : cX0_isBarred.data.toList.drop 0 = dktX0_isBarred_0 := by decide +kernel
theorem dX0_isBarred_0 : decode cX0_isBarred 0 = .ok (.aload_n 2, 1) := dk_44 (dk_at dksX0_isBarred_0 0 rfl rfl)
theorem dX0_isBarred_1 : decode cX0_isBarred 1 = .ok (.iconst 0, 1) := dk_3 (dk_at dksX0_isBarred_0 1 rfl rfl)
theorem dX0_isBarred_2 : decode cX0_isBarred 2 = .ok (.aload_n 0, 1) := dk_42 (dk_at dksX0_isBarred_0 2 rfl rfl)
theorem dX0_isBarred_3 : decode cX0_isBarred 3 = .ok (.iload_n 1, 1) := dk_27 (dk_at dksX0_isBarred_0 3 rfl rfl)
theorem dX0_isBarred_4 : decode cX0_isBarred 4 = .ok (.invokevirtual 53, 3) := dk_182 0 53 (dk_at dksX0_isBarred_0 4 rfl rfl)
theorem dX0_isBarred_7 : decode cX0_isBarred 7 = .ok (.ifCond .eq 7, 3) := dk_153 0 7 (dk_at dksX0_isBarred_0 7 rfl rfl)
theorem dX0_isBarred_10 : decode cX0_isBarred 10 = .ok (.lconst 1, 1) := dk_10 (dk_at dksX0_isBarred_0 10 rfl rfl)
theorem dX0_isBarred_11 : decode cX0_isBarred 11 = .ok (.goto 4, 3) := dk_167 0 4 (dk_at dksX0_isBarred_0 11 rfl rfl)
theorem dX0_isBarred_14 : decode cX0_isBarred 14 = .ok (.lconst 0, 1) := dk_9 (dk_at dksX0_isBarred_0 14 rfl rfl)
theorem dX0_isBarred_15 : decode cX0_isBarred 15 = .ok (.lastore, 1) := dk_80 (dk_at dksX0_isBarred_0 15 rfl rfl)
theorem dX0_isBarred_16 : decode cX0_isBarred 16 = .ok (.goto 6, 3) := dk_167 0 6 (dk_at dksX0_isBarred_0 16 rfl rfl)
theorem dX0_isBarred_19 : decode cX0_isBarred 19 = .ok (.astore_n 3, 1) := dk_78 (dk_at dksX0_isBarred_0 19 rfl rfl)
theorem dX0_isBarred_20 : decode cX0_isBarred 20 = .ok (.iconst 1, 1) := dk_4 (dk_at dksX0_isBarred_0 20 rfl rfl)
theorem dX0_isBarred_21 : decode cX0_isBarred 21 = .ok (.ireturn, 1) := dk_172 (dk_at dksX0_isBarred_0 21 rfl rfl)
theorem dX0_isBarred_22 : decode cX0_isBarred 22 = .ok (.iconst 0, 1) := dk_3 (dk_at dksX0_isBarred_0 22 rfl rfl)
theorem dX0_isBarred_23 : decode cX0_isBarred 23 = .ok (.ireturn, 1) := dk_172 (dk_at dksX0_isBarred_0 23 rfl rfl)
abbrev cX0_boardOf : ByteArray := method_14_code
def yX0_boardOf : MethodName := ⟨RX0, "boardOf", "(LVowelTorus;I[J)I"⟩
def dkwX0_boardOf_0 : List UInt8 := [44, 3, 42, 27, 182, 0, 56, 133, 80, 167, 0, 6, 78, 4, 172, 3, 172]
abbrev dktX0_boardOf_0 : List UInt8 := dkwX0_boardOf_0 ++ []
theorem dksX0_boardOf_0 : cX0_boardOf.data.toList.drop 0 = dktX0_boardOf_0 := by decide +kernel
theorem dX0_boardOf_0 : decode cX0_boardOf 0 = .ok (.aload_n 2, 1) := dk_44 (dk_at dksX0_boardOf_0 0 rfl rfl)
theorem dX0_boardOf_1 : decode cX0_boardOf 1 = .ok (.iconst 0, 1) := dk_3 (dk_at dksX0_boardOf_0 1 rfl rfl)
theorem dX0_boardOf_2 : decode cX0_boardOf 2 = .ok (.aload_n 0, 1) := dk_42 (dk_at dksX0_boardOf_0 2 rfl rfl)
theorem dX0_boardOf_3 : decode cX0_boardOf 3 = .ok (.iload_n 1, 1) := dk_27 (dk_at dksX0_boardOf_0 3 rfl rfl)
theorem dX0_boardOf_4 : decode cX0_boardOf 4 = .ok (.invokevirtual 56, 3) := dk_182 0 56 (dk_at dksX0_boardOf_0 4 rfl rfl)
theorem dX0_boardOf_7 : decode cX0_boardOf 7 = .ok (.i2l, 1) := dk_133 (dk_at dksX0_boardOf_0 7 rfl rfl)
theorem dX0_boardOf_8 : decode cX0_boardOf 8 = .ok (.lastore, 1) := dk_80 (dk_at dksX0_boardOf_0 8 rfl rfl)
theorem dX0_boardOf_9 : decode cX0_boardOf 9 = .ok (.goto 6, 3) := dk_167 0 6 (dk_at dksX0_boardOf_0 9 rfl rfl)
theorem dX0_boardOf_12 : decode cX0_boardOf 12 = .ok (.astore_n 3, 1) := dk_78 (dk_at dksX0_boardOf_0 12 rfl rfl)
theorem dX0_boardOf_13 : decode cX0_boardOf 13 = .ok (.iconst 1, 1) := dk_4 (dk_at dksX0_boardOf_0 13 rfl rfl)
theorem dX0_boardOf_14 : decode cX0_boardOf 14 = .ok (.ireturn, 1) := dk_172 (dk_at dksX0_boardOf_0 14 rfl rfl)
theorem dX0_boardOf_15 : decode cX0_boardOf 15 = .ok (.iconst 0, 1) := dk_3 (dk_at dksX0_boardOf_0 15 rfl rfl)
theorem dX0_boardOf_16 : decode cX0_boardOf 16 = .ok (.ireturn, 1) := dk_172 (dk_at dksX0_boardOf_0 16 rfl rfl)
abbrev cX0_away : ByteArray := method_15_code
def yX0_away : MethodName := ⟨RX0, "away", "(LVowelTorus;Z[J)I"⟩
def dkwX0_away_0 : List UInt8 := [44, 3, 42, 27, 182, 0, 59, 133, 80, 167, 0, 6, 78, 4, 172, 3, 172]
abbrev dktX0_away_0 : List UInt8 := dkwX0_away_0 ++ []
theorem dksX0_away_0 : cX0_away.data.toList.drop 0 = dktX0_away_0 := by decide +kernel
theorem dX0_away_0 : decode cX0_away 0 = .ok (.aload_n 2, 1) := dk_44 (dk_at dksX0_away_0 0 rfl rfl)
theorem dX0_away_1 : decode cX0_away 1 = .ok (.iconst 0, 1) := dk_3 (dk_at dksX0_away_0 1 rfl rfl)
theorem dX0_away_2 : decode cX0_away 2 = .ok (.aload_n 0, 1) := dk_42 (dk_at dksX0_away_0 2 rfl rfl)
theorem dX0_away_3 : decode cX0_away 3 = .ok (.iload_n 1, 1) := dk_27 (dk_at dksX0_away_0 3 rfl rfl)
theorem dX0_away_4 : decode cX0_away 4 = .ok (.invokevirtual 59, 3) := dk_182 0 59 (dk_at dksX0_away_0 4 rfl rfl)
theorem dX0_away_7 : decode cX0_away 7 = .ok (.i2l, 1) := dk_133 (dk_at dksX0_away_0 7 rfl rfl)
theorem dX0_away_8 : decode cX0_away 8 = .ok (.lastore, 1) := dk_80 (dk_at dksX0_away_0 8 rfl rfl)
theorem dX0_away_9 : decode cX0_away 9 = .ok (.goto 6, 3) := dk_167 0 6 (dk_at dksX0_away_0 9 rfl rfl)
theorem dX0_away_12 : decode cX0_away 12 = .ok (.astore_n 3, 1) := dk_78 (dk_at dksX0_away_0 12 rfl rfl)
theorem dX0_away_13 : decode cX0_away 13 = .ok (.iconst 1, 1) := dk_4 (dk_at dksX0_away_0 13 rfl rfl)
theorem dX0_away_14 : decode cX0_away 14 = .ok (.ireturn, 1) := dk_172 (dk_at dksX0_away_0 14 rfl rfl)
theorem dX0_away_15 : decode cX0_away 15 = .ok (.iconst 0, 1) := dk_3 (dk_at dksX0_away_0 15 rfl rfl)
theorem dX0_away_16 : decode cX0_away 16 = .ok (.ireturn, 1) := dk_172 (dk_at dksX0_away_0 16 rfl rfl)
abbrev cX0_firstTurn : ByteArray := method_16_code
def yX0_firstTurn : MethodName := ⟨RX0, "firstTurn", "(LVowelTorus;[J)I"⟩
def dkwX0_firstTurn_0 : List UInt8 := [43, 3, 42, 182, 0, 63, 133, 80, 167, 0, 6, 77, 4, 172, 3, 172]
abbrev dktX0_firstTurn_0 : List UInt8 := dkwX0_firstTurn_0 ++ []
theorem dksX0_firstTurn_0 : cX0_firstTurn.data.toList.drop 0 = dktX0_firstTurn_0 := by decide +kernel
theorem dX0_firstTurn_0 : decode cX0_firstTurn 0 = .ok (.aload_n 1, 1) := dk_43 (dk_at dksX0_firstTurn_0 0 rfl rfl)
theorem dX0_firstTurn_1 : decode cX0_firstTurn 1 = .ok (.iconst 0, 1) := dk_3 (dk_at dksX0_firstTurn_0 1 rfl rfl)
theorem dX0_firstTurn_2 : decode cX0_firstTurn 2 = .ok (.aload_n 0, 1) := dk_42 (dk_at dksX0_firstTurn_0 2 rfl rfl)
theorem dX0_firstTurn_3 : decode cX0_firstTurn 3 = .ok (.invokevirtual 63, 3) := dk_182 0 63 (dk_at dksX0_firstTurn_0 3 rfl rfl)
theorem dX0_firstTurn_6 : decode cX0_firstTurn 6 = .ok (.i2l, 1) := dk_133 (dk_at dksX0_firstTurn_0 6 rfl rfl)
theorem dX0_firstTurn_7 : decode cX0_firstTurn 7 = .ok (.lastore, 1) := dk_80 (dk_at dksX0_firstTurn_0 7 rfl rfl)
theorem dX0_firstTurn_8 : decode cX0_firstTurn 8 = .ok (.goto 6, 3) := dk_167 0 6 (dk_at dksX0_firstTurn_0 8 rfl rfl)
theorem dX0_firstTurn_11 : decode cX0_firstTurn 11 = .ok (.astore_n 2, 1) := dk_77 (dk_at dksX0_firstTurn_0 11 rfl rfl)
theorem dX0_firstTurn_12 : decode cX0_firstTurn 12 = .ok (.iconst 1, 1) := dk_4 (dk_at dksX0_firstTurn_0 12 rfl rfl)
theorem dX0_firstTurn_13 : decode cX0_firstTurn 13 = .ok (.ireturn, 1) := dk_172 (dk_at dksX0_firstTurn_0 13 rfl rfl)
theorem dX0_firstTurn_14 : decode cX0_firstTurn 14 = .ok (.iconst 0, 1) := dk_3 (dk_at dksX0_firstTurn_0 14 rfl rfl)
theorem dX0_firstTurn_15 : decode cX0_firstTurn 15 = .ok (.ireturn, 1) := dk_172 (dk_at dksX0_firstTurn_0 15 rfl rfl)
abbrev cX0_isOdd : ByteArray := method_17_code
def yX0_isOdd : MethodName := ⟨RX0, "isOdd", "(LVowelTorus;Z[J)I"⟩
def dkwX0_isOdd_0 : List UInt8 := [44, 3, 42, 27, 182, 0, 66, 153, 0, 7, 10, 167, 0, 4, 9, 80, 167, 0, 6, 78, 4, 172, 3, 172]
abbrev dktX0_isOdd_0 : List UInt8 := dkwX0_isOdd_0 ++ []
theorem dksX0_isOdd_0 : cX0_isOdd.data.toList.drop 0 = dktX0_isOdd_0 := by decide +kernel
theorem dX0_isOdd_0 : decode cX0_isOdd 0 = .ok (.aload_n 2, 1) := dk_44 (dk_at dksX0_isOdd_0 0 rfl rfl)
theorem dX0_isOdd_1 : decode cX0_isOdd 1 = .ok (.iconst 0, 1) := dk_3 (dk_at dksX0_isOdd_0 1 rfl rfl)
theorem dX0_isOdd_2 : decode cX0_isOdd 2 = .ok (.aload_n 0, 1) := dk_42 (dk_at dksX0_isOdd_0 2 rfl rfl)
theorem dX0_isOdd_3 : decode cX0_isOdd 3 = .ok (.iload_n 1, 1) := dk_27 (dk_at dksX0_isOdd_0 3 rfl rfl)
theorem dX0_isOdd_4 : decode cX0_isOdd 4 = .ok (.invokevirtual 66, 3) := dk_182 0 66 (dk_at dksX0_isOdd_0 4 rfl rfl)
theorem dX0_isOdd_7 : decode cX0_isOdd 7 = .ok (.ifCond .eq 7, 3) := dk_153 0 7 (dk_at dksX0_isOdd_0 7 rfl rfl)
theorem dX0_isOdd_10 : decode cX0_isOdd 10 = .ok (.lconst 1, 1) := dk_10 (dk_at dksX0_isOdd_0 10 rfl rfl)
theorem dX0_isOdd_11 : decode cX0_isOdd 11 = .ok (.goto 4, 3) := dk_167 0 4 (dk_at dksX0_isOdd_0 11 rfl rfl)
theorem dX0_isOdd_14 : decode cX0_isOdd 14 = .ok (.lconst 0, 1) := dk_9 (dk_at dksX0_isOdd_0 14 rfl rfl)
theorem dX0_isOdd_15 : decode cX0_isOdd 15 = .ok (.lastore, 1) := dk_80 (dk_at dksX0_isOdd_0 15 rfl rfl)
theorem dX0_isOdd_16 : decode cX0_isOdd 16 = .ok (.goto 6, 3) := dk_167 0 6 (dk_at dksX0_isOdd_0 16 rfl rfl)
theorem dX0_isOdd_19 : decode cX0_isOdd 19 = .ok (.astore_n 3, 1) := dk_78 (dk_at dksX0_isOdd_0 19 rfl rfl)
theorem dX0_isOdd_20 : decode cX0_isOdd 20 = .ok (.iconst 1, 1) := dk_4 (dk_at dksX0_isOdd_0 20 rfl rfl)
theorem dX0_isOdd_21 : decode cX0_isOdd 21 = .ok (.ireturn, 1) := dk_172 (dk_at dksX0_isOdd_0 21 rfl rfl)
theorem dX0_isOdd_22 : decode cX0_isOdd 22 = .ok (.iconst 0, 1) := dk_3 (dk_at dksX0_isOdd_0 22 rfl rfl)
theorem dX0_isOdd_23 : decode cX0_isOdd 23 = .ok (.ireturn, 1) := dk_172 (dk_at dksX0_isOdd_0 23 rfl rfl)
abbrev cX0_would : ByteArray := method_18_code
def yX0_would : MethodName := ⟨RX0, "would", "(LVowelTorus;I[J)I"⟩
def dkwX0_would_0 : List UInt8 := [44, 3, 42, 27, 182, 0, 70, 133, 80, 167, 0, 6, 78, 4, 172, 3, 172]
abbrev dktX0_would_0 : List UInt8 := dkwX0_would_0 ++ []
theorem dksX0_would_0 : cX0_would.data.toList.drop 0 = dktX0_would_0 := by decide +kernel
theorem dX0_would_0 : decode cX0_would 0 = .ok (.aload_n 2, 1) := dk_44 (dk_at dksX0_would_0 0 rfl rfl)
theorem dX0_would_1 : decode cX0_would 1 = .ok (.iconst 0, 1) := dk_3 (dk_at dksX0_would_0 1 rfl rfl)
theorem dX0_would_2 : decode cX0_would 2 = .ok (.aload_n 0, 1) := dk_42 (dk_at dksX0_would_0 2 rfl rfl)
theorem dX0_would_3 : decode cX0_would 3 = .ok (.iload_n 1, 1) := dk_27 (dk_at dksX0_would_0 3 rfl rfl)
theorem dX0_would_4 : decode cX0_would 4 = .ok (.invokevirtual 70, 3) := dk_182 0 70 (dk_at dksX0_would_0 4 rfl rfl)
theorem dX0_would_7 : decode cX0_would 7 = .ok (.i2l, 1) := dk_133 (dk_at dksX0_would_0 7 rfl rfl)
theorem dX0_would_8 : decode cX0_would 8 = .ok (.lastore, 1) := dk_80 (dk_at dksX0_would_0 8 rfl rfl)
theorem dX0_would_9 : decode cX0_would 9 = .ok (.goto 6, 3) := dk_167 0 6 (dk_at dksX0_would_0 9 rfl rfl)
theorem dX0_would_12 : decode cX0_would 12 = .ok (.astore_n 3, 1) := dk_78 (dk_at dksX0_would_0 12 rfl rfl)
theorem dX0_would_13 : decode cX0_would 13 = .ok (.iconst 1, 1) := dk_4 (dk_at dksX0_would_0 13 rfl rfl)
theorem dX0_would_14 : decode cX0_would 14 = .ok (.ireturn, 1) := dk_172 (dk_at dksX0_would_0 14 rfl rfl)
theorem dX0_would_15 : decode cX0_would 15 = .ok (.iconst 0, 1) := dk_3 (dk_at dksX0_would_0 15 rfl rfl)
theorem dX0_would_16 : decode cX0_would 16 = .ok (.ireturn, 1) := dk_172 (dk_at dksX0_would_0 16 rfl rfl)
abbrev cX0_best : ByteArray := method_19_code
def yX0_best : MethodName := ⟨RX0, "best", "(LVowelTorus;[J)I"⟩
def dkwX0_best_0 : List UInt8 := [43, 3, 42, 182, 0, 73, 133, 80, 167, 0, 6, 77, 4, 172, 3, 172]
abbrev dktX0_best_0 : List UInt8 := dkwX0_best_0 ++ []
theorem dksX0_best_0 : cX0_best.data.toList.drop 0 = dktX0_best_0 := by decide +kernel
theorem dX0_best_0 : decode cX0_best 0 = .ok (.aload_n 1, 1) := dk_43 (dk_at dksX0_best_0 0 rfl rfl)
theorem dX0_best_1 : decode cX0_best 1 = .ok (.iconst 0, 1) := dk_3 (dk_at dksX0_best_0 1 rfl rfl)
theorem dX0_best_2 : decode cX0_best 2 = .ok (.aload_n 0, 1) := dk_42 (dk_at dksX0_best_0 2 rfl rfl)
theorem dX0_best_3 : decode cX0_best 3 = .ok (.invokevirtual 73, 3) := dk_182 0 73 (dk_at dksX0_best_0 3 rfl rfl)
theorem dX0_best_6 : decode cX0_best 6 = .ok (.i2l, 1) := dk_133 (dk_at dksX0_best_0 6 rfl rfl)
theorem dX0_best_7 : decode cX0_best 7 = .ok (.lastore, 1) := dk_80 (dk_at dksX0_best_0 7 rfl rfl)
theorem dX0_best_8 : decode cX0_best 8 = .ok (.goto 6, 3) := dk_167 0 6 (dk_at dksX0_best_0 8 rfl rfl)
theorem dX0_best_11 : decode cX0_best 11 = .ok (.astore_n 2, 1) := dk_77 (dk_at dksX0_best_0 11 rfl rfl)
theorem dX0_best_12 : decode cX0_best 12 = .ok (.iconst 1, 1) := dk_4 (dk_at dksX0_best_0 12 rfl rfl)
theorem dX0_best_13 : decode cX0_best 13 = .ok (.ireturn, 1) := dk_172 (dk_at dksX0_best_0 13 rfl rfl)
theorem dX0_best_14 : decode cX0_best 14 = .ok (.iconst 0, 1) := dk_3 (dk_at dksX0_best_0 14 rfl rfl)
theorem dX0_best_15 : decode cX0_best 15 = .ok (.ireturn, 1) := dk_172 (dk_at dksX0_best_0 15 rfl rfl)
abbrev cX0_where : ByteArray := method_20_code
def yX0_where : MethodName := ⟨RX0, "where", "(LVowelTorus;III[J)I"⟩
def dkwX0_where_1 : List UInt8 := [172]
abbrev dktX0_where_1 : List UInt8 := dkwX0_where_1 ++ []
def dkwX0_where_0 : List UInt8 := [25, 4, 3, 42, 27, 28, 29, 182, 0, 76, 133, 80, 167, 0, 11, 58, 5, 4, 172, 58, 5, 5, 172, 3]
abbrev dktX0_where_0 : List UInt8 := dkwX0_where_0 ++ dktX0_where_1
theorem dksX0_where_0 : cX0_where.data.toList.drop 0 = dktX0_where_0 := by decide +kernel
theorem dksX0_where_1 : cX0_where.data.toList.drop 24 = dktX0_where_1 := dk_seg dksX0_where_0 24 rfl rfl
theorem dX0_where_0 : decode cX0_where 0 = .ok (.aload 4, 2) := dk_25 4 (dk_at dksX0_where_0 0 rfl rfl)
theorem dX0_where_2 : decode cX0_where 2 = .ok (.iconst 0, 1) := dk_3 (dk_at dksX0_where_0 2 rfl rfl)
theorem dX0_where_3 : decode cX0_where 3 = .ok (.aload_n 0, 1) := dk_42 (dk_at dksX0_where_0 3 rfl rfl)
theorem dX0_where_4 : decode cX0_where 4 = .ok (.iload_n 1, 1) := dk_27 (dk_at dksX0_where_0 4 rfl rfl)
theorem dX0_where_5 : decode cX0_where 5 = .ok (.iload_n 2, 1) := dk_28 (dk_at dksX0_where_0 5 rfl rfl)
theorem dX0_where_6 : decode cX0_where 6 = .ok (.iload_n 3, 1) := dk_29 (dk_at dksX0_where_0 6 rfl rfl)
theorem dX0_where_7 : decode cX0_where 7 = .ok (.invokevirtual 76, 3) := dk_182 0 76 (dk_at dksX0_where_0 7 rfl rfl)
theorem dX0_where_10 : decode cX0_where 10 = .ok (.i2l, 1) := dk_133 (dk_at dksX0_where_0 10 rfl rfl)
theorem dX0_where_11 : decode cX0_where 11 = .ok (.lastore, 1) := dk_80 (dk_at dksX0_where_0 11 rfl rfl)
theorem dX0_where_12 : decode cX0_where 12 = .ok (.goto 11, 3) := dk_167 0 11 (dk_at dksX0_where_0 12 rfl rfl)
theorem dX0_where_15 : decode cX0_where 15 = .ok (.astore 5, 2) := dk_58 5 (dk_at dksX0_where_0 15 rfl rfl)
theorem dX0_where_17 : decode cX0_where 17 = .ok (.iconst 1, 1) := dk_4 (dk_at dksX0_where_0 17 rfl rfl)
theorem dX0_where_18 : decode cX0_where 18 = .ok (.ireturn, 1) := dk_172 (dk_at dksX0_where_0 18 rfl rfl)
theorem dX0_where_19 : decode cX0_where 19 = .ok (.astore 5, 2) := dk_58 5 (dk_at dksX0_where_0 19 rfl rfl)
theorem dX0_where_21 : decode cX0_where 21 = .ok (.iconst 2, 1) := dk_5 (dk_at dksX0_where_0 21 rfl rfl)
theorem dX0_where_22 : decode cX0_where 22 = .ok (.ireturn, 1) := dk_172 (dk_at dksX0_where_0 22 rfl rfl)
theorem dX0_where_23 : decode cX0_where 23 = .ok (.iconst 0, 1) := dk_3 (dk_at dksX0_where_0 23 rfl rfl)
theorem dX0_where_24 : decode cX0_where 24 = .ok (.ireturn, 1) := dk_172 (dk_at dksX0_where_1 0 rfl rfl)
abbrev cX0_far : ByteArray := method_21_code
def yX0_far : MethodName := ⟨RX0, "far", "(LVowelTorus;II[J)I"⟩
def dkwX0_far_0 : List UInt8 := [45, 3, 42, 27, 28, 182, 0, 80, 133, 80, 167, 0, 7, 58, 4, 4, 172, 3, 172]
abbrev dktX0_far_0 : List UInt8 := dkwX0_far_0 ++ []
theorem dksX0_far_0 : cX0_far.data.toList.drop 0 = dktX0_far_0 := by decide +kernel
theorem dX0_far_0 : decode cX0_far 0 = .ok (.aload_n 3, 1) := dk_45 (dk_at dksX0_far_0 0 rfl rfl)
theorem dX0_far_1 : decode cX0_far 1 = .ok (.iconst 0, 1) := dk_3 (dk_at dksX0_far_0 1 rfl rfl)
theorem dX0_far_2 : decode cX0_far 2 = .ok (.aload_n 0, 1) := dk_42 (dk_at dksX0_far_0 2 rfl rfl)
theorem dX0_far_3 : decode cX0_far 3 = .ok (.iload_n 1, 1) := dk_27 (dk_at dksX0_far_0 3 rfl rfl)
theorem dX0_far_4 : decode cX0_far 4 = .ok (.iload_n 2, 1) := dk_28 (dk_at dksX0_far_0 4 rfl rfl)
theorem dX0_far_5 : decode cX0_far 5 = .ok (.invokevirtual 80, 3) := dk_182 0 80 (dk_at dksX0_far_0 5 rfl rfl)
theorem dX0_far_8 : decode cX0_far 8 = .ok (.i2l, 1) := dk_133 (dk_at dksX0_far_0 8 rfl rfl)
theorem dX0_far_9 : decode cX0_far 9 = .ok (.lastore, 1) := dk_80 (dk_at dksX0_far_0 9 rfl rfl)
theorem dX0_far_10 : decode cX0_far 10 = .ok (.goto 7, 3) := dk_167 0 7 (dk_at dksX0_far_0 10 rfl rfl)
theorem dX0_far_13 : decode cX0_far 13 = .ok (.astore 4, 2) := dk_58 4 (dk_at dksX0_far_0 13 rfl rfl)
theorem dX0_far_15 : decode cX0_far 15 = .ok (.iconst 1, 1) := dk_4 (dk_at dksX0_far_0 15 rfl rfl)
theorem dX0_far_16 : decode cX0_far 16 = .ok (.ireturn, 1) := dk_172 (dk_at dksX0_far_0 16 rfl rfl)
theorem dX0_far_17 : decode cX0_far 17 = .ok (.iconst 0, 1) := dk_3 (dk_at dksX0_far_0 17 rfl rfl)
theorem dX0_far_18 : decode cX0_far 18 = .ok (.ireturn, 1) := dk_172 (dk_at dksX0_far_0 18 rfl rfl)
abbrev cX0_sings : ByteArray := method_22_code
def yX0_sings : MethodName := ⟨RX0, "sings", "(LVowelTorus;I[J)I"⟩
def dkwX0_sings_0 : List UInt8 := [44, 3, 42, 27, 182, 0, 83, 153, 0, 7, 10, 167, 0, 4, 9, 80, 167, 0, 6, 78, 4, 172, 3, 172]
abbrev dktX0_sings_0 : List UInt8 := dkwX0_sings_0 ++ []
theorem dksX0_sings_0 : cX0_sings.data.toList.drop 0 = dktX0_sings_0 := by decide +kernel
theorem dX0_sings_0 : decode cX0_sings 0 = .ok (.aload_n 2, 1) := dk_44 (dk_at dksX0_sings_0 0 rfl rfl)
theorem dX0_sings_1 : decode cX0_sings 1 = .ok (.iconst 0, 1) := dk_3 (dk_at dksX0_sings_0 1 rfl rfl)
theorem dX0_sings_2 : decode cX0_sings 2 = .ok (.aload_n 0, 1) := dk_42 (dk_at dksX0_sings_0 2 rfl rfl)
theorem dX0_sings_3 : decode cX0_sings 3 = .ok (.iload_n 1, 1) := dk_27 (dk_at dksX0_sings_0 3 rfl rfl)
theorem dX0_sings_4 : decode cX0_sings 4 = .ok (.invokevirtual 83, 3) := dk_182 0 83 (dk_at dksX0_sings_0 4 rfl rfl)
theorem dX0_sings_7 : decode cX0_sings 7 = .ok (.ifCond .eq 7, 3) := dk_153 0 7 (dk_at dksX0_sings_0 7 rfl rfl)
theorem dX0_sings_10 : decode cX0_sings 10 = .ok (.lconst 1, 1) := dk_10 (dk_at dksX0_sings_0 10 rfl rfl)
theorem dX0_sings_11 : decode cX0_sings 11 = .ok (.goto 4, 3) := dk_167 0 4 (dk_at dksX0_sings_0 11 rfl rfl)
theorem dX0_sings_14 : decode cX0_sings 14 = .ok (.lconst 0, 1) := dk_9 (dk_at dksX0_sings_0 14 rfl rfl)
theorem dX0_sings_15 : decode cX0_sings 15 = .ok (.lastore, 1) := dk_80 (dk_at dksX0_sings_0 15 rfl rfl)
theorem dX0_sings_16 : decode cX0_sings 16 = .ok (.goto 6, 3) := dk_167 0 6 (dk_at dksX0_sings_0 16 rfl rfl)
theorem dX0_sings_19 : decode cX0_sings 19 = .ok (.astore_n 3, 1) := dk_78 (dk_at dksX0_sings_0 19 rfl rfl)
theorem dX0_sings_20 : decode cX0_sings 20 = .ok (.iconst 1, 1) := dk_4 (dk_at dksX0_sings_0 20 rfl rfl)
theorem dX0_sings_21 : decode cX0_sings 21 = .ok (.ireturn, 1) := dk_172 (dk_at dksX0_sings_0 21 rfl rfl)
theorem dX0_sings_22 : decode cX0_sings 22 = .ok (.iconst 0, 1) := dk_3 (dk_at dksX0_sings_0 22 rfl rfl)
theorem dX0_sings_23 : decode cX0_sings 23 = .ok (.ireturn, 1) := dk_172 (dk_at dksX0_sings_0 23 rfl rfl)
abbrev cX0_ranked : ByteArray := method_23_code
def yX0_ranked : MethodName := ⟨RX0, "ranked", "(LVowelTorus;I[J)I"⟩
def dkwX0_ranked_0 : List UInt8 := [44, 3, 42, 27, 182, 0, 86, 133, 80, 167, 0, 6, 78, 4, 172, 3, 172]
abbrev dktX0_ranked_0 : List UInt8 := dkwX0_ranked_0 ++ []
theorem dksX0_ranked_0 : cX0_ranked.data.toList.drop 0 = dktX0_ranked_0 := by decide +kernel
theorem dX0_ranked_0 : decode cX0_ranked 0 = .ok (.aload_n 2, 1) := dk_44 (dk_at dksX0_ranked_0 0 rfl rfl)
theorem dX0_ranked_1 : decode cX0_ranked 1 = .ok (.iconst 0, 1) := dk_3 (dk_at dksX0_ranked_0 1 rfl rfl)
theorem dX0_ranked_2 : decode cX0_ranked 2 = .ok (.aload_n 0, 1) := dk_42 (dk_at dksX0_ranked_0 2 rfl rfl)
theorem dX0_ranked_3 : decode cX0_ranked 3 = .ok (.iload_n 1, 1) := dk_27 (dk_at dksX0_ranked_0 3 rfl rfl)
theorem dX0_ranked_4 : decode cX0_ranked 4 = .ok (.invokevirtual 86, 3) := dk_182 0 86 (dk_at dksX0_ranked_0 4 rfl rfl)
theorem dX0_ranked_7 : decode cX0_ranked 7 = .ok (.i2l, 1) := dk_133 (dk_at dksX0_ranked_0 7 rfl rfl)
theorem dX0_ranked_8 : decode cX0_ranked 8 = .ok (.lastore, 1) := dk_80 (dk_at dksX0_ranked_0 8 rfl rfl)
theorem dX0_ranked_9 : decode cX0_ranked 9 = .ok (.goto 6, 3) := dk_167 0 6 (dk_at dksX0_ranked_0 9 rfl rfl)
theorem dX0_ranked_12 : decode cX0_ranked 12 = .ok (.astore_n 3, 1) := dk_78 (dk_at dksX0_ranked_0 12 rfl rfl)
theorem dX0_ranked_13 : decode cX0_ranked 13 = .ok (.iconst 1, 1) := dk_4 (dk_at dksX0_ranked_0 13 rfl rfl)
theorem dX0_ranked_14 : decode cX0_ranked 14 = .ok (.ireturn, 1) := dk_172 (dk_at dksX0_ranked_0 14 rfl rfl)
theorem dX0_ranked_15 : decode cX0_ranked 15 = .ok (.iconst 0, 1) := dk_3 (dk_at dksX0_ranked_0 15 rfl rfl)
theorem dX0_ranked_16 : decode cX0_ranked 16 = .ok (.ireturn, 1) := dk_172 (dk_at dksX0_ranked_0 16 rfl rfl)
abbrev cX0_lineText : ByteArray := method_24_code
def yX0_lineText : MethodName := ⟨RX0, "lineText", "(LVowelTorus;I[J)I"⟩
def dkwX0_lineText_0 : List UInt8 := [44, 3, 42, 27, 182, 0, 89, 133, 80, 167, 0, 6, 78, 4, 172, 3, 172]
abbrev dktX0_lineText_0 : List UInt8 := dkwX0_lineText_0 ++ []
theorem dksX0_lineText_0 : cX0_lineText.data.toList.drop 0 = dktX0_lineText_0 := by decide +kernel
theorem dX0_lineText_0 : decode cX0_lineText 0 = .ok (.aload_n 2, 1) := dk_44 (dk_at dksX0_lineText_0 0 rfl rfl)
theorem dX0_lineText_1 : decode cX0_lineText 1 = .ok (.iconst 0, 1) := dk_3 (dk_at dksX0_lineText_0 1 rfl rfl)
theorem dX0_lineText_2 : decode cX0_lineText 2 = .ok (.aload_n 0, 1) := dk_42 (dk_at dksX0_lineText_0 2 rfl rfl)
theorem dX0_lineText_3 : decode cX0_lineText 3 = .ok (.iload_n 1, 1) := dk_27 (dk_at dksX0_lineText_0 3 rfl rfl)
theorem dX0_lineText_4 : decode cX0_lineText 4 = .ok (.invokevirtual 89, 3) := dk_182 0 89 (dk_at dksX0_lineText_0 4 rfl rfl)
theorem dX0_lineText_7 : decode cX0_lineText 7 = .ok (.i2l, 1) := dk_133 (dk_at dksX0_lineText_0 7 rfl rfl)
theorem dX0_lineText_8 : decode cX0_lineText 8 = .ok (.lastore, 1) := dk_80 (dk_at dksX0_lineText_0 8 rfl rfl)
theorem dX0_lineText_9 : decode cX0_lineText 9 = .ok (.goto 6, 3) := dk_167 0 6 (dk_at dksX0_lineText_0 9 rfl rfl)
theorem dX0_lineText_12 : decode cX0_lineText 12 = .ok (.astore_n 3, 1) := dk_78 (dk_at dksX0_lineText_0 12 rfl rfl)
theorem dX0_lineText_13 : decode cX0_lineText 13 = .ok (.iconst 1, 1) := dk_4 (dk_at dksX0_lineText_0 13 rfl rfl)
theorem dX0_lineText_14 : decode cX0_lineText 14 = .ok (.ireturn, 1) := dk_172 (dk_at dksX0_lineText_0 14 rfl rfl)
theorem dX0_lineText_15 : decode cX0_lineText 15 = .ok (.iconst 0, 1) := dk_3 (dk_at dksX0_lineText_0 15 rfl rfl)
theorem dX0_lineText_16 : decode cX0_lineText 16 = .ok (.ireturn, 1) := dk_172 (dk_at dksX0_lineText_0 16 rfl rfl)
abbrev cX0_character : ByteArray := method_25_code
def yX0_character : MethodName := ⟨RX0, "character", "(LVowelTorus;I[J)I"⟩
def dkwX0_character_0 : List UInt8 := [44, 3, 42, 27, 182, 0, 92, 133, 80, 167, 0, 6, 78, 4, 172, 3, 172]
abbrev dktX0_character_0 : List UInt8 := dkwX0_character_0 ++ []
theorem dksX0_character_0 : cX0_character.data.toList.drop 0 = dktX0_character_0 := by decide +kernel
theorem dX0_character_0 : decode cX0_character 0 = .ok (.aload_n 2, 1) := dk_44 (dk_at dksX0_character_0 0 rfl rfl)
theorem dX0_character_1 : decode cX0_character 1 = .ok (.iconst 0, 1) := dk_3 (dk_at dksX0_character_0 1 rfl rfl)
theorem dX0_character_2 : decode cX0_character 2 = .ok (.aload_n 0, 1) := dk_42 (dk_at dksX0_character_0 2 rfl rfl)
theorem dX0_character_3 : decode cX0_character 3 = .ok (.iload_n 1, 1) := dk_27 (dk_at dksX0_character_0 3 rfl rfl)
theorem dX0_character_4 : decode cX0_character 4 = .ok (.invokevirtual 92, 3) := dk_182 0 92 (dk_at dksX0_character_0 4 rfl rfl)
theorem dX0_character_7 : decode cX0_character 7 = .ok (.i2l, 1) := dk_133 (dk_at dksX0_character_0 7 rfl rfl)
theorem dX0_character_8 : decode cX0_character 8 = .ok (.lastore, 1) := dk_80 (dk_at dksX0_character_0 8 rfl rfl)
theorem dX0_character_9 : decode cX0_character 9 = .ok (.goto 6, 3) := dk_167 0 6 (dk_at dksX0_character_0 9 rfl rfl)
theorem dX0_character_12 : decode cX0_character 12 = .ok (.astore_n 3, 1) := dk_78 (dk_at dksX0_character_0 12 rfl rfl)
theorem dX0_character_13 : decode cX0_character 13 = .ok (.iconst 1, 1) := dk_4 (dk_at dksX0_character_0 13 rfl rfl)
theorem dX0_character_14 : decode cX0_character 14 = .ok (.ireturn, 1) := dk_172 (dk_at dksX0_character_0 14 rfl rfl)
theorem dX0_character_15 : decode cX0_character 15 = .ok (.iconst 0, 1) := dk_3 (dk_at dksX0_character_0 15 rfl rfl)
theorem dX0_character_16 : decode cX0_character 16 = .ok (.ireturn, 1) := dk_172 (dk_at dksX0_character_0 16 rfl rfl)
abbrev cX0_append : ByteArray := method_26_code
def yX0_append : MethodName := ⟨RX0, "append", "(LVowelTorus;C[J)I"⟩
def dkwX0_append_0 : List UInt8 := [44, 3, 42, 27, 182, 0, 95, 133, 80, 167, 0, 6, 78, 4, 172, 3, 172]
abbrev dktX0_append_0 : List UInt8 := dkwX0_append_0 ++ []
theorem dksX0_append_0 : cX0_append.data.toList.drop 0 = dktX0_append_0 := by decide +kernel
theorem dX0_append_0 : decode cX0_append 0 = .ok (.aload_n 2, 1) := dk_44 (dk_at dksX0_append_0 0 rfl rfl)
theorem dX0_append_1 : decode cX0_append 1 = .ok (.iconst 0, 1) := dk_3 (dk_at dksX0_append_0 1 rfl rfl)
theorem dX0_append_2 : decode cX0_append 2 = .ok (.aload_n 0, 1) := dk_42 (dk_at dksX0_append_0 2 rfl rfl)
theorem dX0_append_3 : decode cX0_append 3 = .ok (.iload_n 1, 1) := dk_27 (dk_at dksX0_append_0 3 rfl rfl)
theorem dX0_append_4 : decode cX0_append 4 = .ok (.invokevirtual 95, 3) := dk_182 0 95 (dk_at dksX0_append_0 4 rfl rfl)
theorem dX0_append_7 : decode cX0_append 7 = .ok (.i2l, 1) := dk_133 (dk_at dksX0_append_0 7 rfl rfl)
theorem dX0_append_8 : decode cX0_append 8 = .ok (.lastore, 1) := dk_80 (dk_at dksX0_append_0 8 rfl rfl)
theorem dX0_append_9 : decode cX0_append 9 = .ok (.goto 6, 3) := dk_167 0 6 (dk_at dksX0_append_0 9 rfl rfl)
theorem dX0_append_12 : decode cX0_append 12 = .ok (.astore_n 3, 1) := dk_78 (dk_at dksX0_append_0 12 rfl rfl)
theorem dX0_append_13 : decode cX0_append 13 = .ok (.iconst 1, 1) := dk_4 (dk_at dksX0_append_0 13 rfl rfl)
theorem dX0_append_14 : decode cX0_append 14 = .ok (.ireturn, 1) := dk_172 (dk_at dksX0_append_0 14 rfl rfl)
theorem dX0_append_15 : decode cX0_append 15 = .ok (.iconst 0, 1) := dk_3 (dk_at dksX0_append_0 15 rfl rfl)
theorem dX0_append_16 : decode cX0_append 16 = .ok (.ireturn, 1) := dk_172 (dk_at dksX0_append_0 16 rfl rfl)
abbrev cX0_run : ByteArray := method_27_code
def yX0_run : MethodName := ⟨RX0, "run", "(LVowelTorus;[J)I"⟩
def dkwX0_run_0 : List UInt8 := [43, 3, 42, 182, 0, 101, 133, 80, 167, 0, 9, 77, 4, 172, 77, 5, 172, 3, 172]
abbrev dktX0_run_0 : List UInt8 := dkwX0_run_0 ++ []
theorem dksX0_run_0 : cX0_run.data.toList.drop 0 = dktX0_run_0 := by decide +kernel
theorem dX0_run_0 : decode cX0_run 0 = .ok (.aload_n 1, 1) := dk_43 (dk_at dksX0_run_0 0 rfl rfl)
theorem dX0_run_1 : decode cX0_run 1 = .ok (.iconst 0, 1) := dk_3 (dk_at dksX0_run_0 1 rfl rfl)
theorem dX0_run_2 : decode cX0_run 2 = .ok (.aload_n 0, 1) := dk_42 (dk_at dksX0_run_0 2 rfl rfl)
theorem dX0_run_3 : decode cX0_run 3 = .ok (.invokevirtual 101, 3) := dk_182 0 101 (dk_at dksX0_run_0 3 rfl rfl)
theorem dX0_run_6 : decode cX0_run 6 = .ok (.i2l, 1) := dk_133 (dk_at dksX0_run_0 6 rfl rfl)
theorem dX0_run_7 : decode cX0_run 7 = .ok (.lastore, 1) := dk_80 (dk_at dksX0_run_0 7 rfl rfl)
theorem dX0_run_8 : decode cX0_run 8 = .ok (.goto 9, 3) := dk_167 0 9 (dk_at dksX0_run_0 8 rfl rfl)
theorem dX0_run_11 : decode cX0_run 11 = .ok (.astore_n 2, 1) := dk_77 (dk_at dksX0_run_0 11 rfl rfl)
theorem dX0_run_12 : decode cX0_run 12 = .ok (.iconst 1, 1) := dk_4 (dk_at dksX0_run_0 12 rfl rfl)
theorem dX0_run_13 : decode cX0_run 13 = .ok (.ireturn, 1) := dk_172 (dk_at dksX0_run_0 13 rfl rfl)
theorem dX0_run_14 : decode cX0_run 14 = .ok (.astore_n 2, 1) := dk_77 (dk_at dksX0_run_0 14 rfl rfl)
theorem dX0_run_15 : decode cX0_run 15 = .ok (.iconst 2, 1) := dk_5 (dk_at dksX0_run_0 15 rfl rfl)
theorem dX0_run_16 : decode cX0_run 16 = .ok (.ireturn, 1) := dk_172 (dk_at dksX0_run_0 16 rfl rfl)
theorem dX0_run_17 : decode cX0_run 17 = .ok (.iconst 0, 1) := dk_3 (dk_at dksX0_run_0 17 rfl rfl)
theorem dX0_run_18 : decode cX0_run 18 = .ok (.ireturn, 1) := dk_172 (dk_at dksX0_run_0 18 rfl rfl)
abbrev cX0_refusal : ByteArray := method_28_code
def yX0_refusal : MethodName := ⟨RX0, "refusal", "(LVowelTorus;Z[J)I"⟩
def dkwX0_refusal_0 : List UInt8 := [44, 3, 42, 27, 182, 0, 104, 133, 80, 167, 0, 6, 78, 4, 172, 3, 172]
abbrev dktX0_refusal_0 : List UInt8 := dkwX0_refusal_0 ++ []
theorem dksX0_refusal_0 : cX0_refusal.data.toList.drop 0 = dktX0_refusal_0 := by decide +kernel
theorem dX0_refusal_0 : decode cX0_refusal 0 = .ok (.aload_n 2, 1) := dk_44 (dk_at dksX0_refusal_0 0 rfl rfl)
theorem dX0_refusal_1 : decode cX0_refusal 1 = .ok (.iconst 0, 1) := dk_3 (dk_at dksX0_refusal_0 1 rfl rfl)
theorem dX0_refusal_2 : decode cX0_refusal 2 = .ok (.aload_n 0, 1) := dk_42 (dk_at dksX0_refusal_0 2 rfl rfl)
theorem dX0_refusal_3 : decode cX0_refusal 3 = .ok (.iload_n 1, 1) := dk_27 (dk_at dksX0_refusal_0 3 rfl rfl)
theorem dX0_refusal_4 : decode cX0_refusal 4 = .ok (.invokevirtual 104, 3) := dk_182 0 104 (dk_at dksX0_refusal_0 4 rfl rfl)
theorem dX0_refusal_7 : decode cX0_refusal 7 = .ok (.i2l, 1) := dk_133 (dk_at dksX0_refusal_0 7 rfl rfl)
theorem dX0_refusal_8 : decode cX0_refusal 8 = .ok (.lastore, 1) := dk_80 (dk_at dksX0_refusal_0 8 rfl rfl)
theorem dX0_refusal_9 : decode cX0_refusal 9 = .ok (.goto 6, 3) := dk_167 0 6 (dk_at dksX0_refusal_0 9 rfl rfl)
theorem dX0_refusal_12 : decode cX0_refusal 12 = .ok (.astore_n 3, 1) := dk_78 (dk_at dksX0_refusal_0 12 rfl rfl)
theorem dX0_refusal_13 : decode cX0_refusal 13 = .ok (.iconst 1, 1) := dk_4 (dk_at dksX0_refusal_0 13 rfl rfl)
theorem dX0_refusal_14 : decode cX0_refusal 14 = .ok (.ireturn, 1) := dk_172 (dk_at dksX0_refusal_0 14 rfl rfl)
theorem dX0_refusal_15 : decode cX0_refusal 15 = .ok (.iconst 0, 1) := dk_3 (dk_at dksX0_refusal_0 15 rfl rfl)
theorem dX0_refusal_16 : decode cX0_refusal 16 = .ok (.ireturn, 1) := dk_172 (dk_at dksX0_refusal_0 16 rfl rfl)
abbrev cX0_account : ByteArray := method_29_code
def yX0_account : MethodName := ⟨RX0, "account", "(LVowelTorus;I[J)I"⟩
def dkwX0_account_0 : List UInt8 := [44, 3, 42, 27, 182, 0, 107, 133, 80, 167, 0, 6, 78, 4, 172, 3, 172]
abbrev dktX0_account_0 : List UInt8 := dkwX0_account_0 ++ []
theorem dksX0_account_0 : cX0_account.data.toList.drop 0 = dktX0_account_0 := by decide +kernel
theorem dX0_account_0 : decode cX0_account 0 = .ok (.aload_n 2, 1) := dk_44 (dk_at dksX0_account_0 0 rfl rfl)
theorem dX0_account_1 : decode cX0_account 1 = .ok (.iconst 0, 1) := dk_3 (dk_at dksX0_account_0 1 rfl rfl)
theorem dX0_account_2 : decode cX0_account 2 = .ok (.aload_n 0, 1) := dk_42 (dk_at dksX0_account_0 2 rfl rfl)
theorem dX0_account_3 : decode cX0_account 3 = .ok (.iload_n 1, 1) := dk_27 (dk_at dksX0_account_0 3 rfl rfl)
theorem dX0_account_4 : decode cX0_account 4 = .ok (.invokevirtual 107, 3) := dk_182 0 107 (dk_at dksX0_account_0 4 rfl rfl)
theorem dX0_account_7 : decode cX0_account 7 = .ok (.i2l, 1) := dk_133 (dk_at dksX0_account_0 7 rfl rfl)
theorem dX0_account_8 : decode cX0_account 8 = .ok (.lastore, 1) := dk_80 (dk_at dksX0_account_0 8 rfl rfl)
theorem dX0_account_9 : decode cX0_account 9 = .ok (.goto 6, 3) := dk_167 0 6 (dk_at dksX0_account_0 9 rfl rfl)
theorem dX0_account_12 : decode cX0_account 12 = .ok (.astore_n 3, 1) := dk_78 (dk_at dksX0_account_0 12 rfl rfl)
theorem dX0_account_13 : decode cX0_account 13 = .ok (.iconst 1, 1) := dk_4 (dk_at dksX0_account_0 13 rfl rfl)
theorem dX0_account_14 : decode cX0_account 14 = .ok (.ireturn, 1) := dk_172 (dk_at dksX0_account_0 14 rfl rfl)
theorem dX0_account_15 : decode cX0_account 15 = .ok (.iconst 0, 1) := dk_3 (dk_at dksX0_account_0 15 rfl rfl)
theorem dX0_account_16 : decode cX0_account 16 = .ok (.ireturn, 1) := dk_172 (dk_at dksX0_account_0 16 rfl rfl)
abbrev cX0_meanFar : ByteArray := method_30_code
def yX0_meanFar : MethodName := ⟨RX0, "meanFar", "(LVowelTorus;[D)I"⟩
def dkwX0_meanFar_0 : List UInt8 := [43, 3, 42, 182, 0, 110, 82, 167, 0, 6, 77, 4, 172, 3, 172]
abbrev dktX0_meanFar_0 : List UInt8 := dkwX0_meanFar_0 ++ []
theorem dksX0_meanFar_0 : cX0_meanFar.data.toList.drop 0 = dktX0_meanFar_0 := by decide +kernel
theorem dX0_meanFar_0 : decode cX0_meanFar 0 = .ok (.aload_n 1, 1) := dk_43 (dk_at dksX0_meanFar_0 0 rfl rfl)
theorem dX0_meanFar_1 : decode cX0_meanFar 1 = .ok (.iconst 0, 1) := dk_3 (dk_at dksX0_meanFar_0 1 rfl rfl)
theorem dX0_meanFar_2 : decode cX0_meanFar 2 = .ok (.aload_n 0, 1) := dk_42 (dk_at dksX0_meanFar_0 2 rfl rfl)
theorem dX0_meanFar_3 : decode cX0_meanFar 3 = .ok (.invokevirtual 110, 3) := dk_182 0 110 (dk_at dksX0_meanFar_0 3 rfl rfl)
theorem dX0_meanFar_6 : decode cX0_meanFar 6 = .ok (.dastore, 1) := dk_82 (dk_at dksX0_meanFar_0 6 rfl rfl)
theorem dX0_meanFar_7 : decode cX0_meanFar 7 = .ok (.goto 6, 3) := dk_167 0 6 (dk_at dksX0_meanFar_0 7 rfl rfl)
theorem dX0_meanFar_10 : decode cX0_meanFar 10 = .ok (.astore_n 2, 1) := dk_77 (dk_at dksX0_meanFar_0 10 rfl rfl)
theorem dX0_meanFar_11 : decode cX0_meanFar 11 = .ok (.iconst 1, 1) := dk_4 (dk_at dksX0_meanFar_0 11 rfl rfl)
theorem dX0_meanFar_12 : decode cX0_meanFar 12 = .ok (.ireturn, 1) := dk_172 (dk_at dksX0_meanFar_0 12 rfl rfl)
theorem dX0_meanFar_13 : decode cX0_meanFar 13 = .ok (.iconst 0, 1) := dk_3 (dk_at dksX0_meanFar_0 13 rfl rfl)
theorem dX0_meanFar_14 : decode cX0_meanFar 14 = .ok (.ireturn, 1) := dk_172 (dk_at dksX0_meanFar_0 14 rfl rfl)
abbrev cX0_undo : ByteArray := method_31_code
def yX0_undo : MethodName := ⟨RX0, "undo", "(LVowelTorus;[J)I"⟩
def dkwX0_undo_0 : List UInt8 := [43, 3, 42, 182, 0, 116, 133, 80, 167, 0, 6, 77, 4, 172, 3, 172]
abbrev dktX0_undo_0 : List UInt8 := dkwX0_undo_0 ++ []
theorem dksX0_undo_0 : cX0_undo.data.toList.drop 0 = dktX0_undo_0 := by decide +kernel
theorem dX0_undo_0 : decode cX0_undo 0 = .ok (.aload_n 1, 1) := dk_43 (dk_at dksX0_undo_0 0 rfl rfl)
theorem dX0_undo_1 : decode cX0_undo 1 = .ok (.iconst 0, 1) := dk_3 (dk_at dksX0_undo_0 1 rfl rfl)
theorem dX0_undo_2 : decode cX0_undo 2 = .ok (.aload_n 0, 1) := dk_42 (dk_at dksX0_undo_0 2 rfl rfl)
theorem dX0_undo_3 : decode cX0_undo 3 = .ok (.invokevirtual 116, 3) := dk_182 0 116 (dk_at dksX0_undo_0 3 rfl rfl)
theorem dX0_undo_6 : decode cX0_undo 6 = .ok (.i2l, 1) := dk_133 (dk_at dksX0_undo_0 6 rfl rfl)
theorem dX0_undo_7 : decode cX0_undo 7 = .ok (.lastore, 1) := dk_80 (dk_at dksX0_undo_0 7 rfl rfl)
theorem dX0_undo_8 : decode cX0_undo 8 = .ok (.goto 6, 3) := dk_167 0 6 (dk_at dksX0_undo_0 8 rfl rfl)
theorem dX0_undo_11 : decode cX0_undo 11 = .ok (.astore_n 2, 1) := dk_77 (dk_at dksX0_undo_0 11 rfl rfl)
theorem dX0_undo_12 : decode cX0_undo 12 = .ok (.iconst 1, 1) := dk_4 (dk_at dksX0_undo_0 12 rfl rfl)
theorem dX0_undo_13 : decode cX0_undo 13 = .ok (.ireturn, 1) := dk_172 (dk_at dksX0_undo_0 13 rfl rfl)
theorem dX0_undo_14 : decode cX0_undo 14 = .ok (.iconst 0, 1) := dk_3 (dk_at dksX0_undo_0 14 rfl rfl)
theorem dX0_undo_15 : decode cX0_undo 15 = .ok (.ireturn, 1) := dk_172 (dk_at dksX0_undo_0 15 rfl rfl)
abbrev cX0_restore : ByteArray := method_32_code
def yX0_restore : MethodName := ⟨RX0, "restore", "(LVowelTorus;[J)I"⟩
def dkwX0_restore_0 : List UInt8 := [43, 3, 42, 182, 0, 119, 133, 80, 167, 0, 6, 77, 4, 172, 3, 172]
abbrev dktX0_restore_0 : List UInt8 := dkwX0_restore_0 ++ []
theorem dksX0_restore_0 : cX0_restore.data.toList.drop 0 = dktX0_restore_0 := by decide +kernel
theorem dX0_restore_0 : decode cX0_restore 0 = .ok (.aload_n 1, 1) := dk_43 (dk_at dksX0_restore_0 0 rfl rfl)
theorem dX0_restore_1 : decode cX0_restore 1 = .ok (.iconst 0, 1) := dk_3 (dk_at dksX0_restore_0 1 rfl rfl)
theorem dX0_restore_2 : decode cX0_restore 2 = .ok (.aload_n 0, 1) := dk_42 (dk_at dksX0_restore_0 2 rfl rfl)
theorem dX0_restore_3 : decode cX0_restore 3 = .ok (.invokevirtual 119, 3) := dk_182 0 119 (dk_at dksX0_restore_0 3 rfl rfl)
theorem dX0_restore_6 : decode cX0_restore 6 = .ok (.i2l, 1) := dk_133 (dk_at dksX0_restore_0 6 rfl rfl)
theorem dX0_restore_7 : decode cX0_restore 7 = .ok (.lastore, 1) := dk_80 (dk_at dksX0_restore_0 7 rfl rfl)
theorem dX0_restore_8 : decode cX0_restore 8 = .ok (.goto 6, 3) := dk_167 0 6 (dk_at dksX0_restore_0 8 rfl rfl)
theorem dX0_restore_11 : decode cX0_restore 11 = .ok (.astore_n 2, 1) := dk_77 (dk_at dksX0_restore_0 11 rfl rfl)
theorem dX0_restore_12 : decode cX0_restore 12 = .ok (.iconst 1, 1) := dk_4 (dk_at dksX0_restore_0 12 rfl rfl)
theorem dX0_restore_13 : decode cX0_restore 13 = .ok (.ireturn, 1) := dk_172 (dk_at dksX0_restore_0 13 rfl rfl)
theorem dX0_restore_14 : decode cX0_restore 14 = .ok (.iconst 0, 1) := dk_3 (dk_at dksX0_restore_0 14 rfl rfl)
theorem dX0_restore_15 : decode cX0_restore 15 = .ok (.ireturn, 1) := dk_172 (dk_at dksX0_restore_0 15 rfl rfl)
theorem q87 : (Jvm.Cond.initialized "VowelTorusLaw") ∈ lw_all := lw_g (lw_at lw_m1 0 rfl) rfl
theorem q123 : (Jvm.Cond.classLink "VowelTorusLaw" (8 : Nat) "VowelTorus") ∈ lw_all := lw_g (lw_at lw_m1 36 rfl) rfl
theorem q125 : (Jvm.Cond.methodLink "VowelTorusLaw" (122 : Nat) ({ cls := "VowelTorus", name := "<init>", desc := "()V" } : Jvm.MethodName)) ∈ lw_all := lw_g (lw_at lw_m1 38 rfl) rfl
theorem q462 : (Jvm.Cond.methodLink "VowelTorusLaw" (178 : Nat) ({ cls := "VowelTorus", name := "isOut", desc := "()Z" } : Jvm.MethodName)) ∈ lw_all := lw_g (lw_at lw_m2 135 rfl) rfl
theorem q505 : (Jvm.Cond.methodLink "VowelTorusLaw" (186 : Nat) ({ cls := "VowelTorus", name := "home", desc := "()I" } : Jvm.MethodName)) ∈ lw_all := lw_g (lw_at lw_m2 178 rfl) rfl
theorem q520 : (Jvm.Cond.methodLink "VowelTorusLaw" (206 : Nat) ({ cls := "VowelTorus", name := "singing", desc := "()I" } : Jvm.MethodName)) ∈ lw_all := lw_g (lw_at lw_m2 193 rfl) rfl
theorem q677 : (Jvm.Cond.methodLink "VowelTorusLaw" (213 : Nat) ({ cls := "VowelTorus", name := "text", desc := "()I" } : Jvm.MethodName)) ∈ lw_all := lw_g (lw_at lw_m3 110 rfl) rfl
theorem q993 : (Jvm.Cond.methodLink "VowelTorusLaw" (217 : Nat) ({ cls := "VowelTorus", name := "goalText", desc := "()I" } : Jvm.MethodName)) ∈ lw_all := lw_g (lw_at lw_m4 186 rfl) rfl
theorem q997 : (Jvm.Cond.methodLink "VowelTorusLaw" (234 : Nat) ({ cls := "VowelTorus", name := "errorPosition", desc := "()I" } : Jvm.MethodName)) ∈ lw_all := lw_g (lw_at lw_m4 190 rfl) rfl
theorem q1001 : (Jvm.Cond.methodLink "VowelTorusLaw" (244 : Nat) ({ cls := "VowelTorus", name := "isWell", desc := "()Z" } : Jvm.MethodName)) ∈ lw_all := lw_g (lw_at lw_m4 194 rfl) rfl
theorem q1089 : (Jvm.Cond.methodLink "VowelTorusLaw" (252 : Nat) ({ cls := "VowelTorus", name := "homeShare", desc := "()F" } : Jvm.MethodName)) ∈ lw_all := lw_g (lw_at lw_m5 42 rfl) rfl
theorem q1094 : (Jvm.Cond.methodLink "VowelTorusLaw" (260 : Nat) ({ cls := "VowelTorus", name := "save", desc := "()I" } : Jvm.MethodName)) ∈ lw_all := lw_g (lw_at lw_m5 47 rfl) rfl
theorem q1102 : (Jvm.Cond.methodLink "VowelTorusLaw" (126 : Nat) ({ cls := "VowelTorusLaw", name := "board", desc := "(LVowelTorus;II[J)I" } : Jvm.MethodName)) ∈ lw_all := lw_g (lw_at lw_m5 55 rfl) rfl
theorem q1103 : (Jvm.Cond.static ({ cls := "VowelTorusLaw", name := "board", desc := "(LVowelTorus;II[J)I" } : Jvm.MethodName)) ∈ lw_all := lw_g (lw_at lw_m5 56 rfl) rfl
theorem q1104 : (Jvm.Cond.codeWith ({ cls := "VowelTorusLaw", name := "board", desc := "(LVowelTorus;II[J)I" } : Jvm.MethodName) method_3_code (5 : Nat) (Option.some Jvm.ClassFile.FieldType.int) [((0 : Nat), (10 : Nat), (13 : Nat), (13 : Nat))]) ∈ lw_all := lw_g (lw_at lw_m5 57 rfl) rfl
theorem q1105 : (Jvm.Cond.classLink "VowelTorusLaw" (13 : Nat) "java/lang/IllegalArgumentException") ∈ lw_all := lw_g (lw_at lw_m5 58 rfl) rfl
theorem q1106 : (Jvm.Cond.methodLink "VowelTorusLaw" (7 : Nat) ({ cls := "VowelTorus", name := "board", desc := "(II)I" } : Jvm.MethodName)) ∈ lw_all := lw_g (lw_at lw_m5 59 rfl) rfl
theorem q1168 : (Jvm.Cond.methodLink "VowelTorusLaw" (135 : Nat) ({ cls := "VowelTorusLaw", name := "put", desc := "(LVowelTorus;IC[J)I" } : Jvm.MethodName)) ∈ lw_all := lw_g (lw_at lw_m5 121 rfl) rfl
theorem q1169 : (Jvm.Cond.static ({ cls := "VowelTorusLaw", name := "put", desc := "(LVowelTorus;IC[J)I" } : Jvm.MethodName)) ∈ lw_all := lw_g (lw_at lw_m5 122 rfl) rfl
theorem q1170 : (Jvm.Cond.codeWith ({ cls := "VowelTorusLaw", name := "put", desc := "(LVowelTorus;IC[J)I" } : Jvm.MethodName) method_4_code (5 : Nat) (Option.some Jvm.ClassFile.FieldType.int) [((0 : Nat), (10 : Nat), (13 : Nat), (19 : Nat)), ((0 : Nat), (10 : Nat), (17 : Nat), (13 : Nat)), ((0 : Nat), (10 : Nat), (21 : Nat), (21 : Nat))]) ∈ lw_all := lw_g (lw_at lw_m5 123 rfl) rfl
theorem q1171 : (Jvm.Cond.classLink "VowelTorusLaw" (19 : Nat) "java/lang/IndexOutOfBoundsException") ∈ lw_all := lw_g (lw_at lw_m5 124 rfl) rfl
theorem q1174 : (Jvm.Cond.classLink "VowelTorusLaw" (21 : Nat) "java/lang/UnsupportedOperationException") ∈ lw_all := lw_g (lw_at lw_m5 127 rfl) rfl
theorem q1175 : (Jvm.Cond.methodLink "VowelTorusLaw" (15 : Nat) ({ cls := "VowelTorus", name := "put", desc := "(IC)C" } : Jvm.MethodName)) ∈ lw_all := lw_g (lw_at lw_m5 128 rfl) rfl
theorem q1258 : (Jvm.Cond.methodLink "VowelTorusLaw" (139 : Nat) ({ cls := "VowelTorusLaw", name := "goal", desc := "(LVowelTorus;IC[J)I" } : Jvm.MethodName)) ∈ lw_all := lw_g (lw_at lw_m5 211 rfl) rfl
theorem q1259 : (Jvm.Cond.static ({ cls := "VowelTorusLaw", name := "goal", desc := "(LVowelTorus;IC[J)I" } : Jvm.MethodName)) ∈ lw_all := lw_g (lw_at lw_m5 212 rfl) rfl
theorem q1260 : (Jvm.Cond.codeWith ({ cls := "VowelTorusLaw", name := "goal", desc := "(LVowelTorus;IC[J)I" } : Jvm.MethodName) method_5_code (5 : Nat) (Option.some Jvm.ClassFile.FieldType.int) [((0 : Nat), (10 : Nat), (13 : Nat), (19 : Nat)), ((0 : Nat), (10 : Nat), (17 : Nat), (13 : Nat)), ((0 : Nat), (10 : Nat), (21 : Nat), (21 : Nat))]) ∈ lw_all := lw_g (lw_at lw_m5 213 rfl) rfl
theorem q1261 : (Jvm.Cond.methodLink "VowelTorusLaw" (23 : Nat) ({ cls := "VowelTorus", name := "goal", desc := "(IC)C" } : Jvm.MethodName)) ∈ lw_all := lw_g (lw_at lw_m5 214 rfl) rfl
theorem q1269 : (Jvm.Cond.methodLink "VowelTorusLaw" (142 : Nat) ({ cls := "VowelTorusLaw", name := "turn", desc := "(LVowelTorus;I[J)I" } : Jvm.MethodName)) ∈ lw_all := lw_g (lw_at lw_m5 222 rfl) rfl
theorem q1270 : (Jvm.Cond.static ({ cls := "VowelTorusLaw", name := "turn", desc := "(LVowelTorus;I[J)I" } : Jvm.MethodName)) ∈ lw_all := lw_g (lw_at lw_m5 223 rfl) rfl
theorem q1271 : (Jvm.Cond.codeWith ({ cls := "VowelTorusLaw", name := "turn", desc := "(LVowelTorus;I[J)I" } : Jvm.MethodName) method_6_code (4 : Nat) (Option.some Jvm.ClassFile.FieldType.int) [((0 : Nat), (9 : Nat), (12 : Nat), (19 : Nat)), ((0 : Nat), (9 : Nat), (15 : Nat), (21 : Nat))]) ∈ lw_all := lw_g (lw_at lw_m5 224 rfl) rfl
theorem q1272 : (Jvm.Cond.methodLink "VowelTorusLaw" (26 : Nat) ({ cls := "VowelTorus", name := "turn", desc := "(I)I" } : Jvm.MethodName)) ∈ lw_all := lw_g (lw_at lw_m5 225 rfl) rfl
theorem q1288 : (Jvm.Cond.methodLink "VowelTorusLaw" (146 : Nat) ({ cls := "VowelTorusLaw", name := "swap", desc := "(LVowelTorus;II[J)I" } : Jvm.MethodName)) ∈ lw_all := lw_g (lw_at lw_m6 1 rfl) rfl
theorem q1289 : (Jvm.Cond.static ({ cls := "VowelTorusLaw", name := "swap", desc := "(LVowelTorus;II[J)I" } : Jvm.MethodName)) ∈ lw_all := lw_g (lw_at lw_m6 2 rfl) rfl
theorem q1290 : (Jvm.Cond.codeWith ({ cls := "VowelTorusLaw", name := "swap", desc := "(LVowelTorus;II[J)I" } : Jvm.MethodName) method_7_code (5 : Nat) (Option.some Jvm.ClassFile.FieldType.int) [((0 : Nat), (10 : Nat), (13 : Nat), (19 : Nat)), ((0 : Nat), (10 : Nat), (17 : Nat), (21 : Nat))]) ∈ lw_all := lw_g (lw_at lw_m6 3 rfl) rfl
theorem q1291 : (Jvm.Cond.methodLink "VowelTorusLaw" (30 : Nat) ({ cls := "VowelTorus", name := "swap", desc := "(II)I" } : Jvm.MethodName)) ∈ lw_all := lw_g (lw_at lw_m6 4 rfl) rfl
theorem q1299 : (Jvm.Cond.methodLink "VowelTorusLaw" (149 : Nat) ({ cls := "VowelTorusLaw", name := "bar", desc := "(LVowelTorus;I[J)I" } : Jvm.MethodName)) ∈ lw_all := lw_g (lw_at lw_m6 12 rfl) rfl
theorem q1300 : (Jvm.Cond.static ({ cls := "VowelTorusLaw", name := "bar", desc := "(LVowelTorus;I[J)I" } : Jvm.MethodName)) ∈ lw_all := lw_g (lw_at lw_m6 13 rfl) rfl
theorem q1301 : (Jvm.Cond.codeWith ({ cls := "VowelTorusLaw", name := "bar", desc := "(LVowelTorus;I[J)I" } : Jvm.MethodName) method_8_code (4 : Nat) (Option.some Jvm.ClassFile.FieldType.int) [((0 : Nat), (16 : Nat), (19 : Nat), (19 : Nat))]) ∈ lw_all := lw_g (lw_at lw_m6 14 rfl) rfl
theorem q1302 : (Jvm.Cond.methodLink "VowelTorusLaw" (33 : Nat) ({ cls := "VowelTorus", name := "bar", desc := "(I)Z" } : Jvm.MethodName)) ∈ lw_all := lw_g (lw_at lw_m6 15 rfl) rfl
theorem q1318 : (Jvm.Cond.methodLink "VowelTorusLaw" (152 : Nat) ({ cls := "VowelTorusLaw", name := "scramble", desc := "(LVowelTorus;II[J)I" } : Jvm.MethodName)) ∈ lw_all := lw_g (lw_at lw_m6 31 rfl) rfl
theorem q1319 : (Jvm.Cond.static ({ cls := "VowelTorusLaw", name := "scramble", desc := "(LVowelTorus;II[J)I" } : Jvm.MethodName)) ∈ lw_all := lw_g (lw_at lw_m6 32 rfl) rfl
theorem q1320 : (Jvm.Cond.codeWith ({ cls := "VowelTorusLaw", name := "scramble", desc := "(LVowelTorus;II[J)I" } : Jvm.MethodName) method_9_code (5 : Nat) (Option.some Jvm.ClassFile.FieldType.int) [((0 : Nat), (10 : Nat), (13 : Nat), (13 : Nat))]) ∈ lw_all := lw_g (lw_at lw_m6 33 rfl) rfl
theorem q1321 : (Jvm.Cond.methodLink "VowelTorusLaw" (37 : Nat) ({ cls := "VowelTorus", name := "scramble", desc := "(II)I" } : Jvm.MethodName)) ∈ lw_all := lw_g (lw_at lw_m6 34 rfl) rfl
theorem q1332 : (Jvm.Cond.methodLink "VowelTorusLaw" (155 : Nat) ({ cls := "VowelTorusLaw", name := "step", desc := "(LVowelTorus;[J)I" } : Jvm.MethodName)) ∈ lw_all := lw_g (lw_at lw_m6 45 rfl) rfl
theorem q1333 : (Jvm.Cond.static ({ cls := "VowelTorusLaw", name := "step", desc := "(LVowelTorus;[J)I" } : Jvm.MethodName)) ∈ lw_all := lw_g (lw_at lw_m6 46 rfl) rfl
theorem q1334 : (Jvm.Cond.codeWith ({ cls := "VowelTorusLaw", name := "step", desc := "(LVowelTorus;[J)I" } : Jvm.MethodName) method_10_code (3 : Nat) (Option.some Jvm.ClassFile.FieldType.int) [((0 : Nat), (8 : Nat), (11 : Nat), (21 : Nat)), ((0 : Nat), (8 : Nat), (14 : Nat), (44 : Nat))]) ∈ lw_all := lw_g (lw_at lw_m6 47 rfl) rfl
theorem q1335 : (Jvm.Cond.classLink "VowelTorusLaw" (44 : Nat) "java/util/NoSuchElementException") ∈ lw_all := lw_g (lw_at lw_m6 48 rfl) rfl
theorem q1336 : (Jvm.Cond.methodLink "VowelTorusLaw" (40 : Nat) ({ cls := "VowelTorus", name := "step", desc := "()I" } : Jvm.MethodName)) ∈ lw_all := lw_g (lw_at lw_m6 49 rfl) rfl
theorem q1353 : (Jvm.Cond.methodLink "VowelTorusLaw" (159 : Nat) ({ cls := "VowelTorusLaw", name := "letter", desc := "(LVowelTorus;I[J)I" } : Jvm.MethodName)) ∈ lw_all := lw_g (lw_at lw_m6 66 rfl) rfl
theorem q1354 : (Jvm.Cond.static ({ cls := "VowelTorusLaw", name := "letter", desc := "(LVowelTorus;I[J)I" } : Jvm.MethodName)) ∈ lw_all := lw_g (lw_at lw_m6 67 rfl) rfl
theorem q1355 : (Jvm.Cond.codeWith ({ cls := "VowelTorusLaw", name := "letter", desc := "(LVowelTorus;I[J)I" } : Jvm.MethodName) method_11_code (4 : Nat) (Option.some Jvm.ClassFile.FieldType.int) [((0 : Nat), (9 : Nat), (12 : Nat), (19 : Nat))]) ∈ lw_all := lw_g (lw_at lw_m6 68 rfl) rfl
theorem q1356 : (Jvm.Cond.methodLink "VowelTorusLaw" (46 : Nat) ({ cls := "VowelTorus", name := "letter", desc := "(I)C" } : Jvm.MethodName)) ∈ lw_all := lw_g (lw_at lw_m6 69 rfl) rfl
theorem q1360 : (Jvm.Cond.methodLink "VowelTorusLaw" (162 : Nat) ({ cls := "VowelTorusLaw", name := "sign", desc := "(LVowelTorus;I[J)I" } : Jvm.MethodName)) ∈ lw_all := lw_g (lw_at lw_m6 73 rfl) rfl
theorem q1361 : (Jvm.Cond.static ({ cls := "VowelTorusLaw", name := "sign", desc := "(LVowelTorus;I[J)I" } : Jvm.MethodName)) ∈ lw_all := lw_g (lw_at lw_m6 74 rfl) rfl
theorem q1362 : (Jvm.Cond.codeWith ({ cls := "VowelTorusLaw", name := "sign", desc := "(LVowelTorus;I[J)I" } : Jvm.MethodName) method_12_code (4 : Nat) (Option.some Jvm.ClassFile.FieldType.int) [((0 : Nat), (9 : Nat), (12 : Nat), (19 : Nat))]) ∈ lw_all := lw_g (lw_at lw_m6 75 rfl) rfl
theorem q1363 : (Jvm.Cond.methodLink "VowelTorusLaw" (50 : Nat) ({ cls := "VowelTorus", name := "sign", desc := "(I)C" } : Jvm.MethodName)) ∈ lw_all := lw_g (lw_at lw_m6 76 rfl) rfl
theorem q1367 : (Jvm.Cond.methodLink "VowelTorusLaw" (165 : Nat) ({ cls := "VowelTorusLaw", name := "isBarred", desc := "(LVowelTorus;I[J)I" } : Jvm.MethodName)) ∈ lw_all := lw_g (lw_at lw_m6 80 rfl) rfl
theorem q1368 : (Jvm.Cond.static ({ cls := "VowelTorusLaw", name := "isBarred", desc := "(LVowelTorus;I[J)I" } : Jvm.MethodName)) ∈ lw_all := lw_g (lw_at lw_m6 81 rfl) rfl
theorem q1369 : (Jvm.Cond.codeWith ({ cls := "VowelTorusLaw", name := "isBarred", desc := "(LVowelTorus;I[J)I" } : Jvm.MethodName) method_13_code (4 : Nat) (Option.some Jvm.ClassFile.FieldType.int) [((0 : Nat), (16 : Nat), (19 : Nat), (19 : Nat))]) ∈ lw_all := lw_g (lw_at lw_m6 82 rfl) rfl
theorem q1370 : (Jvm.Cond.methodLink "VowelTorusLaw" (53 : Nat) ({ cls := "VowelTorus", name := "isBarred", desc := "(I)Z" } : Jvm.MethodName)) ∈ lw_all := lw_g (lw_at lw_m6 83 rfl) rfl
theorem q1374 : (Jvm.Cond.methodLink "VowelTorusLaw" (168 : Nat) ({ cls := "VowelTorusLaw", name := "boardOf", desc := "(LVowelTorus;I[J)I" } : Jvm.MethodName)) ∈ lw_all := lw_g (lw_at lw_m6 87 rfl) rfl
theorem q1375 : (Jvm.Cond.static ({ cls := "VowelTorusLaw", name := "boardOf", desc := "(LVowelTorus;I[J)I" } : Jvm.MethodName)) ∈ lw_all := lw_g (lw_at lw_m6 88 rfl) rfl
theorem q1376 : (Jvm.Cond.codeWith ({ cls := "VowelTorusLaw", name := "boardOf", desc := "(LVowelTorus;I[J)I" } : Jvm.MethodName) method_14_code (4 : Nat) (Option.some Jvm.ClassFile.FieldType.int) [((0 : Nat), (9 : Nat), (12 : Nat), (13 : Nat))]) ∈ lw_all := lw_g (lw_at lw_m6 89 rfl) rfl
theorem q1377 : (Jvm.Cond.methodLink "VowelTorusLaw" (56 : Nat) ({ cls := "VowelTorus", name := "boardOf", desc := "(I)I" } : Jvm.MethodName)) ∈ lw_all := lw_g (lw_at lw_m6 90 rfl) rfl
theorem q1390 : (Jvm.Cond.methodLink "VowelTorusLaw" (171 : Nat) ({ cls := "VowelTorusLaw", name := "away", desc := "(LVowelTorus;Z[J)I" } : Jvm.MethodName)) ∈ lw_all := lw_g (lw_at lw_m6 103 rfl) rfl
theorem q1391 : (Jvm.Cond.static ({ cls := "VowelTorusLaw", name := "away", desc := "(LVowelTorus;Z[J)I" } : Jvm.MethodName)) ∈ lw_all := lw_g (lw_at lw_m6 104 rfl) rfl
theorem q1392 : (Jvm.Cond.codeWith ({ cls := "VowelTorusLaw", name := "away", desc := "(LVowelTorus;Z[J)I" } : Jvm.MethodName) method_15_code (4 : Nat) (Option.some Jvm.ClassFile.FieldType.int) [((0 : Nat), (9 : Nat), (12 : Nat), (44 : Nat))]) ∈ lw_all := lw_g (lw_at lw_m6 105 rfl) rfl
theorem q1393 : (Jvm.Cond.methodLink "VowelTorusLaw" (59 : Nat) ({ cls := "VowelTorus", name := "away", desc := "(Z)I" } : Jvm.MethodName)) ∈ lw_all := lw_g (lw_at lw_m6 106 rfl) rfl
theorem q1399 : (Jvm.Cond.methodLink "VowelTorusLaw" (175 : Nat) ({ cls := "VowelTorusLaw", name := "firstTurn", desc := "(LVowelTorus;[J)I" } : Jvm.MethodName)) ∈ lw_all := lw_g (lw_at lw_m6 112 rfl) rfl
theorem q1400 : (Jvm.Cond.static ({ cls := "VowelTorusLaw", name := "firstTurn", desc := "(LVowelTorus;[J)I" } : Jvm.MethodName)) ∈ lw_all := lw_g (lw_at lw_m6 113 rfl) rfl
theorem q1401 : (Jvm.Cond.codeWith ({ cls := "VowelTorusLaw", name := "firstTurn", desc := "(LVowelTorus;[J)I" } : Jvm.MethodName) method_16_code (3 : Nat) (Option.some Jvm.ClassFile.FieldType.int) [((0 : Nat), (8 : Nat), (11 : Nat), (44 : Nat))]) ∈ lw_all := lw_g (lw_at lw_m6 114 rfl) rfl
theorem q1402 : (Jvm.Cond.methodLink "VowelTorusLaw" (63 : Nat) ({ cls := "VowelTorus", name := "firstTurn", desc := "()I" } : Jvm.MethodName)) ∈ lw_all := lw_g (lw_at lw_m6 115 rfl) rfl
theorem q1407 : (Jvm.Cond.methodLink "VowelTorusLaw" (183 : Nat) ({ cls := "VowelTorusLaw", name := "isOdd", desc := "(LVowelTorus;Z[J)I" } : Jvm.MethodName)) ∈ lw_all := lw_g (lw_at lw_m6 120 rfl) rfl
theorem q1408 : (Jvm.Cond.static ({ cls := "VowelTorusLaw", name := "isOdd", desc := "(LVowelTorus;Z[J)I" } : Jvm.MethodName)) ∈ lw_all := lw_g (lw_at lw_m6 121 rfl) rfl
theorem q1409 : (Jvm.Cond.codeWith ({ cls := "VowelTorusLaw", name := "isOdd", desc := "(LVowelTorus;Z[J)I" } : Jvm.MethodName) method_17_code (4 : Nat) (Option.some Jvm.ClassFile.FieldType.int) [((0 : Nat), (16 : Nat), (19 : Nat), (44 : Nat))]) ∈ lw_all := lw_g (lw_at lw_m6 122 rfl) rfl
theorem q1410 : (Jvm.Cond.methodLink "VowelTorusLaw" (66 : Nat) ({ cls := "VowelTorus", name := "isOdd", desc := "(Z)Z" } : Jvm.MethodName)) ∈ lw_all := lw_g (lw_at lw_m6 123 rfl) rfl
theorem q1417 : (Jvm.Cond.methodLink "VowelTorusLaw" (190 : Nat) ({ cls := "VowelTorusLaw", name := "would", desc := "(LVowelTorus;I[J)I" } : Jvm.MethodName)) ∈ lw_all := lw_g (lw_at lw_m6 130 rfl) rfl
theorem q1418 : (Jvm.Cond.static ({ cls := "VowelTorusLaw", name := "would", desc := "(LVowelTorus;I[J)I" } : Jvm.MethodName)) ∈ lw_all := lw_g (lw_at lw_m6 131 rfl) rfl
theorem q1419 : (Jvm.Cond.codeWith ({ cls := "VowelTorusLaw", name := "would", desc := "(LVowelTorus;I[J)I" } : Jvm.MethodName) method_18_code (4 : Nat) (Option.some Jvm.ClassFile.FieldType.int) [((0 : Nat), (9 : Nat), (12 : Nat), (19 : Nat))]) ∈ lw_all := lw_g (lw_at lw_m6 132 rfl) rfl
theorem q1420 : (Jvm.Cond.methodLink "VowelTorusLaw" (70 : Nat) ({ cls := "VowelTorus", name := "would", desc := "(I)I" } : Jvm.MethodName)) ∈ lw_all := lw_g (lw_at lw_m6 133 rfl) rfl
theorem q1428 : (Jvm.Cond.methodLink "VowelTorusLaw" (193 : Nat) ({ cls := "VowelTorusLaw", name := "best", desc := "(LVowelTorus;[J)I" } : Jvm.MethodName)) ∈ lw_all := lw_g (lw_at lw_m6 141 rfl) rfl
theorem q1429 : (Jvm.Cond.static ({ cls := "VowelTorusLaw", name := "best", desc := "(LVowelTorus;[J)I" } : Jvm.MethodName)) ∈ lw_all := lw_g (lw_at lw_m6 142 rfl) rfl
theorem q1430 : (Jvm.Cond.codeWith ({ cls := "VowelTorusLaw", name := "best", desc := "(LVowelTorus;[J)I" } : Jvm.MethodName) method_19_code (3 : Nat) (Option.some Jvm.ClassFile.FieldType.int) [((0 : Nat), (8 : Nat), (11 : Nat), (44 : Nat))]) ∈ lw_all := lw_g (lw_at lw_m6 143 rfl) rfl
theorem q1431 : (Jvm.Cond.methodLink "VowelTorusLaw" (73 : Nat) ({ cls := "VowelTorus", name := "best", desc := "()I" } : Jvm.MethodName)) ∈ lw_all := lw_g (lw_at lw_m6 144 rfl) rfl
theorem q1440 : (Jvm.Cond.methodLink "VowelTorusLaw" (196 : Nat) ({ cls := "VowelTorusLaw", name := "where", desc := "(LVowelTorus;III[J)I" } : Jvm.MethodName)) ∈ lw_all := lw_g (lw_at lw_m6 153 rfl) rfl
theorem q1441 : (Jvm.Cond.static ({ cls := "VowelTorusLaw", name := "where", desc := "(LVowelTorus;III[J)I" } : Jvm.MethodName)) ∈ lw_all := lw_g (lw_at lw_m6 154 rfl) rfl
theorem q1442 : (Jvm.Cond.codeWith ({ cls := "VowelTorusLaw", name := "where", desc := "(LVowelTorus;III[J)I" } : Jvm.MethodName) method_20_code (6 : Nat) (Option.some Jvm.ClassFile.FieldType.int) [((0 : Nat), (12 : Nat), (15 : Nat), (19 : Nat)), ((0 : Nat), (12 : Nat), (19 : Nat), (13 : Nat))]) ∈ lw_all := lw_g (lw_at lw_m6 155 rfl) rfl
theorem q1443 : (Jvm.Cond.methodLink "VowelTorusLaw" (76 : Nat) ({ cls := "VowelTorus", name := "where", desc := "(III)I" } : Jvm.MethodName)) ∈ lw_all := lw_g (lw_at lw_m6 156 rfl) rfl
theorem q1448 : (Jvm.Cond.methodLink "VowelTorusLaw" (200 : Nat) ({ cls := "VowelTorusLaw", name := "far", desc := "(LVowelTorus;II[J)I" } : Jvm.MethodName)) ∈ lw_all := lw_g (lw_at lw_m6 161 rfl) rfl
theorem q1449 : (Jvm.Cond.static ({ cls := "VowelTorusLaw", name := "far", desc := "(LVowelTorus;II[J)I" } : Jvm.MethodName)) ∈ lw_all := lw_g (lw_at lw_m6 162 rfl) rfl
theorem q1450 : (Jvm.Cond.codeWith ({ cls := "VowelTorusLaw", name := "far", desc := "(LVowelTorus;II[J)I" } : Jvm.MethodName) method_21_code (5 : Nat) (Option.some Jvm.ClassFile.FieldType.int) [((0 : Nat), (10 : Nat), (13 : Nat), (19 : Nat))]) ∈ lw_all := lw_g (lw_at lw_m6 163 rfl) rfl
theorem q1451 : (Jvm.Cond.methodLink "VowelTorusLaw" (80 : Nat) ({ cls := "VowelTorus", name := "far", desc := "(II)I" } : Jvm.MethodName)) ∈ lw_all := lw_g (lw_at lw_m6 164 rfl) rfl
theorem q1465 : (Jvm.Cond.methodLink "VowelTorusLaw" (203 : Nat) ({ cls := "VowelTorusLaw", name := "sings", desc := "(LVowelTorus;I[J)I" } : Jvm.MethodName)) ∈ lw_all := lw_g (lw_at lw_m6 178 rfl) rfl
theorem q1466 : (Jvm.Cond.static ({ cls := "VowelTorusLaw", name := "sings", desc := "(LVowelTorus;I[J)I" } : Jvm.MethodName)) ∈ lw_all := lw_g (lw_at lw_m6 179 rfl) rfl
theorem q1467 : (Jvm.Cond.codeWith ({ cls := "VowelTorusLaw", name := "sings", desc := "(LVowelTorus;I[J)I" } : Jvm.MethodName) method_22_code (4 : Nat) (Option.some Jvm.ClassFile.FieldType.int) [((0 : Nat), (16 : Nat), (19 : Nat), (19 : Nat))]) ∈ lw_all := lw_g (lw_at lw_m6 180 rfl) rfl
theorem q1468 : (Jvm.Cond.methodLink "VowelTorusLaw" (83 : Nat) ({ cls := "VowelTorus", name := "sings", desc := "(I)Z" } : Jvm.MethodName)) ∈ lw_all := lw_g (lw_at lw_m6 181 rfl) rfl
theorem q1472 : (Jvm.Cond.methodLink "VowelTorusLaw" (210 : Nat) ({ cls := "VowelTorusLaw", name := "ranked", desc := "(LVowelTorus;I[J)I" } : Jvm.MethodName)) ∈ lw_all := lw_g (lw_at lw_m6 185 rfl) rfl
theorem q1473 : (Jvm.Cond.static ({ cls := "VowelTorusLaw", name := "ranked", desc := "(LVowelTorus;I[J)I" } : Jvm.MethodName)) ∈ lw_all := lw_g (lw_at lw_m6 186 rfl) rfl
theorem q1474 : (Jvm.Cond.codeWith ({ cls := "VowelTorusLaw", name := "ranked", desc := "(LVowelTorus;I[J)I" } : Jvm.MethodName) method_23_code (4 : Nat) (Option.some Jvm.ClassFile.FieldType.int) [((0 : Nat), (9 : Nat), (12 : Nat), (44 : Nat))]) ∈ lw_all := lw_g (lw_at lw_m6 187 rfl) rfl
theorem q1475 : (Jvm.Cond.methodLink "VowelTorusLaw" (86 : Nat) ({ cls := "VowelTorus", name := "ranked", desc := "(I)I" } : Jvm.MethodName)) ∈ lw_all := lw_g (lw_at lw_m6 188 rfl) rfl
theorem q1496 : (Jvm.Cond.methodLink "VowelTorusLaw" (221 : Nat) ({ cls := "VowelTorusLaw", name := "lineText", desc := "(LVowelTorus;I[J)I" } : Jvm.MethodName)) ∈ lw_all := lw_g (lw_at lw_m6 209 rfl) rfl
theorem q1497 : (Jvm.Cond.static ({ cls := "VowelTorusLaw", name := "lineText", desc := "(LVowelTorus;I[J)I" } : Jvm.MethodName)) ∈ lw_all := lw_g (lw_at lw_m6 210 rfl) rfl
theorem q1498 : (Jvm.Cond.codeWith ({ cls := "VowelTorusLaw", name := "lineText", desc := "(LVowelTorus;I[J)I" } : Jvm.MethodName) method_24_code (4 : Nat) (Option.some Jvm.ClassFile.FieldType.int) [((0 : Nat), (9 : Nat), (12 : Nat), (19 : Nat))]) ∈ lw_all := lw_g (lw_at lw_m6 211 rfl) rfl
theorem q1499 : (Jvm.Cond.methodLink "VowelTorusLaw" (89 : Nat) ({ cls := "VowelTorus", name := "lineText", desc := "(I)I" } : Jvm.MethodName)) ∈ lw_all := lw_g (lw_at lw_m6 212 rfl) rfl
theorem q1508 : (Jvm.Cond.methodLink "VowelTorusLaw" (224 : Nat) ({ cls := "VowelTorusLaw", name := "character", desc := "(LVowelTorus;I[J)I" } : Jvm.MethodName)) ∈ lw_all := lw_g (lw_at lw_m6 221 rfl) rfl
theorem q1509 : (Jvm.Cond.static ({ cls := "VowelTorusLaw", name := "character", desc := "(LVowelTorus;I[J)I" } : Jvm.MethodName)) ∈ lw_all := lw_g (lw_at lw_m6 222 rfl) rfl
theorem q1510 : (Jvm.Cond.codeWith ({ cls := "VowelTorusLaw", name := "character", desc := "(LVowelTorus;I[J)I" } : Jvm.MethodName) method_25_code (4 : Nat) (Option.some Jvm.ClassFile.FieldType.int) [((0 : Nat), (9 : Nat), (12 : Nat), (19 : Nat))]) ∈ lw_all := lw_g (lw_at lw_m6 223 rfl) rfl
theorem q1511 : (Jvm.Cond.methodLink "VowelTorusLaw" (92 : Nat) ({ cls := "VowelTorus", name := "character", desc := "(I)C" } : Jvm.MethodName)) ∈ lw_all := lw_g (lw_at lw_m6 224 rfl) rfl
theorem q1525 : (Jvm.Cond.methodLink "VowelTorusLaw" (227 : Nat) ({ cls := "VowelTorusLaw", name := "append", desc := "(LVowelTorus;C[J)I" } : Jvm.MethodName)) ∈ lw_all := lw_g (lw_at lw_m6 238 rfl) rfl
theorem q1526 : (Jvm.Cond.static ({ cls := "VowelTorusLaw", name := "append", desc := "(LVowelTorus;C[J)I" } : Jvm.MethodName)) ∈ lw_all := lw_g (lw_at lw_m6 239 rfl) rfl
theorem q1527 : (Jvm.Cond.codeWith ({ cls := "VowelTorusLaw", name := "append", desc := "(LVowelTorus;C[J)I" } : Jvm.MethodName) method_26_code (4 : Nat) (Option.some Jvm.ClassFile.FieldType.int) [((0 : Nat), (9 : Nat), (12 : Nat), (99 : Nat))]) ∈ lw_all := lw_g (lw_at lw_m7 0 rfl) rfl
theorem q1528 : (Jvm.Cond.classLink "VowelTorusLaw" (99 : Nat) "java/lang/IllegalStateException") ∈ lw_all := lw_g (lw_at lw_m7 1 rfl) rfl
theorem q1529 : (Jvm.Cond.methodLink "VowelTorusLaw" (95 : Nat) ({ cls := "VowelTorus", name := "append", desc := "(C)I" } : Jvm.MethodName)) ∈ lw_all := lw_g (lw_at lw_m7 2 rfl) rfl
theorem q1542 : (Jvm.Cond.methodLink "VowelTorusLaw" (231 : Nat) ({ cls := "VowelTorusLaw", name := "run", desc := "(LVowelTorus;[J)I" } : Jvm.MethodName)) ∈ lw_all := lw_g (lw_at lw_m7 15 rfl) rfl
theorem q1543 : (Jvm.Cond.static ({ cls := "VowelTorusLaw", name := "run", desc := "(LVowelTorus;[J)I" } : Jvm.MethodName)) ∈ lw_all := lw_g (lw_at lw_m7 16 rfl) rfl
theorem q1544 : (Jvm.Cond.codeWith ({ cls := "VowelTorusLaw", name := "run", desc := "(LVowelTorus;[J)I" } : Jvm.MethodName) method_27_code (3 : Nat) (Option.some Jvm.ClassFile.FieldType.int) [((0 : Nat), (8 : Nat), (11 : Nat), (13 : Nat)), ((0 : Nat), (8 : Nat), (14 : Nat), (21 : Nat))]) ∈ lw_all := lw_g (lw_at lw_m7 17 rfl) rfl
theorem q1545 : (Jvm.Cond.methodLink "VowelTorusLaw" (101 : Nat) ({ cls := "VowelTorus", name := "run", desc := "()I" } : Jvm.MethodName)) ∈ lw_all := lw_g (lw_at lw_m7 18 rfl) rfl
theorem q1628 : (Jvm.Cond.methodLink "VowelTorusLaw" (238 : Nat) ({ cls := "VowelTorusLaw", name := "refusal", desc := "(LVowelTorus;Z[J)I" } : Jvm.MethodName)) ∈ lw_all := lw_g (lw_at lw_m7 101 rfl) rfl
theorem q1629 : (Jvm.Cond.static ({ cls := "VowelTorusLaw", name := "refusal", desc := "(LVowelTorus;Z[J)I" } : Jvm.MethodName)) ∈ lw_all := lw_g (lw_at lw_m7 102 rfl) rfl
theorem q1630 : (Jvm.Cond.codeWith ({ cls := "VowelTorusLaw", name := "refusal", desc := "(LVowelTorus;Z[J)I" } : Jvm.MethodName) method_28_code (4 : Nat) (Option.some Jvm.ClassFile.FieldType.int) [((0 : Nat), (9 : Nat), (12 : Nat), (44 : Nat))]) ∈ lw_all := lw_g (lw_at lw_m7 103 rfl) rfl
theorem q1631 : (Jvm.Cond.methodLink "VowelTorusLaw" (104 : Nat) ({ cls := "VowelTorus", name := "refusal", desc := "(Z)I" } : Jvm.MethodName)) ∈ lw_all := lw_g (lw_at lw_m7 104 rfl) rfl
theorem q1635 : (Jvm.Cond.methodLink "VowelTorusLaw" (241 : Nat) ({ cls := "VowelTorusLaw", name := "account", desc := "(LVowelTorus;I[J)I" } : Jvm.MethodName)) ∈ lw_all := lw_g (lw_at lw_m7 108 rfl) rfl
theorem q1636 : (Jvm.Cond.static ({ cls := "VowelTorusLaw", name := "account", desc := "(LVowelTorus;I[J)I" } : Jvm.MethodName)) ∈ lw_all := lw_g (lw_at lw_m7 109 rfl) rfl
theorem q1637 : (Jvm.Cond.codeWith ({ cls := "VowelTorusLaw", name := "account", desc := "(LVowelTorus;I[J)I" } : Jvm.MethodName) method_29_code (4 : Nat) (Option.some Jvm.ClassFile.FieldType.int) [((0 : Nat), (9 : Nat), (12 : Nat), (13 : Nat))]) ∈ lw_all := lw_g (lw_at lw_m7 110 rfl) rfl
theorem q1638 : (Jvm.Cond.methodLink "VowelTorusLaw" (107 : Nat) ({ cls := "VowelTorus", name := "account", desc := "(I)I" } : Jvm.MethodName)) ∈ lw_all := lw_g (lw_at lw_m7 111 rfl) rfl
theorem q1649 : (Jvm.Cond.methodLink "VowelTorusLaw" (248 : Nat) ({ cls := "VowelTorusLaw", name := "meanFar", desc := "(LVowelTorus;[D)I" } : Jvm.MethodName)) ∈ lw_all := lw_g (lw_at lw_m7 122 rfl) rfl
theorem q1650 : (Jvm.Cond.static ({ cls := "VowelTorusLaw", name := "meanFar", desc := "(LVowelTorus;[D)I" } : Jvm.MethodName)) ∈ lw_all := lw_g (lw_at lw_m7 123 rfl) rfl
theorem q1651 : (Jvm.Cond.codeWith ({ cls := "VowelTorusLaw", name := "meanFar", desc := "(LVowelTorus;[D)I" } : Jvm.MethodName) method_30_code (3 : Nat) (Option.some Jvm.ClassFile.FieldType.int) [((0 : Nat), (7 : Nat), (10 : Nat), (114 : Nat))]) ∈ lw_all := lw_g (lw_at lw_m7 124 rfl) rfl
theorem q1652 : (Jvm.Cond.classLink "VowelTorusLaw" (114 : Nat) "java/lang/ArithmeticException") ∈ lw_all := lw_g (lw_at lw_m7 125 rfl) rfl
theorem q1666 : (Jvm.Cond.methodLink "VowelTorusLaw" (110 : Nat) ({ cls := "VowelTorus", name := "meanFar", desc := "()D" } : Jvm.MethodName)) ∈ lw_all := lw_g (lw_at lw_m7 139 rfl) rfl
theorem q1688 : (Jvm.Cond.methodLink "VowelTorusLaw" (257 : Nat) ({ cls := "VowelTorusLaw", name := "undo", desc := "(LVowelTorus;[J)I" } : Jvm.MethodName)) ∈ lw_all := lw_g (lw_at lw_m7 161 rfl) rfl
theorem q1689 : (Jvm.Cond.static ({ cls := "VowelTorusLaw", name := "undo", desc := "(LVowelTorus;[J)I" } : Jvm.MethodName)) ∈ lw_all := lw_g (lw_at lw_m7 162 rfl) rfl
theorem q1690 : (Jvm.Cond.codeWith ({ cls := "VowelTorusLaw", name := "undo", desc := "(LVowelTorus;[J)I" } : Jvm.MethodName) method_31_code (3 : Nat) (Option.some Jvm.ClassFile.FieldType.int) [((0 : Nat), (8 : Nat), (11 : Nat), (99 : Nat))]) ∈ lw_all := lw_g (lw_at lw_m7 163 rfl) rfl
theorem q1691 : (Jvm.Cond.methodLink "VowelTorusLaw" (116 : Nat) ({ cls := "VowelTorus", name := "undo", desc := "()I" } : Jvm.MethodName)) ∈ lw_all := lw_g (lw_at lw_m7 164 rfl) rfl
theorem q1706 : (Jvm.Cond.methodLink "VowelTorusLaw" (264 : Nat) ({ cls := "VowelTorusLaw", name := "restore", desc := "(LVowelTorus;[J)I" } : Jvm.MethodName)) ∈ lw_all := lw_g (lw_at lw_m7 179 rfl) rfl
theorem q1707 : (Jvm.Cond.static ({ cls := "VowelTorusLaw", name := "restore", desc := "(LVowelTorus;[J)I" } : Jvm.MethodName)) ∈ lw_all := lw_g (lw_at lw_m7 180 rfl) rfl
theorem q1708 : (Jvm.Cond.codeWith ({ cls := "VowelTorusLaw", name := "restore", desc := "(LVowelTorus;[J)I" } : Jvm.MethodName) method_32_code (3 : Nat) (Option.some Jvm.ClassFile.FieldType.int) [((0 : Nat), (8 : Nat), (11 : Nat), (99 : Nat))]) ∈ lw_all := lw_g (lw_at lw_m7 181 rfl) rfl
theorem q1709 : (Jvm.Cond.methodLink "VowelTorusLaw" (119 : Nat) ({ cls := "VowelTorus", name := "restore", desc := "()I" } : Jvm.MethodName)) ∈ lw_all := lw_g (lw_at lw_m7 182 rfl) rfl
theorem q1717 : (Jvm.Cond.classLink "VowelTorusLaw" (123 : Nat) "VowelTorusModel") ∈ lw_all := lw_g (lw_at lw_m7 190 rfl) rfl
theorem q1719 : (Jvm.Cond.methodLink "VowelTorusLaw" (125 : Nat) ({ cls := "VowelTorusModel", name := "<init>", desc := "()V" } : Jvm.MethodName)) ∈ lw_all := lw_g (lw_at lw_m7 192 rfl) rfl
theorem q1791 : (Jvm.Cond.methodLink "VowelTorusLaw" (132 : Nat) ({ cls := "VowelTorusModel", name := "thrown", desc := "()I" } : Jvm.MethodName)) ∈ lw_all := lw_g (lw_at lw_m8 24 rfl) rfl
theorem q1795 : (Jvm.Cond.methodLink "VowelTorusLaw" (131 : Nat) ({ cls := "VowelTorusModel", name := "board", desc := "(II)I" } : Jvm.MethodName)) ∈ lw_all := lw_g (lw_at lw_m8 28 rfl) rfl
theorem q1829 : (Jvm.Cond.methodLink "VowelTorusLaw" (138 : Nat) ({ cls := "VowelTorusModel", name := "put", desc := "(IC)C" } : Jvm.MethodName)) ∈ lw_all := lw_g (lw_at lw_m8 62 rfl) rfl
theorem q1855 : (Jvm.Cond.methodLink "VowelTorusLaw" (141 : Nat) ({ cls := "VowelTorusModel", name := "goal", desc := "(IC)C" } : Jvm.MethodName)) ∈ lw_all := lw_g (lw_at lw_m8 88 rfl) rfl
theorem q1863 : (Jvm.Cond.methodLink "VowelTorusLaw" (145 : Nat) ({ cls := "VowelTorusModel", name := "turn", desc := "(I)I" } : Jvm.MethodName)) ∈ lw_all := lw_g (lw_at lw_m8 96 rfl) rfl
theorem q1915 : (Jvm.Cond.methodLink "VowelTorusLaw" (148 : Nat) ({ cls := "VowelTorusModel", name := "swap", desc := "(II)I" } : Jvm.MethodName)) ∈ lw_all := lw_g (lw_at lw_m8 148 rfl) rfl
theorem q1923 : (Jvm.Cond.methodLink "VowelTorusLaw" (151 : Nat) ({ cls := "VowelTorusModel", name := "bar", desc := "(I)Z" } : Jvm.MethodName)) ∈ lw_all := lw_g (lw_at lw_m8 156 rfl) rfl
theorem q1935 : (Jvm.Cond.methodLink "VowelTorusLaw" (154 : Nat) ({ cls := "VowelTorusModel", name := "scramble", desc := "(II)I" } : Jvm.MethodName)) ∈ lw_all := lw_g (lw_at lw_m8 168 rfl) rfl
theorem q1943 : (Jvm.Cond.methodLink "VowelTorusLaw" (174 : Nat) ({ cls := "VowelTorusModel", name := "away", desc := "(Z)I" } : Jvm.MethodName)) ∈ lw_all := lw_g (lw_at lw_m8 176 rfl) rfl
theorem q1955 : (Jvm.Cond.methodLink "VowelTorusLaw" (177 : Nat) ({ cls := "VowelTorusModel", name := "firstTurn", desc := "()I" } : Jvm.MethodName)) ∈ lw_all := lw_g (lw_at lw_m8 188 rfl) rfl
theorem q1959 : (Jvm.Cond.methodLink "VowelTorusLaw" (182 : Nat) ({ cls := "VowelTorusModel", name := "isOut", desc := "()Z" } : Jvm.MethodName)) ∈ lw_all := lw_g (lw_at lw_m8 192 rfl) rfl
theorem q1983 : (Jvm.Cond.methodLink "VowelTorusLaw" (185 : Nat) ({ cls := "VowelTorusModel", name := "isOdd", desc := "(Z)Z" } : Jvm.MethodName)) ∈ lw_all := lw_g (lw_at lw_m8 216 rfl) rfl
theorem q1987 : (Jvm.Cond.methodLink "VowelTorusLaw" (158 : Nat) ({ cls := "VowelTorusModel", name := "step", desc := "()I" } : Jvm.MethodName)) ∈ lw_all := lw_g (lw_at lw_m8 220 rfl) rfl
theorem q1995 : (Jvm.Cond.methodLink "VowelTorusLaw" (161 : Nat) ({ cls := "VowelTorusModel", name := "letter", desc := "(I)C" } : Jvm.MethodName)) ∈ lw_all := lw_g (lw_at lw_m8 228 rfl) rfl
theorem q1999 : (Jvm.Cond.methodLink "VowelTorusLaw" (164 : Nat) ({ cls := "VowelTorusModel", name := "sign", desc := "(I)C" } : Jvm.MethodName)) ∈ lw_all := lw_g (lw_at lw_m8 232 rfl) rfl
theorem q2003 : (Jvm.Cond.methodLink "VowelTorusLaw" (167 : Nat) ({ cls := "VowelTorusModel", name := "isBarred", desc := "(I)Z" } : Jvm.MethodName)) ∈ lw_all := lw_g (lw_at lw_m8 236 rfl) rfl
theorem q2007 : (Jvm.Cond.methodLink "VowelTorusLaw" (170 : Nat) ({ cls := "VowelTorusModel", name := "boardOf", desc := "(I)I" } : Jvm.MethodName)) ∈ lw_all := lw_g (lw_at lw_m9 0 rfl) rfl
theorem q2015 : (Jvm.Cond.methodLink "VowelTorusLaw" (189 : Nat) ({ cls := "VowelTorusModel", name := "home", desc := "()I" } : Jvm.MethodName)) ∈ lw_all := lw_g (lw_at lw_m9 8 rfl) rfl
theorem q2019 : (Jvm.Cond.methodLink "VowelTorusLaw" (192 : Nat) ({ cls := "VowelTorusModel", name := "would", desc := "(I)I" } : Jvm.MethodName)) ∈ lw_all := lw_g (lw_at lw_m9 12 rfl) rfl
theorem q2027 : (Jvm.Cond.methodLink "VowelTorusLaw" (195 : Nat) ({ cls := "VowelTorusModel", name := "best", desc := "()I" } : Jvm.MethodName)) ∈ lw_all := lw_g (lw_at lw_m9 20 rfl) rfl
theorem q2031 : (Jvm.Cond.methodLink "VowelTorusLaw" (199 : Nat) ({ cls := "VowelTorusModel", name := "where", desc := "(III)I" } : Jvm.MethodName)) ∈ lw_all := lw_g (lw_at lw_m9 24 rfl) rfl
theorem q2035 : (Jvm.Cond.methodLink "VowelTorusLaw" (202 : Nat) ({ cls := "VowelTorusModel", name := "far", desc := "(II)I" } : Jvm.MethodName)) ∈ lw_all := lw_g (lw_at lw_m9 28 rfl) rfl
theorem q2046 : (Jvm.Cond.methodLink "VowelTorusLaw" (205 : Nat) ({ cls := "VowelTorusModel", name := "sings", desc := "(I)Z" } : Jvm.MethodName)) ∈ lw_all := lw_g (lw_at lw_m9 39 rfl) rfl
theorem q2073 : (Jvm.Cond.methodLink "VowelTorusLaw" (209 : Nat) ({ cls := "VowelTorusModel", name := "singing", desc := "()I" } : Jvm.MethodName)) ∈ lw_all := lw_g (lw_at lw_m9 66 rfl) rfl
theorem q2077 : (Jvm.Cond.methodLink "VowelTorusLaw" (212 : Nat) ({ cls := "VowelTorusModel", name := "ranked", desc := "(I)I" } : Jvm.MethodName)) ∈ lw_all := lw_g (lw_at lw_m9 70 rfl) rfl
theorem q2081 : (Jvm.Cond.methodLink "VowelTorusLaw" (216 : Nat) ({ cls := "VowelTorusModel", name := "text", desc := "()I" } : Jvm.MethodName)) ∈ lw_all := lw_g (lw_at lw_m9 74 rfl) rfl
theorem q2093 : (Jvm.Cond.methodLink "VowelTorusLaw" (220 : Nat) ({ cls := "VowelTorusModel", name := "goalText", desc := "()I" } : Jvm.MethodName)) ∈ lw_all := lw_g (lw_at lw_m9 86 rfl) rfl
theorem q2097 : (Jvm.Cond.methodLink "VowelTorusLaw" (223 : Nat) ({ cls := "VowelTorusModel", name := "lineText", desc := "(I)I" } : Jvm.MethodName)) ∈ lw_all := lw_g (lw_at lw_m9 90 rfl) rfl
theorem q2101 : (Jvm.Cond.methodLink "VowelTorusLaw" (226 : Nat) ({ cls := "VowelTorusModel", name := "character", desc := "(I)C" } : Jvm.MethodName)) ∈ lw_all := lw_g (lw_at lw_m9 94 rfl) rfl
theorem q2105 : (Jvm.Cond.methodLink "VowelTorusLaw" (230 : Nat) ({ cls := "VowelTorusModel", name := "append", desc := "(C)I" } : Jvm.MethodName)) ∈ lw_all := lw_g (lw_at lw_m9 98 rfl) rfl
theorem q2109 : (Jvm.Cond.methodLink "VowelTorusLaw" (233 : Nat) ({ cls := "VowelTorusModel", name := "run", desc := "()I" } : Jvm.MethodName)) ∈ lw_all := lw_g (lw_at lw_m9 102 rfl) rfl
theorem q2137 : (Jvm.Cond.methodLink "VowelTorusLaw" (237 : Nat) ({ cls := "VowelTorusModel", name := "errorPosition", desc := "()I" } : Jvm.MethodName)) ∈ lw_all := lw_g (lw_at lw_m9 130 rfl) rfl
theorem q2141 : (Jvm.Cond.methodLink "VowelTorusLaw" (240 : Nat) ({ cls := "VowelTorusModel", name := "refusal", desc := "(Z)I" } : Jvm.MethodName)) ∈ lw_all := lw_g (lw_at lw_m9 134 rfl) rfl
theorem q2145 : (Jvm.Cond.methodLink "VowelTorusLaw" (243 : Nat) ({ cls := "VowelTorusModel", name := "account", desc := "(I)I" } : Jvm.MethodName)) ∈ lw_all := lw_g (lw_at lw_m9 138 rfl) rfl
theorem q2149 : (Jvm.Cond.methodLink "VowelTorusLaw" (247 : Nat) ({ cls := "VowelTorusModel", name := "isWell", desc := "()Z" } : Jvm.MethodName)) ∈ lw_all := lw_g (lw_at lw_m9 142 rfl) rfl
theorem q2153 : (Jvm.Cond.methodLink "VowelTorusLaw" (251 : Nat) ({ cls := "VowelTorusModel", name := "meanFar", desc := "()D" } : Jvm.MethodName)) ∈ lw_all := lw_g (lw_at lw_m9 146 rfl) rfl
theorem q2161 : (Jvm.Cond.methodLink "VowelTorusLaw" (256 : Nat) ({ cls := "VowelTorusModel", name := "homeShare", desc := "()F" } : Jvm.MethodName)) ∈ lw_all := lw_g (lw_at lw_m9 154 rfl) rfl
theorem q2165 : (Jvm.Cond.methodLink "VowelTorusLaw" (259 : Nat) ({ cls := "VowelTorusModel", name := "undo", desc := "()I" } : Jvm.MethodName)) ∈ lw_all := lw_g (lw_at lw_m9 158 rfl) rfl
theorem q2169 : (Jvm.Cond.methodLink "VowelTorusLaw" (263 : Nat) ({ cls := "VowelTorusModel", name := "save", desc := "()I" } : Jvm.MethodName)) ∈ lw_all := lw_g (lw_at lw_m9 162 rfl) rfl
theorem q2173 : (Jvm.Cond.methodLink "VowelTorusLaw" (266 : Nat) ({ cls := "VowelTorusModel", name := "restore", desc := "()I" } : Jvm.MethodName)) ∈ lw_all := lw_g (lw_at lw_m9 166 rfl) rfl
