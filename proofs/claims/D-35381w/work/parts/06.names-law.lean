set_option maxRecDepth 100000
/-! SkinLeagueLaw -/
def RX0 : String := "SkinLeagueLaw"
abbrev cX0_player : ByteArray := method_3_code
def yX0_player : MethodName := ⟨RX0, "player", "(LSkinLeague;[J)I"⟩
def dkwX0_player_0 : List UInt8 := [43, 3, 42, 182, 0, 7, 133, 80, 167, 0, 6, 77, 4, 172, 3, 172]
abbrev dktX0_player_0 : List UInt8 := dkwX0_player_0 ++ []
theorem dksX0_player_0 : cX0_player.data.toList.drop 0 = dktX0_player_0 := by decide +kernel
theorem dX0_player_0 : decode cX0_player 0 = .ok (.aload_n 1, 1) := dk_43 (dk_at dksX0_player_0 0 rfl rfl)
theorem dX0_player_1 : decode cX0_player 1 = .ok (.iconst 0, 1) := dk_3 (dk_at dksX0_player_0 1 rfl rfl)
theorem dX0_player_2 : decode cX0_player 2 = .ok (.aload_n 0, 1) := dk_42 (dk_at dksX0_player_0 2 rfl rfl)
theorem dX0_player_3 : decode cX0_player 3 = .ok (.invokevirtual 7, 3) := dk_182 0 7 (dk_at dksX0_player_0 3 rfl rfl)
theorem dX0_player_6 : decode cX0_player 6 = .ok (.i2l, 1) := dk_133 (dk_at dksX0_player_0 6 rfl rfl)
theorem dX0_player_7 : decode cX0_player 7 = .ok (.lastore, 1) := dk_80 (dk_at dksX0_player_0 7 rfl rfl)
theorem dX0_player_8 : decode cX0_player 8 = .ok (.goto 6, 3) := dk_167 0 6 (dk_at dksX0_player_0 8 rfl rfl)
theorem dX0_player_11 : decode cX0_player 11 = .ok (.astore_n 2, 1) := dk_77 (dk_at dksX0_player_0 11 rfl rfl)
theorem dX0_player_12 : decode cX0_player 12 = .ok (.iconst 1, 1) := dk_4 (dk_at dksX0_player_0 12 rfl rfl)
theorem dX0_player_13 : decode cX0_player 13 = .ok (.ireturn, 1) := dk_172 (dk_at dksX0_player_0 13 rfl rfl)
theorem dX0_player_14 : decode cX0_player 14 = .ok (.iconst 0, 1) := dk_3 (dk_at dksX0_player_0 14 rfl rfl)
theorem dX0_player_15 : decode cX0_player 15 = .ok (.ireturn, 1) := dk_172 (dk_at dksX0_player_0 15 rfl rfl)
abbrev cX0_room : ByteArray := method_4_code
def yX0_room : MethodName := ⟨RX0, "room", "(LSkinLeague;II[J)I"⟩
def dkwX0_room_0 : List UInt8 := [45, 3, 42, 27, 28, 182, 0, 15, 133, 80, 167, 0, 11, 58, 4, 4, 172, 58, 4, 5, 172, 3, 172]
abbrev dktX0_room_0 : List UInt8 := dkwX0_room_0 ++ []
theorem dksX0_room_0 : cX0_room.data.toList.drop 0 = dktX0_room_0 := by decide +kernel
theorem dX0_room_0 : decode cX0_room 0 = .ok (.aload_n 3, 1) := dk_45 (dk_at dksX0_room_0 0 rfl rfl)
theorem dX0_room_1 : decode cX0_room 1 = .ok (.iconst 0, 1) := dk_3 (dk_at dksX0_room_0 1 rfl rfl)
theorem dX0_room_2 : decode cX0_room 2 = .ok (.aload_n 0, 1) := dk_42 (dk_at dksX0_room_0 2 rfl rfl)
theorem dX0_room_3 : decode cX0_room 3 = .ok (.iload_n 1, 1) := dk_27 (dk_at dksX0_room_0 3 rfl rfl)
theorem dX0_room_4 : decode cX0_room 4 = .ok (.iload_n 2, 1) := dk_28 (dk_at dksX0_room_0 4 rfl rfl)
theorem dX0_room_5 : decode cX0_room 5 = .ok (.invokevirtual 15, 3) := dk_182 0 15 (dk_at dksX0_room_0 5 rfl rfl)
theorem dX0_room_8 : decode cX0_room 8 = .ok (.i2l, 1) := dk_133 (dk_at dksX0_room_0 8 rfl rfl)
theorem dX0_room_9 : decode cX0_room 9 = .ok (.lastore, 1) := dk_80 (dk_at dksX0_room_0 9 rfl rfl)
theorem dX0_room_10 : decode cX0_room 10 = .ok (.goto 11, 3) := dk_167 0 11 (dk_at dksX0_room_0 10 rfl rfl)
theorem dX0_room_13 : decode cX0_room 13 = .ok (.astore 4, 2) := dk_58 4 (dk_at dksX0_room_0 13 rfl rfl)
theorem dX0_room_15 : decode cX0_room 15 = .ok (.iconst 1, 1) := dk_4 (dk_at dksX0_room_0 15 rfl rfl)
theorem dX0_room_16 : decode cX0_room 16 = .ok (.ireturn, 1) := dk_172 (dk_at dksX0_room_0 16 rfl rfl)
theorem dX0_room_17 : decode cX0_room 17 = .ok (.astore 4, 2) := dk_58 4 (dk_at dksX0_room_0 17 rfl rfl)
theorem dX0_room_19 : decode cX0_room 19 = .ok (.iconst 2, 1) := dk_5 (dk_at dksX0_room_0 19 rfl rfl)
theorem dX0_room_20 : decode cX0_room 20 = .ok (.ireturn, 1) := dk_172 (dk_at dksX0_room_0 20 rfl rfl)
theorem dX0_room_21 : decode cX0_room 21 = .ok (.iconst 0, 1) := dk_3 (dk_at dksX0_room_0 21 rfl rfl)
theorem dX0_room_22 : decode cX0_room 22 = .ok (.ireturn, 1) := dk_172 (dk_at dksX0_room_0 22 rfl rfl)
abbrev cX0_match : ByteArray := method_5_code
def yX0_match : MethodName := ⟨RX0, "match", "(LSkinLeague;III[J)I"⟩
def dkwX0_match_1 : List UInt8 := [58, 5, 6, 172, 3, 172]
abbrev dktX0_match_1 : List UInt8 := dkwX0_match_1 ++ []
def dkwX0_match_0 : List UInt8 := [25, 4, 3, 42, 27, 28, 29, 182, 0, 23, 133, 80, 167, 0, 15, 58, 5, 4, 172, 58, 5, 5, 172]
abbrev dktX0_match_0 : List UInt8 := dkwX0_match_0 ++ dktX0_match_1
theorem dksX0_match_0 : cX0_match.data.toList.drop 0 = dktX0_match_0 := by decide +kernel
theorem dksX0_match_1 : cX0_match.data.toList.drop 23 = dktX0_match_1 := dk_seg dksX0_match_0 23 rfl rfl
theorem dX0_match_0 : decode cX0_match 0 = .ok (.aload 4, 2) := dk_25 4 (dk_at dksX0_match_0 0 rfl rfl)
theorem dX0_match_2 : decode cX0_match 2 = .ok (.iconst 0, 1) := dk_3 (dk_at dksX0_match_0 2 rfl rfl)
theorem dX0_match_3 : decode cX0_match 3 = .ok (.aload_n 0, 1) := dk_42 (dk_at dksX0_match_0 3 rfl rfl)
theorem dX0_match_4 : decode cX0_match 4 = .ok (.iload_n 1, 1) := dk_27 (dk_at dksX0_match_0 4 rfl rfl)
theorem dX0_match_5 : decode cX0_match 5 = .ok (.iload_n 2, 1) := dk_28 (dk_at dksX0_match_0 5 rfl rfl)
theorem dX0_match_6 : decode cX0_match 6 = .ok (.iload_n 3, 1) := dk_29 (dk_at dksX0_match_0 6 rfl rfl)
theorem dX0_match_7 : decode cX0_match 7 = .ok (.invokevirtual 23, 3) := dk_182 0 23 (dk_at dksX0_match_0 7 rfl rfl)
theorem dX0_match_10 : decode cX0_match 10 = .ok (.i2l, 1) := dk_133 (dk_at dksX0_match_0 10 rfl rfl)
theorem dX0_match_11 : decode cX0_match 11 = .ok (.lastore, 1) := dk_80 (dk_at dksX0_match_0 11 rfl rfl)
theorem dX0_match_12 : decode cX0_match 12 = .ok (.goto 15, 3) := dk_167 0 15 (dk_at dksX0_match_0 12 rfl rfl)
theorem dX0_match_15 : decode cX0_match 15 = .ok (.astore 5, 2) := dk_58 5 (dk_at dksX0_match_0 15 rfl rfl)
theorem dX0_match_17 : decode cX0_match 17 = .ok (.iconst 1, 1) := dk_4 (dk_at dksX0_match_0 17 rfl rfl)
theorem dX0_match_18 : decode cX0_match 18 = .ok (.ireturn, 1) := dk_172 (dk_at dksX0_match_0 18 rfl rfl)
theorem dX0_match_19 : decode cX0_match 19 = .ok (.astore 5, 2) := dk_58 5 (dk_at dksX0_match_0 19 rfl rfl)
theorem dX0_match_21 : decode cX0_match 21 = .ok (.iconst 2, 1) := dk_5 (dk_at dksX0_match_0 21 rfl rfl)
theorem dX0_match_22 : decode cX0_match 22 = .ok (.ireturn, 1) := dk_172 (dk_at dksX0_match_0 22 rfl rfl)
theorem dX0_match_23 : decode cX0_match 23 = .ok (.astore 5, 2) := dk_58 5 (dk_at dksX0_match_1 0 rfl rfl)
theorem dX0_match_25 : decode cX0_match 25 = .ok (.iconst 3, 1) := dk_6 (dk_at dksX0_match_1 2 rfl rfl)
theorem dX0_match_26 : decode cX0_match 26 = .ok (.ireturn, 1) := dk_172 (dk_at dksX0_match_1 3 rfl rfl)
theorem dX0_match_27 : decode cX0_match 27 = .ok (.iconst 0, 1) := dk_3 (dk_at dksX0_match_1 4 rfl rfl)
theorem dX0_match_28 : decode cX0_match 28 = .ok (.ireturn, 1) := dk_172 (dk_at dksX0_match_1 5 rfl rfl)
abbrev cX0_end : ByteArray := method_6_code
def yX0_end : MethodName := ⟨RX0, "end", "(LSkinLeague;[J)I"⟩
def dkwX0_end_0 : List UInt8 := [43, 3, 42, 182, 0, 27, 133, 80, 167, 0, 6, 77, 4, 172, 3, 172]
abbrev dktX0_end_0 : List UInt8 := dkwX0_end_0 ++ []
theorem dksX0_end_0 : cX0_end.data.toList.drop 0 = dktX0_end_0 := by decide +kernel
theorem dX0_end_0 : decode cX0_end 0 = .ok (.aload_n 1, 1) := dk_43 (dk_at dksX0_end_0 0 rfl rfl)
theorem dX0_end_1 : decode cX0_end 1 = .ok (.iconst 0, 1) := dk_3 (dk_at dksX0_end_0 1 rfl rfl)
theorem dX0_end_2 : decode cX0_end 2 = .ok (.aload_n 0, 1) := dk_42 (dk_at dksX0_end_0 2 rfl rfl)
theorem dX0_end_3 : decode cX0_end 3 = .ok (.invokevirtual 27, 3) := dk_182 0 27 (dk_at dksX0_end_0 3 rfl rfl)
theorem dX0_end_6 : decode cX0_end 6 = .ok (.i2l, 1) := dk_133 (dk_at dksX0_end_0 6 rfl rfl)
theorem dX0_end_7 : decode cX0_end 7 = .ok (.lastore, 1) := dk_80 (dk_at dksX0_end_0 7 rfl rfl)
theorem dX0_end_8 : decode cX0_end 8 = .ok (.goto 6, 3) := dk_167 0 6 (dk_at dksX0_end_0 8 rfl rfl)
theorem dX0_end_11 : decode cX0_end 11 = .ok (.astore_n 2, 1) := dk_77 (dk_at dksX0_end_0 11 rfl rfl)
theorem dX0_end_12 : decode cX0_end 12 = .ok (.iconst 1, 1) := dk_4 (dk_at dksX0_end_0 12 rfl rfl)
theorem dX0_end_13 : decode cX0_end 13 = .ok (.ireturn, 1) := dk_172 (dk_at dksX0_end_0 13 rfl rfl)
theorem dX0_end_14 : decode cX0_end 14 = .ok (.iconst 0, 1) := dk_3 (dk_at dksX0_end_0 14 rfl rfl)
theorem dX0_end_15 : decode cX0_end 15 = .ok (.ireturn, 1) := dk_172 (dk_at dksX0_end_0 15 rfl rfl)
abbrev cX0_sell : ByteArray := method_7_code
def yX0_sell : MethodName := ⟨RX0, "sell", "(LSkinLeague;III[J)I"⟩
def dkwX0_sell_1 : List UInt8 := [4, 172, 58, 5, 5, 172, 58, 5, 6, 172, 3, 172]
abbrev dktX0_sell_1 : List UInt8 := dkwX0_sell_1 ++ []
def dkwX0_sell_0 : List UInt8 := [25, 4, 3, 42, 27, 28, 29, 182, 0, 30, 153, 0, 7, 10, 167, 0, 4, 9, 80, 167, 0, 15, 58, 5]
abbrev dktX0_sell_0 : List UInt8 := dkwX0_sell_0 ++ dktX0_sell_1
theorem dksX0_sell_0 : cX0_sell.data.toList.drop 0 = dktX0_sell_0 := by decide +kernel
theorem dksX0_sell_1 : cX0_sell.data.toList.drop 24 = dktX0_sell_1 := dk_seg dksX0_sell_0 24 rfl rfl
theorem dX0_sell_0 : decode cX0_sell 0 = .ok (.aload 4, 2) := dk_25 4 (dk_at dksX0_sell_0 0 rfl rfl)
theorem dX0_sell_2 : decode cX0_sell 2 = .ok (.iconst 0, 1) := dk_3 (dk_at dksX0_sell_0 2 rfl rfl)
theorem dX0_sell_3 : decode cX0_sell 3 = .ok (.aload_n 0, 1) := dk_42 (dk_at dksX0_sell_0 3 rfl rfl)
theorem dX0_sell_4 : decode cX0_sell 4 = .ok (.iload_n 1, 1) := dk_27 (dk_at dksX0_sell_0 4 rfl rfl)
theorem dX0_sell_5 : decode cX0_sell 5 = .ok (.iload_n 2, 1) := dk_28 (dk_at dksX0_sell_0 5 rfl rfl)
theorem dX0_sell_6 : decode cX0_sell 6 = .ok (.iload_n 3, 1) := dk_29 (dk_at dksX0_sell_0 6 rfl rfl)
theorem dX0_sell_7 : decode cX0_sell 7 = .ok (.invokevirtual 30, 3) := dk_182 0 30 (dk_at dksX0_sell_0 7 rfl rfl)
theorem dX0_sell_10 : decode cX0_sell 10 = .ok (.ifCond .eq 7, 3) := dk_153 0 7 (dk_at dksX0_sell_0 10 rfl rfl)
theorem dX0_sell_13 : decode cX0_sell 13 = .ok (.lconst 1, 1) := dk_10 (dk_at dksX0_sell_0 13 rfl rfl)
theorem dX0_sell_14 : decode cX0_sell 14 = .ok (.goto 4, 3) := dk_167 0 4 (dk_at dksX0_sell_0 14 rfl rfl)
theorem dX0_sell_17 : decode cX0_sell 17 = .ok (.lconst 0, 1) := dk_9 (dk_at dksX0_sell_0 17 rfl rfl)
theorem dX0_sell_18 : decode cX0_sell 18 = .ok (.lastore, 1) := dk_80 (dk_at dksX0_sell_0 18 rfl rfl)
theorem dX0_sell_19 : decode cX0_sell 19 = .ok (.goto 15, 3) := dk_167 0 15 (dk_at dksX0_sell_0 19 rfl rfl)
theorem dX0_sell_22 : decode cX0_sell 22 = .ok (.astore 5, 2) := dk_58 5 (dk_at dksX0_sell_0 22 rfl rfl)
theorem dX0_sell_24 : decode cX0_sell 24 = .ok (.iconst 1, 1) := dk_4 (dk_at dksX0_sell_1 0 rfl rfl)
theorem dX0_sell_25 : decode cX0_sell 25 = .ok (.ireturn, 1) := dk_172 (dk_at dksX0_sell_1 1 rfl rfl)
theorem dX0_sell_26 : decode cX0_sell 26 = .ok (.astore 5, 2) := dk_58 5 (dk_at dksX0_sell_1 2 rfl rfl)
theorem dX0_sell_28 : decode cX0_sell 28 = .ok (.iconst 2, 1) := dk_5 (dk_at dksX0_sell_1 4 rfl rfl)
theorem dX0_sell_29 : decode cX0_sell 29 = .ok (.ireturn, 1) := dk_172 (dk_at dksX0_sell_1 5 rfl rfl)
theorem dX0_sell_30 : decode cX0_sell 30 = .ok (.astore 5, 2) := dk_58 5 (dk_at dksX0_sell_1 6 rfl rfl)
theorem dX0_sell_32 : decode cX0_sell 32 = .ok (.iconst 3, 1) := dk_6 (dk_at dksX0_sell_1 8 rfl rfl)
theorem dX0_sell_33 : decode cX0_sell 33 = .ok (.ireturn, 1) := dk_172 (dk_at dksX0_sell_1 9 rfl rfl)
theorem dX0_sell_34 : decode cX0_sell 34 = .ok (.iconst 0, 1) := dk_3 (dk_at dksX0_sell_1 10 rfl rfl)
theorem dX0_sell_35 : decode cX0_sell 35 = .ok (.ireturn, 1) := dk_172 (dk_at dksX0_sell_1 11 rfl rfl)
abbrev cX0_lend : ByteArray := method_8_code
def yX0_lend : MethodName := ⟨RX0, "lend", "(LSkinLeague;III[J)I"⟩
def dkwX0_lend_1 : List UInt8 := [58, 5, 6, 172, 3, 172]
abbrev dktX0_lend_1 : List UInt8 := dkwX0_lend_1 ++ []
def dkwX0_lend_0 : List UInt8 := [25, 4, 3, 42, 27, 28, 29, 182, 0, 34, 133, 80, 167, 0, 15, 58, 5, 4, 172, 58, 5, 5, 172]
abbrev dktX0_lend_0 : List UInt8 := dkwX0_lend_0 ++ dktX0_lend_1
theorem dksX0_lend_0 : cX0_lend.data.toList.drop 0 = dktX0_lend_0 := by decide +kernel
theorem dksX0_lend_1 : cX0_lend.data.toList.drop 23 = dktX0_lend_1 := dk_seg dksX0_lend_0 23 rfl rfl
theorem dX0_lend_0 : decode cX0_lend 0 = .ok (.aload 4, 2) := dk_25 4 (dk_at dksX0_lend_0 0 rfl rfl)
theorem dX0_lend_2 : decode cX0_lend 2 = .ok (.iconst 0, 1) := dk_3 (dk_at dksX0_lend_0 2 rfl rfl)
theorem dX0_lend_3 : decode cX0_lend 3 = .ok (.aload_n 0, 1) := dk_42 (dk_at dksX0_lend_0 3 rfl rfl)
theorem dX0_lend_4 : decode cX0_lend 4 = .ok (.iload_n 1, 1) := dk_27 (dk_at dksX0_lend_0 4 rfl rfl)
theorem dX0_lend_5 : decode cX0_lend 5 = .ok (.iload_n 2, 1) := dk_28 (dk_at dksX0_lend_0 5 rfl rfl)
theorem dX0_lend_6 : decode cX0_lend 6 = .ok (.iload_n 3, 1) := dk_29 (dk_at dksX0_lend_0 6 rfl rfl)
theorem dX0_lend_7 : decode cX0_lend 7 = .ok (.invokevirtual 34, 3) := dk_182 0 34 (dk_at dksX0_lend_0 7 rfl rfl)
theorem dX0_lend_10 : decode cX0_lend 10 = .ok (.i2l, 1) := dk_133 (dk_at dksX0_lend_0 10 rfl rfl)
theorem dX0_lend_11 : decode cX0_lend 11 = .ok (.lastore, 1) := dk_80 (dk_at dksX0_lend_0 11 rfl rfl)
theorem dX0_lend_12 : decode cX0_lend 12 = .ok (.goto 15, 3) := dk_167 0 15 (dk_at dksX0_lend_0 12 rfl rfl)
theorem dX0_lend_15 : decode cX0_lend 15 = .ok (.astore 5, 2) := dk_58 5 (dk_at dksX0_lend_0 15 rfl rfl)
theorem dX0_lend_17 : decode cX0_lend 17 = .ok (.iconst 1, 1) := dk_4 (dk_at dksX0_lend_0 17 rfl rfl)
theorem dX0_lend_18 : decode cX0_lend 18 = .ok (.ireturn, 1) := dk_172 (dk_at dksX0_lend_0 18 rfl rfl)
theorem dX0_lend_19 : decode cX0_lend 19 = .ok (.astore 5, 2) := dk_58 5 (dk_at dksX0_lend_0 19 rfl rfl)
theorem dX0_lend_21 : decode cX0_lend 21 = .ok (.iconst 2, 1) := dk_5 (dk_at dksX0_lend_0 21 rfl rfl)
theorem dX0_lend_22 : decode cX0_lend 22 = .ok (.ireturn, 1) := dk_172 (dk_at dksX0_lend_0 22 rfl rfl)
theorem dX0_lend_23 : decode cX0_lend 23 = .ok (.astore 5, 2) := dk_58 5 (dk_at dksX0_lend_1 0 rfl rfl)
theorem dX0_lend_25 : decode cX0_lend 25 = .ok (.iconst 3, 1) := dk_6 (dk_at dksX0_lend_1 2 rfl rfl)
theorem dX0_lend_26 : decode cX0_lend 26 = .ok (.ireturn, 1) := dk_172 (dk_at dksX0_lend_1 3 rfl rfl)
theorem dX0_lend_27 : decode cX0_lend 27 = .ok (.iconst 0, 1) := dk_3 (dk_at dksX0_lend_1 4 rfl rfl)
theorem dX0_lend_28 : decode cX0_lend 28 = .ok (.ireturn, 1) := dk_172 (dk_at dksX0_lend_1 5 rfl rfl)
abbrev cX0_proof : ByteArray := method_9_code
def yX0_proof : MethodName := ⟨RX0, "proof", "(LSkinLeague;II[J)I"⟩
def dkwX0_proof_0 : List UInt8 := [45, 3, 42, 27, 28, 182, 0, 37, 133, 80, 167, 0, 11, 58, 4, 4, 172, 58, 4, 5, 172, 3, 172]
abbrev dktX0_proof_0 : List UInt8 := dkwX0_proof_0 ++ []
theorem dksX0_proof_0 : cX0_proof.data.toList.drop 0 = dktX0_proof_0 := by decide +kernel
theorem dX0_proof_0 : decode cX0_proof 0 = .ok (.aload_n 3, 1) := dk_45 (dk_at dksX0_proof_0 0 rfl rfl)
theorem dX0_proof_1 : decode cX0_proof 1 = .ok (.iconst 0, 1) := dk_3 (dk_at dksX0_proof_0 1 rfl rfl)
theorem dX0_proof_2 : decode cX0_proof 2 = .ok (.aload_n 0, 1) := dk_42 (dk_at dksX0_proof_0 2 rfl rfl)
theorem dX0_proof_3 : decode cX0_proof 3 = .ok (.iload_n 1, 1) := dk_27 (dk_at dksX0_proof_0 3 rfl rfl)
theorem dX0_proof_4 : decode cX0_proof 4 = .ok (.iload_n 2, 1) := dk_28 (dk_at dksX0_proof_0 4 rfl rfl)
theorem dX0_proof_5 : decode cX0_proof 5 = .ok (.invokevirtual 37, 3) := dk_182 0 37 (dk_at dksX0_proof_0 5 rfl rfl)
theorem dX0_proof_8 : decode cX0_proof 8 = .ok (.i2l, 1) := dk_133 (dk_at dksX0_proof_0 8 rfl rfl)
theorem dX0_proof_9 : decode cX0_proof 9 = .ok (.lastore, 1) := dk_80 (dk_at dksX0_proof_0 9 rfl rfl)
theorem dX0_proof_10 : decode cX0_proof 10 = .ok (.goto 11, 3) := dk_167 0 11 (dk_at dksX0_proof_0 10 rfl rfl)
theorem dX0_proof_13 : decode cX0_proof 13 = .ok (.astore 4, 2) := dk_58 4 (dk_at dksX0_proof_0 13 rfl rfl)
theorem dX0_proof_15 : decode cX0_proof 15 = .ok (.iconst 1, 1) := dk_4 (dk_at dksX0_proof_0 15 rfl rfl)
theorem dX0_proof_16 : decode cX0_proof 16 = .ok (.ireturn, 1) := dk_172 (dk_at dksX0_proof_0 16 rfl rfl)
theorem dX0_proof_17 : decode cX0_proof 17 = .ok (.astore 4, 2) := dk_58 4 (dk_at dksX0_proof_0 17 rfl rfl)
theorem dX0_proof_19 : decode cX0_proof 19 = .ok (.iconst 2, 1) := dk_5 (dk_at dksX0_proof_0 19 rfl rfl)
theorem dX0_proof_20 : decode cX0_proof 20 = .ok (.ireturn, 1) := dk_172 (dk_at dksX0_proof_0 20 rfl rfl)
theorem dX0_proof_21 : decode cX0_proof 21 = .ok (.iconst 0, 1) := dk_3 (dk_at dksX0_proof_0 21 rfl rfl)
theorem dX0_proof_22 : decode cX0_proof 22 = .ok (.ireturn, 1) := dk_172 (dk_at dksX0_proof_0 22 rfl rfl)
abbrev cX0_clear : ByteArray := method_10_code
def yX0_clear : MethodName := ⟨RX0, "clear", "(LSkinLeague;I[J)I"⟩
def dkwX0_clear_0 : List UInt8 := [44, 3, 42, 27, 182, 0, 40, 133, 80, 167, 0, 9, 78, 4, 172, 78, 5, 172, 3, 172]
abbrev dktX0_clear_0 : List UInt8 := dkwX0_clear_0 ++ []
theorem dksX0_clear_0 : cX0_clear.data.toList.drop 0 = dktX0_clear_0 := by decide +kernel
theorem dX0_clear_0 : decode cX0_clear 0 = .ok (.aload_n 2, 1) := dk_44 (dk_at dksX0_clear_0 0 rfl rfl)
theorem dX0_clear_1 : decode cX0_clear 1 = .ok (.iconst 0, 1) := dk_3 (dk_at dksX0_clear_0 1 rfl rfl)
theorem dX0_clear_2 : decode cX0_clear 2 = .ok (.aload_n 0, 1) := dk_42 (dk_at dksX0_clear_0 2 rfl rfl)
theorem dX0_clear_3 : decode cX0_clear 3 = .ok (.iload_n 1, 1) := dk_27 (dk_at dksX0_clear_0 3 rfl rfl)
theorem dX0_clear_4 : decode cX0_clear 4 = .ok (.invokevirtual 40, 3) := dk_182 0 40 (dk_at dksX0_clear_0 4 rfl rfl)
theorem dX0_clear_7 : decode cX0_clear 7 = .ok (.i2l, 1) := dk_133 (dk_at dksX0_clear_0 7 rfl rfl)
theorem dX0_clear_8 : decode cX0_clear 8 = .ok (.lastore, 1) := dk_80 (dk_at dksX0_clear_0 8 rfl rfl)
theorem dX0_clear_9 : decode cX0_clear 9 = .ok (.goto 9, 3) := dk_167 0 9 (dk_at dksX0_clear_0 9 rfl rfl)
theorem dX0_clear_12 : decode cX0_clear 12 = .ok (.astore_n 3, 1) := dk_78 (dk_at dksX0_clear_0 12 rfl rfl)
theorem dX0_clear_13 : decode cX0_clear 13 = .ok (.iconst 1, 1) := dk_4 (dk_at dksX0_clear_0 13 rfl rfl)
theorem dX0_clear_14 : decode cX0_clear 14 = .ok (.ireturn, 1) := dk_172 (dk_at dksX0_clear_0 14 rfl rfl)
theorem dX0_clear_15 : decode cX0_clear 15 = .ok (.astore_n 3, 1) := dk_78 (dk_at dksX0_clear_0 15 rfl rfl)
theorem dX0_clear_16 : decode cX0_clear 16 = .ok (.iconst 2, 1) := dk_5 (dk_at dksX0_clear_0 16 rfl rfl)
theorem dX0_clear_17 : decode cX0_clear 17 = .ok (.ireturn, 1) := dk_172 (dk_at dksX0_clear_0 17 rfl rfl)
theorem dX0_clear_18 : decode cX0_clear 18 = .ok (.iconst 0, 1) := dk_3 (dk_at dksX0_clear_0 18 rfl rfl)
theorem dX0_clear_19 : decode cX0_clear 19 = .ok (.ireturn, 1) := dk_172 (dk_at dksX0_clear_0 19 rfl rfl)
abbrev cX0_ban : ByteArray := method_11_code
def yX0_ban : MethodName := ⟨RX0, "ban", "(LSkinLeague;II[J)I"⟩
def dkwX0_ban_0 : List UInt8 := [45, 3, 42, 27, 28, 182, 0, 44, 133, 80, 167, 0, 11, 58, 4, 4, 172, 58, 4, 5, 172, 3, 172]
abbrev dktX0_ban_0 : List UInt8 := dkwX0_ban_0 ++ []
theorem dksX0_ban_0 : cX0_ban.data.toList.drop 0 = dktX0_ban_0 := by decide +kernel
theorem dX0_ban_0 : decode cX0_ban 0 = .ok (.aload_n 3, 1) := dk_45 (dk_at dksX0_ban_0 0 rfl rfl)
theorem dX0_ban_1 : decode cX0_ban 1 = .ok (.iconst 0, 1) := dk_3 (dk_at dksX0_ban_0 1 rfl rfl)
theorem dX0_ban_2 : decode cX0_ban 2 = .ok (.aload_n 0, 1) := dk_42 (dk_at dksX0_ban_0 2 rfl rfl)
theorem dX0_ban_3 : decode cX0_ban 3 = .ok (.iload_n 1, 1) := dk_27 (dk_at dksX0_ban_0 3 rfl rfl)
theorem dX0_ban_4 : decode cX0_ban 4 = .ok (.iload_n 2, 1) := dk_28 (dk_at dksX0_ban_0 4 rfl rfl)
theorem dX0_ban_5 : decode cX0_ban 5 = .ok (.invokevirtual 44, 3) := dk_182 0 44 (dk_at dksX0_ban_0 5 rfl rfl)
theorem dX0_ban_8 : decode cX0_ban 8 = .ok (.i2l, 1) := dk_133 (dk_at dksX0_ban_0 8 rfl rfl)
theorem dX0_ban_9 : decode cX0_ban 9 = .ok (.lastore, 1) := dk_80 (dk_at dksX0_ban_0 9 rfl rfl)
theorem dX0_ban_10 : decode cX0_ban 10 = .ok (.goto 11, 3) := dk_167 0 11 (dk_at dksX0_ban_0 10 rfl rfl)
theorem dX0_ban_13 : decode cX0_ban 13 = .ok (.astore 4, 2) := dk_58 4 (dk_at dksX0_ban_0 13 rfl rfl)
theorem dX0_ban_15 : decode cX0_ban 15 = .ok (.iconst 1, 1) := dk_4 (dk_at dksX0_ban_0 15 rfl rfl)
theorem dX0_ban_16 : decode cX0_ban 16 = .ok (.ireturn, 1) := dk_172 (dk_at dksX0_ban_0 16 rfl rfl)
theorem dX0_ban_17 : decode cX0_ban 17 = .ok (.astore 4, 2) := dk_58 4 (dk_at dksX0_ban_0 17 rfl rfl)
theorem dX0_ban_19 : decode cX0_ban 19 = .ok (.iconst 2, 1) := dk_5 (dk_at dksX0_ban_0 19 rfl rfl)
theorem dX0_ban_20 : decode cX0_ban 20 = .ok (.ireturn, 1) := dk_172 (dk_at dksX0_ban_0 20 rfl rfl)
theorem dX0_ban_21 : decode cX0_ban 21 = .ok (.iconst 0, 1) := dk_3 (dk_at dksX0_ban_0 21 rfl rfl)
theorem dX0_ban_22 : decode cX0_ban 22 = .ok (.ireturn, 1) := dk_172 (dk_at dksX0_ban_0 22 rfl rfl)
abbrev cX0_pass : ByteArray := method_12_code
def yX0_pass : MethodName := ⟨RX0, "pass", "(LSkinLeague;I[J)I"⟩
def dkwX0_pass_0 : List UInt8 := [44, 3, 42, 27, 182, 0, 47, 133, 80, 167, 0, 6, 78, 4, 172, 3, 172]
abbrev dktX0_pass_0 : List UInt8 := dkwX0_pass_0 ++ []
theorem dksX0_pass_0 : cX0_pass.data.toList.drop 0 = dktX0_pass_0 := by decide +kernel
theorem dX0_pass_0 : decode cX0_pass 0 = .ok (.aload_n 2, 1) := dk_44 (dk_at dksX0_pass_0 0 rfl rfl)
theorem dX0_pass_1 : decode cX0_pass 1 = .ok (.iconst 0, 1) := dk_3 (dk_at dksX0_pass_0 1 rfl rfl)
theorem dX0_pass_2 : decode cX0_pass 2 = .ok (.aload_n 0, 1) := dk_42 (dk_at dksX0_pass_0 2 rfl rfl)
theorem dX0_pass_3 : decode cX0_pass 3 = .ok (.iload_n 1, 1) := dk_27 (dk_at dksX0_pass_0 3 rfl rfl)
theorem dX0_pass_4 : decode cX0_pass 4 = .ok (.invokevirtual 47, 3) := dk_182 0 47 (dk_at dksX0_pass_0 4 rfl rfl)
theorem dX0_pass_7 : decode cX0_pass 7 = .ok (.i2l, 1) := dk_133 (dk_at dksX0_pass_0 7 rfl rfl)
theorem dX0_pass_8 : decode cX0_pass 8 = .ok (.lastore, 1) := dk_80 (dk_at dksX0_pass_0 8 rfl rfl)
theorem dX0_pass_9 : decode cX0_pass 9 = .ok (.goto 6, 3) := dk_167 0 6 (dk_at dksX0_pass_0 9 rfl rfl)
theorem dX0_pass_12 : decode cX0_pass 12 = .ok (.astore_n 3, 1) := dk_78 (dk_at dksX0_pass_0 12 rfl rfl)
theorem dX0_pass_13 : decode cX0_pass 13 = .ok (.iconst 1, 1) := dk_4 (dk_at dksX0_pass_0 13 rfl rfl)
theorem dX0_pass_14 : decode cX0_pass 14 = .ok (.ireturn, 1) := dk_172 (dk_at dksX0_pass_0 14 rfl rfl)
theorem dX0_pass_15 : decode cX0_pass 15 = .ok (.iconst 0, 1) := dk_3 (dk_at dksX0_pass_0 15 rfl rfl)
theorem dX0_pass_16 : decode cX0_pass 16 = .ok (.ireturn, 1) := dk_172 (dk_at dksX0_pass_0 16 rfl rfl)
abbrev cX0_stands : ByteArray := method_13_code
def yX0_stands : MethodName := ⟨RX0, "stands", "(LSkinLeague;I[J)I"⟩
def dkwX0_stands_0 : List UInt8 := [44, 3, 42, 27, 182, 0, 50, 153, 0, 7, 10, 167, 0, 4, 9, 80, 167, 0, 6, 78, 4, 172, 3, 172]
abbrev dktX0_stands_0 : List UInt8 := dkwX0_stands_0 ++ []
theorem dksX0_stands_0 : cX0_stands.data.toList.drop 0 = dktX0_stands_0 := by decide +kernel
theorem dX0_stands_0 : decode cX0_stands 0 = .ok (.aload_n 2, 1) := dk_44 (dk_at dksX0_stands_0 0 rfl rfl)
theorem dX0_stands_1 : decode cX0_stands 1 = .ok (.iconst 0, 1) := dk_3 (dk_at dksX0_stands_0 1 rfl rfl)
theorem dX0_stands_2 : decode cX0_stands 2 = .ok (.aload_n 0, 1) := dk_42 (dk_at dksX0_stands_0 2 rfl rfl)
theorem dX0_stands_3 : decode cX0_stands 3 = .ok (.iload_n 1, 1) := dk_27 (dk_at dksX0_stands_0 3 rfl rfl)
theorem dX0_stands_4 : decode cX0_stands 4 = .ok (.invokevirtual 50, 3) := dk_182 0 50 (dk_at dksX0_stands_0 4 rfl rfl)
theorem dX0_stands_7 : decode cX0_stands 7 = .ok (.ifCond .eq 7, 3) := dk_153 0 7 (dk_at dksX0_stands_0 7 rfl rfl)
theorem dX0_stands_10 : decode cX0_stands 10 = .ok (.lconst 1, 1) := dk_10 (dk_at dksX0_stands_0 10 rfl rfl)
theorem dX0_stands_11 : decode cX0_stands 11 = .ok (.goto 4, 3) := dk_167 0 4 (dk_at dksX0_stands_0 11 rfl rfl)
theorem dX0_stands_14 : decode cX0_stands 14 = .ok (.lconst 0, 1) := dk_9 (dk_at dksX0_stands_0 14 rfl rfl)
theorem dX0_stands_15 : decode cX0_stands 15 = .ok (.lastore, 1) := dk_80 (dk_at dksX0_stands_0 15 rfl rfl)
theorem dX0_stands_16 : decode cX0_stands 16 = .ok (.goto 6, 3) := dk_167 0 6 (dk_at dksX0_stands_0 16 rfl rfl)
theorem dX0_stands_19 : decode cX0_stands 19 = .ok (.astore_n 3, 1) := dk_78 (dk_at dksX0_stands_0 19 rfl rfl)
theorem dX0_stands_20 : decode cX0_stands 20 = .ok (.iconst 1, 1) := dk_4 (dk_at dksX0_stands_0 20 rfl rfl)
theorem dX0_stands_21 : decode cX0_stands 21 = .ok (.ireturn, 1) := dk_172 (dk_at dksX0_stands_0 21 rfl rfl)
theorem dX0_stands_22 : decode cX0_stands 22 = .ok (.iconst 0, 1) := dk_3 (dk_at dksX0_stands_0 22 rfl rfl)
theorem dX0_stands_23 : decode cX0_stands 23 = .ok (.ireturn, 1) := dk_172 (dk_at dksX0_stands_0 23 rfl rfl)
abbrev cX0_ranked : ByteArray := method_14_code
def yX0_ranked : MethodName := ⟨RX0, "ranked", "(LSkinLeague;III[J)I"⟩
def dkwX0_ranked_1 : List UInt8 := [172]
abbrev dktX0_ranked_1 : List UInt8 := dkwX0_ranked_1 ++ []
def dkwX0_ranked_0 : List UInt8 := [25, 4, 3, 42, 27, 28, 29, 182, 0, 54, 133, 80, 167, 0, 11, 58, 5, 4, 172, 58, 5, 5, 172, 3]
abbrev dktX0_ranked_0 : List UInt8 := dkwX0_ranked_0 ++ dktX0_ranked_1
theorem dksX0_ranked_0 : cX0_ranked.data.toList.drop 0 = dktX0_ranked_0 := by decide +kernel
theorem dksX0_ranked_1 : cX0_ranked.data.toList.drop 24 = dktX0_ranked_1 := dk_seg dksX0_ranked_0 24 rfl rfl
theorem dX0_ranked_0 : decode cX0_ranked 0 = .ok (.aload 4, 2) := dk_25 4 (dk_at dksX0_ranked_0 0 rfl rfl)
theorem dX0_ranked_2 : decode cX0_ranked 2 = .ok (.iconst 0, 1) := dk_3 (dk_at dksX0_ranked_0 2 rfl rfl)
theorem dX0_ranked_3 : decode cX0_ranked 3 = .ok (.aload_n 0, 1) := dk_42 (dk_at dksX0_ranked_0 3 rfl rfl)
theorem dX0_ranked_4 : decode cX0_ranked 4 = .ok (.iload_n 1, 1) := dk_27 (dk_at dksX0_ranked_0 4 rfl rfl)
theorem dX0_ranked_5 : decode cX0_ranked 5 = .ok (.iload_n 2, 1) := dk_28 (dk_at dksX0_ranked_0 5 rfl rfl)
theorem dX0_ranked_6 : decode cX0_ranked 6 = .ok (.iload_n 3, 1) := dk_29 (dk_at dksX0_ranked_0 6 rfl rfl)
theorem dX0_ranked_7 : decode cX0_ranked 7 = .ok (.invokevirtual 54, 3) := dk_182 0 54 (dk_at dksX0_ranked_0 7 rfl rfl)
theorem dX0_ranked_10 : decode cX0_ranked 10 = .ok (.i2l, 1) := dk_133 (dk_at dksX0_ranked_0 10 rfl rfl)
theorem dX0_ranked_11 : decode cX0_ranked 11 = .ok (.lastore, 1) := dk_80 (dk_at dksX0_ranked_0 11 rfl rfl)
theorem dX0_ranked_12 : decode cX0_ranked 12 = .ok (.goto 11, 3) := dk_167 0 11 (dk_at dksX0_ranked_0 12 rfl rfl)
theorem dX0_ranked_15 : decode cX0_ranked 15 = .ok (.astore 5, 2) := dk_58 5 (dk_at dksX0_ranked_0 15 rfl rfl)
theorem dX0_ranked_17 : decode cX0_ranked 17 = .ok (.iconst 1, 1) := dk_4 (dk_at dksX0_ranked_0 17 rfl rfl)
theorem dX0_ranked_18 : decode cX0_ranked 18 = .ok (.ireturn, 1) := dk_172 (dk_at dksX0_ranked_0 18 rfl rfl)
theorem dX0_ranked_19 : decode cX0_ranked 19 = .ok (.astore 5, 2) := dk_58 5 (dk_at dksX0_ranked_0 19 rfl rfl)
theorem dX0_ranked_21 : decode cX0_ranked 21 = .ok (.iconst 2, 1) := dk_5 (dk_at dksX0_ranked_0 21 rfl rfl)
theorem dX0_ranked_22 : decode cX0_ranked 22 = .ok (.ireturn, 1) := dk_172 (dk_at dksX0_ranked_0 22 rfl rfl)
theorem dX0_ranked_23 : decode cX0_ranked 23 = .ok (.iconst 0, 1) := dk_3 (dk_at dksX0_ranked_0 23 rfl rfl)
theorem dX0_ranked_24 : decode cX0_ranked 24 = .ok (.ireturn, 1) := dk_172 (dk_at dksX0_ranked_1 0 rfl rfl)
abbrev cX0_skinOf : ByteArray := method_15_code
def yX0_skinOf : MethodName := ⟨RX0, "skinOf", "(LSkinLeague;II[J)I"⟩
def dkwX0_skinOf_0 : List UInt8 := [45, 3, 42, 27, 28, 182, 0, 57, 133, 80, 167, 0, 11, 58, 4, 4, 172, 58, 4, 5, 172, 3, 172]
abbrev dktX0_skinOf_0 : List UInt8 := dkwX0_skinOf_0 ++ []
theorem dksX0_skinOf_0 : cX0_skinOf.data.toList.drop 0 = dktX0_skinOf_0 := by decide +kernel
theorem dX0_skinOf_0 : decode cX0_skinOf 0 = .ok (.aload_n 3, 1) := dk_45 (dk_at dksX0_skinOf_0 0 rfl rfl)
theorem dX0_skinOf_1 : decode cX0_skinOf 1 = .ok (.iconst 0, 1) := dk_3 (dk_at dksX0_skinOf_0 1 rfl rfl)
theorem dX0_skinOf_2 : decode cX0_skinOf 2 = .ok (.aload_n 0, 1) := dk_42 (dk_at dksX0_skinOf_0 2 rfl rfl)
theorem dX0_skinOf_3 : decode cX0_skinOf 3 = .ok (.iload_n 1, 1) := dk_27 (dk_at dksX0_skinOf_0 3 rfl rfl)
theorem dX0_skinOf_4 : decode cX0_skinOf 4 = .ok (.iload_n 2, 1) := dk_28 (dk_at dksX0_skinOf_0 4 rfl rfl)
theorem dX0_skinOf_5 : decode cX0_skinOf 5 = .ok (.invokevirtual 57, 3) := dk_182 0 57 (dk_at dksX0_skinOf_0 5 rfl rfl)
theorem dX0_skinOf_8 : decode cX0_skinOf 8 = .ok (.i2l, 1) := dk_133 (dk_at dksX0_skinOf_0 8 rfl rfl)
theorem dX0_skinOf_9 : decode cX0_skinOf 9 = .ok (.lastore, 1) := dk_80 (dk_at dksX0_skinOf_0 9 rfl rfl)
theorem dX0_skinOf_10 : decode cX0_skinOf 10 = .ok (.goto 11, 3) := dk_167 0 11 (dk_at dksX0_skinOf_0 10 rfl rfl)
theorem dX0_skinOf_13 : decode cX0_skinOf 13 = .ok (.astore 4, 2) := dk_58 4 (dk_at dksX0_skinOf_0 13 rfl rfl)
theorem dX0_skinOf_15 : decode cX0_skinOf 15 = .ok (.iconst 1, 1) := dk_4 (dk_at dksX0_skinOf_0 15 rfl rfl)
theorem dX0_skinOf_16 : decode cX0_skinOf 16 = .ok (.ireturn, 1) := dk_172 (dk_at dksX0_skinOf_0 16 rfl rfl)
theorem dX0_skinOf_17 : decode cX0_skinOf 17 = .ok (.astore 4, 2) := dk_58 4 (dk_at dksX0_skinOf_0 17 rfl rfl)
theorem dX0_skinOf_19 : decode cX0_skinOf 19 = .ok (.iconst 2, 1) := dk_5 (dk_at dksX0_skinOf_0 19 rfl rfl)
theorem dX0_skinOf_20 : decode cX0_skinOf 20 = .ok (.ireturn, 1) := dk_172 (dk_at dksX0_skinOf_0 20 rfl rfl)
theorem dX0_skinOf_21 : decode cX0_skinOf 21 = .ok (.iconst 0, 1) := dk_3 (dk_at dksX0_skinOf_0 21 rfl rfl)
theorem dX0_skinOf_22 : decode cX0_skinOf 22 = .ok (.ireturn, 1) := dk_172 (dk_at dksX0_skinOf_0 22 rfl rfl)
abbrev cX0_money : ByteArray := method_16_code
def yX0_money : MethodName := ⟨RX0, "money", "(LSkinLeague;I[J)I"⟩
def dkwX0_money_0 : List UInt8 := [44, 3, 42, 27, 182, 0, 60, 133, 80, 167, 0, 6, 78, 4, 172, 3, 172]
abbrev dktX0_money_0 : List UInt8 := dkwX0_money_0 ++ []
theorem dksX0_money_0 : cX0_money.data.toList.drop 0 = dktX0_money_0 := by decide +kernel
theorem dX0_money_0 : decode cX0_money 0 = .ok (.aload_n 2, 1) := dk_44 (dk_at dksX0_money_0 0 rfl rfl)
theorem dX0_money_1 : decode cX0_money 1 = .ok (.iconst 0, 1) := dk_3 (dk_at dksX0_money_0 1 rfl rfl)
theorem dX0_money_2 : decode cX0_money 2 = .ok (.aload_n 0, 1) := dk_42 (dk_at dksX0_money_0 2 rfl rfl)
theorem dX0_money_3 : decode cX0_money 3 = .ok (.iload_n 1, 1) := dk_27 (dk_at dksX0_money_0 3 rfl rfl)
theorem dX0_money_4 : decode cX0_money 4 = .ok (.invokevirtual 60, 3) := dk_182 0 60 (dk_at dksX0_money_0 4 rfl rfl)
theorem dX0_money_7 : decode cX0_money 7 = .ok (.i2l, 1) := dk_133 (dk_at dksX0_money_0 7 rfl rfl)
theorem dX0_money_8 : decode cX0_money 8 = .ok (.lastore, 1) := dk_80 (dk_at dksX0_money_0 8 rfl rfl)
theorem dX0_money_9 : decode cX0_money 9 = .ok (.goto 6, 3) := dk_167 0 6 (dk_at dksX0_money_0 9 rfl rfl)
theorem dX0_money_12 : decode cX0_money 12 = .ok (.astore_n 3, 1) := dk_78 (dk_at dksX0_money_0 12 rfl rfl)
theorem dX0_money_13 : decode cX0_money 13 = .ok (.iconst 1, 1) := dk_4 (dk_at dksX0_money_0 13 rfl rfl)
theorem dX0_money_14 : decode cX0_money 14 = .ok (.ireturn, 1) := dk_172 (dk_at dksX0_money_0 14 rfl rfl)
theorem dX0_money_15 : decode cX0_money 15 = .ok (.iconst 0, 1) := dk_3 (dk_at dksX0_money_0 15 rfl rfl)
theorem dX0_money_16 : decode cX0_money 16 = .ok (.ireturn, 1) := dk_172 (dk_at dksX0_money_0 16 rfl rfl)
abbrev cX0_label : ByteArray := method_17_code
def yX0_label : MethodName := ⟨RX0, "label", "(LSkinLeague;II[J)I"⟩
def dkwX0_label_0 : List UInt8 := [45, 3, 42, 27, 28, 182, 0, 63, 133, 80, 167, 0, 7, 58, 4, 4, 172, 3, 172]
abbrev dktX0_label_0 : List UInt8 := dkwX0_label_0 ++ []
theorem dksX0_label_0 : cX0_label.data.toList.drop 0 = dktX0_label_0 := by decide +kernel
theorem dX0_label_0 : decode cX0_label 0 = .ok (.aload_n 3, 1) := dk_45 (dk_at dksX0_label_0 0 rfl rfl)
theorem dX0_label_1 : decode cX0_label 1 = .ok (.iconst 0, 1) := dk_3 (dk_at dksX0_label_0 1 rfl rfl)
theorem dX0_label_2 : decode cX0_label 2 = .ok (.aload_n 0, 1) := dk_42 (dk_at dksX0_label_0 2 rfl rfl)
theorem dX0_label_3 : decode cX0_label 3 = .ok (.iload_n 1, 1) := dk_27 (dk_at dksX0_label_0 3 rfl rfl)
theorem dX0_label_4 : decode cX0_label 4 = .ok (.iload_n 2, 1) := dk_28 (dk_at dksX0_label_0 4 rfl rfl)
theorem dX0_label_5 : decode cX0_label 5 = .ok (.invokevirtual 63, 3) := dk_182 0 63 (dk_at dksX0_label_0 5 rfl rfl)
theorem dX0_label_8 : decode cX0_label 8 = .ok (.i2l, 1) := dk_133 (dk_at dksX0_label_0 8 rfl rfl)
theorem dX0_label_9 : decode cX0_label 9 = .ok (.lastore, 1) := dk_80 (dk_at dksX0_label_0 9 rfl rfl)
theorem dX0_label_10 : decode cX0_label 10 = .ok (.goto 7, 3) := dk_167 0 7 (dk_at dksX0_label_0 10 rfl rfl)
theorem dX0_label_13 : decode cX0_label 13 = .ok (.astore 4, 2) := dk_58 4 (dk_at dksX0_label_0 13 rfl rfl)
theorem dX0_label_15 : decode cX0_label 15 = .ok (.iconst 1, 1) := dk_4 (dk_at dksX0_label_0 15 rfl rfl)
theorem dX0_label_16 : decode cX0_label 16 = .ok (.ireturn, 1) := dk_172 (dk_at dksX0_label_0 16 rfl rfl)
theorem dX0_label_17 : decode cX0_label 17 = .ok (.iconst 0, 1) := dk_3 (dk_at dksX0_label_0 17 rfl rfl)
theorem dX0_label_18 : decode cX0_label 18 = .ok (.ireturn, 1) := dk_172 (dk_at dksX0_label_0 18 rfl rfl)
theorem q35 : (Jvm.Cond.initialized "SkinLeagueLaw") ∈ lw_all := lw_g (lw_at lw_m1 0 rfl) rfl
theorem q84 : (Jvm.Cond.classLink "SkinLeagueLaw" (8 : Nat) "SkinLeague") ∈ lw_all := lw_g (lw_at lw_m1 49 rfl) rfl
theorem q86 : (Jvm.Cond.methodLink "SkinLeagueLaw" (67 : Nat) ({ cls := "SkinLeague", name := "<init>", desc := "()V" } : Jvm.MethodName)) ∈ lw_all := lw_g (lw_at lw_m1 51 rfl) rfl
theorem q205 : (Jvm.Cond.methodLink "SkinLeagueLaw" (71 : Nat) ({ cls := "SkinLeagueLaw", name := "player", desc := "(LSkinLeague;[J)I" } : Jvm.MethodName)) ∈ lw_all := lw_g (lw_at lw_m1 170 rfl) rfl
theorem q206 : (Jvm.Cond.static ({ cls := "SkinLeagueLaw", name := "player", desc := "(LSkinLeague;[J)I" } : Jvm.MethodName)) ∈ lw_all := lw_g (lw_at lw_m1 171 rfl) rfl
theorem q207 : (Jvm.Cond.codeWith ({ cls := "SkinLeagueLaw", name := "player", desc := "(LSkinLeague;[J)I" } : Jvm.MethodName) method_3_code (3 : Nat) (Option.some Jvm.ClassFile.FieldType.int) [((0 : Nat), (8 : Nat), (11 : Nat), (13 : Nat))]) ∈ lw_all := lw_g (lw_at lw_m1 172 rfl) rfl
theorem q208 : (Jvm.Cond.classLink "SkinLeagueLaw" (13 : Nat) "java/lang/IllegalStateException") ∈ lw_all := lw_g (lw_at lw_m1 173 rfl) rfl
theorem q209 : (Jvm.Cond.methodLink "SkinLeagueLaw" (7 : Nat) ({ cls := "SkinLeague", name := "player", desc := "()I" } : Jvm.MethodName)) ∈ lw_all := lw_g (lw_at lw_m1 174 rfl) rfl
theorem q385 : (Jvm.Cond.methodLink "SkinLeagueLaw" (80 : Nat) ({ cls := "SkinLeagueLaw", name := "room", desc := "(LSkinLeague;II[J)I" } : Jvm.MethodName)) ∈ lw_all := lw_g (lw_at lw_m2 110 rfl) rfl
theorem q386 : (Jvm.Cond.static ({ cls := "SkinLeagueLaw", name := "room", desc := "(LSkinLeague;II[J)I" } : Jvm.MethodName)) ∈ lw_all := lw_g (lw_at lw_m2 111 rfl) rfl
theorem q387 : (Jvm.Cond.codeWith ({ cls := "SkinLeagueLaw", name := "room", desc := "(LSkinLeague;II[J)I" } : Jvm.MethodName) method_4_code (5 : Nat) (Option.some Jvm.ClassFile.FieldType.int) [((0 : Nat), (10 : Nat), (13 : Nat), (19 : Nat)), ((0 : Nat), (10 : Nat), (17 : Nat), (21 : Nat))]) ∈ lw_all := lw_g (lw_at lw_m2 112 rfl) rfl
theorem q388 : (Jvm.Cond.classLink "SkinLeagueLaw" (19 : Nat) "java/lang/IndexOutOfBoundsException") ∈ lw_all := lw_g (lw_at lw_m2 113 rfl) rfl
theorem q412 : (Jvm.Cond.classLink "SkinLeagueLaw" (21 : Nat) "java/lang/IllegalArgumentException") ∈ lw_all := lw_g (lw_at lw_m2 137 rfl) rfl
theorem q413 : (Jvm.Cond.methodLink "SkinLeagueLaw" (15 : Nat) ({ cls := "SkinLeague", name := "room", desc := "(II)I" } : Jvm.MethodName)) ∈ lw_all := lw_g (lw_at lw_m2 138 rfl) rfl
theorem q488 : (Jvm.Cond.methodLink "SkinLeagueLaw" (84 : Nat) ({ cls := "SkinLeagueLaw", name := "match", desc := "(LSkinLeague;III[J)I" } : Jvm.MethodName)) ∈ lw_all := lw_g (lw_at lw_m2 213 rfl) rfl
theorem q489 : (Jvm.Cond.static ({ cls := "SkinLeagueLaw", name := "match", desc := "(LSkinLeague;III[J)I" } : Jvm.MethodName)) ∈ lw_all := lw_g (lw_at lw_m2 214 rfl) rfl
theorem q490 : (Jvm.Cond.codeWith ({ cls := "SkinLeagueLaw", name := "match", desc := "(LSkinLeague;III[J)I" } : Jvm.MethodName) method_5_code (6 : Nat) (Option.some Jvm.ClassFile.FieldType.int) [((0 : Nat), (12 : Nat), (15 : Nat), (19 : Nat)), ((0 : Nat), (12 : Nat), (19 : Nat), (21 : Nat)), ((0 : Nat), (12 : Nat), (23 : Nat), (13 : Nat))]) ∈ lw_all := lw_g (lw_at lw_m2 215 rfl) rfl
theorem q491 : (Jvm.Cond.methodLink "SkinLeagueLaw" (23 : Nat) ({ cls := "SkinLeague", name := "match", desc := "(III)I" } : Jvm.MethodName)) ∈ lw_all := lw_g (lw_at lw_m2 216 rfl) rfl
theorem q554 : (Jvm.Cond.methodLink "SkinLeagueLaw" (88 : Nat) ({ cls := "SkinLeagueLaw", name := "end", desc := "(LSkinLeague;[J)I" } : Jvm.MethodName)) ∈ lw_all := lw_g (lw_at lw_m3 39 rfl) rfl
theorem q555 : (Jvm.Cond.static ({ cls := "SkinLeagueLaw", name := "end", desc := "(LSkinLeague;[J)I" } : Jvm.MethodName)) ∈ lw_all := lw_g (lw_at lw_m3 40 rfl) rfl
theorem q556 : (Jvm.Cond.codeWith ({ cls := "SkinLeagueLaw", name := "end", desc := "(LSkinLeague;[J)I" } : Jvm.MethodName) method_6_code (3 : Nat) (Option.some Jvm.ClassFile.FieldType.int) [((0 : Nat), (8 : Nat), (11 : Nat), (13 : Nat))]) ∈ lw_all := lw_g (lw_at lw_m3 41 rfl) rfl
theorem q557 : (Jvm.Cond.methodLink "SkinLeagueLaw" (27 : Nat) ({ cls := "SkinLeague", name := "end", desc := "()I" } : Jvm.MethodName)) ∈ lw_all := lw_g (lw_at lw_m3 42 rfl) rfl
theorem q1412 : (Jvm.Cond.methodLink "SkinLeagueLaw" (91 : Nat) ({ cls := "SkinLeagueLaw", name := "sell", desc := "(LSkinLeague;III[J)I" } : Jvm.MethodName)) ∈ lw_all := lw_g (lw_at lw_m6 177 rfl) rfl
theorem q1413 : (Jvm.Cond.static ({ cls := "SkinLeagueLaw", name := "sell", desc := "(LSkinLeague;III[J)I" } : Jvm.MethodName)) ∈ lw_all := lw_g (lw_at lw_m6 178 rfl) rfl
theorem q1414 : (Jvm.Cond.codeWith ({ cls := "SkinLeagueLaw", name := "sell", desc := "(LSkinLeague;III[J)I" } : Jvm.MethodName) method_7_code (6 : Nat) (Option.some Jvm.ClassFile.FieldType.int) [((0 : Nat), (19 : Nat), (22 : Nat), (19 : Nat)), ((0 : Nat), (19 : Nat), (26 : Nat), (21 : Nat)), ((0 : Nat), (19 : Nat), (30 : Nat), (13 : Nat))]) ∈ lw_all := lw_g (lw_at lw_m6 179 rfl) rfl
theorem q1415 : (Jvm.Cond.methodLink "SkinLeagueLaw" (30 : Nat) ({ cls := "SkinLeague", name := "sell", desc := "(III)Z" } : Jvm.MethodName)) ∈ lw_all := lw_g (lw_at lw_m6 180 rfl) rfl
theorem q1587 : (Jvm.Cond.methodLink "SkinLeagueLaw" (94 : Nat) ({ cls := "SkinLeagueLaw", name := "lend", desc := "(LSkinLeague;III[J)I" } : Jvm.MethodName)) ∈ lw_all := lw_g (lw_at lw_m7 112 rfl) rfl
theorem q1588 : (Jvm.Cond.static ({ cls := "SkinLeagueLaw", name := "lend", desc := "(LSkinLeague;III[J)I" } : Jvm.MethodName)) ∈ lw_all := lw_g (lw_at lw_m7 113 rfl) rfl
theorem q1589 : (Jvm.Cond.codeWith ({ cls := "SkinLeagueLaw", name := "lend", desc := "(LSkinLeague;III[J)I" } : Jvm.MethodName) method_8_code (6 : Nat) (Option.some Jvm.ClassFile.FieldType.int) [((0 : Nat), (12 : Nat), (15 : Nat), (19 : Nat)), ((0 : Nat), (12 : Nat), (19 : Nat), (21 : Nat)), ((0 : Nat), (12 : Nat), (23 : Nat), (13 : Nat))]) ∈ lw_all := lw_g (lw_at lw_m7 114 rfl) rfl
theorem q1590 : (Jvm.Cond.methodLink "SkinLeagueLaw" (34 : Nat) ({ cls := "SkinLeague", name := "lend", desc := "(III)I" } : Jvm.MethodName)) ∈ lw_all := lw_g (lw_at lw_m7 115 rfl) rfl
theorem q1594 : (Jvm.Cond.methodLink "SkinLeagueLaw" (97 : Nat) ({ cls := "SkinLeagueLaw", name := "proof", desc := "(LSkinLeague;II[J)I" } : Jvm.MethodName)) ∈ lw_all := lw_g (lw_at lw_m7 119 rfl) rfl
theorem q1595 : (Jvm.Cond.static ({ cls := "SkinLeagueLaw", name := "proof", desc := "(LSkinLeague;II[J)I" } : Jvm.MethodName)) ∈ lw_all := lw_g (lw_at lw_m7 120 rfl) rfl
theorem q1596 : (Jvm.Cond.codeWith ({ cls := "SkinLeagueLaw", name := "proof", desc := "(LSkinLeague;II[J)I" } : Jvm.MethodName) method_9_code (5 : Nat) (Option.some Jvm.ClassFile.FieldType.int) [((0 : Nat), (10 : Nat), (13 : Nat), (19 : Nat)), ((0 : Nat), (10 : Nat), (17 : Nat), (21 : Nat))]) ∈ lw_all := lw_g (lw_at lw_m7 121 rfl) rfl
theorem q1597 : (Jvm.Cond.methodLink "SkinLeagueLaw" (37 : Nat) ({ cls := "SkinLeague", name := "proof", desc := "(II)I" } : Jvm.MethodName)) ∈ lw_all := lw_g (lw_at lw_m7 122 rfl) rfl
theorem q1657 : (Jvm.Cond.methodLink "SkinLeagueLaw" (100 : Nat) ({ cls := "SkinLeagueLaw", name := "clear", desc := "(LSkinLeague;I[J)I" } : Jvm.MethodName)) ∈ lw_all := lw_g (lw_at lw_m7 182 rfl) rfl
theorem q1658 : (Jvm.Cond.static ({ cls := "SkinLeagueLaw", name := "clear", desc := "(LSkinLeague;I[J)I" } : Jvm.MethodName)) ∈ lw_all := lw_g (lw_at lw_m7 183 rfl) rfl
theorem q1659 : (Jvm.Cond.codeWith ({ cls := "SkinLeagueLaw", name := "clear", desc := "(LSkinLeague;I[J)I" } : Jvm.MethodName) method_10_code (4 : Nat) (Option.some Jvm.ClassFile.FieldType.int) [((0 : Nat), (9 : Nat), (12 : Nat), (19 : Nat)), ((0 : Nat), (9 : Nat), (15 : Nat), (13 : Nat))]) ∈ lw_all := lw_g (lw_at lw_m7 184 rfl) rfl
theorem q1660 : (Jvm.Cond.methodLink "SkinLeagueLaw" (40 : Nat) ({ cls := "SkinLeague", name := "clear", desc := "(I)I" } : Jvm.MethodName)) ∈ lw_all := lw_g (lw_at lw_m7 185 rfl) rfl
theorem q1664 : (Jvm.Cond.methodLink "SkinLeagueLaw" (104 : Nat) ({ cls := "SkinLeagueLaw", name := "ban", desc := "(LSkinLeague;II[J)I" } : Jvm.MethodName)) ∈ lw_all := lw_g (lw_at lw_m7 189 rfl) rfl
theorem q1665 : (Jvm.Cond.static ({ cls := "SkinLeagueLaw", name := "ban", desc := "(LSkinLeague;II[J)I" } : Jvm.MethodName)) ∈ lw_all := lw_g (lw_at lw_m7 190 rfl) rfl
theorem q1666 : (Jvm.Cond.codeWith ({ cls := "SkinLeagueLaw", name := "ban", desc := "(LSkinLeague;II[J)I" } : Jvm.MethodName) method_11_code (5 : Nat) (Option.some Jvm.ClassFile.FieldType.int) [((0 : Nat), (10 : Nat), (13 : Nat), (19 : Nat)), ((0 : Nat), (10 : Nat), (17 : Nat), (21 : Nat))]) ∈ lw_all := lw_g (lw_at lw_m7 191 rfl) rfl
theorem q1667 : (Jvm.Cond.methodLink "SkinLeagueLaw" (44 : Nat) ({ cls := "SkinLeague", name := "ban", desc := "(II)I" } : Jvm.MethodName)) ∈ lw_all := lw_g (lw_at lw_m7 192 rfl) rfl
theorem q1671 : (Jvm.Cond.methodLink "SkinLeagueLaw" (107 : Nat) ({ cls := "SkinLeagueLaw", name := "pass", desc := "(LSkinLeague;I[J)I" } : Jvm.MethodName)) ∈ lw_all := lw_g (lw_at lw_m7 196 rfl) rfl
theorem q1672 : (Jvm.Cond.static ({ cls := "SkinLeagueLaw", name := "pass", desc := "(LSkinLeague;I[J)I" } : Jvm.MethodName)) ∈ lw_all := lw_g (lw_at lw_m7 197 rfl) rfl
theorem q1673 : (Jvm.Cond.codeWith ({ cls := "SkinLeagueLaw", name := "pass", desc := "(LSkinLeague;I[J)I" } : Jvm.MethodName) method_12_code (4 : Nat) (Option.some Jvm.ClassFile.FieldType.int) [((0 : Nat), (9 : Nat), (12 : Nat), (21 : Nat))]) ∈ lw_all := lw_g (lw_at lw_m7 198 rfl) rfl
theorem q1674 : (Jvm.Cond.methodLink "SkinLeagueLaw" (47 : Nat) ({ cls := "SkinLeague", name := "pass", desc := "(I)I" } : Jvm.MethodName)) ∈ lw_all := lw_g (lw_at lw_m7 199 rfl) rfl
theorem q1678 : (Jvm.Cond.methodLink "SkinLeagueLaw" (110 : Nat) ({ cls := "SkinLeagueLaw", name := "stands", desc := "(LSkinLeague;I[J)I" } : Jvm.MethodName)) ∈ lw_all := lw_g (lw_at lw_m7 203 rfl) rfl
theorem q1679 : (Jvm.Cond.static ({ cls := "SkinLeagueLaw", name := "stands", desc := "(LSkinLeague;I[J)I" } : Jvm.MethodName)) ∈ lw_all := lw_g (lw_at lw_m7 204 rfl) rfl
theorem q1680 : (Jvm.Cond.codeWith ({ cls := "SkinLeagueLaw", name := "stands", desc := "(LSkinLeague;I[J)I" } : Jvm.MethodName) method_13_code (4 : Nat) (Option.some Jvm.ClassFile.FieldType.int) [((0 : Nat), (16 : Nat), (19 : Nat), (19 : Nat))]) ∈ lw_all := lw_g (lw_at lw_m7 205 rfl) rfl
theorem q1681 : (Jvm.Cond.methodLink "SkinLeagueLaw" (50 : Nat) ({ cls := "SkinLeague", name := "stands", desc := "(I)Z" } : Jvm.MethodName)) ∈ lw_all := lw_g (lw_at lw_m7 206 rfl) rfl
theorem q1685 : (Jvm.Cond.methodLink "SkinLeagueLaw" (113 : Nat) ({ cls := "SkinLeagueLaw", name := "ranked", desc := "(LSkinLeague;III[J)I" } : Jvm.MethodName)) ∈ lw_all := lw_g (lw_at lw_m7 210 rfl) rfl
theorem q1686 : (Jvm.Cond.static ({ cls := "SkinLeagueLaw", name := "ranked", desc := "(LSkinLeague;III[J)I" } : Jvm.MethodName)) ∈ lw_all := lw_g (lw_at lw_m7 211 rfl) rfl
theorem q1687 : (Jvm.Cond.codeWith ({ cls := "SkinLeagueLaw", name := "ranked", desc := "(LSkinLeague;III[J)I" } : Jvm.MethodName) method_14_code (6 : Nat) (Option.some Jvm.ClassFile.FieldType.int) [((0 : Nat), (12 : Nat), (15 : Nat), (19 : Nat)), ((0 : Nat), (12 : Nat), (19 : Nat), (21 : Nat))]) ∈ lw_all := lw_g (lw_at lw_m7 212 rfl) rfl
theorem q1688 : (Jvm.Cond.methodLink "SkinLeagueLaw" (54 : Nat) ({ cls := "SkinLeague", name := "ranked", desc := "(III)I" } : Jvm.MethodName)) ∈ lw_all := lw_g (lw_at lw_m7 213 rfl) rfl
theorem q1692 : (Jvm.Cond.methodLink "SkinLeagueLaw" (116 : Nat) ({ cls := "SkinLeagueLaw", name := "skinOf", desc := "(LSkinLeague;II[J)I" } : Jvm.MethodName)) ∈ lw_all := lw_g (lw_at lw_m7 217 rfl) rfl
theorem q1693 : (Jvm.Cond.static ({ cls := "SkinLeagueLaw", name := "skinOf", desc := "(LSkinLeague;II[J)I" } : Jvm.MethodName)) ∈ lw_all := lw_g (lw_at lw_m7 218 rfl) rfl
theorem q1694 : (Jvm.Cond.codeWith ({ cls := "SkinLeagueLaw", name := "skinOf", desc := "(LSkinLeague;II[J)I" } : Jvm.MethodName) method_15_code (5 : Nat) (Option.some Jvm.ClassFile.FieldType.int) [((0 : Nat), (10 : Nat), (13 : Nat), (19 : Nat)), ((0 : Nat), (10 : Nat), (17 : Nat), (21 : Nat))]) ∈ lw_all := lw_g (lw_at lw_m7 219 rfl) rfl
theorem q1695 : (Jvm.Cond.methodLink "SkinLeagueLaw" (57 : Nat) ({ cls := "SkinLeague", name := "skinOf", desc := "(II)I" } : Jvm.MethodName)) ∈ lw_all := lw_g (lw_at lw_m7 220 rfl) rfl
theorem q1709 : (Jvm.Cond.methodLink "SkinLeagueLaw" (119 : Nat) ({ cls := "SkinLeagueLaw", name := "money", desc := "(LSkinLeague;I[J)I" } : Jvm.MethodName)) ∈ lw_all := lw_g (lw_at lw_m7 234 rfl) rfl
theorem q1710 : (Jvm.Cond.static ({ cls := "SkinLeagueLaw", name := "money", desc := "(LSkinLeague;I[J)I" } : Jvm.MethodName)) ∈ lw_all := lw_g (lw_at lw_m7 235 rfl) rfl
theorem q1711 : (Jvm.Cond.codeWith ({ cls := "SkinLeagueLaw", name := "money", desc := "(LSkinLeague;I[J)I" } : Jvm.MethodName) method_16_code (4 : Nat) (Option.some Jvm.ClassFile.FieldType.int) [((0 : Nat), (9 : Nat), (12 : Nat), (19 : Nat))]) ∈ lw_all := lw_g (lw_at lw_m7 236 rfl) rfl
theorem q1712 : (Jvm.Cond.methodLink "SkinLeagueLaw" (60 : Nat) ({ cls := "SkinLeague", name := "money", desc := "(I)I" } : Jvm.MethodName)) ∈ lw_all := lw_g (lw_at lw_m7 237 rfl) rfl
theorem q1716 : (Jvm.Cond.methodLink "SkinLeagueLaw" (122 : Nat) ({ cls := "SkinLeagueLaw", name := "label", desc := "(LSkinLeague;II[J)I" } : Jvm.MethodName)) ∈ lw_all := lw_g (lw_at lw_m8 1 rfl) rfl
theorem q1717 : (Jvm.Cond.static ({ cls := "SkinLeagueLaw", name := "label", desc := "(LSkinLeague;II[J)I" } : Jvm.MethodName)) ∈ lw_all := lw_g (lw_at lw_m8 2 rfl) rfl
theorem q1718 : (Jvm.Cond.codeWith ({ cls := "SkinLeagueLaw", name := "label", desc := "(LSkinLeague;II[J)I" } : Jvm.MethodName) method_17_code (5 : Nat) (Option.some Jvm.ClassFile.FieldType.int) [((0 : Nat), (10 : Nat), (13 : Nat), (19 : Nat))]) ∈ lw_all := lw_g (lw_at lw_m8 3 rfl) rfl
theorem q1719 : (Jvm.Cond.methodLink "SkinLeagueLaw" (63 : Nat) ({ cls := "SkinLeague", name := "label", desc := "(II)C" } : Jvm.MethodName)) ∈ lw_all := lw_g (lw_at lw_m8 4 rfl) rfl
theorem q1830 : (Jvm.Cond.classLink "SkinLeagueLaw" (68 : Nat) "SkinLeagueModel") ∈ lw_all := lw_g (lw_at lw_m8 115 rfl) rfl
theorem q1832 : (Jvm.Cond.methodLink "SkinLeagueLaw" (70 : Nat) ({ cls := "SkinLeagueModel", name := "<init>", desc := "()V" } : Jvm.MethodName)) ∈ lw_all := lw_g (lw_at lw_m8 117 rfl) rfl
theorem q1927 : (Jvm.Cond.methodLink "SkinLeagueLaw" (77 : Nat) ({ cls := "SkinLeagueModel", name := "thrown", desc := "()I" } : Jvm.MethodName)) ∈ lw_all := lw_g (lw_at lw_m8 212 rfl) rfl
theorem q1931 : (Jvm.Cond.methodLink "SkinLeagueLaw" (76 : Nat) ({ cls := "SkinLeagueModel", name := "player", desc := "()I" } : Jvm.MethodName)) ∈ lw_all := lw_g (lw_at lw_m8 216 rfl) rfl
theorem q1939 : (Jvm.Cond.methodLink "SkinLeagueLaw" (83 : Nat) ({ cls := "SkinLeagueModel", name := "room", desc := "(II)I" } : Jvm.MethodName)) ∈ lw_all := lw_g (lw_at lw_m8 224 rfl) rfl
theorem q1953 : (Jvm.Cond.methodLink "SkinLeagueLaw" (87 : Nat) ({ cls := "SkinLeagueModel", name := "match", desc := "(III)I" } : Jvm.MethodName)) ∈ lw_all := lw_g (lw_at lw_m8 238 rfl) rfl
theorem q1965 : (Jvm.Cond.methodLink "SkinLeagueLaw" (90 : Nat) ({ cls := "SkinLeagueModel", name := "end", desc := "()I" } : Jvm.MethodName)) ∈ lw_all := lw_g (lw_at lw_m9 10 rfl) rfl
theorem q1989 : (Jvm.Cond.methodLink "SkinLeagueLaw" (93 : Nat) ({ cls := "SkinLeagueModel", name := "sell", desc := "(III)Z" } : Jvm.MethodName)) ∈ lw_all := lw_g (lw_at lw_m9 34 rfl) rfl
theorem q1997 : (Jvm.Cond.methodLink "SkinLeagueLaw" (96 : Nat) ({ cls := "SkinLeagueModel", name := "lend", desc := "(III)I" } : Jvm.MethodName)) ∈ lw_all := lw_g (lw_at lw_m9 42 rfl) rfl
theorem q2001 : (Jvm.Cond.methodLink "SkinLeagueLaw" (99 : Nat) ({ cls := "SkinLeagueModel", name := "proof", desc := "(II)I" } : Jvm.MethodName)) ∈ lw_all := lw_g (lw_at lw_m9 46 rfl) rfl
theorem q2017 : (Jvm.Cond.methodLink "SkinLeagueLaw" (103 : Nat) ({ cls := "SkinLeagueModel", name := "clear", desc := "(I)I" } : Jvm.MethodName)) ∈ lw_all := lw_g (lw_at lw_m9 62 rfl) rfl
theorem q2021 : (Jvm.Cond.methodLink "SkinLeagueLaw" (106 : Nat) ({ cls := "SkinLeagueModel", name := "ban", desc := "(II)I" } : Jvm.MethodName)) ∈ lw_all := lw_g (lw_at lw_m9 66 rfl) rfl
theorem q2025 : (Jvm.Cond.methodLink "SkinLeagueLaw" (109 : Nat) ({ cls := "SkinLeagueModel", name := "pass", desc := "(I)I" } : Jvm.MethodName)) ∈ lw_all := lw_g (lw_at lw_m9 70 rfl) rfl
theorem q2029 : (Jvm.Cond.methodLink "SkinLeagueLaw" (112 : Nat) ({ cls := "SkinLeagueModel", name := "stands", desc := "(I)Z" } : Jvm.MethodName)) ∈ lw_all := lw_g (lw_at lw_m9 74 rfl) rfl
theorem q2033 : (Jvm.Cond.methodLink "SkinLeagueLaw" (115 : Nat) ({ cls := "SkinLeagueModel", name := "ranked", desc := "(III)I" } : Jvm.MethodName)) ∈ lw_all := lw_g (lw_at lw_m9 78 rfl) rfl
theorem q2037 : (Jvm.Cond.methodLink "SkinLeagueLaw" (118 : Nat) ({ cls := "SkinLeagueModel", name := "skinOf", desc := "(II)I" } : Jvm.MethodName)) ∈ lw_all := lw_g (lw_at lw_m9 82 rfl) rfl
theorem q2045 : (Jvm.Cond.methodLink "SkinLeagueLaw" (121 : Nat) ({ cls := "SkinLeagueModel", name := "money", desc := "(I)I" } : Jvm.MethodName)) ∈ lw_all := lw_g (lw_at lw_m9 90 rfl) rfl
theorem q2049 : (Jvm.Cond.methodLink "SkinLeagueLaw" (124 : Nat) ({ cls := "SkinLeagueModel", name := "label", desc := "(II)C" } : Jvm.MethodName)) ∈ lw_all := lw_g (lw_at lw_m9 94 rfl) rfl
/-! the law's own entry -/
abbrev cL_law : ByteArray := code
def dkwL_law_45 : List UInt8 := [167, 0, 3, 132, 4, 4, 167, 251, 202, 4, 172]
abbrev dktL_law_45 : List UInt8 := dkwL_law_45 ++ []
def dkwL_law_44 : List UInt8 := [159, 0, 5, 3, 172, 21, 5, 154, 0, 15, 45, 3, 47, 21, 6, 133, 148, 153, 0, 5, 3, 172]
abbrev dktL_law_44 : List UInt8 := dkwL_law_44 ++ dktL_law_45
def dkwL_law_43 : List UInt8 := [21, 4, 4, 96, 46, 42, 21, 4, 5, 96, 46, 182, 0, 124, 54, 6, 44, 182, 0, 77, 21, 5]
abbrev dktL_law_43 : List UInt8 := dkwL_law_43 ++ dktL_law_44
def dkwL_law_42 : List UInt8 := [167, 0, 71, 43, 42, 21, 4, 4, 96, 46, 42, 21, 4, 5, 96, 46, 45, 184, 0, 122, 54, 5, 44, 42]
abbrev dktL_law_42 : List UInt8 := dkwL_law_42 ++ dktL_law_43
def dkwL_law_41 : List UInt8 := [159, 0, 5, 3, 172, 21, 5, 154, 0, 15, 45, 3, 47, 21, 6, 133, 148, 153, 0, 5, 3, 172]
abbrev dktL_law_41 : List UInt8 := dkwL_law_41 ++ dktL_law_42
def dkwL_law_40 : List UInt8 := [184, 0, 119, 54, 5, 44, 42, 21, 4, 4, 96, 46, 182, 0, 121, 54, 6, 44, 182, 0, 77, 21, 5]
abbrev dktL_law_40 : List UInt8 := dkwL_law_40 ++ dktL_law_41
def dkwL_law_39 : List UInt8 := [3, 47, 21, 6, 133, 148, 153, 0, 5, 3, 172, 167, 0, 127, 43, 42, 21, 4, 4, 96, 46, 45]
abbrev dktL_law_39 : List UInt8 := dkwL_law_39 ++ dktL_law_40
def dkwL_law_38 : List UInt8 := [96, 46, 182, 0, 118, 54, 6, 44, 182, 0, 77, 21, 5, 159, 0, 5, 3, 172, 21, 5, 154, 0, 15, 45]
abbrev dktL_law_38 : List UInt8 := dkwL_law_38 ++ dktL_law_39
def dkwL_law_37 : List UInt8 := [46, 42, 21, 4, 5, 96, 46, 45, 184, 0, 116, 54, 5, 44, 42, 21, 4, 4, 96, 46, 42, 21, 4, 5]
abbrev dktL_law_37 : List UInt8 := dkwL_law_37 ++ dktL_law_38
def dkwL_law_36 : List UInt8 := [154, 0, 15, 45, 3, 47, 21, 6, 133, 148, 153, 0, 5, 3, 172, 167, 0, 195, 43, 42, 21, 4, 4, 96]
abbrev dktL_law_36 : List UInt8 := dkwL_law_36 ++ dktL_law_37
def dkwL_law_35 : List UInt8 := [42, 21, 4, 6, 96, 46, 182, 0, 115, 54, 6, 44, 182, 0, 77, 21, 5, 159, 0, 5, 3, 172, 21, 5]
abbrev dktL_law_35 : List UInt8 := dkwL_law_35 ++ dktL_law_36
def dkwL_law_34 : List UInt8 := [21, 4, 6, 96, 46, 45, 184, 0, 113, 54, 5, 44, 42, 21, 4, 4, 96, 46, 42, 21, 4, 5, 96, 46]
abbrev dktL_law_34 : List UInt8 := dkwL_law_34 ++ dktL_law_35
def dkwL_law_33 : List UInt8 := [9, 148, 153, 0, 5, 3, 172, 167, 1, 19, 43, 42, 21, 4, 4, 96, 46, 42, 21, 4, 5, 96, 46, 42]
abbrev dktL_law_33 : List UInt8 := dkwL_law_33 ++ dktL_law_34
def dkwL_law_32 : List UInt8 := [21, 5, 159, 0, 5, 3, 172, 21, 5, 154, 0, 22, 45, 3, 47, 21, 6, 153, 0, 7, 10, 167, 0, 4]
abbrev dktL_law_32 : List UInt8 := dkwL_law_32 ++ dktL_law_33
def dkwL_law_31 : List UInt8 := [46, 45, 184, 0, 110, 54, 5, 44, 42, 21, 4, 4, 96, 46, 182, 0, 112, 54, 6, 44, 182, 0, 77]
abbrev dktL_law_31 : List UInt8 := dkwL_law_31 ++ dktL_law_32
def dkwL_law_30 : List UInt8 := [154, 0, 15, 45, 3, 47, 21, 6, 133, 148, 153, 0, 5, 3, 172, 167, 1, 82, 43, 42, 21, 4, 4, 96]
abbrev dktL_law_30 : List UInt8 := dkwL_law_30 ++ dktL_law_31
def dkwL_law_29 : List UInt8 := [21, 4, 4, 96, 46, 182, 0, 109, 54, 6, 44, 182, 0, 77, 21, 5, 159, 0, 5, 3, 172, 21, 5]
abbrev dktL_law_29 : List UInt8 := dkwL_law_29 ++ dktL_law_30
def dkwL_law_28 : List UInt8 := [148, 153, 0, 5, 3, 172, 167, 1, 138, 43, 42, 21, 4, 4, 96, 46, 45, 184, 0, 107, 54, 5, 44, 42]
abbrev dktL_law_28 : List UInt8 := dkwL_law_28 ++ dktL_law_29
def dkwL_law_27 : List UInt8 := [54, 6, 44, 182, 0, 77, 21, 5, 159, 0, 5, 3, 172, 21, 5, 154, 0, 15, 45, 3, 47, 21, 6, 133]
abbrev dktL_law_27 : List UInt8 := dkwL_law_27 ++ dktL_law_28
def dkwL_law_26 : List UInt8 := [46, 45, 184, 0, 104, 54, 5, 44, 42, 21, 4, 4, 96, 46, 42, 21, 4, 5, 96, 46, 182, 0, 106]
abbrev dktL_law_26 : List UInt8 := dkwL_law_26 ++ dktL_law_27
def dkwL_law_25 : List UInt8 := [21, 6, 133, 148, 153, 0, 5, 3, 172, 167, 1, 206, 43, 42, 21, 4, 4, 96, 46, 42, 21, 4, 5, 96]
abbrev dktL_law_25 : List UInt8 := dkwL_law_25 ++ dktL_law_26
def dkwL_law_24 : List UInt8 := [182, 0, 103, 54, 6, 44, 182, 0, 77, 21, 5, 159, 0, 5, 3, 172, 21, 5, 154, 0, 15, 45, 3, 47]
abbrev dktL_law_24 : List UInt8 := dkwL_law_24 ++ dktL_law_25
def dkwL_law_23 : List UInt8 := [167, 2, 6, 43, 42, 21, 4, 4, 96, 46, 45, 184, 0, 100, 54, 5, 44, 42, 21, 4, 4, 96, 46]
abbrev dktL_law_23 : List UInt8 := dkwL_law_23 ++ dktL_law_24
def dkwL_law_22 : List UInt8 := [159, 0, 5, 3, 172, 21, 5, 154, 0, 15, 45, 3, 47, 21, 6, 133, 148, 153, 0, 5, 3, 172]
abbrev dktL_law_22 : List UInt8 := dkwL_law_22 ++ dktL_law_23
def dkwL_law_21 : List UInt8 := [21, 4, 4, 96, 46, 42, 21, 4, 5, 96, 46, 182, 0, 99, 54, 6, 44, 182, 0, 77, 21, 5]
abbrev dktL_law_21 : List UInt8 := dkwL_law_21 ++ dktL_law_22
def dkwL_law_20 : List UInt8 := [167, 2, 74, 43, 42, 21, 4, 4, 96, 46, 42, 21, 4, 5, 96, 46, 45, 184, 0, 97, 54, 5, 44, 42]
abbrev dktL_law_20 : List UInt8 := dkwL_law_20 ++ dktL_law_21
def dkwL_law_19 : List UInt8 := [21, 5, 159, 0, 5, 3, 172, 21, 5, 154, 0, 15, 45, 3, 47, 21, 6, 133, 148, 153, 0, 5, 3, 172]
abbrev dktL_law_19 : List UInt8 := dkwL_law_19 ++ dktL_law_20
def dkwL_law_18 : List UInt8 := [4, 96, 46, 42, 21, 4, 5, 96, 46, 42, 21, 4, 6, 96, 46, 182, 0, 96, 54, 6, 44, 182, 0, 77]
abbrev dktL_law_18 : List UInt8 := dkwL_law_18 ++ dktL_law_19
def dkwL_law_17 : List UInt8 := [96, 46, 42, 21, 4, 5, 96, 46, 42, 21, 4, 6, 96, 46, 45, 184, 0, 94, 54, 5, 44, 42, 21, 4]
abbrev dktL_law_17 : List UInt8 := dkwL_law_17 ++ dktL_law_18
def dkwL_law_16 : List UInt8 := [21, 6, 153, 0, 7, 10, 167, 0, 4, 9, 148, 153, 0, 5, 3, 172, 167, 2, 154, 43, 42, 21, 4, 4]
abbrev dktL_law_16 : List UInt8 := dkwL_law_16 ++ dktL_law_17
def dkwL_law_15 : List UInt8 := [182, 0, 93, 54, 6, 44, 182, 0, 77, 21, 5, 159, 0, 5, 3, 172, 21, 5, 154, 0, 22, 45, 3, 47]
abbrev dktL_law_15 : List UInt8 := dkwL_law_15 ++ dktL_law_16
def dkwL_law_14 : List UInt8 := [184, 0, 91, 54, 5, 44, 42, 21, 4, 4, 96, 46, 42, 21, 4, 5, 96, 46, 42, 21, 4, 6, 96, 46]
abbrev dktL_law_14 : List UInt8 := dkwL_law_14 ++ dktL_law_15
def dkwL_law_13 : List UInt8 := [167, 2, 241, 43, 42, 21, 4, 4, 96, 46, 42, 21, 4, 5, 96, 46, 42, 21, 4, 6, 96, 46, 45]
abbrev dktL_law_13 : List UInt8 := dkwL_law_13 ++ dktL_law_14
def dkwL_law_12 : List UInt8 := [159, 0, 5, 3, 172, 21, 5, 154, 0, 15, 45, 3, 47, 21, 6, 133, 148, 153, 0, 5, 3, 172]
abbrev dktL_law_12 : List UInt8 := dkwL_law_12 ++ dktL_law_13
def dkwL_law_11 : List UInt8 := [167, 3, 29, 43, 45, 184, 0, 88, 54, 5, 44, 182, 0, 90, 54, 6, 44, 182, 0, 77, 21, 5]
abbrev dktL_law_11 : List UInt8 := dkwL_law_11 ++ dktL_law_12
def dkwL_law_10 : List UInt8 := [21, 5, 159, 0, 5, 3, 172, 21, 5, 154, 0, 15, 45, 3, 47, 21, 6, 133, 148, 153, 0, 5, 3, 172]
abbrev dktL_law_10 : List UInt8 := dkwL_law_10 ++ dktL_law_11
def dkwL_law_9 : List UInt8 := [96, 46, 42, 21, 4, 5, 96, 46, 42, 21, 4, 6, 96, 46, 182, 0, 87, 54, 6, 44, 182, 0, 77]
abbrev dktL_law_9 : List UInt8 := dkwL_law_9 ++ dktL_law_10
def dkwL_law_8 : List UInt8 := [46, 42, 21, 4, 5, 96, 46, 42, 21, 4, 6, 96, 46, 45, 184, 0, 84, 54, 5, 44, 42, 21, 4, 4]
abbrev dktL_law_8 : List UInt8 := dkwL_law_8 ++ dktL_law_9
def dkwL_law_7 : List UInt8 := [154, 0, 15, 45, 3, 47, 21, 6, 133, 148, 153, 0, 5, 3, 172, 167, 3, 109, 43, 42, 21, 4, 4, 96]
abbrev dktL_law_7 : List UInt8 := dkwL_law_7 ++ dktL_law_8
def dkwL_law_6 : List UInt8 := [21, 4, 5, 96, 46, 182, 0, 83, 54, 6, 44, 182, 0, 77, 21, 5, 159, 0, 5, 3, 172, 21, 5]
abbrev dktL_law_6 : List UInt8 := dkwL_law_6 ++ dktL_law_7
def dkwL_law_5 : List UInt8 := [4, 96, 46, 42, 21, 4, 5, 96, 46, 45, 184, 0, 80, 54, 5, 44, 42, 21, 4, 4, 96, 46, 42]
abbrev dktL_law_5 : List UInt8 := dkwL_law_5 ++ dktL_law_6
def dkwL_law_4 : List UInt8 := [21, 5, 154, 0, 15, 45, 3, 47, 21, 6, 133, 148, 153, 0, 5, 3, 172, 167, 3, 177, 43, 42, 21, 4]
abbrev dktL_law_4 : List UInt8 := dkwL_law_4 ++ dktL_law_5
def dkwL_law_3 : List UInt8 := [43, 45, 184, 0, 71, 54, 5, 44, 182, 0, 76, 54, 6, 44, 182, 0, 77, 21, 5, 159, 0, 5, 3, 172]
abbrev dktL_law_3 : List UInt8 := dkwL_law_3 ++ dktL_law_4
def dkwL_law_2 : List UInt8 := [170, 0, 0, 4, 35, 0, 0, 0, 0, 0, 0, 0, 14, 0, 0, 0, 73, 0, 0, 0, 117, 0, 0, 0, 185, 0, 0, 1, 9, 0, 0, 1, 53, 0, 0, 1, 140, 0, 0, 1, 220, 0, 0, 2, 32, 0, 0, 2, 88, 0, 0, 2, 156, 0, 0, 2, 212, 0, 0, 3, 19, 0, 0, 3, 99, 0, 0, 3, 167, 0, 0, 3, 223]
abbrev dktL_law_2 : List UInt8 := dkwL_law_2 ++ dktL_law_3
def dkwL_law_1 : List UInt8 := [21, 4, 42, 190, 7, 100, 163, 4, 51, 42, 21, 4, 46, 16, 15, 126]
abbrev dktL_law_1 : List UInt8 := dkwL_law_1 ++ dktL_law_2
def dkwL_law_0 : List UInt8 := [187, 0, 8, 89, 183, 0, 67, 76, 187, 0, 68, 89, 183, 0, 70, 77, 4, 188, 11, 78, 3, 54, 4]
abbrev dktL_law_0 : List UInt8 := dkwL_law_0 ++ dktL_law_1
theorem dksL_law_0 : cL_law.data.toList.drop 0 = dktL_law_0 := by decide +kernel
theorem dksL_law_1 : cL_law.data.toList.drop 23 = dktL_law_1 := dk_seg dksL_law_0 23 rfl rfl
theorem dksL_law_2 : cL_law.data.toList.drop 39 = dktL_law_2 := dk_seg dksL_law_1 16 rfl rfl
theorem dksL_law_3 : cL_law.data.toList.drop 112 = dktL_law_3 := dk_seg dksL_law_2 73 rfl rfl
theorem dksL_law_4 : cL_law.data.toList.drop 136 = dktL_law_4 := dk_seg dksL_law_3 24 rfl rfl
theorem dksL_law_5 : cL_law.data.toList.drop 160 = dktL_law_5 := dk_seg dksL_law_4 24 rfl rfl
theorem dksL_law_6 : cL_law.data.toList.drop 183 = dktL_law_6 := dk_seg dksL_law_5 23 rfl rfl
theorem dksL_law_7 : cL_law.data.toList.drop 206 = dktL_law_7 := dk_seg dksL_law_6 23 rfl rfl
theorem dksL_law_8 : cL_law.data.toList.drop 230 = dktL_law_8 := dk_seg dksL_law_7 24 rfl rfl
theorem dksL_law_9 : cL_law.data.toList.drop 254 = dktL_law_9 := dk_seg dksL_law_8 24 rfl rfl
theorem dksL_law_10 : cL_law.data.toList.drop 277 = dktL_law_10 := dk_seg dksL_law_9 23 rfl rfl
theorem dksL_law_11 : cL_law.data.toList.drop 301 = dktL_law_11 := dk_seg dksL_law_10 24 rfl rfl
theorem dksL_law_12 : cL_law.data.toList.drop 323 = dktL_law_12 := dk_seg dksL_law_11 22 rfl rfl
theorem dksL_law_13 : cL_law.data.toList.drop 345 = dktL_law_13 := dk_seg dksL_law_12 22 rfl rfl
theorem dksL_law_14 : cL_law.data.toList.drop 368 = dktL_law_14 := dk_seg dksL_law_13 23 rfl rfl
theorem dksL_law_15 : cL_law.data.toList.drop 392 = dktL_law_15 := dk_seg dksL_law_14 24 rfl rfl
theorem dksL_law_16 : cL_law.data.toList.drop 416 = dktL_law_16 := dk_seg dksL_law_15 24 rfl rfl
theorem dksL_law_17 : cL_law.data.toList.drop 440 = dktL_law_17 := dk_seg dksL_law_16 24 rfl rfl
theorem dksL_law_18 : cL_law.data.toList.drop 464 = dktL_law_18 := dk_seg dksL_law_17 24 rfl rfl
theorem dksL_law_19 : cL_law.data.toList.drop 488 = dktL_law_19 := dk_seg dksL_law_18 24 rfl rfl
theorem dksL_law_20 : cL_law.data.toList.drop 512 = dktL_law_20 := dk_seg dksL_law_19 24 rfl rfl
theorem dksL_law_21 : cL_law.data.toList.drop 536 = dktL_law_21 := dk_seg dksL_law_20 24 rfl rfl
theorem dksL_law_22 : cL_law.data.toList.drop 558 = dktL_law_22 := dk_seg dksL_law_21 22 rfl rfl
theorem dksL_law_23 : cL_law.data.toList.drop 580 = dktL_law_23 := dk_seg dksL_law_22 22 rfl rfl
theorem dksL_law_24 : cL_law.data.toList.drop 603 = dktL_law_24 := dk_seg dksL_law_23 23 rfl rfl
theorem dksL_law_25 : cL_law.data.toList.drop 627 = dktL_law_25 := dk_seg dksL_law_24 24 rfl rfl
theorem dksL_law_26 : cL_law.data.toList.drop 651 = dktL_law_26 := dk_seg dksL_law_25 24 rfl rfl
theorem dksL_law_27 : cL_law.data.toList.drop 674 = dktL_law_27 := dk_seg dksL_law_26 23 rfl rfl
theorem dksL_law_28 : cL_law.data.toList.drop 698 = dktL_law_28 := dk_seg dksL_law_27 24 rfl rfl
theorem dksL_law_29 : cL_law.data.toList.drop 722 = dktL_law_29 := dk_seg dksL_law_28 24 rfl rfl
theorem dksL_law_30 : cL_law.data.toList.drop 745 = dktL_law_30 := dk_seg dksL_law_29 23 rfl rfl
theorem dksL_law_31 : cL_law.data.toList.drop 769 = dktL_law_31 := dk_seg dksL_law_30 24 rfl rfl
theorem dksL_law_32 : cL_law.data.toList.drop 792 = dktL_law_32 := dk_seg dksL_law_31 23 rfl rfl
theorem dksL_law_33 : cL_law.data.toList.drop 816 = dktL_law_33 := dk_seg dksL_law_32 24 rfl rfl
theorem dksL_law_34 : cL_law.data.toList.drop 840 = dktL_law_34 := dk_seg dksL_law_33 24 rfl rfl
theorem dksL_law_35 : cL_law.data.toList.drop 864 = dktL_law_35 := dk_seg dksL_law_34 24 rfl rfl
theorem dksL_law_36 : cL_law.data.toList.drop 888 = dktL_law_36 := dk_seg dksL_law_35 24 rfl rfl
theorem dksL_law_37 : cL_law.data.toList.drop 912 = dktL_law_37 := dk_seg dksL_law_36 24 rfl rfl
theorem dksL_law_38 : cL_law.data.toList.drop 936 = dktL_law_38 := dk_seg dksL_law_37 24 rfl rfl
theorem dksL_law_39 : cL_law.data.toList.drop 960 = dktL_law_39 := dk_seg dksL_law_38 24 rfl rfl
theorem dksL_law_40 : cL_law.data.toList.drop 982 = dktL_law_40 := dk_seg dksL_law_39 22 rfl rfl
theorem dksL_law_41 : cL_law.data.toList.drop 1005 = dktL_law_41 := dk_seg dksL_law_40 23 rfl rfl
theorem dksL_law_42 : cL_law.data.toList.drop 1027 = dktL_law_42 := dk_seg dksL_law_41 22 rfl rfl
theorem dksL_law_43 : cL_law.data.toList.drop 1051 = dktL_law_43 := dk_seg dksL_law_42 24 rfl rfl
theorem dksL_law_44 : cL_law.data.toList.drop 1073 = dktL_law_44 := dk_seg dksL_law_43 22 rfl rfl
theorem dksL_law_45 : cL_law.data.toList.drop 1095 = dktL_law_45 := dk_seg dksL_law_44 22 rfl rfl
theorem dL_law_0 : decode cL_law 0 = .ok (.new 8, 3) := dk_187 0 8 (dk_at dksL_law_0 0 rfl rfl)
theorem dL_law_3 : decode cL_law 3 = .ok (.dup, 1) := dk_89 (dk_at dksL_law_0 3 rfl rfl)
theorem dL_law_4 : decode cL_law 4 = .ok (.invokespecial 67, 3) := dk_183 0 67 (dk_at dksL_law_0 4 rfl rfl)
theorem dL_law_7 : decode cL_law 7 = .ok (.astore_n 1, 1) := dk_76 (dk_at dksL_law_0 7 rfl rfl)
theorem dL_law_8 : decode cL_law 8 = .ok (.new 68, 3) := dk_187 0 68 (dk_at dksL_law_0 8 rfl rfl)
theorem dL_law_11 : decode cL_law 11 = .ok (.dup, 1) := dk_89 (dk_at dksL_law_0 11 rfl rfl)
theorem dL_law_12 : decode cL_law 12 = .ok (.invokespecial 70, 3) := dk_183 0 70 (dk_at dksL_law_0 12 rfl rfl)
theorem dL_law_15 : decode cL_law 15 = .ok (.astore_n 2, 1) := dk_77 (dk_at dksL_law_0 15 rfl rfl)
theorem dL_law_16 : decode cL_law 16 = .ok (.iconst 1, 1) := dk_4 (dk_at dksL_law_0 16 rfl rfl)
theorem dL_law_17 : decode cL_law 17 = .ok (.newarray .long, 2) := dk_188_11 (dk_at dksL_law_0 17 rfl rfl)
theorem dL_law_19 : decode cL_law 19 = .ok (.astore_n 3, 1) := dk_78 (dk_at dksL_law_0 19 rfl rfl)
theorem dL_law_20 : decode cL_law 20 = .ok (.iconst 0, 1) := dk_3 (dk_at dksL_law_0 20 rfl rfl)
theorem dL_law_21 : decode cL_law 21 = .ok (.istore 4, 2) := dk_54 4 (dk_at dksL_law_0 21 rfl rfl)
theorem dL_law_23 : decode cL_law 23 = .ok (.iload 4, 2) := dk_21 4 (dk_at dksL_law_1 0 rfl rfl)
theorem dL_law_25 : decode cL_law 25 = .ok (.aload_n 0, 1) := dk_42 (dk_at dksL_law_1 2 rfl rfl)
theorem dL_law_26 : decode cL_law 26 = .ok (.arraylength, 1) := dk_190 (dk_at dksL_law_1 3 rfl rfl)
theorem dL_law_27 : decode cL_law 27 = .ok (.iconst 4, 1) := dk_7 (dk_at dksL_law_1 4 rfl rfl)
theorem dL_law_28 : decode cL_law 28 = .ok (.isub, 1) := dk_100 (dk_at dksL_law_1 5 rfl rfl)
theorem dL_law_29 : decode cL_law 29 = .ok (.if_icmp .gt 1075, 3) := dk_163 4 51 (dk_at dksL_law_1 6 rfl rfl)
theorem dL_law_32 : decode cL_law 32 = .ok (.aload_n 0, 1) := dk_42 (dk_at dksL_law_1 9 rfl rfl)
theorem dL_law_33 : decode cL_law 33 = .ok (.iload 4, 2) := dk_21 4 (dk_at dksL_law_1 10 rfl rfl)
theorem dL_law_35 : decode cL_law 35 = .ok (.iaload, 1) := dk_46 (dk_at dksL_law_1 12 rfl rfl)
theorem dL_law_36 : decode cL_law 36 = .ok (.bipush 15, 2) := dk_16 15 (dk_at dksL_law_1 13 rfl rfl)
theorem dL_law_38 : decode cL_law 38 = .ok (.iand, 1) := dk_126 (dk_at dksL_law_1 15 rfl rfl)
theorem dL_law_39 : decode cL_law 39 = .ok (.tableswitch 1059 0 14 #[73, 117, 185, 265, 309, 396, 476, 544, 600, 668, 724, 787, 867, 935, 991], 73) := by decide +kernel
theorem dL_law_112 : decode cL_law 112 = .ok (.aload_n 1, 1) := dk_43 (dk_at dksL_law_3 0 rfl rfl)
theorem dL_law_113 : decode cL_law 113 = .ok (.aload_n 3, 1) := dk_45 (dk_at dksL_law_3 1 rfl rfl)
theorem dL_law_114 : decode cL_law 114 = .ok (.invokestatic 71, 3) := dk_184 0 71 (dk_at dksL_law_3 2 rfl rfl)
theorem dL_law_117 : decode cL_law 117 = .ok (.istore 5, 2) := dk_54 5 (dk_at dksL_law_3 5 rfl rfl)
theorem dL_law_119 : decode cL_law 119 = .ok (.aload_n 2, 1) := dk_44 (dk_at dksL_law_3 7 rfl rfl)
theorem dL_law_120 : decode cL_law 120 = .ok (.invokevirtual 76, 3) := dk_182 0 76 (dk_at dksL_law_3 8 rfl rfl)
theorem dL_law_123 : decode cL_law 123 = .ok (.istore 6, 2) := dk_54 6 (dk_at dksL_law_3 11 rfl rfl)
theorem dL_law_125 : decode cL_law 125 = .ok (.aload_n 2, 1) := dk_44 (dk_at dksL_law_3 13 rfl rfl)
theorem dL_law_126 : decode cL_law 126 = .ok (.invokevirtual 77, 3) := dk_182 0 77 (dk_at dksL_law_3 14 rfl rfl)
theorem dL_law_129 : decode cL_law 129 = .ok (.iload 5, 2) := dk_21 5 (dk_at dksL_law_3 17 rfl rfl)
theorem dL_law_131 : decode cL_law 131 = .ok (.if_icmp .eq 5, 3) := dk_159 0 5 (dk_at dksL_law_3 19 rfl rfl)
theorem dL_law_134 : decode cL_law 134 = .ok (.iconst 0, 1) := dk_3 (dk_at dksL_law_3 22 rfl rfl)
theorem dL_law_135 : decode cL_law 135 = .ok (.ireturn, 1) := dk_172 (dk_at dksL_law_3 23 rfl rfl)
theorem dL_law_136 : decode cL_law 136 = .ok (.iload 5, 2) := dk_21 5 (dk_at dksL_law_4 0 rfl rfl)
theorem dL_law_138 : decode cL_law 138 = .ok (.ifCond .ne 15, 3) := dk_154 0 15 (dk_at dksL_law_4 2 rfl rfl)
theorem dL_law_141 : decode cL_law 141 = .ok (.aload_n 3, 1) := dk_45 (dk_at dksL_law_4 5 rfl rfl)
theorem dL_law_142 : decode cL_law 142 = .ok (.iconst 0, 1) := dk_3 (dk_at dksL_law_4 6 rfl rfl)
theorem dL_law_143 : decode cL_law 143 = .ok (.laload, 1) := dk_47 (dk_at dksL_law_4 7 rfl rfl)
theorem dL_law_144 : decode cL_law 144 = .ok (.iload 6, 2) := dk_21 6 (dk_at dksL_law_4 8 rfl rfl)
theorem dL_law_146 : decode cL_law 146 = .ok (.i2l, 1) := dk_133 (dk_at dksL_law_4 10 rfl rfl)
theorem dL_law_147 : decode cL_law 147 = .ok (.lcmp, 1) := dk_148 (dk_at dksL_law_4 11 rfl rfl)
theorem dL_law_148 : decode cL_law 148 = .ok (.ifCond .eq 5, 3) := dk_153 0 5 (dk_at dksL_law_4 12 rfl rfl)
theorem dL_law_151 : decode cL_law 151 = .ok (.iconst 0, 1) := dk_3 (dk_at dksL_law_4 15 rfl rfl)
theorem dL_law_152 : decode cL_law 152 = .ok (.ireturn, 1) := dk_172 (dk_at dksL_law_4 16 rfl rfl)
theorem dL_law_153 : decode cL_law 153 = .ok (.goto 945, 3) := dk_167 3 177 (dk_at dksL_law_4 17 rfl rfl)
theorem dL_law_156 : decode cL_law 156 = .ok (.aload_n 1, 1) := dk_43 (dk_at dksL_law_4 20 rfl rfl)
theorem dL_law_157 : decode cL_law 157 = .ok (.aload_n 0, 1) := dk_42 (dk_at dksL_law_4 21 rfl rfl)
theorem dL_law_158 : decode cL_law 158 = .ok (.iload 4, 2) := dk_21 4 (dk_at dksL_law_4 22 rfl rfl)
theorem dL_law_160 : decode cL_law 160 = .ok (.iconst 1, 1) := dk_4 (dk_at dksL_law_5 0 rfl rfl)
theorem dL_law_161 : decode cL_law 161 = .ok (.iadd, 1) := dk_96 (dk_at dksL_law_5 1 rfl rfl)
theorem dL_law_162 : decode cL_law 162 = .ok (.iaload, 1) := dk_46 (dk_at dksL_law_5 2 rfl rfl)
theorem dL_law_163 : decode cL_law 163 = .ok (.aload_n 0, 1) := dk_42 (dk_at dksL_law_5 3 rfl rfl)
theorem dL_law_164 : decode cL_law 164 = .ok (.iload 4, 2) := dk_21 4 (dk_at dksL_law_5 4 rfl rfl)
theorem dL_law_166 : decode cL_law 166 = .ok (.iconst 2, 1) := dk_5 (dk_at dksL_law_5 6 rfl rfl)
theorem dL_law_167 : decode cL_law 167 = .ok (.iadd, 1) := dk_96 (dk_at dksL_law_5 7 rfl rfl)
theorem dL_law_168 : decode cL_law 168 = .ok (.iaload, 1) := dk_46 (dk_at dksL_law_5 8 rfl rfl)
theorem dL_law_169 : decode cL_law 169 = .ok (.aload_n 3, 1) := dk_45 (dk_at dksL_law_5 9 rfl rfl)
theorem dL_law_170 : decode cL_law 170 = .ok (.invokestatic 80, 3) := dk_184 0 80 (dk_at dksL_law_5 10 rfl rfl)
theorem dL_law_173 : decode cL_law 173 = .ok (.istore 5, 2) := dk_54 5 (dk_at dksL_law_5 13 rfl rfl)
theorem dL_law_175 : decode cL_law 175 = .ok (.aload_n 2, 1) := dk_44 (dk_at dksL_law_5 15 rfl rfl)
theorem dL_law_176 : decode cL_law 176 = .ok (.aload_n 0, 1) := dk_42 (dk_at dksL_law_5 16 rfl rfl)
theorem dL_law_177 : decode cL_law 177 = .ok (.iload 4, 2) := dk_21 4 (dk_at dksL_law_5 17 rfl rfl)
theorem dL_law_179 : decode cL_law 179 = .ok (.iconst 1, 1) := dk_4 (dk_at dksL_law_5 19 rfl rfl)
theorem dL_law_180 : decode cL_law 180 = .ok (.iadd, 1) := dk_96 (dk_at dksL_law_5 20 rfl rfl)
theorem dL_law_181 : decode cL_law 181 = .ok (.iaload, 1) := dk_46 (dk_at dksL_law_5 21 rfl rfl)
theorem dL_law_182 : decode cL_law 182 = .ok (.aload_n 0, 1) := dk_42 (dk_at dksL_law_5 22 rfl rfl)
theorem dL_law_183 : decode cL_law 183 = .ok (.iload 4, 2) := dk_21 4 (dk_at dksL_law_6 0 rfl rfl)
theorem dL_law_185 : decode cL_law 185 = .ok (.iconst 2, 1) := dk_5 (dk_at dksL_law_6 2 rfl rfl)
theorem dL_law_186 : decode cL_law 186 = .ok (.iadd, 1) := dk_96 (dk_at dksL_law_6 3 rfl rfl)
theorem dL_law_187 : decode cL_law 187 = .ok (.iaload, 1) := dk_46 (dk_at dksL_law_6 4 rfl rfl)
theorem dL_law_188 : decode cL_law 188 = .ok (.invokevirtual 83, 3) := dk_182 0 83 (dk_at dksL_law_6 5 rfl rfl)
theorem dL_law_191 : decode cL_law 191 = .ok (.istore 6, 2) := dk_54 6 (dk_at dksL_law_6 8 rfl rfl)
theorem dL_law_193 : decode cL_law 193 = .ok (.aload_n 2, 1) := dk_44 (dk_at dksL_law_6 10 rfl rfl)
theorem dL_law_194 : decode cL_law 194 = .ok (.invokevirtual 77, 3) := dk_182 0 77 (dk_at dksL_law_6 11 rfl rfl)
theorem dL_law_197 : decode cL_law 197 = .ok (.iload 5, 2) := dk_21 5 (dk_at dksL_law_6 14 rfl rfl)
theorem dL_law_199 : decode cL_law 199 = .ok (.if_icmp .eq 5, 3) := dk_159 0 5 (dk_at dksL_law_6 16 rfl rfl)
theorem dL_law_202 : decode cL_law 202 = .ok (.iconst 0, 1) := dk_3 (dk_at dksL_law_6 19 rfl rfl)
theorem dL_law_203 : decode cL_law 203 = .ok (.ireturn, 1) := dk_172 (dk_at dksL_law_6 20 rfl rfl)
theorem dL_law_204 : decode cL_law 204 = .ok (.iload 5, 2) := dk_21 5 (dk_at dksL_law_6 21 rfl rfl)
theorem dL_law_206 : decode cL_law 206 = .ok (.ifCond .ne 15, 3) := dk_154 0 15 (dk_at dksL_law_7 0 rfl rfl)
theorem dL_law_209 : decode cL_law 209 = .ok (.aload_n 3, 1) := dk_45 (dk_at dksL_law_7 3 rfl rfl)
theorem dL_law_210 : decode cL_law 210 = .ok (.iconst 0, 1) := dk_3 (dk_at dksL_law_7 4 rfl rfl)
theorem dL_law_211 : decode cL_law 211 = .ok (.laload, 1) := dk_47 (dk_at dksL_law_7 5 rfl rfl)
theorem dL_law_212 : decode cL_law 212 = .ok (.iload 6, 2) := dk_21 6 (dk_at dksL_law_7 6 rfl rfl)
theorem dL_law_214 : decode cL_law 214 = .ok (.i2l, 1) := dk_133 (dk_at dksL_law_7 8 rfl rfl)
theorem dL_law_215 : decode cL_law 215 = .ok (.lcmp, 1) := dk_148 (dk_at dksL_law_7 9 rfl rfl)
theorem dL_law_216 : decode cL_law 216 = .ok (.ifCond .eq 5, 3) := dk_153 0 5 (dk_at dksL_law_7 10 rfl rfl)
theorem dL_law_219 : decode cL_law 219 = .ok (.iconst 0, 1) := dk_3 (dk_at dksL_law_7 13 rfl rfl)
theorem dL_law_220 : decode cL_law 220 = .ok (.ireturn, 1) := dk_172 (dk_at dksL_law_7 14 rfl rfl)
theorem dL_law_221 : decode cL_law 221 = .ok (.goto 877, 3) := dk_167 3 109 (dk_at dksL_law_7 15 rfl rfl)
theorem dL_law_224 : decode cL_law 224 = .ok (.aload_n 1, 1) := dk_43 (dk_at dksL_law_7 18 rfl rfl)
theorem dL_law_225 : decode cL_law 225 = .ok (.aload_n 0, 1) := dk_42 (dk_at dksL_law_7 19 rfl rfl)
theorem dL_law_226 : decode cL_law 226 = .ok (.iload 4, 2) := dk_21 4 (dk_at dksL_law_7 20 rfl rfl)
theorem dL_law_228 : decode cL_law 228 = .ok (.iconst 1, 1) := dk_4 (dk_at dksL_law_7 22 rfl rfl)
theorem dL_law_229 : decode cL_law 229 = .ok (.iadd, 1) := dk_96 (dk_at dksL_law_7 23 rfl rfl)
theorem dL_law_230 : decode cL_law 230 = .ok (.iaload, 1) := dk_46 (dk_at dksL_law_8 0 rfl rfl)
theorem dL_law_231 : decode cL_law 231 = .ok (.aload_n 0, 1) := dk_42 (dk_at dksL_law_8 1 rfl rfl)
theorem dL_law_232 : decode cL_law 232 = .ok (.iload 4, 2) := dk_21 4 (dk_at dksL_law_8 2 rfl rfl)
theorem dL_law_234 : decode cL_law 234 = .ok (.iconst 2, 1) := dk_5 (dk_at dksL_law_8 4 rfl rfl)
theorem dL_law_235 : decode cL_law 235 = .ok (.iadd, 1) := dk_96 (dk_at dksL_law_8 5 rfl rfl)
theorem dL_law_236 : decode cL_law 236 = .ok (.iaload, 1) := dk_46 (dk_at dksL_law_8 6 rfl rfl)
theorem dL_law_237 : decode cL_law 237 = .ok (.aload_n 0, 1) := dk_42 (dk_at dksL_law_8 7 rfl rfl)
theorem dL_law_238 : decode cL_law 238 = .ok (.iload 4, 2) := dk_21 4 (dk_at dksL_law_8 8 rfl rfl)
theorem dL_law_240 : decode cL_law 240 = .ok (.iconst 3, 1) := dk_6 (dk_at dksL_law_8 10 rfl rfl)
theorem dL_law_241 : decode cL_law 241 = .ok (.iadd, 1) := dk_96 (dk_at dksL_law_8 11 rfl rfl)
theorem dL_law_242 : decode cL_law 242 = .ok (.iaload, 1) := dk_46 (dk_at dksL_law_8 12 rfl rfl)
theorem dL_law_243 : decode cL_law 243 = .ok (.aload_n 3, 1) := dk_45 (dk_at dksL_law_8 13 rfl rfl)
theorem dL_law_244 : decode cL_law 244 = .ok (.invokestatic 84, 3) := dk_184 0 84 (dk_at dksL_law_8 14 rfl rfl)
theorem dL_law_247 : decode cL_law 247 = .ok (.istore 5, 2) := dk_54 5 (dk_at dksL_law_8 17 rfl rfl)
theorem dL_law_249 : decode cL_law 249 = .ok (.aload_n 2, 1) := dk_44 (dk_at dksL_law_8 19 rfl rfl)
theorem dL_law_250 : decode cL_law 250 = .ok (.aload_n 0, 1) := dk_42 (dk_at dksL_law_8 20 rfl rfl)
theorem dL_law_251 : decode cL_law 251 = .ok (.iload 4, 2) := dk_21 4 (dk_at dksL_law_8 21 rfl rfl)
theorem dL_law_253 : decode cL_law 253 = .ok (.iconst 1, 1) := dk_4 (dk_at dksL_law_8 23 rfl rfl)
theorem dL_law_254 : decode cL_law 254 = .ok (.iadd, 1) := dk_96 (dk_at dksL_law_9 0 rfl rfl)
theorem dL_law_255 : decode cL_law 255 = .ok (.iaload, 1) := dk_46 (dk_at dksL_law_9 1 rfl rfl)
theorem dL_law_256 : decode cL_law 256 = .ok (.aload_n 0, 1) := dk_42 (dk_at dksL_law_9 2 rfl rfl)
theorem dL_law_257 : decode cL_law 257 = .ok (.iload 4, 2) := dk_21 4 (dk_at dksL_law_9 3 rfl rfl)
theorem dL_law_259 : decode cL_law 259 = .ok (.iconst 2, 1) := dk_5 (dk_at dksL_law_9 5 rfl rfl)
theorem dL_law_260 : decode cL_law 260 = .ok (.iadd, 1) := dk_96 (dk_at dksL_law_9 6 rfl rfl)
theorem dL_law_261 : decode cL_law 261 = .ok (.iaload, 1) := dk_46 (dk_at dksL_law_9 7 rfl rfl)
theorem dL_law_262 : decode cL_law 262 = .ok (.aload_n 0, 1) := dk_42 (dk_at dksL_law_9 8 rfl rfl)
theorem dL_law_263 : decode cL_law 263 = .ok (.iload 4, 2) := dk_21 4 (dk_at dksL_law_9 9 rfl rfl)
theorem dL_law_265 : decode cL_law 265 = .ok (.iconst 3, 1) := dk_6 (dk_at dksL_law_9 11 rfl rfl)
theorem dL_law_266 : decode cL_law 266 = .ok (.iadd, 1) := dk_96 (dk_at dksL_law_9 12 rfl rfl)
theorem dL_law_267 : decode cL_law 267 = .ok (.iaload, 1) := dk_46 (dk_at dksL_law_9 13 rfl rfl)
theorem dL_law_268 : decode cL_law 268 = .ok (.invokevirtual 87, 3) := dk_182 0 87 (dk_at dksL_law_9 14 rfl rfl)
theorem dL_law_271 : decode cL_law 271 = .ok (.istore 6, 2) := dk_54 6 (dk_at dksL_law_9 17 rfl rfl)
theorem dL_law_273 : decode cL_law 273 = .ok (.aload_n 2, 1) := dk_44 (dk_at dksL_law_9 19 rfl rfl)
theorem dL_law_274 : decode cL_law 274 = .ok (.invokevirtual 77, 3) := dk_182 0 77 (dk_at dksL_law_9 20 rfl rfl)
theorem dL_law_277 : decode cL_law 277 = .ok (.iload 5, 2) := dk_21 5 (dk_at dksL_law_10 0 rfl rfl)
theorem dL_law_279 : decode cL_law 279 = .ok (.if_icmp .eq 5, 3) := dk_159 0 5 (dk_at dksL_law_10 2 rfl rfl)
theorem dL_law_282 : decode cL_law 282 = .ok (.iconst 0, 1) := dk_3 (dk_at dksL_law_10 5 rfl rfl)
theorem dL_law_283 : decode cL_law 283 = .ok (.ireturn, 1) := dk_172 (dk_at dksL_law_10 6 rfl rfl)
theorem dL_law_284 : decode cL_law 284 = .ok (.iload 5, 2) := dk_21 5 (dk_at dksL_law_10 7 rfl rfl)
theorem dL_law_286 : decode cL_law 286 = .ok (.ifCond .ne 15, 3) := dk_154 0 15 (dk_at dksL_law_10 9 rfl rfl)
theorem dL_law_289 : decode cL_law 289 = .ok (.aload_n 3, 1) := dk_45 (dk_at dksL_law_10 12 rfl rfl)
theorem dL_law_290 : decode cL_law 290 = .ok (.iconst 0, 1) := dk_3 (dk_at dksL_law_10 13 rfl rfl)
theorem dL_law_291 : decode cL_law 291 = .ok (.laload, 1) := dk_47 (dk_at dksL_law_10 14 rfl rfl)
theorem dL_law_292 : decode cL_law 292 = .ok (.iload 6, 2) := dk_21 6 (dk_at dksL_law_10 15 rfl rfl)
theorem dL_law_294 : decode cL_law 294 = .ok (.i2l, 1) := dk_133 (dk_at dksL_law_10 17 rfl rfl)
theorem dL_law_295 : decode cL_law 295 = .ok (.lcmp, 1) := dk_148 (dk_at dksL_law_10 18 rfl rfl)
theorem dL_law_296 : decode cL_law 296 = .ok (.ifCond .eq 5, 3) := dk_153 0 5 (dk_at dksL_law_10 19 rfl rfl)
theorem dL_law_299 : decode cL_law 299 = .ok (.iconst 0, 1) := dk_3 (dk_at dksL_law_10 22 rfl rfl)
theorem dL_law_300 : decode cL_law 300 = .ok (.ireturn, 1) := dk_172 (dk_at dksL_law_10 23 rfl rfl)
theorem dL_law_301 : decode cL_law 301 = .ok (.goto 797, 3) := dk_167 3 29 (dk_at dksL_law_11 0 rfl rfl)
theorem dL_law_304 : decode cL_law 304 = .ok (.aload_n 1, 1) := dk_43 (dk_at dksL_law_11 3 rfl rfl)
theorem dL_law_305 : decode cL_law 305 = .ok (.aload_n 3, 1) := dk_45 (dk_at dksL_law_11 4 rfl rfl)
theorem dL_law_306 : decode cL_law 306 = .ok (.invokestatic 88, 3) := dk_184 0 88 (dk_at dksL_law_11 5 rfl rfl)
theorem dL_law_309 : decode cL_law 309 = .ok (.istore 5, 2) := dk_54 5 (dk_at dksL_law_11 8 rfl rfl)
theorem dL_law_311 : decode cL_law 311 = .ok (.aload_n 2, 1) := dk_44 (dk_at dksL_law_11 10 rfl rfl)
theorem dL_law_312 : decode cL_law 312 = .ok (.invokevirtual 90, 3) := dk_182 0 90 (dk_at dksL_law_11 11 rfl rfl)
theorem dL_law_315 : decode cL_law 315 = .ok (.istore 6, 2) := dk_54 6 (dk_at dksL_law_11 14 rfl rfl)
theorem dL_law_317 : decode cL_law 317 = .ok (.aload_n 2, 1) := dk_44 (dk_at dksL_law_11 16 rfl rfl)
theorem dL_law_318 : decode cL_law 318 = .ok (.invokevirtual 77, 3) := dk_182 0 77 (dk_at dksL_law_11 17 rfl rfl)
theorem dL_law_321 : decode cL_law 321 = .ok (.iload 5, 2) := dk_21 5 (dk_at dksL_law_11 20 rfl rfl)
theorem dL_law_323 : decode cL_law 323 = .ok (.if_icmp .eq 5, 3) := dk_159 0 5 (dk_at dksL_law_12 0 rfl rfl)
theorem dL_law_326 : decode cL_law 326 = .ok (.iconst 0, 1) := dk_3 (dk_at dksL_law_12 3 rfl rfl)
theorem dL_law_327 : decode cL_law 327 = .ok (.ireturn, 1) := dk_172 (dk_at dksL_law_12 4 rfl rfl)
theorem dL_law_328 : decode cL_law 328 = .ok (.iload 5, 2) := dk_21 5 (dk_at dksL_law_12 5 rfl rfl)
theorem dL_law_330 : decode cL_law 330 = .ok (.ifCond .ne 15, 3) := dk_154 0 15 (dk_at dksL_law_12 7 rfl rfl)
theorem dL_law_333 : decode cL_law 333 = .ok (.aload_n 3, 1) := dk_45 (dk_at dksL_law_12 10 rfl rfl)
theorem dL_law_334 : decode cL_law 334 = .ok (.iconst 0, 1) := dk_3 (dk_at dksL_law_12 11 rfl rfl)
theorem dL_law_335 : decode cL_law 335 = .ok (.laload, 1) := dk_47 (dk_at dksL_law_12 12 rfl rfl)
theorem dL_law_336 : decode cL_law 336 = .ok (.iload 6, 2) := dk_21 6 (dk_at dksL_law_12 13 rfl rfl)
theorem dL_law_338 : decode cL_law 338 = .ok (.i2l, 1) := dk_133 (dk_at dksL_law_12 15 rfl rfl)
theorem dL_law_339 : decode cL_law 339 = .ok (.lcmp, 1) := dk_148 (dk_at dksL_law_12 16 rfl rfl)
theorem dL_law_340 : decode cL_law 340 = .ok (.ifCond .eq 5, 3) := dk_153 0 5 (dk_at dksL_law_12 17 rfl rfl)
theorem dL_law_343 : decode cL_law 343 = .ok (.iconst 0, 1) := dk_3 (dk_at dksL_law_12 20 rfl rfl)
theorem dL_law_344 : decode cL_law 344 = .ok (.ireturn, 1) := dk_172 (dk_at dksL_law_12 21 rfl rfl)
theorem dL_law_345 : decode cL_law 345 = .ok (.goto 753, 3) := dk_167 2 241 (dk_at dksL_law_13 0 rfl rfl)
theorem dL_law_348 : decode cL_law 348 = .ok (.aload_n 1, 1) := dk_43 (dk_at dksL_law_13 3 rfl rfl)
theorem dL_law_349 : decode cL_law 349 = .ok (.aload_n 0, 1) := dk_42 (dk_at dksL_law_13 4 rfl rfl)
theorem dL_law_350 : decode cL_law 350 = .ok (.iload 4, 2) := dk_21 4 (dk_at dksL_law_13 5 rfl rfl)
theorem dL_law_352 : decode cL_law 352 = .ok (.iconst 1, 1) := dk_4 (dk_at dksL_law_13 7 rfl rfl)
theorem dL_law_353 : decode cL_law 353 = .ok (.iadd, 1) := dk_96 (dk_at dksL_law_13 8 rfl rfl)
theorem dL_law_354 : decode cL_law 354 = .ok (.iaload, 1) := dk_46 (dk_at dksL_law_13 9 rfl rfl)
theorem dL_law_355 : decode cL_law 355 = .ok (.aload_n 0, 1) := dk_42 (dk_at dksL_law_13 10 rfl rfl)
theorem dL_law_356 : decode cL_law 356 = .ok (.iload 4, 2) := dk_21 4 (dk_at dksL_law_13 11 rfl rfl)
theorem dL_law_358 : decode cL_law 358 = .ok (.iconst 2, 1) := dk_5 (dk_at dksL_law_13 13 rfl rfl)
theorem dL_law_359 : decode cL_law 359 = .ok (.iadd, 1) := dk_96 (dk_at dksL_law_13 14 rfl rfl)
theorem dL_law_360 : decode cL_law 360 = .ok (.iaload, 1) := dk_46 (dk_at dksL_law_13 15 rfl rfl)
theorem dL_law_361 : decode cL_law 361 = .ok (.aload_n 0, 1) := dk_42 (dk_at dksL_law_13 16 rfl rfl)
theorem dL_law_362 : decode cL_law 362 = .ok (.iload 4, 2) := dk_21 4 (dk_at dksL_law_13 17 rfl rfl)
theorem dL_law_364 : decode cL_law 364 = .ok (.iconst 3, 1) := dk_6 (dk_at dksL_law_13 19 rfl rfl)
theorem dL_law_365 : decode cL_law 365 = .ok (.iadd, 1) := dk_96 (dk_at dksL_law_13 20 rfl rfl)
theorem dL_law_366 : decode cL_law 366 = .ok (.iaload, 1) := dk_46 (dk_at dksL_law_13 21 rfl rfl)
theorem dL_law_367 : decode cL_law 367 = .ok (.aload_n 3, 1) := dk_45 (dk_at dksL_law_13 22 rfl rfl)
theorem dL_law_368 : decode cL_law 368 = .ok (.invokestatic 91, 3) := dk_184 0 91 (dk_at dksL_law_14 0 rfl rfl)
theorem dL_law_371 : decode cL_law 371 = .ok (.istore 5, 2) := dk_54 5 (dk_at dksL_law_14 3 rfl rfl)
theorem dL_law_373 : decode cL_law 373 = .ok (.aload_n 2, 1) := dk_44 (dk_at dksL_law_14 5 rfl rfl)
theorem dL_law_374 : decode cL_law 374 = .ok (.aload_n 0, 1) := dk_42 (dk_at dksL_law_14 6 rfl rfl)
theorem dL_law_375 : decode cL_law 375 = .ok (.iload 4, 2) := dk_21 4 (dk_at dksL_law_14 7 rfl rfl)
theorem dL_law_377 : decode cL_law 377 = .ok (.iconst 1, 1) := dk_4 (dk_at dksL_law_14 9 rfl rfl)
theorem dL_law_378 : decode cL_law 378 = .ok (.iadd, 1) := dk_96 (dk_at dksL_law_14 10 rfl rfl)
theorem dL_law_379 : decode cL_law 379 = .ok (.iaload, 1) := dk_46 (dk_at dksL_law_14 11 rfl rfl)
theorem dL_law_380 : decode cL_law 380 = .ok (.aload_n 0, 1) := dk_42 (dk_at dksL_law_14 12 rfl rfl)
theorem dL_law_381 : decode cL_law 381 = .ok (.iload 4, 2) := dk_21 4 (dk_at dksL_law_14 13 rfl rfl)
theorem dL_law_383 : decode cL_law 383 = .ok (.iconst 2, 1) := dk_5 (dk_at dksL_law_14 15 rfl rfl)
theorem dL_law_384 : decode cL_law 384 = .ok (.iadd, 1) := dk_96 (dk_at dksL_law_14 16 rfl rfl)
theorem dL_law_385 : decode cL_law 385 = .ok (.iaload, 1) := dk_46 (dk_at dksL_law_14 17 rfl rfl)
theorem dL_law_386 : decode cL_law 386 = .ok (.aload_n 0, 1) := dk_42 (dk_at dksL_law_14 18 rfl rfl)
theorem dL_law_387 : decode cL_law 387 = .ok (.iload 4, 2) := dk_21 4 (dk_at dksL_law_14 19 rfl rfl)
theorem dL_law_389 : decode cL_law 389 = .ok (.iconst 3, 1) := dk_6 (dk_at dksL_law_14 21 rfl rfl)
theorem dL_law_390 : decode cL_law 390 = .ok (.iadd, 1) := dk_96 (dk_at dksL_law_14 22 rfl rfl)
theorem dL_law_391 : decode cL_law 391 = .ok (.iaload, 1) := dk_46 (dk_at dksL_law_14 23 rfl rfl)
theorem dL_law_392 : decode cL_law 392 = .ok (.invokevirtual 93, 3) := dk_182 0 93 (dk_at dksL_law_15 0 rfl rfl)
theorem dL_law_395 : decode cL_law 395 = .ok (.istore 6, 2) := dk_54 6 (dk_at dksL_law_15 3 rfl rfl)
theorem dL_law_397 : decode cL_law 397 = .ok (.aload_n 2, 1) := dk_44 (dk_at dksL_law_15 5 rfl rfl)
theorem dL_law_398 : decode cL_law 398 = .ok (.invokevirtual 77, 3) := dk_182 0 77 (dk_at dksL_law_15 6 rfl rfl)
theorem dL_law_401 : decode cL_law 401 = .ok (.iload 5, 2) := dk_21 5 (dk_at dksL_law_15 9 rfl rfl)
theorem dL_law_403 : decode cL_law 403 = .ok (.if_icmp .eq 5, 3) := dk_159 0 5 (dk_at dksL_law_15 11 rfl rfl)
theorem dL_law_406 : decode cL_law 406 = .ok (.iconst 0, 1) := dk_3 (dk_at dksL_law_15 14 rfl rfl)
theorem dL_law_407 : decode cL_law 407 = .ok (.ireturn, 1) := dk_172 (dk_at dksL_law_15 15 rfl rfl)
theorem dL_law_408 : decode cL_law 408 = .ok (.iload 5, 2) := dk_21 5 (dk_at dksL_law_15 16 rfl rfl)
theorem dL_law_410 : decode cL_law 410 = .ok (.ifCond .ne 22, 3) := dk_154 0 22 (dk_at dksL_law_15 18 rfl rfl)
theorem dL_law_413 : decode cL_law 413 = .ok (.aload_n 3, 1) := dk_45 (dk_at dksL_law_15 21 rfl rfl)
theorem dL_law_414 : decode cL_law 414 = .ok (.iconst 0, 1) := dk_3 (dk_at dksL_law_15 22 rfl rfl)
theorem dL_law_415 : decode cL_law 415 = .ok (.laload, 1) := dk_47 (dk_at dksL_law_15 23 rfl rfl)
theorem dL_law_416 : decode cL_law 416 = .ok (.iload 6, 2) := dk_21 6 (dk_at dksL_law_16 0 rfl rfl)
theorem dL_law_418 : decode cL_law 418 = .ok (.ifCond .eq 7, 3) := dk_153 0 7 (dk_at dksL_law_16 2 rfl rfl)
theorem dL_law_421 : decode cL_law 421 = .ok (.lconst 1, 1) := dk_10 (dk_at dksL_law_16 5 rfl rfl)
theorem dL_law_422 : decode cL_law 422 = .ok (.goto 4, 3) := dk_167 0 4 (dk_at dksL_law_16 6 rfl rfl)
theorem dL_law_425 : decode cL_law 425 = .ok (.lconst 0, 1) := dk_9 (dk_at dksL_law_16 9 rfl rfl)
theorem dL_law_426 : decode cL_law 426 = .ok (.lcmp, 1) := dk_148 (dk_at dksL_law_16 10 rfl rfl)
theorem dL_law_427 : decode cL_law 427 = .ok (.ifCond .eq 5, 3) := dk_153 0 5 (dk_at dksL_law_16 11 rfl rfl)
theorem dL_law_430 : decode cL_law 430 = .ok (.iconst 0, 1) := dk_3 (dk_at dksL_law_16 14 rfl rfl)
theorem dL_law_431 : decode cL_law 431 = .ok (.ireturn, 1) := dk_172 (dk_at dksL_law_16 15 rfl rfl)
theorem dL_law_432 : decode cL_law 432 = .ok (.goto 666, 3) := dk_167 2 154 (dk_at dksL_law_16 16 rfl rfl)
theorem dL_law_435 : decode cL_law 435 = .ok (.aload_n 1, 1) := dk_43 (dk_at dksL_law_16 19 rfl rfl)
theorem dL_law_436 : decode cL_law 436 = .ok (.aload_n 0, 1) := dk_42 (dk_at dksL_law_16 20 rfl rfl)
theorem dL_law_437 : decode cL_law 437 = .ok (.iload 4, 2) := dk_21 4 (dk_at dksL_law_16 21 rfl rfl)
theorem dL_law_439 : decode cL_law 439 = .ok (.iconst 1, 1) := dk_4 (dk_at dksL_law_16 23 rfl rfl)
theorem dL_law_440 : decode cL_law 440 = .ok (.iadd, 1) := dk_96 (dk_at dksL_law_17 0 rfl rfl)
theorem dL_law_441 : decode cL_law 441 = .ok (.iaload, 1) := dk_46 (dk_at dksL_law_17 1 rfl rfl)
theorem dL_law_442 : decode cL_law 442 = .ok (.aload_n 0, 1) := dk_42 (dk_at dksL_law_17 2 rfl rfl)
theorem dL_law_443 : decode cL_law 443 = .ok (.iload 4, 2) := dk_21 4 (dk_at dksL_law_17 3 rfl rfl)
theorem dL_law_445 : decode cL_law 445 = .ok (.iconst 2, 1) := dk_5 (dk_at dksL_law_17 5 rfl rfl)
theorem dL_law_446 : decode cL_law 446 = .ok (.iadd, 1) := dk_96 (dk_at dksL_law_17 6 rfl rfl)
theorem dL_law_447 : decode cL_law 447 = .ok (.iaload, 1) := dk_46 (dk_at dksL_law_17 7 rfl rfl)
theorem dL_law_448 : decode cL_law 448 = .ok (.aload_n 0, 1) := dk_42 (dk_at dksL_law_17 8 rfl rfl)
theorem dL_law_449 : decode cL_law 449 = .ok (.iload 4, 2) := dk_21 4 (dk_at dksL_law_17 9 rfl rfl)
theorem dL_law_451 : decode cL_law 451 = .ok (.iconst 3, 1) := dk_6 (dk_at dksL_law_17 11 rfl rfl)
theorem dL_law_452 : decode cL_law 452 = .ok (.iadd, 1) := dk_96 (dk_at dksL_law_17 12 rfl rfl)
theorem dL_law_453 : decode cL_law 453 = .ok (.iaload, 1) := dk_46 (dk_at dksL_law_17 13 rfl rfl)
theorem dL_law_454 : decode cL_law 454 = .ok (.aload_n 3, 1) := dk_45 (dk_at dksL_law_17 14 rfl rfl)
theorem dL_law_455 : decode cL_law 455 = .ok (.invokestatic 94, 3) := dk_184 0 94 (dk_at dksL_law_17 15 rfl rfl)
theorem dL_law_458 : decode cL_law 458 = .ok (.istore 5, 2) := dk_54 5 (dk_at dksL_law_17 18 rfl rfl)
theorem dL_law_460 : decode cL_law 460 = .ok (.aload_n 2, 1) := dk_44 (dk_at dksL_law_17 20 rfl rfl)
theorem dL_law_461 : decode cL_law 461 = .ok (.aload_n 0, 1) := dk_42 (dk_at dksL_law_17 21 rfl rfl)
theorem dL_law_462 : decode cL_law 462 = .ok (.iload 4, 2) := dk_21 4 (dk_at dksL_law_17 22 rfl rfl)
theorem dL_law_464 : decode cL_law 464 = .ok (.iconst 1, 1) := dk_4 (dk_at dksL_law_18 0 rfl rfl)
theorem dL_law_465 : decode cL_law 465 = .ok (.iadd, 1) := dk_96 (dk_at dksL_law_18 1 rfl rfl)
theorem dL_law_466 : decode cL_law 466 = .ok (.iaload, 1) := dk_46 (dk_at dksL_law_18 2 rfl rfl)
theorem dL_law_467 : decode cL_law 467 = .ok (.aload_n 0, 1) := dk_42 (dk_at dksL_law_18 3 rfl rfl)
theorem dL_law_468 : decode cL_law 468 = .ok (.iload 4, 2) := dk_21 4 (dk_at dksL_law_18 4 rfl rfl)
theorem dL_law_470 : decode cL_law 470 = .ok (.iconst 2, 1) := dk_5 (dk_at dksL_law_18 6 rfl rfl)
theorem dL_law_471 : decode cL_law 471 = .ok (.iadd, 1) := dk_96 (dk_at dksL_law_18 7 rfl rfl)
theorem dL_law_472 : decode cL_law 472 = .ok (.iaload, 1) := dk_46 (dk_at dksL_law_18 8 rfl rfl)
theorem dL_law_473 : decode cL_law 473 = .ok (.aload_n 0, 1) := dk_42 (dk_at dksL_law_18 9 rfl rfl)
theorem dL_law_474 : decode cL_law 474 = .ok (.iload 4, 2) := dk_21 4 (dk_at dksL_law_18 10 rfl rfl)
theorem dL_law_476 : decode cL_law 476 = .ok (.iconst 3, 1) := dk_6 (dk_at dksL_law_18 12 rfl rfl)
theorem dL_law_477 : decode cL_law 477 = .ok (.iadd, 1) := dk_96 (dk_at dksL_law_18 13 rfl rfl)
theorem dL_law_478 : decode cL_law 478 = .ok (.iaload, 1) := dk_46 (dk_at dksL_law_18 14 rfl rfl)
theorem dL_law_479 : decode cL_law 479 = .ok (.invokevirtual 96, 3) := dk_182 0 96 (dk_at dksL_law_18 15 rfl rfl)
theorem dL_law_482 : decode cL_law 482 = .ok (.istore 6, 2) := dk_54 6 (dk_at dksL_law_18 18 rfl rfl)
theorem dL_law_484 : decode cL_law 484 = .ok (.aload_n 2, 1) := dk_44 (dk_at dksL_law_18 20 rfl rfl)
theorem dL_law_485 : decode cL_law 485 = .ok (.invokevirtual 77, 3) := dk_182 0 77 (dk_at dksL_law_18 21 rfl rfl)
theorem dL_law_488 : decode cL_law 488 = .ok (.iload 5, 2) := dk_21 5 (dk_at dksL_law_19 0 rfl rfl)
theorem dL_law_490 : decode cL_law 490 = .ok (.if_icmp .eq 5, 3) := dk_159 0 5 (dk_at dksL_law_19 2 rfl rfl)
theorem dL_law_493 : decode cL_law 493 = .ok (.iconst 0, 1) := dk_3 (dk_at dksL_law_19 5 rfl rfl)
theorem dL_law_494 : decode cL_law 494 = .ok (.ireturn, 1) := dk_172 (dk_at dksL_law_19 6 rfl rfl)
theorem dL_law_495 : decode cL_law 495 = .ok (.iload 5, 2) := dk_21 5 (dk_at dksL_law_19 7 rfl rfl)
theorem dL_law_497 : decode cL_law 497 = .ok (.ifCond .ne 15, 3) := dk_154 0 15 (dk_at dksL_law_19 9 rfl rfl)
theorem dL_law_500 : decode cL_law 500 = .ok (.aload_n 3, 1) := dk_45 (dk_at dksL_law_19 12 rfl rfl)
theorem dL_law_501 : decode cL_law 501 = .ok (.iconst 0, 1) := dk_3 (dk_at dksL_law_19 13 rfl rfl)
theorem dL_law_502 : decode cL_law 502 = .ok (.laload, 1) := dk_47 (dk_at dksL_law_19 14 rfl rfl)
theorem dL_law_503 : decode cL_law 503 = .ok (.iload 6, 2) := dk_21 6 (dk_at dksL_law_19 15 rfl rfl)
theorem dL_law_505 : decode cL_law 505 = .ok (.i2l, 1) := dk_133 (dk_at dksL_law_19 17 rfl rfl)
theorem dL_law_506 : decode cL_law 506 = .ok (.lcmp, 1) := dk_148 (dk_at dksL_law_19 18 rfl rfl)
theorem dL_law_507 : decode cL_law 507 = .ok (.ifCond .eq 5, 3) := dk_153 0 5 (dk_at dksL_law_19 19 rfl rfl)
theorem dL_law_510 : decode cL_law 510 = .ok (.iconst 0, 1) := dk_3 (dk_at dksL_law_19 22 rfl rfl)
theorem dL_law_511 : decode cL_law 511 = .ok (.ireturn, 1) := dk_172 (dk_at dksL_law_19 23 rfl rfl)
theorem dL_law_512 : decode cL_law 512 = .ok (.goto 586, 3) := dk_167 2 74 (dk_at dksL_law_20 0 rfl rfl)
theorem dL_law_515 : decode cL_law 515 = .ok (.aload_n 1, 1) := dk_43 (dk_at dksL_law_20 3 rfl rfl)
theorem dL_law_516 : decode cL_law 516 = .ok (.aload_n 0, 1) := dk_42 (dk_at dksL_law_20 4 rfl rfl)
theorem dL_law_517 : decode cL_law 517 = .ok (.iload 4, 2) := dk_21 4 (dk_at dksL_law_20 5 rfl rfl)
theorem dL_law_519 : decode cL_law 519 = .ok (.iconst 1, 1) := dk_4 (dk_at dksL_law_20 7 rfl rfl)
theorem dL_law_520 : decode cL_law 520 = .ok (.iadd, 1) := dk_96 (dk_at dksL_law_20 8 rfl rfl)
theorem dL_law_521 : decode cL_law 521 = .ok (.iaload, 1) := dk_46 (dk_at dksL_law_20 9 rfl rfl)
theorem dL_law_522 : decode cL_law 522 = .ok (.aload_n 0, 1) := dk_42 (dk_at dksL_law_20 10 rfl rfl)
theorem dL_law_523 : decode cL_law 523 = .ok (.iload 4, 2) := dk_21 4 (dk_at dksL_law_20 11 rfl rfl)
theorem dL_law_525 : decode cL_law 525 = .ok (.iconst 2, 1) := dk_5 (dk_at dksL_law_20 13 rfl rfl)
theorem dL_law_526 : decode cL_law 526 = .ok (.iadd, 1) := dk_96 (dk_at dksL_law_20 14 rfl rfl)
theorem dL_law_527 : decode cL_law 527 = .ok (.iaload, 1) := dk_46 (dk_at dksL_law_20 15 rfl rfl)
theorem dL_law_528 : decode cL_law 528 = .ok (.aload_n 3, 1) := dk_45 (dk_at dksL_law_20 16 rfl rfl)
theorem dL_law_529 : decode cL_law 529 = .ok (.invokestatic 97, 3) := dk_184 0 97 (dk_at dksL_law_20 17 rfl rfl)
theorem dL_law_532 : decode cL_law 532 = .ok (.istore 5, 2) := dk_54 5 (dk_at dksL_law_20 20 rfl rfl)
theorem dL_law_534 : decode cL_law 534 = .ok (.aload_n 2, 1) := dk_44 (dk_at dksL_law_20 22 rfl rfl)
theorem dL_law_535 : decode cL_law 535 = .ok (.aload_n 0, 1) := dk_42 (dk_at dksL_law_20 23 rfl rfl)
theorem dL_law_536 : decode cL_law 536 = .ok (.iload 4, 2) := dk_21 4 (dk_at dksL_law_21 0 rfl rfl)
theorem dL_law_538 : decode cL_law 538 = .ok (.iconst 1, 1) := dk_4 (dk_at dksL_law_21 2 rfl rfl)
theorem dL_law_539 : decode cL_law 539 = .ok (.iadd, 1) := dk_96 (dk_at dksL_law_21 3 rfl rfl)
theorem dL_law_540 : decode cL_law 540 = .ok (.iaload, 1) := dk_46 (dk_at dksL_law_21 4 rfl rfl)
theorem dL_law_541 : decode cL_law 541 = .ok (.aload_n 0, 1) := dk_42 (dk_at dksL_law_21 5 rfl rfl)
theorem dL_law_542 : decode cL_law 542 = .ok (.iload 4, 2) := dk_21 4 (dk_at dksL_law_21 6 rfl rfl)
theorem dL_law_544 : decode cL_law 544 = .ok (.iconst 2, 1) := dk_5 (dk_at dksL_law_21 8 rfl rfl)
theorem dL_law_545 : decode cL_law 545 = .ok (.iadd, 1) := dk_96 (dk_at dksL_law_21 9 rfl rfl)
theorem dL_law_546 : decode cL_law 546 = .ok (.iaload, 1) := dk_46 (dk_at dksL_law_21 10 rfl rfl)
theorem dL_law_547 : decode cL_law 547 = .ok (.invokevirtual 99, 3) := dk_182 0 99 (dk_at dksL_law_21 11 rfl rfl)
theorem dL_law_550 : decode cL_law 550 = .ok (.istore 6, 2) := dk_54 6 (dk_at dksL_law_21 14 rfl rfl)
theorem dL_law_552 : decode cL_law 552 = .ok (.aload_n 2, 1) := dk_44 (dk_at dksL_law_21 16 rfl rfl)
theorem dL_law_553 : decode cL_law 553 = .ok (.invokevirtual 77, 3) := dk_182 0 77 (dk_at dksL_law_21 17 rfl rfl)
theorem dL_law_556 : decode cL_law 556 = .ok (.iload 5, 2) := dk_21 5 (dk_at dksL_law_21 20 rfl rfl)
theorem dL_law_558 : decode cL_law 558 = .ok (.if_icmp .eq 5, 3) := dk_159 0 5 (dk_at dksL_law_22 0 rfl rfl)
theorem dL_law_561 : decode cL_law 561 = .ok (.iconst 0, 1) := dk_3 (dk_at dksL_law_22 3 rfl rfl)
theorem dL_law_562 : decode cL_law 562 = .ok (.ireturn, 1) := dk_172 (dk_at dksL_law_22 4 rfl rfl)
theorem dL_law_563 : decode cL_law 563 = .ok (.iload 5, 2) := dk_21 5 (dk_at dksL_law_22 5 rfl rfl)
theorem dL_law_565 : decode cL_law 565 = .ok (.ifCond .ne 15, 3) := dk_154 0 15 (dk_at dksL_law_22 7 rfl rfl)
theorem dL_law_568 : decode cL_law 568 = .ok (.aload_n 3, 1) := dk_45 (dk_at dksL_law_22 10 rfl rfl)
theorem dL_law_569 : decode cL_law 569 = .ok (.iconst 0, 1) := dk_3 (dk_at dksL_law_22 11 rfl rfl)
theorem dL_law_570 : decode cL_law 570 = .ok (.laload, 1) := dk_47 (dk_at dksL_law_22 12 rfl rfl)
theorem dL_law_571 : decode cL_law 571 = .ok (.iload 6, 2) := dk_21 6 (dk_at dksL_law_22 13 rfl rfl)
theorem dL_law_573 : decode cL_law 573 = .ok (.i2l, 1) := dk_133 (dk_at dksL_law_22 15 rfl rfl)
theorem dL_law_574 : decode cL_law 574 = .ok (.lcmp, 1) := dk_148 (dk_at dksL_law_22 16 rfl rfl)
theorem dL_law_575 : decode cL_law 575 = .ok (.ifCond .eq 5, 3) := dk_153 0 5 (dk_at dksL_law_22 17 rfl rfl)
theorem dL_law_578 : decode cL_law 578 = .ok (.iconst 0, 1) := dk_3 (dk_at dksL_law_22 20 rfl rfl)
theorem dL_law_579 : decode cL_law 579 = .ok (.ireturn, 1) := dk_172 (dk_at dksL_law_22 21 rfl rfl)
theorem dL_law_580 : decode cL_law 580 = .ok (.goto 518, 3) := dk_167 2 6 (dk_at dksL_law_23 0 rfl rfl)
theorem dL_law_583 : decode cL_law 583 = .ok (.aload_n 1, 1) := dk_43 (dk_at dksL_law_23 3 rfl rfl)
theorem dL_law_584 : decode cL_law 584 = .ok (.aload_n 0, 1) := dk_42 (dk_at dksL_law_23 4 rfl rfl)
theorem dL_law_585 : decode cL_law 585 = .ok (.iload 4, 2) := dk_21 4 (dk_at dksL_law_23 5 rfl rfl)
theorem dL_law_587 : decode cL_law 587 = .ok (.iconst 1, 1) := dk_4 (dk_at dksL_law_23 7 rfl rfl)
theorem dL_law_588 : decode cL_law 588 = .ok (.iadd, 1) := dk_96 (dk_at dksL_law_23 8 rfl rfl)
theorem dL_law_589 : decode cL_law 589 = .ok (.iaload, 1) := dk_46 (dk_at dksL_law_23 9 rfl rfl)
theorem dL_law_590 : decode cL_law 590 = .ok (.aload_n 3, 1) := dk_45 (dk_at dksL_law_23 10 rfl rfl)
theorem dL_law_591 : decode cL_law 591 = .ok (.invokestatic 100, 3) := dk_184 0 100 (dk_at dksL_law_23 11 rfl rfl)
theorem dL_law_594 : decode cL_law 594 = .ok (.istore 5, 2) := dk_54 5 (dk_at dksL_law_23 14 rfl rfl)
theorem dL_law_596 : decode cL_law 596 = .ok (.aload_n 2, 1) := dk_44 (dk_at dksL_law_23 16 rfl rfl)
theorem dL_law_597 : decode cL_law 597 = .ok (.aload_n 0, 1) := dk_42 (dk_at dksL_law_23 17 rfl rfl)
theorem dL_law_598 : decode cL_law 598 = .ok (.iload 4, 2) := dk_21 4 (dk_at dksL_law_23 18 rfl rfl)
theorem dL_law_600 : decode cL_law 600 = .ok (.iconst 1, 1) := dk_4 (dk_at dksL_law_23 20 rfl rfl)
theorem dL_law_601 : decode cL_law 601 = .ok (.iadd, 1) := dk_96 (dk_at dksL_law_23 21 rfl rfl)
theorem dL_law_602 : decode cL_law 602 = .ok (.iaload, 1) := dk_46 (dk_at dksL_law_23 22 rfl rfl)
theorem dL_law_603 : decode cL_law 603 = .ok (.invokevirtual 103, 3) := dk_182 0 103 (dk_at dksL_law_24 0 rfl rfl)
theorem dL_law_606 : decode cL_law 606 = .ok (.istore 6, 2) := dk_54 6 (dk_at dksL_law_24 3 rfl rfl)
theorem dL_law_608 : decode cL_law 608 = .ok (.aload_n 2, 1) := dk_44 (dk_at dksL_law_24 5 rfl rfl)
theorem dL_law_609 : decode cL_law 609 = .ok (.invokevirtual 77, 3) := dk_182 0 77 (dk_at dksL_law_24 6 rfl rfl)
theorem dL_law_612 : decode cL_law 612 = .ok (.iload 5, 2) := dk_21 5 (dk_at dksL_law_24 9 rfl rfl)
theorem dL_law_614 : decode cL_law 614 = .ok (.if_icmp .eq 5, 3) := dk_159 0 5 (dk_at dksL_law_24 11 rfl rfl)
theorem dL_law_617 : decode cL_law 617 = .ok (.iconst 0, 1) := dk_3 (dk_at dksL_law_24 14 rfl rfl)
theorem dL_law_618 : decode cL_law 618 = .ok (.ireturn, 1) := dk_172 (dk_at dksL_law_24 15 rfl rfl)
theorem dL_law_619 : decode cL_law 619 = .ok (.iload 5, 2) := dk_21 5 (dk_at dksL_law_24 16 rfl rfl)
theorem dL_law_621 : decode cL_law 621 = .ok (.ifCond .ne 15, 3) := dk_154 0 15 (dk_at dksL_law_24 18 rfl rfl)
theorem dL_law_624 : decode cL_law 624 = .ok (.aload_n 3, 1) := dk_45 (dk_at dksL_law_24 21 rfl rfl)
theorem dL_law_625 : decode cL_law 625 = .ok (.iconst 0, 1) := dk_3 (dk_at dksL_law_24 22 rfl rfl)
theorem dL_law_626 : decode cL_law 626 = .ok (.laload, 1) := dk_47 (dk_at dksL_law_24 23 rfl rfl)
theorem dL_law_627 : decode cL_law 627 = .ok (.iload 6, 2) := dk_21 6 (dk_at dksL_law_25 0 rfl rfl)
theorem dL_law_629 : decode cL_law 629 = .ok (.i2l, 1) := dk_133 (dk_at dksL_law_25 2 rfl rfl)
theorem dL_law_630 : decode cL_law 630 = .ok (.lcmp, 1) := dk_148 (dk_at dksL_law_25 3 rfl rfl)
theorem dL_law_631 : decode cL_law 631 = .ok (.ifCond .eq 5, 3) := dk_153 0 5 (dk_at dksL_law_25 4 rfl rfl)
theorem dL_law_634 : decode cL_law 634 = .ok (.iconst 0, 1) := dk_3 (dk_at dksL_law_25 7 rfl rfl)
theorem dL_law_635 : decode cL_law 635 = .ok (.ireturn, 1) := dk_172 (dk_at dksL_law_25 8 rfl rfl)
theorem dL_law_636 : decode cL_law 636 = .ok (.goto 462, 3) := dk_167 1 206 (dk_at dksL_law_25 9 rfl rfl)
theorem dL_law_639 : decode cL_law 639 = .ok (.aload_n 1, 1) := dk_43 (dk_at dksL_law_25 12 rfl rfl)
theorem dL_law_640 : decode cL_law 640 = .ok (.aload_n 0, 1) := dk_42 (dk_at dksL_law_25 13 rfl rfl)
theorem dL_law_641 : decode cL_law 641 = .ok (.iload 4, 2) := dk_21 4 (dk_at dksL_law_25 14 rfl rfl)
theorem dL_law_643 : decode cL_law 643 = .ok (.iconst 1, 1) := dk_4 (dk_at dksL_law_25 16 rfl rfl)
theorem dL_law_644 : decode cL_law 644 = .ok (.iadd, 1) := dk_96 (dk_at dksL_law_25 17 rfl rfl)
theorem dL_law_645 : decode cL_law 645 = .ok (.iaload, 1) := dk_46 (dk_at dksL_law_25 18 rfl rfl)
theorem dL_law_646 : decode cL_law 646 = .ok (.aload_n 0, 1) := dk_42 (dk_at dksL_law_25 19 rfl rfl)
theorem dL_law_647 : decode cL_law 647 = .ok (.iload 4, 2) := dk_21 4 (dk_at dksL_law_25 20 rfl rfl)
theorem dL_law_649 : decode cL_law 649 = .ok (.iconst 2, 1) := dk_5 (dk_at dksL_law_25 22 rfl rfl)
theorem dL_law_650 : decode cL_law 650 = .ok (.iadd, 1) := dk_96 (dk_at dksL_law_25 23 rfl rfl)
theorem dL_law_651 : decode cL_law 651 = .ok (.iaload, 1) := dk_46 (dk_at dksL_law_26 0 rfl rfl)
theorem dL_law_652 : decode cL_law 652 = .ok (.aload_n 3, 1) := dk_45 (dk_at dksL_law_26 1 rfl rfl)
theorem dL_law_653 : decode cL_law 653 = .ok (.invokestatic 104, 3) := dk_184 0 104 (dk_at dksL_law_26 2 rfl rfl)
theorem dL_law_656 : decode cL_law 656 = .ok (.istore 5, 2) := dk_54 5 (dk_at dksL_law_26 5 rfl rfl)
theorem dL_law_658 : decode cL_law 658 = .ok (.aload_n 2, 1) := dk_44 (dk_at dksL_law_26 7 rfl rfl)
theorem dL_law_659 : decode cL_law 659 = .ok (.aload_n 0, 1) := dk_42 (dk_at dksL_law_26 8 rfl rfl)
theorem dL_law_660 : decode cL_law 660 = .ok (.iload 4, 2) := dk_21 4 (dk_at dksL_law_26 9 rfl rfl)
theorem dL_law_662 : decode cL_law 662 = .ok (.iconst 1, 1) := dk_4 (dk_at dksL_law_26 11 rfl rfl)
theorem dL_law_663 : decode cL_law 663 = .ok (.iadd, 1) := dk_96 (dk_at dksL_law_26 12 rfl rfl)
theorem dL_law_664 : decode cL_law 664 = .ok (.iaload, 1) := dk_46 (dk_at dksL_law_26 13 rfl rfl)
theorem dL_law_665 : decode cL_law 665 = .ok (.aload_n 0, 1) := dk_42 (dk_at dksL_law_26 14 rfl rfl)
theorem dL_law_666 : decode cL_law 666 = .ok (.iload 4, 2) := dk_21 4 (dk_at dksL_law_26 15 rfl rfl)
theorem dL_law_668 : decode cL_law 668 = .ok (.iconst 2, 1) := dk_5 (dk_at dksL_law_26 17 rfl rfl)
theorem dL_law_669 : decode cL_law 669 = .ok (.iadd, 1) := dk_96 (dk_at dksL_law_26 18 rfl rfl)
theorem dL_law_670 : decode cL_law 670 = .ok (.iaload, 1) := dk_46 (dk_at dksL_law_26 19 rfl rfl)
theorem dL_law_671 : decode cL_law 671 = .ok (.invokevirtual 106, 3) := dk_182 0 106 (dk_at dksL_law_26 20 rfl rfl)
theorem dL_law_674 : decode cL_law 674 = .ok (.istore 6, 2) := dk_54 6 (dk_at dksL_law_27 0 rfl rfl)
theorem dL_law_676 : decode cL_law 676 = .ok (.aload_n 2, 1) := dk_44 (dk_at dksL_law_27 2 rfl rfl)
theorem dL_law_677 : decode cL_law 677 = .ok (.invokevirtual 77, 3) := dk_182 0 77 (dk_at dksL_law_27 3 rfl rfl)
theorem dL_law_680 : decode cL_law 680 = .ok (.iload 5, 2) := dk_21 5 (dk_at dksL_law_27 6 rfl rfl)
theorem dL_law_682 : decode cL_law 682 = .ok (.if_icmp .eq 5, 3) := dk_159 0 5 (dk_at dksL_law_27 8 rfl rfl)
theorem dL_law_685 : decode cL_law 685 = .ok (.iconst 0, 1) := dk_3 (dk_at dksL_law_27 11 rfl rfl)
theorem dL_law_686 : decode cL_law 686 = .ok (.ireturn, 1) := dk_172 (dk_at dksL_law_27 12 rfl rfl)
theorem dL_law_687 : decode cL_law 687 = .ok (.iload 5, 2) := dk_21 5 (dk_at dksL_law_27 13 rfl rfl)
theorem dL_law_689 : decode cL_law 689 = .ok (.ifCond .ne 15, 3) := dk_154 0 15 (dk_at dksL_law_27 15 rfl rfl)
theorem dL_law_692 : decode cL_law 692 = .ok (.aload_n 3, 1) := dk_45 (dk_at dksL_law_27 18 rfl rfl)
theorem dL_law_693 : decode cL_law 693 = .ok (.iconst 0, 1) := dk_3 (dk_at dksL_law_27 19 rfl rfl)
theorem dL_law_694 : decode cL_law 694 = .ok (.laload, 1) := dk_47 (dk_at dksL_law_27 20 rfl rfl)
theorem dL_law_695 : decode cL_law 695 = .ok (.iload 6, 2) := dk_21 6 (dk_at dksL_law_27 21 rfl rfl)
theorem dL_law_697 : decode cL_law 697 = .ok (.i2l, 1) := dk_133 (dk_at dksL_law_27 23 rfl rfl)
theorem dL_law_698 : decode cL_law 698 = .ok (.lcmp, 1) := dk_148 (dk_at dksL_law_28 0 rfl rfl)
theorem dL_law_699 : decode cL_law 699 = .ok (.ifCond .eq 5, 3) := dk_153 0 5 (dk_at dksL_law_28 1 rfl rfl)
theorem dL_law_702 : decode cL_law 702 = .ok (.iconst 0, 1) := dk_3 (dk_at dksL_law_28 4 rfl rfl)
theorem dL_law_703 : decode cL_law 703 = .ok (.ireturn, 1) := dk_172 (dk_at dksL_law_28 5 rfl rfl)
theorem dL_law_704 : decode cL_law 704 = .ok (.goto 394, 3) := dk_167 1 138 (dk_at dksL_law_28 6 rfl rfl)
theorem dL_law_707 : decode cL_law 707 = .ok (.aload_n 1, 1) := dk_43 (dk_at dksL_law_28 9 rfl rfl)
theorem dL_law_708 : decode cL_law 708 = .ok (.aload_n 0, 1) := dk_42 (dk_at dksL_law_28 10 rfl rfl)
theorem dL_law_709 : decode cL_law 709 = .ok (.iload 4, 2) := dk_21 4 (dk_at dksL_law_28 11 rfl rfl)
theorem dL_law_711 : decode cL_law 711 = .ok (.iconst 1, 1) := dk_4 (dk_at dksL_law_28 13 rfl rfl)
theorem dL_law_712 : decode cL_law 712 = .ok (.iadd, 1) := dk_96 (dk_at dksL_law_28 14 rfl rfl)
theorem dL_law_713 : decode cL_law 713 = .ok (.iaload, 1) := dk_46 (dk_at dksL_law_28 15 rfl rfl)
theorem dL_law_714 : decode cL_law 714 = .ok (.aload_n 3, 1) := dk_45 (dk_at dksL_law_28 16 rfl rfl)
theorem dL_law_715 : decode cL_law 715 = .ok (.invokestatic 107, 3) := dk_184 0 107 (dk_at dksL_law_28 17 rfl rfl)
theorem dL_law_718 : decode cL_law 718 = .ok (.istore 5, 2) := dk_54 5 (dk_at dksL_law_28 20 rfl rfl)
theorem dL_law_720 : decode cL_law 720 = .ok (.aload_n 2, 1) := dk_44 (dk_at dksL_law_28 22 rfl rfl)
theorem dL_law_721 : decode cL_law 721 = .ok (.aload_n 0, 1) := dk_42 (dk_at dksL_law_28 23 rfl rfl)
theorem dL_law_722 : decode cL_law 722 = .ok (.iload 4, 2) := dk_21 4 (dk_at dksL_law_29 0 rfl rfl)
theorem dL_law_724 : decode cL_law 724 = .ok (.iconst 1, 1) := dk_4 (dk_at dksL_law_29 2 rfl rfl)
theorem dL_law_725 : decode cL_law 725 = .ok (.iadd, 1) := dk_96 (dk_at dksL_law_29 3 rfl rfl)
theorem dL_law_726 : decode cL_law 726 = .ok (.iaload, 1) := dk_46 (dk_at dksL_law_29 4 rfl rfl)
theorem dL_law_727 : decode cL_law 727 = .ok (.invokevirtual 109, 3) := dk_182 0 109 (dk_at dksL_law_29 5 rfl rfl)
theorem dL_law_730 : decode cL_law 730 = .ok (.istore 6, 2) := dk_54 6 (dk_at dksL_law_29 8 rfl rfl)
theorem dL_law_732 : decode cL_law 732 = .ok (.aload_n 2, 1) := dk_44 (dk_at dksL_law_29 10 rfl rfl)
theorem dL_law_733 : decode cL_law 733 = .ok (.invokevirtual 77, 3) := dk_182 0 77 (dk_at dksL_law_29 11 rfl rfl)
theorem dL_law_736 : decode cL_law 736 = .ok (.iload 5, 2) := dk_21 5 (dk_at dksL_law_29 14 rfl rfl)
theorem dL_law_738 : decode cL_law 738 = .ok (.if_icmp .eq 5, 3) := dk_159 0 5 (dk_at dksL_law_29 16 rfl rfl)
theorem dL_law_741 : decode cL_law 741 = .ok (.iconst 0, 1) := dk_3 (dk_at dksL_law_29 19 rfl rfl)
theorem dL_law_742 : decode cL_law 742 = .ok (.ireturn, 1) := dk_172 (dk_at dksL_law_29 20 rfl rfl)
theorem dL_law_743 : decode cL_law 743 = .ok (.iload 5, 2) := dk_21 5 (dk_at dksL_law_29 21 rfl rfl)
theorem dL_law_745 : decode cL_law 745 = .ok (.ifCond .ne 15, 3) := dk_154 0 15 (dk_at dksL_law_30 0 rfl rfl)
theorem dL_law_748 : decode cL_law 748 = .ok (.aload_n 3, 1) := dk_45 (dk_at dksL_law_30 3 rfl rfl)
theorem dL_law_749 : decode cL_law 749 = .ok (.iconst 0, 1) := dk_3 (dk_at dksL_law_30 4 rfl rfl)
theorem dL_law_750 : decode cL_law 750 = .ok (.laload, 1) := dk_47 (dk_at dksL_law_30 5 rfl rfl)
theorem dL_law_751 : decode cL_law 751 = .ok (.iload 6, 2) := dk_21 6 (dk_at dksL_law_30 6 rfl rfl)
theorem dL_law_753 : decode cL_law 753 = .ok (.i2l, 1) := dk_133 (dk_at dksL_law_30 8 rfl rfl)
theorem dL_law_754 : decode cL_law 754 = .ok (.lcmp, 1) := dk_148 (dk_at dksL_law_30 9 rfl rfl)
theorem dL_law_755 : decode cL_law 755 = .ok (.ifCond .eq 5, 3) := dk_153 0 5 (dk_at dksL_law_30 10 rfl rfl)
theorem dL_law_758 : decode cL_law 758 = .ok (.iconst 0, 1) := dk_3 (dk_at dksL_law_30 13 rfl rfl)
theorem dL_law_759 : decode cL_law 759 = .ok (.ireturn, 1) := dk_172 (dk_at dksL_law_30 14 rfl rfl)
theorem dL_law_760 : decode cL_law 760 = .ok (.goto 338, 3) := dk_167 1 82 (dk_at dksL_law_30 15 rfl rfl)
theorem dL_law_763 : decode cL_law 763 = .ok (.aload_n 1, 1) := dk_43 (dk_at dksL_law_30 18 rfl rfl)
theorem dL_law_764 : decode cL_law 764 = .ok (.aload_n 0, 1) := dk_42 (dk_at dksL_law_30 19 rfl rfl)
theorem dL_law_765 : decode cL_law 765 = .ok (.iload 4, 2) := dk_21 4 (dk_at dksL_law_30 20 rfl rfl)
theorem dL_law_767 : decode cL_law 767 = .ok (.iconst 1, 1) := dk_4 (dk_at dksL_law_30 22 rfl rfl)
theorem dL_law_768 : decode cL_law 768 = .ok (.iadd, 1) := dk_96 (dk_at dksL_law_30 23 rfl rfl)
theorem dL_law_769 : decode cL_law 769 = .ok (.iaload, 1) := dk_46 (dk_at dksL_law_31 0 rfl rfl)
theorem dL_law_770 : decode cL_law 770 = .ok (.aload_n 3, 1) := dk_45 (dk_at dksL_law_31 1 rfl rfl)
theorem dL_law_771 : decode cL_law 771 = .ok (.invokestatic 110, 3) := dk_184 0 110 (dk_at dksL_law_31 2 rfl rfl)
theorem dL_law_774 : decode cL_law 774 = .ok (.istore 5, 2) := dk_54 5 (dk_at dksL_law_31 5 rfl rfl)
theorem dL_law_776 : decode cL_law 776 = .ok (.aload_n 2, 1) := dk_44 (dk_at dksL_law_31 7 rfl rfl)
theorem dL_law_777 : decode cL_law 777 = .ok (.aload_n 0, 1) := dk_42 (dk_at dksL_law_31 8 rfl rfl)
theorem dL_law_778 : decode cL_law 778 = .ok (.iload 4, 2) := dk_21 4 (dk_at dksL_law_31 9 rfl rfl)
theorem dL_law_780 : decode cL_law 780 = .ok (.iconst 1, 1) := dk_4 (dk_at dksL_law_31 11 rfl rfl)
theorem dL_law_781 : decode cL_law 781 = .ok (.iadd, 1) := dk_96 (dk_at dksL_law_31 12 rfl rfl)
theorem dL_law_782 : decode cL_law 782 = .ok (.iaload, 1) := dk_46 (dk_at dksL_law_31 13 rfl rfl)
theorem dL_law_783 : decode cL_law 783 = .ok (.invokevirtual 112, 3) := dk_182 0 112 (dk_at dksL_law_31 14 rfl rfl)
theorem dL_law_786 : decode cL_law 786 = .ok (.istore 6, 2) := dk_54 6 (dk_at dksL_law_31 17 rfl rfl)
theorem dL_law_788 : decode cL_law 788 = .ok (.aload_n 2, 1) := dk_44 (dk_at dksL_law_31 19 rfl rfl)
theorem dL_law_789 : decode cL_law 789 = .ok (.invokevirtual 77, 3) := dk_182 0 77 (dk_at dksL_law_31 20 rfl rfl)
theorem dL_law_792 : decode cL_law 792 = .ok (.iload 5, 2) := dk_21 5 (dk_at dksL_law_32 0 rfl rfl)
theorem dL_law_794 : decode cL_law 794 = .ok (.if_icmp .eq 5, 3) := dk_159 0 5 (dk_at dksL_law_32 2 rfl rfl)
theorem dL_law_797 : decode cL_law 797 = .ok (.iconst 0, 1) := dk_3 (dk_at dksL_law_32 5 rfl rfl)
theorem dL_law_798 : decode cL_law 798 = .ok (.ireturn, 1) := dk_172 (dk_at dksL_law_32 6 rfl rfl)
theorem dL_law_799 : decode cL_law 799 = .ok (.iload 5, 2) := dk_21 5 (dk_at dksL_law_32 7 rfl rfl)
theorem dL_law_801 : decode cL_law 801 = .ok (.ifCond .ne 22, 3) := dk_154 0 22 (dk_at dksL_law_32 9 rfl rfl)
theorem dL_law_804 : decode cL_law 804 = .ok (.aload_n 3, 1) := dk_45 (dk_at dksL_law_32 12 rfl rfl)
theorem dL_law_805 : decode cL_law 805 = .ok (.iconst 0, 1) := dk_3 (dk_at dksL_law_32 13 rfl rfl)
theorem dL_law_806 : decode cL_law 806 = .ok (.laload, 1) := dk_47 (dk_at dksL_law_32 14 rfl rfl)
theorem dL_law_807 : decode cL_law 807 = .ok (.iload 6, 2) := dk_21 6 (dk_at dksL_law_32 15 rfl rfl)
theorem dL_law_809 : decode cL_law 809 = .ok (.ifCond .eq 7, 3) := dk_153 0 7 (dk_at dksL_law_32 17 rfl rfl)
theorem dL_law_812 : decode cL_law 812 = .ok (.lconst 1, 1) := dk_10 (dk_at dksL_law_32 20 rfl rfl)
theorem dL_law_813 : decode cL_law 813 = .ok (.goto 4, 3) := dk_167 0 4 (dk_at dksL_law_32 21 rfl rfl)
theorem dL_law_816 : decode cL_law 816 = .ok (.lconst 0, 1) := dk_9 (dk_at dksL_law_33 0 rfl rfl)
theorem dL_law_817 : decode cL_law 817 = .ok (.lcmp, 1) := dk_148 (dk_at dksL_law_33 1 rfl rfl)
theorem dL_law_818 : decode cL_law 818 = .ok (.ifCond .eq 5, 3) := dk_153 0 5 (dk_at dksL_law_33 2 rfl rfl)
theorem dL_law_821 : decode cL_law 821 = .ok (.iconst 0, 1) := dk_3 (dk_at dksL_law_33 5 rfl rfl)
theorem dL_law_822 : decode cL_law 822 = .ok (.ireturn, 1) := dk_172 (dk_at dksL_law_33 6 rfl rfl)
theorem dL_law_823 : decode cL_law 823 = .ok (.goto 275, 3) := dk_167 1 19 (dk_at dksL_law_33 7 rfl rfl)
theorem dL_law_826 : decode cL_law 826 = .ok (.aload_n 1, 1) := dk_43 (dk_at dksL_law_33 10 rfl rfl)
theorem dL_law_827 : decode cL_law 827 = .ok (.aload_n 0, 1) := dk_42 (dk_at dksL_law_33 11 rfl rfl)
theorem dL_law_828 : decode cL_law 828 = .ok (.iload 4, 2) := dk_21 4 (dk_at dksL_law_33 12 rfl rfl)
theorem dL_law_830 : decode cL_law 830 = .ok (.iconst 1, 1) := dk_4 (dk_at dksL_law_33 14 rfl rfl)
theorem dL_law_831 : decode cL_law 831 = .ok (.iadd, 1) := dk_96 (dk_at dksL_law_33 15 rfl rfl)
theorem dL_law_832 : decode cL_law 832 = .ok (.iaload, 1) := dk_46 (dk_at dksL_law_33 16 rfl rfl)
theorem dL_law_833 : decode cL_law 833 = .ok (.aload_n 0, 1) := dk_42 (dk_at dksL_law_33 17 rfl rfl)
theorem dL_law_834 : decode cL_law 834 = .ok (.iload 4, 2) := dk_21 4 (dk_at dksL_law_33 18 rfl rfl)
theorem dL_law_836 : decode cL_law 836 = .ok (.iconst 2, 1) := dk_5 (dk_at dksL_law_33 20 rfl rfl)
theorem dL_law_837 : decode cL_law 837 = .ok (.iadd, 1) := dk_96 (dk_at dksL_law_33 21 rfl rfl)
theorem dL_law_838 : decode cL_law 838 = .ok (.iaload, 1) := dk_46 (dk_at dksL_law_33 22 rfl rfl)
theorem dL_law_839 : decode cL_law 839 = .ok (.aload_n 0, 1) := dk_42 (dk_at dksL_law_33 23 rfl rfl)
theorem dL_law_840 : decode cL_law 840 = .ok (.iload 4, 2) := dk_21 4 (dk_at dksL_law_34 0 rfl rfl)
theorem dL_law_842 : decode cL_law 842 = .ok (.iconst 3, 1) := dk_6 (dk_at dksL_law_34 2 rfl rfl)
theorem dL_law_843 : decode cL_law 843 = .ok (.iadd, 1) := dk_96 (dk_at dksL_law_34 3 rfl rfl)
theorem dL_law_844 : decode cL_law 844 = .ok (.iaload, 1) := dk_46 (dk_at dksL_law_34 4 rfl rfl)
theorem dL_law_845 : decode cL_law 845 = .ok (.aload_n 3, 1) := dk_45 (dk_at dksL_law_34 5 rfl rfl)
theorem dL_law_846 : decode cL_law 846 = .ok (.invokestatic 113, 3) := dk_184 0 113 (dk_at dksL_law_34 6 rfl rfl)
theorem dL_law_849 : decode cL_law 849 = .ok (.istore 5, 2) := dk_54 5 (dk_at dksL_law_34 9 rfl rfl)
theorem dL_law_851 : decode cL_law 851 = .ok (.aload_n 2, 1) := dk_44 (dk_at dksL_law_34 11 rfl rfl)
theorem dL_law_852 : decode cL_law 852 = .ok (.aload_n 0, 1) := dk_42 (dk_at dksL_law_34 12 rfl rfl)
theorem dL_law_853 : decode cL_law 853 = .ok (.iload 4, 2) := dk_21 4 (dk_at dksL_law_34 13 rfl rfl)
theorem dL_law_855 : decode cL_law 855 = .ok (.iconst 1, 1) := dk_4 (dk_at dksL_law_34 15 rfl rfl)
theorem dL_law_856 : decode cL_law 856 = .ok (.iadd, 1) := dk_96 (dk_at dksL_law_34 16 rfl rfl)
theorem dL_law_857 : decode cL_law 857 = .ok (.iaload, 1) := dk_46 (dk_at dksL_law_34 17 rfl rfl)
theorem dL_law_858 : decode cL_law 858 = .ok (.aload_n 0, 1) := dk_42 (dk_at dksL_law_34 18 rfl rfl)
theorem dL_law_859 : decode cL_law 859 = .ok (.iload 4, 2) := dk_21 4 (dk_at dksL_law_34 19 rfl rfl)
theorem dL_law_861 : decode cL_law 861 = .ok (.iconst 2, 1) := dk_5 (dk_at dksL_law_34 21 rfl rfl)
theorem dL_law_862 : decode cL_law 862 = .ok (.iadd, 1) := dk_96 (dk_at dksL_law_34 22 rfl rfl)
theorem dL_law_863 : decode cL_law 863 = .ok (.iaload, 1) := dk_46 (dk_at dksL_law_34 23 rfl rfl)
theorem dL_law_864 : decode cL_law 864 = .ok (.aload_n 0, 1) := dk_42 (dk_at dksL_law_35 0 rfl rfl)
theorem dL_law_865 : decode cL_law 865 = .ok (.iload 4, 2) := dk_21 4 (dk_at dksL_law_35 1 rfl rfl)
theorem dL_law_867 : decode cL_law 867 = .ok (.iconst 3, 1) := dk_6 (dk_at dksL_law_35 3 rfl rfl)
theorem dL_law_868 : decode cL_law 868 = .ok (.iadd, 1) := dk_96 (dk_at dksL_law_35 4 rfl rfl)
theorem dL_law_869 : decode cL_law 869 = .ok (.iaload, 1) := dk_46 (dk_at dksL_law_35 5 rfl rfl)
theorem dL_law_870 : decode cL_law 870 = .ok (.invokevirtual 115, 3) := dk_182 0 115 (dk_at dksL_law_35 6 rfl rfl)
theorem dL_law_873 : decode cL_law 873 = .ok (.istore 6, 2) := dk_54 6 (dk_at dksL_law_35 9 rfl rfl)
theorem dL_law_875 : decode cL_law 875 = .ok (.aload_n 2, 1) := dk_44 (dk_at dksL_law_35 11 rfl rfl)
theorem dL_law_876 : decode cL_law 876 = .ok (.invokevirtual 77, 3) := dk_182 0 77 (dk_at dksL_law_35 12 rfl rfl)
theorem dL_law_879 : decode cL_law 879 = .ok (.iload 5, 2) := dk_21 5 (dk_at dksL_law_35 15 rfl rfl)
theorem dL_law_881 : decode cL_law 881 = .ok (.if_icmp .eq 5, 3) := dk_159 0 5 (dk_at dksL_law_35 17 rfl rfl)
theorem dL_law_884 : decode cL_law 884 = .ok (.iconst 0, 1) := dk_3 (dk_at dksL_law_35 20 rfl rfl)
theorem dL_law_885 : decode cL_law 885 = .ok (.ireturn, 1) := dk_172 (dk_at dksL_law_35 21 rfl rfl)
theorem dL_law_886 : decode cL_law 886 = .ok (.iload 5, 2) := dk_21 5 (dk_at dksL_law_35 22 rfl rfl)
theorem dL_law_888 : decode cL_law 888 = .ok (.ifCond .ne 15, 3) := dk_154 0 15 (dk_at dksL_law_36 0 rfl rfl)
theorem dL_law_891 : decode cL_law 891 = .ok (.aload_n 3, 1) := dk_45 (dk_at dksL_law_36 3 rfl rfl)
theorem dL_law_892 : decode cL_law 892 = .ok (.iconst 0, 1) := dk_3 (dk_at dksL_law_36 4 rfl rfl)
theorem dL_law_893 : decode cL_law 893 = .ok (.laload, 1) := dk_47 (dk_at dksL_law_36 5 rfl rfl)
theorem dL_law_894 : decode cL_law 894 = .ok (.iload 6, 2) := dk_21 6 (dk_at dksL_law_36 6 rfl rfl)
theorem dL_law_896 : decode cL_law 896 = .ok (.i2l, 1) := dk_133 (dk_at dksL_law_36 8 rfl rfl)
theorem dL_law_897 : decode cL_law 897 = .ok (.lcmp, 1) := dk_148 (dk_at dksL_law_36 9 rfl rfl)
theorem dL_law_898 : decode cL_law 898 = .ok (.ifCond .eq 5, 3) := dk_153 0 5 (dk_at dksL_law_36 10 rfl rfl)
theorem dL_law_901 : decode cL_law 901 = .ok (.iconst 0, 1) := dk_3 (dk_at dksL_law_36 13 rfl rfl)
theorem dL_law_902 : decode cL_law 902 = .ok (.ireturn, 1) := dk_172 (dk_at dksL_law_36 14 rfl rfl)
theorem dL_law_903 : decode cL_law 903 = .ok (.goto 195, 3) := dk_167 0 195 (dk_at dksL_law_36 15 rfl rfl)
theorem dL_law_906 : decode cL_law 906 = .ok (.aload_n 1, 1) := dk_43 (dk_at dksL_law_36 18 rfl rfl)
theorem dL_law_907 : decode cL_law 907 = .ok (.aload_n 0, 1) := dk_42 (dk_at dksL_law_36 19 rfl rfl)
theorem dL_law_908 : decode cL_law 908 = .ok (.iload 4, 2) := dk_21 4 (dk_at dksL_law_36 20 rfl rfl)
theorem dL_law_910 : decode cL_law 910 = .ok (.iconst 1, 1) := dk_4 (dk_at dksL_law_36 22 rfl rfl)
theorem dL_law_911 : decode cL_law 911 = .ok (.iadd, 1) := dk_96 (dk_at dksL_law_36 23 rfl rfl)
theorem dL_law_912 : decode cL_law 912 = .ok (.iaload, 1) := dk_46 (dk_at dksL_law_37 0 rfl rfl)
theorem dL_law_913 : decode cL_law 913 = .ok (.aload_n 0, 1) := dk_42 (dk_at dksL_law_37 1 rfl rfl)
theorem dL_law_914 : decode cL_law 914 = .ok (.iload 4, 2) := dk_21 4 (dk_at dksL_law_37 2 rfl rfl)
theorem dL_law_916 : decode cL_law 916 = .ok (.iconst 2, 1) := dk_5 (dk_at dksL_law_37 4 rfl rfl)
theorem dL_law_917 : decode cL_law 917 = .ok (.iadd, 1) := dk_96 (dk_at dksL_law_37 5 rfl rfl)
theorem dL_law_918 : decode cL_law 918 = .ok (.iaload, 1) := dk_46 (dk_at dksL_law_37 6 rfl rfl)
theorem dL_law_919 : decode cL_law 919 = .ok (.aload_n 3, 1) := dk_45 (dk_at dksL_law_37 7 rfl rfl)
theorem dL_law_920 : decode cL_law 920 = .ok (.invokestatic 116, 3) := dk_184 0 116 (dk_at dksL_law_37 8 rfl rfl)
theorem dL_law_923 : decode cL_law 923 = .ok (.istore 5, 2) := dk_54 5 (dk_at dksL_law_37 11 rfl rfl)
theorem dL_law_925 : decode cL_law 925 = .ok (.aload_n 2, 1) := dk_44 (dk_at dksL_law_37 13 rfl rfl)
theorem dL_law_926 : decode cL_law 926 = .ok (.aload_n 0, 1) := dk_42 (dk_at dksL_law_37 14 rfl rfl)
theorem dL_law_927 : decode cL_law 927 = .ok (.iload 4, 2) := dk_21 4 (dk_at dksL_law_37 15 rfl rfl)
theorem dL_law_929 : decode cL_law 929 = .ok (.iconst 1, 1) := dk_4 (dk_at dksL_law_37 17 rfl rfl)
theorem dL_law_930 : decode cL_law 930 = .ok (.iadd, 1) := dk_96 (dk_at dksL_law_37 18 rfl rfl)
theorem dL_law_931 : decode cL_law 931 = .ok (.iaload, 1) := dk_46 (dk_at dksL_law_37 19 rfl rfl)
theorem dL_law_932 : decode cL_law 932 = .ok (.aload_n 0, 1) := dk_42 (dk_at dksL_law_37 20 rfl rfl)
theorem dL_law_933 : decode cL_law 933 = .ok (.iload 4, 2) := dk_21 4 (dk_at dksL_law_37 21 rfl rfl)
theorem dL_law_935 : decode cL_law 935 = .ok (.iconst 2, 1) := dk_5 (dk_at dksL_law_37 23 rfl rfl)
theorem dL_law_936 : decode cL_law 936 = .ok (.iadd, 1) := dk_96 (dk_at dksL_law_38 0 rfl rfl)
theorem dL_law_937 : decode cL_law 937 = .ok (.iaload, 1) := dk_46 (dk_at dksL_law_38 1 rfl rfl)
theorem dL_law_938 : decode cL_law 938 = .ok (.invokevirtual 118, 3) := dk_182 0 118 (dk_at dksL_law_38 2 rfl rfl)
theorem dL_law_941 : decode cL_law 941 = .ok (.istore 6, 2) := dk_54 6 (dk_at dksL_law_38 5 rfl rfl)
theorem dL_law_943 : decode cL_law 943 = .ok (.aload_n 2, 1) := dk_44 (dk_at dksL_law_38 7 rfl rfl)
theorem dL_law_944 : decode cL_law 944 = .ok (.invokevirtual 77, 3) := dk_182 0 77 (dk_at dksL_law_38 8 rfl rfl)
theorem dL_law_947 : decode cL_law 947 = .ok (.iload 5, 2) := dk_21 5 (dk_at dksL_law_38 11 rfl rfl)
theorem dL_law_949 : decode cL_law 949 = .ok (.if_icmp .eq 5, 3) := dk_159 0 5 (dk_at dksL_law_38 13 rfl rfl)
theorem dL_law_952 : decode cL_law 952 = .ok (.iconst 0, 1) := dk_3 (dk_at dksL_law_38 16 rfl rfl)
theorem dL_law_953 : decode cL_law 953 = .ok (.ireturn, 1) := dk_172 (dk_at dksL_law_38 17 rfl rfl)
theorem dL_law_954 : decode cL_law 954 = .ok (.iload 5, 2) := dk_21 5 (dk_at dksL_law_38 18 rfl rfl)
theorem dL_law_956 : decode cL_law 956 = .ok (.ifCond .ne 15, 3) := dk_154 0 15 (dk_at dksL_law_38 20 rfl rfl)
theorem dL_law_959 : decode cL_law 959 = .ok (.aload_n 3, 1) := dk_45 (dk_at dksL_law_38 23 rfl rfl)
theorem dL_law_960 : decode cL_law 960 = .ok (.iconst 0, 1) := dk_3 (dk_at dksL_law_39 0 rfl rfl)
theorem dL_law_961 : decode cL_law 961 = .ok (.laload, 1) := dk_47 (dk_at dksL_law_39 1 rfl rfl)
theorem dL_law_962 : decode cL_law 962 = .ok (.iload 6, 2) := dk_21 6 (dk_at dksL_law_39 2 rfl rfl)
theorem dL_law_964 : decode cL_law 964 = .ok (.i2l, 1) := dk_133 (dk_at dksL_law_39 4 rfl rfl)
theorem dL_law_965 : decode cL_law 965 = .ok (.lcmp, 1) := dk_148 (dk_at dksL_law_39 5 rfl rfl)
theorem dL_law_966 : decode cL_law 966 = .ok (.ifCond .eq 5, 3) := dk_153 0 5 (dk_at dksL_law_39 6 rfl rfl)
theorem dL_law_969 : decode cL_law 969 = .ok (.iconst 0, 1) := dk_3 (dk_at dksL_law_39 9 rfl rfl)
theorem dL_law_970 : decode cL_law 970 = .ok (.ireturn, 1) := dk_172 (dk_at dksL_law_39 10 rfl rfl)
theorem dL_law_971 : decode cL_law 971 = .ok (.goto 127, 3) := dk_167 0 127 (dk_at dksL_law_39 11 rfl rfl)
theorem dL_law_974 : decode cL_law 974 = .ok (.aload_n 1, 1) := dk_43 (dk_at dksL_law_39 14 rfl rfl)
theorem dL_law_975 : decode cL_law 975 = .ok (.aload_n 0, 1) := dk_42 (dk_at dksL_law_39 15 rfl rfl)
theorem dL_law_976 : decode cL_law 976 = .ok (.iload 4, 2) := dk_21 4 (dk_at dksL_law_39 16 rfl rfl)
theorem dL_law_978 : decode cL_law 978 = .ok (.iconst 1, 1) := dk_4 (dk_at dksL_law_39 18 rfl rfl)
theorem dL_law_979 : decode cL_law 979 = .ok (.iadd, 1) := dk_96 (dk_at dksL_law_39 19 rfl rfl)
theorem dL_law_980 : decode cL_law 980 = .ok (.iaload, 1) := dk_46 (dk_at dksL_law_39 20 rfl rfl)
theorem dL_law_981 : decode cL_law 981 = .ok (.aload_n 3, 1) := dk_45 (dk_at dksL_law_39 21 rfl rfl)
theorem dL_law_982 : decode cL_law 982 = .ok (.invokestatic 119, 3) := dk_184 0 119 (dk_at dksL_law_40 0 rfl rfl)
theorem dL_law_985 : decode cL_law 985 = .ok (.istore 5, 2) := dk_54 5 (dk_at dksL_law_40 3 rfl rfl)
theorem dL_law_987 : decode cL_law 987 = .ok (.aload_n 2, 1) := dk_44 (dk_at dksL_law_40 5 rfl rfl)
theorem dL_law_988 : decode cL_law 988 = .ok (.aload_n 0, 1) := dk_42 (dk_at dksL_law_40 6 rfl rfl)
theorem dL_law_989 : decode cL_law 989 = .ok (.iload 4, 2) := dk_21 4 (dk_at dksL_law_40 7 rfl rfl)
theorem dL_law_991 : decode cL_law 991 = .ok (.iconst 1, 1) := dk_4 (dk_at dksL_law_40 9 rfl rfl)
theorem dL_law_992 : decode cL_law 992 = .ok (.iadd, 1) := dk_96 (dk_at dksL_law_40 10 rfl rfl)
theorem dL_law_993 : decode cL_law 993 = .ok (.iaload, 1) := dk_46 (dk_at dksL_law_40 11 rfl rfl)
theorem dL_law_994 : decode cL_law 994 = .ok (.invokevirtual 121, 3) := dk_182 0 121 (dk_at dksL_law_40 12 rfl rfl)
theorem dL_law_997 : decode cL_law 997 = .ok (.istore 6, 2) := dk_54 6 (dk_at dksL_law_40 15 rfl rfl)
theorem dL_law_999 : decode cL_law 999 = .ok (.aload_n 2, 1) := dk_44 (dk_at dksL_law_40 17 rfl rfl)
theorem dL_law_1000 : decode cL_law 1000 = .ok (.invokevirtual 77, 3) := dk_182 0 77 (dk_at dksL_law_40 18 rfl rfl)
theorem dL_law_1003 : decode cL_law 1003 = .ok (.iload 5, 2) := dk_21 5 (dk_at dksL_law_40 21 rfl rfl)
theorem dL_law_1005 : decode cL_law 1005 = .ok (.if_icmp .eq 5, 3) := dk_159 0 5 (dk_at dksL_law_41 0 rfl rfl)
theorem dL_law_1008 : decode cL_law 1008 = .ok (.iconst 0, 1) := dk_3 (dk_at dksL_law_41 3 rfl rfl)
theorem dL_law_1009 : decode cL_law 1009 = .ok (.ireturn, 1) := dk_172 (dk_at dksL_law_41 4 rfl rfl)
theorem dL_law_1010 : decode cL_law 1010 = .ok (.iload 5, 2) := dk_21 5 (dk_at dksL_law_41 5 rfl rfl)
theorem dL_law_1012 : decode cL_law 1012 = .ok (.ifCond .ne 15, 3) := dk_154 0 15 (dk_at dksL_law_41 7 rfl rfl)
theorem dL_law_1015 : decode cL_law 1015 = .ok (.aload_n 3, 1) := dk_45 (dk_at dksL_law_41 10 rfl rfl)
theorem dL_law_1016 : decode cL_law 1016 = .ok (.iconst 0, 1) := dk_3 (dk_at dksL_law_41 11 rfl rfl)
theorem dL_law_1017 : decode cL_law 1017 = .ok (.laload, 1) := dk_47 (dk_at dksL_law_41 12 rfl rfl)
theorem dL_law_1018 : decode cL_law 1018 = .ok (.iload 6, 2) := dk_21 6 (dk_at dksL_law_41 13 rfl rfl)
theorem dL_law_1020 : decode cL_law 1020 = .ok (.i2l, 1) := dk_133 (dk_at dksL_law_41 15 rfl rfl)
theorem dL_law_1021 : decode cL_law 1021 = .ok (.lcmp, 1) := dk_148 (dk_at dksL_law_41 16 rfl rfl)
theorem dL_law_1022 : decode cL_law 1022 = .ok (.ifCond .eq 5, 3) := dk_153 0 5 (dk_at dksL_law_41 17 rfl rfl)
theorem dL_law_1025 : decode cL_law 1025 = .ok (.iconst 0, 1) := dk_3 (dk_at dksL_law_41 20 rfl rfl)
theorem dL_law_1026 : decode cL_law 1026 = .ok (.ireturn, 1) := dk_172 (dk_at dksL_law_41 21 rfl rfl)
theorem dL_law_1027 : decode cL_law 1027 = .ok (.goto 71, 3) := dk_167 0 71 (dk_at dksL_law_42 0 rfl rfl)
theorem dL_law_1030 : decode cL_law 1030 = .ok (.aload_n 1, 1) := dk_43 (dk_at dksL_law_42 3 rfl rfl)
theorem dL_law_1031 : decode cL_law 1031 = .ok (.aload_n 0, 1) := dk_42 (dk_at dksL_law_42 4 rfl rfl)
theorem dL_law_1032 : decode cL_law 1032 = .ok (.iload 4, 2) := dk_21 4 (dk_at dksL_law_42 5 rfl rfl)
theorem dL_law_1034 : decode cL_law 1034 = .ok (.iconst 1, 1) := dk_4 (dk_at dksL_law_42 7 rfl rfl)
theorem dL_law_1035 : decode cL_law 1035 = .ok (.iadd, 1) := dk_96 (dk_at dksL_law_42 8 rfl rfl)
theorem dL_law_1036 : decode cL_law 1036 = .ok (.iaload, 1) := dk_46 (dk_at dksL_law_42 9 rfl rfl)
theorem dL_law_1037 : decode cL_law 1037 = .ok (.aload_n 0, 1) := dk_42 (dk_at dksL_law_42 10 rfl rfl)
theorem dL_law_1038 : decode cL_law 1038 = .ok (.iload 4, 2) := dk_21 4 (dk_at dksL_law_42 11 rfl rfl)
theorem dL_law_1040 : decode cL_law 1040 = .ok (.iconst 2, 1) := dk_5 (dk_at dksL_law_42 13 rfl rfl)
theorem dL_law_1041 : decode cL_law 1041 = .ok (.iadd, 1) := dk_96 (dk_at dksL_law_42 14 rfl rfl)
theorem dL_law_1042 : decode cL_law 1042 = .ok (.iaload, 1) := dk_46 (dk_at dksL_law_42 15 rfl rfl)
theorem dL_law_1043 : decode cL_law 1043 = .ok (.aload_n 3, 1) := dk_45 (dk_at dksL_law_42 16 rfl rfl)
theorem dL_law_1044 : decode cL_law 1044 = .ok (.invokestatic 122, 3) := dk_184 0 122 (dk_at dksL_law_42 17 rfl rfl)
theorem dL_law_1047 : decode cL_law 1047 = .ok (.istore 5, 2) := dk_54 5 (dk_at dksL_law_42 20 rfl rfl)
theorem dL_law_1049 : decode cL_law 1049 = .ok (.aload_n 2, 1) := dk_44 (dk_at dksL_law_42 22 rfl rfl)
theorem dL_law_1050 : decode cL_law 1050 = .ok (.aload_n 0, 1) := dk_42 (dk_at dksL_law_42 23 rfl rfl)
theorem dL_law_1051 : decode cL_law 1051 = .ok (.iload 4, 2) := dk_21 4 (dk_at dksL_law_43 0 rfl rfl)
theorem dL_law_1053 : decode cL_law 1053 = .ok (.iconst 1, 1) := dk_4 (dk_at dksL_law_43 2 rfl rfl)
theorem dL_law_1054 : decode cL_law 1054 = .ok (.iadd, 1) := dk_96 (dk_at dksL_law_43 3 rfl rfl)
theorem dL_law_1055 : decode cL_law 1055 = .ok (.iaload, 1) := dk_46 (dk_at dksL_law_43 4 rfl rfl)
theorem dL_law_1056 : decode cL_law 1056 = .ok (.aload_n 0, 1) := dk_42 (dk_at dksL_law_43 5 rfl rfl)
theorem dL_law_1057 : decode cL_law 1057 = .ok (.iload 4, 2) := dk_21 4 (dk_at dksL_law_43 6 rfl rfl)
theorem dL_law_1059 : decode cL_law 1059 = .ok (.iconst 2, 1) := dk_5 (dk_at dksL_law_43 8 rfl rfl)
theorem dL_law_1060 : decode cL_law 1060 = .ok (.iadd, 1) := dk_96 (dk_at dksL_law_43 9 rfl rfl)
theorem dL_law_1061 : decode cL_law 1061 = .ok (.iaload, 1) := dk_46 (dk_at dksL_law_43 10 rfl rfl)
theorem dL_law_1062 : decode cL_law 1062 = .ok (.invokevirtual 124, 3) := dk_182 0 124 (dk_at dksL_law_43 11 rfl rfl)
theorem dL_law_1065 : decode cL_law 1065 = .ok (.istore 6, 2) := dk_54 6 (dk_at dksL_law_43 14 rfl rfl)
theorem dL_law_1067 : decode cL_law 1067 = .ok (.aload_n 2, 1) := dk_44 (dk_at dksL_law_43 16 rfl rfl)
theorem dL_law_1068 : decode cL_law 1068 = .ok (.invokevirtual 77, 3) := dk_182 0 77 (dk_at dksL_law_43 17 rfl rfl)
theorem dL_law_1071 : decode cL_law 1071 = .ok (.iload 5, 2) := dk_21 5 (dk_at dksL_law_43 20 rfl rfl)
theorem dL_law_1073 : decode cL_law 1073 = .ok (.if_icmp .eq 5, 3) := dk_159 0 5 (dk_at dksL_law_44 0 rfl rfl)
theorem dL_law_1076 : decode cL_law 1076 = .ok (.iconst 0, 1) := dk_3 (dk_at dksL_law_44 3 rfl rfl)
theorem dL_law_1077 : decode cL_law 1077 = .ok (.ireturn, 1) := dk_172 (dk_at dksL_law_44 4 rfl rfl)
theorem dL_law_1078 : decode cL_law 1078 = .ok (.iload 5, 2) := dk_21 5 (dk_at dksL_law_44 5 rfl rfl)
theorem dL_law_1080 : decode cL_law 1080 = .ok (.ifCond .ne 15, 3) := dk_154 0 15 (dk_at dksL_law_44 7 rfl rfl)
theorem dL_law_1083 : decode cL_law 1083 = .ok (.aload_n 3, 1) := dk_45 (dk_at dksL_law_44 10 rfl rfl)
theorem dL_law_1084 : decode cL_law 1084 = .ok (.iconst 0, 1) := dk_3 (dk_at dksL_law_44 11 rfl rfl)
theorem dL_law_1085 : decode cL_law 1085 = .ok (.laload, 1) := dk_47 (dk_at dksL_law_44 12 rfl rfl)
theorem dL_law_1086 : decode cL_law 1086 = .ok (.iload 6, 2) := dk_21 6 (dk_at dksL_law_44 13 rfl rfl)
theorem dL_law_1088 : decode cL_law 1088 = .ok (.i2l, 1) := dk_133 (dk_at dksL_law_44 15 rfl rfl)
theorem dL_law_1089 : decode cL_law 1089 = .ok (.lcmp, 1) := dk_148 (dk_at dksL_law_44 16 rfl rfl)
theorem dL_law_1090 : decode cL_law 1090 = .ok (.ifCond .eq 5, 3) := dk_153 0 5 (dk_at dksL_law_44 17 rfl rfl)
theorem dL_law_1093 : decode cL_law 1093 = .ok (.iconst 0, 1) := dk_3 (dk_at dksL_law_44 20 rfl rfl)
theorem dL_law_1094 : decode cL_law 1094 = .ok (.ireturn, 1) := dk_172 (dk_at dksL_law_44 21 rfl rfl)
theorem dL_law_1095 : decode cL_law 1095 = .ok (.goto 3, 3) := dk_167 0 3 (dk_at dksL_law_45 0 rfl rfl)
theorem dL_law_1098 : decode cL_law 1098 = .ok (.iinc 4 4, 3) := dk_132 4 4 (dk_at dksL_law_45 3 rfl rfl)
theorem dL_law_1101 : decode cL_law 1101 = .ok (.goto (-1078), 3) := dk_167 251 202 (dk_at dksL_law_45 6 rfl rfl)
theorem dL_law_1104 : decode cL_law 1104 = .ok (.iconst 1, 1) := dk_4 (dk_at dksL_law_45 9 rfl rfl)
theorem dL_law_1105 : decode cL_law 1105 = .ok (.ireturn, 1) := dk_172 (dk_at dksL_law_45 10 rfl rfl)
