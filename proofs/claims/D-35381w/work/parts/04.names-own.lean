set_option maxRecDepth 100000
/-! SkinLeague -/
def RX1 : String := "SkinLeague"
def TX1 : u_T := fun k => match k with
  | 0 => ("SkinLeague", "players", "Ljava/util/ArrayList;", true)
  | 1 => ("SkinLeague", "matches", "Ljava/util/ArrayList;", true)
  | 2 => ("SkinLeague", "skins", "LSkinLeague$Shelf;", true)
  | 3 => ("SkinLeague", "rooms", "[I", true)
  | 4 => ("SkinLeague", "season", "I", false)
  | _ => ("SkinLeague", "day", "I", false)
def tyX1 : Nat → FieldType := fun k => match k with
  | 0 => .object "java/util/ArrayList"
  | 1 => .object "java/util/ArrayList"
  | 2 => .object "SkinLeague$Shelf"
  | 3 => .array .int
  | 4 => .int
  | _ => .int
abbrev wsX10 : List Cond := u_ws RX1 TX1 6
theorem nmX1 : ∀ a, a < 6 → ∀ b, b < 6 → a ≠ b → (TX1 a).2.1 ≠ (TX1 b).2.1 := by decide +kernel
theorem tyX1_ok : ∀ k, k < 6 → parseFieldDescriptor (TX1 k).2.2.1 = some (tyX1 k) := by decide +kernel
abbrev cX1_init : ByteArray := prog_1_method_6_code
def yX1_init : MethodName := ⟨RX1, "<init>", "()V"⟩
def dkwX1_init_2 : List UInt8 := [4, 16, 10, 79, 89, 5, 16, 10, 79, 89, 6, 16, 10, 79, 181, 0, 61, 177]
abbrev dktX1_init_2 : List UInt8 := dkwX1_init_2 ++ []
def dkwX1_init_1 : List UInt8 := [181, 0, 51, 42, 187, 0, 54, 89, 183, 0, 56, 181, 0, 57, 42, 7, 188, 10, 89, 3, 16, 10, 79, 89]
abbrev dktX1_init_1 : List UInt8 := dkwX1_init_1 ++ dktX1_init_2
def dkwX1_init_0 : List UInt8 := [42, 183, 0, 39, 42, 187, 0, 44, 89, 183, 0, 46, 181, 0, 47, 42, 187, 0, 44, 89, 183, 0, 46]
abbrev dktX1_init_0 : List UInt8 := dkwX1_init_0 ++ dktX1_init_1
theorem dksX1_init_0 : cX1_init.data.toList.drop 0 = dktX1_init_0 := by decide +kernel
theorem dksX1_init_1 : cX1_init.data.toList.drop 23 = dktX1_init_1 := dk_seg dksX1_init_0 23 rfl rfl
theorem dksX1_init_2 : cX1_init.data.toList.drop 47 = dktX1_init_2 := dk_seg dksX1_init_1 24 rfl rfl
theorem dX1_init_0 : decode cX1_init 0 = .ok (.aload_n 0, 1) := dk_42 (dk_at dksX1_init_0 0 rfl rfl)
theorem dX1_init_1 : decode cX1_init 1 = .ok (.invokespecial 39, 3) := dk_183 0 39 (dk_at dksX1_init_0 1 rfl rfl)
theorem dX1_init_4 : decode cX1_init 4 = .ok (.aload_n 0, 1) := dk_42 (dk_at dksX1_init_0 4 rfl rfl)
theorem dX1_init_5 : decode cX1_init 5 = .ok (.new 44, 3) := dk_187 0 44 (dk_at dksX1_init_0 5 rfl rfl)
theorem dX1_init_8 : decode cX1_init 8 = .ok (.dup, 1) := dk_89 (dk_at dksX1_init_0 8 rfl rfl)
theorem dX1_init_9 : decode cX1_init 9 = .ok (.invokespecial 46, 3) := dk_183 0 46 (dk_at dksX1_init_0 9 rfl rfl)
theorem dX1_init_12 : decode cX1_init 12 = .ok (.putfield 47, 3) := dk_181 0 47 (dk_at dksX1_init_0 12 rfl rfl)
theorem dX1_init_15 : decode cX1_init 15 = .ok (.aload_n 0, 1) := dk_42 (dk_at dksX1_init_0 15 rfl rfl)
theorem dX1_init_16 : decode cX1_init 16 = .ok (.new 44, 3) := dk_187 0 44 (dk_at dksX1_init_0 16 rfl rfl)
theorem dX1_init_19 : decode cX1_init 19 = .ok (.dup, 1) := dk_89 (dk_at dksX1_init_0 19 rfl rfl)
theorem dX1_init_20 : decode cX1_init 20 = .ok (.invokespecial 46, 3) := dk_183 0 46 (dk_at dksX1_init_0 20 rfl rfl)
theorem dX1_init_23 : decode cX1_init 23 = .ok (.putfield 51, 3) := dk_181 0 51 (dk_at dksX1_init_1 0 rfl rfl)
theorem dX1_init_26 : decode cX1_init 26 = .ok (.aload_n 0, 1) := dk_42 (dk_at dksX1_init_1 3 rfl rfl)
theorem dX1_init_27 : decode cX1_init 27 = .ok (.new 54, 3) := dk_187 0 54 (dk_at dksX1_init_1 4 rfl rfl)
theorem dX1_init_30 : decode cX1_init 30 = .ok (.dup, 1) := dk_89 (dk_at dksX1_init_1 7 rfl rfl)
theorem dX1_init_31 : decode cX1_init 31 = .ok (.invokespecial 56, 3) := dk_183 0 56 (dk_at dksX1_init_1 8 rfl rfl)
theorem dX1_init_34 : decode cX1_init 34 = .ok (.putfield 57, 3) := dk_181 0 57 (dk_at dksX1_init_1 11 rfl rfl)
theorem dX1_init_37 : decode cX1_init 37 = .ok (.aload_n 0, 1) := dk_42 (dk_at dksX1_init_1 14 rfl rfl)
theorem dX1_init_38 : decode cX1_init 38 = .ok (.iconst 4, 1) := dk_7 (dk_at dksX1_init_1 15 rfl rfl)
theorem dX1_init_39 : decode cX1_init 39 = .ok (.newarray .int, 2) := dk_188_10 (dk_at dksX1_init_1 16 rfl rfl)
theorem dX1_init_41 : decode cX1_init 41 = .ok (.dup, 1) := dk_89 (dk_at dksX1_init_1 18 rfl rfl)
theorem dX1_init_42 : decode cX1_init 42 = .ok (.iconst 0, 1) := dk_3 (dk_at dksX1_init_1 19 rfl rfl)
theorem dX1_init_43 : decode cX1_init 43 = .ok (.bipush 10, 2) := dk_16 10 (dk_at dksX1_init_1 20 rfl rfl)
theorem dX1_init_45 : decode cX1_init 45 = .ok (.iastore, 1) := dk_79 (dk_at dksX1_init_1 22 rfl rfl)
theorem dX1_init_46 : decode cX1_init 46 = .ok (.dup, 1) := dk_89 (dk_at dksX1_init_1 23 rfl rfl)
theorem dX1_init_47 : decode cX1_init 47 = .ok (.iconst 1, 1) := dk_4 (dk_at dksX1_init_2 0 rfl rfl)
theorem dX1_init_48 : decode cX1_init 48 = .ok (.bipush 10, 2) := dk_16 10 (dk_at dksX1_init_2 1 rfl rfl)
theorem dX1_init_50 : decode cX1_init 50 = .ok (.iastore, 1) := dk_79 (dk_at dksX1_init_2 3 rfl rfl)
theorem dX1_init_51 : decode cX1_init 51 = .ok (.dup, 1) := dk_89 (dk_at dksX1_init_2 4 rfl rfl)
theorem dX1_init_52 : decode cX1_init 52 = .ok (.iconst 2, 1) := dk_5 (dk_at dksX1_init_2 5 rfl rfl)
theorem dX1_init_53 : decode cX1_init 53 = .ok (.bipush 10, 2) := dk_16 10 (dk_at dksX1_init_2 6 rfl rfl)
theorem dX1_init_55 : decode cX1_init 55 = .ok (.iastore, 1) := dk_79 (dk_at dksX1_init_2 8 rfl rfl)
theorem dX1_init_56 : decode cX1_init 56 = .ok (.dup, 1) := dk_89 (dk_at dksX1_init_2 9 rfl rfl)
theorem dX1_init_57 : decode cX1_init 57 = .ok (.iconst 3, 1) := dk_6 (dk_at dksX1_init_2 10 rfl rfl)
theorem dX1_init_58 : decode cX1_init 58 = .ok (.bipush 10, 2) := dk_16 10 (dk_at dksX1_init_2 11 rfl rfl)
theorem dX1_init_60 : decode cX1_init 60 = .ok (.iastore, 1) := dk_79 (dk_at dksX1_init_2 13 rfl rfl)
theorem dX1_init_61 : decode cX1_init 61 = .ok (.putfield 61, 3) := dk_181 0 61 (dk_at dksX1_init_2 14 rfl rfl)
theorem dX1_init_64 : decode cX1_init 64 = .ok (.return_, 1) := dk_177 (dk_at dksX1_init_2 17 rfl rfl)
abbrev cX1_player : ByteArray := prog_1_method_10_code
def yX1_player : MethodName := ⟨RX1, "player", "()I"⟩
def dkwX1_player_2 : List UInt8 := [182, 0, 71, 4, 100, 172]
abbrev dktX1_player_2 : List UInt8 := dkwX1_player_2 ++ []
def dkwX1_player_1 : List UInt8 := [187, 0, 69, 89, 42, 180, 0, 47, 182, 0, 71, 183, 0, 84, 182, 0, 87, 87, 42, 180, 0, 47]
abbrev dktX1_player_1 : List UInt8 := dkwX1_player_1 ++ dktX1_player_2
def dkwX1_player_0 : List UInt8 := [42, 180, 0, 47, 182, 0, 71, 16, 16, 162, 0, 7, 4, 167, 0, 4, 3, 184, 0, 81, 42, 180, 0, 47]
abbrev dktX1_player_0 : List UInt8 := dkwX1_player_0 ++ dktX1_player_1
theorem dksX1_player_0 : cX1_player.data.toList.drop 0 = dktX1_player_0 := by decide +kernel
theorem dksX1_player_1 : cX1_player.data.toList.drop 24 = dktX1_player_1 := dk_seg dksX1_player_0 24 rfl rfl
theorem dksX1_player_2 : cX1_player.data.toList.drop 46 = dktX1_player_2 := dk_seg dksX1_player_1 22 rfl rfl
theorem dX1_player_0 : decode cX1_player 0 = .ok (.aload_n 0, 1) := dk_42 (dk_at dksX1_player_0 0 rfl rfl)
theorem dX1_player_1 : decode cX1_player 1 = .ok (.getfield 47, 3) := dk_180 0 47 (dk_at dksX1_player_0 1 rfl rfl)
theorem dX1_player_4 : decode cX1_player 4 = .ok (.invokevirtual 71, 3) := dk_182 0 71 (dk_at dksX1_player_0 4 rfl rfl)
theorem dX1_player_7 : decode cX1_player 7 = .ok (.bipush 16, 2) := dk_16 16 (dk_at dksX1_player_0 7 rfl rfl)
theorem dX1_player_9 : decode cX1_player 9 = .ok (.if_icmp .ge 7, 3) := dk_162 0 7 (dk_at dksX1_player_0 9 rfl rfl)
theorem dX1_player_12 : decode cX1_player 12 = .ok (.iconst 1, 1) := dk_4 (dk_at dksX1_player_0 12 rfl rfl)
theorem dX1_player_13 : decode cX1_player 13 = .ok (.goto 4, 3) := dk_167 0 4 (dk_at dksX1_player_0 13 rfl rfl)
theorem dX1_player_16 : decode cX1_player 16 = .ok (.iconst 0, 1) := dk_3 (dk_at dksX1_player_0 16 rfl rfl)
theorem dX1_player_17 : decode cX1_player 17 = .ok (.invokestatic 81, 3) := dk_184 0 81 (dk_at dksX1_player_0 17 rfl rfl)
theorem dX1_player_20 : decode cX1_player 20 = .ok (.aload_n 0, 1) := dk_42 (dk_at dksX1_player_0 20 rfl rfl)
theorem dX1_player_21 : decode cX1_player 21 = .ok (.getfield 47, 3) := dk_180 0 47 (dk_at dksX1_player_0 21 rfl rfl)
theorem dX1_player_24 : decode cX1_player 24 = .ok (.new 69, 3) := dk_187 0 69 (dk_at dksX1_player_1 0 rfl rfl)
theorem dX1_player_27 : decode cX1_player 27 = .ok (.dup, 1) := dk_89 (dk_at dksX1_player_1 3 rfl rfl)
theorem dX1_player_28 : decode cX1_player 28 = .ok (.aload_n 0, 1) := dk_42 (dk_at dksX1_player_1 4 rfl rfl)
theorem dX1_player_29 : decode cX1_player 29 = .ok (.getfield 47, 3) := dk_180 0 47 (dk_at dksX1_player_1 5 rfl rfl)
theorem dX1_player_32 : decode cX1_player 32 = .ok (.invokevirtual 71, 3) := dk_182 0 71 (dk_at dksX1_player_1 8 rfl rfl)
theorem dX1_player_35 : decode cX1_player 35 = .ok (.invokespecial 84, 3) := dk_183 0 84 (dk_at dksX1_player_1 11 rfl rfl)
theorem dX1_player_38 : decode cX1_player 38 = .ok (.invokevirtual 87, 3) := dk_182 0 87 (dk_at dksX1_player_1 14 rfl rfl)
theorem dX1_player_41 : decode cX1_player 41 = .ok (.pop, 1) := dk_87 (dk_at dksX1_player_1 17 rfl rfl)
theorem dX1_player_42 : decode cX1_player 42 = .ok (.aload_n 0, 1) := dk_42 (dk_at dksX1_player_1 18 rfl rfl)
theorem dX1_player_43 : decode cX1_player 43 = .ok (.getfield 47, 3) := dk_180 0 47 (dk_at dksX1_player_1 19 rfl rfl)
theorem dX1_player_46 : decode cX1_player 46 = .ok (.invokevirtual 71, 3) := dk_182 0 71 (dk_at dksX1_player_2 0 rfl rfl)
theorem dX1_player_49 : decode cX1_player 49 = .ok (.iconst 1, 1) := dk_4 (dk_at dksX1_player_2 3 rfl rfl)
theorem dX1_player_50 : decode cX1_player 50 = .ok (.isub, 1) := dk_100 (dk_at dksX1_player_2 4 rfl rfl)
theorem dX1_player_51 : decode cX1_player 51 = .ok (.ireturn, 1) := dk_172 (dk_at dksX1_player_2 5 rfl rfl)
abbrev cX1_needState : ByteArray := prog_1_method_3_code
def yX1_needState : MethodName := ⟨RX1, "needState", "(Z)V"⟩
def dkwX1_needState_0 : List UInt8 := [26, 154, 0, 13, 187, 0, 14, 89, 18, 16, 183, 0, 18, 191, 177]
abbrev dktX1_needState_0 : List UInt8 := dkwX1_needState_0 ++ []
theorem dksX1_needState_0 : cX1_needState.data.toList.drop 0 = dktX1_needState_0 := by decide +kernel
theorem dX1_needState_0 : decode cX1_needState 0 = .ok (.iload_n 0, 1) := dk_26 (dk_at dksX1_needState_0 0 rfl rfl)
theorem dX1_needState_1 : decode cX1_needState 1 = .ok (.ifCond .ne 13, 3) := dk_154 0 13 (dk_at dksX1_needState_0 1 rfl rfl)
theorem dX1_needState_4 : decode cX1_needState 4 = .ok (.new 14, 3) := dk_187 0 14 (dk_at dksX1_needState_0 4 rfl rfl)
theorem dX1_needState_7 : decode cX1_needState 7 = .ok (.dup, 1) := dk_89 (dk_at dksX1_needState_0 7 rfl rfl)
theorem dX1_needState_8 : decode cX1_needState 8 = .ok (.ldc 16, 2) := dk_18 16 (dk_at dksX1_needState_0 8 rfl rfl)
theorem dX1_needState_10 : decode cX1_needState 10 = .ok (.invokespecial 18, 3) := dk_183 0 18 (dk_at dksX1_needState_0 10 rfl rfl)
theorem dX1_needState_13 : decode cX1_needState 13 = .ok (.athrow, 1) := dk_191 (dk_at dksX1_needState_0 13 rfl rfl)
theorem dX1_needState_14 : decode cX1_needState 14 = .ok (.return_, 1) := dk_177 (dk_at dksX1_needState_0 14 rfl rfl)
abbrev cX1_room : ByteArray := prog_1_method_12_code
def yX1_room : MethodName := ⟨RX1, "room", "(II)I"⟩
def dkwX1_room_1 : List UInt8 := [182, 0, 104, 172]
abbrev dktX1_room_1 : List UInt8 := dkwX1_room_1 ++ []
def dkwX1_room_0 : List UInt8 := [27, 184, 0, 98, 3, 16, 50, 28, 184, 0, 25, 184, 0, 101, 42, 180, 0, 61, 27, 28, 79, 42, 27]
abbrev dktX1_room_0 : List UInt8 := dkwX1_room_0 ++ dktX1_room_1
theorem dksX1_room_0 : cX1_room.data.toList.drop 0 = dktX1_room_0 := by decide +kernel
theorem dksX1_room_1 : cX1_room.data.toList.drop 23 = dktX1_room_1 := dk_seg dksX1_room_0 23 rfl rfl
theorem dX1_room_0 : decode cX1_room 0 = .ok (.iload_n 1, 1) := dk_27 (dk_at dksX1_room_0 0 rfl rfl)
theorem dX1_room_1 : decode cX1_room 1 = .ok (.invokestatic 98, 3) := dk_184 0 98 (dk_at dksX1_room_0 1 rfl rfl)
theorem dX1_room_4 : decode cX1_room 4 = .ok (.iconst 0, 1) := dk_3 (dk_at dksX1_room_0 4 rfl rfl)
theorem dX1_room_5 : decode cX1_room 5 = .ok (.bipush 50, 2) := dk_16 50 (dk_at dksX1_room_0 5 rfl rfl)
theorem dX1_room_7 : decode cX1_room 7 = .ok (.iload_n 2, 1) := dk_28 (dk_at dksX1_room_0 7 rfl rfl)
theorem dX1_room_8 : decode cX1_room 8 = .ok (.invokestatic 25, 3) := dk_184 0 25 (dk_at dksX1_room_0 8 rfl rfl)
theorem dX1_room_11 : decode cX1_room 11 = .ok (.invokestatic 101, 3) := dk_184 0 101 (dk_at dksX1_room_0 11 rfl rfl)
theorem dX1_room_14 : decode cX1_room 14 = .ok (.aload_n 0, 1) := dk_42 (dk_at dksX1_room_0 14 rfl rfl)
theorem dX1_room_15 : decode cX1_room 15 = .ok (.getfield 61, 3) := dk_180 0 61 (dk_at dksX1_room_0 15 rfl rfl)
theorem dX1_room_18 : decode cX1_room 18 = .ok (.iload_n 1, 1) := dk_27 (dk_at dksX1_room_0 18 rfl rfl)
theorem dX1_room_19 : decode cX1_room 19 = .ok (.iload_n 2, 1) := dk_28 (dk_at dksX1_room_0 19 rfl rfl)
theorem dX1_room_20 : decode cX1_room 20 = .ok (.iastore, 1) := dk_79 (dk_at dksX1_room_0 20 rfl rfl)
theorem dX1_room_21 : decode cX1_room 21 = .ok (.aload_n 0, 1) := dk_42 (dk_at dksX1_room_0 21 rfl rfl)
theorem dX1_room_22 : decode cX1_room 22 = .ok (.iload_n 1, 1) := dk_27 (dk_at dksX1_room_0 22 rfl rfl)
theorem dX1_room_23 : decode cX1_room 23 = .ok (.invokevirtual 104, 3) := dk_182 0 104 (dk_at dksX1_room_1 0 rfl rfl)
theorem dX1_room_26 : decode cX1_room 26 = .ok (.ireturn, 1) := dk_172 (dk_at dksX1_room_1 3 rfl rfl)
abbrev cX1_needRegion : ByteArray := prog_1_method_8_code
def yX1_needRegion : MethodName := ⟨RX1, "needRegion", "(I)V"⟩
def dkwX1_needRegion_0 : List UInt8 := [3, 6, 26, 184, 0, 25, 184, 0, 31, 177]
abbrev dktX1_needRegion_0 : List UInt8 := dkwX1_needRegion_0 ++ []
theorem dksX1_needRegion_0 : cX1_needRegion.data.toList.drop 0 = dktX1_needRegion_0 := by decide +kernel
theorem dX1_needRegion_0 : decode cX1_needRegion 0 = .ok (.iconst 0, 1) := dk_3 (dk_at dksX1_needRegion_0 0 rfl rfl)
theorem dX1_needRegion_1 : decode cX1_needRegion 1 = .ok (.iconst 3, 1) := dk_6 (dk_at dksX1_needRegion_0 1 rfl rfl)
theorem dX1_needRegion_2 : decode cX1_needRegion 2 = .ok (.iload_n 0, 1) := dk_26 (dk_at dksX1_needRegion_0 2 rfl rfl)
theorem dX1_needRegion_3 : decode cX1_needRegion 3 = .ok (.invokestatic 25, 3) := dk_184 0 25 (dk_at dksX1_needRegion_0 3 rfl rfl)
theorem dX1_needRegion_6 : decode cX1_needRegion 6 = .ok (.invokestatic 31, 3) := dk_184 0 31 (dk_at dksX1_needRegion_0 6 rfl rfl)
theorem dX1_needRegion_9 : decode cX1_needRegion 9 = .ok (.return_, 1) := dk_177 (dk_at dksX1_needRegion_0 9 rfl rfl)
abbrev cX1_isBetween : ByteArray := prog_1_method_4_code
def yX1_isBetween : MethodName := ⟨RX1, "isBetween", "(III)Z"⟩
def dkwX1_isBetween_0 : List UInt8 := [28, 26, 161, 0, 12, 28, 27, 163, 0, 7, 4, 167, 0, 4, 3, 172]
abbrev dktX1_isBetween_0 : List UInt8 := dkwX1_isBetween_0 ++ []
theorem dksX1_isBetween_0 : cX1_isBetween.data.toList.drop 0 = dktX1_isBetween_0 := by decide +kernel
theorem dX1_isBetween_0 : decode cX1_isBetween 0 = .ok (.iload_n 2, 1) := dk_28 (dk_at dksX1_isBetween_0 0 rfl rfl)
theorem dX1_isBetween_1 : decode cX1_isBetween 1 = .ok (.iload_n 0, 1) := dk_26 (dk_at dksX1_isBetween_0 1 rfl rfl)
theorem dX1_isBetween_2 : decode cX1_isBetween 2 = .ok (.if_icmp .lt 12, 3) := dk_161 0 12 (dk_at dksX1_isBetween_0 2 rfl rfl)
theorem dX1_isBetween_5 : decode cX1_isBetween 5 = .ok (.iload_n 2, 1) := dk_28 (dk_at dksX1_isBetween_0 5 rfl rfl)
theorem dX1_isBetween_6 : decode cX1_isBetween 6 = .ok (.iload_n 1, 1) := dk_27 (dk_at dksX1_isBetween_0 6 rfl rfl)
theorem dX1_isBetween_7 : decode cX1_isBetween 7 = .ok (.if_icmp .gt 7, 3) := dk_163 0 7 (dk_at dksX1_isBetween_0 7 rfl rfl)
theorem dX1_isBetween_10 : decode cX1_isBetween 10 = .ok (.iconst 1, 1) := dk_4 (dk_at dksX1_isBetween_0 10 rfl rfl)
theorem dX1_isBetween_11 : decode cX1_isBetween 11 = .ok (.goto 4, 3) := dk_167 0 4 (dk_at dksX1_isBetween_0 11 rfl rfl)
theorem dX1_isBetween_14 : decode cX1_isBetween 14 = .ok (.iconst 0, 1) := dk_3 (dk_at dksX1_isBetween_0 14 rfl rfl)
theorem dX1_isBetween_15 : decode cX1_isBetween 15 = .ok (.ireturn, 1) := dk_172 (dk_at dksX1_isBetween_0 15 rfl rfl)
abbrev cX1_needIndex : ByteArray := prog_1_method_1_code
def yX1_needIndex : MethodName := ⟨RX1, "needIndex", "(Z)V"⟩
def dkwX1_needIndex_0 : List UInt8 := [26, 154, 0, 13, 187, 0, 1, 89, 18, 3, 183, 0, 5, 191, 177]
abbrev dktX1_needIndex_0 : List UInt8 := dkwX1_needIndex_0 ++ []
theorem dksX1_needIndex_0 : cX1_needIndex.data.toList.drop 0 = dktX1_needIndex_0 := by decide +kernel
theorem dX1_needIndex_0 : decode cX1_needIndex 0 = .ok (.iload_n 0, 1) := dk_26 (dk_at dksX1_needIndex_0 0 rfl rfl)
theorem dX1_needIndex_1 : decode cX1_needIndex 1 = .ok (.ifCond .ne 13, 3) := dk_154 0 13 (dk_at dksX1_needIndex_0 1 rfl rfl)
theorem dX1_needIndex_4 : decode cX1_needIndex 4 = .ok (.new 1, 3) := dk_187 0 1 (dk_at dksX1_needIndex_0 4 rfl rfl)
theorem dX1_needIndex_7 : decode cX1_needIndex 7 = .ok (.dup, 1) := dk_89 (dk_at dksX1_needIndex_0 7 rfl rfl)
theorem dX1_needIndex_8 : decode cX1_needIndex 8 = .ok (.ldc 3, 2) := dk_18 3 (dk_at dksX1_needIndex_0 8 rfl rfl)
theorem dX1_needIndex_10 : decode cX1_needIndex 10 = .ok (.invokespecial 5, 3) := dk_183 0 5 (dk_at dksX1_needIndex_0 10 rfl rfl)
theorem dX1_needIndex_13 : decode cX1_needIndex 13 = .ok (.athrow, 1) := dk_191 (dk_at dksX1_needIndex_0 13 rfl rfl)
theorem dX1_needIndex_14 : decode cX1_needIndex 14 = .ok (.return_, 1) := dk_177 (dk_at dksX1_needIndex_0 14 rfl rfl)
abbrev cX1_needArgument : ByteArray := prog_1_method_2_code
def yX1_needArgument : MethodName := ⟨RX1, "needArgument", "(Z)V"⟩
def dkwX1_needArgument_0 : List UInt8 := [26, 154, 0, 13, 187, 0, 9, 89, 18, 11, 183, 0, 13, 191, 177]
abbrev dktX1_needArgument_0 : List UInt8 := dkwX1_needArgument_0 ++ []
theorem dksX1_needArgument_0 : cX1_needArgument.data.toList.drop 0 = dktX1_needArgument_0 := by decide +kernel
theorem dX1_needArgument_0 : decode cX1_needArgument 0 = .ok (.iload_n 0, 1) := dk_26 (dk_at dksX1_needArgument_0 0 rfl rfl)
theorem dX1_needArgument_1 : decode cX1_needArgument 1 = .ok (.ifCond .ne 13, 3) := dk_154 0 13 (dk_at dksX1_needArgument_0 1 rfl rfl)
theorem dX1_needArgument_4 : decode cX1_needArgument 4 = .ok (.new 9, 3) := dk_187 0 9 (dk_at dksX1_needArgument_0 4 rfl rfl)
theorem dX1_needArgument_7 : decode cX1_needArgument 7 = .ok (.dup, 1) := dk_89 (dk_at dksX1_needArgument_0 7 rfl rfl)
theorem dX1_needArgument_8 : decode cX1_needArgument 8 = .ok (.ldc 11, 2) := dk_18 11 (dk_at dksX1_needArgument_0 8 rfl rfl)
theorem dX1_needArgument_10 : decode cX1_needArgument 10 = .ok (.invokespecial 13, 3) := dk_183 0 13 (dk_at dksX1_needArgument_0 10 rfl rfl)
theorem dX1_needArgument_13 : decode cX1_needArgument 13 = .ok (.athrow, 1) := dk_191 (dk_at dksX1_needArgument_0 13 rfl rfl)
theorem dX1_needArgument_14 : decode cX1_needArgument 14 = .ok (.return_, 1) := dk_177 (dk_at dksX1_needArgument_0 14 rfl rfl)
abbrev cX1_load : ByteArray := prog_1_method_11_code
def yX1_load : MethodName := ⟨RX1, "load", "(I)I"⟩
def dkwX1_load_0 : List UInt8 := [42, 42, 27, 186, 0, 91, 0, 0, 182, 0, 94, 172]
abbrev dktX1_load_0 : List UInt8 := dkwX1_load_0 ++ []
theorem dksX1_load_0 : cX1_load.data.toList.drop 0 = dktX1_load_0 := by decide +kernel
theorem dX1_load_0 : decode cX1_load 0 = .ok (.aload_n 0, 1) := dk_42 (dk_at dksX1_load_0 0 rfl rfl)
theorem dX1_load_1 : decode cX1_load 1 = .ok (.aload_n 0, 1) := dk_42 (dk_at dksX1_load_0 1 rfl rfl)
theorem dX1_load_2 : decode cX1_load 2 = .ok (.iload_n 1, 1) := dk_27 (dk_at dksX1_load_0 2 rfl rfl)
theorem dX1_load_3 : decode cX1_load 3 = .ok (.invokedynamic 91, 5) := by decide +kernel
theorem dX1_load_8 : decode cX1_load 8 = .ok (.invokevirtual 94, 3) := dk_182 0 94 (dk_at dksX1_load_0 8 rfl rfl)
theorem dX1_load_11 : decode cX1_load 11 = .ok (.ireturn, 1) := dk_172 (dk_at dksX1_load_0 11 rfl rfl)
abbrev cX1_lambda_load_0 : ByteArray := prog_1_method_39_code
def yX1_lambda_load_0 : MethodName := ⟨RX1, "lambda$load$0", "(ILSkinLeague$Match;)I"⟩
def dkwX1_lambda_load_0_1 : List UInt8 := [172]
abbrev dktX1_lambda_load_0_1 : List UInt8 := dkwX1_lambda_load_0_1 ++ []
def dkwX1_lambda_load_0_0 : List UInt8 := [44, 180, 1, 30, 27, 160, 0, 18, 44, 180, 1, 33, 42, 180, 0, 108, 160, 0, 7, 4, 167, 0, 4, 3]
abbrev dktX1_lambda_load_0_0 : List UInt8 := dkwX1_lambda_load_0_0 ++ dktX1_lambda_load_0_1
theorem dksX1_lambda_load_0_0 : cX1_lambda_load_0.data.toList.drop 0 = dktX1_lambda_load_0_0 := by decide +kernel
theorem dksX1_lambda_load_0_1 : cX1_lambda_load_0.data.toList.drop 24 = dktX1_lambda_load_0_1 := dk_seg dksX1_lambda_load_0_0 24 rfl rfl
theorem dX1_lambda_load_0_0 : decode cX1_lambda_load_0 0 = .ok (.aload_n 2, 1) := dk_44 (dk_at dksX1_lambda_load_0_0 0 rfl rfl)
theorem dX1_lambda_load_0_1 : decode cX1_lambda_load_0 1 = .ok (.getfield 286, 3) := dk_180 1 30 (dk_at dksX1_lambda_load_0_0 1 rfl rfl)
theorem dX1_lambda_load_0_4 : decode cX1_lambda_load_0 4 = .ok (.iload_n 1, 1) := dk_27 (dk_at dksX1_lambda_load_0_0 4 rfl rfl)
theorem dX1_lambda_load_0_5 : decode cX1_lambda_load_0 5 = .ok (.if_icmp .ne 18, 3) := dk_160 0 18 (dk_at dksX1_lambda_load_0_0 5 rfl rfl)
theorem dX1_lambda_load_0_8 : decode cX1_lambda_load_0 8 = .ok (.aload_n 2, 1) := dk_44 (dk_at dksX1_lambda_load_0_0 8 rfl rfl)
theorem dX1_lambda_load_0_9 : decode cX1_lambda_load_0 9 = .ok (.getfield 289, 3) := dk_180 1 33 (dk_at dksX1_lambda_load_0_0 9 rfl rfl)
theorem dX1_lambda_load_0_12 : decode cX1_lambda_load_0 12 = .ok (.aload_n 0, 1) := dk_42 (dk_at dksX1_lambda_load_0_0 12 rfl rfl)
theorem dX1_lambda_load_0_13 : decode cX1_lambda_load_0 13 = .ok (.getfield 108, 3) := dk_180 0 108 (dk_at dksX1_lambda_load_0_0 13 rfl rfl)
theorem dX1_lambda_load_0_16 : decode cX1_lambda_load_0 16 = .ok (.if_icmp .ne 7, 3) := dk_160 0 7 (dk_at dksX1_lambda_load_0_0 16 rfl rfl)
theorem dX1_lambda_load_0_19 : decode cX1_lambda_load_0 19 = .ok (.iconst 1, 1) := dk_4 (dk_at dksX1_lambda_load_0_0 19 rfl rfl)
theorem dX1_lambda_load_0_20 : decode cX1_lambda_load_0 20 = .ok (.goto 4, 3) := dk_167 0 4 (dk_at dksX1_lambda_load_0_0 20 rfl rfl)
theorem dX1_lambda_load_0_23 : decode cX1_lambda_load_0 23 = .ok (.iconst 0, 1) := dk_3 (dk_at dksX1_lambda_load_0_0 23 rfl rfl)
theorem dX1_lambda_load_0_24 : decode cX1_lambda_load_0 24 = .ok (.ireturn, 1) := dk_172 (dk_at dksX1_lambda_load_0_1 0 rfl rfl)
abbrev cX1_sum : ByteArray := prog_1_method_9_code
def yX1_sum : MethodName := ⟨RX1, "sum", "(LSkinLeague$Tally;)I"⟩
def dkwX1_sum_1 : List UInt8 := [182, 0, 72, 192, 0, 73, 185, 0, 75, 2, 0, 96, 61, 132, 3, 1, 167, 255, 222, 28, 172]
abbrev dktX1_sum_1 : List UInt8 := dkwX1_sum_1 ++ []
def dkwX1_sum_0 : List UInt8 := [3, 61, 3, 62, 29, 42, 180, 0, 51, 182, 0, 71, 162, 0, 29, 28, 43, 42, 180, 0, 51, 29]
abbrev dktX1_sum_0 : List UInt8 := dkwX1_sum_0 ++ dktX1_sum_1
theorem dksX1_sum_0 : cX1_sum.data.toList.drop 0 = dktX1_sum_0 := by decide +kernel
theorem dksX1_sum_1 : cX1_sum.data.toList.drop 22 = dktX1_sum_1 := dk_seg dksX1_sum_0 22 rfl rfl
theorem dX1_sum_0 : decode cX1_sum 0 = .ok (.iconst 0, 1) := dk_3 (dk_at dksX1_sum_0 0 rfl rfl)
theorem dX1_sum_1 : decode cX1_sum 1 = .ok (.istore_n 2, 1) := dk_61 (dk_at dksX1_sum_0 1 rfl rfl)
theorem dX1_sum_2 : decode cX1_sum 2 = .ok (.iconst 0, 1) := dk_3 (dk_at dksX1_sum_0 2 rfl rfl)
theorem dX1_sum_3 : decode cX1_sum 3 = .ok (.istore_n 3, 1) := dk_62 (dk_at dksX1_sum_0 3 rfl rfl)
theorem dX1_sum_4 : decode cX1_sum 4 = .ok (.iload_n 3, 1) := dk_29 (dk_at dksX1_sum_0 4 rfl rfl)
theorem dX1_sum_5 : decode cX1_sum 5 = .ok (.aload_n 0, 1) := dk_42 (dk_at dksX1_sum_0 5 rfl rfl)
theorem dX1_sum_6 : decode cX1_sum 6 = .ok (.getfield 51, 3) := dk_180 0 51 (dk_at dksX1_sum_0 6 rfl rfl)
theorem dX1_sum_9 : decode cX1_sum 9 = .ok (.invokevirtual 71, 3) := dk_182 0 71 (dk_at dksX1_sum_0 9 rfl rfl)
theorem dX1_sum_12 : decode cX1_sum 12 = .ok (.if_icmp .ge 29, 3) := dk_162 0 29 (dk_at dksX1_sum_0 12 rfl rfl)
theorem dX1_sum_15 : decode cX1_sum 15 = .ok (.iload_n 2, 1) := dk_28 (dk_at dksX1_sum_0 15 rfl rfl)
theorem dX1_sum_16 : decode cX1_sum 16 = .ok (.aload_n 1, 1) := dk_43 (dk_at dksX1_sum_0 16 rfl rfl)
theorem dX1_sum_17 : decode cX1_sum 17 = .ok (.aload_n 0, 1) := dk_42 (dk_at dksX1_sum_0 17 rfl rfl)
theorem dX1_sum_18 : decode cX1_sum 18 = .ok (.getfield 51, 3) := dk_180 0 51 (dk_at dksX1_sum_0 18 rfl rfl)
theorem dX1_sum_21 : decode cX1_sum 21 = .ok (.iload_n 3, 1) := dk_29 (dk_at dksX1_sum_0 21 rfl rfl)
theorem dX1_sum_22 : decode cX1_sum 22 = .ok (.invokevirtual 72, 3) := dk_182 0 72 (dk_at dksX1_sum_1 0 rfl rfl)
theorem dX1_sum_25 : decode cX1_sum 25 = .ok (.checkcast 73, 3) := dk_192 0 73 (dk_at dksX1_sum_1 3 rfl rfl)
theorem dX1_sum_28 : decode cX1_sum 28 = .ok (.invokeinterface 75 2, 5) := by decide +kernel
theorem dX1_sum_33 : decode cX1_sum 33 = .ok (.iadd, 1) := dk_96 (dk_at dksX1_sum_1 11 rfl rfl)
theorem dX1_sum_34 : decode cX1_sum 34 = .ok (.istore_n 2, 1) := dk_61 (dk_at dksX1_sum_1 12 rfl rfl)
theorem dX1_sum_35 : decode cX1_sum 35 = .ok (.iinc 3 1, 3) := dk_132 3 1 (dk_at dksX1_sum_1 13 rfl rfl)
theorem dX1_sum_38 : decode cX1_sum 38 = .ok (.goto (-34), 3) := dk_167 255 222 (dk_at dksX1_sum_1 16 rfl rfl)
theorem dX1_sum_41 : decode cX1_sum 41 = .ok (.iload_n 2, 1) := dk_28 (dk_at dksX1_sum_1 19 rfl rfl)
theorem dX1_sum_42 : decode cX1_sum 42 = .ok (.ireturn, 1) := dk_172 (dk_at dksX1_sum_1 20 rfl rfl)
abbrev cX1_match : ByteArray := prog_1_method_15_code
def yX1_match : MethodName := ⟨RX1, "match", "(III)I"⟩
def dkwX1_match_4 : List UInt8 := [42, 180, 0, 127, 183, 0, 130, 182, 0, 87, 87, 42, 180, 0, 51, 182, 0, 71, 4, 100, 172]
abbrev dktX1_match_4 : List UInt8 := dkwX1_match_4 ++ []
def dkwX1_match_3 : List UInt8 := [167, 0, 4, 3, 184, 0, 81, 42, 180, 0, 51, 187, 0, 73, 89, 25, 4, 25, 5, 29, 42, 180, 0, 108]
abbrev dktX1_match_3 : List UInt8 := dkwX1_match_3 ++ dktX1_match_4
def dkwX1_match_2 : List UInt8 := [182, 0, 71, 16, 100, 162, 0, 21, 42, 29, 182, 0, 104, 42, 180, 0, 61, 29, 46, 162, 0, 7, 4]
abbrev dktX1_match_2 : List UInt8 := dkwX1_match_2 ++ dktX1_match_3
def dkwX1_match_1 : List UInt8 := [165, 0, 7, 4, 167, 0, 4, 3, 184, 0, 101, 42, 25, 4, 25, 5, 182, 0, 123, 42, 180, 0, 51]
abbrev dktX1_match_1 : List UInt8 := dkwX1_match_1 ++ dktX1_match_2
def dkwX1_match_0 : List UInt8 := [42, 27, 182, 0, 119, 58, 4, 42, 28, 182, 0, 119, 58, 5, 29, 184, 0, 98, 25, 4, 25, 5]
abbrev dktX1_match_0 : List UInt8 := dkwX1_match_0 ++ dktX1_match_1
theorem dksX1_match_0 : cX1_match.data.toList.drop 0 = dktX1_match_0 := by decide +kernel
theorem dksX1_match_1 : cX1_match.data.toList.drop 22 = dktX1_match_1 := dk_seg dksX1_match_0 22 rfl rfl
theorem dksX1_match_2 : cX1_match.data.toList.drop 45 = dktX1_match_2 := dk_seg dksX1_match_1 23 rfl rfl
theorem dksX1_match_3 : cX1_match.data.toList.drop 68 = dktX1_match_3 := dk_seg dksX1_match_2 23 rfl rfl
theorem dksX1_match_4 : cX1_match.data.toList.drop 92 = dktX1_match_4 := dk_seg dksX1_match_3 24 rfl rfl
theorem dX1_match_0 : decode cX1_match 0 = .ok (.aload_n 0, 1) := dk_42 (dk_at dksX1_match_0 0 rfl rfl)
theorem dX1_match_1 : decode cX1_match 1 = .ok (.iload_n 1, 1) := dk_27 (dk_at dksX1_match_0 1 rfl rfl)
theorem dX1_match_2 : decode cX1_match 2 = .ok (.invokevirtual 119, 3) := dk_182 0 119 (dk_at dksX1_match_0 2 rfl rfl)
theorem dX1_match_5 : decode cX1_match 5 = .ok (.astore 4, 2) := dk_58 4 (dk_at dksX1_match_0 5 rfl rfl)
theorem dX1_match_7 : decode cX1_match 7 = .ok (.aload_n 0, 1) := dk_42 (dk_at dksX1_match_0 7 rfl rfl)
theorem dX1_match_8 : decode cX1_match 8 = .ok (.iload_n 2, 1) := dk_28 (dk_at dksX1_match_0 8 rfl rfl)
theorem dX1_match_9 : decode cX1_match 9 = .ok (.invokevirtual 119, 3) := dk_182 0 119 (dk_at dksX1_match_0 9 rfl rfl)
theorem dX1_match_12 : decode cX1_match 12 = .ok (.astore 5, 2) := dk_58 5 (dk_at dksX1_match_0 12 rfl rfl)
theorem dX1_match_14 : decode cX1_match 14 = .ok (.iload_n 3, 1) := dk_29 (dk_at dksX1_match_0 14 rfl rfl)
theorem dX1_match_15 : decode cX1_match 15 = .ok (.invokestatic 98, 3) := dk_184 0 98 (dk_at dksX1_match_0 15 rfl rfl)
theorem dX1_match_18 : decode cX1_match 18 = .ok (.aload 4, 2) := dk_25 4 (dk_at dksX1_match_0 18 rfl rfl)
theorem dX1_match_20 : decode cX1_match 20 = .ok (.aload 5, 2) := dk_25 5 (dk_at dksX1_match_0 20 rfl rfl)
theorem dX1_match_22 : decode cX1_match 22 = .ok (.if_acmp .eq 7, 3) := dk_165 0 7 (dk_at dksX1_match_1 0 rfl rfl)
theorem dX1_match_25 : decode cX1_match 25 = .ok (.iconst 1, 1) := dk_4 (dk_at dksX1_match_1 3 rfl rfl)
theorem dX1_match_26 : decode cX1_match 26 = .ok (.goto 4, 3) := dk_167 0 4 (dk_at dksX1_match_1 4 rfl rfl)
theorem dX1_match_29 : decode cX1_match 29 = .ok (.iconst 0, 1) := dk_3 (dk_at dksX1_match_1 7 rfl rfl)
theorem dX1_match_30 : decode cX1_match 30 = .ok (.invokestatic 101, 3) := dk_184 0 101 (dk_at dksX1_match_1 8 rfl rfl)
theorem dX1_match_33 : decode cX1_match 33 = .ok (.aload_n 0, 1) := dk_42 (dk_at dksX1_match_1 11 rfl rfl)
theorem dX1_match_34 : decode cX1_match 34 = .ok (.aload 4, 2) := dk_25 4 (dk_at dksX1_match_1 12 rfl rfl)
theorem dX1_match_36 : decode cX1_match 36 = .ok (.aload 5, 2) := dk_25 5 (dk_at dksX1_match_1 14 rfl rfl)
theorem dX1_match_38 : decode cX1_match 38 = .ok (.invokevirtual 123, 3) := dk_182 0 123 (dk_at dksX1_match_1 16 rfl rfl)
theorem dX1_match_41 : decode cX1_match 41 = .ok (.aload_n 0, 1) := dk_42 (dk_at dksX1_match_1 19 rfl rfl)
theorem dX1_match_42 : decode cX1_match 42 = .ok (.getfield 51, 3) := dk_180 0 51 (dk_at dksX1_match_1 20 rfl rfl)
theorem dX1_match_45 : decode cX1_match 45 = .ok (.invokevirtual 71, 3) := dk_182 0 71 (dk_at dksX1_match_2 0 rfl rfl)
theorem dX1_match_48 : decode cX1_match 48 = .ok (.bipush 100, 2) := dk_16 100 (dk_at dksX1_match_2 3 rfl rfl)
theorem dX1_match_50 : decode cX1_match 50 = .ok (.if_icmp .ge 21, 3) := dk_162 0 21 (dk_at dksX1_match_2 5 rfl rfl)
theorem dX1_match_53 : decode cX1_match 53 = .ok (.aload_n 0, 1) := dk_42 (dk_at dksX1_match_2 8 rfl rfl)
theorem dX1_match_54 : decode cX1_match 54 = .ok (.iload_n 3, 1) := dk_29 (dk_at dksX1_match_2 9 rfl rfl)
theorem dX1_match_55 : decode cX1_match 55 = .ok (.invokevirtual 104, 3) := dk_182 0 104 (dk_at dksX1_match_2 10 rfl rfl)
theorem dX1_match_58 : decode cX1_match 58 = .ok (.aload_n 0, 1) := dk_42 (dk_at dksX1_match_2 13 rfl rfl)
theorem dX1_match_59 : decode cX1_match 59 = .ok (.getfield 61, 3) := dk_180 0 61 (dk_at dksX1_match_2 14 rfl rfl)
theorem dX1_match_62 : decode cX1_match 62 = .ok (.iload_n 3, 1) := dk_29 (dk_at dksX1_match_2 17 rfl rfl)
theorem dX1_match_63 : decode cX1_match 63 = .ok (.iaload, 1) := dk_46 (dk_at dksX1_match_2 18 rfl rfl)
theorem dX1_match_64 : decode cX1_match 64 = .ok (.if_icmp .ge 7, 3) := dk_162 0 7 (dk_at dksX1_match_2 19 rfl rfl)
theorem dX1_match_67 : decode cX1_match 67 = .ok (.iconst 1, 1) := dk_4 (dk_at dksX1_match_2 22 rfl rfl)
theorem dX1_match_68 : decode cX1_match 68 = .ok (.goto 4, 3) := dk_167 0 4 (dk_at dksX1_match_3 0 rfl rfl)
theorem dX1_match_71 : decode cX1_match 71 = .ok (.iconst 0, 1) := dk_3 (dk_at dksX1_match_3 3 rfl rfl)
theorem dX1_match_72 : decode cX1_match 72 = .ok (.invokestatic 81, 3) := dk_184 0 81 (dk_at dksX1_match_3 4 rfl rfl)
theorem dX1_match_75 : decode cX1_match 75 = .ok (.aload_n 0, 1) := dk_42 (dk_at dksX1_match_3 7 rfl rfl)
theorem dX1_match_76 : decode cX1_match 76 = .ok (.getfield 51, 3) := dk_180 0 51 (dk_at dksX1_match_3 8 rfl rfl)
theorem dX1_match_79 : decode cX1_match 79 = .ok (.new 73, 3) := dk_187 0 73 (dk_at dksX1_match_3 11 rfl rfl)
theorem dX1_match_82 : decode cX1_match 82 = .ok (.dup, 1) := dk_89 (dk_at dksX1_match_3 14 rfl rfl)
theorem dX1_match_83 : decode cX1_match 83 = .ok (.aload 4, 2) := dk_25 4 (dk_at dksX1_match_3 15 rfl rfl)
theorem dX1_match_85 : decode cX1_match 85 = .ok (.aload 5, 2) := dk_25 5 (dk_at dksX1_match_3 17 rfl rfl)
theorem dX1_match_87 : decode cX1_match 87 = .ok (.iload_n 3, 1) := dk_29 (dk_at dksX1_match_3 19 rfl rfl)
theorem dX1_match_88 : decode cX1_match 88 = .ok (.aload_n 0, 1) := dk_42 (dk_at dksX1_match_3 20 rfl rfl)
theorem dX1_match_89 : decode cX1_match 89 = .ok (.getfield 108, 3) := dk_180 0 108 (dk_at dksX1_match_3 21 rfl rfl)
theorem dX1_match_92 : decode cX1_match 92 = .ok (.aload_n 0, 1) := dk_42 (dk_at dksX1_match_4 0 rfl rfl)
theorem dX1_match_93 : decode cX1_match 93 = .ok (.getfield 127, 3) := dk_180 0 127 (dk_at dksX1_match_4 1 rfl rfl)
theorem dX1_match_96 : decode cX1_match 96 = .ok (.invokespecial 130, 3) := dk_183 0 130 (dk_at dksX1_match_4 4 rfl rfl)
theorem dX1_match_99 : decode cX1_match 99 = .ok (.invokevirtual 87, 3) := dk_182 0 87 (dk_at dksX1_match_4 7 rfl rfl)
theorem dX1_match_102 : decode cX1_match 102 = .ok (.pop, 1) := dk_87 (dk_at dksX1_match_4 10 rfl rfl)
theorem dX1_match_103 : decode cX1_match 103 = .ok (.aload_n 0, 1) := dk_42 (dk_at dksX1_match_4 11 rfl rfl)
theorem dX1_match_104 : decode cX1_match 104 = .ok (.getfield 51, 3) := dk_180 0 51 (dk_at dksX1_match_4 12 rfl rfl)
theorem dX1_match_107 : decode cX1_match 107 = .ok (.invokevirtual 71, 3) := dk_182 0 71 (dk_at dksX1_match_4 15 rfl rfl)
theorem dX1_match_110 : decode cX1_match 110 = .ok (.iconst 1, 1) := dk_4 (dk_at dksX1_match_4 18 rfl rfl)
theorem dX1_match_111 : decode cX1_match 111 = .ok (.isub, 1) := dk_100 (dk_at dksX1_match_4 19 rfl rfl)
theorem dX1_match_112 : decode cX1_match 112 = .ok (.ireturn, 1) := dk_172 (dk_at dksX1_match_4 20 rfl rfl)
abbrev cX1_playerAt : ByteArray := prog_1_method_7_code
def yX1_playerAt : MethodName := ⟨RX1, "playerAt", "(I)LSkinLeague$Player;"⟩
def dkwX1_playerAt_0 : List UInt8 := [42, 180, 0, 47, 27, 184, 0, 65, 192, 0, 69, 176]
abbrev dktX1_playerAt_0 : List UInt8 := dkwX1_playerAt_0 ++ []
theorem dksX1_playerAt_0 : cX1_playerAt.data.toList.drop 0 = dktX1_playerAt_0 := by decide +kernel
theorem dX1_playerAt_0 : decode cX1_playerAt 0 = .ok (.aload_n 0, 1) := dk_42 (dk_at dksX1_playerAt_0 0 rfl rfl)
theorem dX1_playerAt_1 : decode cX1_playerAt 1 = .ok (.getfield 47, 3) := dk_180 0 47 (dk_at dksX1_playerAt_0 1 rfl rfl)
theorem dX1_playerAt_4 : decode cX1_playerAt 4 = .ok (.iload_n 1, 1) := dk_27 (dk_at dksX1_playerAt_0 4 rfl rfl)
theorem dX1_playerAt_5 : decode cX1_playerAt 5 = .ok (.invokestatic 65, 3) := dk_184 0 65 (dk_at dksX1_playerAt_0 5 rfl rfl)
theorem dX1_playerAt_8 : decode cX1_playerAt 8 = .ok (.checkcast 69, 3) := dk_192 0 69 (dk_at dksX1_playerAt_0 8 rfl rfl)
theorem dX1_playerAt_11 : decode cX1_playerAt 11 = .ok (.areturn, 1) := dk_176 (dk_at dksX1_playerAt_0 11 rfl rfl)
abbrev cX1_known : ByteArray := prog_1_method_5_code
def yX1_known : MethodName := ⟨RX1, "known", "(Ljava/util/List;I)Ljava/lang/Object;"⟩
def dkwX1_known_0 : List UInt8 := [3, 42, 185, 0, 19, 1, 0, 4, 100, 27, 184, 0, 25, 184, 0, 31, 42, 27, 185, 0, 35, 2, 0, 176]
abbrev dktX1_known_0 : List UInt8 := dkwX1_known_0 ++ []
theorem dksX1_known_0 : cX1_known.data.toList.drop 0 = dktX1_known_0 := by decide +kernel
theorem dX1_known_0 : decode cX1_known 0 = .ok (.iconst 0, 1) := dk_3 (dk_at dksX1_known_0 0 rfl rfl)
theorem dX1_known_1 : decode cX1_known 1 = .ok (.aload_n 0, 1) := dk_42 (dk_at dksX1_known_0 1 rfl rfl)
theorem dX1_known_2 : decode cX1_known 2 = .ok (.invokeinterface 19 1, 5) := by decide +kernel
theorem dX1_known_7 : decode cX1_known 7 = .ok (.iconst 1, 1) := dk_4 (dk_at dksX1_known_0 7 rfl rfl)
theorem dX1_known_8 : decode cX1_known 8 = .ok (.isub, 1) := dk_100 (dk_at dksX1_known_0 8 rfl rfl)
theorem dX1_known_9 : decode cX1_known 9 = .ok (.iload_n 1, 1) := dk_27 (dk_at dksX1_known_0 9 rfl rfl)
theorem dX1_known_10 : decode cX1_known 10 = .ok (.invokestatic 25, 3) := dk_184 0 25 (dk_at dksX1_known_0 10 rfl rfl)
theorem dX1_known_13 : decode cX1_known 13 = .ok (.invokestatic 31, 3) := dk_184 0 31 (dk_at dksX1_known_0 13 rfl rfl)
theorem dX1_known_16 : decode cX1_known 16 = .ok (.aload_n 0, 1) := dk_42 (dk_at dksX1_known_0 16 rfl rfl)
theorem dX1_known_17 : decode cX1_known 17 = .ok (.iload_n 1, 1) := dk_27 (dk_at dksX1_known_0 17 rfl rfl)
theorem dX1_known_18 : decode cX1_known 18 = .ok (.invokeinterface 35 2, 5) := by decide +kernel
theorem dX1_known_23 : decode cX1_known 23 = .ok (.areturn, 1) := dk_176 (dk_at dksX1_known_0 23 rfl rfl)
abbrev cX1_needFree : ByteArray := prog_1_method_14_code
def yX1_needFree : MethodName := ⟨RX1, "needFree", "(LSkinLeague$Player;LSkinLeague$Player;)V"⟩
def dkwX1_needFree_1 : List UInt8 := [177]
abbrev dktX1_needFree_1 : List UInt8 := dkwX1_needFree_1 ++ []
def dkwX1_needFree_0 : List UInt8 := [42, 43, 182, 0, 115, 154, 0, 15, 42, 44, 182, 0, 115, 154, 0, 7, 4, 167, 0, 4, 3, 184, 0, 81]
abbrev dktX1_needFree_0 : List UInt8 := dkwX1_needFree_0 ++ dktX1_needFree_1
theorem dksX1_needFree_0 : cX1_needFree.data.toList.drop 0 = dktX1_needFree_0 := by decide +kernel
theorem dksX1_needFree_1 : cX1_needFree.data.toList.drop 24 = dktX1_needFree_1 := dk_seg dksX1_needFree_0 24 rfl rfl
theorem dX1_needFree_0 : decode cX1_needFree 0 = .ok (.aload_n 0, 1) := dk_42 (dk_at dksX1_needFree_0 0 rfl rfl)
theorem dX1_needFree_1 : decode cX1_needFree 1 = .ok (.aload_n 1, 1) := dk_43 (dk_at dksX1_needFree_0 1 rfl rfl)
theorem dX1_needFree_2 : decode cX1_needFree 2 = .ok (.invokevirtual 115, 3) := dk_182 0 115 (dk_at dksX1_needFree_0 2 rfl rfl)
theorem dX1_needFree_5 : decode cX1_needFree 5 = .ok (.ifCond .ne 15, 3) := dk_154 0 15 (dk_at dksX1_needFree_0 5 rfl rfl)
theorem dX1_needFree_8 : decode cX1_needFree 8 = .ok (.aload_n 0, 1) := dk_42 (dk_at dksX1_needFree_0 8 rfl rfl)
theorem dX1_needFree_9 : decode cX1_needFree 9 = .ok (.aload_n 2, 1) := dk_44 (dk_at dksX1_needFree_0 9 rfl rfl)
theorem dX1_needFree_10 : decode cX1_needFree 10 = .ok (.invokevirtual 115, 3) := dk_182 0 115 (dk_at dksX1_needFree_0 10 rfl rfl)
theorem dX1_needFree_13 : decode cX1_needFree 13 = .ok (.ifCond .ne 7, 3) := dk_154 0 7 (dk_at dksX1_needFree_0 13 rfl rfl)
theorem dX1_needFree_16 : decode cX1_needFree 16 = .ok (.iconst 1, 1) := dk_4 (dk_at dksX1_needFree_0 16 rfl rfl)
theorem dX1_needFree_17 : decode cX1_needFree 17 = .ok (.goto 4, 3) := dk_167 0 4 (dk_at dksX1_needFree_0 17 rfl rfl)
theorem dX1_needFree_20 : decode cX1_needFree 20 = .ok (.iconst 0, 1) := dk_3 (dk_at dksX1_needFree_0 20 rfl rfl)
theorem dX1_needFree_21 : decode cX1_needFree 21 = .ok (.invokestatic 81, 3) := dk_184 0 81 (dk_at dksX1_needFree_0 21 rfl rfl)
theorem dX1_needFree_24 : decode cX1_needFree 24 = .ok (.return_, 1) := dk_177 (dk_at dksX1_needFree_1 0 rfl rfl)
abbrev cX1_isBanned : ByteArray := prog_1_method_13_code
def yX1_isBanned : MethodName := ⟨RX1, "isBanned", "(LSkinLeague$Player;)Z"⟩
def dkwX1_isBanned_0 : List UInt8 := [42, 180, 0, 108, 43, 180, 0, 112, 162, 0, 7, 4, 167, 0, 4, 3, 172]
abbrev dktX1_isBanned_0 : List UInt8 := dkwX1_isBanned_0 ++ []
theorem dksX1_isBanned_0 : cX1_isBanned.data.toList.drop 0 = dktX1_isBanned_0 := by decide +kernel
theorem dX1_isBanned_0 : decode cX1_isBanned 0 = .ok (.aload_n 0, 1) := dk_42 (dk_at dksX1_isBanned_0 0 rfl rfl)
theorem dX1_isBanned_1 : decode cX1_isBanned 1 = .ok (.getfield 108, 3) := dk_180 0 108 (dk_at dksX1_isBanned_0 1 rfl rfl)
theorem dX1_isBanned_4 : decode cX1_isBanned 4 = .ok (.aload_n 1, 1) := dk_43 (dk_at dksX1_isBanned_0 4 rfl rfl)
theorem dX1_isBanned_5 : decode cX1_isBanned 5 = .ok (.getfield 112, 3) := dk_180 0 112 (dk_at dksX1_isBanned_0 5 rfl rfl)
theorem dX1_isBanned_8 : decode cX1_isBanned 8 = .ok (.if_icmp .ge 7, 3) := dk_162 0 7 (dk_at dksX1_isBanned_0 8 rfl rfl)
theorem dX1_isBanned_11 : decode cX1_isBanned 11 = .ok (.iconst 1, 1) := dk_4 (dk_at dksX1_isBanned_0 11 rfl rfl)
theorem dX1_isBanned_12 : decode cX1_isBanned 12 = .ok (.goto 4, 3) := dk_167 0 4 (dk_at dksX1_isBanned_0 12 rfl rfl)
theorem dX1_isBanned_15 : decode cX1_isBanned 15 = .ok (.iconst 0, 1) := dk_3 (dk_at dksX1_isBanned_0 15 rfl rfl)
theorem dX1_isBanned_16 : decode cX1_isBanned 16 = .ok (.ireturn, 1) := dk_172 (dk_at dksX1_isBanned_0 16 rfl rfl)
abbrev cX1_end : ByteArray := prog_1_method_21_code
def yX1_end : MethodName := ⟨RX1, "end", "()I"⟩
def dkwX1_end_4 : List UInt8 := [132, 3, 1, 167, 255, 191, 42, 89, 180, 0, 127, 4, 96, 181, 0, 127, 28, 172]
abbrev dktX1_end_4 : List UInt8 := dkwX1_end_4 ++ []
def dkwX1_end_3 : List UInt8 := [187, 0, 161, 89, 42, 180, 0, 57, 182, 0, 163, 25, 5, 25, 4, 183, 0, 164, 182, 0, 167, 132, 2, 1]
abbrev dktX1_end_3 : List UInt8 := dkwX1_end_3 ++ dktX1_end_4
def dkwX1_end_2 : List UInt8 := [198, 0, 47, 187, 0, 156, 89, 42, 180, 0, 127, 29, 183, 0, 158, 58, 5, 42, 180, 0, 57, 25, 5]
abbrev dktX1_end_2 : List UInt8 := dkwX1_end_2 ++ dktX1_end_3
def dkwX1_end_1 : List UInt8 := [182, 0, 148, 76, 3, 61, 4, 62, 29, 6, 163, 0, 66, 42, 29, 43, 182, 0, 152, 58, 4, 25, 4]
abbrev dktX1_end_1 : List UInt8 := dkwX1_end_1 ++ dktX1_end_2
def dkwX1_end_0 : List UInt8 := [42, 180, 0, 127, 16, 11, 162, 0, 7, 4, 167, 0, 4, 3, 184, 0, 81, 42, 42, 180, 0, 127]
abbrev dktX1_end_0 : List UInt8 := dkwX1_end_0 ++ dktX1_end_1
theorem dksX1_end_0 : cX1_end.data.toList.drop 0 = dktX1_end_0 := by decide +kernel
theorem dksX1_end_1 : cX1_end.data.toList.drop 22 = dktX1_end_1 := dk_seg dksX1_end_0 22 rfl rfl
theorem dksX1_end_2 : cX1_end.data.toList.drop 45 = dktX1_end_2 := dk_seg dksX1_end_1 23 rfl rfl
theorem dksX1_end_3 : cX1_end.data.toList.drop 68 = dktX1_end_3 := dk_seg dksX1_end_2 23 rfl rfl
theorem dksX1_end_4 : cX1_end.data.toList.drop 92 = dktX1_end_4 := dk_seg dksX1_end_3 24 rfl rfl
theorem dX1_end_0 : decode cX1_end 0 = .ok (.aload_n 0, 1) := dk_42 (dk_at dksX1_end_0 0 rfl rfl)
theorem dX1_end_1 : decode cX1_end 1 = .ok (.getfield 127, 3) := dk_180 0 127 (dk_at dksX1_end_0 1 rfl rfl)
theorem dX1_end_4 : decode cX1_end 4 = .ok (.bipush 11, 2) := dk_16 11 (dk_at dksX1_end_0 4 rfl rfl)
theorem dX1_end_6 : decode cX1_end 6 = .ok (.if_icmp .ge 7, 3) := dk_162 0 7 (dk_at dksX1_end_0 6 rfl rfl)
theorem dX1_end_9 : decode cX1_end 9 = .ok (.iconst 1, 1) := dk_4 (dk_at dksX1_end_0 9 rfl rfl)
theorem dX1_end_10 : decode cX1_end 10 = .ok (.goto 4, 3) := dk_167 0 4 (dk_at dksX1_end_0 10 rfl rfl)
theorem dX1_end_13 : decode cX1_end 13 = .ok (.iconst 0, 1) := dk_3 (dk_at dksX1_end_0 13 rfl rfl)
theorem dX1_end_14 : decode cX1_end 14 = .ok (.invokestatic 81, 3) := dk_184 0 81 (dk_at dksX1_end_0 14 rfl rfl)
theorem dX1_end_17 : decode cX1_end 17 = .ok (.aload_n 0, 1) := dk_42 (dk_at dksX1_end_0 17 rfl rfl)
theorem dX1_end_18 : decode cX1_end 18 = .ok (.aload_n 0, 1) := dk_42 (dk_at dksX1_end_0 18 rfl rfl)
theorem dX1_end_19 : decode cX1_end 19 = .ok (.getfield 127, 3) := dk_180 0 127 (dk_at dksX1_end_0 19 rfl rfl)
theorem dX1_end_22 : decode cX1_end 22 = .ok (.invokevirtual 148, 3) := dk_182 0 148 (dk_at dksX1_end_1 0 rfl rfl)
theorem dX1_end_25 : decode cX1_end 25 = .ok (.astore_n 1, 1) := dk_76 (dk_at dksX1_end_1 3 rfl rfl)
theorem dX1_end_26 : decode cX1_end 26 = .ok (.iconst 0, 1) := dk_3 (dk_at dksX1_end_1 4 rfl rfl)
theorem dX1_end_27 : decode cX1_end 27 = .ok (.istore_n 2, 1) := dk_61 (dk_at dksX1_end_1 5 rfl rfl)
theorem dX1_end_28 : decode cX1_end 28 = .ok (.iconst 1, 1) := dk_4 (dk_at dksX1_end_1 6 rfl rfl)
theorem dX1_end_29 : decode cX1_end 29 = .ok (.istore_n 3, 1) := dk_62 (dk_at dksX1_end_1 7 rfl rfl)
theorem dX1_end_30 : decode cX1_end 30 = .ok (.iload_n 3, 1) := dk_29 (dk_at dksX1_end_1 8 rfl rfl)
theorem dX1_end_31 : decode cX1_end 31 = .ok (.iconst 3, 1) := dk_6 (dk_at dksX1_end_1 9 rfl rfl)
theorem dX1_end_32 : decode cX1_end 32 = .ok (.if_icmp .gt 66, 3) := dk_163 0 66 (dk_at dksX1_end_1 10 rfl rfl)
theorem dX1_end_35 : decode cX1_end 35 = .ok (.aload_n 0, 1) := dk_42 (dk_at dksX1_end_1 13 rfl rfl)
theorem dX1_end_36 : decode cX1_end 36 = .ok (.iload_n 3, 1) := dk_29 (dk_at dksX1_end_1 14 rfl rfl)
theorem dX1_end_37 : decode cX1_end 37 = .ok (.aload_n 1, 1) := dk_43 (dk_at dksX1_end_1 15 rfl rfl)
theorem dX1_end_38 : decode cX1_end 38 = .ok (.invokevirtual 152, 3) := dk_182 0 152 (dk_at dksX1_end_1 16 rfl rfl)
theorem dX1_end_41 : decode cX1_end 41 = .ok (.astore 4, 2) := dk_58 4 (dk_at dksX1_end_1 19 rfl rfl)
theorem dX1_end_43 : decode cX1_end 43 = .ok (.aload 4, 2) := dk_25 4 (dk_at dksX1_end_1 21 rfl rfl)
theorem dX1_end_45 : decode cX1_end 45 = .ok (.ifnull 47, 3) := dk_198 0 47 (dk_at dksX1_end_2 0 rfl rfl)
theorem dX1_end_48 : decode cX1_end 48 = .ok (.new 156, 3) := dk_187 0 156 (dk_at dksX1_end_2 3 rfl rfl)
theorem dX1_end_51 : decode cX1_end 51 = .ok (.dup, 1) := dk_89 (dk_at dksX1_end_2 6 rfl rfl)
theorem dX1_end_52 : decode cX1_end 52 = .ok (.aload_n 0, 1) := dk_42 (dk_at dksX1_end_2 7 rfl rfl)
theorem dX1_end_53 : decode cX1_end 53 = .ok (.getfield 127, 3) := dk_180 0 127 (dk_at dksX1_end_2 8 rfl rfl)
theorem dX1_end_56 : decode cX1_end 56 = .ok (.iload_n 3, 1) := dk_29 (dk_at dksX1_end_2 11 rfl rfl)
theorem dX1_end_57 : decode cX1_end 57 = .ok (.invokespecial 158, 3) := dk_183 0 158 (dk_at dksX1_end_2 12 rfl rfl)
theorem dX1_end_60 : decode cX1_end 60 = .ok (.astore 5, 2) := dk_58 5 (dk_at dksX1_end_2 15 rfl rfl)
theorem dX1_end_62 : decode cX1_end 62 = .ok (.aload_n 0, 1) := dk_42 (dk_at dksX1_end_2 17 rfl rfl)
theorem dX1_end_63 : decode cX1_end 63 = .ok (.getfield 57, 3) := dk_180 0 57 (dk_at dksX1_end_2 18 rfl rfl)
theorem dX1_end_66 : decode cX1_end 66 = .ok (.aload 5, 2) := dk_25 5 (dk_at dksX1_end_2 21 rfl rfl)
theorem dX1_end_68 : decode cX1_end 68 = .ok (.new 161, 3) := dk_187 0 161 (dk_at dksX1_end_3 0 rfl rfl)
theorem dX1_end_71 : decode cX1_end 71 = .ok (.dup, 1) := dk_89 (dk_at dksX1_end_3 3 rfl rfl)
theorem dX1_end_72 : decode cX1_end 72 = .ok (.aload_n 0, 1) := dk_42 (dk_at dksX1_end_3 4 rfl rfl)
theorem dX1_end_73 : decode cX1_end 73 = .ok (.getfield 57, 3) := dk_180 0 57 (dk_at dksX1_end_3 5 rfl rfl)
theorem dX1_end_76 : decode cX1_end 76 = .ok (.invokevirtual 163, 3) := dk_182 0 163 (dk_at dksX1_end_3 8 rfl rfl)
theorem dX1_end_79 : decode cX1_end 79 = .ok (.aload 5, 2) := dk_25 5 (dk_at dksX1_end_3 11 rfl rfl)
theorem dX1_end_81 : decode cX1_end 81 = .ok (.aload 4, 2) := dk_25 4 (dk_at dksX1_end_3 13 rfl rfl)
theorem dX1_end_83 : decode cX1_end 83 = .ok (.invokespecial 164, 3) := dk_183 0 164 (dk_at dksX1_end_3 15 rfl rfl)
theorem dX1_end_86 : decode cX1_end 86 = .ok (.invokevirtual 167, 3) := dk_182 0 167 (dk_at dksX1_end_3 18 rfl rfl)
theorem dX1_end_89 : decode cX1_end 89 = .ok (.iinc 2 1, 3) := dk_132 2 1 (dk_at dksX1_end_3 21 rfl rfl)
theorem dX1_end_92 : decode cX1_end 92 = .ok (.iinc 3 1, 3) := dk_132 3 1 (dk_at dksX1_end_4 0 rfl rfl)
theorem dX1_end_95 : decode cX1_end 95 = .ok (.goto (-65), 3) := dk_167 255 191 (dk_at dksX1_end_4 3 rfl rfl)
theorem dX1_end_98 : decode cX1_end 98 = .ok (.aload_n 0, 1) := dk_42 (dk_at dksX1_end_4 6 rfl rfl)
theorem dX1_end_99 : decode cX1_end 99 = .ok (.dup, 1) := dk_89 (dk_at dksX1_end_4 7 rfl rfl)
theorem dX1_end_100 : decode cX1_end 100 = .ok (.getfield 127, 3) := dk_180 0 127 (dk_at dksX1_end_4 8 rfl rfl)
theorem dX1_end_103 : decode cX1_end 103 = .ok (.iconst 1, 1) := dk_4 (dk_at dksX1_end_4 11 rfl rfl)
theorem dX1_end_104 : decode cX1_end 104 = .ok (.iadd, 1) := dk_96 (dk_at dksX1_end_4 12 rfl rfl)
theorem dX1_end_105 : decode cX1_end 105 = .ok (.putfield 127, 3) := dk_181 0 127 (dk_at dksX1_end_4 13 rfl rfl)
theorem dX1_end_108 : decode cX1_end 108 = .ok (.iload_n 2, 1) := dk_28 (dk_at dksX1_end_4 16 rfl rfl)
theorem dX1_end_109 : decode cX1_end 109 = .ok (.ireturn, 1) := dk_172 (dk_at dksX1_end_4 17 rfl rfl)
abbrev cX1_worths : ByteArray := prog_1_method_18_code
def yX1_worths : MethodName := ⟨RX1, "worths", "(I)[I"⟩
def dkwX1_worths_2 : List UInt8 := [182, 0, 141, 104, 100, 16, 16, 96, 4, 100, 29, 100, 79, 132, 3, 1, 167, 255, 199, 44, 176]
abbrev dktX1_worths_2 : List UInt8 := dkwX1_worths_2 ++ []
def dkwX1_worths_1 : List UInt8 := [54, 4, 44, 29, 21, 4, 154, 0, 7, 3, 167, 0, 26, 17, 39, 16, 21, 4, 104, 16, 20, 42, 27, 29]
abbrev dktX1_worths_1 : List UInt8 := dkwX1_worths_1 ++ dktX1_worths_2
def dkwX1_worths_0 : List UInt8 := [16, 16, 188, 10, 77, 3, 62, 29, 42, 180, 0, 47, 182, 0, 71, 162, 0, 52, 42, 27, 29, 182, 0, 137]
abbrev dktX1_worths_0 : List UInt8 := dkwX1_worths_0 ++ dktX1_worths_1
theorem dksX1_worths_0 : cX1_worths.data.toList.drop 0 = dktX1_worths_0 := by decide +kernel
theorem dksX1_worths_1 : cX1_worths.data.toList.drop 24 = dktX1_worths_1 := dk_seg dksX1_worths_0 24 rfl rfl
theorem dksX1_worths_2 : cX1_worths.data.toList.drop 48 = dktX1_worths_2 := dk_seg dksX1_worths_1 24 rfl rfl
theorem dX1_worths_0 : decode cX1_worths 0 = .ok (.bipush 16, 2) := dk_16 16 (dk_at dksX1_worths_0 0 rfl rfl)
theorem dX1_worths_2 : decode cX1_worths 2 = .ok (.newarray .int, 2) := dk_188_10 (dk_at dksX1_worths_0 2 rfl rfl)
theorem dX1_worths_4 : decode cX1_worths 4 = .ok (.astore_n 2, 1) := dk_77 (dk_at dksX1_worths_0 4 rfl rfl)
theorem dX1_worths_5 : decode cX1_worths 5 = .ok (.iconst 0, 1) := dk_3 (dk_at dksX1_worths_0 5 rfl rfl)
theorem dX1_worths_6 : decode cX1_worths 6 = .ok (.istore_n 3, 1) := dk_62 (dk_at dksX1_worths_0 6 rfl rfl)
theorem dX1_worths_7 : decode cX1_worths 7 = .ok (.iload_n 3, 1) := dk_29 (dk_at dksX1_worths_0 7 rfl rfl)
theorem dX1_worths_8 : decode cX1_worths 8 = .ok (.aload_n 0, 1) := dk_42 (dk_at dksX1_worths_0 8 rfl rfl)
theorem dX1_worths_9 : decode cX1_worths 9 = .ok (.getfield 47, 3) := dk_180 0 47 (dk_at dksX1_worths_0 9 rfl rfl)
theorem dX1_worths_12 : decode cX1_worths 12 = .ok (.invokevirtual 71, 3) := dk_182 0 71 (dk_at dksX1_worths_0 12 rfl rfl)
theorem dX1_worths_15 : decode cX1_worths 15 = .ok (.if_icmp .ge 52, 3) := dk_162 0 52 (dk_at dksX1_worths_0 15 rfl rfl)
theorem dX1_worths_18 : decode cX1_worths 18 = .ok (.aload_n 0, 1) := dk_42 (dk_at dksX1_worths_0 18 rfl rfl)
theorem dX1_worths_19 : decode cX1_worths 19 = .ok (.iload_n 1, 1) := dk_27 (dk_at dksX1_worths_0 19 rfl rfl)
theorem dX1_worths_20 : decode cX1_worths 20 = .ok (.iload_n 3, 1) := dk_29 (dk_at dksX1_worths_0 20 rfl rfl)
theorem dX1_worths_21 : decode cX1_worths 21 = .ok (.invokevirtual 137, 3) := dk_182 0 137 (dk_at dksX1_worths_0 21 rfl rfl)
theorem dX1_worths_24 : decode cX1_worths 24 = .ok (.istore 4, 2) := dk_54 4 (dk_at dksX1_worths_1 0 rfl rfl)
theorem dX1_worths_26 : decode cX1_worths 26 = .ok (.aload_n 2, 1) := dk_44 (dk_at dksX1_worths_1 2 rfl rfl)
theorem dX1_worths_27 : decode cX1_worths 27 = .ok (.iload_n 3, 1) := dk_29 (dk_at dksX1_worths_1 3 rfl rfl)
theorem dX1_worths_28 : decode cX1_worths 28 = .ok (.iload 4, 2) := dk_21 4 (dk_at dksX1_worths_1 4 rfl rfl)
theorem dX1_worths_30 : decode cX1_worths 30 = .ok (.ifCond .ne 7, 3) := dk_154 0 7 (dk_at dksX1_worths_1 6 rfl rfl)
theorem dX1_worths_33 : decode cX1_worths 33 = .ok (.iconst 0, 1) := dk_3 (dk_at dksX1_worths_1 9 rfl rfl)
theorem dX1_worths_34 : decode cX1_worths 34 = .ok (.goto 26, 3) := dk_167 0 26 (dk_at dksX1_worths_1 10 rfl rfl)
theorem dX1_worths_37 : decode cX1_worths 37 = .ok (.sipush 10000, 3) := dk_17 39 16 (dk_at dksX1_worths_1 13 rfl rfl)
theorem dX1_worths_40 : decode cX1_worths 40 = .ok (.iload 4, 2) := dk_21 4 (dk_at dksX1_worths_1 16 rfl rfl)
theorem dX1_worths_42 : decode cX1_worths 42 = .ok (.imul, 1) := dk_104 (dk_at dksX1_worths_1 18 rfl rfl)
theorem dX1_worths_43 : decode cX1_worths 43 = .ok (.bipush 20, 2) := dk_16 20 (dk_at dksX1_worths_1 19 rfl rfl)
theorem dX1_worths_45 : decode cX1_worths 45 = .ok (.aload_n 0, 1) := dk_42 (dk_at dksX1_worths_1 21 rfl rfl)
theorem dX1_worths_46 : decode cX1_worths 46 = .ok (.iload_n 1, 1) := dk_27 (dk_at dksX1_worths_1 22 rfl rfl)
theorem dX1_worths_47 : decode cX1_worths 47 = .ok (.iload_n 3, 1) := dk_29 (dk_at dksX1_worths_1 23 rfl rfl)
theorem dX1_worths_48 : decode cX1_worths 48 = .ok (.invokevirtual 141, 3) := dk_182 0 141 (dk_at dksX1_worths_2 0 rfl rfl)
theorem dX1_worths_51 : decode cX1_worths 51 = .ok (.imul, 1) := dk_104 (dk_at dksX1_worths_2 3 rfl rfl)
theorem dX1_worths_52 : decode cX1_worths 52 = .ok (.isub, 1) := dk_100 (dk_at dksX1_worths_2 4 rfl rfl)
theorem dX1_worths_53 : decode cX1_worths 53 = .ok (.bipush 16, 2) := dk_16 16 (dk_at dksX1_worths_2 5 rfl rfl)
theorem dX1_worths_55 : decode cX1_worths 55 = .ok (.iadd, 1) := dk_96 (dk_at dksX1_worths_2 7 rfl rfl)
theorem dX1_worths_56 : decode cX1_worths 56 = .ok (.iconst 1, 1) := dk_4 (dk_at dksX1_worths_2 8 rfl rfl)
theorem dX1_worths_57 : decode cX1_worths 57 = .ok (.isub, 1) := dk_100 (dk_at dksX1_worths_2 9 rfl rfl)
theorem dX1_worths_58 : decode cX1_worths 58 = .ok (.iload_n 3, 1) := dk_29 (dk_at dksX1_worths_2 10 rfl rfl)
theorem dX1_worths_59 : decode cX1_worths 59 = .ok (.isub, 1) := dk_100 (dk_at dksX1_worths_2 11 rfl rfl)
theorem dX1_worths_60 : decode cX1_worths 60 = .ok (.iastore, 1) := dk_79 (dk_at dksX1_worths_2 12 rfl rfl)
theorem dX1_worths_61 : decode cX1_worths 61 = .ok (.iinc 3 1, 3) := dk_132 3 1 (dk_at dksX1_worths_2 13 rfl rfl)
theorem dX1_worths_64 : decode cX1_worths 64 = .ok (.goto (-57), 3) := dk_167 255 199 (dk_at dksX1_worths_2 16 rfl rfl)
theorem dX1_worths_67 : decode cX1_worths 67 = .ok (.aload_n 2, 1) := dk_44 (dk_at dksX1_worths_2 19 rfl rfl)
theorem dX1_worths_68 : decode cX1_worths 68 = .ok (.areturn, 1) := dk_176 (dk_at dksX1_worths_2 20 rfl rfl)
abbrev cX1_points : ByteArray := prog_1_method_16_code
def yX1_points : MethodName := ⟨RX1, "points", "(II)I"⟩
def dkwX1_points_0 : List UInt8 := [42, 27, 28, 186, 0, 133, 0, 0, 182, 0, 94, 172]
abbrev dktX1_points_0 : List UInt8 := dkwX1_points_0 ++ []
theorem dksX1_points_0 : cX1_points.data.toList.drop 0 = dktX1_points_0 := by decide +kernel
theorem dX1_points_0 : decode cX1_points 0 = .ok (.aload_n 0, 1) := dk_42 (dk_at dksX1_points_0 0 rfl rfl)
theorem dX1_points_1 : decode cX1_points 1 = .ok (.iload_n 1, 1) := dk_27 (dk_at dksX1_points_0 1 rfl rfl)
theorem dX1_points_2 : decode cX1_points 2 = .ok (.iload_n 2, 1) := dk_28 (dk_at dksX1_points_0 2 rfl rfl)
theorem dX1_points_3 : decode cX1_points 3 = .ok (.invokedynamic 133, 5) := by decide +kernel
theorem dX1_points_8 : decode cX1_points 8 = .ok (.invokevirtual 94, 3) := dk_182 0 94 (dk_at dksX1_points_0 8 rfl rfl)
theorem dX1_points_11 : decode cX1_points 11 = .ok (.ireturn, 1) := dk_172 (dk_at dksX1_points_0 11 rfl rfl)
abbrev cX1_lambda_points_1 : ByteArray := prog_1_method_38_code
def yX1_lambda_points_1 : MethodName := ⟨RX1, "lambda$points$1", "(IILSkinLeague$Match;)I"⟩
def dkwX1_lambda_points_1_2 : List UInt8 := [167, 0, 4, 3, 172]
abbrev dktX1_lambda_points_1_2 : List UInt8 := dkwX1_lambda_points_1_2 ++ []
def dkwX1_lambda_points_1_1 : List UInt8 := [160, 0, 7, 6, 167, 0, 23, 44, 180, 1, 27, 180, 0, 240, 27, 160, 0, 7, 4, 167, 0, 8, 3]
abbrev dktX1_lambda_points_1_1 : List UInt8 := dkwX1_lambda_points_1_1 ++ dktX1_lambda_points_1_2
def dkwX1_lambda_points_1_0 : List UInt8 := [44, 180, 1, 19, 26, 160, 0, 44, 44, 182, 0, 237, 153, 0, 37, 44, 180, 1, 24, 180, 0, 240, 27]
abbrev dktX1_lambda_points_1_0 : List UInt8 := dkwX1_lambda_points_1_0 ++ dktX1_lambda_points_1_1
theorem dksX1_lambda_points_1_0 : cX1_lambda_points_1.data.toList.drop 0 = dktX1_lambda_points_1_0 := by decide +kernel
theorem dksX1_lambda_points_1_1 : cX1_lambda_points_1.data.toList.drop 23 = dktX1_lambda_points_1_1 := dk_seg dksX1_lambda_points_1_0 23 rfl rfl
theorem dksX1_lambda_points_1_2 : cX1_lambda_points_1.data.toList.drop 46 = dktX1_lambda_points_1_2 := dk_seg dksX1_lambda_points_1_1 23 rfl rfl
theorem dX1_lambda_points_1_0 : decode cX1_lambda_points_1 0 = .ok (.aload_n 2, 1) := dk_44 (dk_at dksX1_lambda_points_1_0 0 rfl rfl)
theorem dX1_lambda_points_1_1 : decode cX1_lambda_points_1 1 = .ok (.getfield 275, 3) := dk_180 1 19 (dk_at dksX1_lambda_points_1_0 1 rfl rfl)
theorem dX1_lambda_points_1_4 : decode cX1_lambda_points_1 4 = .ok (.iload_n 0, 1) := dk_26 (dk_at dksX1_lambda_points_1_0 4 rfl rfl)
theorem dX1_lambda_points_1_5 : decode cX1_lambda_points_1 5 = .ok (.if_icmp .ne 44, 3) := dk_160 0 44 (dk_at dksX1_lambda_points_1_0 5 rfl rfl)
theorem dX1_lambda_points_1_8 : decode cX1_lambda_points_1 8 = .ok (.aload_n 2, 1) := dk_44 (dk_at dksX1_lambda_points_1_0 8 rfl rfl)
theorem dX1_lambda_points_1_9 : decode cX1_lambda_points_1 9 = .ok (.invokevirtual 237, 3) := dk_182 0 237 (dk_at dksX1_lambda_points_1_0 9 rfl rfl)
theorem dX1_lambda_points_1_12 : decode cX1_lambda_points_1 12 = .ok (.ifCond .eq 37, 3) := dk_153 0 37 (dk_at dksX1_lambda_points_1_0 12 rfl rfl)
theorem dX1_lambda_points_1_15 : decode cX1_lambda_points_1 15 = .ok (.aload_n 2, 1) := dk_44 (dk_at dksX1_lambda_points_1_0 15 rfl rfl)
theorem dX1_lambda_points_1_16 : decode cX1_lambda_points_1 16 = .ok (.getfield 280, 3) := dk_180 1 24 (dk_at dksX1_lambda_points_1_0 16 rfl rfl)
theorem dX1_lambda_points_1_19 : decode cX1_lambda_points_1 19 = .ok (.getfield 240, 3) := dk_180 0 240 (dk_at dksX1_lambda_points_1_0 19 rfl rfl)
theorem dX1_lambda_points_1_22 : decode cX1_lambda_points_1 22 = .ok (.iload_n 1, 1) := dk_27 (dk_at dksX1_lambda_points_1_0 22 rfl rfl)
theorem dX1_lambda_points_1_23 : decode cX1_lambda_points_1 23 = .ok (.if_icmp .ne 7, 3) := dk_160 0 7 (dk_at dksX1_lambda_points_1_1 0 rfl rfl)
theorem dX1_lambda_points_1_26 : decode cX1_lambda_points_1 26 = .ok (.iconst 3, 1) := dk_6 (dk_at dksX1_lambda_points_1_1 3 rfl rfl)
theorem dX1_lambda_points_1_27 : decode cX1_lambda_points_1 27 = .ok (.goto 23, 3) := dk_167 0 23 (dk_at dksX1_lambda_points_1_1 4 rfl rfl)
theorem dX1_lambda_points_1_30 : decode cX1_lambda_points_1 30 = .ok (.aload_n 2, 1) := dk_44 (dk_at dksX1_lambda_points_1_1 7 rfl rfl)
theorem dX1_lambda_points_1_31 : decode cX1_lambda_points_1 31 = .ok (.getfield 283, 3) := dk_180 1 27 (dk_at dksX1_lambda_points_1_1 8 rfl rfl)
theorem dX1_lambda_points_1_34 : decode cX1_lambda_points_1 34 = .ok (.getfield 240, 3) := dk_180 0 240 (dk_at dksX1_lambda_points_1_1 11 rfl rfl)
theorem dX1_lambda_points_1_37 : decode cX1_lambda_points_1 37 = .ok (.iload_n 1, 1) := dk_27 (dk_at dksX1_lambda_points_1_1 14 rfl rfl)
theorem dX1_lambda_points_1_38 : decode cX1_lambda_points_1 38 = .ok (.if_icmp .ne 7, 3) := dk_160 0 7 (dk_at dksX1_lambda_points_1_1 15 rfl rfl)
theorem dX1_lambda_points_1_41 : decode cX1_lambda_points_1 41 = .ok (.iconst 1, 1) := dk_4 (dk_at dksX1_lambda_points_1_1 18 rfl rfl)
theorem dX1_lambda_points_1_42 : decode cX1_lambda_points_1 42 = .ok (.goto 8, 3) := dk_167 0 8 (dk_at dksX1_lambda_points_1_1 19 rfl rfl)
theorem dX1_lambda_points_1_45 : decode cX1_lambda_points_1 45 = .ok (.iconst 0, 1) := dk_3 (dk_at dksX1_lambda_points_1_1 22 rfl rfl)
theorem dX1_lambda_points_1_46 : decode cX1_lambda_points_1 46 = .ok (.goto 4, 3) := dk_167 0 4 (dk_at dksX1_lambda_points_1_2 0 rfl rfl)
theorem dX1_lambda_points_1_49 : decode cX1_lambda_points_1 49 = .ok (.iconst 0, 1) := dk_3 (dk_at dksX1_lambda_points_1_2 3 rfl rfl)
theorem dX1_lambda_points_1_50 : decode cX1_lambda_points_1 50 = .ok (.ireturn, 1) := dk_172 (dk_at dksX1_lambda_points_1_2 4 rfl rfl)
abbrev cX1_played : ByteArray := prog_1_method_17_code
def yX1_played : MethodName := ⟨RX1, "played", "(II)I"⟩
def dkwX1_played_0 : List UInt8 := [42, 27, 28, 186, 0, 136, 0, 0, 182, 0, 94, 172]
abbrev dktX1_played_0 : List UInt8 := dkwX1_played_0 ++ []
theorem dksX1_played_0 : cX1_played.data.toList.drop 0 = dktX1_played_0 := by decide +kernel
theorem dX1_played_0 : decode cX1_played 0 = .ok (.aload_n 0, 1) := dk_42 (dk_at dksX1_played_0 0 rfl rfl)
theorem dX1_played_1 : decode cX1_played 1 = .ok (.iload_n 1, 1) := dk_27 (dk_at dksX1_played_0 1 rfl rfl)
theorem dX1_played_2 : decode cX1_played 2 = .ok (.iload_n 2, 1) := dk_28 (dk_at dksX1_played_0 2 rfl rfl)
theorem dX1_played_3 : decode cX1_played 3 = .ok (.invokedynamic 136, 5) := by decide +kernel
theorem dX1_played_8 : decode cX1_played 8 = .ok (.invokevirtual 94, 3) := dk_182 0 94 (dk_at dksX1_played_0 8 rfl rfl)
theorem dX1_played_11 : decode cX1_played 11 = .ok (.ireturn, 1) := dk_172 (dk_at dksX1_played_0 11 rfl rfl)
abbrev cX1_lambda_played_2 : ByteArray := prog_1_method_37_code
def yX1_lambda_played_2 : MethodName := ⟨RX1, "lambda$played$2", "(IILSkinLeague$Match;)I"⟩
def dkwX1_lambda_played_2_1 : List UInt8 := [167, 0, 4, 3, 172]
abbrev dktX1_lambda_played_2_1 : List UInt8 := dkwX1_lambda_played_2_1 ++ []
def dkwX1_lambda_played_2_0 : List UInt8 := [44, 180, 1, 19, 26, 160, 0, 22, 44, 182, 0, 237, 153, 0, 15, 44, 27, 182, 1, 20, 153, 0, 7, 4]
abbrev dktX1_lambda_played_2_0 : List UInt8 := dkwX1_lambda_played_2_0 ++ dktX1_lambda_played_2_1
theorem dksX1_lambda_played_2_0 : cX1_lambda_played_2.data.toList.drop 0 = dktX1_lambda_played_2_0 := by decide +kernel
theorem dksX1_lambda_played_2_1 : cX1_lambda_played_2.data.toList.drop 24 = dktX1_lambda_played_2_1 := dk_seg dksX1_lambda_played_2_0 24 rfl rfl
theorem dX1_lambda_played_2_0 : decode cX1_lambda_played_2 0 = .ok (.aload_n 2, 1) := dk_44 (dk_at dksX1_lambda_played_2_0 0 rfl rfl)
theorem dX1_lambda_played_2_1 : decode cX1_lambda_played_2 1 = .ok (.getfield 275, 3) := dk_180 1 19 (dk_at dksX1_lambda_played_2_0 1 rfl rfl)
theorem dX1_lambda_played_2_4 : decode cX1_lambda_played_2 4 = .ok (.iload_n 0, 1) := dk_26 (dk_at dksX1_lambda_played_2_0 4 rfl rfl)
theorem dX1_lambda_played_2_5 : decode cX1_lambda_played_2 5 = .ok (.if_icmp .ne 22, 3) := dk_160 0 22 (dk_at dksX1_lambda_played_2_0 5 rfl rfl)
theorem dX1_lambda_played_2_8 : decode cX1_lambda_played_2 8 = .ok (.aload_n 2, 1) := dk_44 (dk_at dksX1_lambda_played_2_0 8 rfl rfl)
theorem dX1_lambda_played_2_9 : decode cX1_lambda_played_2 9 = .ok (.invokevirtual 237, 3) := dk_182 0 237 (dk_at dksX1_lambda_played_2_0 9 rfl rfl)
theorem dX1_lambda_played_2_12 : decode cX1_lambda_played_2 12 = .ok (.ifCond .eq 15, 3) := dk_153 0 15 (dk_at dksX1_lambda_played_2_0 12 rfl rfl)
theorem dX1_lambda_played_2_15 : decode cX1_lambda_played_2 15 = .ok (.aload_n 2, 1) := dk_44 (dk_at dksX1_lambda_played_2_0 15 rfl rfl)
theorem dX1_lambda_played_2_16 : decode cX1_lambda_played_2 16 = .ok (.iload_n 1, 1) := dk_27 (dk_at dksX1_lambda_played_2_0 16 rfl rfl)
theorem dX1_lambda_played_2_17 : decode cX1_lambda_played_2 17 = .ok (.invokevirtual 276, 3) := dk_182 1 20 (dk_at dksX1_lambda_played_2_0 17 rfl rfl)
theorem dX1_lambda_played_2_20 : decode cX1_lambda_played_2 20 = .ok (.ifCond .eq 7, 3) := dk_153 0 7 (dk_at dksX1_lambda_played_2_0 20 rfl rfl)
theorem dX1_lambda_played_2_23 : decode cX1_lambda_played_2 23 = .ok (.iconst 1, 1) := dk_4 (dk_at dksX1_lambda_played_2_0 23 rfl rfl)
theorem dX1_lambda_played_2_24 : decode cX1_lambda_played_2 24 = .ok (.goto 4, 3) := dk_167 0 4 (dk_at dksX1_lambda_played_2_1 0 rfl rfl)
theorem dX1_lambda_played_2_27 : decode cX1_lambda_played_2 27 = .ok (.iconst 0, 1) := dk_3 (dk_at dksX1_lambda_played_2_1 3 rfl rfl)
theorem dX1_lambda_played_2_28 : decode cX1_lambda_played_2 28 = .ok (.ireturn, 1) := dk_172 (dk_at dksX1_lambda_played_2_1 4 rfl rfl)
abbrev cX1_heirOf : ByteArray := prog_1_method_20_code
def yX1_heirOf : MethodName := ⟨RX1, "heirOf", "(I[I)LSkinLeague$Player;"⟩
def dkwX1_heirOf_2 : List UInt8 := [167, 255, 214, 45, 176]
abbrev dktX1_heirOf_2 : List UInt8 := dkwX1_heirOf_2 ++ []
def dkwX1_heirOf_1 : List UInt8 := [160, 0, 18, 42, 180, 0, 47, 21, 4, 182, 0, 72, 192, 0, 69, 167, 0, 4, 45, 78, 132, 4, 1]
abbrev dktX1_heirOf_1 : List UInt8 := dkwX1_heirOf_1 ++ dktX1_heirOf_2
def dkwX1_heirOf_0 : List UInt8 := [1, 78, 3, 54, 4, 21, 4, 42, 180, 0, 47, 182, 0, 71, 162, 0, 36, 21, 4, 44, 184, 0, 144, 27]
abbrev dktX1_heirOf_0 : List UInt8 := dkwX1_heirOf_0 ++ dktX1_heirOf_1
theorem dksX1_heirOf_0 : cX1_heirOf.data.toList.drop 0 = dktX1_heirOf_0 := by decide +kernel
theorem dksX1_heirOf_1 : cX1_heirOf.data.toList.drop 24 = dktX1_heirOf_1 := dk_seg dksX1_heirOf_0 24 rfl rfl
theorem dksX1_heirOf_2 : cX1_heirOf.data.toList.drop 47 = dktX1_heirOf_2 := dk_seg dksX1_heirOf_1 23 rfl rfl
theorem dX1_heirOf_0 : decode cX1_heirOf 0 = .ok (.aconst_null, 1) := dk_1 (dk_at dksX1_heirOf_0 0 rfl rfl)
theorem dX1_heirOf_1 : decode cX1_heirOf 1 = .ok (.astore_n 3, 1) := dk_78 (dk_at dksX1_heirOf_0 1 rfl rfl)
theorem dX1_heirOf_2 : decode cX1_heirOf 2 = .ok (.iconst 0, 1) := dk_3 (dk_at dksX1_heirOf_0 2 rfl rfl)
theorem dX1_heirOf_3 : decode cX1_heirOf 3 = .ok (.istore 4, 2) := dk_54 4 (dk_at dksX1_heirOf_0 3 rfl rfl)
theorem dX1_heirOf_5 : decode cX1_heirOf 5 = .ok (.iload 4, 2) := dk_21 4 (dk_at dksX1_heirOf_0 5 rfl rfl)
theorem dX1_heirOf_7 : decode cX1_heirOf 7 = .ok (.aload_n 0, 1) := dk_42 (dk_at dksX1_heirOf_0 7 rfl rfl)
theorem dX1_heirOf_8 : decode cX1_heirOf 8 = .ok (.getfield 47, 3) := dk_180 0 47 (dk_at dksX1_heirOf_0 8 rfl rfl)
theorem dX1_heirOf_11 : decode cX1_heirOf 11 = .ok (.invokevirtual 71, 3) := dk_182 0 71 (dk_at dksX1_heirOf_0 11 rfl rfl)
theorem dX1_heirOf_14 : decode cX1_heirOf 14 = .ok (.if_icmp .ge 36, 3) := dk_162 0 36 (dk_at dksX1_heirOf_0 14 rfl rfl)
theorem dX1_heirOf_17 : decode cX1_heirOf 17 = .ok (.iload 4, 2) := dk_21 4 (dk_at dksX1_heirOf_0 17 rfl rfl)
theorem dX1_heirOf_19 : decode cX1_heirOf 19 = .ok (.aload_n 2, 1) := dk_44 (dk_at dksX1_heirOf_0 19 rfl rfl)
theorem dX1_heirOf_20 : decode cX1_heirOf 20 = .ok (.invokestatic 144, 3) := dk_184 0 144 (dk_at dksX1_heirOf_0 20 rfl rfl)
theorem dX1_heirOf_23 : decode cX1_heirOf 23 = .ok (.iload_n 1, 1) := dk_27 (dk_at dksX1_heirOf_0 23 rfl rfl)
theorem dX1_heirOf_24 : decode cX1_heirOf 24 = .ok (.if_icmp .ne 18, 3) := dk_160 0 18 (dk_at dksX1_heirOf_1 0 rfl rfl)
theorem dX1_heirOf_27 : decode cX1_heirOf 27 = .ok (.aload_n 0, 1) := dk_42 (dk_at dksX1_heirOf_1 3 rfl rfl)
theorem dX1_heirOf_28 : decode cX1_heirOf 28 = .ok (.getfield 47, 3) := dk_180 0 47 (dk_at dksX1_heirOf_1 4 rfl rfl)
theorem dX1_heirOf_31 : decode cX1_heirOf 31 = .ok (.iload 4, 2) := dk_21 4 (dk_at dksX1_heirOf_1 7 rfl rfl)
theorem dX1_heirOf_33 : decode cX1_heirOf 33 = .ok (.invokevirtual 72, 3) := dk_182 0 72 (dk_at dksX1_heirOf_1 9 rfl rfl)
theorem dX1_heirOf_36 : decode cX1_heirOf 36 = .ok (.checkcast 69, 3) := dk_192 0 69 (dk_at dksX1_heirOf_1 12 rfl rfl)
theorem dX1_heirOf_39 : decode cX1_heirOf 39 = .ok (.goto 4, 3) := dk_167 0 4 (dk_at dksX1_heirOf_1 15 rfl rfl)
theorem dX1_heirOf_42 : decode cX1_heirOf 42 = .ok (.aload_n 3, 1) := dk_45 (dk_at dksX1_heirOf_1 18 rfl rfl)
theorem dX1_heirOf_43 : decode cX1_heirOf 43 = .ok (.astore_n 3, 1) := dk_78 (dk_at dksX1_heirOf_1 19 rfl rfl)
theorem dX1_heirOf_44 : decode cX1_heirOf 44 = .ok (.iinc 4 1, 3) := dk_132 4 1 (dk_at dksX1_heirOf_1 20 rfl rfl)
theorem dX1_heirOf_47 : decode cX1_heirOf 47 = .ok (.goto (-42), 3) := dk_167 255 214 (dk_at dksX1_heirOf_2 0 rfl rfl)
theorem dX1_heirOf_50 : decode cX1_heirOf 50 = .ok (.aload_n 3, 1) := dk_45 (dk_at dksX1_heirOf_2 3 rfl rfl)
theorem dX1_heirOf_51 : decode cX1_heirOf 51 = .ok (.areturn, 1) := dk_176 (dk_at dksX1_heirOf_2 4 rfl rfl)
abbrev cX1_placeOf : ByteArray := prog_1_method_19_code
def yX1_placeOf : MethodName := ⟨RX1, "placeOf", "(I[I)I"⟩
def dkwX1_placeOf_2 : List UInt8 := [46, 154, 0, 7, 3, 167, 0, 4, 28, 172]
abbrev dktX1_placeOf_2 : List UInt8 := dkwX1_placeOf_2 ++ []
def dkwX1_placeOf_1 : List UInt8 := [28, 21, 6, 43, 26, 46, 164, 0, 7, 4, 167, 0, 4, 3, 96, 61, 132, 5, 1, 167, 255, 224, 43, 26]
abbrev dktX1_placeOf_1 : List UInt8 := dkwX1_placeOf_1 ++ dktX1_placeOf_2
def dkwX1_placeOf_0 : List UInt8 := [4, 61, 43, 78, 45, 190, 54, 4, 3, 54, 5, 21, 5, 21, 4, 162, 0, 31, 45, 21, 5, 46, 54, 6]
abbrev dktX1_placeOf_0 : List UInt8 := dkwX1_placeOf_0 ++ dktX1_placeOf_1
theorem dksX1_placeOf_0 : cX1_placeOf.data.toList.drop 0 = dktX1_placeOf_0 := by decide +kernel
theorem dksX1_placeOf_1 : cX1_placeOf.data.toList.drop 24 = dktX1_placeOf_1 := dk_seg dksX1_placeOf_0 24 rfl rfl
theorem dksX1_placeOf_2 : cX1_placeOf.data.toList.drop 48 = dktX1_placeOf_2 := dk_seg dksX1_placeOf_1 24 rfl rfl
theorem dX1_placeOf_0 : decode cX1_placeOf 0 = .ok (.iconst 1, 1) := dk_4 (dk_at dksX1_placeOf_0 0 rfl rfl)
theorem dX1_placeOf_1 : decode cX1_placeOf 1 = .ok (.istore_n 2, 1) := dk_61 (dk_at dksX1_placeOf_0 1 rfl rfl)
theorem dX1_placeOf_2 : decode cX1_placeOf 2 = .ok (.aload_n 1, 1) := dk_43 (dk_at dksX1_placeOf_0 2 rfl rfl)
theorem dX1_placeOf_3 : decode cX1_placeOf 3 = .ok (.astore_n 3, 1) := dk_78 (dk_at dksX1_placeOf_0 3 rfl rfl)
theorem dX1_placeOf_4 : decode cX1_placeOf 4 = .ok (.aload_n 3, 1) := dk_45 (dk_at dksX1_placeOf_0 4 rfl rfl)
theorem dX1_placeOf_5 : decode cX1_placeOf 5 = .ok (.arraylength, 1) := dk_190 (dk_at dksX1_placeOf_0 5 rfl rfl)
theorem dX1_placeOf_6 : decode cX1_placeOf 6 = .ok (.istore 4, 2) := dk_54 4 (dk_at dksX1_placeOf_0 6 rfl rfl)
theorem dX1_placeOf_8 : decode cX1_placeOf 8 = .ok (.iconst 0, 1) := dk_3 (dk_at dksX1_placeOf_0 8 rfl rfl)
theorem dX1_placeOf_9 : decode cX1_placeOf 9 = .ok (.istore 5, 2) := dk_54 5 (dk_at dksX1_placeOf_0 9 rfl rfl)
theorem dX1_placeOf_11 : decode cX1_placeOf 11 = .ok (.iload 5, 2) := dk_21 5 (dk_at dksX1_placeOf_0 11 rfl rfl)
theorem dX1_placeOf_13 : decode cX1_placeOf 13 = .ok (.iload 4, 2) := dk_21 4 (dk_at dksX1_placeOf_0 13 rfl rfl)
theorem dX1_placeOf_15 : decode cX1_placeOf 15 = .ok (.if_icmp .ge 31, 3) := dk_162 0 31 (dk_at dksX1_placeOf_0 15 rfl rfl)
theorem dX1_placeOf_18 : decode cX1_placeOf 18 = .ok (.aload_n 3, 1) := dk_45 (dk_at dksX1_placeOf_0 18 rfl rfl)
theorem dX1_placeOf_19 : decode cX1_placeOf 19 = .ok (.iload 5, 2) := dk_21 5 (dk_at dksX1_placeOf_0 19 rfl rfl)
theorem dX1_placeOf_21 : decode cX1_placeOf 21 = .ok (.iaload, 1) := dk_46 (dk_at dksX1_placeOf_0 21 rfl rfl)
theorem dX1_placeOf_22 : decode cX1_placeOf 22 = .ok (.istore 6, 2) := dk_54 6 (dk_at dksX1_placeOf_0 22 rfl rfl)
theorem dX1_placeOf_24 : decode cX1_placeOf 24 = .ok (.iload_n 2, 1) := dk_28 (dk_at dksX1_placeOf_1 0 rfl rfl)
theorem dX1_placeOf_25 : decode cX1_placeOf 25 = .ok (.iload 6, 2) := dk_21 6 (dk_at dksX1_placeOf_1 1 rfl rfl)
theorem dX1_placeOf_27 : decode cX1_placeOf 27 = .ok (.aload_n 1, 1) := dk_43 (dk_at dksX1_placeOf_1 3 rfl rfl)
theorem dX1_placeOf_28 : decode cX1_placeOf 28 = .ok (.iload_n 0, 1) := dk_26 (dk_at dksX1_placeOf_1 4 rfl rfl)
theorem dX1_placeOf_29 : decode cX1_placeOf 29 = .ok (.iaload, 1) := dk_46 (dk_at dksX1_placeOf_1 5 rfl rfl)
theorem dX1_placeOf_30 : decode cX1_placeOf 30 = .ok (.if_icmp .le 7, 3) := dk_164 0 7 (dk_at dksX1_placeOf_1 6 rfl rfl)
theorem dX1_placeOf_33 : decode cX1_placeOf 33 = .ok (.iconst 1, 1) := dk_4 (dk_at dksX1_placeOf_1 9 rfl rfl)
theorem dX1_placeOf_34 : decode cX1_placeOf 34 = .ok (.goto 4, 3) := dk_167 0 4 (dk_at dksX1_placeOf_1 10 rfl rfl)
theorem dX1_placeOf_37 : decode cX1_placeOf 37 = .ok (.iconst 0, 1) := dk_3 (dk_at dksX1_placeOf_1 13 rfl rfl)
theorem dX1_placeOf_38 : decode cX1_placeOf 38 = .ok (.iadd, 1) := dk_96 (dk_at dksX1_placeOf_1 14 rfl rfl)
theorem dX1_placeOf_39 : decode cX1_placeOf 39 = .ok (.istore_n 2, 1) := dk_61 (dk_at dksX1_placeOf_1 15 rfl rfl)
theorem dX1_placeOf_40 : decode cX1_placeOf 40 = .ok (.iinc 5 1, 3) := dk_132 5 1 (dk_at dksX1_placeOf_1 16 rfl rfl)
theorem dX1_placeOf_43 : decode cX1_placeOf 43 = .ok (.goto (-32), 3) := dk_167 255 224 (dk_at dksX1_placeOf_1 19 rfl rfl)
theorem dX1_placeOf_46 : decode cX1_placeOf 46 = .ok (.aload_n 1, 1) := dk_43 (dk_at dksX1_placeOf_1 22 rfl rfl)
theorem dX1_placeOf_47 : decode cX1_placeOf 47 = .ok (.iload_n 0, 1) := dk_26 (dk_at dksX1_placeOf_1 23 rfl rfl)
theorem dX1_placeOf_48 : decode cX1_placeOf 48 = .ok (.iaload, 1) := dk_46 (dk_at dksX1_placeOf_2 0 rfl rfl)
theorem dX1_placeOf_49 : decode cX1_placeOf 49 = .ok (.ifCond .ne 7, 3) := dk_154 0 7 (dk_at dksX1_placeOf_2 1 rfl rfl)
theorem dX1_placeOf_52 : decode cX1_placeOf 52 = .ok (.iconst 0, 1) := dk_3 (dk_at dksX1_placeOf_2 4 rfl rfl)
theorem dX1_placeOf_53 : decode cX1_placeOf 53 = .ok (.goto 4, 3) := dk_167 0 4 (dk_at dksX1_placeOf_2 5 rfl rfl)
theorem dX1_placeOf_56 : decode cX1_placeOf 56 = .ok (.iload_n 2, 1) := dk_28 (dk_at dksX1_placeOf_2 8 rfl rfl)
theorem dX1_placeOf_57 : decode cX1_placeOf 57 = .ok (.ireturn, 1) := dk_172 (dk_at dksX1_placeOf_2 9 rfl rfl)
abbrev cX1_sell : ByteArray := prog_1_method_24_code
def yX1_sell : MethodName := ⟨RX1, "sell", "(III)Z"⟩
def dkwX1_sell_6 : List UInt8 := [172]
abbrev dktX1_sell_6 : List UInt8 := dkwX1_sell_6 ++ []
def dkwX1_sell_5 : List UInt8 := [182, 0, 87, 87, 25, 5, 25, 6, 29, 184, 0, 206, 25, 4, 25, 5, 182, 0, 210, 25, 7, 180, 0, 213]
abbrev dktX1_sell_5 : List UInt8 := dkwX1_sell_5 ++ dktX1_sell_6
def dkwX1_sell_4 : List UInt8 := [182, 0, 199, 154, 0, 7, 4, 167, 0, 4, 3, 183, 0, 203, 58, 7, 25, 4, 180, 0, 194, 25, 7]
abbrev dktX1_sell_4 : List UInt8 := dkwX1_sell_4 ++ dktX1_sell_5
def dkwX1_sell_3 : List UInt8 := [182, 0, 123, 187, 0, 197, 89, 25, 6, 25, 5, 29, 25, 6, 182, 0, 199, 154, 0, 15, 25, 5]
abbrev dktX1_sell_3 : List UInt8 := dkwX1_sell_3 ++ dktX1_sell_4
def dkwX1_sell_2 : List UInt8 := [180, 0, 194, 182, 0, 71, 16, 20, 162, 0, 7, 4, 167, 0, 4, 3, 184, 0, 81, 42, 25, 6, 25, 5]
abbrev dktX1_sell_2 : List UInt8 := dkwX1_sell_2 ++ dktX1_sell_3
def dkwX1_sell_1 : List UInt8 := [29, 184, 0, 25, 184, 0, 101, 42, 25, 4, 182, 0, 190, 58, 6, 25, 6, 25, 5, 165, 0, 20, 25, 4]
abbrev dktX1_sell_1 : List UInt8 := dkwX1_sell_1 ++ dktX1_sell_2
def dkwX1_sell_0 : List UInt8 := [42, 180, 0, 57, 27, 182, 0, 186, 192, 0, 161, 58, 4, 42, 28, 182, 0, 119, 58, 5, 3, 17, 39, 16]
abbrev dktX1_sell_0 : List UInt8 := dkwX1_sell_0 ++ dktX1_sell_1
theorem dksX1_sell_0 : cX1_sell.data.toList.drop 0 = dktX1_sell_0 := by decide +kernel
theorem dksX1_sell_1 : cX1_sell.data.toList.drop 24 = dktX1_sell_1 := dk_seg dksX1_sell_0 24 rfl rfl
theorem dksX1_sell_2 : cX1_sell.data.toList.drop 48 = dktX1_sell_2 := dk_seg dksX1_sell_1 24 rfl rfl
theorem dksX1_sell_3 : cX1_sell.data.toList.drop 72 = dktX1_sell_3 := dk_seg dksX1_sell_2 24 rfl rfl
theorem dksX1_sell_4 : cX1_sell.data.toList.drop 94 = dktX1_sell_4 := dk_seg dksX1_sell_3 22 rfl rfl
theorem dksX1_sell_5 : cX1_sell.data.toList.drop 117 = dktX1_sell_5 := dk_seg dksX1_sell_4 23 rfl rfl
theorem dksX1_sell_6 : cX1_sell.data.toList.drop 141 = dktX1_sell_6 := dk_seg dksX1_sell_5 24 rfl rfl
theorem dX1_sell_0 : decode cX1_sell 0 = .ok (.aload_n 0, 1) := dk_42 (dk_at dksX1_sell_0 0 rfl rfl)
theorem dX1_sell_1 : decode cX1_sell 1 = .ok (.getfield 57, 3) := dk_180 0 57 (dk_at dksX1_sell_0 1 rfl rfl)
theorem dX1_sell_4 : decode cX1_sell 4 = .ok (.iload_n 1, 1) := dk_27 (dk_at dksX1_sell_0 4 rfl rfl)
theorem dX1_sell_5 : decode cX1_sell 5 = .ok (.invokevirtual 186, 3) := dk_182 0 186 (dk_at dksX1_sell_0 5 rfl rfl)
theorem dX1_sell_8 : decode cX1_sell 8 = .ok (.checkcast 161, 3) := dk_192 0 161 (dk_at dksX1_sell_0 8 rfl rfl)
theorem dX1_sell_11 : decode cX1_sell 11 = .ok (.astore 4, 2) := dk_58 4 (dk_at dksX1_sell_0 11 rfl rfl)
theorem dX1_sell_13 : decode cX1_sell 13 = .ok (.aload_n 0, 1) := dk_42 (dk_at dksX1_sell_0 13 rfl rfl)
theorem dX1_sell_14 : decode cX1_sell 14 = .ok (.iload_n 2, 1) := dk_28 (dk_at dksX1_sell_0 14 rfl rfl)
theorem dX1_sell_15 : decode cX1_sell 15 = .ok (.invokevirtual 119, 3) := dk_182 0 119 (dk_at dksX1_sell_0 15 rfl rfl)
theorem dX1_sell_18 : decode cX1_sell 18 = .ok (.astore 5, 2) := dk_58 5 (dk_at dksX1_sell_0 18 rfl rfl)
theorem dX1_sell_20 : decode cX1_sell 20 = .ok (.iconst 0, 1) := dk_3 (dk_at dksX1_sell_0 20 rfl rfl)
theorem dX1_sell_21 : decode cX1_sell 21 = .ok (.sipush 10000, 3) := dk_17 39 16 (dk_at dksX1_sell_0 21 rfl rfl)
theorem dX1_sell_24 : decode cX1_sell 24 = .ok (.iload_n 3, 1) := dk_29 (dk_at dksX1_sell_1 0 rfl rfl)
theorem dX1_sell_25 : decode cX1_sell 25 = .ok (.invokestatic 25, 3) := dk_184 0 25 (dk_at dksX1_sell_1 1 rfl rfl)
theorem dX1_sell_28 : decode cX1_sell 28 = .ok (.invokestatic 101, 3) := dk_184 0 101 (dk_at dksX1_sell_1 4 rfl rfl)
theorem dX1_sell_31 : decode cX1_sell 31 = .ok (.aload_n 0, 1) := dk_42 (dk_at dksX1_sell_1 7 rfl rfl)
theorem dX1_sell_32 : decode cX1_sell 32 = .ok (.aload 4, 2) := dk_25 4 (dk_at dksX1_sell_1 8 rfl rfl)
theorem dX1_sell_34 : decode cX1_sell 34 = .ok (.invokevirtual 190, 3) := dk_182 0 190 (dk_at dksX1_sell_1 10 rfl rfl)
theorem dX1_sell_37 : decode cX1_sell 37 = .ok (.astore 6, 2) := dk_58 6 (dk_at dksX1_sell_1 13 rfl rfl)
theorem dX1_sell_39 : decode cX1_sell 39 = .ok (.aload 6, 2) := dk_25 6 (dk_at dksX1_sell_1 15 rfl rfl)
theorem dX1_sell_41 : decode cX1_sell 41 = .ok (.aload 5, 2) := dk_25 5 (dk_at dksX1_sell_1 17 rfl rfl)
theorem dX1_sell_43 : decode cX1_sell 43 = .ok (.if_acmp .eq 20, 3) := dk_165 0 20 (dk_at dksX1_sell_1 19 rfl rfl)
theorem dX1_sell_46 : decode cX1_sell 46 = .ok (.aload 4, 2) := dk_25 4 (dk_at dksX1_sell_1 22 rfl rfl)
theorem dX1_sell_48 : decode cX1_sell 48 = .ok (.getfield 194, 3) := dk_180 0 194 (dk_at dksX1_sell_2 0 rfl rfl)
theorem dX1_sell_51 : decode cX1_sell 51 = .ok (.invokevirtual 71, 3) := dk_182 0 71 (dk_at dksX1_sell_2 3 rfl rfl)
theorem dX1_sell_54 : decode cX1_sell 54 = .ok (.bipush 20, 2) := dk_16 20 (dk_at dksX1_sell_2 6 rfl rfl)
theorem dX1_sell_56 : decode cX1_sell 56 = .ok (.if_icmp .ge 7, 3) := dk_162 0 7 (dk_at dksX1_sell_2 8 rfl rfl)
theorem dX1_sell_59 : decode cX1_sell 59 = .ok (.iconst 1, 1) := dk_4 (dk_at dksX1_sell_2 11 rfl rfl)
theorem dX1_sell_60 : decode cX1_sell 60 = .ok (.goto 4, 3) := dk_167 0 4 (dk_at dksX1_sell_2 12 rfl rfl)
theorem dX1_sell_63 : decode cX1_sell 63 = .ok (.iconst 0, 1) := dk_3 (dk_at dksX1_sell_2 15 rfl rfl)
theorem dX1_sell_64 : decode cX1_sell 64 = .ok (.invokestatic 81, 3) := dk_184 0 81 (dk_at dksX1_sell_2 16 rfl rfl)
theorem dX1_sell_67 : decode cX1_sell 67 = .ok (.aload_n 0, 1) := dk_42 (dk_at dksX1_sell_2 19 rfl rfl)
theorem dX1_sell_68 : decode cX1_sell 68 = .ok (.aload 6, 2) := dk_25 6 (dk_at dksX1_sell_2 20 rfl rfl)
theorem dX1_sell_70 : decode cX1_sell 70 = .ok (.aload 5, 2) := dk_25 5 (dk_at dksX1_sell_2 22 rfl rfl)
theorem dX1_sell_72 : decode cX1_sell 72 = .ok (.invokevirtual 123, 3) := dk_182 0 123 (dk_at dksX1_sell_3 0 rfl rfl)
theorem dX1_sell_75 : decode cX1_sell 75 = .ok (.new 197, 3) := dk_187 0 197 (dk_at dksX1_sell_3 3 rfl rfl)
theorem dX1_sell_78 : decode cX1_sell 78 = .ok (.dup, 1) := dk_89 (dk_at dksX1_sell_3 6 rfl rfl)
theorem dX1_sell_79 : decode cX1_sell 79 = .ok (.aload 6, 2) := dk_25 6 (dk_at dksX1_sell_3 7 rfl rfl)
theorem dX1_sell_81 : decode cX1_sell 81 = .ok (.aload 5, 2) := dk_25 5 (dk_at dksX1_sell_3 9 rfl rfl)
theorem dX1_sell_83 : decode cX1_sell 83 = .ok (.iload_n 3, 1) := dk_29 (dk_at dksX1_sell_3 11 rfl rfl)
theorem dX1_sell_84 : decode cX1_sell 84 = .ok (.aload 6, 2) := dk_25 6 (dk_at dksX1_sell_3 12 rfl rfl)
theorem dX1_sell_86 : decode cX1_sell 86 = .ok (.invokevirtual 199, 3) := dk_182 0 199 (dk_at dksX1_sell_3 14 rfl rfl)
theorem dX1_sell_89 : decode cX1_sell 89 = .ok (.ifCond .ne 15, 3) := dk_154 0 15 (dk_at dksX1_sell_3 17 rfl rfl)
theorem dX1_sell_92 : decode cX1_sell 92 = .ok (.aload 5, 2) := dk_25 5 (dk_at dksX1_sell_3 20 rfl rfl)
theorem dX1_sell_94 : decode cX1_sell 94 = .ok (.invokevirtual 199, 3) := dk_182 0 199 (dk_at dksX1_sell_4 0 rfl rfl)
theorem dX1_sell_97 : decode cX1_sell 97 = .ok (.ifCond .ne 7, 3) := dk_154 0 7 (dk_at dksX1_sell_4 3 rfl rfl)
theorem dX1_sell_100 : decode cX1_sell 100 = .ok (.iconst 1, 1) := dk_4 (dk_at dksX1_sell_4 6 rfl rfl)
theorem dX1_sell_101 : decode cX1_sell 101 = .ok (.goto 4, 3) := dk_167 0 4 (dk_at dksX1_sell_4 7 rfl rfl)
theorem dX1_sell_104 : decode cX1_sell 104 = .ok (.iconst 0, 1) := dk_3 (dk_at dksX1_sell_4 10 rfl rfl)
theorem dX1_sell_105 : decode cX1_sell 105 = .ok (.invokespecial 203, 3) := dk_183 0 203 (dk_at dksX1_sell_4 11 rfl rfl)
theorem dX1_sell_108 : decode cX1_sell 108 = .ok (.astore 7, 2) := dk_58 7 (dk_at dksX1_sell_4 14 rfl rfl)
theorem dX1_sell_110 : decode cX1_sell 110 = .ok (.aload 4, 2) := dk_25 4 (dk_at dksX1_sell_4 16 rfl rfl)
theorem dX1_sell_112 : decode cX1_sell 112 = .ok (.getfield 194, 3) := dk_180 0 194 (dk_at dksX1_sell_4 18 rfl rfl)
theorem dX1_sell_115 : decode cX1_sell 115 = .ok (.aload 7, 2) := dk_25 7 (dk_at dksX1_sell_4 21 rfl rfl)
theorem dX1_sell_117 : decode cX1_sell 117 = .ok (.invokevirtual 87, 3) := dk_182 0 87 (dk_at dksX1_sell_5 0 rfl rfl)
theorem dX1_sell_120 : decode cX1_sell 120 = .ok (.pop, 1) := dk_87 (dk_at dksX1_sell_5 3 rfl rfl)
theorem dX1_sell_121 : decode cX1_sell 121 = .ok (.aload 5, 2) := dk_25 5 (dk_at dksX1_sell_5 4 rfl rfl)
theorem dX1_sell_123 : decode cX1_sell 123 = .ok (.aload 6, 2) := dk_25 6 (dk_at dksX1_sell_5 6 rfl rfl)
theorem dX1_sell_125 : decode cX1_sell 125 = .ok (.iload_n 3, 1) := dk_29 (dk_at dksX1_sell_5 8 rfl rfl)
theorem dX1_sell_126 : decode cX1_sell 126 = .ok (.invokestatic 206, 3) := dk_184 0 206 (dk_at dksX1_sell_5 9 rfl rfl)
theorem dX1_sell_129 : decode cX1_sell 129 = .ok (.aload 4, 2) := dk_25 4 (dk_at dksX1_sell_5 12 rfl rfl)
theorem dX1_sell_131 : decode cX1_sell 131 = .ok (.aload 5, 2) := dk_25 5 (dk_at dksX1_sell_5 14 rfl rfl)
theorem dX1_sell_133 : decode cX1_sell 133 = .ok (.invokevirtual 210, 3) := dk_182 0 210 (dk_at dksX1_sell_5 16 rfl rfl)
theorem dX1_sell_136 : decode cX1_sell 136 = .ok (.aload 7, 2) := dk_25 7 (dk_at dksX1_sell_5 19 rfl rfl)
theorem dX1_sell_138 : decode cX1_sell 138 = .ok (.getfield 213, 3) := dk_180 0 213 (dk_at dksX1_sell_5 21 rfl rfl)
theorem dX1_sell_141 : decode cX1_sell 141 = .ok (.ireturn, 1) := dk_172 (dk_at dksX1_sell_6 0 rfl rfl)
abbrev cX1_holderOf : ByteArray := prog_1_method_23_code
def yX1_holderOf : MethodName := ⟨RX1, "holderOf", "(LSkinLeague$Skin;)LSkinLeague$Player;"⟩
def dkwX1_holderOf_0 : List UInt8 := [43, 180, 0, 183, 198, 0, 7, 4, 167, 0, 4, 3, 184, 0, 81, 43, 180, 0, 183, 176]
abbrev dktX1_holderOf_0 : List UInt8 := dkwX1_holderOf_0 ++ []
theorem dksX1_holderOf_0 : cX1_holderOf.data.toList.drop 0 = dktX1_holderOf_0 := by decide +kernel
theorem dX1_holderOf_0 : decode cX1_holderOf 0 = .ok (.aload_n 1, 1) := dk_43 (dk_at dksX1_holderOf_0 0 rfl rfl)
theorem dX1_holderOf_1 : decode cX1_holderOf 1 = .ok (.getfield 183, 3) := dk_180 0 183 (dk_at dksX1_holderOf_0 1 rfl rfl)
theorem dX1_holderOf_4 : decode cX1_holderOf 4 = .ok (.ifnull 7, 3) := dk_198 0 7 (dk_at dksX1_holderOf_0 4 rfl rfl)
theorem dX1_holderOf_7 : decode cX1_holderOf 7 = .ok (.iconst 1, 1) := dk_4 (dk_at dksX1_holderOf_0 7 rfl rfl)
theorem dX1_holderOf_8 : decode cX1_holderOf 8 = .ok (.goto 4, 3) := dk_167 0 4 (dk_at dksX1_holderOf_0 8 rfl rfl)
theorem dX1_holderOf_11 : decode cX1_holderOf 11 = .ok (.iconst 0, 1) := dk_3 (dk_at dksX1_holderOf_0 11 rfl rfl)
theorem dX1_holderOf_12 : decode cX1_holderOf 12 = .ok (.invokestatic 81, 3) := dk_184 0 81 (dk_at dksX1_holderOf_0 12 rfl rfl)
theorem dX1_holderOf_15 : decode cX1_holderOf 15 = .ok (.aload_n 1, 1) := dk_43 (dk_at dksX1_holderOf_0 15 rfl rfl)
theorem dX1_holderOf_16 : decode cX1_holderOf 16 = .ok (.getfield 183, 3) := dk_180 0 183 (dk_at dksX1_holderOf_0 16 rfl rfl)
theorem dX1_holderOf_19 : decode cX1_holderOf 19 = .ok (.areturn, 1) := dk_176 (dk_at dksX1_holderOf_0 19 rfl rfl)
abbrev cX1_lend : ByteArray := prog_1_method_25_code
def yX1_lend : MethodName := ⟨RX1, "lend", "(III)I"⟩
def dkwX1_lend_3 : List UInt8 := [42, 180, 0, 108, 29, 96, 4, 100, 181, 0, 220, 25, 4, 180, 0, 220, 172]
abbrev dktX1_lend_3 : List UInt8 := dkwX1_lend_3 ++ []
def dkwX1_lend_2 : List UInt8 := [167, 0, 4, 3, 184, 0, 81, 42, 25, 6, 25, 5, 182, 0, 123, 25, 4, 25, 5, 181, 0, 217, 25, 4]
abbrev dktX1_lend_2 : List UInt8 := dkwX1_lend_2 ++ dktX1_lend_3
def dkwX1_lend_1 : List UInt8 := [184, 0, 25, 184, 0, 101, 42, 25, 4, 182, 0, 190, 58, 6, 25, 6, 25, 5, 165, 0, 7, 4]
abbrev dktX1_lend_1 : List UInt8 := dkwX1_lend_1 ++ dktX1_lend_2
def dkwX1_lend_0 : List UInt8 := [42, 180, 0, 57, 27, 182, 0, 186, 192, 0, 161, 58, 4, 42, 28, 182, 0, 119, 58, 5, 4, 16, 100, 29]
abbrev dktX1_lend_0 : List UInt8 := dkwX1_lend_0 ++ dktX1_lend_1
theorem dksX1_lend_0 : cX1_lend.data.toList.drop 0 = dktX1_lend_0 := by decide +kernel
theorem dksX1_lend_1 : cX1_lend.data.toList.drop 24 = dktX1_lend_1 := dk_seg dksX1_lend_0 24 rfl rfl
theorem dksX1_lend_2 : cX1_lend.data.toList.drop 46 = dktX1_lend_2 := dk_seg dksX1_lend_1 22 rfl rfl
theorem dksX1_lend_3 : cX1_lend.data.toList.drop 70 = dktX1_lend_3 := dk_seg dksX1_lend_2 24 rfl rfl
theorem dX1_lend_0 : decode cX1_lend 0 = .ok (.aload_n 0, 1) := dk_42 (dk_at dksX1_lend_0 0 rfl rfl)
theorem dX1_lend_1 : decode cX1_lend 1 = .ok (.getfield 57, 3) := dk_180 0 57 (dk_at dksX1_lend_0 1 rfl rfl)
theorem dX1_lend_4 : decode cX1_lend 4 = .ok (.iload_n 1, 1) := dk_27 (dk_at dksX1_lend_0 4 rfl rfl)
theorem dX1_lend_5 : decode cX1_lend 5 = .ok (.invokevirtual 186, 3) := dk_182 0 186 (dk_at dksX1_lend_0 5 rfl rfl)
theorem dX1_lend_8 : decode cX1_lend 8 = .ok (.checkcast 161, 3) := dk_192 0 161 (dk_at dksX1_lend_0 8 rfl rfl)
theorem dX1_lend_11 : decode cX1_lend 11 = .ok (.astore 4, 2) := dk_58 4 (dk_at dksX1_lend_0 11 rfl rfl)
theorem dX1_lend_13 : decode cX1_lend 13 = .ok (.aload_n 0, 1) := dk_42 (dk_at dksX1_lend_0 13 rfl rfl)
theorem dX1_lend_14 : decode cX1_lend 14 = .ok (.iload_n 2, 1) := dk_28 (dk_at dksX1_lend_0 14 rfl rfl)
theorem dX1_lend_15 : decode cX1_lend 15 = .ok (.invokevirtual 119, 3) := dk_182 0 119 (dk_at dksX1_lend_0 15 rfl rfl)
theorem dX1_lend_18 : decode cX1_lend 18 = .ok (.astore 5, 2) := dk_58 5 (dk_at dksX1_lend_0 18 rfl rfl)
theorem dX1_lend_20 : decode cX1_lend 20 = .ok (.iconst 1, 1) := dk_4 (dk_at dksX1_lend_0 20 rfl rfl)
theorem dX1_lend_21 : decode cX1_lend 21 = .ok (.bipush 100, 2) := dk_16 100 (dk_at dksX1_lend_0 21 rfl rfl)
theorem dX1_lend_23 : decode cX1_lend 23 = .ok (.iload_n 3, 1) := dk_29 (dk_at dksX1_lend_0 23 rfl rfl)
theorem dX1_lend_24 : decode cX1_lend 24 = .ok (.invokestatic 25, 3) := dk_184 0 25 (dk_at dksX1_lend_1 0 rfl rfl)
theorem dX1_lend_27 : decode cX1_lend 27 = .ok (.invokestatic 101, 3) := dk_184 0 101 (dk_at dksX1_lend_1 3 rfl rfl)
theorem dX1_lend_30 : decode cX1_lend 30 = .ok (.aload_n 0, 1) := dk_42 (dk_at dksX1_lend_1 6 rfl rfl)
theorem dX1_lend_31 : decode cX1_lend 31 = .ok (.aload 4, 2) := dk_25 4 (dk_at dksX1_lend_1 7 rfl rfl)
theorem dX1_lend_33 : decode cX1_lend 33 = .ok (.invokevirtual 190, 3) := dk_182 0 190 (dk_at dksX1_lend_1 9 rfl rfl)
theorem dX1_lend_36 : decode cX1_lend 36 = .ok (.astore 6, 2) := dk_58 6 (dk_at dksX1_lend_1 12 rfl rfl)
theorem dX1_lend_38 : decode cX1_lend 38 = .ok (.aload 6, 2) := dk_25 6 (dk_at dksX1_lend_1 14 rfl rfl)
theorem dX1_lend_40 : decode cX1_lend 40 = .ok (.aload 5, 2) := dk_25 5 (dk_at dksX1_lend_1 16 rfl rfl)
theorem dX1_lend_42 : decode cX1_lend 42 = .ok (.if_acmp .eq 7, 3) := dk_165 0 7 (dk_at dksX1_lend_1 18 rfl rfl)
theorem dX1_lend_45 : decode cX1_lend 45 = .ok (.iconst 1, 1) := dk_4 (dk_at dksX1_lend_1 21 rfl rfl)
theorem dX1_lend_46 : decode cX1_lend 46 = .ok (.goto 4, 3) := dk_167 0 4 (dk_at dksX1_lend_2 0 rfl rfl)
theorem dX1_lend_49 : decode cX1_lend 49 = .ok (.iconst 0, 1) := dk_3 (dk_at dksX1_lend_2 3 rfl rfl)
theorem dX1_lend_50 : decode cX1_lend 50 = .ok (.invokestatic 81, 3) := dk_184 0 81 (dk_at dksX1_lend_2 4 rfl rfl)
theorem dX1_lend_53 : decode cX1_lend 53 = .ok (.aload_n 0, 1) := dk_42 (dk_at dksX1_lend_2 7 rfl rfl)
theorem dX1_lend_54 : decode cX1_lend 54 = .ok (.aload 6, 2) := dk_25 6 (dk_at dksX1_lend_2 8 rfl rfl)
theorem dX1_lend_56 : decode cX1_lend 56 = .ok (.aload 5, 2) := dk_25 5 (dk_at dksX1_lend_2 10 rfl rfl)
theorem dX1_lend_58 : decode cX1_lend 58 = .ok (.invokevirtual 123, 3) := dk_182 0 123 (dk_at dksX1_lend_2 12 rfl rfl)
theorem dX1_lend_61 : decode cX1_lend 61 = .ok (.aload 4, 2) := dk_25 4 (dk_at dksX1_lend_2 15 rfl rfl)
theorem dX1_lend_63 : decode cX1_lend 63 = .ok (.aload 5, 2) := dk_25 5 (dk_at dksX1_lend_2 17 rfl rfl)
theorem dX1_lend_65 : decode cX1_lend 65 = .ok (.putfield 217, 3) := dk_181 0 217 (dk_at dksX1_lend_2 19 rfl rfl)
theorem dX1_lend_68 : decode cX1_lend 68 = .ok (.aload 4, 2) := dk_25 4 (dk_at dksX1_lend_2 22 rfl rfl)
theorem dX1_lend_70 : decode cX1_lend 70 = .ok (.aload_n 0, 1) := dk_42 (dk_at dksX1_lend_3 0 rfl rfl)
theorem dX1_lend_71 : decode cX1_lend 71 = .ok (.getfield 108, 3) := dk_180 0 108 (dk_at dksX1_lend_3 1 rfl rfl)
theorem dX1_lend_74 : decode cX1_lend 74 = .ok (.iload_n 3, 1) := dk_29 (dk_at dksX1_lend_3 4 rfl rfl)
theorem dX1_lend_75 : decode cX1_lend 75 = .ok (.iadd, 1) := dk_96 (dk_at dksX1_lend_3 5 rfl rfl)
theorem dX1_lend_76 : decode cX1_lend 76 = .ok (.iconst 1, 1) := dk_4 (dk_at dksX1_lend_3 6 rfl rfl)
theorem dX1_lend_77 : decode cX1_lend 77 = .ok (.isub, 1) := dk_100 (dk_at dksX1_lend_3 7 rfl rfl)
theorem dX1_lend_78 : decode cX1_lend 78 = .ok (.putfield 220, 3) := dk_181 0 220 (dk_at dksX1_lend_3 8 rfl rfl)
theorem dX1_lend_81 : decode cX1_lend 81 = .ok (.aload 4, 2) := dk_25 4 (dk_at dksX1_lend_3 11 rfl rfl)
theorem dX1_lend_83 : decode cX1_lend 83 = .ok (.getfield 220, 3) := dk_180 0 220 (dk_at dksX1_lend_3 13 rfl rfl)
theorem dX1_lend_86 : decode cX1_lend 86 = .ok (.ireturn, 1) := dk_172 (dk_at dksX1_lend_3 16 rfl rfl)
abbrev cX1_proof : ByteArray := prog_1_method_26_code
def yX1_proof : MethodName := ⟨RX1, "proof", "(II)I"⟩
def dkwX1_proof_2 : List UInt8 := [186, 0, 234, 0, 0, 182, 0, 94, 172]
abbrev dktX1_proof_2 : List UInt8 := dkwX1_proof_2 ++ []
def dkwX1_proof_1 : List UInt8 := [153, 0, 14, 45, 180, 0, 223, 28, 184, 0, 226, 167, 0, 4, 28, 181, 0, 223, 42, 182, 0, 231, 42]
abbrev dktX1_proof_1 : List UInt8 := dkwX1_proof_1 ++ dktX1_proof_2
def dkwX1_proof_0 : List UInt8 := [42, 27, 182, 0, 119, 78, 3, 42, 180, 0, 108, 28, 184, 0, 25, 184, 0, 101, 45, 45, 182, 0, 199]
abbrev dktX1_proof_0 : List UInt8 := dkwX1_proof_0 ++ dktX1_proof_1
theorem dksX1_proof_0 : cX1_proof.data.toList.drop 0 = dktX1_proof_0 := by decide +kernel
theorem dksX1_proof_1 : cX1_proof.data.toList.drop 23 = dktX1_proof_1 := dk_seg dksX1_proof_0 23 rfl rfl
theorem dksX1_proof_2 : cX1_proof.data.toList.drop 46 = dktX1_proof_2 := dk_seg dksX1_proof_1 23 rfl rfl
theorem dX1_proof_0 : decode cX1_proof 0 = .ok (.aload_n 0, 1) := dk_42 (dk_at dksX1_proof_0 0 rfl rfl)
theorem dX1_proof_1 : decode cX1_proof 1 = .ok (.iload_n 1, 1) := dk_27 (dk_at dksX1_proof_0 1 rfl rfl)
theorem dX1_proof_2 : decode cX1_proof 2 = .ok (.invokevirtual 119, 3) := dk_182 0 119 (dk_at dksX1_proof_0 2 rfl rfl)
theorem dX1_proof_5 : decode cX1_proof 5 = .ok (.astore_n 3, 1) := dk_78 (dk_at dksX1_proof_0 5 rfl rfl)
theorem dX1_proof_6 : decode cX1_proof 6 = .ok (.iconst 0, 1) := dk_3 (dk_at dksX1_proof_0 6 rfl rfl)
theorem dX1_proof_7 : decode cX1_proof 7 = .ok (.aload_n 0, 1) := dk_42 (dk_at dksX1_proof_0 7 rfl rfl)
theorem dX1_proof_8 : decode cX1_proof 8 = .ok (.getfield 108, 3) := dk_180 0 108 (dk_at dksX1_proof_0 8 rfl rfl)
theorem dX1_proof_11 : decode cX1_proof 11 = .ok (.iload_n 2, 1) := dk_28 (dk_at dksX1_proof_0 11 rfl rfl)
theorem dX1_proof_12 : decode cX1_proof 12 = .ok (.invokestatic 25, 3) := dk_184 0 25 (dk_at dksX1_proof_0 12 rfl rfl)
theorem dX1_proof_15 : decode cX1_proof 15 = .ok (.invokestatic 101, 3) := dk_184 0 101 (dk_at dksX1_proof_0 15 rfl rfl)
theorem dX1_proof_18 : decode cX1_proof 18 = .ok (.aload_n 3, 1) := dk_45 (dk_at dksX1_proof_0 18 rfl rfl)
theorem dX1_proof_19 : decode cX1_proof 19 = .ok (.aload_n 3, 1) := dk_45 (dk_at dksX1_proof_0 19 rfl rfl)
theorem dX1_proof_20 : decode cX1_proof 20 = .ok (.invokevirtual 199, 3) := dk_182 0 199 (dk_at dksX1_proof_0 20 rfl rfl)
theorem dX1_proof_23 : decode cX1_proof 23 = .ok (.ifCond .eq 14, 3) := dk_153 0 14 (dk_at dksX1_proof_1 0 rfl rfl)
theorem dX1_proof_26 : decode cX1_proof 26 = .ok (.aload_n 3, 1) := dk_45 (dk_at dksX1_proof_1 3 rfl rfl)
theorem dX1_proof_27 : decode cX1_proof 27 = .ok (.getfield 223, 3) := dk_180 0 223 (dk_at dksX1_proof_1 4 rfl rfl)
theorem dX1_proof_30 : decode cX1_proof 30 = .ok (.iload_n 2, 1) := dk_28 (dk_at dksX1_proof_1 7 rfl rfl)
theorem dX1_proof_31 : decode cX1_proof 31 = .ok (.invokestatic 226, 3) := dk_184 0 226 (dk_at dksX1_proof_1 8 rfl rfl)
theorem dX1_proof_34 : decode cX1_proof 34 = .ok (.goto 4, 3) := dk_167 0 4 (dk_at dksX1_proof_1 11 rfl rfl)
theorem dX1_proof_37 : decode cX1_proof 37 = .ok (.iload_n 2, 1) := dk_28 (dk_at dksX1_proof_1 14 rfl rfl)
theorem dX1_proof_38 : decode cX1_proof 38 = .ok (.putfield 223, 3) := dk_181 0 223 (dk_at dksX1_proof_1 15 rfl rfl)
theorem dX1_proof_41 : decode cX1_proof 41 = .ok (.aload_n 0, 1) := dk_42 (dk_at dksX1_proof_1 18 rfl rfl)
theorem dX1_proof_42 : decode cX1_proof 42 = .ok (.invokevirtual 231, 3) := dk_182 0 231 (dk_at dksX1_proof_1 19 rfl rfl)
theorem dX1_proof_45 : decode cX1_proof 45 = .ok (.aload_n 0, 1) := dk_42 (dk_at dksX1_proof_1 22 rfl rfl)
theorem dX1_proof_46 : decode cX1_proof 46 = .ok (.invokedynamic 234, 5) := by decide +kernel
theorem dX1_proof_51 : decode cX1_proof 51 = .ok (.invokevirtual 94, 3) := dk_182 0 94 (dk_at dksX1_proof_2 5 rfl rfl)
theorem dX1_proof_54 : decode cX1_proof 54 = .ok (.ireturn, 1) := dk_172 (dk_at dksX1_proof_2 8 rfl rfl)
abbrev cX1_rankAnew : ByteArray := prog_1_method_22_code
def yX1_rankAnew : MethodName := ⟨RX1, "rankAnew", "()V"⟩
def dkwX1_rankAnew_3 : List UInt8 := [182, 0, 179, 132, 3, 1, 167, 255, 197, 132, 1, 1, 167, 255, 175, 177]
abbrev dktX1_rankAnew_3 : List UInt8 := dkwX1_rankAnew_3 ++ []
def dkwX1_rankAnew_2 : List UInt8 := [182, 0, 152, 58, 5, 25, 4, 198, 0, 20, 25, 4, 180, 0, 175, 25, 5, 165, 0, 10, 25, 4, 25, 5]
abbrev dktX1_rankAnew_2 : List UInt8 := dkwX1_rankAnew_2 ++ dktX1_rankAnew_3
def dkwX1_rankAnew_1 : List UInt8 := [180, 0, 57, 187, 0, 156, 89, 27, 29, 183, 0, 158, 182, 0, 171, 192, 0, 161, 58, 4, 42, 29, 44]
abbrev dktX1_rankAnew_1 : List UInt8 := dkwX1_rankAnew_1 ++ dktX1_rankAnew_2
def dkwX1_rankAnew_0 : List UInt8 := [3, 60, 27, 42, 180, 0, 127, 162, 0, 79, 42, 27, 182, 0, 148, 77, 4, 62, 29, 6, 163, 0, 60, 42]
abbrev dktX1_rankAnew_0 : List UInt8 := dkwX1_rankAnew_0 ++ dktX1_rankAnew_1
theorem dksX1_rankAnew_0 : cX1_rankAnew.data.toList.drop 0 = dktX1_rankAnew_0 := by decide +kernel
theorem dksX1_rankAnew_1 : cX1_rankAnew.data.toList.drop 24 = dktX1_rankAnew_1 := dk_seg dksX1_rankAnew_0 24 rfl rfl
theorem dksX1_rankAnew_2 : cX1_rankAnew.data.toList.drop 47 = dktX1_rankAnew_2 := dk_seg dksX1_rankAnew_1 23 rfl rfl
theorem dksX1_rankAnew_3 : cX1_rankAnew.data.toList.drop 71 = dktX1_rankAnew_3 := dk_seg dksX1_rankAnew_2 24 rfl rfl
theorem dX1_rankAnew_0 : decode cX1_rankAnew 0 = .ok (.iconst 0, 1) := dk_3 (dk_at dksX1_rankAnew_0 0 rfl rfl)
theorem dX1_rankAnew_1 : decode cX1_rankAnew 1 = .ok (.istore_n 1, 1) := dk_60 (dk_at dksX1_rankAnew_0 1 rfl rfl)
theorem dX1_rankAnew_2 : decode cX1_rankAnew 2 = .ok (.iload_n 1, 1) := dk_27 (dk_at dksX1_rankAnew_0 2 rfl rfl)
theorem dX1_rankAnew_3 : decode cX1_rankAnew 3 = .ok (.aload_n 0, 1) := dk_42 (dk_at dksX1_rankAnew_0 3 rfl rfl)
theorem dX1_rankAnew_4 : decode cX1_rankAnew 4 = .ok (.getfield 127, 3) := dk_180 0 127 (dk_at dksX1_rankAnew_0 4 rfl rfl)
theorem dX1_rankAnew_7 : decode cX1_rankAnew 7 = .ok (.if_icmp .ge 79, 3) := dk_162 0 79 (dk_at dksX1_rankAnew_0 7 rfl rfl)
theorem dX1_rankAnew_10 : decode cX1_rankAnew 10 = .ok (.aload_n 0, 1) := dk_42 (dk_at dksX1_rankAnew_0 10 rfl rfl)
theorem dX1_rankAnew_11 : decode cX1_rankAnew 11 = .ok (.iload_n 1, 1) := dk_27 (dk_at dksX1_rankAnew_0 11 rfl rfl)
theorem dX1_rankAnew_12 : decode cX1_rankAnew 12 = .ok (.invokevirtual 148, 3) := dk_182 0 148 (dk_at dksX1_rankAnew_0 12 rfl rfl)
theorem dX1_rankAnew_15 : decode cX1_rankAnew 15 = .ok (.astore_n 2, 1) := dk_77 (dk_at dksX1_rankAnew_0 15 rfl rfl)
theorem dX1_rankAnew_16 : decode cX1_rankAnew 16 = .ok (.iconst 1, 1) := dk_4 (dk_at dksX1_rankAnew_0 16 rfl rfl)
theorem dX1_rankAnew_17 : decode cX1_rankAnew 17 = .ok (.istore_n 3, 1) := dk_62 (dk_at dksX1_rankAnew_0 17 rfl rfl)
theorem dX1_rankAnew_18 : decode cX1_rankAnew 18 = .ok (.iload_n 3, 1) := dk_29 (dk_at dksX1_rankAnew_0 18 rfl rfl)
theorem dX1_rankAnew_19 : decode cX1_rankAnew 19 = .ok (.iconst 3, 1) := dk_6 (dk_at dksX1_rankAnew_0 19 rfl rfl)
theorem dX1_rankAnew_20 : decode cX1_rankAnew 20 = .ok (.if_icmp .gt 60, 3) := dk_163 0 60 (dk_at dksX1_rankAnew_0 20 rfl rfl)
theorem dX1_rankAnew_23 : decode cX1_rankAnew 23 = .ok (.aload_n 0, 1) := dk_42 (dk_at dksX1_rankAnew_0 23 rfl rfl)
theorem dX1_rankAnew_24 : decode cX1_rankAnew 24 = .ok (.getfield 57, 3) := dk_180 0 57 (dk_at dksX1_rankAnew_1 0 rfl rfl)
theorem dX1_rankAnew_27 : decode cX1_rankAnew 27 = .ok (.new 156, 3) := dk_187 0 156 (dk_at dksX1_rankAnew_1 3 rfl rfl)
theorem dX1_rankAnew_30 : decode cX1_rankAnew 30 = .ok (.dup, 1) := dk_89 (dk_at dksX1_rankAnew_1 6 rfl rfl)
theorem dX1_rankAnew_31 : decode cX1_rankAnew 31 = .ok (.iload_n 1, 1) := dk_27 (dk_at dksX1_rankAnew_1 7 rfl rfl)
theorem dX1_rankAnew_32 : decode cX1_rankAnew 32 = .ok (.iload_n 3, 1) := dk_29 (dk_at dksX1_rankAnew_1 8 rfl rfl)
theorem dX1_rankAnew_33 : decode cX1_rankAnew 33 = .ok (.invokespecial 158, 3) := dk_183 0 158 (dk_at dksX1_rankAnew_1 9 rfl rfl)
theorem dX1_rankAnew_36 : decode cX1_rankAnew 36 = .ok (.invokevirtual 171, 3) := dk_182 0 171 (dk_at dksX1_rankAnew_1 12 rfl rfl)
theorem dX1_rankAnew_39 : decode cX1_rankAnew 39 = .ok (.checkcast 161, 3) := dk_192 0 161 (dk_at dksX1_rankAnew_1 15 rfl rfl)
theorem dX1_rankAnew_42 : decode cX1_rankAnew 42 = .ok (.astore 4, 2) := dk_58 4 (dk_at dksX1_rankAnew_1 18 rfl rfl)
theorem dX1_rankAnew_44 : decode cX1_rankAnew 44 = .ok (.aload_n 0, 1) := dk_42 (dk_at dksX1_rankAnew_1 20 rfl rfl)
theorem dX1_rankAnew_45 : decode cX1_rankAnew 45 = .ok (.iload_n 3, 1) := dk_29 (dk_at dksX1_rankAnew_1 21 rfl rfl)
theorem dX1_rankAnew_46 : decode cX1_rankAnew 46 = .ok (.aload_n 2, 1) := dk_44 (dk_at dksX1_rankAnew_1 22 rfl rfl)
theorem dX1_rankAnew_47 : decode cX1_rankAnew 47 = .ok (.invokevirtual 152, 3) := dk_182 0 152 (dk_at dksX1_rankAnew_2 0 rfl rfl)
theorem dX1_rankAnew_50 : decode cX1_rankAnew 50 = .ok (.astore 5, 2) := dk_58 5 (dk_at dksX1_rankAnew_2 3 rfl rfl)
theorem dX1_rankAnew_52 : decode cX1_rankAnew 52 = .ok (.aload 4, 2) := dk_25 4 (dk_at dksX1_rankAnew_2 5 rfl rfl)
theorem dX1_rankAnew_54 : decode cX1_rankAnew 54 = .ok (.ifnull 20, 3) := dk_198 0 20 (dk_at dksX1_rankAnew_2 7 rfl rfl)
theorem dX1_rankAnew_57 : decode cX1_rankAnew 57 = .ok (.aload 4, 2) := dk_25 4 (dk_at dksX1_rankAnew_2 10 rfl rfl)
theorem dX1_rankAnew_59 : decode cX1_rankAnew 59 = .ok (.getfield 175, 3) := dk_180 0 175 (dk_at dksX1_rankAnew_2 12 rfl rfl)
theorem dX1_rankAnew_62 : decode cX1_rankAnew 62 = .ok (.aload 5, 2) := dk_25 5 (dk_at dksX1_rankAnew_2 15 rfl rfl)
theorem dX1_rankAnew_64 : decode cX1_rankAnew 64 = .ok (.if_acmp .eq 10, 3) := dk_165 0 10 (dk_at dksX1_rankAnew_2 17 rfl rfl)
theorem dX1_rankAnew_67 : decode cX1_rankAnew 67 = .ok (.aload 4, 2) := dk_25 4 (dk_at dksX1_rankAnew_2 20 rfl rfl)
theorem dX1_rankAnew_69 : decode cX1_rankAnew 69 = .ok (.aload 5, 2) := dk_25 5 (dk_at dksX1_rankAnew_2 22 rfl rfl)
theorem dX1_rankAnew_71 : decode cX1_rankAnew 71 = .ok (.invokevirtual 179, 3) := dk_182 0 179 (dk_at dksX1_rankAnew_3 0 rfl rfl)
theorem dX1_rankAnew_74 : decode cX1_rankAnew 74 = .ok (.iinc 3 1, 3) := dk_132 3 1 (dk_at dksX1_rankAnew_3 3 rfl rfl)
theorem dX1_rankAnew_77 : decode cX1_rankAnew 77 = .ok (.goto (-59), 3) := dk_167 255 197 (dk_at dksX1_rankAnew_3 6 rfl rfl)
theorem dX1_rankAnew_80 : decode cX1_rankAnew 80 = .ok (.iinc 1 1, 3) := dk_132 1 1 (dk_at dksX1_rankAnew_3 9 rfl rfl)
theorem dX1_rankAnew_83 : decode cX1_rankAnew 83 = .ok (.goto (-81), 3) := dk_167 255 175 (dk_at dksX1_rankAnew_3 12 rfl rfl)
theorem dX1_rankAnew_86 : decode cX1_rankAnew 86 = .ok (.return_, 1) := dk_177 (dk_at dksX1_rankAnew_3 15 rfl rfl)
abbrev cX1_lambda_proof_3 : ByteArray := prog_1_method_36_code
def yX1_lambda_proof_3 : MethodName := ⟨RX1, "lambda$proof$3", "(LSkinLeague$Match;)I"⟩
def dkwX1_lambda_proof_3_0 : List UInt8 := [42, 182, 0, 237, 153, 0, 7, 3, 167, 0, 4, 4, 172]
abbrev dktX1_lambda_proof_3_0 : List UInt8 := dkwX1_lambda_proof_3_0 ++ []
theorem dksX1_lambda_proof_3_0 : cX1_lambda_proof_3.data.toList.drop 0 = dktX1_lambda_proof_3_0 := by decide +kernel
theorem dX1_lambda_proof_3_0 : decode cX1_lambda_proof_3 0 = .ok (.aload_n 0, 1) := dk_42 (dk_at dksX1_lambda_proof_3_0 0 rfl rfl)
theorem dX1_lambda_proof_3_1 : decode cX1_lambda_proof_3 1 = .ok (.invokevirtual 237, 3) := dk_182 0 237 (dk_at dksX1_lambda_proof_3_0 1 rfl rfl)
theorem dX1_lambda_proof_3_4 : decode cX1_lambda_proof_3 4 = .ok (.ifCond .eq 7, 3) := dk_153 0 7 (dk_at dksX1_lambda_proof_3_0 4 rfl rfl)
theorem dX1_lambda_proof_3_7 : decode cX1_lambda_proof_3 7 = .ok (.iconst 0, 1) := dk_3 (dk_at dksX1_lambda_proof_3_0 7 rfl rfl)
theorem dX1_lambda_proof_3_8 : decode cX1_lambda_proof_3 8 = .ok (.goto 4, 3) := dk_167 0 4 (dk_at dksX1_lambda_proof_3_0 8 rfl rfl)
theorem dX1_lambda_proof_3_11 : decode cX1_lambda_proof_3 11 = .ok (.iconst 1, 1) := dk_4 (dk_at dksX1_lambda_proof_3_0 11 rfl rfl)
theorem dX1_lambda_proof_3_12 : decode cX1_lambda_proof_3 12 = .ok (.ireturn, 1) := dk_172 (dk_at dksX1_lambda_proof_3_0 12 rfl rfl)
abbrev cX1_clear : ByteArray := prog_1_method_27_code
def yX1_clear : MethodName := ⟨RX1, "clear", "(I)I"⟩
def dkwX1_clear_1 : List UInt8 := [182, 0, 231, 29, 172]
abbrev dktX1_clear_1 : List UInt8 := dkwX1_clear_1 ++ []
def dkwX1_clear_0 : List UInt8 := [42, 27, 182, 0, 119, 77, 44, 182, 0, 199, 184, 0, 81, 44, 180, 0, 223, 62, 44, 2, 181, 0, 223, 42]
abbrev dktX1_clear_0 : List UInt8 := dkwX1_clear_0 ++ dktX1_clear_1
theorem dksX1_clear_0 : cX1_clear.data.toList.drop 0 = dktX1_clear_0 := by decide +kernel
theorem dksX1_clear_1 : cX1_clear.data.toList.drop 24 = dktX1_clear_1 := dk_seg dksX1_clear_0 24 rfl rfl
theorem dX1_clear_0 : decode cX1_clear 0 = .ok (.aload_n 0, 1) := dk_42 (dk_at dksX1_clear_0 0 rfl rfl)
theorem dX1_clear_1 : decode cX1_clear 1 = .ok (.iload_n 1, 1) := dk_27 (dk_at dksX1_clear_0 1 rfl rfl)
theorem dX1_clear_2 : decode cX1_clear 2 = .ok (.invokevirtual 119, 3) := dk_182 0 119 (dk_at dksX1_clear_0 2 rfl rfl)
theorem dX1_clear_5 : decode cX1_clear 5 = .ok (.astore_n 2, 1) := dk_77 (dk_at dksX1_clear_0 5 rfl rfl)
theorem dX1_clear_6 : decode cX1_clear 6 = .ok (.aload_n 2, 1) := dk_44 (dk_at dksX1_clear_0 6 rfl rfl)
theorem dX1_clear_7 : decode cX1_clear 7 = .ok (.invokevirtual 199, 3) := dk_182 0 199 (dk_at dksX1_clear_0 7 rfl rfl)
theorem dX1_clear_10 : decode cX1_clear 10 = .ok (.invokestatic 81, 3) := dk_184 0 81 (dk_at dksX1_clear_0 10 rfl rfl)
theorem dX1_clear_13 : decode cX1_clear 13 = .ok (.aload_n 2, 1) := dk_44 (dk_at dksX1_clear_0 13 rfl rfl)
theorem dX1_clear_14 : decode cX1_clear 14 = .ok (.getfield 223, 3) := dk_180 0 223 (dk_at dksX1_clear_0 14 rfl rfl)
theorem dX1_clear_17 : decode cX1_clear 17 = .ok (.istore_n 3, 1) := dk_62 (dk_at dksX1_clear_0 17 rfl rfl)
theorem dX1_clear_18 : decode cX1_clear 18 = .ok (.aload_n 2, 1) := dk_44 (dk_at dksX1_clear_0 18 rfl rfl)
theorem dX1_clear_19 : decode cX1_clear 19 = .ok (.iconst (-1), 1) := dk_2 (dk_at dksX1_clear_0 19 rfl rfl)
theorem dX1_clear_20 : decode cX1_clear 20 = .ok (.putfield 223, 3) := dk_181 0 223 (dk_at dksX1_clear_0 20 rfl rfl)
theorem dX1_clear_23 : decode cX1_clear 23 = .ok (.aload_n 0, 1) := dk_42 (dk_at dksX1_clear_0 23 rfl rfl)
theorem dX1_clear_24 : decode cX1_clear 24 = .ok (.invokevirtual 231, 3) := dk_182 0 231 (dk_at dksX1_clear_1 0 rfl rfl)
theorem dX1_clear_27 : decode cX1_clear 27 = .ok (.iload_n 3, 1) := dk_29 (dk_at dksX1_clear_1 3 rfl rfl)
theorem dX1_clear_28 : decode cX1_clear 28 = .ok (.ireturn, 1) := dk_172 (dk_at dksX1_clear_1 4 rfl rfl)
abbrev cX1_ban : ByteArray := prog_1_method_28_code
def yX1_ban : MethodName := ⟨RX1, "ban", "(II)I"⟩
def dkwX1_ban_1 : List UInt8 := [181, 0, 112, 45, 180, 0, 112, 172]
abbrev dktX1_ban_1 : List UInt8 := dkwX1_ban_1 ++ []
def dkwX1_ban_0 : List UInt8 := [42, 27, 182, 0, 119, 78, 3, 17, 3, 232, 28, 184, 0, 25, 184, 0, 101, 45, 42, 180, 0, 108, 28, 96]
abbrev dktX1_ban_0 : List UInt8 := dkwX1_ban_0 ++ dktX1_ban_1
theorem dksX1_ban_0 : cX1_ban.data.toList.drop 0 = dktX1_ban_0 := by decide +kernel
theorem dksX1_ban_1 : cX1_ban.data.toList.drop 24 = dktX1_ban_1 := dk_seg dksX1_ban_0 24 rfl rfl
theorem dX1_ban_0 : decode cX1_ban 0 = .ok (.aload_n 0, 1) := dk_42 (dk_at dksX1_ban_0 0 rfl rfl)
theorem dX1_ban_1 : decode cX1_ban 1 = .ok (.iload_n 1, 1) := dk_27 (dk_at dksX1_ban_0 1 rfl rfl)
theorem dX1_ban_2 : decode cX1_ban 2 = .ok (.invokevirtual 119, 3) := dk_182 0 119 (dk_at dksX1_ban_0 2 rfl rfl)
theorem dX1_ban_5 : decode cX1_ban 5 = .ok (.astore_n 3, 1) := dk_78 (dk_at dksX1_ban_0 5 rfl rfl)
theorem dX1_ban_6 : decode cX1_ban 6 = .ok (.iconst 0, 1) := dk_3 (dk_at dksX1_ban_0 6 rfl rfl)
theorem dX1_ban_7 : decode cX1_ban 7 = .ok (.sipush 1000, 3) := dk_17 3 232 (dk_at dksX1_ban_0 7 rfl rfl)
theorem dX1_ban_10 : decode cX1_ban 10 = .ok (.iload_n 2, 1) := dk_28 (dk_at dksX1_ban_0 10 rfl rfl)
theorem dX1_ban_11 : decode cX1_ban 11 = .ok (.invokestatic 25, 3) := dk_184 0 25 (dk_at dksX1_ban_0 11 rfl rfl)
theorem dX1_ban_14 : decode cX1_ban 14 = .ok (.invokestatic 101, 3) := dk_184 0 101 (dk_at dksX1_ban_0 14 rfl rfl)
theorem dX1_ban_17 : decode cX1_ban 17 = .ok (.aload_n 3, 1) := dk_45 (dk_at dksX1_ban_0 17 rfl rfl)
theorem dX1_ban_18 : decode cX1_ban 18 = .ok (.aload_n 0, 1) := dk_42 (dk_at dksX1_ban_0 18 rfl rfl)
theorem dX1_ban_19 : decode cX1_ban 19 = .ok (.getfield 108, 3) := dk_180 0 108 (dk_at dksX1_ban_0 19 rfl rfl)
theorem dX1_ban_22 : decode cX1_ban 22 = .ok (.iload_n 2, 1) := dk_28 (dk_at dksX1_ban_0 22 rfl rfl)
theorem dX1_ban_23 : decode cX1_ban 23 = .ok (.iadd, 1) := dk_96 (dk_at dksX1_ban_0 23 rfl rfl)
theorem dX1_ban_24 : decode cX1_ban 24 = .ok (.putfield 112, 3) := dk_181 0 112 (dk_at dksX1_ban_1 0 rfl rfl)
theorem dX1_ban_27 : decode cX1_ban 27 = .ok (.aload_n 3, 1) := dk_45 (dk_at dksX1_ban_1 3 rfl rfl)
theorem dX1_ban_28 : decode cX1_ban 28 = .ok (.getfield 112, 3) := dk_180 0 112 (dk_at dksX1_ban_1 4 rfl rfl)
theorem dX1_ban_31 : decode cX1_ban 31 = .ok (.ireturn, 1) := dk_172 (dk_at dksX1_ban_1 7 rfl rfl)
abbrev cX1_pass : ByteArray := prog_1_method_29_code
def yX1_pass : MethodName := ⟨RX1, "pass", "(I)I"⟩
def dkwX1_pass_1 : List UInt8 := [180, 0, 108, 172]
abbrev dktX1_pass_1 : List UInt8 := dkwX1_pass_1 ++ []
def dkwX1_pass_0 : List UInt8 := [4, 17, 1, 144, 27, 184, 0, 25, 184, 0, 101, 42, 89, 180, 0, 108, 27, 96, 181, 0, 108, 42]
abbrev dktX1_pass_0 : List UInt8 := dkwX1_pass_0 ++ dktX1_pass_1
theorem dksX1_pass_0 : cX1_pass.data.toList.drop 0 = dktX1_pass_0 := by decide +kernel
theorem dksX1_pass_1 : cX1_pass.data.toList.drop 22 = dktX1_pass_1 := dk_seg dksX1_pass_0 22 rfl rfl
theorem dX1_pass_0 : decode cX1_pass 0 = .ok (.iconst 1, 1) := dk_4 (dk_at dksX1_pass_0 0 rfl rfl)
theorem dX1_pass_1 : decode cX1_pass 1 = .ok (.sipush 400, 3) := dk_17 1 144 (dk_at dksX1_pass_0 1 rfl rfl)
theorem dX1_pass_4 : decode cX1_pass 4 = .ok (.iload_n 1, 1) := dk_27 (dk_at dksX1_pass_0 4 rfl rfl)
theorem dX1_pass_5 : decode cX1_pass 5 = .ok (.invokestatic 25, 3) := dk_184 0 25 (dk_at dksX1_pass_0 5 rfl rfl)
theorem dX1_pass_8 : decode cX1_pass 8 = .ok (.invokestatic 101, 3) := dk_184 0 101 (dk_at dksX1_pass_0 8 rfl rfl)
theorem dX1_pass_11 : decode cX1_pass 11 = .ok (.aload_n 0, 1) := dk_42 (dk_at dksX1_pass_0 11 rfl rfl)
theorem dX1_pass_12 : decode cX1_pass 12 = .ok (.dup, 1) := dk_89 (dk_at dksX1_pass_0 12 rfl rfl)
theorem dX1_pass_13 : decode cX1_pass 13 = .ok (.getfield 108, 3) := dk_180 0 108 (dk_at dksX1_pass_0 13 rfl rfl)
theorem dX1_pass_16 : decode cX1_pass 16 = .ok (.iload_n 1, 1) := dk_27 (dk_at dksX1_pass_0 16 rfl rfl)
theorem dX1_pass_17 : decode cX1_pass 17 = .ok (.iadd, 1) := dk_96 (dk_at dksX1_pass_0 17 rfl rfl)
theorem dX1_pass_18 : decode cX1_pass 18 = .ok (.putfield 108, 3) := dk_181 0 108 (dk_at dksX1_pass_0 18 rfl rfl)
theorem dX1_pass_21 : decode cX1_pass 21 = .ok (.aload_n 0, 1) := dk_42 (dk_at dksX1_pass_0 21 rfl rfl)
theorem dX1_pass_22 : decode cX1_pass 22 = .ok (.getfield 108, 3) := dk_180 0 108 (dk_at dksX1_pass_1 0 rfl rfl)
theorem dX1_pass_25 : decode cX1_pass 25 = .ok (.ireturn, 1) := dk_172 (dk_at dksX1_pass_1 3 rfl rfl)
abbrev cX1_stands : ByteArray := prog_1_method_30_code
def yX1_stands : MethodName := ⟨RX1, "stands", "(I)Z"⟩
def dkwX1_stands_0 : List UInt8 := [42, 180, 0, 51, 27, 184, 0, 65, 192, 0, 73, 182, 0, 237, 172]
abbrev dktX1_stands_0 : List UInt8 := dkwX1_stands_0 ++ []
theorem dksX1_stands_0 : cX1_stands.data.toList.drop 0 = dktX1_stands_0 := by decide +kernel
theorem dX1_stands_0 : decode cX1_stands 0 = .ok (.aload_n 0, 1) := dk_42 (dk_at dksX1_stands_0 0 rfl rfl)
theorem dX1_stands_1 : decode cX1_stands 1 = .ok (.getfield 51, 3) := dk_180 0 51 (dk_at dksX1_stands_0 1 rfl rfl)
theorem dX1_stands_4 : decode cX1_stands 4 = .ok (.iload_n 1, 1) := dk_27 (dk_at dksX1_stands_0 4 rfl rfl)
theorem dX1_stands_5 : decode cX1_stands 5 = .ok (.invokestatic 65, 3) := dk_184 0 65 (dk_at dksX1_stands_0 5 rfl rfl)
theorem dX1_stands_8 : decode cX1_stands 8 = .ok (.checkcast 73, 3) := dk_192 0 73 (dk_at dksX1_stands_0 8 rfl rfl)
theorem dX1_stands_11 : decode cX1_stands 11 = .ok (.invokevirtual 237, 3) := dk_182 0 237 (dk_at dksX1_stands_0 11 rfl rfl)
theorem dX1_stands_14 : decode cX1_stands 14 = .ok (.ireturn, 1) := dk_172 (dk_at dksX1_stands_0 14 rfl rfl)
abbrev cX1_ranked : ByteArray := prog_1_method_31_code
def yX1_ranked : MethodName := ⟨RX1, "ranked", "(III)I"⟩
def dkwX1_ranked_2 : List UInt8 := [42, 27, 28, 182, 0, 141, 167, 0, 16, 25, 4, 180, 0, 240, 42, 27, 182, 0, 148, 184, 0, 144, 172]
abbrev dktX1_ranked_2 : List UInt8 := dkwX1_ranked_2 ++ []
def dkwX1_ranked_1 : List UInt8 := [184, 0, 25, 184, 0, 101, 29, 154, 0, 12, 42, 27, 28, 182, 0, 137, 167, 0, 30, 29, 4, 160, 0, 12]
abbrev dktX1_ranked_1 : List UInt8 := dkwX1_ranked_1 ++ dktX1_ranked_2
def dkwX1_ranked_0 : List UInt8 := [3, 42, 180, 0, 127, 27, 184, 0, 25, 184, 0, 31, 42, 28, 182, 0, 119, 58, 4, 3, 5, 29]
abbrev dktX1_ranked_0 : List UInt8 := dkwX1_ranked_0 ++ dktX1_ranked_1
theorem dksX1_ranked_0 : cX1_ranked.data.toList.drop 0 = dktX1_ranked_0 := by decide +kernel
theorem dksX1_ranked_1 : cX1_ranked.data.toList.drop 22 = dktX1_ranked_1 := dk_seg dksX1_ranked_0 22 rfl rfl
theorem dksX1_ranked_2 : cX1_ranked.data.toList.drop 46 = dktX1_ranked_2 := dk_seg dksX1_ranked_1 24 rfl rfl
theorem dX1_ranked_0 : decode cX1_ranked 0 = .ok (.iconst 0, 1) := dk_3 (dk_at dksX1_ranked_0 0 rfl rfl)
theorem dX1_ranked_1 : decode cX1_ranked 1 = .ok (.aload_n 0, 1) := dk_42 (dk_at dksX1_ranked_0 1 rfl rfl)
theorem dX1_ranked_2 : decode cX1_ranked 2 = .ok (.getfield 127, 3) := dk_180 0 127 (dk_at dksX1_ranked_0 2 rfl rfl)
theorem dX1_ranked_5 : decode cX1_ranked 5 = .ok (.iload_n 1, 1) := dk_27 (dk_at dksX1_ranked_0 5 rfl rfl)
theorem dX1_ranked_6 : decode cX1_ranked 6 = .ok (.invokestatic 25, 3) := dk_184 0 25 (dk_at dksX1_ranked_0 6 rfl rfl)
theorem dX1_ranked_9 : decode cX1_ranked 9 = .ok (.invokestatic 31, 3) := dk_184 0 31 (dk_at dksX1_ranked_0 9 rfl rfl)
theorem dX1_ranked_12 : decode cX1_ranked 12 = .ok (.aload_n 0, 1) := dk_42 (dk_at dksX1_ranked_0 12 rfl rfl)
theorem dX1_ranked_13 : decode cX1_ranked 13 = .ok (.iload_n 2, 1) := dk_28 (dk_at dksX1_ranked_0 13 rfl rfl)
theorem dX1_ranked_14 : decode cX1_ranked 14 = .ok (.invokevirtual 119, 3) := dk_182 0 119 (dk_at dksX1_ranked_0 14 rfl rfl)
theorem dX1_ranked_17 : decode cX1_ranked 17 = .ok (.astore 4, 2) := dk_58 4 (dk_at dksX1_ranked_0 17 rfl rfl)
theorem dX1_ranked_19 : decode cX1_ranked 19 = .ok (.iconst 0, 1) := dk_3 (dk_at dksX1_ranked_0 19 rfl rfl)
theorem dX1_ranked_20 : decode cX1_ranked 20 = .ok (.iconst 2, 1) := dk_5 (dk_at dksX1_ranked_0 20 rfl rfl)
theorem dX1_ranked_21 : decode cX1_ranked 21 = .ok (.iload_n 3, 1) := dk_29 (dk_at dksX1_ranked_0 21 rfl rfl)
theorem dX1_ranked_22 : decode cX1_ranked 22 = .ok (.invokestatic 25, 3) := dk_184 0 25 (dk_at dksX1_ranked_1 0 rfl rfl)
theorem dX1_ranked_25 : decode cX1_ranked 25 = .ok (.invokestatic 101, 3) := dk_184 0 101 (dk_at dksX1_ranked_1 3 rfl rfl)
theorem dX1_ranked_28 : decode cX1_ranked 28 = .ok (.iload_n 3, 1) := dk_29 (dk_at dksX1_ranked_1 6 rfl rfl)
theorem dX1_ranked_29 : decode cX1_ranked 29 = .ok (.ifCond .ne 12, 3) := dk_154 0 12 (dk_at dksX1_ranked_1 7 rfl rfl)
theorem dX1_ranked_32 : decode cX1_ranked 32 = .ok (.aload_n 0, 1) := dk_42 (dk_at dksX1_ranked_1 10 rfl rfl)
theorem dX1_ranked_33 : decode cX1_ranked 33 = .ok (.iload_n 1, 1) := dk_27 (dk_at dksX1_ranked_1 11 rfl rfl)
theorem dX1_ranked_34 : decode cX1_ranked 34 = .ok (.iload_n 2, 1) := dk_28 (dk_at dksX1_ranked_1 12 rfl rfl)
theorem dX1_ranked_35 : decode cX1_ranked 35 = .ok (.invokevirtual 137, 3) := dk_182 0 137 (dk_at dksX1_ranked_1 13 rfl rfl)
theorem dX1_ranked_38 : decode cX1_ranked 38 = .ok (.goto 30, 3) := dk_167 0 30 (dk_at dksX1_ranked_1 16 rfl rfl)
theorem dX1_ranked_41 : decode cX1_ranked 41 = .ok (.iload_n 3, 1) := dk_29 (dk_at dksX1_ranked_1 19 rfl rfl)
theorem dX1_ranked_42 : decode cX1_ranked 42 = .ok (.iconst 1, 1) := dk_4 (dk_at dksX1_ranked_1 20 rfl rfl)
theorem dX1_ranked_43 : decode cX1_ranked 43 = .ok (.if_icmp .ne 12, 3) := dk_160 0 12 (dk_at dksX1_ranked_1 21 rfl rfl)
theorem dX1_ranked_46 : decode cX1_ranked 46 = .ok (.aload_n 0, 1) := dk_42 (dk_at dksX1_ranked_2 0 rfl rfl)
theorem dX1_ranked_47 : decode cX1_ranked 47 = .ok (.iload_n 1, 1) := dk_27 (dk_at dksX1_ranked_2 1 rfl rfl)
theorem dX1_ranked_48 : decode cX1_ranked 48 = .ok (.iload_n 2, 1) := dk_28 (dk_at dksX1_ranked_2 2 rfl rfl)
theorem dX1_ranked_49 : decode cX1_ranked 49 = .ok (.invokevirtual 141, 3) := dk_182 0 141 (dk_at dksX1_ranked_2 3 rfl rfl)
theorem dX1_ranked_52 : decode cX1_ranked 52 = .ok (.goto 16, 3) := dk_167 0 16 (dk_at dksX1_ranked_2 6 rfl rfl)
theorem dX1_ranked_55 : decode cX1_ranked 55 = .ok (.aload 4, 2) := dk_25 4 (dk_at dksX1_ranked_2 9 rfl rfl)
theorem dX1_ranked_57 : decode cX1_ranked 57 = .ok (.getfield 240, 3) := dk_180 0 240 (dk_at dksX1_ranked_2 11 rfl rfl)
theorem dX1_ranked_60 : decode cX1_ranked 60 = .ok (.aload_n 0, 1) := dk_42 (dk_at dksX1_ranked_2 14 rfl rfl)
theorem dX1_ranked_61 : decode cX1_ranked 61 = .ok (.iload_n 1, 1) := dk_27 (dk_at dksX1_ranked_2 15 rfl rfl)
theorem dX1_ranked_62 : decode cX1_ranked 62 = .ok (.invokevirtual 148, 3) := dk_182 0 148 (dk_at dksX1_ranked_2 16 rfl rfl)
theorem dX1_ranked_65 : decode cX1_ranked 65 = .ok (.invokestatic 144, 3) := dk_184 0 144 (dk_at dksX1_ranked_2 19 rfl rfl)
theorem dX1_ranked_68 : decode cX1_ranked 68 = .ok (.ireturn, 1) := dk_172 (dk_at dksX1_ranked_2 22 rfl rfl)
abbrev cX1_skinOf : ByteArray := prog_1_method_33_code
def yX1_skinOf : MethodName := ⟨RX1, "skinOf", "(II)I"⟩
def dkwX1_skinOf_5 : List UInt8 := [172, 45, 182, 0, 255, 199, 0, 7, 3, 167, 0, 4, 4, 172]
abbrev dktX1_skinOf_5 : List UInt8 := dkwX1_skinOf_5 ++ []
def dkwX1_skinOf_4 : List UInt8 := [172, 45, 182, 0, 247, 180, 0, 251, 172, 45, 182, 0, 247, 180, 0, 252, 172, 45, 180, 0, 194, 182, 0, 71]
abbrev dktX1_skinOf_4 : List UInt8 := dkwX1_skinOf_4 ++ dktX1_skinOf_5
def dkwX1_skinOf_3 : List UInt8 := [180, 0, 108, 45, 180, 0, 220, 163, 0, 10, 45, 180, 0, 217, 167, 0, 7, 45, 180, 0, 183, 184, 0, 243]
abbrev dktX1_skinOf_3 : List UInt8 := dkwX1_skinOf_3 ++ dktX1_skinOf_4
def dkwX1_skinOf_2 : List UInt8 := [45, 180, 0, 183, 184, 0, 243, 172, 45, 180, 0, 175, 184, 0, 243, 172, 45, 180, 0, 217, 198, 0, 21, 42]
abbrev dktX1_skinOf_2 : List UInt8 := dkwX1_skinOf_2 ++ dktX1_skinOf_3
def dkwX1_skinOf_1 : List UInt8 := [170, 0, 0, 0, 110, 0, 0, 0, 0, 0, 0, 0, 5, 0, 0, 0, 37, 0, 0, 0, 45, 0, 0, 0, 53, 0, 0, 0, 86, 0, 0, 0, 94, 0, 0, 0, 102]
abbrev dktX1_skinOf_1 : List UInt8 := dkwX1_skinOf_1 ++ dktX1_skinOf_2
def dkwX1_skinOf_0 : List UInt8 := [42, 180, 0, 57, 27, 182, 0, 186, 192, 0, 161, 78, 3, 16, 6, 28, 184, 0, 25, 184, 0, 101, 28]
abbrev dktX1_skinOf_0 : List UInt8 := dkwX1_skinOf_0 ++ dktX1_skinOf_1
theorem dksX1_skinOf_0 : cX1_skinOf.data.toList.drop 0 = dktX1_skinOf_0 := by decide +kernel
theorem dksX1_skinOf_1 : cX1_skinOf.data.toList.drop 23 = dktX1_skinOf_1 := dk_seg dksX1_skinOf_0 23 rfl rfl
theorem dksX1_skinOf_2 : cX1_skinOf.data.toList.drop 60 = dktX1_skinOf_2 := dk_seg dksX1_skinOf_1 37 rfl rfl
theorem dksX1_skinOf_3 : cX1_skinOf.data.toList.drop 84 = dktX1_skinOf_3 := dk_seg dksX1_skinOf_2 24 rfl rfl
theorem dksX1_skinOf_4 : cX1_skinOf.data.toList.drop 108 = dktX1_skinOf_4 := dk_seg dksX1_skinOf_3 24 rfl rfl
theorem dksX1_skinOf_5 : cX1_skinOf.data.toList.drop 132 = dktX1_skinOf_5 := dk_seg dksX1_skinOf_4 24 rfl rfl
theorem dX1_skinOf_0 : decode cX1_skinOf 0 = .ok (.aload_n 0, 1) := dk_42 (dk_at dksX1_skinOf_0 0 rfl rfl)
theorem dX1_skinOf_1 : decode cX1_skinOf 1 = .ok (.getfield 57, 3) := dk_180 0 57 (dk_at dksX1_skinOf_0 1 rfl rfl)
theorem dX1_skinOf_4 : decode cX1_skinOf 4 = .ok (.iload_n 1, 1) := dk_27 (dk_at dksX1_skinOf_0 4 rfl rfl)
theorem dX1_skinOf_5 : decode cX1_skinOf 5 = .ok (.invokevirtual 186, 3) := dk_182 0 186 (dk_at dksX1_skinOf_0 5 rfl rfl)
theorem dX1_skinOf_8 : decode cX1_skinOf 8 = .ok (.checkcast 161, 3) := dk_192 0 161 (dk_at dksX1_skinOf_0 8 rfl rfl)
theorem dX1_skinOf_11 : decode cX1_skinOf 11 = .ok (.astore_n 3, 1) := dk_78 (dk_at dksX1_skinOf_0 11 rfl rfl)
theorem dX1_skinOf_12 : decode cX1_skinOf 12 = .ok (.iconst 0, 1) := dk_3 (dk_at dksX1_skinOf_0 12 rfl rfl)
theorem dX1_skinOf_13 : decode cX1_skinOf 13 = .ok (.bipush 6, 2) := dk_16 6 (dk_at dksX1_skinOf_0 13 rfl rfl)
theorem dX1_skinOf_15 : decode cX1_skinOf 15 = .ok (.iload_n 2, 1) := dk_28 (dk_at dksX1_skinOf_0 15 rfl rfl)
theorem dX1_skinOf_16 : decode cX1_skinOf 16 = .ok (.invokestatic 25, 3) := dk_184 0 25 (dk_at dksX1_skinOf_0 16 rfl rfl)
theorem dX1_skinOf_19 : decode cX1_skinOf 19 = .ok (.invokestatic 101, 3) := dk_184 0 101 (dk_at dksX1_skinOf_0 19 rfl rfl)
theorem dX1_skinOf_22 : decode cX1_skinOf 22 = .ok (.iload_n 2, 1) := dk_28 (dk_at dksX1_skinOf_0 22 rfl rfl)
theorem dX1_skinOf_23 : decode cX1_skinOf 23 = .ok (.tableswitch 110 0 5 #[37, 45, 53, 86, 94, 102], 37) := by decide +kernel
theorem dX1_skinOf_60 : decode cX1_skinOf 60 = .ok (.aload_n 3, 1) := dk_45 (dk_at dksX1_skinOf_2 0 rfl rfl)
theorem dX1_skinOf_61 : decode cX1_skinOf 61 = .ok (.getfield 183, 3) := dk_180 0 183 (dk_at dksX1_skinOf_2 1 rfl rfl)
theorem dX1_skinOf_64 : decode cX1_skinOf 64 = .ok (.invokestatic 243, 3) := dk_184 0 243 (dk_at dksX1_skinOf_2 4 rfl rfl)
theorem dX1_skinOf_67 : decode cX1_skinOf 67 = .ok (.ireturn, 1) := dk_172 (dk_at dksX1_skinOf_2 7 rfl rfl)
theorem dX1_skinOf_68 : decode cX1_skinOf 68 = .ok (.aload_n 3, 1) := dk_45 (dk_at dksX1_skinOf_2 8 rfl rfl)
theorem dX1_skinOf_69 : decode cX1_skinOf 69 = .ok (.getfield 175, 3) := dk_180 0 175 (dk_at dksX1_skinOf_2 9 rfl rfl)
theorem dX1_skinOf_72 : decode cX1_skinOf 72 = .ok (.invokestatic 243, 3) := dk_184 0 243 (dk_at dksX1_skinOf_2 12 rfl rfl)
theorem dX1_skinOf_75 : decode cX1_skinOf 75 = .ok (.ireturn, 1) := dk_172 (dk_at dksX1_skinOf_2 15 rfl rfl)
theorem dX1_skinOf_76 : decode cX1_skinOf 76 = .ok (.aload_n 3, 1) := dk_45 (dk_at dksX1_skinOf_2 16 rfl rfl)
theorem dX1_skinOf_77 : decode cX1_skinOf 77 = .ok (.getfield 217, 3) := dk_180 0 217 (dk_at dksX1_skinOf_2 17 rfl rfl)
theorem dX1_skinOf_80 : decode cX1_skinOf 80 = .ok (.ifnull 21, 3) := dk_198 0 21 (dk_at dksX1_skinOf_2 20 rfl rfl)
theorem dX1_skinOf_83 : decode cX1_skinOf 83 = .ok (.aload_n 0, 1) := dk_42 (dk_at dksX1_skinOf_2 23 rfl rfl)
theorem dX1_skinOf_84 : decode cX1_skinOf 84 = .ok (.getfield 108, 3) := dk_180 0 108 (dk_at dksX1_skinOf_3 0 rfl rfl)
theorem dX1_skinOf_87 : decode cX1_skinOf 87 = .ok (.aload_n 3, 1) := dk_45 (dk_at dksX1_skinOf_3 3 rfl rfl)
theorem dX1_skinOf_88 : decode cX1_skinOf 88 = .ok (.getfield 220, 3) := dk_180 0 220 (dk_at dksX1_skinOf_3 4 rfl rfl)
theorem dX1_skinOf_91 : decode cX1_skinOf 91 = .ok (.if_icmp .gt 10, 3) := dk_163 0 10 (dk_at dksX1_skinOf_3 7 rfl rfl)
theorem dX1_skinOf_94 : decode cX1_skinOf 94 = .ok (.aload_n 3, 1) := dk_45 (dk_at dksX1_skinOf_3 10 rfl rfl)
theorem dX1_skinOf_95 : decode cX1_skinOf 95 = .ok (.getfield 217, 3) := dk_180 0 217 (dk_at dksX1_skinOf_3 11 rfl rfl)
theorem dX1_skinOf_98 : decode cX1_skinOf 98 = .ok (.goto 7, 3) := dk_167 0 7 (dk_at dksX1_skinOf_3 14 rfl rfl)
theorem dX1_skinOf_101 : decode cX1_skinOf 101 = .ok (.aload_n 3, 1) := dk_45 (dk_at dksX1_skinOf_3 17 rfl rfl)
theorem dX1_skinOf_102 : decode cX1_skinOf 102 = .ok (.getfield 183, 3) := dk_180 0 183 (dk_at dksX1_skinOf_3 18 rfl rfl)
theorem dX1_skinOf_105 : decode cX1_skinOf 105 = .ok (.invokestatic 243, 3) := dk_184 0 243 (dk_at dksX1_skinOf_3 21 rfl rfl)
theorem dX1_skinOf_108 : decode cX1_skinOf 108 = .ok (.ireturn, 1) := dk_172 (dk_at dksX1_skinOf_4 0 rfl rfl)
theorem dX1_skinOf_109 : decode cX1_skinOf 109 = .ok (.aload_n 3, 1) := dk_45 (dk_at dksX1_skinOf_4 1 rfl rfl)
theorem dX1_skinOf_110 : decode cX1_skinOf 110 = .ok (.invokevirtual 247, 3) := dk_182 0 247 (dk_at dksX1_skinOf_4 2 rfl rfl)
theorem dX1_skinOf_113 : decode cX1_skinOf 113 = .ok (.getfield 251, 3) := dk_180 0 251 (dk_at dksX1_skinOf_4 5 rfl rfl)
theorem dX1_skinOf_116 : decode cX1_skinOf 116 = .ok (.ireturn, 1) := dk_172 (dk_at dksX1_skinOf_4 8 rfl rfl)
theorem dX1_skinOf_117 : decode cX1_skinOf 117 = .ok (.aload_n 3, 1) := dk_45 (dk_at dksX1_skinOf_4 9 rfl rfl)
theorem dX1_skinOf_118 : decode cX1_skinOf 118 = .ok (.invokevirtual 247, 3) := dk_182 0 247 (dk_at dksX1_skinOf_4 10 rfl rfl)
theorem dX1_skinOf_121 : decode cX1_skinOf 121 = .ok (.getfield 252, 3) := dk_180 0 252 (dk_at dksX1_skinOf_4 13 rfl rfl)
theorem dX1_skinOf_124 : decode cX1_skinOf 124 = .ok (.ireturn, 1) := dk_172 (dk_at dksX1_skinOf_4 16 rfl rfl)
theorem dX1_skinOf_125 : decode cX1_skinOf 125 = .ok (.aload_n 3, 1) := dk_45 (dk_at dksX1_skinOf_4 17 rfl rfl)
theorem dX1_skinOf_126 : decode cX1_skinOf 126 = .ok (.getfield 194, 3) := dk_180 0 194 (dk_at dksX1_skinOf_4 18 rfl rfl)
theorem dX1_skinOf_129 : decode cX1_skinOf 129 = .ok (.invokevirtual 71, 3) := dk_182 0 71 (dk_at dksX1_skinOf_4 21 rfl rfl)
theorem dX1_skinOf_132 : decode cX1_skinOf 132 = .ok (.ireturn, 1) := dk_172 (dk_at dksX1_skinOf_5 0 rfl rfl)
theorem dX1_skinOf_133 : decode cX1_skinOf 133 = .ok (.aload_n 3, 1) := dk_45 (dk_at dksX1_skinOf_5 1 rfl rfl)
theorem dX1_skinOf_134 : decode cX1_skinOf 134 = .ok (.invokevirtual 255, 3) := dk_182 0 255 (dk_at dksX1_skinOf_5 2 rfl rfl)
theorem dX1_skinOf_137 : decode cX1_skinOf 137 = .ok (.ifnonnull 7, 3) := dk_199 0 7 (dk_at dksX1_skinOf_5 5 rfl rfl)
theorem dX1_skinOf_140 : decode cX1_skinOf 140 = .ok (.iconst 0, 1) := dk_3 (dk_at dksX1_skinOf_5 8 rfl rfl)
theorem dX1_skinOf_141 : decode cX1_skinOf 141 = .ok (.goto 4, 3) := dk_167 0 4 (dk_at dksX1_skinOf_5 9 rfl rfl)
theorem dX1_skinOf_144 : decode cX1_skinOf 144 = .ok (.iconst 1, 1) := dk_4 (dk_at dksX1_skinOf_5 12 rfl rfl)
theorem dX1_skinOf_145 : decode cX1_skinOf 145 = .ok (.ireturn, 1) := dk_172 (dk_at dksX1_skinOf_5 13 rfl rfl)
abbrev cX1_numberOf : ByteArray := prog_1_method_32_code
def yX1_numberOf : MethodName := ⟨RX1, "numberOf", "(LSkinLeague$Player;)I"⟩
def dkwX1_numberOf_0 : List UInt8 := [42, 199, 0, 7, 2, 167, 0, 7, 42, 180, 0, 240, 172]
abbrev dktX1_numberOf_0 : List UInt8 := dkwX1_numberOf_0 ++ []
theorem dksX1_numberOf_0 : cX1_numberOf.data.toList.drop 0 = dktX1_numberOf_0 := by decide +kernel
theorem dX1_numberOf_0 : decode cX1_numberOf 0 = .ok (.aload_n 0, 1) := dk_42 (dk_at dksX1_numberOf_0 0 rfl rfl)
theorem dX1_numberOf_1 : decode cX1_numberOf 1 = .ok (.ifnonnull 7, 3) := dk_199 0 7 (dk_at dksX1_numberOf_0 1 rfl rfl)
theorem dX1_numberOf_4 : decode cX1_numberOf 4 = .ok (.iconst (-1), 1) := dk_2 (dk_at dksX1_numberOf_0 4 rfl rfl)
theorem dX1_numberOf_5 : decode cX1_numberOf 5 = .ok (.goto 7, 3) := dk_167 0 7 (dk_at dksX1_numberOf_0 5 rfl rfl)
theorem dX1_numberOf_8 : decode cX1_numberOf 8 = .ok (.aload_n 0, 1) := dk_42 (dk_at dksX1_numberOf_0 8 rfl rfl)
theorem dX1_numberOf_9 : decode cX1_numberOf 9 = .ok (.getfield 240, 3) := dk_180 0 240 (dk_at dksX1_numberOf_0 9 rfl rfl)
theorem dX1_numberOf_12 : decode cX1_numberOf 12 = .ok (.ireturn, 1) := dk_172 (dk_at dksX1_numberOf_0 12 rfl rfl)
abbrev cX1_money : ByteArray := prog_1_method_34_code
def yX1_money : MethodName := ⟨RX1, "money", "(I)I"⟩
def dkwX1_money_0 : List UInt8 := [42, 27, 182, 0, 119, 180, 1, 3, 172]
abbrev dktX1_money_0 : List UInt8 := dkwX1_money_0 ++ []
theorem dksX1_money_0 : cX1_money.data.toList.drop 0 = dktX1_money_0 := by decide +kernel
theorem dX1_money_0 : decode cX1_money 0 = .ok (.aload_n 0, 1) := dk_42 (dk_at dksX1_money_0 0 rfl rfl)
theorem dX1_money_1 : decode cX1_money 1 = .ok (.iload_n 1, 1) := dk_27 (dk_at dksX1_money_0 1 rfl rfl)
theorem dX1_money_2 : decode cX1_money 2 = .ok (.invokevirtual 119, 3) := dk_182 0 119 (dk_at dksX1_money_0 2 rfl rfl)
theorem dX1_money_5 : decode cX1_money 5 = .ok (.getfield 259, 3) := dk_180 1 3 (dk_at dksX1_money_0 5 rfl rfl)
theorem dX1_money_8 : decode cX1_money 8 = .ok (.ireturn, 1) := dk_172 (dk_at dksX1_money_0 8 rfl rfl)
abbrev cX1_label : ByteArray := prog_1_method_35_code
def yX1_label : MethodName := ⟨RX1, "label", "(II)C"⟩
def dkwX1_label_2 : List UInt8 := [3, 172]
abbrev dktX1_label_2 : List UInt8 := dkwX1_label_2 ++ []
def dkwX1_label_1 : List UInt8 := [45, 182, 1, 6, 58, 4, 28, 25, 4, 182, 1, 10, 162, 0, 12, 25, 4, 28, 182, 1, 15, 167, 0, 4]
abbrev dktX1_label_1 : List UInt8 := dkwX1_label_1 ++ dktX1_label_2
def dkwX1_label_0 : List UInt8 := [42, 180, 0, 57, 27, 182, 0, 186, 192, 0, 161, 78, 28, 155, 0, 7, 4, 167, 0, 4, 3, 184, 0, 31]
abbrev dktX1_label_0 : List UInt8 := dkwX1_label_0 ++ dktX1_label_1
theorem dksX1_label_0 : cX1_label.data.toList.drop 0 = dktX1_label_0 := by decide +kernel
theorem dksX1_label_1 : cX1_label.data.toList.drop 24 = dktX1_label_1 := dk_seg dksX1_label_0 24 rfl rfl
theorem dksX1_label_2 : cX1_label.data.toList.drop 48 = dktX1_label_2 := dk_seg dksX1_label_1 24 rfl rfl
theorem dX1_label_0 : decode cX1_label 0 = .ok (.aload_n 0, 1) := dk_42 (dk_at dksX1_label_0 0 rfl rfl)
theorem dX1_label_1 : decode cX1_label 1 = .ok (.getfield 57, 3) := dk_180 0 57 (dk_at dksX1_label_0 1 rfl rfl)
theorem dX1_label_4 : decode cX1_label 4 = .ok (.iload_n 1, 1) := dk_27 (dk_at dksX1_label_0 4 rfl rfl)
theorem dX1_label_5 : decode cX1_label 5 = .ok (.invokevirtual 186, 3) := dk_182 0 186 (dk_at dksX1_label_0 5 rfl rfl)
theorem dX1_label_8 : decode cX1_label 8 = .ok (.checkcast 161, 3) := dk_192 0 161 (dk_at dksX1_label_0 8 rfl rfl)
theorem dX1_label_11 : decode cX1_label 11 = .ok (.astore_n 3, 1) := dk_78 (dk_at dksX1_label_0 11 rfl rfl)
theorem dX1_label_12 : decode cX1_label 12 = .ok (.iload_n 2, 1) := dk_28 (dk_at dksX1_label_0 12 rfl rfl)
theorem dX1_label_13 : decode cX1_label 13 = .ok (.ifCond .lt 7, 3) := dk_155 0 7 (dk_at dksX1_label_0 13 rfl rfl)
theorem dX1_label_16 : decode cX1_label 16 = .ok (.iconst 1, 1) := dk_4 (dk_at dksX1_label_0 16 rfl rfl)
theorem dX1_label_17 : decode cX1_label 17 = .ok (.goto 4, 3) := dk_167 0 4 (dk_at dksX1_label_0 17 rfl rfl)
theorem dX1_label_20 : decode cX1_label 20 = .ok (.iconst 0, 1) := dk_3 (dk_at dksX1_label_0 20 rfl rfl)
theorem dX1_label_21 : decode cX1_label 21 = .ok (.invokestatic 31, 3) := dk_184 0 31 (dk_at dksX1_label_0 21 rfl rfl)
theorem dX1_label_24 : decode cX1_label 24 = .ok (.aload_n 3, 1) := dk_45 (dk_at dksX1_label_1 0 rfl rfl)
theorem dX1_label_25 : decode cX1_label 25 = .ok (.invokevirtual 262, 3) := dk_182 1 6 (dk_at dksX1_label_1 1 rfl rfl)
theorem dX1_label_28 : decode cX1_label 28 = .ok (.astore 4, 2) := dk_58 4 (dk_at dksX1_label_1 4 rfl rfl)
theorem dX1_label_30 : decode cX1_label 30 = .ok (.iload_n 2, 1) := dk_28 (dk_at dksX1_label_1 6 rfl rfl)
theorem dX1_label_31 : decode cX1_label 31 = .ok (.aload 4, 2) := dk_25 4 (dk_at dksX1_label_1 7 rfl rfl)
theorem dX1_label_33 : decode cX1_label 33 = .ok (.invokevirtual 266, 3) := dk_182 1 10 (dk_at dksX1_label_1 9 rfl rfl)
theorem dX1_label_36 : decode cX1_label 36 = .ok (.if_icmp .ge 12, 3) := dk_162 0 12 (dk_at dksX1_label_1 12 rfl rfl)
theorem dX1_label_39 : decode cX1_label 39 = .ok (.aload 4, 2) := dk_25 4 (dk_at dksX1_label_1 15 rfl rfl)
theorem dX1_label_41 : decode cX1_label 41 = .ok (.iload_n 2, 1) := dk_28 (dk_at dksX1_label_1 17 rfl rfl)
theorem dX1_label_42 : decode cX1_label 42 = .ok (.invokevirtual 271, 3) := dk_182 1 15 (dk_at dksX1_label_1 18 rfl rfl)
theorem dX1_label_45 : decode cX1_label 45 = .ok (.goto 4, 3) := dk_167 0 4 (dk_at dksX1_label_1 21 rfl rfl)
theorem dX1_label_48 : decode cX1_label 48 = .ok (.iconst 0, 1) := dk_3 (dk_at dksX1_label_2 0 rfl rfl)
theorem dX1_label_49 : decode cX1_label 49 = .ok (.ireturn, 1) := dk_172 (dk_at dksX1_label_2 1 rfl rfl)
theorem q36 : (Jvm.Cond.initialized "SkinLeague") ∈ lw_all := lw_g (lw_at lw_m1 1 rfl) rfl
theorem q85 : (Jvm.Cond.instantiable "SkinLeague" (6 : Nat)) ∈ lw_all := lw_g (lw_at lw_m1 50 rfl) rfl
theorem q87 : (Jvm.Cond.instanceMethod ({ cls := "SkinLeague", name := "<init>", desc := "()V" } : Jvm.MethodName)) ∈ lw_all := lw_g (lw_at lw_m1 52 rfl) rfl
theorem q88 : (Jvm.Cond.code ({ cls := "SkinLeague", name := "<init>", desc := "()V" } : Jvm.MethodName) prog_1_method_6_code (1 : Nat) (Option.none : Option Jvm.ClassFile.FieldType)) ∈ lw_all := lw_g (lw_at lw_m1 53 rfl) rfl
theorem q89 : (Jvm.Cond.methodLink "SkinLeague" (39 : Nat) ({ cls := "java/lang/Object", name := "<init>", desc := "()V" } : Jvm.MethodName)) ∈ lw_all := lw_g (lw_at lw_m1 54 rfl) rfl
theorem q92 : (Jvm.Cond.classLink "SkinLeague" (44 : Nat) "java/util/ArrayList") ∈ lw_all := lw_g (lw_at lw_m1 57 rfl) rfl
theorem q94 : (Jvm.Cond.methodLink "SkinLeague" (46 : Nat) ({ cls := "java/util/ArrayList", name := "<init>", desc := "()V" } : Jvm.MethodName)) ∈ lw_all := lw_g (lw_at lw_m1 59 rfl) rfl
theorem q121 : (Jvm.Cond.classLink "SkinLeague" (54 : Nat) "SkinLeague$Shelf") ∈ lw_all := lw_g (lw_at lw_m1 86 rfl) rfl
theorem q123 : (Jvm.Cond.methodLinkNest "SkinLeague" (56 : Nat) ({ cls := "SkinLeague$Shelf", name := "<init>", desc := "()V" } : Jvm.MethodName) "SkinLeague") ∈ lw_tbl := lw_at lw_m1 88 rfl
theorem q185 : (Jvm.Cond.fieldLink "SkinLeague" (47 : Nat) "SkinLeague" "players" "Ljava/util/ArrayList;") ∈ lw_all := lw_g (lw_at lw_m1 150 rfl) rfl
theorem q186 : (Jvm.Cond.fieldLink "SkinLeague" (51 : Nat) "SkinLeague" "matches" "Ljava/util/ArrayList;") ∈ lw_all := lw_g (lw_at lw_m1 151 rfl) rfl
theorem q187 : (Jvm.Cond.fieldLink "SkinLeague" (57 : Nat) "SkinLeague" "skins" "LSkinLeague$Shelf;") ∈ lw_all := lw_g (lw_at lw_m1 152 rfl) rfl
theorem q188 : (Jvm.Cond.fieldLink "SkinLeague" (61 : Nat) "SkinLeague" "rooms" "[I") ∈ lw_all := lw_g (lw_at lw_m1 153 rfl) rfl
theorem q189 : (Jvm.Cond.fieldLink "SkinLeague" (127 : Nat) "SkinLeague" "season" "I") ∈ lw_all := lw_g (lw_at lw_m1 154 rfl) rfl
theorem q190 : (Jvm.Cond.fieldLink "SkinLeague" (108 : Nat) "SkinLeague" "day" "I") ∈ lw_all := lw_g (lw_at lw_m1 155 rfl) rfl
theorem q191 : (Jvm.Cond.laysFinal "SkinLeague" "SkinLeague" "players" "Ljava/util/ArrayList;") ∈ lw_all := lw_g (lw_at lw_m1 156 rfl) rfl
theorem q192 : (Jvm.Cond.soleField "SkinLeague" "players") ∈ lw_all := lw_g (lw_at lw_m1 157 rfl) rfl
theorem q193 : (Jvm.Cond.laysFinal "SkinLeague" "SkinLeague" "matches" "Ljava/util/ArrayList;") ∈ lw_all := lw_g (lw_at lw_m1 158 rfl) rfl
theorem q194 : (Jvm.Cond.soleField "SkinLeague" "matches") ∈ lw_all := lw_g (lw_at lw_m1 159 rfl) rfl
theorem q195 : (Jvm.Cond.laysFinal "SkinLeague" "SkinLeague" "skins" "LSkinLeague$Shelf;") ∈ lw_all := lw_g (lw_at lw_m1 160 rfl) rfl
theorem q196 : (Jvm.Cond.soleField "SkinLeague" "skins") ∈ lw_all := lw_g (lw_at lw_m1 161 rfl) rfl
theorem q197 : (Jvm.Cond.laysFinal "SkinLeague" "SkinLeague" "rooms" "[I") ∈ lw_all := lw_g (lw_at lw_m1 162 rfl) rfl
theorem q198 : (Jvm.Cond.soleField "SkinLeague" "rooms") ∈ lw_all := lw_g (lw_at lw_m1 163 rfl) rfl
theorem q199 : (Jvm.Cond.lays "SkinLeague" "SkinLeague" "season" "I") ∈ lw_all := lw_g (lw_at lw_m1 164 rfl) rfl
theorem q200 : (Jvm.Cond.soleField "SkinLeague" "season") ∈ lw_all := lw_g (lw_at lw_m1 165 rfl) rfl
theorem q201 : (Jvm.Cond.lays "SkinLeague" "SkinLeague" "day" "I") ∈ lw_all := lw_g (lw_at lw_m1 166 rfl) rfl
theorem q202 : (Jvm.Cond.soleField "SkinLeague" "day") ∈ lw_all := lw_g (lw_at lw_m1 167 rfl) rfl
theorem q203 : (Jvm.Cond.superclass "SkinLeague" "java/lang/Object") ∈ lw_all := lw_g (lw_at lw_m1 168 rfl) rfl
theorem q210 : (Jvm.Cond.instanceMethod ({ cls := "SkinLeague", name := "player", desc := "()I" } : Jvm.MethodName)) ∈ lw_all := lw_g (lw_at lw_m1 175 rfl) rfl
theorem q211 : (Jvm.Cond.selects "SkinLeague" ({ cls := "SkinLeague", name := "player", desc := "()I" } : Jvm.MethodName) ({ cls := "SkinLeague", name := "player", desc := "()I" } : Jvm.MethodName)) ∈ lw_all := lw_g (lw_at lw_m1 176 rfl) rfl
theorem q212 : (Jvm.Cond.code ({ cls := "SkinLeague", name := "player", desc := "()I" } : Jvm.MethodName) prog_1_method_10_code (1 : Nat) (Option.some Jvm.ClassFile.FieldType.int)) ∈ lw_all := lw_g (lw_at lw_m1 177 rfl) rfl
theorem q213 : (Jvm.Cond.methodLink "SkinLeague" (71 : Nat) ({ cls := "java/util/ArrayList", name := "size", desc := "()I" } : Jvm.MethodName)) ∈ lw_all := lw_g (lw_at lw_m1 178 rfl) rfl
theorem q217 : (Jvm.Cond.methodLink "SkinLeague" (81 : Nat) ({ cls := "SkinLeague", name := "needState", desc := "(Z)V" } : Jvm.MethodName)) ∈ lw_all := lw_g (lw_at lw_m1 182 rfl) rfl
theorem q218 : (Jvm.Cond.static ({ cls := "SkinLeague", name := "needState", desc := "(Z)V" } : Jvm.MethodName)) ∈ lw_all := lw_g (lw_at lw_m1 183 rfl) rfl
theorem q219 : (Jvm.Cond.code ({ cls := "SkinLeague", name := "needState", desc := "(Z)V" } : Jvm.MethodName) prog_1_method_3_code (1 : Nat) (Option.none : Option Jvm.ClassFile.FieldType)) ∈ lw_all := lw_g (lw_at lw_m1 184 rfl) rfl
theorem q220 : (Jvm.Cond.classLink "SkinLeague" (14 : Nat) "java/lang/IllegalStateException") ∈ lw_all := lw_g (lw_at lw_m1 185 rfl) rfl
theorem q262 : (Jvm.Cond.stringRef "SkinLeague" (16 : Nat) "not possible now") ∈ lw_tbl := lw_at lw_m1 227 rfl
theorem q263 : (Jvm.Cond.methodLink "SkinLeague" (18 : Nat) ({ cls := "java/lang/IllegalStateException", name := "<init>", desc := "(Ljava/lang/String;)V" } : Jvm.MethodName)) ∈ lw_all := lw_g (lw_at lw_m1 228 rfl) rfl
theorem q289 : (Jvm.Cond.classLink "SkinLeague" (69 : Nat) "SkinLeague$Player") ∈ lw_all := lw_g (lw_at lw_m2 14 rfl) rfl
theorem q291 : (Jvm.Cond.methodLink "SkinLeague" (84 : Nat) ({ cls := "SkinLeague$Player", name := "<init>", desc := "(I)V" } : Jvm.MethodName)) ∈ lw_all := lw_g (lw_at lw_m2 16 rfl) rfl
theorem q298 : (Jvm.Cond.fieldLinkNest "SkinLeague" (240 : Nat) "SkinLeague$Player" "number" "I" "SkinLeague") ∈ lw_tbl := lw_at lw_m2 23 rfl
theorem q301 : (Jvm.Cond.fieldLinkNest "SkinLeague" (223 : Nat) "SkinLeague$Player" "cheatsSince" "I" "SkinLeague") ∈ lw_tbl := lw_at lw_m2 26 rfl
theorem q302 : (Jvm.Cond.fieldLinkNest "SkinLeague" (112 : Nat) "SkinLeague$Player" "bannedUntil" "I" "SkinLeague") ∈ lw_tbl := lw_at lw_m2 27 rfl
theorem q304 : (Jvm.Cond.fieldLinkNest "SkinLeague" (259 : Nat) "SkinLeague$Player" "money" "I" "SkinLeague") ∈ lw_tbl := lw_at lw_m2 29 rfl
theorem q314 : (Jvm.Cond.methodLink "SkinLeague" (87 : Nat) ({ cls := "java/util/ArrayList", name := "add", desc := "(Ljava/lang/Object;)Z" } : Jvm.MethodName)) ∈ lw_all := lw_g (lw_at lw_m2 39 rfl) rfl
theorem q346 : (Jvm.Cond.selects "SkinLeague" ({ cls := "java/lang/Object", name := "getClass", desc := "()Ljava/lang/Class;" } : Jvm.MethodName) ({ cls := "java/lang/Object", name := "getClass", desc := "()Ljava/lang/Class;" } : Jvm.MethodName)) ∈ lw_all := lw_g (lw_at lw_m2 71 rfl) rfl
theorem q414 : (Jvm.Cond.instanceMethod ({ cls := "SkinLeague", name := "room", desc := "(II)I" } : Jvm.MethodName)) ∈ lw_all := lw_g (lw_at lw_m2 139 rfl) rfl
theorem q415 : (Jvm.Cond.selects "SkinLeague" ({ cls := "SkinLeague", name := "room", desc := "(II)I" } : Jvm.MethodName) ({ cls := "SkinLeague", name := "room", desc := "(II)I" } : Jvm.MethodName)) ∈ lw_all := lw_g (lw_at lw_m2 140 rfl) rfl
theorem q416 : (Jvm.Cond.code ({ cls := "SkinLeague", name := "room", desc := "(II)I" } : Jvm.MethodName) prog_1_method_12_code (3 : Nat) (Option.some Jvm.ClassFile.FieldType.int)) ∈ lw_all := lw_g (lw_at lw_m2 141 rfl) rfl
theorem q417 : (Jvm.Cond.methodLink "SkinLeague" (98 : Nat) ({ cls := "SkinLeague", name := "needRegion", desc := "(I)V" } : Jvm.MethodName)) ∈ lw_all := lw_g (lw_at lw_m2 142 rfl) rfl
theorem q418 : (Jvm.Cond.static ({ cls := "SkinLeague", name := "needRegion", desc := "(I)V" } : Jvm.MethodName)) ∈ lw_all := lw_g (lw_at lw_m2 143 rfl) rfl
theorem q419 : (Jvm.Cond.code ({ cls := "SkinLeague", name := "needRegion", desc := "(I)V" } : Jvm.MethodName) prog_1_method_8_code (1 : Nat) (Option.none : Option Jvm.ClassFile.FieldType)) ∈ lw_all := lw_g (lw_at lw_m2 144 rfl) rfl
theorem q420 : (Jvm.Cond.methodLink "SkinLeague" (25 : Nat) ({ cls := "SkinLeague", name := "isBetween", desc := "(III)Z" } : Jvm.MethodName)) ∈ lw_all := lw_g (lw_at lw_m2 145 rfl) rfl
theorem q421 : (Jvm.Cond.static ({ cls := "SkinLeague", name := "isBetween", desc := "(III)Z" } : Jvm.MethodName)) ∈ lw_all := lw_g (lw_at lw_m2 146 rfl) rfl
theorem q422 : (Jvm.Cond.code ({ cls := "SkinLeague", name := "isBetween", desc := "(III)Z" } : Jvm.MethodName) prog_1_method_4_code (3 : Nat) (Option.some Jvm.ClassFile.FieldType.boolean)) ∈ lw_all := lw_g (lw_at lw_m2 147 rfl) rfl
theorem q423 : (Jvm.Cond.methodLink "SkinLeague" (31 : Nat) ({ cls := "SkinLeague", name := "needIndex", desc := "(Z)V" } : Jvm.MethodName)) ∈ lw_all := lw_g (lw_at lw_m2 148 rfl) rfl
theorem q424 : (Jvm.Cond.static ({ cls := "SkinLeague", name := "needIndex", desc := "(Z)V" } : Jvm.MethodName)) ∈ lw_all := lw_g (lw_at lw_m2 149 rfl) rfl
theorem q425 : (Jvm.Cond.code ({ cls := "SkinLeague", name := "needIndex", desc := "(Z)V" } : Jvm.MethodName) prog_1_method_1_code (1 : Nat) (Option.none : Option Jvm.ClassFile.FieldType)) ∈ lw_all := lw_g (lw_at lw_m2 150 rfl) rfl
theorem q426 : (Jvm.Cond.classLink "SkinLeague" (1 : Nat) "java/lang/IndexOutOfBoundsException") ∈ lw_all := lw_g (lw_at lw_m2 151 rfl) rfl
theorem q435 : (Jvm.Cond.stringRef "SkinLeague" (3 : Nat) "there is none") ∈ lw_tbl := lw_at lw_m2 160 rfl
theorem q436 : (Jvm.Cond.methodLink "SkinLeague" (5 : Nat) ({ cls := "java/lang/IndexOutOfBoundsException", name := "<init>", desc := "(Ljava/lang/String;)V" } : Jvm.MethodName)) ∈ lw_all := lw_g (lw_at lw_m2 161 rfl) rfl
theorem q439 : (Jvm.Cond.methodLink "SkinLeague" (101 : Nat) ({ cls := "SkinLeague", name := "needArgument", desc := "(Z)V" } : Jvm.MethodName)) ∈ lw_all := lw_g (lw_at lw_m2 164 rfl) rfl
theorem q440 : (Jvm.Cond.static ({ cls := "SkinLeague", name := "needArgument", desc := "(Z)V" } : Jvm.MethodName)) ∈ lw_all := lw_g (lw_at lw_m2 165 rfl) rfl
theorem q441 : (Jvm.Cond.code ({ cls := "SkinLeague", name := "needArgument", desc := "(Z)V" } : Jvm.MethodName) prog_1_method_2_code (1 : Nat) (Option.none : Option Jvm.ClassFile.FieldType)) ∈ lw_all := lw_g (lw_at lw_m2 166 rfl) rfl
theorem q442 : (Jvm.Cond.classLink "SkinLeague" (9 : Nat) "java/lang/IllegalArgumentException") ∈ lw_all := lw_g (lw_at lw_m2 167 rfl) rfl
theorem q451 : (Jvm.Cond.stringRef "SkinLeague" (11 : Nat) "out of range") ∈ lw_tbl := lw_at lw_m2 176 rfl
theorem q452 : (Jvm.Cond.methodLink "SkinLeague" (13 : Nat) ({ cls := "java/lang/IllegalArgumentException", name := "<init>", desc := "(Ljava/lang/String;)V" } : Jvm.MethodName)) ∈ lw_all := lw_g (lw_at lw_m2 177 rfl) rfl
theorem q458 : (Jvm.Cond.methodLink "SkinLeague" (104 : Nat) ({ cls := "SkinLeague", name := "load", desc := "(I)I" } : Jvm.MethodName)) ∈ lw_all := lw_g (lw_at lw_m2 183 rfl) rfl
theorem q459 : (Jvm.Cond.privateMethod ({ cls := "SkinLeague", name := "load", desc := "(I)I" } : Jvm.MethodName)) ∈ lw_tbl := lw_at lw_m2 184 rfl
theorem q460 : (Jvm.Cond.instanceMethod ({ cls := "SkinLeague", name := "load", desc := "(I)I" } : Jvm.MethodName)) ∈ lw_all := lw_g (lw_at lw_m2 185 rfl) rfl
theorem q461 : (Jvm.Cond.code ({ cls := "SkinLeague", name := "load", desc := "(I)I" } : Jvm.MethodName) prog_1_method_11_code (2 : Nat) (Option.some Jvm.ClassFile.FieldType.int)) ∈ lw_all := lw_g (lw_at lw_m2 186 rfl) rfl
theorem q462 : (Jvm.Cond.privateMethod ({ cls := "SkinLeague", name := "lambda$load$0", desc := "(ILSkinLeague$Match;)I" } : Jvm.MethodName)) ∈ lw_tbl := lw_at lw_m2 187 rfl
theorem q463 : (Jvm.Cond.instanceMethod ({ cls := "SkinLeague", name := "lambda$load$0", desc := "(ILSkinLeague$Match;)I" } : Jvm.MethodName)) ∈ lw_all := lw_g (lw_at lw_m2 188 rfl) rfl
theorem q464 : (Jvm.Cond.code ({ cls := "SkinLeague", name := "lambda$load$0", desc := "(ILSkinLeague$Match;)I" } : Jvm.MethodName) prog_1_method_39_code (3 : Nat) (Option.some Jvm.ClassFile.FieldType.int)) ∈ lw_all := lw_g (lw_at lw_m2 189 rfl) rfl
theorem q465 : (Jvm.Cond.methodLink "SkinLeague" (94 : Nat) ({ cls := "SkinLeague", name := "sum", desc := "(LSkinLeague$Tally;)I" } : Jvm.MethodName)) ∈ lw_all := lw_g (lw_at lw_m2 190 rfl) rfl
theorem q466 : (Jvm.Cond.privateMethod ({ cls := "SkinLeague", name := "sum", desc := "(LSkinLeague$Tally;)I" } : Jvm.MethodName)) ∈ lw_tbl := lw_at lw_m2 191 rfl
theorem q467 : (Jvm.Cond.instanceMethod ({ cls := "SkinLeague", name := "sum", desc := "(LSkinLeague$Tally;)I" } : Jvm.MethodName)) ∈ lw_all := lw_g (lw_at lw_m2 192 rfl) rfl
theorem q468 : (Jvm.Cond.code ({ cls := "SkinLeague", name := "sum", desc := "(LSkinLeague$Tally;)I" } : Jvm.MethodName) prog_1_method_9_code (4 : Nat) (Option.some Jvm.ClassFile.FieldType.int)) ∈ lw_all := lw_g (lw_at lw_m2 193 rfl) rfl
theorem q469 : (Jvm.Cond.methodLink "SkinLeague" (72 : Nat) ({ cls := "java/util/ArrayList", name := "get", desc := "(I)Ljava/lang/Object;" } : Jvm.MethodName)) ∈ lw_all := lw_g (lw_at lw_m2 194 rfl) rfl
theorem q483 : (Jvm.Cond.classLink "SkinLeague" (73 : Nat) "SkinLeague$Match") ∈ lw_all := lw_g (lw_at lw_m2 208 rfl) rfl
theorem q484 : (Jvm.Cond.interfaceEntry "SkinLeague" (75 : Nat)) ∈ lw_tbl := lw_at lw_m2 209 rfl
theorem q485 : (Jvm.Cond.methodLink "SkinLeague" (75 : Nat) ({ cls := "SkinLeague$Tally", name := "of", desc := "(LSkinLeague$Match;)I" } : Jvm.MethodName)) ∈ lw_all := lw_g (lw_at lw_m2 210 rfl) rfl
theorem q492 : (Jvm.Cond.instanceMethod ({ cls := "SkinLeague", name := "match", desc := "(III)I" } : Jvm.MethodName)) ∈ lw_all := lw_g (lw_at lw_m2 217 rfl) rfl
theorem q493 : (Jvm.Cond.selects "SkinLeague" ({ cls := "SkinLeague", name := "match", desc := "(III)I" } : Jvm.MethodName) ({ cls := "SkinLeague", name := "match", desc := "(III)I" } : Jvm.MethodName)) ∈ lw_all := lw_g (lw_at lw_m2 218 rfl) rfl
theorem q494 : (Jvm.Cond.code ({ cls := "SkinLeague", name := "match", desc := "(III)I" } : Jvm.MethodName) prog_1_method_15_code (6 : Nat) (Option.some Jvm.ClassFile.FieldType.int)) ∈ lw_all := lw_g (lw_at lw_m2 219 rfl) rfl
theorem q495 : (Jvm.Cond.methodLink "SkinLeague" (119 : Nat) ({ cls := "SkinLeague", name := "playerAt", desc := "(I)LSkinLeague$Player;" } : Jvm.MethodName)) ∈ lw_all := lw_g (lw_at lw_m2 220 rfl) rfl
theorem q496 : (Jvm.Cond.privateMethod ({ cls := "SkinLeague", name := "playerAt", desc := "(I)LSkinLeague$Player;" } : Jvm.MethodName)) ∈ lw_tbl := lw_at lw_m2 221 rfl
theorem q497 : (Jvm.Cond.instanceMethod ({ cls := "SkinLeague", name := "playerAt", desc := "(I)LSkinLeague$Player;" } : Jvm.MethodName)) ∈ lw_all := lw_g (lw_at lw_m2 222 rfl) rfl
theorem q498 : (Jvm.Cond.code ({ cls := "SkinLeague", name := "playerAt", desc := "(I)LSkinLeague$Player;" } : Jvm.MethodName) prog_1_method_7_code (2 : Nat) (Option.some (Jvm.ClassFile.FieldType.object "SkinLeague$Player"))) ∈ lw_all := lw_g (lw_at lw_m2 223 rfl) rfl
theorem q499 : (Jvm.Cond.methodLink "SkinLeague" (65 : Nat) ({ cls := "SkinLeague", name := "known", desc := "(Ljava/util/List;I)Ljava/lang/Object;" } : Jvm.MethodName)) ∈ lw_all := lw_g (lw_at lw_m2 224 rfl) rfl
theorem q500 : (Jvm.Cond.static ({ cls := "SkinLeague", name := "known", desc := "(Ljava/util/List;I)Ljava/lang/Object;" } : Jvm.MethodName)) ∈ lw_all := lw_g (lw_at lw_m2 225 rfl) rfl
theorem q501 : (Jvm.Cond.code ({ cls := "SkinLeague", name := "known", desc := "(Ljava/util/List;I)Ljava/lang/Object;" } : Jvm.MethodName) prog_1_method_5_code (2 : Nat) (Option.some (Jvm.ClassFile.FieldType.object "java/lang/Object"))) ∈ lw_all := lw_g (lw_at lw_m2 226 rfl) rfl
theorem q502 : (Jvm.Cond.interfaceEntry "SkinLeague" (19 : Nat)) ∈ lw_tbl := lw_at lw_m2 227 rfl
theorem q503 : (Jvm.Cond.methodLink "SkinLeague" (19 : Nat) ({ cls := "java/util/List", name := "size", desc := "()I" } : Jvm.MethodName)) ∈ lw_all := lw_g (lw_at lw_m2 228 rfl) rfl
theorem q510 : (Jvm.Cond.interfaceEntry "SkinLeague" (35 : Nat)) ∈ lw_tbl := lw_at lw_m2 235 rfl
theorem q511 : (Jvm.Cond.methodLink "SkinLeague" (35 : Nat) ({ cls := "java/util/List", name := "get", desc := "(I)Ljava/lang/Object;" } : Jvm.MethodName)) ∈ lw_all := lw_g (lw_at lw_m2 236 rfl) rfl
theorem q517 : (Jvm.Cond.methodLink "SkinLeague" (123 : Nat) ({ cls := "SkinLeague", name := "needFree", desc := "(LSkinLeague$Player;LSkinLeague$Player;)V" } : Jvm.MethodName)) ∈ lw_all := lw_g (lw_at lw_m3 2 rfl) rfl
theorem q518 : (Jvm.Cond.privateMethod ({ cls := "SkinLeague", name := "needFree", desc := "(LSkinLeague$Player;LSkinLeague$Player;)V" } : Jvm.MethodName)) ∈ lw_tbl := lw_at lw_m3 3 rfl
theorem q519 : (Jvm.Cond.instanceMethod ({ cls := "SkinLeague", name := "needFree", desc := "(LSkinLeague$Player;LSkinLeague$Player;)V" } : Jvm.MethodName)) ∈ lw_all := lw_g (lw_at lw_m3 4 rfl) rfl
theorem q520 : (Jvm.Cond.code ({ cls := "SkinLeague", name := "needFree", desc := "(LSkinLeague$Player;LSkinLeague$Player;)V" } : Jvm.MethodName) prog_1_method_14_code (3 : Nat) (Option.none : Option Jvm.ClassFile.FieldType)) ∈ lw_all := lw_g (lw_at lw_m3 5 rfl) rfl
theorem q521 : (Jvm.Cond.methodLink "SkinLeague" (115 : Nat) ({ cls := "SkinLeague", name := "isBanned", desc := "(LSkinLeague$Player;)Z" } : Jvm.MethodName)) ∈ lw_all := lw_g (lw_at lw_m3 6 rfl) rfl
theorem q522 : (Jvm.Cond.privateMethod ({ cls := "SkinLeague", name := "isBanned", desc := "(LSkinLeague$Player;)Z" } : Jvm.MethodName)) ∈ lw_tbl := lw_at lw_m3 7 rfl
theorem q523 : (Jvm.Cond.instanceMethod ({ cls := "SkinLeague", name := "isBanned", desc := "(LSkinLeague$Player;)Z" } : Jvm.MethodName)) ∈ lw_all := lw_g (lw_at lw_m3 8 rfl) rfl
theorem q524 : (Jvm.Cond.code ({ cls := "SkinLeague", name := "isBanned", desc := "(LSkinLeague$Player;)Z" } : Jvm.MethodName) prog_1_method_13_code (2 : Nat) (Option.some Jvm.ClassFile.FieldType.boolean)) ∈ lw_all := lw_g (lw_at lw_m3 9 rfl) rfl
theorem q526 : (Jvm.Cond.methodLinkNest "SkinLeague" (130 : Nat) ({ cls := "SkinLeague$Match", name := "<init>", desc := "(LSkinLeague$Player;LSkinLeague$Player;III)V" } : Jvm.MethodName) "SkinLeague") ∈ lw_tbl := lw_at lw_m3 11 rfl
theorem q534 : (Jvm.Cond.fieldLinkNest "SkinLeague" (280 : Nat) "SkinLeague$Match" "winner" "LSkinLeague$Player;" "SkinLeague") ∈ lw_tbl := lw_at lw_m3 19 rfl
theorem q536 : (Jvm.Cond.fieldLinkNest "SkinLeague" (283 : Nat) "SkinLeague$Match" "loser" "LSkinLeague$Player;" "SkinLeague") ∈ lw_tbl := lw_at lw_m3 21 rfl
theorem q538 : (Jvm.Cond.fieldLinkNest "SkinLeague" (286 : Nat) "SkinLeague$Match" "region" "I" "SkinLeague") ∈ lw_tbl := lw_at lw_m3 23 rfl
theorem q540 : (Jvm.Cond.fieldLinkNest "SkinLeague" (289 : Nat) "SkinLeague$Match" "day" "I" "SkinLeague") ∈ lw_tbl := lw_at lw_m3 25 rfl
theorem q542 : (Jvm.Cond.fieldLinkNest "SkinLeague" (275 : Nat) "SkinLeague$Match" "season" "I" "SkinLeague") ∈ lw_tbl := lw_at lw_m3 27 rfl
theorem q558 : (Jvm.Cond.instanceMethod ({ cls := "SkinLeague", name := "end", desc := "()I" } : Jvm.MethodName)) ∈ lw_all := lw_g (lw_at lw_m3 43 rfl) rfl
theorem q559 : (Jvm.Cond.selects "SkinLeague" ({ cls := "SkinLeague", name := "end", desc := "()I" } : Jvm.MethodName) ({ cls := "SkinLeague", name := "end", desc := "()I" } : Jvm.MethodName)) ∈ lw_all := lw_g (lw_at lw_m3 44 rfl) rfl
theorem q560 : (Jvm.Cond.code ({ cls := "SkinLeague", name := "end", desc := "()I" } : Jvm.MethodName) prog_1_method_21_code (6 : Nat) (Option.some Jvm.ClassFile.FieldType.int)) ∈ lw_all := lw_g (lw_at lw_m3 45 rfl) rfl
theorem q561 : (Jvm.Cond.methodLink "SkinLeague" (148 : Nat) ({ cls := "SkinLeague", name := "worths", desc := "(I)[I" } : Jvm.MethodName)) ∈ lw_all := lw_g (lw_at lw_m3 46 rfl) rfl
theorem q562 : (Jvm.Cond.privateMethod ({ cls := "SkinLeague", name := "worths", desc := "(I)[I" } : Jvm.MethodName)) ∈ lw_tbl := lw_at lw_m3 47 rfl
theorem q563 : (Jvm.Cond.instanceMethod ({ cls := "SkinLeague", name := "worths", desc := "(I)[I" } : Jvm.MethodName)) ∈ lw_all := lw_g (lw_at lw_m3 48 rfl) rfl
theorem q564 : (Jvm.Cond.code ({ cls := "SkinLeague", name := "worths", desc := "(I)[I" } : Jvm.MethodName) prog_1_method_18_code (5 : Nat) (Option.some (Jvm.ClassFile.FieldType.array Jvm.ClassFile.FieldType.int))) ∈ lw_all := lw_g (lw_at lw_m3 49 rfl) rfl
theorem q565 : (Jvm.Cond.methodLink "SkinLeague" (137 : Nat) ({ cls := "SkinLeague", name := "points", desc := "(II)I" } : Jvm.MethodName)) ∈ lw_all := lw_g (lw_at lw_m3 50 rfl) rfl
theorem q566 : (Jvm.Cond.privateMethod ({ cls := "SkinLeague", name := "points", desc := "(II)I" } : Jvm.MethodName)) ∈ lw_tbl := lw_at lw_m3 51 rfl
theorem q567 : (Jvm.Cond.instanceMethod ({ cls := "SkinLeague", name := "points", desc := "(II)I" } : Jvm.MethodName)) ∈ lw_all := lw_g (lw_at lw_m3 52 rfl) rfl
theorem q568 : (Jvm.Cond.code ({ cls := "SkinLeague", name := "points", desc := "(II)I" } : Jvm.MethodName) prog_1_method_16_code (3 : Nat) (Option.some Jvm.ClassFile.FieldType.int)) ∈ lw_all := lw_g (lw_at lw_m3 53 rfl) rfl
theorem q569 : (Jvm.Cond.static ({ cls := "SkinLeague", name := "lambda$points$1", desc := "(IILSkinLeague$Match;)I" } : Jvm.MethodName)) ∈ lw_all := lw_g (lw_at lw_m3 54 rfl) rfl
theorem q570 : (Jvm.Cond.code ({ cls := "SkinLeague", name := "lambda$points$1", desc := "(IILSkinLeague$Match;)I" } : Jvm.MethodName) prog_1_method_38_code (3 : Nat) (Option.some Jvm.ClassFile.FieldType.int)) ∈ lw_all := lw_g (lw_at lw_m3 55 rfl) rfl
theorem q571 : (Jvm.Cond.methodLink "SkinLeague" (237 : Nat) ({ cls := "SkinLeague$Match", name := "stands", desc := "()Z" } : Jvm.MethodName)) ∈ lw_all := lw_g (lw_at lw_m3 56 rfl) rfl
theorem q579 : (Jvm.Cond.methodLink "SkinLeague" (141 : Nat) ({ cls := "SkinLeague", name := "played", desc := "(II)I" } : Jvm.MethodName)) ∈ lw_all := lw_g (lw_at lw_m3 64 rfl) rfl
theorem q580 : (Jvm.Cond.privateMethod ({ cls := "SkinLeague", name := "played", desc := "(II)I" } : Jvm.MethodName)) ∈ lw_tbl := lw_at lw_m3 65 rfl
theorem q581 : (Jvm.Cond.instanceMethod ({ cls := "SkinLeague", name := "played", desc := "(II)I" } : Jvm.MethodName)) ∈ lw_all := lw_g (lw_at lw_m3 66 rfl) rfl
theorem q582 : (Jvm.Cond.code ({ cls := "SkinLeague", name := "played", desc := "(II)I" } : Jvm.MethodName) prog_1_method_17_code (3 : Nat) (Option.some Jvm.ClassFile.FieldType.int)) ∈ lw_all := lw_g (lw_at lw_m3 67 rfl) rfl
theorem q583 : (Jvm.Cond.static ({ cls := "SkinLeague", name := "lambda$played$2", desc := "(IILSkinLeague$Match;)I" } : Jvm.MethodName)) ∈ lw_all := lw_g (lw_at lw_m3 68 rfl) rfl
theorem q584 : (Jvm.Cond.code ({ cls := "SkinLeague", name := "lambda$played$2", desc := "(IILSkinLeague$Match;)I" } : Jvm.MethodName) prog_1_method_37_code (3 : Nat) (Option.some Jvm.ClassFile.FieldType.int)) ∈ lw_all := lw_g (lw_at lw_m3 69 rfl) rfl
theorem q585 : (Jvm.Cond.methodLink "SkinLeague" (276 : Nat) ({ cls := "SkinLeague$Match", name := "isOf", desc := "(I)Z" } : Jvm.MethodName)) ∈ lw_all := lw_g (lw_at lw_m3 70 rfl) rfl
theorem q589 : (Jvm.Cond.methodLink "SkinLeague" (152 : Nat) ({ cls := "SkinLeague", name := "heirOf", desc := "(I[I)LSkinLeague$Player;" } : Jvm.MethodName)) ∈ lw_all := lw_g (lw_at lw_m3 74 rfl) rfl
theorem q590 : (Jvm.Cond.privateMethod ({ cls := "SkinLeague", name := "heirOf", desc := "(I[I)LSkinLeague$Player;" } : Jvm.MethodName)) ∈ lw_tbl := lw_at lw_m3 75 rfl
theorem q591 : (Jvm.Cond.instanceMethod ({ cls := "SkinLeague", name := "heirOf", desc := "(I[I)LSkinLeague$Player;" } : Jvm.MethodName)) ∈ lw_all := lw_g (lw_at lw_m3 76 rfl) rfl
theorem q592 : (Jvm.Cond.code ({ cls := "SkinLeague", name := "heirOf", desc := "(I[I)LSkinLeague$Player;" } : Jvm.MethodName) prog_1_method_20_code (5 : Nat) (Option.some (Jvm.ClassFile.FieldType.object "SkinLeague$Player"))) ∈ lw_all := lw_g (lw_at lw_m3 77 rfl) rfl
theorem q593 : (Jvm.Cond.methodLink "SkinLeague" (144 : Nat) ({ cls := "SkinLeague", name := "placeOf", desc := "(I[I)I" } : Jvm.MethodName)) ∈ lw_all := lw_g (lw_at lw_m3 78 rfl) rfl
theorem q594 : (Jvm.Cond.static ({ cls := "SkinLeague", name := "placeOf", desc := "(I[I)I" } : Jvm.MethodName)) ∈ lw_all := lw_g (lw_at lw_m3 79 rfl) rfl
theorem q595 : (Jvm.Cond.code ({ cls := "SkinLeague", name := "placeOf", desc := "(I[I)I" } : Jvm.MethodName) prog_1_method_19_code (7 : Nat) (Option.some Jvm.ClassFile.FieldType.int)) ∈ lw_all := lw_g (lw_at lw_m3 80 rfl) rfl
theorem q596 : (Jvm.Cond.classLink "SkinLeague" (156 : Nat) "SkinLeague$Spot") ∈ lw_all := lw_g (lw_at lw_m3 81 rfl) rfl
theorem q598 : (Jvm.Cond.methodLink "SkinLeague" (158 : Nat) ({ cls := "SkinLeague$Spot", name := "<init>", desc := "(II)V" } : Jvm.MethodName)) ∈ lw_all := lw_g (lw_at lw_m3 83 rfl) rfl
theorem q603 : (Jvm.Cond.fieldLinkNest "SkinLeague" (251 : Nat) "SkinLeague$Spot" "season" "I" "SkinLeague") ∈ lw_tbl := lw_at lw_m3 88 rfl
theorem q605 : (Jvm.Cond.fieldLinkNest "SkinLeague" (252 : Nat) "SkinLeague$Spot" "place" "I" "SkinLeague") ∈ lw_tbl := lw_at lw_m3 90 rfl
theorem q611 : (Jvm.Cond.classLink "SkinLeague" (161 : Nat) "SkinLeague$Skin") ∈ lw_all := lw_g (lw_at lw_m3 96 rfl) rfl
theorem q613 : (Jvm.Cond.methodLink "SkinLeague" (163 : Nat) ({ cls := "SkinLeague$Shelf", name := "size", desc := "()I" } : Jvm.MethodName)) ∈ lw_all := lw_g (lw_at lw_m3 98 rfl) rfl
theorem q623 : (Jvm.Cond.methodLink "SkinLeague" (164 : Nat) ({ cls := "SkinLeague$Skin", name := "<init>", desc := "(ILSkinLeague$Spot;LSkinLeague$Player;)V" } : Jvm.MethodName)) ∈ lw_all := lw_g (lw_at lw_m3 108 rfl) rfl
theorem q636 : (Jvm.Cond.fieldLinkNest "SkinLeague" (194 : Nat) "SkinLeague$Skin" "sales" "Ljava/util/ArrayList;" "SkinLeague") ∈ lw_tbl := lw_at lw_m3 121 rfl
theorem q638 : (Jvm.Cond.fieldLinkNest "SkinLeague" (183 : Nat) "SkinLeague$Skin" "holder" "LSkinLeague$Player;" "SkinLeague") ∈ lw_tbl := lw_at lw_m3 123 rfl
theorem q640 : (Jvm.Cond.fieldLinkNest "SkinLeague" (175 : Nat) "SkinLeague$Skin" "heir" "LSkinLeague$Player;" "SkinLeague") ∈ lw_tbl := lw_at lw_m3 125 rfl
theorem q642 : (Jvm.Cond.fieldLinkNest "SkinLeague" (217 : Nat) "SkinLeague$Skin" "borrower" "LSkinLeague$Player;" "SkinLeague") ∈ lw_tbl := lw_at lw_m3 127 rfl
theorem q643 : (Jvm.Cond.fieldLinkNest "SkinLeague" (220 : Nat) "SkinLeague$Skin" "lentUntil" "I" "SkinLeague") ∈ lw_tbl := lw_at lw_m3 128 rfl
theorem q661 : (Jvm.Cond.methodLink "SkinLeague" (167 : Nat) ({ cls := "SkinLeague$Shelf", name := "put", desc := "(Ljava/lang/Object;LSkinLeague$Thing;)V" } : Jvm.MethodName)) ∈ lw_all := lw_g (lw_at lw_m3 146 rfl) rfl
theorem q678 : (Jvm.Cond.selects "SkinLeague" ({ cls := "java/lang/Object", name := "hashCode", desc := "()I" } : Jvm.MethodName) ({ cls := "java/lang/Object", name := "hashCode", desc := "()I" } : Jvm.MethodName)) ∈ lw_all := lw_g (lw_at lw_m3 163 rfl) rfl
theorem q1299 : (Jvm.Cond.selects "SkinLeague" ({ cls := "java/lang/Object", name := "equals", desc := "(Ljava/lang/Object;)Z" } : Jvm.MethodName) ({ cls := "java/lang/Object", name := "equals", desc := "(Ljava/lang/Object;)Z" } : Jvm.MethodName)) ∈ lw_all := lw_g (lw_at lw_m6 64 rfl) rfl
theorem q1416 : (Jvm.Cond.instanceMethod ({ cls := "SkinLeague", name := "sell", desc := "(III)Z" } : Jvm.MethodName)) ∈ lw_all := lw_g (lw_at lw_m6 181 rfl) rfl
theorem q1417 : (Jvm.Cond.selects "SkinLeague" ({ cls := "SkinLeague", name := "sell", desc := "(III)Z" } : Jvm.MethodName) ({ cls := "SkinLeague", name := "sell", desc := "(III)Z" } : Jvm.MethodName)) ∈ lw_all := lw_g (lw_at lw_m6 182 rfl) rfl
theorem q1418 : (Jvm.Cond.code ({ cls := "SkinLeague", name := "sell", desc := "(III)Z" } : Jvm.MethodName) prog_1_method_24_code (8 : Nat) (Option.some Jvm.ClassFile.FieldType.boolean)) ∈ lw_all := lw_g (lw_at lw_m6 183 rfl) rfl
theorem q1419 : (Jvm.Cond.methodLink "SkinLeague" (186 : Nat) ({ cls := "SkinLeague$Shelf", name := "numbered", desc := "(I)LSkinLeague$Thing;" } : Jvm.MethodName)) ∈ lw_all := lw_g (lw_at lw_m6 184 rfl) rfl
theorem q1551 : (Jvm.Cond.methodLink "SkinLeague" (190 : Nat) ({ cls := "SkinLeague", name := "holderOf", desc := "(LSkinLeague$Skin;)LSkinLeague$Player;" } : Jvm.MethodName)) ∈ lw_all := lw_g (lw_at lw_m7 76 rfl) rfl
theorem q1552 : (Jvm.Cond.privateMethod ({ cls := "SkinLeague", name := "holderOf", desc := "(LSkinLeague$Skin;)LSkinLeague$Player;" } : Jvm.MethodName)) ∈ lw_tbl := lw_at lw_m7 77 rfl
theorem q1553 : (Jvm.Cond.instanceMethod ({ cls := "SkinLeague", name := "holderOf", desc := "(LSkinLeague$Skin;)LSkinLeague$Player;" } : Jvm.MethodName)) ∈ lw_all := lw_g (lw_at lw_m7 78 rfl) rfl
theorem q1554 : (Jvm.Cond.code ({ cls := "SkinLeague", name := "holderOf", desc := "(LSkinLeague$Skin;)LSkinLeague$Player;" } : Jvm.MethodName) prog_1_method_23_code (2 : Nat) (Option.some (Jvm.ClassFile.FieldType.object "SkinLeague$Player"))) ∈ lw_all := lw_g (lw_at lw_m7 79 rfl) rfl
theorem q1555 : (Jvm.Cond.classLink "SkinLeague" (197 : Nat) "SkinLeague$Sale") ∈ lw_all := lw_g (lw_at lw_m7 80 rfl) rfl
theorem q1557 : (Jvm.Cond.methodLink "SkinLeague" (199 : Nat) ({ cls := "SkinLeague$Player", name := "isCheat", desc := "()Z" } : Jvm.MethodName)) ∈ lw_all := lw_g (lw_at lw_m7 82 rfl) rfl
theorem q1558 : (Jvm.Cond.methodLinkNest "SkinLeague" (203 : Nat) ({ cls := "SkinLeague$Sale", name := "<init>", desc := "(LSkinLeague$Player;LSkinLeague$Player;IZ)V" } : Jvm.MethodName) "SkinLeague") ∈ lw_tbl := lw_at lw_m7 83 rfl
theorem q1570 : (Jvm.Cond.fieldLinkNest "SkinLeague" (213 : Nat) "SkinLeague$Sale" "isInFaith" "Z" "SkinLeague") ∈ lw_tbl := lw_at lw_m7 95 rfl
theorem q1580 : (Jvm.Cond.methodLink "SkinLeague" (206 : Nat) ({ cls := "SkinLeague$Player", name := "pay", desc := "(LSkinLeague$Player;LSkinLeague$Player;I)V" } : Jvm.MethodName)) ∈ lw_all := lw_g (lw_at lw_m7 105 rfl) rfl
theorem q1583 : (Jvm.Cond.methodLink "SkinLeague" (210 : Nat) ({ cls := "SkinLeague$Skin", name := "give", desc := "(LSkinLeague$Player;)V" } : Jvm.MethodName)) ∈ lw_all := lw_g (lw_at lw_m7 108 rfl) rfl
theorem q1591 : (Jvm.Cond.instanceMethod ({ cls := "SkinLeague", name := "lend", desc := "(III)I" } : Jvm.MethodName)) ∈ lw_all := lw_g (lw_at lw_m7 116 rfl) rfl
theorem q1592 : (Jvm.Cond.selects "SkinLeague" ({ cls := "SkinLeague", name := "lend", desc := "(III)I" } : Jvm.MethodName) ({ cls := "SkinLeague", name := "lend", desc := "(III)I" } : Jvm.MethodName)) ∈ lw_all := lw_g (lw_at lw_m7 117 rfl) rfl
theorem q1593 : (Jvm.Cond.code ({ cls := "SkinLeague", name := "lend", desc := "(III)I" } : Jvm.MethodName) prog_1_method_25_code (7 : Nat) (Option.some Jvm.ClassFile.FieldType.int)) ∈ lw_all := lw_g (lw_at lw_m7 118 rfl) rfl
theorem q1598 : (Jvm.Cond.instanceMethod ({ cls := "SkinLeague", name := "proof", desc := "(II)I" } : Jvm.MethodName)) ∈ lw_all := lw_g (lw_at lw_m7 123 rfl) rfl
theorem q1599 : (Jvm.Cond.selects "SkinLeague" ({ cls := "SkinLeague", name := "proof", desc := "(II)I" } : Jvm.MethodName) ({ cls := "SkinLeague", name := "proof", desc := "(II)I" } : Jvm.MethodName)) ∈ lw_all := lw_g (lw_at lw_m7 124 rfl) rfl
theorem q1600 : (Jvm.Cond.code ({ cls := "SkinLeague", name := "proof", desc := "(II)I" } : Jvm.MethodName) prog_1_method_26_code (4 : Nat) (Option.some Jvm.ClassFile.FieldType.int)) ∈ lw_all := lw_g (lw_at lw_m7 125 rfl) rfl
theorem q1601 : (Jvm.Cond.methodLink "SkinLeague" (226 : Nat) ({ cls := "java/lang/Math", name := "min", desc := "(II)I" } : Jvm.MethodName)) ∈ lw_all := lw_g (lw_at lw_m7 126 rfl) rfl
theorem q1602 : (Jvm.Cond.methodLink "SkinLeague" (231 : Nat) ({ cls := "SkinLeague", name := "rankAnew", desc := "()V" } : Jvm.MethodName)) ∈ lw_all := lw_g (lw_at lw_m7 127 rfl) rfl
theorem q1603 : (Jvm.Cond.privateMethod ({ cls := "SkinLeague", name := "rankAnew", desc := "()V" } : Jvm.MethodName)) ∈ lw_tbl := lw_at lw_m7 128 rfl
theorem q1604 : (Jvm.Cond.instanceMethod ({ cls := "SkinLeague", name := "rankAnew", desc := "()V" } : Jvm.MethodName)) ∈ lw_all := lw_g (lw_at lw_m7 129 rfl) rfl
theorem q1605 : (Jvm.Cond.code ({ cls := "SkinLeague", name := "rankAnew", desc := "()V" } : Jvm.MethodName) prog_1_method_22_code (6 : Nat) (Option.none : Option Jvm.ClassFile.FieldType)) ∈ lw_all := lw_g (lw_at lw_m7 130 rfl) rfl
theorem q1606 : (Jvm.Cond.methodLink "SkinLeague" (171 : Nat) ({ cls := "SkinLeague$Shelf", name := "at", desc := "(Ljava/lang/Object;)LSkinLeague$Thing;" } : Jvm.MethodName)) ∈ lw_all := lw_g (lw_at lw_m7 131 rfl) rfl
theorem q1625 : (Jvm.Cond.methodLink "SkinLeague" (179 : Nat) ({ cls := "SkinLeague$Skin", name := "inherit", desc := "(LSkinLeague$Player;)V" } : Jvm.MethodName)) ∈ lw_all := lw_g (lw_at lw_m7 150 rfl) rfl
theorem q1655 : (Jvm.Cond.static ({ cls := "SkinLeague", name := "lambda$proof$3", desc := "(LSkinLeague$Match;)I" } : Jvm.MethodName)) ∈ lw_all := lw_g (lw_at lw_m7 180 rfl) rfl
theorem q1656 : (Jvm.Cond.code ({ cls := "SkinLeague", name := "lambda$proof$3", desc := "(LSkinLeague$Match;)I" } : Jvm.MethodName) prog_1_method_36_code (1 : Nat) (Option.some Jvm.ClassFile.FieldType.int)) ∈ lw_all := lw_g (lw_at lw_m7 181 rfl) rfl
theorem q1661 : (Jvm.Cond.instanceMethod ({ cls := "SkinLeague", name := "clear", desc := "(I)I" } : Jvm.MethodName)) ∈ lw_all := lw_g (lw_at lw_m7 186 rfl) rfl
theorem q1662 : (Jvm.Cond.selects "SkinLeague" ({ cls := "SkinLeague", name := "clear", desc := "(I)I" } : Jvm.MethodName) ({ cls := "SkinLeague", name := "clear", desc := "(I)I" } : Jvm.MethodName)) ∈ lw_all := lw_g (lw_at lw_m7 187 rfl) rfl
theorem q1663 : (Jvm.Cond.code ({ cls := "SkinLeague", name := "clear", desc := "(I)I" } : Jvm.MethodName) prog_1_method_27_code (4 : Nat) (Option.some Jvm.ClassFile.FieldType.int)) ∈ lw_all := lw_g (lw_at lw_m7 188 rfl) rfl
theorem q1668 : (Jvm.Cond.instanceMethod ({ cls := "SkinLeague", name := "ban", desc := "(II)I" } : Jvm.MethodName)) ∈ lw_all := lw_g (lw_at lw_m7 193 rfl) rfl
theorem q1669 : (Jvm.Cond.selects "SkinLeague" ({ cls := "SkinLeague", name := "ban", desc := "(II)I" } : Jvm.MethodName) ({ cls := "SkinLeague", name := "ban", desc := "(II)I" } : Jvm.MethodName)) ∈ lw_all := lw_g (lw_at lw_m7 194 rfl) rfl
theorem q1670 : (Jvm.Cond.code ({ cls := "SkinLeague", name := "ban", desc := "(II)I" } : Jvm.MethodName) prog_1_method_28_code (4 : Nat) (Option.some Jvm.ClassFile.FieldType.int)) ∈ lw_all := lw_g (lw_at lw_m7 195 rfl) rfl
theorem q1675 : (Jvm.Cond.instanceMethod ({ cls := "SkinLeague", name := "pass", desc := "(I)I" } : Jvm.MethodName)) ∈ lw_all := lw_g (lw_at lw_m7 200 rfl) rfl
theorem q1676 : (Jvm.Cond.selects "SkinLeague" ({ cls := "SkinLeague", name := "pass", desc := "(I)I" } : Jvm.MethodName) ({ cls := "SkinLeague", name := "pass", desc := "(I)I" } : Jvm.MethodName)) ∈ lw_all := lw_g (lw_at lw_m7 201 rfl) rfl
theorem q1677 : (Jvm.Cond.code ({ cls := "SkinLeague", name := "pass", desc := "(I)I" } : Jvm.MethodName) prog_1_method_29_code (2 : Nat) (Option.some Jvm.ClassFile.FieldType.int)) ∈ lw_all := lw_g (lw_at lw_m7 202 rfl) rfl
theorem q1682 : (Jvm.Cond.instanceMethod ({ cls := "SkinLeague", name := "stands", desc := "(I)Z" } : Jvm.MethodName)) ∈ lw_all := lw_g (lw_at lw_m7 207 rfl) rfl
theorem q1683 : (Jvm.Cond.selects "SkinLeague" ({ cls := "SkinLeague", name := "stands", desc := "(I)Z" } : Jvm.MethodName) ({ cls := "SkinLeague", name := "stands", desc := "(I)Z" } : Jvm.MethodName)) ∈ lw_all := lw_g (lw_at lw_m7 208 rfl) rfl
theorem q1684 : (Jvm.Cond.code ({ cls := "SkinLeague", name := "stands", desc := "(I)Z" } : Jvm.MethodName) prog_1_method_30_code (2 : Nat) (Option.some Jvm.ClassFile.FieldType.boolean)) ∈ lw_all := lw_g (lw_at lw_m7 209 rfl) rfl
theorem q1689 : (Jvm.Cond.instanceMethod ({ cls := "SkinLeague", name := "ranked", desc := "(III)I" } : Jvm.MethodName)) ∈ lw_all := lw_g (lw_at lw_m7 214 rfl) rfl
theorem q1690 : (Jvm.Cond.selects "SkinLeague" ({ cls := "SkinLeague", name := "ranked", desc := "(III)I" } : Jvm.MethodName) ({ cls := "SkinLeague", name := "ranked", desc := "(III)I" } : Jvm.MethodName)) ∈ lw_all := lw_g (lw_at lw_m7 215 rfl) rfl
theorem q1691 : (Jvm.Cond.code ({ cls := "SkinLeague", name := "ranked", desc := "(III)I" } : Jvm.MethodName) prog_1_method_31_code (5 : Nat) (Option.some Jvm.ClassFile.FieldType.int)) ∈ lw_all := lw_g (lw_at lw_m7 216 rfl) rfl
theorem q1696 : (Jvm.Cond.instanceMethod ({ cls := "SkinLeague", name := "skinOf", desc := "(II)I" } : Jvm.MethodName)) ∈ lw_all := lw_g (lw_at lw_m7 221 rfl) rfl
theorem q1697 : (Jvm.Cond.selects "SkinLeague" ({ cls := "SkinLeague", name := "skinOf", desc := "(II)I" } : Jvm.MethodName) ({ cls := "SkinLeague", name := "skinOf", desc := "(II)I" } : Jvm.MethodName)) ∈ lw_all := lw_g (lw_at lw_m7 222 rfl) rfl
theorem q1698 : (Jvm.Cond.code ({ cls := "SkinLeague", name := "skinOf", desc := "(II)I" } : Jvm.MethodName) prog_1_method_33_code (4 : Nat) (Option.some Jvm.ClassFile.FieldType.int)) ∈ lw_all := lw_g (lw_at lw_m7 223 rfl) rfl
theorem q1699 : (Jvm.Cond.methodLink "SkinLeague" (243 : Nat) ({ cls := "SkinLeague", name := "numberOf", desc := "(LSkinLeague$Player;)I" } : Jvm.MethodName)) ∈ lw_all := lw_g (lw_at lw_m7 224 rfl) rfl
theorem q1700 : (Jvm.Cond.static ({ cls := "SkinLeague", name := "numberOf", desc := "(LSkinLeague$Player;)I" } : Jvm.MethodName)) ∈ lw_all := lw_g (lw_at lw_m7 225 rfl) rfl
theorem q1701 : (Jvm.Cond.code ({ cls := "SkinLeague", name := "numberOf", desc := "(LSkinLeague$Player;)I" } : Jvm.MethodName) prog_1_method_32_code (1 : Nat) (Option.some Jvm.ClassFile.FieldType.int)) ∈ lw_all := lw_g (lw_at lw_m7 226 rfl) rfl
theorem q1702 : (Jvm.Cond.methodLink "SkinLeague" (247 : Nat) ({ cls := "SkinLeague$Skin", name := "spot", desc := "()LSkinLeague$Spot;" } : Jvm.MethodName)) ∈ lw_all := lw_g (lw_at lw_m7 227 rfl) rfl
theorem q1708 : (Jvm.Cond.methodLink "SkinLeague" (255 : Nat) ({ cls := "SkinLeague$Skin", name := "faithful", desc := "()LSkinLeague$Sale;" } : Jvm.MethodName)) ∈ lw_all := lw_g (lw_at lw_m7 233 rfl) rfl
theorem q1713 : (Jvm.Cond.instanceMethod ({ cls := "SkinLeague", name := "money", desc := "(I)I" } : Jvm.MethodName)) ∈ lw_all := lw_g (lw_at lw_m7 238 rfl) rfl
theorem q1714 : (Jvm.Cond.selects "SkinLeague" ({ cls := "SkinLeague", name := "money", desc := "(I)I" } : Jvm.MethodName) ({ cls := "SkinLeague", name := "money", desc := "(I)I" } : Jvm.MethodName)) ∈ lw_all := lw_g (lw_at lw_m7 239 rfl) rfl
theorem q1715 : (Jvm.Cond.code ({ cls := "SkinLeague", name := "money", desc := "(I)I" } : Jvm.MethodName) prog_1_method_34_code (2 : Nat) (Option.some Jvm.ClassFile.FieldType.int)) ∈ lw_all := lw_g (lw_at lw_m8 0 rfl) rfl
theorem q1720 : (Jvm.Cond.instanceMethod ({ cls := "SkinLeague", name := "label", desc := "(II)C" } : Jvm.MethodName)) ∈ lw_all := lw_g (lw_at lw_m8 5 rfl) rfl
theorem q1721 : (Jvm.Cond.selects "SkinLeague" ({ cls := "SkinLeague", name := "label", desc := "(II)C" } : Jvm.MethodName) ({ cls := "SkinLeague", name := "label", desc := "(II)C" } : Jvm.MethodName)) ∈ lw_all := lw_g (lw_at lw_m8 6 rfl) rfl
theorem q1722 : (Jvm.Cond.code ({ cls := "SkinLeague", name := "label", desc := "(II)C" } : Jvm.MethodName) prog_1_method_35_code (5 : Nat) (Option.some Jvm.ClassFile.FieldType.char)) ∈ lw_all := lw_g (lw_at lw_m8 7 rfl) rfl
theorem q1723 : (Jvm.Cond.methodLink "SkinLeague" (262 : Nat) ({ cls := "SkinLeague$Skin", name := "toString", desc := "()Ljava/lang/String;" } : Jvm.MethodName)) ∈ lw_all := lw_g (lw_at lw_m8 8 rfl) rfl
theorem q1755 : (Jvm.Cond.selects "SkinLeague" ({ cls := "java/lang/Object", name := "toString", desc := "()Ljava/lang/String;" } : Jvm.MethodName) ({ cls := "java/lang/Object", name := "toString", desc := "()Ljava/lang/String;" } : Jvm.MethodName)) ∈ lw_all := lw_g (lw_at lw_m8 40 rfl) rfl
theorem q1811 : (Jvm.Cond.methodLink "SkinLeague" (266 : Nat) ({ cls := "java/lang/String", name := "length", desc := "()I" } : Jvm.MethodName)) ∈ lw_all := lw_g (lw_at lw_m8 96 rfl) rfl
theorem q1812 : (Jvm.Cond.methodLink "SkinLeague" (271 : Nat) ({ cls := "java/lang/String", name := "charAt", desc := "(I)C" } : Jvm.MethodName)) ∈ lw_all := lw_g (lw_at lw_m8 97 rfl) rfl
theorem q2082 : (Jvm.Cond.castable "SkinLeague" "java/lang/Object") ∈ lw_tbl := lw_at lw_m9 127 rfl
theorem in_X1 : ∀ w ∈ wsX10, w ∈ lw_all := lw_in wsX10 [191, 193, 195, 197, 199, 201] (by decide +kernel) (by decide +kernel)
/-! SkinLeague$Shelf -/
def RX2 : String := "SkinLeague$Shelf"
def TX2 : u_T := fun k => match k with
  | _ => ("SkinLeague$Shelf", "all", "Ljava/util/LinkedHashMap;", true)
def tyX2 : Nat → FieldType := fun k => match k with
  | _ => .object "java/util/LinkedHashMap"
abbrev wsX20 : List Cond := u_ws RX2 TX2 1
theorem nmX2 : ∀ a, a < 1 → ∀ b, b < 1 → a ≠ b → (TX2 a).2.1 ≠ (TX2 b).2.1 := by decide +kernel
theorem tyX2_ok : ∀ k, k < 1 → parseFieldDescriptor (TX2 k).2.2.1 = some (tyX2 k) := by decide +kernel
abbrev cX2_init : ByteArray := prog_6_method_1_code
def yX2_init : MethodName := ⟨RX2, "<init>", "()V"⟩
def dkwX2_init_0 : List UInt8 := [42, 183, 0, 1, 42, 187, 0, 7, 89, 183, 0, 9, 181, 0, 10, 177]
abbrev dktX2_init_0 : List UInt8 := dkwX2_init_0 ++ []
theorem dksX2_init_0 : cX2_init.data.toList.drop 0 = dktX2_init_0 := by decide +kernel
theorem dX2_init_0 : decode cX2_init 0 = .ok (.aload_n 0, 1) := dk_42 (dk_at dksX2_init_0 0 rfl rfl)
theorem dX2_init_1 : decode cX2_init 1 = .ok (.invokespecial 1, 3) := dk_183 0 1 (dk_at dksX2_init_0 1 rfl rfl)
theorem dX2_init_4 : decode cX2_init 4 = .ok (.aload_n 0, 1) := dk_42 (dk_at dksX2_init_0 4 rfl rfl)
theorem dX2_init_5 : decode cX2_init 5 = .ok (.new 7, 3) := dk_187 0 7 (dk_at dksX2_init_0 5 rfl rfl)
theorem dX2_init_8 : decode cX2_init 8 = .ok (.dup, 1) := dk_89 (dk_at dksX2_init_0 8 rfl rfl)
theorem dX2_init_9 : decode cX2_init 9 = .ok (.invokespecial 9, 3) := dk_183 0 9 (dk_at dksX2_init_0 9 rfl rfl)
theorem dX2_init_12 : decode cX2_init 12 = .ok (.putfield 10, 3) := dk_181 0 10 (dk_at dksX2_init_0 12 rfl rfl)
theorem dX2_init_15 : decode cX2_init 15 = .ok (.return_, 1) := dk_177 (dk_at dksX2_init_0 15 rfl rfl)
abbrev cX2_size : ByteArray := prog_6_method_4_code
def yX2_size : MethodName := ⟨RX2, "size", "()I"⟩
def dkwX2_size_0 : List UInt8 := [42, 180, 0, 10, 182, 0, 26, 172]
abbrev dktX2_size_0 : List UInt8 := dkwX2_size_0 ++ []
theorem dksX2_size_0 : cX2_size.data.toList.drop 0 = dktX2_size_0 := by decide +kernel
theorem dX2_size_0 : decode cX2_size 0 = .ok (.aload_n 0, 1) := dk_42 (dk_at dksX2_size_0 0 rfl rfl)
theorem dX2_size_1 : decode cX2_size 1 = .ok (.getfield 10, 3) := dk_180 0 10 (dk_at dksX2_size_0 1 rfl rfl)
theorem dX2_size_4 : decode cX2_size 4 = .ok (.invokevirtual 26, 3) := dk_182 0 26 (dk_at dksX2_size_0 4 rfl rfl)
theorem dX2_size_7 : decode cX2_size 7 = .ok (.ireturn, 1) := dk_172 (dk_at dksX2_size_0 7 rfl rfl)
abbrev cX2_put : ByteArray := prog_6_method_2_code
def yX2_put : MethodName := ⟨RX2, "put", "(Ljava/lang/Object;LSkinLeague$Thing;)V"⟩
def dkwX2_put_0 : List UInt8 := [42, 180, 0, 10, 43, 44, 182, 0, 16, 192, 0, 20, 78, 177]
abbrev dktX2_put_0 : List UInt8 := dkwX2_put_0 ++ []
theorem dksX2_put_0 : cX2_put.data.toList.drop 0 = dktX2_put_0 := by decide +kernel
theorem dX2_put_0 : decode cX2_put 0 = .ok (.aload_n 0, 1) := dk_42 (dk_at dksX2_put_0 0 rfl rfl)
theorem dX2_put_1 : decode cX2_put 1 = .ok (.getfield 10, 3) := dk_180 0 10 (dk_at dksX2_put_0 1 rfl rfl)
theorem dX2_put_4 : decode cX2_put 4 = .ok (.aload_n 1, 1) := dk_43 (dk_at dksX2_put_0 4 rfl rfl)
theorem dX2_put_5 : decode cX2_put 5 = .ok (.aload_n 2, 1) := dk_44 (dk_at dksX2_put_0 5 rfl rfl)
theorem dX2_put_6 : decode cX2_put 6 = .ok (.invokevirtual 16, 3) := dk_182 0 16 (dk_at dksX2_put_0 6 rfl rfl)
theorem dX2_put_9 : decode cX2_put 9 = .ok (.checkcast 20, 3) := dk_192 0 20 (dk_at dksX2_put_0 9 rfl rfl)
theorem dX2_put_12 : decode cX2_put 12 = .ok (.astore_n 3, 1) := dk_78 (dk_at dksX2_put_0 12 rfl rfl)
theorem dX2_put_13 : decode cX2_put 13 = .ok (.return_, 1) := dk_177 (dk_at dksX2_put_0 13 rfl rfl)
abbrev cX2_numbered : ByteArray := prog_6_method_5_code
def yX2_numbered : MethodName := ⟨RX2, "numbered", "(I)LSkinLeague$Thing;"⟩
def dkwX2_numbered_2 : List UInt8 := [167, 0, 4, 44, 77, 167, 255, 220, 44, 198, 0, 7, 4, 167, 0, 4, 3, 184, 0, 53, 44, 176]
abbrev dktX2_numbered_2 : List UInt8 := dkwX2_numbered_2 ++ []
def dkwX2_numbered_1 : List UInt8 := [45, 185, 0, 46, 1, 0, 192, 0, 20, 58, 4, 25, 4, 182, 0, 50, 27, 160, 0, 8, 25, 4]
abbrev dktX2_numbered_1 : List UInt8 := dkwX2_numbered_1 ++ dktX2_numbered_2
def dkwX2_numbered_0 : List UInt8 := [1, 77, 42, 180, 0, 10, 182, 0, 30, 185, 0, 34, 1, 0, 78, 45, 185, 0, 40, 1, 0, 153, 0, 33]
abbrev dktX2_numbered_0 : List UInt8 := dkwX2_numbered_0 ++ dktX2_numbered_1
theorem dksX2_numbered_0 : cX2_numbered.data.toList.drop 0 = dktX2_numbered_0 := by decide +kernel
theorem dksX2_numbered_1 : cX2_numbered.data.toList.drop 24 = dktX2_numbered_1 := dk_seg dksX2_numbered_0 24 rfl rfl
theorem dksX2_numbered_2 : cX2_numbered.data.toList.drop 46 = dktX2_numbered_2 := dk_seg dksX2_numbered_1 22 rfl rfl
theorem dX2_numbered_0 : decode cX2_numbered 0 = .ok (.aconst_null, 1) := dk_1 (dk_at dksX2_numbered_0 0 rfl rfl)
theorem dX2_numbered_1 : decode cX2_numbered 1 = .ok (.astore_n 2, 1) := dk_77 (dk_at dksX2_numbered_0 1 rfl rfl)
theorem dX2_numbered_2 : decode cX2_numbered 2 = .ok (.aload_n 0, 1) := dk_42 (dk_at dksX2_numbered_0 2 rfl rfl)
theorem dX2_numbered_3 : decode cX2_numbered 3 = .ok (.getfield 10, 3) := dk_180 0 10 (dk_at dksX2_numbered_0 3 rfl rfl)
theorem dX2_numbered_6 : decode cX2_numbered 6 = .ok (.invokevirtual 30, 3) := dk_182 0 30 (dk_at dksX2_numbered_0 6 rfl rfl)
theorem dX2_numbered_9 : decode cX2_numbered 9 = .ok (.invokeinterface 34 1, 5) := by decide +kernel
theorem dX2_numbered_14 : decode cX2_numbered 14 = .ok (.astore_n 3, 1) := dk_78 (dk_at dksX2_numbered_0 14 rfl rfl)
theorem dX2_numbered_15 : decode cX2_numbered 15 = .ok (.aload_n 3, 1) := dk_45 (dk_at dksX2_numbered_0 15 rfl rfl)
theorem dX2_numbered_16 : decode cX2_numbered 16 = .ok (.invokeinterface 40 1, 5) := by decide +kernel
theorem dX2_numbered_21 : decode cX2_numbered 21 = .ok (.ifCond .eq 33, 3) := dk_153 0 33 (dk_at dksX2_numbered_0 21 rfl rfl)
theorem dX2_numbered_24 : decode cX2_numbered 24 = .ok (.aload_n 3, 1) := dk_45 (dk_at dksX2_numbered_1 0 rfl rfl)
theorem dX2_numbered_25 : decode cX2_numbered 25 = .ok (.invokeinterface 46 1, 5) := by decide +kernel
theorem dX2_numbered_30 : decode cX2_numbered 30 = .ok (.checkcast 20, 3) := dk_192 0 20 (dk_at dksX2_numbered_1 6 rfl rfl)
theorem dX2_numbered_33 : decode cX2_numbered 33 = .ok (.astore 4, 2) := dk_58 4 (dk_at dksX2_numbered_1 9 rfl rfl)
theorem dX2_numbered_35 : decode cX2_numbered 35 = .ok (.aload 4, 2) := dk_25 4 (dk_at dksX2_numbered_1 11 rfl rfl)
theorem dX2_numbered_37 : decode cX2_numbered 37 = .ok (.invokevirtual 50, 3) := dk_182 0 50 (dk_at dksX2_numbered_1 13 rfl rfl)
theorem dX2_numbered_40 : decode cX2_numbered 40 = .ok (.iload_n 1, 1) := dk_27 (dk_at dksX2_numbered_1 16 rfl rfl)
theorem dX2_numbered_41 : decode cX2_numbered 41 = .ok (.if_icmp .ne 8, 3) := dk_160 0 8 (dk_at dksX2_numbered_1 17 rfl rfl)
theorem dX2_numbered_44 : decode cX2_numbered 44 = .ok (.aload 4, 2) := dk_25 4 (dk_at dksX2_numbered_1 20 rfl rfl)
theorem dX2_numbered_46 : decode cX2_numbered 46 = .ok (.goto 4, 3) := dk_167 0 4 (dk_at dksX2_numbered_2 0 rfl rfl)
theorem dX2_numbered_49 : decode cX2_numbered 49 = .ok (.aload_n 2, 1) := dk_44 (dk_at dksX2_numbered_2 3 rfl rfl)
theorem dX2_numbered_50 : decode cX2_numbered 50 = .ok (.astore_n 2, 1) := dk_77 (dk_at dksX2_numbered_2 4 rfl rfl)
theorem dX2_numbered_51 : decode cX2_numbered 51 = .ok (.goto (-36), 3) := dk_167 255 220 (dk_at dksX2_numbered_2 5 rfl rfl)
theorem dX2_numbered_54 : decode cX2_numbered 54 = .ok (.aload_n 2, 1) := dk_44 (dk_at dksX2_numbered_2 8 rfl rfl)
theorem dX2_numbered_55 : decode cX2_numbered 55 = .ok (.ifnull 7, 3) := dk_198 0 7 (dk_at dksX2_numbered_2 9 rfl rfl)
theorem dX2_numbered_58 : decode cX2_numbered 58 = .ok (.iconst 1, 1) := dk_4 (dk_at dksX2_numbered_2 12 rfl rfl)
theorem dX2_numbered_59 : decode cX2_numbered 59 = .ok (.goto 4, 3) := dk_167 0 4 (dk_at dksX2_numbered_2 13 rfl rfl)
theorem dX2_numbered_62 : decode cX2_numbered 62 = .ok (.iconst 0, 1) := dk_3 (dk_at dksX2_numbered_2 16 rfl rfl)
theorem dX2_numbered_63 : decode cX2_numbered 63 = .ok (.invokestatic 53, 3) := dk_184 0 53 (dk_at dksX2_numbered_2 17 rfl rfl)
theorem dX2_numbered_66 : decode cX2_numbered 66 = .ok (.aload_n 2, 1) := dk_44 (dk_at dksX2_numbered_2 20 rfl rfl)
theorem dX2_numbered_67 : decode cX2_numbered 67 = .ok (.areturn, 1) := dk_176 (dk_at dksX2_numbered_2 21 rfl rfl)
abbrev cX2_at : ByteArray := prog_6_method_3_code
def yX2_at : MethodName := ⟨RX2, "at", "(Ljava/lang/Object;)LSkinLeague$Thing;"⟩
def dkwX2_at_0 : List UInt8 := [42, 180, 0, 10, 43, 182, 0, 22, 192, 0, 20, 176]
abbrev dktX2_at_0 : List UInt8 := dkwX2_at_0 ++ []
theorem dksX2_at_0 : cX2_at.data.toList.drop 0 = dktX2_at_0 := by decide +kernel
theorem dX2_at_0 : decode cX2_at 0 = .ok (.aload_n 0, 1) := dk_42 (dk_at dksX2_at_0 0 rfl rfl)
theorem dX2_at_1 : decode cX2_at 1 = .ok (.getfield 10, 3) := dk_180 0 10 (dk_at dksX2_at_0 1 rfl rfl)
theorem dX2_at_4 : decode cX2_at 4 = .ok (.aload_n 1, 1) := dk_43 (dk_at dksX2_at_0 4 rfl rfl)
theorem dX2_at_5 : decode cX2_at 5 = .ok (.invokevirtual 22, 3) := dk_182 0 22 (dk_at dksX2_at_0 5 rfl rfl)
theorem dX2_at_8 : decode cX2_at 8 = .ok (.checkcast 20, 3) := dk_192 0 20 (dk_at dksX2_at_0 8 rfl rfl)
theorem dX2_at_11 : decode cX2_at 11 = .ok (.areturn, 1) := dk_176 (dk_at dksX2_at_0 11 rfl rfl)
theorem q40 : (Jvm.Cond.initialized "SkinLeague$Shelf") ∈ lw_all := lw_g (lw_at lw_m1 5 rfl) rfl
theorem q122 : (Jvm.Cond.instantiable "SkinLeague$Shelf" (1 : Nat)) ∈ lw_all := lw_g (lw_at lw_m1 87 rfl) rfl
theorem q124 : (Jvm.Cond.instanceMethod ({ cls := "SkinLeague$Shelf", name := "<init>", desc := "()V" } : Jvm.MethodName)) ∈ lw_all := lw_g (lw_at lw_m1 89 rfl) rfl
theorem q125 : (Jvm.Cond.code ({ cls := "SkinLeague$Shelf", name := "<init>", desc := "()V" } : Jvm.MethodName) prog_6_method_1_code (1 : Nat) (Option.none : Option Jvm.ClassFile.FieldType)) ∈ lw_all := lw_g (lw_at lw_m1 90 rfl) rfl
theorem q126 : (Jvm.Cond.methodLink "SkinLeague$Shelf" (1 : Nat) ({ cls := "java/lang/Object", name := "<init>", desc := "()V" } : Jvm.MethodName)) ∈ lw_all := lw_g (lw_at lw_m1 91 rfl) rfl
theorem q127 : (Jvm.Cond.classLink "SkinLeague$Shelf" (7 : Nat) "java/util/LinkedHashMap") ∈ lw_all := lw_g (lw_at lw_m1 92 rfl) rfl
theorem q129 : (Jvm.Cond.methodLink "SkinLeague$Shelf" (9 : Nat) ({ cls := "java/util/LinkedHashMap", name := "<init>", desc := "()V" } : Jvm.MethodName)) ∈ lw_all := lw_g (lw_at lw_m1 94 rfl) rfl
theorem q181 : (Jvm.Cond.fieldLink "SkinLeague$Shelf" (10 : Nat) "SkinLeague$Shelf" "all" "Ljava/util/LinkedHashMap;") ∈ lw_all := lw_g (lw_at lw_m1 146 rfl) rfl
theorem q182 : (Jvm.Cond.laysFinal "SkinLeague$Shelf" "SkinLeague$Shelf" "all" "Ljava/util/LinkedHashMap;") ∈ lw_all := lw_g (lw_at lw_m1 147 rfl) rfl
theorem q183 : (Jvm.Cond.soleField "SkinLeague$Shelf" "all") ∈ lw_all := lw_g (lw_at lw_m1 148 rfl) rfl
theorem q184 : (Jvm.Cond.superclass "SkinLeague$Shelf" "java/lang/Object") ∈ lw_all := lw_g (lw_at lw_m1 149 rfl) rfl
theorem q350 : (Jvm.Cond.selects "SkinLeague$Shelf" ({ cls := "java/lang/Object", name := "getClass", desc := "()Ljava/lang/Class;" } : Jvm.MethodName) ({ cls := "java/lang/Object", name := "getClass", desc := "()Ljava/lang/Class;" } : Jvm.MethodName)) ∈ lw_all := lw_g (lw_at lw_m2 75 rfl) rfl
theorem q614 : (Jvm.Cond.instanceMethod ({ cls := "SkinLeague$Shelf", name := "size", desc := "()I" } : Jvm.MethodName)) ∈ lw_all := lw_g (lw_at lw_m3 99 rfl) rfl
theorem q615 : (Jvm.Cond.selects "SkinLeague$Shelf" ({ cls := "SkinLeague$Shelf", name := "size", desc := "()I" } : Jvm.MethodName) ({ cls := "SkinLeague$Shelf", name := "size", desc := "()I" } : Jvm.MethodName)) ∈ lw_all := lw_g (lw_at lw_m3 100 rfl) rfl
theorem q616 : (Jvm.Cond.code ({ cls := "SkinLeague$Shelf", name := "size", desc := "()I" } : Jvm.MethodName) prog_6_method_4_code (1 : Nat) (Option.some Jvm.ClassFile.FieldType.int)) ∈ lw_all := lw_g (lw_at lw_m3 101 rfl) rfl
theorem q617 : (Jvm.Cond.methodLink "SkinLeague$Shelf" (26 : Nat) ({ cls := "java/util/LinkedHashMap", name := "size", desc := "()I" } : Jvm.MethodName)) ∈ lw_all := lw_g (lw_at lw_m3 102 rfl) rfl
theorem q662 : (Jvm.Cond.instanceMethod ({ cls := "SkinLeague$Shelf", name := "put", desc := "(Ljava/lang/Object;LSkinLeague$Thing;)V" } : Jvm.MethodName)) ∈ lw_all := lw_g (lw_at lw_m3 147 rfl) rfl
theorem q663 : (Jvm.Cond.selects "SkinLeague$Shelf" ({ cls := "SkinLeague$Shelf", name := "put", desc := "(Ljava/lang/Object;LSkinLeague$Thing;)V" } : Jvm.MethodName) ({ cls := "SkinLeague$Shelf", name := "put", desc := "(Ljava/lang/Object;LSkinLeague$Thing;)V" } : Jvm.MethodName)) ∈ lw_all := lw_g (lw_at lw_m3 148 rfl) rfl
theorem q664 : (Jvm.Cond.code ({ cls := "SkinLeague$Shelf", name := "put", desc := "(Ljava/lang/Object;LSkinLeague$Thing;)V" } : Jvm.MethodName) prog_6_method_2_code (4 : Nat) (Option.none : Option Jvm.ClassFile.FieldType)) ∈ lw_all := lw_g (lw_at lw_m3 149 rfl) rfl
theorem q665 : (Jvm.Cond.methodLink "SkinLeague$Shelf" (16 : Nat) ({ cls := "java/util/LinkedHashMap", name := "put", desc := "(Ljava/lang/Object;Ljava/lang/Object;)Ljava/lang/Object;" } : Jvm.MethodName)) ∈ lw_all := lw_g (lw_at lw_m3 150 rfl) rfl
theorem q975 : (Jvm.Cond.selects "SkinLeague$Shelf" ({ cls := "java/lang/Object", name := "hashCode", desc := "()I" } : Jvm.MethodName) ({ cls := "java/lang/Object", name := "hashCode", desc := "()I" } : Jvm.MethodName)) ∈ lw_all := lw_g (lw_at lw_m4 220 rfl) rfl
theorem q1318 : (Jvm.Cond.selects "SkinLeague$Shelf" ({ cls := "java/lang/Object", name := "equals", desc := "(Ljava/lang/Object;)Z" } : Jvm.MethodName) ({ cls := "java/lang/Object", name := "equals", desc := "(Ljava/lang/Object;)Z" } : Jvm.MethodName)) ∈ lw_all := lw_g (lw_at lw_m6 83 rfl) rfl
theorem q1411 : (Jvm.Cond.classLink "SkinLeague$Shelf" (20 : Nat) "SkinLeague$Thing") ∈ lw_all := lw_g (lw_at lw_m6 176 rfl) rfl
theorem q1420 : (Jvm.Cond.instanceMethod ({ cls := "SkinLeague$Shelf", name := "numbered", desc := "(I)LSkinLeague$Thing;" } : Jvm.MethodName)) ∈ lw_all := lw_g (lw_at lw_m6 185 rfl) rfl
theorem q1421 : (Jvm.Cond.selects "SkinLeague$Shelf" ({ cls := "SkinLeague$Shelf", name := "numbered", desc := "(I)LSkinLeague$Thing;" } : Jvm.MethodName) ({ cls := "SkinLeague$Shelf", name := "numbered", desc := "(I)LSkinLeague$Thing;" } : Jvm.MethodName)) ∈ lw_all := lw_g (lw_at lw_m6 186 rfl) rfl
theorem q1422 : (Jvm.Cond.code ({ cls := "SkinLeague$Shelf", name := "numbered", desc := "(I)LSkinLeague$Thing;" } : Jvm.MethodName) prog_6_method_5_code (5 : Nat) (Option.some (Jvm.ClassFile.FieldType.object "SkinLeague$Thing"))) ∈ lw_all := lw_g (lw_at lw_m6 187 rfl) rfl
theorem q1423 : (Jvm.Cond.methodLink "SkinLeague$Shelf" (30 : Nat) ({ cls := "java/util/LinkedHashMap", name := "values", desc := "()Ljava/util/Collection;" } : Jvm.MethodName)) ∈ lw_all := lw_g (lw_at lw_m6 188 rfl) rfl
theorem q1445 : (Jvm.Cond.interfaceEntry "SkinLeague$Shelf" (34 : Nat)) ∈ lw_tbl := lw_at lw_m6 210 rfl
theorem q1446 : (Jvm.Cond.methodLink "SkinLeague$Shelf" (34 : Nat) ({ cls := "java/util/Collection", name := "iterator", desc := "()Ljava/util/Iterator;" } : Jvm.MethodName)) ∈ lw_all := lw_g (lw_at lw_m6 211 rfl) rfl
theorem q1505 : (Jvm.Cond.interfaceEntry "SkinLeague$Shelf" (40 : Nat)) ∈ lw_tbl := lw_at lw_m7 30 rfl
theorem q1506 : (Jvm.Cond.methodLink "SkinLeague$Shelf" (40 : Nat) ({ cls := "java/util/Iterator", name := "hasNext", desc := "()Z" } : Jvm.MethodName)) ∈ lw_all := lw_g (lw_at lw_m7 31 rfl) rfl
theorem q1521 : (Jvm.Cond.interfaceEntry "SkinLeague$Shelf" (46 : Nat)) ∈ lw_tbl := lw_at lw_m7 46 rfl
theorem q1522 : (Jvm.Cond.methodLink "SkinLeague$Shelf" (46 : Nat) ({ cls := "java/util/Iterator", name := "next", desc := "()Ljava/lang/Object;" } : Jvm.MethodName)) ∈ lw_all := lw_g (lw_at lw_m7 47 rfl) rfl
theorem q1545 : (Jvm.Cond.methodLink "SkinLeague$Shelf" (50 : Nat) ({ cls := "SkinLeague$Thing", name := "number", desc := "()I" } : Jvm.MethodName)) ∈ lw_all := lw_g (lw_at lw_m7 70 rfl) rfl
theorem q1550 : (Jvm.Cond.methodLinkNest "SkinLeague$Shelf" (53 : Nat) ({ cls := "SkinLeague", name := "needIndex", desc := "(Z)V" } : Jvm.MethodName) "SkinLeague") ∈ lw_tbl := lw_at lw_m7 75 rfl
theorem q1607 : (Jvm.Cond.instanceMethod ({ cls := "SkinLeague$Shelf", name := "at", desc := "(Ljava/lang/Object;)LSkinLeague$Thing;" } : Jvm.MethodName)) ∈ lw_all := lw_g (lw_at lw_m7 132 rfl) rfl
theorem q1608 : (Jvm.Cond.selects "SkinLeague$Shelf" ({ cls := "SkinLeague$Shelf", name := "at", desc := "(Ljava/lang/Object;)LSkinLeague$Thing;" } : Jvm.MethodName) ({ cls := "SkinLeague$Shelf", name := "at", desc := "(Ljava/lang/Object;)LSkinLeague$Thing;" } : Jvm.MethodName)) ∈ lw_all := lw_g (lw_at lw_m7 133 rfl) rfl
theorem q1609 : (Jvm.Cond.code ({ cls := "SkinLeague$Shelf", name := "at", desc := "(Ljava/lang/Object;)LSkinLeague$Thing;" } : Jvm.MethodName) prog_6_method_3_code (2 : Nat) (Option.some (Jvm.ClassFile.FieldType.object "SkinLeague$Thing"))) ∈ lw_all := lw_g (lw_at lw_m7 134 rfl) rfl
theorem q1610 : (Jvm.Cond.methodLink "SkinLeague$Shelf" (22 : Nat) ({ cls := "java/util/LinkedHashMap", name := "get", desc := "(Ljava/lang/Object;)Ljava/lang/Object;" } : Jvm.MethodName)) ∈ lw_all := lw_g (lw_at lw_m7 135 rfl) rfl
theorem q1757 : (Jvm.Cond.selects "SkinLeague$Shelf" ({ cls := "java/lang/Object", name := "toString", desc := "()Ljava/lang/String;" } : Jvm.MethodName) ({ cls := "java/lang/Object", name := "toString", desc := "()Ljava/lang/String;" } : Jvm.MethodName)) ∈ lw_all := lw_g (lw_at lw_m8 42 rfl) rfl
theorem q2084 : (Jvm.Cond.castable "SkinLeague$Shelf" "java/lang/Object") ∈ lw_tbl := lw_at lw_m9 129 rfl
theorem in_X2 : ∀ w ∈ wsX20, w ∈ lw_all := lw_in wsX20 [182] (by decide +kernel) (by decide +kernel)
/-! SkinLeague$Player -/
def RX4 : String := "SkinLeague$Player"
def TX4 : u_T := fun k => match k with
  | 0 => ("SkinLeague$Player", "number", "I", true)
  | 1 => ("SkinLeague$Player", "cheatsSince", "I", false)
  | 2 => ("SkinLeague$Player", "bannedUntil", "I", false)
  | _ => ("SkinLeague$Player", "money", "I", false)
def tyX4 : Nat → FieldType := fun k => match k with
  | 0 => .int
  | 1 => .int
  | 2 => .int
  | _ => .int
abbrev wsX40 : List Cond := u_ws RX4 TX4 4
theorem nmX4 : ∀ a, a < 4 → ∀ b, b < 4 → a ≠ b → (TX4 a).2.1 ≠ (TX4 b).2.1 := by decide +kernel
theorem tyX4_ok : ∀ k, k < 4 → parseFieldDescriptor (TX4 k).2.2.1 = some (tyX4 k) := by decide +kernel
abbrev cX4_init : ByteArray := prog_3_method_1_code
def yX4_init : MethodName := ⟨RX4, "<init>", "(I)V"⟩
def dkwX4_init_0 : List UInt8 := [42, 183, 0, 3, 42, 2, 181, 0, 9, 42, 27, 181, 0, 15, 177]
abbrev dktX4_init_0 : List UInt8 := dkwX4_init_0 ++ []
theorem dksX4_init_0 : cX4_init.data.toList.drop 0 = dktX4_init_0 := by decide +kernel
theorem dX4_init_0 : decode cX4_init 0 = .ok (.aload_n 0, 1) := dk_42 (dk_at dksX4_init_0 0 rfl rfl)
theorem dX4_init_1 : decode cX4_init 1 = .ok (.invokespecial 3, 3) := dk_183 0 3 (dk_at dksX4_init_0 1 rfl rfl)
theorem dX4_init_4 : decode cX4_init 4 = .ok (.aload_n 0, 1) := dk_42 (dk_at dksX4_init_0 4 rfl rfl)
theorem dX4_init_5 : decode cX4_init 5 = .ok (.iconst (-1), 1) := dk_2 (dk_at dksX4_init_0 5 rfl rfl)
theorem dX4_init_6 : decode cX4_init 6 = .ok (.putfield 9, 3) := dk_181 0 9 (dk_at dksX4_init_0 6 rfl rfl)
theorem dX4_init_9 : decode cX4_init 9 = .ok (.aload_n 0, 1) := dk_42 (dk_at dksX4_init_0 9 rfl rfl)
theorem dX4_init_10 : decode cX4_init 10 = .ok (.iload_n 1, 1) := dk_27 (dk_at dksX4_init_0 10 rfl rfl)
theorem dX4_init_11 : decode cX4_init 11 = .ok (.putfield 15, 3) := dk_181 0 15 (dk_at dksX4_init_0 11 rfl rfl)
theorem dX4_init_14 : decode cX4_init 14 = .ok (.return_, 1) := dk_177 (dk_at dksX4_init_0 14 rfl rfl)
abbrev cX4_isCheat : ByteArray := prog_3_method_2_code
def yX4_isCheat : MethodName := ⟨RX4, "isCheat", "()Z"⟩
def dkwX4_isCheat_0 : List UInt8 := [42, 180, 0, 9, 2, 159, 0, 7, 4, 167, 0, 4, 3, 172]
abbrev dktX4_isCheat_0 : List UInt8 := dkwX4_isCheat_0 ++ []
theorem dksX4_isCheat_0 : cX4_isCheat.data.toList.drop 0 = dktX4_isCheat_0 := by decide +kernel
theorem dX4_isCheat_0 : decode cX4_isCheat 0 = .ok (.aload_n 0, 1) := dk_42 (dk_at dksX4_isCheat_0 0 rfl rfl)
theorem dX4_isCheat_1 : decode cX4_isCheat 1 = .ok (.getfield 9, 3) := dk_180 0 9 (dk_at dksX4_isCheat_0 1 rfl rfl)
theorem dX4_isCheat_4 : decode cX4_isCheat 4 = .ok (.iconst (-1), 1) := dk_2 (dk_at dksX4_isCheat_0 4 rfl rfl)
theorem dX4_isCheat_5 : decode cX4_isCheat 5 = .ok (.if_icmp .eq 7, 3) := dk_159 0 7 (dk_at dksX4_isCheat_0 5 rfl rfl)
theorem dX4_isCheat_8 : decode cX4_isCheat 8 = .ok (.iconst 1, 1) := dk_4 (dk_at dksX4_isCheat_0 8 rfl rfl)
theorem dX4_isCheat_9 : decode cX4_isCheat 9 = .ok (.goto 4, 3) := dk_167 0 4 (dk_at dksX4_isCheat_0 9 rfl rfl)
theorem dX4_isCheat_12 : decode cX4_isCheat 12 = .ok (.iconst 0, 1) := dk_3 (dk_at dksX4_isCheat_0 12 rfl rfl)
theorem dX4_isCheat_13 : decode cX4_isCheat 13 = .ok (.ireturn, 1) := dk_172 (dk_at dksX4_isCheat_0 13 rfl rfl)
abbrev cX4_pay : ByteArray := prog_3_method_3_code
def yX4_pay : MethodName := ⟨RX4, "pay", "(LSkinLeague$Player;LSkinLeague$Player;I)V"⟩
def dkwX4_pay_1 : List UInt8 := [96, 181, 0, 18, 177]
abbrev dktX4_pay_1 : List UInt8 := dkwX4_pay_1 ++ []
def dkwX4_pay_0 : List UInt8 := [42, 198, 0, 27, 43, 198, 0, 23, 42, 89, 180, 0, 18, 28, 100, 181, 0, 18, 43, 89, 180, 0, 18, 28]
abbrev dktX4_pay_0 : List UInt8 := dkwX4_pay_0 ++ dktX4_pay_1
theorem dksX4_pay_0 : cX4_pay.data.toList.drop 0 = dktX4_pay_0 := by decide +kernel
theorem dksX4_pay_1 : cX4_pay.data.toList.drop 24 = dktX4_pay_1 := dk_seg dksX4_pay_0 24 rfl rfl
theorem dX4_pay_0 : decode cX4_pay 0 = .ok (.aload_n 0, 1) := dk_42 (dk_at dksX4_pay_0 0 rfl rfl)
theorem dX4_pay_1 : decode cX4_pay 1 = .ok (.ifnull 27, 3) := dk_198 0 27 (dk_at dksX4_pay_0 1 rfl rfl)
theorem dX4_pay_4 : decode cX4_pay 4 = .ok (.aload_n 1, 1) := dk_43 (dk_at dksX4_pay_0 4 rfl rfl)
theorem dX4_pay_5 : decode cX4_pay 5 = .ok (.ifnull 23, 3) := dk_198 0 23 (dk_at dksX4_pay_0 5 rfl rfl)
theorem dX4_pay_8 : decode cX4_pay 8 = .ok (.aload_n 0, 1) := dk_42 (dk_at dksX4_pay_0 8 rfl rfl)
theorem dX4_pay_9 : decode cX4_pay 9 = .ok (.dup, 1) := dk_89 (dk_at dksX4_pay_0 9 rfl rfl)
theorem dX4_pay_10 : decode cX4_pay 10 = .ok (.getfield 18, 3) := dk_180 0 18 (dk_at dksX4_pay_0 10 rfl rfl)
theorem dX4_pay_13 : decode cX4_pay 13 = .ok (.iload_n 2, 1) := dk_28 (dk_at dksX4_pay_0 13 rfl rfl)
theorem dX4_pay_14 : decode cX4_pay 14 = .ok (.isub, 1) := dk_100 (dk_at dksX4_pay_0 14 rfl rfl)
theorem dX4_pay_15 : decode cX4_pay 15 = .ok (.putfield 18, 3) := dk_181 0 18 (dk_at dksX4_pay_0 15 rfl rfl)
theorem dX4_pay_18 : decode cX4_pay 18 = .ok (.aload_n 1, 1) := dk_43 (dk_at dksX4_pay_0 18 rfl rfl)
theorem dX4_pay_19 : decode cX4_pay 19 = .ok (.dup, 1) := dk_89 (dk_at dksX4_pay_0 19 rfl rfl)
theorem dX4_pay_20 : decode cX4_pay 20 = .ok (.getfield 18, 3) := dk_180 0 18 (dk_at dksX4_pay_0 20 rfl rfl)
theorem dX4_pay_23 : decode cX4_pay 23 = .ok (.iload_n 2, 1) := dk_28 (dk_at dksX4_pay_0 23 rfl rfl)
theorem dX4_pay_24 : decode cX4_pay 24 = .ok (.iadd, 1) := dk_96 (dk_at dksX4_pay_1 0 rfl rfl)
theorem dX4_pay_25 : decode cX4_pay 25 = .ok (.putfield 18, 3) := dk_181 0 18 (dk_at dksX4_pay_1 1 rfl rfl)
theorem dX4_pay_28 : decode cX4_pay 28 = .ok (.return_, 1) := dk_177 (dk_at dksX4_pay_1 4 rfl rfl)
theorem q49 : (Jvm.Cond.initialized "SkinLeague$Player") ∈ lw_all := lw_g (lw_at lw_m1 14 rfl) rfl
theorem q290 : (Jvm.Cond.instantiable "SkinLeague$Player" (4 : Nat)) ∈ lw_all := lw_g (lw_at lw_m2 15 rfl) rfl
theorem q292 : (Jvm.Cond.instanceMethod ({ cls := "SkinLeague$Player", name := "<init>", desc := "(I)V" } : Jvm.MethodName)) ∈ lw_all := lw_g (lw_at lw_m2 17 rfl) rfl
theorem q293 : (Jvm.Cond.code ({ cls := "SkinLeague$Player", name := "<init>", desc := "(I)V" } : Jvm.MethodName) prog_3_method_1_code (2 : Nat) (Option.none : Option Jvm.ClassFile.FieldType)) ∈ lw_all := lw_g (lw_at lw_m2 18 rfl) rfl
theorem q294 : (Jvm.Cond.methodLink "SkinLeague$Player" (3 : Nat) ({ cls := "java/lang/Object", name := "<init>", desc := "()V" } : Jvm.MethodName)) ∈ lw_all := lw_g (lw_at lw_m2 19 rfl) rfl
theorem q295 : (Jvm.Cond.fieldLink "SkinLeague$Player" (15 : Nat) "SkinLeague$Player" "number" "I") ∈ lw_all := lw_g (lw_at lw_m2 20 rfl) rfl
theorem q299 : (Jvm.Cond.fieldLink "SkinLeague$Player" (9 : Nat) "SkinLeague$Player" "cheatsSince" "I") ∈ lw_all := lw_g (lw_at lw_m2 24 rfl) rfl
theorem q303 : (Jvm.Cond.fieldLink "SkinLeague$Player" (18 : Nat) "SkinLeague$Player" "money" "I") ∈ lw_all := lw_g (lw_at lw_m2 28 rfl) rfl
theorem q305 : (Jvm.Cond.laysFinal "SkinLeague$Player" "SkinLeague$Player" "number" "I") ∈ lw_all := lw_g (lw_at lw_m2 30 rfl) rfl
theorem q306 : (Jvm.Cond.soleField "SkinLeague$Player" "number") ∈ lw_all := lw_g (lw_at lw_m2 31 rfl) rfl
theorem q307 : (Jvm.Cond.lays "SkinLeague$Player" "SkinLeague$Player" "cheatsSince" "I") ∈ lw_all := lw_g (lw_at lw_m2 32 rfl) rfl
theorem q308 : (Jvm.Cond.soleField "SkinLeague$Player" "cheatsSince") ∈ lw_all := lw_g (lw_at lw_m2 33 rfl) rfl
theorem q309 : (Jvm.Cond.lays "SkinLeague$Player" "SkinLeague$Player" "bannedUntil" "I") ∈ lw_all := lw_g (lw_at lw_m2 34 rfl) rfl
theorem q310 : (Jvm.Cond.soleField "SkinLeague$Player" "bannedUntil") ∈ lw_all := lw_g (lw_at lw_m2 35 rfl) rfl
theorem q311 : (Jvm.Cond.lays "SkinLeague$Player" "SkinLeague$Player" "money" "I") ∈ lw_all := lw_g (lw_at lw_m2 36 rfl) rfl
theorem q312 : (Jvm.Cond.soleField "SkinLeague$Player" "money") ∈ lw_all := lw_g (lw_at lw_m2 37 rfl) rfl
theorem q313 : (Jvm.Cond.superclass "SkinLeague$Player" "java/lang/Object") ∈ lw_all := lw_g (lw_at lw_m2 38 rfl) rfl
theorem q348 : (Jvm.Cond.selects "SkinLeague$Player" ({ cls := "java/lang/Object", name := "getClass", desc := "()Ljava/lang/Class;" } : Jvm.MethodName) ({ cls := "java/lang/Object", name := "getClass", desc := "()Ljava/lang/Class;" } : Jvm.MethodName)) ∈ lw_all := lw_g (lw_at lw_m2 73 rfl) rfl
theorem q576 : (Jvm.Cond.instanceMethod ({ cls := "SkinLeague$Player", name := "isCheat", desc := "()Z" } : Jvm.MethodName)) ∈ lw_all := lw_g (lw_at lw_m3 61 rfl) rfl
theorem q577 : (Jvm.Cond.selects "SkinLeague$Player" ({ cls := "SkinLeague$Player", name := "isCheat", desc := "()Z" } : Jvm.MethodName) ({ cls := "SkinLeague$Player", name := "isCheat", desc := "()Z" } : Jvm.MethodName)) ∈ lw_all := lw_g (lw_at lw_m3 62 rfl) rfl
theorem q578 : (Jvm.Cond.code ({ cls := "SkinLeague$Player", name := "isCheat", desc := "()Z" } : Jvm.MethodName) prog_3_method_2_code (1 : Nat) (Option.some Jvm.ClassFile.FieldType.boolean)) ∈ lw_all := lw_g (lw_at lw_m3 63 rfl) rfl
theorem q973 : (Jvm.Cond.selects "SkinLeague$Player" ({ cls := "java/lang/Object", name := "hashCode", desc := "()I" } : Jvm.MethodName) ({ cls := "java/lang/Object", name := "hashCode", desc := "()I" } : Jvm.MethodName)) ∈ lw_all := lw_g (lw_at lw_m4 218 rfl) rfl
theorem q1316 : (Jvm.Cond.selects "SkinLeague$Player" ({ cls := "java/lang/Object", name := "equals", desc := "(Ljava/lang/Object;)Z" } : Jvm.MethodName) ({ cls := "java/lang/Object", name := "equals", desc := "(Ljava/lang/Object;)Z" } : Jvm.MethodName)) ∈ lw_all := lw_g (lw_at lw_m6 81 rfl) rfl
theorem q1581 : (Jvm.Cond.static ({ cls := "SkinLeague$Player", name := "pay", desc := "(LSkinLeague$Player;LSkinLeague$Player;I)V" } : Jvm.MethodName)) ∈ lw_all := lw_g (lw_at lw_m7 106 rfl) rfl
theorem q1582 : (Jvm.Cond.code ({ cls := "SkinLeague$Player", name := "pay", desc := "(LSkinLeague$Player;LSkinLeague$Player;I)V" } : Jvm.MethodName) prog_3_method_3_code (3 : Nat) (Option.none : Option Jvm.ClassFile.FieldType)) ∈ lw_all := lw_g (lw_at lw_m7 107 rfl) rfl
theorem q1756 : (Jvm.Cond.selects "SkinLeague$Player" ({ cls := "java/lang/Object", name := "toString", desc := "()Ljava/lang/String;" } : Jvm.MethodName) ({ cls := "java/lang/Object", name := "toString", desc := "()Ljava/lang/String;" } : Jvm.MethodName)) ∈ lw_all := lw_g (lw_at lw_m8 41 rfl) rfl
theorem q2088 : (Jvm.Cond.castable "SkinLeague$Player" "java/lang/Object") ∈ lw_tbl := lw_at lw_m9 133 rfl
theorem in_X4 : ∀ w ∈ wsX40, w ∈ lw_all := lw_in wsX40 [305, 307, 309, 311] (by decide +kernel) (by decide +kernel)
/-! SkinLeague$Match -/
def RX5 : String := "SkinLeague$Match"
def TX5 : u_T := fun k => match k with
  | 0 => ("SkinLeague$Match", "winner", "LSkinLeague$Player;", true)
  | 1 => ("SkinLeague$Match", "loser", "LSkinLeague$Player;", true)
  | 2 => ("SkinLeague$Match", "region", "I", true)
  | 3 => ("SkinLeague$Match", "day", "I", true)
  | _ => ("SkinLeague$Match", "season", "I", true)
def tyX5 : Nat → FieldType := fun k => match k with
  | 0 => .object "SkinLeague$Player"
  | 1 => .object "SkinLeague$Player"
  | 2 => .int
  | 3 => .int
  | _ => .int
abbrev wsX50 : List Cond := u_ws RX5 TX5 5
theorem nmX5 : ∀ a, a < 5 → ∀ b, b < 5 → a ≠ b → (TX5 a).2.1 ≠ (TX5 b).2.1 := by decide +kernel
theorem tyX5_ok : ∀ k, k < 5 → parseFieldDescriptor (TX5 k).2.2.1 = some (tyX5 k) := by decide +kernel
abbrev cX5_init : ByteArray := prog_2_method_1_code
def yX5_init : MethodName := ⟨RX5, "<init>", "(LSkinLeague$Player;LSkinLeague$Player;III)V"⟩
def dkwX5_init_1 : List UInt8 := [181, 0, 20, 42, 21, 5, 181, 0, 23, 177]
abbrev dktX5_init_1 : List UInt8 := dkwX5_init_1 ++ []
def dkwX5_init_0 : List UInt8 := [42, 183, 0, 1, 42, 43, 181, 0, 7, 42, 44, 181, 0, 13, 42, 29, 181, 0, 16, 42, 21, 4]
abbrev dktX5_init_0 : List UInt8 := dkwX5_init_0 ++ dktX5_init_1
theorem dksX5_init_0 : cX5_init.data.toList.drop 0 = dktX5_init_0 := by decide +kernel
theorem dksX5_init_1 : cX5_init.data.toList.drop 22 = dktX5_init_1 := dk_seg dksX5_init_0 22 rfl rfl
theorem dX5_init_0 : decode cX5_init 0 = .ok (.aload_n 0, 1) := dk_42 (dk_at dksX5_init_0 0 rfl rfl)
theorem dX5_init_1 : decode cX5_init 1 = .ok (.invokespecial 1, 3) := dk_183 0 1 (dk_at dksX5_init_0 1 rfl rfl)
theorem dX5_init_4 : decode cX5_init 4 = .ok (.aload_n 0, 1) := dk_42 (dk_at dksX5_init_0 4 rfl rfl)
theorem dX5_init_5 : decode cX5_init 5 = .ok (.aload_n 1, 1) := dk_43 (dk_at dksX5_init_0 5 rfl rfl)
theorem dX5_init_6 : decode cX5_init 6 = .ok (.putfield 7, 3) := dk_181 0 7 (dk_at dksX5_init_0 6 rfl rfl)
theorem dX5_init_9 : decode cX5_init 9 = .ok (.aload_n 0, 1) := dk_42 (dk_at dksX5_init_0 9 rfl rfl)
theorem dX5_init_10 : decode cX5_init 10 = .ok (.aload_n 2, 1) := dk_44 (dk_at dksX5_init_0 10 rfl rfl)
theorem dX5_init_11 : decode cX5_init 11 = .ok (.putfield 13, 3) := dk_181 0 13 (dk_at dksX5_init_0 11 rfl rfl)
theorem dX5_init_14 : decode cX5_init 14 = .ok (.aload_n 0, 1) := dk_42 (dk_at dksX5_init_0 14 rfl rfl)
theorem dX5_init_15 : decode cX5_init 15 = .ok (.iload_n 3, 1) := dk_29 (dk_at dksX5_init_0 15 rfl rfl)
theorem dX5_init_16 : decode cX5_init 16 = .ok (.putfield 16, 3) := dk_181 0 16 (dk_at dksX5_init_0 16 rfl rfl)
theorem dX5_init_19 : decode cX5_init 19 = .ok (.aload_n 0, 1) := dk_42 (dk_at dksX5_init_0 19 rfl rfl)
theorem dX5_init_20 : decode cX5_init 20 = .ok (.iload 4, 2) := dk_21 4 (dk_at dksX5_init_0 20 rfl rfl)
theorem dX5_init_22 : decode cX5_init 22 = .ok (.putfield 20, 3) := dk_181 0 20 (dk_at dksX5_init_1 0 rfl rfl)
theorem dX5_init_25 : decode cX5_init 25 = .ok (.aload_n 0, 1) := dk_42 (dk_at dksX5_init_1 3 rfl rfl)
theorem dX5_init_26 : decode cX5_init 26 = .ok (.iload 5, 2) := dk_21 5 (dk_at dksX5_init_1 4 rfl rfl)
theorem dX5_init_28 : decode cX5_init 28 = .ok (.putfield 23, 3) := dk_181 0 23 (dk_at dksX5_init_1 6 rfl rfl)
theorem dX5_init_31 : decode cX5_init 31 = .ok (.return_, 1) := dk_177 (dk_at dksX5_init_1 9 rfl rfl)
abbrev cX5_stands : ByteArray := prog_2_method_2_code
def yX5_stands : MethodName := ⟨RX5, "stands", "()Z"⟩
def dkwX5_stands_1 : List UInt8 := [4, 167, 0, 4, 3, 172]
abbrev dktX5_stands_1 : List UInt8 := dkwX5_stands_1 ++ []
def dkwX5_stands_0 : List UInt8 := [42, 180, 0, 7, 182, 0, 26, 153, 0, 17, 42, 180, 0, 7, 180, 0, 32, 42, 180, 0, 20, 164, 0, 7]
abbrev dktX5_stands_0 : List UInt8 := dkwX5_stands_0 ++ dktX5_stands_1
theorem dksX5_stands_0 : cX5_stands.data.toList.drop 0 = dktX5_stands_0 := by decide +kernel
theorem dksX5_stands_1 : cX5_stands.data.toList.drop 24 = dktX5_stands_1 := dk_seg dksX5_stands_0 24 rfl rfl
theorem dX5_stands_0 : decode cX5_stands 0 = .ok (.aload_n 0, 1) := dk_42 (dk_at dksX5_stands_0 0 rfl rfl)
theorem dX5_stands_1 : decode cX5_stands 1 = .ok (.getfield 7, 3) := dk_180 0 7 (dk_at dksX5_stands_0 1 rfl rfl)
theorem dX5_stands_4 : decode cX5_stands 4 = .ok (.invokevirtual 26, 3) := dk_182 0 26 (dk_at dksX5_stands_0 4 rfl rfl)
theorem dX5_stands_7 : decode cX5_stands 7 = .ok (.ifCond .eq 17, 3) := dk_153 0 17 (dk_at dksX5_stands_0 7 rfl rfl)
theorem dX5_stands_10 : decode cX5_stands 10 = .ok (.aload_n 0, 1) := dk_42 (dk_at dksX5_stands_0 10 rfl rfl)
theorem dX5_stands_11 : decode cX5_stands 11 = .ok (.getfield 7, 3) := dk_180 0 7 (dk_at dksX5_stands_0 11 rfl rfl)
theorem dX5_stands_14 : decode cX5_stands 14 = .ok (.getfield 32, 3) := dk_180 0 32 (dk_at dksX5_stands_0 14 rfl rfl)
theorem dX5_stands_17 : decode cX5_stands 17 = .ok (.aload_n 0, 1) := dk_42 (dk_at dksX5_stands_0 17 rfl rfl)
theorem dX5_stands_18 : decode cX5_stands 18 = .ok (.getfield 20, 3) := dk_180 0 20 (dk_at dksX5_stands_0 18 rfl rfl)
theorem dX5_stands_21 : decode cX5_stands 21 = .ok (.if_icmp .le 7, 3) := dk_164 0 7 (dk_at dksX5_stands_0 21 rfl rfl)
theorem dX5_stands_24 : decode cX5_stands 24 = .ok (.iconst 1, 1) := dk_4 (dk_at dksX5_stands_1 0 rfl rfl)
theorem dX5_stands_25 : decode cX5_stands 25 = .ok (.goto 4, 3) := dk_167 0 4 (dk_at dksX5_stands_1 1 rfl rfl)
theorem dX5_stands_28 : decode cX5_stands 28 = .ok (.iconst 0, 1) := dk_3 (dk_at dksX5_stands_1 4 rfl rfl)
theorem dX5_stands_29 : decode cX5_stands 29 = .ok (.ireturn, 1) := dk_172 (dk_at dksX5_stands_1 5 rfl rfl)
abbrev cX5_isOf : ByteArray := prog_2_method_3_code
def yX5_isOf : MethodName := ⟨RX5, "isOf", "(I)Z"⟩
def dkwX5_isOf_1 : List UInt8 := [167, 0, 4, 3, 172]
abbrev dktX5_isOf_1 : List UInt8 := dkwX5_isOf_1 ++ []
def dkwX5_isOf_0 : List UInt8 := [42, 180, 0, 7, 180, 0, 35, 27, 159, 0, 14, 42, 180, 0, 13, 180, 0, 35, 27, 160, 0, 7, 4]
abbrev dktX5_isOf_0 : List UInt8 := dkwX5_isOf_0 ++ dktX5_isOf_1
theorem dksX5_isOf_0 : cX5_isOf.data.toList.drop 0 = dktX5_isOf_0 := by decide +kernel
theorem dksX5_isOf_1 : cX5_isOf.data.toList.drop 23 = dktX5_isOf_1 := dk_seg dksX5_isOf_0 23 rfl rfl
theorem dX5_isOf_0 : decode cX5_isOf 0 = .ok (.aload_n 0, 1) := dk_42 (dk_at dksX5_isOf_0 0 rfl rfl)
theorem dX5_isOf_1 : decode cX5_isOf 1 = .ok (.getfield 7, 3) := dk_180 0 7 (dk_at dksX5_isOf_0 1 rfl rfl)
theorem dX5_isOf_4 : decode cX5_isOf 4 = .ok (.getfield 35, 3) := dk_180 0 35 (dk_at dksX5_isOf_0 4 rfl rfl)
theorem dX5_isOf_7 : decode cX5_isOf 7 = .ok (.iload_n 1, 1) := dk_27 (dk_at dksX5_isOf_0 7 rfl rfl)
theorem dX5_isOf_8 : decode cX5_isOf 8 = .ok (.if_icmp .eq 14, 3) := dk_159 0 14 (dk_at dksX5_isOf_0 8 rfl rfl)
theorem dX5_isOf_11 : decode cX5_isOf 11 = .ok (.aload_n 0, 1) := dk_42 (dk_at dksX5_isOf_0 11 rfl rfl)
theorem dX5_isOf_12 : decode cX5_isOf 12 = .ok (.getfield 13, 3) := dk_180 0 13 (dk_at dksX5_isOf_0 12 rfl rfl)
theorem dX5_isOf_15 : decode cX5_isOf 15 = .ok (.getfield 35, 3) := dk_180 0 35 (dk_at dksX5_isOf_0 15 rfl rfl)
theorem dX5_isOf_18 : decode cX5_isOf 18 = .ok (.iload_n 1, 1) := dk_27 (dk_at dksX5_isOf_0 18 rfl rfl)
theorem dX5_isOf_19 : decode cX5_isOf 19 = .ok (.if_icmp .ne 7, 3) := dk_160 0 7 (dk_at dksX5_isOf_0 19 rfl rfl)
theorem dX5_isOf_22 : decode cX5_isOf 22 = .ok (.iconst 1, 1) := dk_4 (dk_at dksX5_isOf_0 22 rfl rfl)
theorem dX5_isOf_23 : decode cX5_isOf 23 = .ok (.goto 4, 3) := dk_167 0 4 (dk_at dksX5_isOf_1 0 rfl rfl)
theorem dX5_isOf_26 : decode cX5_isOf 26 = .ok (.iconst 0, 1) := dk_3 (dk_at dksX5_isOf_1 3 rfl rfl)
theorem dX5_isOf_27 : decode cX5_isOf 27 = .ok (.ireturn, 1) := dk_172 (dk_at dksX5_isOf_1 4 rfl rfl)
theorem q61 : (Jvm.Cond.initialized "SkinLeague$Match") ∈ lw_all := lw_g (lw_at lw_m1 26 rfl) rfl
theorem q296 : (Jvm.Cond.fieldLinkNest "SkinLeague$Match" (35 : Nat) "SkinLeague$Player" "number" "I" "SkinLeague") ∈ lw_tbl := lw_at lw_m2 21 rfl
theorem q300 : (Jvm.Cond.fieldLinkNest "SkinLeague$Match" (32 : Nat) "SkinLeague$Player" "cheatsSince" "I" "SkinLeague") ∈ lw_tbl := lw_at lw_m2 25 rfl
theorem q347 : (Jvm.Cond.selects "SkinLeague$Match" ({ cls := "java/lang/Object", name := "getClass", desc := "()Ljava/lang/Class;" } : Jvm.MethodName) ({ cls := "java/lang/Object", name := "getClass", desc := "()Ljava/lang/Class;" } : Jvm.MethodName)) ∈ lw_all := lw_g (lw_at lw_m2 72 rfl) rfl
theorem q525 : (Jvm.Cond.instantiable "SkinLeague$Match" (5 : Nat)) ∈ lw_all := lw_g (lw_at lw_m3 10 rfl) rfl
theorem q527 : (Jvm.Cond.instanceMethod ({ cls := "SkinLeague$Match", name := "<init>", desc := "(LSkinLeague$Player;LSkinLeague$Player;III)V" } : Jvm.MethodName)) ∈ lw_all := lw_g (lw_at lw_m3 12 rfl) rfl
theorem q528 : (Jvm.Cond.code ({ cls := "SkinLeague$Match", name := "<init>", desc := "(LSkinLeague$Player;LSkinLeague$Player;III)V" } : Jvm.MethodName) prog_2_method_1_code (6 : Nat) (Option.none : Option Jvm.ClassFile.FieldType)) ∈ lw_all := lw_g (lw_at lw_m3 13 rfl) rfl
theorem q529 : (Jvm.Cond.methodLink "SkinLeague$Match" (1 : Nat) ({ cls := "java/lang/Record", name := "<init>", desc := "()V" } : Jvm.MethodName)) ∈ lw_all := lw_g (lw_at lw_m3 14 rfl) rfl
theorem q533 : (Jvm.Cond.fieldLink "SkinLeague$Match" (7 : Nat) "SkinLeague$Match" "winner" "LSkinLeague$Player;") ∈ lw_all := lw_g (lw_at lw_m3 18 rfl) rfl
theorem q535 : (Jvm.Cond.fieldLink "SkinLeague$Match" (13 : Nat) "SkinLeague$Match" "loser" "LSkinLeague$Player;") ∈ lw_all := lw_g (lw_at lw_m3 20 rfl) rfl
theorem q537 : (Jvm.Cond.fieldLink "SkinLeague$Match" (16 : Nat) "SkinLeague$Match" "region" "I") ∈ lw_all := lw_g (lw_at lw_m3 22 rfl) rfl
theorem q539 : (Jvm.Cond.fieldLink "SkinLeague$Match" (20 : Nat) "SkinLeague$Match" "day" "I") ∈ lw_all := lw_g (lw_at lw_m3 24 rfl) rfl
theorem q541 : (Jvm.Cond.fieldLink "SkinLeague$Match" (23 : Nat) "SkinLeague$Match" "season" "I") ∈ lw_all := lw_g (lw_at lw_m3 26 rfl) rfl
theorem q543 : (Jvm.Cond.laysFinal "SkinLeague$Match" "SkinLeague$Match" "winner" "LSkinLeague$Player;") ∈ lw_all := lw_g (lw_at lw_m3 28 rfl) rfl
theorem q544 : (Jvm.Cond.soleField "SkinLeague$Match" "winner") ∈ lw_all := lw_g (lw_at lw_m3 29 rfl) rfl
theorem q545 : (Jvm.Cond.laysFinal "SkinLeague$Match" "SkinLeague$Match" "loser" "LSkinLeague$Player;") ∈ lw_all := lw_g (lw_at lw_m3 30 rfl) rfl
theorem q546 : (Jvm.Cond.soleField "SkinLeague$Match" "loser") ∈ lw_all := lw_g (lw_at lw_m3 31 rfl) rfl
theorem q547 : (Jvm.Cond.laysFinal "SkinLeague$Match" "SkinLeague$Match" "region" "I") ∈ lw_all := lw_g (lw_at lw_m3 32 rfl) rfl
theorem q548 : (Jvm.Cond.soleField "SkinLeague$Match" "region") ∈ lw_all := lw_g (lw_at lw_m3 33 rfl) rfl
theorem q549 : (Jvm.Cond.laysFinal "SkinLeague$Match" "SkinLeague$Match" "day" "I") ∈ lw_all := lw_g (lw_at lw_m3 34 rfl) rfl
theorem q550 : (Jvm.Cond.soleField "SkinLeague$Match" "day") ∈ lw_all := lw_g (lw_at lw_m3 35 rfl) rfl
theorem q551 : (Jvm.Cond.laysFinal "SkinLeague$Match" "SkinLeague$Match" "season" "I") ∈ lw_all := lw_g (lw_at lw_m3 36 rfl) rfl
theorem q552 : (Jvm.Cond.soleField "SkinLeague$Match" "season") ∈ lw_all := lw_g (lw_at lw_m3 37 rfl) rfl
theorem q553 : (Jvm.Cond.superclass "SkinLeague$Match" "java/lang/Record") ∈ lw_all := lw_g (lw_at lw_m3 38 rfl) rfl
theorem q572 : (Jvm.Cond.instanceMethod ({ cls := "SkinLeague$Match", name := "stands", desc := "()Z" } : Jvm.MethodName)) ∈ lw_all := lw_g (lw_at lw_m3 57 rfl) rfl
theorem q573 : (Jvm.Cond.selects "SkinLeague$Match" ({ cls := "SkinLeague$Match", name := "stands", desc := "()Z" } : Jvm.MethodName) ({ cls := "SkinLeague$Match", name := "stands", desc := "()Z" } : Jvm.MethodName)) ∈ lw_all := lw_g (lw_at lw_m3 58 rfl) rfl
theorem q574 : (Jvm.Cond.code ({ cls := "SkinLeague$Match", name := "stands", desc := "()Z" } : Jvm.MethodName) prog_2_method_2_code (1 : Nat) (Option.some Jvm.ClassFile.FieldType.boolean)) ∈ lw_all := lw_g (lw_at lw_m3 59 rfl) rfl
theorem q575 : (Jvm.Cond.methodLink "SkinLeague$Match" (26 : Nat) ({ cls := "SkinLeague$Player", name := "isCheat", desc := "()Z" } : Jvm.MethodName)) ∈ lw_all := lw_g (lw_at lw_m3 60 rfl) rfl
theorem q586 : (Jvm.Cond.instanceMethod ({ cls := "SkinLeague$Match", name := "isOf", desc := "(I)Z" } : Jvm.MethodName)) ∈ lw_all := lw_g (lw_at lw_m3 71 rfl) rfl
theorem q587 : (Jvm.Cond.selects "SkinLeague$Match" ({ cls := "SkinLeague$Match", name := "isOf", desc := "(I)Z" } : Jvm.MethodName) ({ cls := "SkinLeague$Match", name := "isOf", desc := "(I)Z" } : Jvm.MethodName)) ∈ lw_all := lw_g (lw_at lw_m3 72 rfl) rfl
theorem q588 : (Jvm.Cond.code ({ cls := "SkinLeague$Match", name := "isOf", desc := "(I)Z" } : Jvm.MethodName) prog_2_method_3_code (2 : Nat) (Option.some Jvm.ClassFile.FieldType.boolean)) ∈ lw_all := lw_g (lw_at lw_m3 73 rfl) rfl
theorem q679 : (Jvm.Cond.selects "SkinLeague$Match" ({ cls := "java/lang/Object", name := "hashCode", desc := "()I" } : Jvm.MethodName) ({ cls := "SkinLeague$Match", name := "hashCode", desc := "()I" } : Jvm.MethodName)) ∈ lw_all := lw_g (lw_at lw_m3 164 rfl) rfl
theorem q680 : (Jvm.Cond.instanceMethod ({ cls := "SkinLeague$Match", name := "hashCode", desc := "()I" } : Jvm.MethodName)) ∈ lw_all := lw_g (lw_at lw_m3 165 rfl) rfl
theorem q681 : (Jvm.Cond.code ({ cls := "SkinLeague$Match", name := "hashCode", desc := "()I" } : Jvm.MethodName) prog_2_method_5_code (1 : Nat) (Option.some Jvm.ClassFile.FieldType.int)) ∈ lw_all := lw_g (lw_at lw_m3 166 rfl) rfl
theorem q1300 : (Jvm.Cond.selects "SkinLeague$Match" ({ cls := "java/lang/Object", name := "equals", desc := "(Ljava/lang/Object;)Z" } : Jvm.MethodName) ({ cls := "SkinLeague$Match", name := "equals", desc := "(Ljava/lang/Object;)Z" } : Jvm.MethodName)) ∈ lw_all := lw_g (lw_at lw_m6 65 rfl) rfl
theorem q1301 : (Jvm.Cond.instanceMethod ({ cls := "SkinLeague$Match", name := "equals", desc := "(Ljava/lang/Object;)Z" } : Jvm.MethodName)) ∈ lw_all := lw_g (lw_at lw_m6 66 rfl) rfl
theorem q1302 : (Jvm.Cond.code ({ cls := "SkinLeague$Match", name := "equals", desc := "(Ljava/lang/Object;)Z" } : Jvm.MethodName) prog_2_method_6_code (2 : Nat) (Option.some Jvm.ClassFile.FieldType.boolean)) ∈ lw_all := lw_g (lw_at lw_m6 67 rfl) rfl
theorem q2092 : (Jvm.Cond.castable "SkinLeague$Match" "java/lang/Object") ∈ lw_tbl := lw_at lw_m9 137 rfl
theorem in_X5 : ∀ w ∈ wsX50, w ∈ lw_all := lw_in wsX50 [543, 545, 547, 549, 551] (by decide +kernel) (by decide +kernel)
/-! SkinLeague$Spot -/
def RX6 : String := "SkinLeague$Spot"
def TX6 : u_T := fun k => match k with
  | 0 => ("SkinLeague$Spot", "season", "I", true)
  | _ => ("SkinLeague$Spot", "place", "I", true)
def tyX6 : Nat → FieldType := fun k => match k with
  | 0 => .int
  | _ => .int
abbrev wsX60 : List Cond := u_ws RX6 TX6 2
theorem nmX6 : ∀ a, a < 2 → ∀ b, b < 2 → a ≠ b → (TX6 a).2.1 ≠ (TX6 b).2.1 := by decide +kernel
theorem tyX6_ok : ∀ k, k < 2 → parseFieldDescriptor (TX6 k).2.2.1 = some (tyX6 k) := by decide +kernel
abbrev cX6_init : ByteArray := prog_8_method_1_code
def yX6_init : MethodName := ⟨RX6, "<init>", "(II)V"⟩
def dkwX6_init_0 : List UInt8 := [42, 183, 0, 3, 42, 27, 181, 0, 9, 42, 28, 181, 0, 15, 177]
abbrev dktX6_init_0 : List UInt8 := dkwX6_init_0 ++ []
theorem dksX6_init_0 : cX6_init.data.toList.drop 0 = dktX6_init_0 := by decide +kernel
theorem dX6_init_0 : decode cX6_init 0 = .ok (.aload_n 0, 1) := dk_42 (dk_at dksX6_init_0 0 rfl rfl)
theorem dX6_init_1 : decode cX6_init 1 = .ok (.invokespecial 3, 3) := dk_183 0 3 (dk_at dksX6_init_0 1 rfl rfl)
theorem dX6_init_4 : decode cX6_init 4 = .ok (.aload_n 0, 1) := dk_42 (dk_at dksX6_init_0 4 rfl rfl)
theorem dX6_init_5 : decode cX6_init 5 = .ok (.iload_n 1, 1) := dk_27 (dk_at dksX6_init_0 5 rfl rfl)
theorem dX6_init_6 : decode cX6_init 6 = .ok (.putfield 9, 3) := dk_181 0 9 (dk_at dksX6_init_0 6 rfl rfl)
theorem dX6_init_9 : decode cX6_init 9 = .ok (.aload_n 0, 1) := dk_42 (dk_at dksX6_init_0 9 rfl rfl)
theorem dX6_init_10 : decode cX6_init 10 = .ok (.iload_n 2, 1) := dk_28 (dk_at dksX6_init_0 10 rfl rfl)
theorem dX6_init_11 : decode cX6_init 11 = .ok (.putfield 15, 3) := dk_181 0 15 (dk_at dksX6_init_0 11 rfl rfl)
theorem dX6_init_14 : decode cX6_init 14 = .ok (.return_, 1) := dk_177 (dk_at dksX6_init_0 14 rfl rfl)
abbrev cX6_hashCode : ByteArray := prog_8_method_3_code
def yX6_hashCode : MethodName := ⟨RX6, "hashCode", "()I"⟩
def dkwX6_hashCode_0 : List UInt8 := [7, 42, 180, 0, 9, 104, 42, 180, 0, 15, 96, 172]
abbrev dktX6_hashCode_0 : List UInt8 := dkwX6_hashCode_0 ++ []
theorem dksX6_hashCode_0 : cX6_hashCode.data.toList.drop 0 = dktX6_hashCode_0 := by decide +kernel
theorem dX6_hashCode_0 : decode cX6_hashCode 0 = .ok (.iconst 4, 1) := dk_7 (dk_at dksX6_hashCode_0 0 rfl rfl)
theorem dX6_hashCode_1 : decode cX6_hashCode 1 = .ok (.aload_n 0, 1) := dk_42 (dk_at dksX6_hashCode_0 1 rfl rfl)
theorem dX6_hashCode_2 : decode cX6_hashCode 2 = .ok (.getfield 9, 3) := dk_180 0 9 (dk_at dksX6_hashCode_0 2 rfl rfl)
theorem dX6_hashCode_5 : decode cX6_hashCode 5 = .ok (.imul, 1) := dk_104 (dk_at dksX6_hashCode_0 5 rfl rfl)
theorem dX6_hashCode_6 : decode cX6_hashCode 6 = .ok (.aload_n 0, 1) := dk_42 (dk_at dksX6_hashCode_0 6 rfl rfl)
theorem dX6_hashCode_7 : decode cX6_hashCode 7 = .ok (.getfield 15, 3) := dk_180 0 15 (dk_at dksX6_hashCode_0 7 rfl rfl)
theorem dX6_hashCode_10 : decode cX6_hashCode 10 = .ok (.iadd, 1) := dk_96 (dk_at dksX6_hashCode_0 10 rfl rfl)
theorem dX6_hashCode_11 : decode cX6_hashCode 11 = .ok (.ireturn, 1) := dk_172 (dk_at dksX6_hashCode_0 11 rfl rfl)
abbrev cX6_equals : ByteArray := prog_8_method_2_code
def yX6_equals : MethodName := ⟨RX6, "equals", "(Ljava/lang/Object;)Z"⟩
def dkwX6_equals_1 : List UInt8 := [192, 0, 10, 180, 0, 15, 42, 180, 0, 15, 160, 0, 7, 4, 167, 0, 4, 3, 172]
abbrev dktX6_equals_1 : List UInt8 := dkwX6_equals_1 ++ []
def dkwX6_equals_0 : List UInt8 := [43, 193, 0, 10, 153, 0, 35, 43, 192, 0, 10, 180, 0, 9, 42, 180, 0, 9, 160, 0, 21, 43]
abbrev dktX6_equals_0 : List UInt8 := dkwX6_equals_0 ++ dktX6_equals_1
theorem dksX6_equals_0 : cX6_equals.data.toList.drop 0 = dktX6_equals_0 := by decide +kernel
theorem dksX6_equals_1 : cX6_equals.data.toList.drop 22 = dktX6_equals_1 := dk_seg dksX6_equals_0 22 rfl rfl
theorem dX6_equals_0 : decode cX6_equals 0 = .ok (.aload_n 1, 1) := dk_43 (dk_at dksX6_equals_0 0 rfl rfl)
theorem dX6_equals_1 : decode cX6_equals 1 = .ok (.instanceof 10, 3) := dk_193 0 10 (dk_at dksX6_equals_0 1 rfl rfl)
theorem dX6_equals_4 : decode cX6_equals 4 = .ok (.ifCond .eq 35, 3) := dk_153 0 35 (dk_at dksX6_equals_0 4 rfl rfl)
theorem dX6_equals_7 : decode cX6_equals 7 = .ok (.aload_n 1, 1) := dk_43 (dk_at dksX6_equals_0 7 rfl rfl)
theorem dX6_equals_8 : decode cX6_equals 8 = .ok (.checkcast 10, 3) := dk_192 0 10 (dk_at dksX6_equals_0 8 rfl rfl)
theorem dX6_equals_11 : decode cX6_equals 11 = .ok (.getfield 9, 3) := dk_180 0 9 (dk_at dksX6_equals_0 11 rfl rfl)
theorem dX6_equals_14 : decode cX6_equals 14 = .ok (.aload_n 0, 1) := dk_42 (dk_at dksX6_equals_0 14 rfl rfl)
theorem dX6_equals_15 : decode cX6_equals 15 = .ok (.getfield 9, 3) := dk_180 0 9 (dk_at dksX6_equals_0 15 rfl rfl)
theorem dX6_equals_18 : decode cX6_equals 18 = .ok (.if_icmp .ne 21, 3) := dk_160 0 21 (dk_at dksX6_equals_0 18 rfl rfl)
theorem dX6_equals_21 : decode cX6_equals 21 = .ok (.aload_n 1, 1) := dk_43 (dk_at dksX6_equals_0 21 rfl rfl)
theorem dX6_equals_22 : decode cX6_equals 22 = .ok (.checkcast 10, 3) := dk_192 0 10 (dk_at dksX6_equals_1 0 rfl rfl)
theorem dX6_equals_25 : decode cX6_equals 25 = .ok (.getfield 15, 3) := dk_180 0 15 (dk_at dksX6_equals_1 3 rfl rfl)
theorem dX6_equals_28 : decode cX6_equals 28 = .ok (.aload_n 0, 1) := dk_42 (dk_at dksX6_equals_1 6 rfl rfl)
theorem dX6_equals_29 : decode cX6_equals 29 = .ok (.getfield 15, 3) := dk_180 0 15 (dk_at dksX6_equals_1 7 rfl rfl)
theorem dX6_equals_32 : decode cX6_equals 32 = .ok (.if_icmp .ne 7, 3) := dk_160 0 7 (dk_at dksX6_equals_1 10 rfl rfl)
theorem dX6_equals_35 : decode cX6_equals 35 = .ok (.iconst 1, 1) := dk_4 (dk_at dksX6_equals_1 13 rfl rfl)
theorem dX6_equals_36 : decode cX6_equals 36 = .ok (.goto 4, 3) := dk_167 0 4 (dk_at dksX6_equals_1 14 rfl rfl)
theorem dX6_equals_39 : decode cX6_equals 39 = .ok (.iconst 0, 1) := dk_3 (dk_at dksX6_equals_1 17 rfl rfl)
theorem dX6_equals_40 : decode cX6_equals 40 = .ok (.ireturn, 1) := dk_172 (dk_at dksX6_equals_1 18 rfl rfl)
abbrev cX6_toString : ByteArray := prog_8_method_4_code
def yX6_toString : MethodName := ⟨RX6, "toString", "()Ljava/lang/String;"⟩
def dkwX6_toString_1 : List UInt8 := [182, 0, 21, 182, 0, 30, 176]
abbrev dktX6_toString_1 : List UInt8 := dkwX6_toString_1 ++ []
def dkwX6_toString_0 : List UInt8 := [187, 0, 18, 89, 183, 0, 20, 42, 180, 0, 9, 182, 0, 21, 18, 25, 182, 0, 27, 42, 180, 0, 15]
abbrev dktX6_toString_0 : List UInt8 := dkwX6_toString_0 ++ dktX6_toString_1
theorem dksX6_toString_0 : cX6_toString.data.toList.drop 0 = dktX6_toString_0 := by decide +kernel
theorem dksX6_toString_1 : cX6_toString.data.toList.drop 23 = dktX6_toString_1 := dk_seg dksX6_toString_0 23 rfl rfl
theorem dX6_toString_0 : decode cX6_toString 0 = .ok (.new 18, 3) := dk_187 0 18 (dk_at dksX6_toString_0 0 rfl rfl)
theorem dX6_toString_3 : decode cX6_toString 3 = .ok (.dup, 1) := dk_89 (dk_at dksX6_toString_0 3 rfl rfl)
theorem dX6_toString_4 : decode cX6_toString 4 = .ok (.invokespecial 20, 3) := dk_183 0 20 (dk_at dksX6_toString_0 4 rfl rfl)
theorem dX6_toString_7 : decode cX6_toString 7 = .ok (.aload_n 0, 1) := dk_42 (dk_at dksX6_toString_0 7 rfl rfl)
theorem dX6_toString_8 : decode cX6_toString 8 = .ok (.getfield 9, 3) := dk_180 0 9 (dk_at dksX6_toString_0 8 rfl rfl)
theorem dX6_toString_11 : decode cX6_toString 11 = .ok (.invokevirtual 21, 3) := dk_182 0 21 (dk_at dksX6_toString_0 11 rfl rfl)
theorem dX6_toString_14 : decode cX6_toString 14 = .ok (.ldc 25, 2) := dk_18 25 (dk_at dksX6_toString_0 14 rfl rfl)
theorem dX6_toString_16 : decode cX6_toString 16 = .ok (.invokevirtual 27, 3) := dk_182 0 27 (dk_at dksX6_toString_0 16 rfl rfl)
theorem dX6_toString_19 : decode cX6_toString 19 = .ok (.aload_n 0, 1) := dk_42 (dk_at dksX6_toString_0 19 rfl rfl)
theorem dX6_toString_20 : decode cX6_toString 20 = .ok (.getfield 15, 3) := dk_180 0 15 (dk_at dksX6_toString_0 20 rfl rfl)
theorem dX6_toString_23 : decode cX6_toString 23 = .ok (.invokevirtual 21, 3) := dk_182 0 21 (dk_at dksX6_toString_1 0 rfl rfl)
theorem dX6_toString_26 : decode cX6_toString 26 = .ok (.invokevirtual 30, 3) := dk_182 0 30 (dk_at dksX6_toString_1 3 rfl rfl)
theorem dX6_toString_29 : decode cX6_toString 29 = .ok (.areturn, 1) := dk_176 (dk_at dksX6_toString_1 6 rfl rfl)
theorem q62 : (Jvm.Cond.initialized "SkinLeague$Spot") ∈ lw_all := lw_g (lw_at lw_m1 27 rfl) rfl
theorem q352 : (Jvm.Cond.selects "SkinLeague$Spot" ({ cls := "java/lang/Object", name := "getClass", desc := "()Ljava/lang/Class;" } : Jvm.MethodName) ({ cls := "java/lang/Object", name := "getClass", desc := "()Ljava/lang/Class;" } : Jvm.MethodName)) ∈ lw_all := lw_g (lw_at lw_m2 77 rfl) rfl
theorem q597 : (Jvm.Cond.instantiable "SkinLeague$Spot" (2 : Nat)) ∈ lw_all := lw_g (lw_at lw_m3 82 rfl) rfl
theorem q599 : (Jvm.Cond.instanceMethod ({ cls := "SkinLeague$Spot", name := "<init>", desc := "(II)V" } : Jvm.MethodName)) ∈ lw_all := lw_g (lw_at lw_m3 84 rfl) rfl
theorem q600 : (Jvm.Cond.code ({ cls := "SkinLeague$Spot", name := "<init>", desc := "(II)V" } : Jvm.MethodName) prog_8_method_1_code (3 : Nat) (Option.none : Option Jvm.ClassFile.FieldType)) ∈ lw_all := lw_g (lw_at lw_m3 85 rfl) rfl
theorem q601 : (Jvm.Cond.methodLink "SkinLeague$Spot" (3 : Nat) ({ cls := "java/lang/Object", name := "<init>", desc := "()V" } : Jvm.MethodName)) ∈ lw_all := lw_g (lw_at lw_m3 86 rfl) rfl
theorem q602 : (Jvm.Cond.fieldLink "SkinLeague$Spot" (9 : Nat) "SkinLeague$Spot" "season" "I") ∈ lw_all := lw_g (lw_at lw_m3 87 rfl) rfl
theorem q604 : (Jvm.Cond.fieldLink "SkinLeague$Spot" (15 : Nat) "SkinLeague$Spot" "place" "I") ∈ lw_all := lw_g (lw_at lw_m3 89 rfl) rfl
theorem q606 : (Jvm.Cond.laysFinal "SkinLeague$Spot" "SkinLeague$Spot" "season" "I") ∈ lw_all := lw_g (lw_at lw_m3 91 rfl) rfl
theorem q607 : (Jvm.Cond.soleField "SkinLeague$Spot" "season") ∈ lw_all := lw_g (lw_at lw_m3 92 rfl) rfl
theorem q608 : (Jvm.Cond.laysFinal "SkinLeague$Spot" "SkinLeague$Spot" "place" "I") ∈ lw_all := lw_g (lw_at lw_m3 93 rfl) rfl
theorem q609 : (Jvm.Cond.soleField "SkinLeague$Spot" "place") ∈ lw_all := lw_g (lw_at lw_m3 94 rfl) rfl
theorem q610 : (Jvm.Cond.superclass "SkinLeague$Spot" "java/lang/Object") ∈ lw_all := lw_g (lw_at lw_m3 95 rfl) rfl
theorem q691 : (Jvm.Cond.instanceMethod ({ cls := "SkinLeague$Spot", name := "hashCode", desc := "()I" } : Jvm.MethodName)) ∈ lw_all := lw_g (lw_at lw_m3 176 rfl) rfl
theorem q692 : (Jvm.Cond.code ({ cls := "SkinLeague$Spot", name := "hashCode", desc := "()I" } : Jvm.MethodName) prog_8_method_3_code (1 : Nat) (Option.some Jvm.ClassFile.FieldType.int)) ∈ lw_all := lw_g (lw_at lw_m3 177 rfl) rfl
theorem q977 : (Jvm.Cond.selects "SkinLeague$Spot" ({ cls := "java/lang/Object", name := "hashCode", desc := "()I" } : Jvm.MethodName) ({ cls := "SkinLeague$Spot", name := "hashCode", desc := "()I" } : Jvm.MethodName)) ∈ lw_all := lw_g (lw_at lw_m4 222 rfl) rfl
theorem q1308 : (Jvm.Cond.instanceMethod ({ cls := "SkinLeague$Spot", name := "equals", desc := "(Ljava/lang/Object;)Z" } : Jvm.MethodName)) ∈ lw_all := lw_g (lw_at lw_m6 73 rfl) rfl
theorem q1309 : (Jvm.Cond.code ({ cls := "SkinLeague$Spot", name := "equals", desc := "(Ljava/lang/Object;)Z" } : Jvm.MethodName) prog_8_method_2_code (2 : Nat) (Option.some Jvm.ClassFile.FieldType.boolean)) ∈ lw_all := lw_g (lw_at lw_m6 74 rfl) rfl
theorem q1310 : (Jvm.Cond.classLink "SkinLeague$Spot" (10 : Nat) "SkinLeague$Spot") ∈ lw_all := lw_g (lw_at lw_m6 75 rfl) rfl
theorem q1320 : (Jvm.Cond.selects "SkinLeague$Spot" ({ cls := "java/lang/Object", name := "equals", desc := "(Ljava/lang/Object;)Z" } : Jvm.MethodName) ({ cls := "SkinLeague$Spot", name := "equals", desc := "(Ljava/lang/Object;)Z" } : Jvm.MethodName)) ∈ lw_all := lw_g (lw_at lw_m6 85 rfl) rfl
theorem q1759 : (Jvm.Cond.selects "SkinLeague$Spot" ({ cls := "java/lang/Object", name := "toString", desc := "()Ljava/lang/String;" } : Jvm.MethodName) ({ cls := "SkinLeague$Spot", name := "toString", desc := "()Ljava/lang/String;" } : Jvm.MethodName)) ∈ lw_all := lw_g (lw_at lw_m8 44 rfl) rfl
theorem q1760 : (Jvm.Cond.instanceMethod ({ cls := "SkinLeague$Spot", name := "toString", desc := "()Ljava/lang/String;" } : Jvm.MethodName)) ∈ lw_all := lw_g (lw_at lw_m8 45 rfl) rfl
theorem q1761 : (Jvm.Cond.code ({ cls := "SkinLeague$Spot", name := "toString", desc := "()Ljava/lang/String;" } : Jvm.MethodName) prog_8_method_4_code (1 : Nat) (Option.some (Jvm.ClassFile.FieldType.object "java/lang/String"))) ∈ lw_all := lw_g (lw_at lw_m8 46 rfl) rfl
theorem q1762 : (Jvm.Cond.classLink "SkinLeague$Spot" (18 : Nat) "java/lang/StringBuilder") ∈ lw_all := lw_g (lw_at lw_m8 47 rfl) rfl
theorem q1763 : (Jvm.Cond.methodLink "SkinLeague$Spot" (20 : Nat) ({ cls := "java/lang/StringBuilder", name := "<init>", desc := "()V" } : Jvm.MethodName)) ∈ lw_all := lw_g (lw_at lw_m8 48 rfl) rfl
theorem q1764 : (Jvm.Cond.methodLink "SkinLeague$Spot" (21 : Nat) ({ cls := "java/lang/StringBuilder", name := "append", desc := "(I)Ljava/lang/StringBuilder;" } : Jvm.MethodName)) ∈ lw_all := lw_g (lw_at lw_m8 49 rfl) rfl
theorem q1765 : (Jvm.Cond.stringRef "SkinLeague$Spot" (25 : Nat) "/") ∈ lw_tbl := lw_at lw_m8 50 rfl
theorem q1766 : (Jvm.Cond.methodLink "SkinLeague$Spot" (27 : Nat) ({ cls := "java/lang/StringBuilder", name := "append", desc := "(Ljava/lang/String;)Ljava/lang/StringBuilder;" } : Jvm.MethodName)) ∈ lw_all := lw_g (lw_at lw_m8 51 rfl) rfl
theorem q1767 : (Jvm.Cond.methodLink "SkinLeague$Spot" (30 : Nat) ({ cls := "java/lang/StringBuilder", name := "toString", desc := "()Ljava/lang/String;" } : Jvm.MethodName)) ∈ lw_all := lw_g (lw_at lw_m8 52 rfl) rfl
theorem q2093 : (Jvm.Cond.castable "SkinLeague$Spot" "java/lang/Object") ∈ lw_tbl := lw_at lw_m9 138 rfl
theorem in_X6 : ∀ w ∈ wsX60, w ∈ lw_all := lw_in wsX60 [606, 608] (by decide +kernel) (by decide +kernel)
/-! SkinLeague$Thing -/
def RX7 : String := "SkinLeague$Thing"
abbrev cX7_init : ByteArray := prog_10_method_1_code
def yX7_init : MethodName := ⟨RX7, "<init>", "(I)V"⟩
def dkwX7_init_0 : List UInt8 := [42, 183, 0, 1, 42, 27, 181, 0, 7, 177]
abbrev dktX7_init_0 : List UInt8 := dkwX7_init_0 ++ []
theorem dksX7_init_0 : cX7_init.data.toList.drop 0 = dktX7_init_0 := by decide +kernel
theorem dX7_init_0 : decode cX7_init 0 = .ok (.aload_n 0, 1) := dk_42 (dk_at dksX7_init_0 0 rfl rfl)
theorem dX7_init_1 : decode cX7_init 1 = .ok (.invokespecial 1, 3) := dk_183 0 1 (dk_at dksX7_init_0 1 rfl rfl)
theorem dX7_init_4 : decode cX7_init 4 = .ok (.aload_n 0, 1) := dk_42 (dk_at dksX7_init_0 4 rfl rfl)
theorem dX7_init_5 : decode cX7_init 5 = .ok (.iload_n 1, 1) := dk_27 (dk_at dksX7_init_0 5 rfl rfl)
theorem dX7_init_6 : decode cX7_init 6 = .ok (.putfield 7, 3) := dk_181 0 7 (dk_at dksX7_init_0 6 rfl rfl)
theorem dX7_init_9 : decode cX7_init 9 = .ok (.return_, 1) := dk_177 (dk_at dksX7_init_0 9 rfl rfl)
abbrev cX7_number : ByteArray := prog_10_method_2_code
def yX7_number : MethodName := ⟨RX7, "number", "()I"⟩
theorem dX7_number_0 : decode cX7_number 0 = .ok (.aload_n 0, 1) := by decide +kernel
theorem dX7_number_1 : decode cX7_number 1 = .ok (.getfield 7, 3) := by decide +kernel
theorem dX7_number_4 : decode cX7_number 4 = .ok (.ireturn, 1) := by decide +kernel
abbrev cX7_toString : ByteArray := prog_10_method_3_code
def yX7_toString : MethodName := ⟨RX7, "toString", "()Ljava/lang/String;"⟩
def dkwX7_toString_0 : List UInt8 := [187, 0, 13, 89, 183, 0, 15, 42, 180, 0, 7, 182, 0, 16, 18, 20, 182, 0, 22, 182, 0, 25, 176]
abbrev dktX7_toString_0 : List UInt8 := dkwX7_toString_0 ++ []
theorem dksX7_toString_0 : cX7_toString.data.toList.drop 0 = dktX7_toString_0 := by decide +kernel
theorem dX7_toString_0 : decode cX7_toString 0 = .ok (.new 13, 3) := dk_187 0 13 (dk_at dksX7_toString_0 0 rfl rfl)
theorem dX7_toString_3 : decode cX7_toString 3 = .ok (.dup, 1) := dk_89 (dk_at dksX7_toString_0 3 rfl rfl)
theorem dX7_toString_4 : decode cX7_toString 4 = .ok (.invokespecial 15, 3) := dk_183 0 15 (dk_at dksX7_toString_0 4 rfl rfl)
theorem dX7_toString_7 : decode cX7_toString 7 = .ok (.aload_n 0, 1) := dk_42 (dk_at dksX7_toString_0 7 rfl rfl)
theorem dX7_toString_8 : decode cX7_toString 8 = .ok (.getfield 7, 3) := dk_180 0 7 (dk_at dksX7_toString_0 8 rfl rfl)
theorem dX7_toString_11 : decode cX7_toString 11 = .ok (.invokevirtual 16, 3) := dk_182 0 16 (dk_at dksX7_toString_0 11 rfl rfl)
theorem dX7_toString_14 : decode cX7_toString 14 = .ok (.ldc 20, 2) := dk_18 20 (dk_at dksX7_toString_0 14 rfl rfl)
theorem dX7_toString_16 : decode cX7_toString 16 = .ok (.invokevirtual 22, 3) := dk_182 0 22 (dk_at dksX7_toString_0 16 rfl rfl)
theorem dX7_toString_19 : decode cX7_toString 19 = .ok (.invokevirtual 25, 3) := dk_182 0 25 (dk_at dksX7_toString_0 19 rfl rfl)
theorem dX7_toString_22 : decode cX7_toString 22 = .ok (.areturn, 1) := dk_176 (dk_at dksX7_toString_0 22 rfl rfl)
theorem q63 : (Jvm.Cond.initialized "SkinLeague$Thing") ∈ lw_all := lw_g (lw_at lw_m1 28 rfl) rfl
theorem q630 : (Jvm.Cond.instanceMethod ({ cls := "SkinLeague$Thing", name := "<init>", desc := "(I)V" } : Jvm.MethodName)) ∈ lw_all := lw_g (lw_at lw_m3 115 rfl) rfl
theorem q631 : (Jvm.Cond.code ({ cls := "SkinLeague$Thing", name := "<init>", desc := "(I)V" } : Jvm.MethodName) prog_10_method_1_code (2 : Nat) (Option.none : Option Jvm.ClassFile.FieldType)) ∈ lw_all := lw_g (lw_at lw_m3 116 rfl) rfl
theorem q632 : (Jvm.Cond.methodLink "SkinLeague$Thing" (1 : Nat) ({ cls := "java/lang/Object", name := "<init>", desc := "()V" } : Jvm.MethodName)) ∈ lw_all := lw_g (lw_at lw_m3 117 rfl) rfl
theorem q645 : (Jvm.Cond.fieldLink "SkinLeague$Thing" (7 : Nat) "SkinLeague$Thing" "number" "I") ∈ lw_all := lw_g (lw_at lw_m3 130 rfl) rfl
theorem q659 : (Jvm.Cond.soleField "SkinLeague$Thing" "number") ∈ lw_all := lw_g (lw_at lw_m3 144 rfl) rfl
theorem q1546 : (Jvm.Cond.instanceMethod ({ cls := "SkinLeague$Thing", name := "number", desc := "()I" } : Jvm.MethodName)) ∈ lw_all := lw_g (lw_at lw_m7 71 rfl) rfl
theorem q1547 : (Jvm.Cond.sameMethod "SkinLeague$Thing" "SkinLeague$Thing" "number" "()I") ∈ lw_all := lw_g (lw_at lw_m7 72 rfl) rfl
theorem q1549 : (Jvm.Cond.code ({ cls := "SkinLeague$Thing", name := "number", desc := "()I" } : Jvm.MethodName) prog_10_method_2_code (1 : Nat) (Option.some Jvm.ClassFile.FieldType.int)) ∈ lw_all := lw_g (lw_at lw_m7 74 rfl) rfl
theorem q1734 : (Jvm.Cond.instanceMethod ({ cls := "SkinLeague$Thing", name := "toString", desc := "()Ljava/lang/String;" } : Jvm.MethodName)) ∈ lw_all := lw_g (lw_at lw_m8 19 rfl) rfl
theorem q1735 : (Jvm.Cond.code ({ cls := "SkinLeague$Thing", name := "toString", desc := "()Ljava/lang/String;" } : Jvm.MethodName) prog_10_method_3_code (1 : Nat) (Option.some (Jvm.ClassFile.FieldType.object "java/lang/String"))) ∈ lw_all := lw_g (lw_at lw_m8 20 rfl) rfl
theorem q1736 : (Jvm.Cond.classLink "SkinLeague$Thing" (13 : Nat) "java/lang/StringBuilder") ∈ lw_all := lw_g (lw_at lw_m8 21 rfl) rfl
theorem q1737 : (Jvm.Cond.methodLink "SkinLeague$Thing" (15 : Nat) ({ cls := "java/lang/StringBuilder", name := "<init>", desc := "()V" } : Jvm.MethodName)) ∈ lw_all := lw_g (lw_at lw_m8 22 rfl) rfl
theorem q1738 : (Jvm.Cond.methodLink "SkinLeague$Thing" (16 : Nat) ({ cls := "java/lang/StringBuilder", name := "append", desc := "(I)Ljava/lang/StringBuilder;" } : Jvm.MethodName)) ∈ lw_all := lw_g (lw_at lw_m8 23 rfl) rfl
theorem q1739 : (Jvm.Cond.stringRef "SkinLeague$Thing" (20 : Nat) ":") ∈ lw_tbl := lw_at lw_m8 24 rfl
theorem q1740 : (Jvm.Cond.methodLink "SkinLeague$Thing" (22 : Nat) ({ cls := "java/lang/StringBuilder", name := "append", desc := "(Ljava/lang/String;)Ljava/lang/StringBuilder;" } : Jvm.MethodName)) ∈ lw_all := lw_g (lw_at lw_m8 25 rfl) rfl
theorem q1741 : (Jvm.Cond.methodLink "SkinLeague$Thing" (25 : Nat) ({ cls := "java/lang/StringBuilder", name := "toString", desc := "()Ljava/lang/String;" } : Jvm.MethodName)) ∈ lw_all := lw_g (lw_at lw_m8 26 rfl) rfl
theorem q2074 : (Jvm.Cond.sameMethod "SkinLeague$Thing" "SkinLeague$Thing" "toString" "()Ljava/lang/String;") ∈ lw_all := lw_g (lw_at lw_m9 119 rfl) rfl
/-! SkinLeague$Prize -/
def RX8 : String := "SkinLeague$Prize"
abbrev cX8_init : ByteArray := prog_4_method_1_code
def yX8_init : MethodName := ⟨RX8, "<init>", "(ILSkinLeague$Spot;)V"⟩
def dkwX8_init_0 : List UInt8 := [42, 27, 183, 0, 1, 42, 44, 181, 0, 7, 177]
abbrev dktX8_init_0 : List UInt8 := dkwX8_init_0 ++ []
theorem dksX8_init_0 : cX8_init.data.toList.drop 0 = dktX8_init_0 := by decide +kernel
theorem dX8_init_0 : decode cX8_init 0 = .ok (.aload_n 0, 1) := dk_42 (dk_at dksX8_init_0 0 rfl rfl)
theorem dX8_init_1 : decode cX8_init 1 = .ok (.iload_n 1, 1) := dk_27 (dk_at dksX8_init_0 1 rfl rfl)
theorem dX8_init_2 : decode cX8_init 2 = .ok (.invokespecial 1, 3) := dk_183 0 1 (dk_at dksX8_init_0 2 rfl rfl)
theorem dX8_init_5 : decode cX8_init 5 = .ok (.aload_n 0, 1) := dk_42 (dk_at dksX8_init_0 5 rfl rfl)
theorem dX8_init_6 : decode cX8_init 6 = .ok (.aload_n 2, 1) := dk_44 (dk_at dksX8_init_0 6 rfl rfl)
theorem dX8_init_7 : decode cX8_init 7 = .ok (.putfield 7, 3) := dk_181 0 7 (dk_at dksX8_init_0 7 rfl rfl)
theorem dX8_init_10 : decode cX8_init 10 = .ok (.return_, 1) := dk_177 (dk_at dksX8_init_0 10 rfl rfl)
abbrev cX8_spot : ByteArray := prog_4_method_2_code
def yX8_spot : MethodName := ⟨RX8, "spot", "()LSkinLeague$Spot;"⟩
theorem dX8_spot_0 : decode cX8_spot 0 = .ok (.aload_n 0, 1) := by decide +kernel
theorem dX8_spot_1 : decode cX8_spot 1 = .ok (.getfield 7, 3) := by decide +kernel
theorem dX8_spot_4 : decode cX8_spot 4 = .ok (.areturn, 1) := by decide +kernel
abbrev cX8_toString : ByteArray := prog_4_method_3_code
def yX8_toString : MethodName := ⟨RX8, "toString", "()Ljava/lang/String;"⟩
def dkwX8_toString_1 : List UInt8 := [176]
abbrev dktX8_toString_1 : List UInt8 := dkwX8_toString_1 ++ []
def dkwX8_toString_0 : List UInt8 := [187, 0, 13, 89, 183, 0, 15, 42, 183, 0, 18, 182, 0, 22, 42, 180, 0, 7, 182, 0, 26, 182, 0, 29]
abbrev dktX8_toString_0 : List UInt8 := dkwX8_toString_0 ++ dktX8_toString_1
theorem dksX8_toString_0 : cX8_toString.data.toList.drop 0 = dktX8_toString_0 := by decide +kernel
theorem dksX8_toString_1 : cX8_toString.data.toList.drop 24 = dktX8_toString_1 := dk_seg dksX8_toString_0 24 rfl rfl
theorem dX8_toString_0 : decode cX8_toString 0 = .ok (.new 13, 3) := dk_187 0 13 (dk_at dksX8_toString_0 0 rfl rfl)
theorem dX8_toString_3 : decode cX8_toString 3 = .ok (.dup, 1) := dk_89 (dk_at dksX8_toString_0 3 rfl rfl)
theorem dX8_toString_4 : decode cX8_toString 4 = .ok (.invokespecial 15, 3) := dk_183 0 15 (dk_at dksX8_toString_0 4 rfl rfl)
theorem dX8_toString_7 : decode cX8_toString 7 = .ok (.aload_n 0, 1) := dk_42 (dk_at dksX8_toString_0 7 rfl rfl)
theorem dX8_toString_8 : decode cX8_toString 8 = .ok (.invokespecial 18, 3) := dk_183 0 18 (dk_at dksX8_toString_0 8 rfl rfl)
theorem dX8_toString_11 : decode cX8_toString 11 = .ok (.invokevirtual 22, 3) := dk_182 0 22 (dk_at dksX8_toString_0 11 rfl rfl)
theorem dX8_toString_14 : decode cX8_toString 14 = .ok (.aload_n 0, 1) := dk_42 (dk_at dksX8_toString_0 14 rfl rfl)
theorem dX8_toString_15 : decode cX8_toString 15 = .ok (.getfield 7, 3) := dk_180 0 7 (dk_at dksX8_toString_0 15 rfl rfl)
theorem dX8_toString_18 : decode cX8_toString 18 = .ok (.invokevirtual 26, 3) := dk_182 0 26 (dk_at dksX8_toString_0 18 rfl rfl)
theorem dX8_toString_21 : decode cX8_toString 21 = .ok (.invokevirtual 29, 3) := dk_182 0 29 (dk_at dksX8_toString_0 21 rfl rfl)
theorem dX8_toString_24 : decode cX8_toString 24 = .ok (.areturn, 1) := dk_176 (dk_at dksX8_toString_1 0 rfl rfl)
theorem q64 : (Jvm.Cond.initialized "SkinLeague$Prize") ∈ lw_all := lw_g (lw_at lw_m1 29 rfl) rfl
theorem q627 : (Jvm.Cond.instanceMethod ({ cls := "SkinLeague$Prize", name := "<init>", desc := "(ILSkinLeague$Spot;)V" } : Jvm.MethodName)) ∈ lw_all := lw_g (lw_at lw_m3 112 rfl) rfl
theorem q628 : (Jvm.Cond.code ({ cls := "SkinLeague$Prize", name := "<init>", desc := "(ILSkinLeague$Spot;)V" } : Jvm.MethodName) prog_4_method_1_code (3 : Nat) (Option.none : Option Jvm.ClassFile.FieldType)) ∈ lw_all := lw_g (lw_at lw_m3 113 rfl) rfl
theorem q629 : (Jvm.Cond.methodLink "SkinLeague$Prize" (1 : Nat) ({ cls := "SkinLeague$Thing", name := "<init>", desc := "(I)V" } : Jvm.MethodName)) ∈ lw_all := lw_g (lw_at lw_m3 114 rfl) rfl
theorem q644 : (Jvm.Cond.fieldLink "SkinLeague$Prize" (7 : Nat) "SkinLeague$Prize" "spot" "LSkinLeague$Spot;") ∈ lw_all := lw_g (lw_at lw_m3 129 rfl) rfl
theorem q657 : (Jvm.Cond.soleField "SkinLeague$Prize" "spot") ∈ lw_all := lw_g (lw_at lw_m3 142 rfl) rfl
theorem q1704 : (Jvm.Cond.declares ({ cls := "SkinLeague$Prize", name := "spot", desc := "()LSkinLeague$Spot;" } : Jvm.MethodName)) ∈ lw_tbl := lw_at lw_m7 229 rfl
theorem q1706 : (Jvm.Cond.instanceMethod ({ cls := "SkinLeague$Prize", name := "spot", desc := "()LSkinLeague$Spot;" } : Jvm.MethodName)) ∈ lw_all := lw_g (lw_at lw_m7 231 rfl) rfl
theorem q1707 : (Jvm.Cond.code ({ cls := "SkinLeague$Prize", name := "spot", desc := "()LSkinLeague$Spot;" } : Jvm.MethodName) prog_4_method_2_code (1 : Nat) (Option.some (Jvm.ClassFile.FieldType.object "SkinLeague$Spot"))) ∈ lw_all := lw_g (lw_at lw_m7 232 rfl) rfl
theorem q1728 : (Jvm.Cond.instanceMethod ({ cls := "SkinLeague$Prize", name := "toString", desc := "()Ljava/lang/String;" } : Jvm.MethodName)) ∈ lw_all := lw_g (lw_at lw_m8 13 rfl) rfl
theorem q1729 : (Jvm.Cond.code ({ cls := "SkinLeague$Prize", name := "toString", desc := "()Ljava/lang/String;" } : Jvm.MethodName) prog_4_method_3_code (1 : Nat) (Option.some (Jvm.ClassFile.FieldType.object "java/lang/String"))) ∈ lw_all := lw_g (lw_at lw_m8 14 rfl) rfl
theorem q1730 : (Jvm.Cond.classLink "SkinLeague$Prize" (13 : Nat) "java/lang/StringBuilder") ∈ lw_all := lw_g (lw_at lw_m8 15 rfl) rfl
theorem q1731 : (Jvm.Cond.methodLink "SkinLeague$Prize" (15 : Nat) ({ cls := "java/lang/StringBuilder", name := "<init>", desc := "()V" } : Jvm.MethodName)) ∈ lw_all := lw_g (lw_at lw_m8 16 rfl) rfl
theorem q1732 : (Jvm.Cond.methodLink "SkinLeague$Prize" (18 : Nat) ({ cls := "SkinLeague$Thing", name := "toString", desc := "()Ljava/lang/String;" } : Jvm.MethodName)) ∈ lw_all := lw_g (lw_at lw_m8 17 rfl) rfl
theorem q1733 : (Jvm.Cond.superclass "SkinLeague$Prize" "SkinLeague$Thing") ∈ lw_all := lw_g (lw_at lw_m8 18 rfl) rfl
theorem q1742 : (Jvm.Cond.methodLink "SkinLeague$Prize" (22 : Nat) ({ cls := "java/lang/StringBuilder", name := "append", desc := "(Ljava/lang/String;)Ljava/lang/StringBuilder;" } : Jvm.MethodName)) ∈ lw_all := lw_g (lw_at lw_m8 27 rfl) rfl
theorem q1743 : (Jvm.Cond.methodLink "SkinLeague$Prize" (26 : Nat) ({ cls := "java/lang/StringBuilder", name := "append", desc := "(Ljava/lang/Object;)Ljava/lang/StringBuilder;" } : Jvm.MethodName)) ∈ lw_all := lw_g (lw_at lw_m8 28 rfl) rfl
theorem q1804 : (Jvm.Cond.methodLink "SkinLeague$Prize" (29 : Nat) ({ cls := "java/lang/StringBuilder", name := "toString", desc := "()Ljava/lang/String;" } : Jvm.MethodName)) ∈ lw_all := lw_g (lw_at lw_m8 89 rfl) rfl
theorem q2073 : (Jvm.Cond.sameMethod "SkinLeague$Prize" "SkinLeague$Prize" "toString" "()Ljava/lang/String;") ∈ lw_all := lw_g (lw_at lw_m9 118 rfl) rfl
/-! SkinLeague$Skin -/
def RX9 : String := "SkinLeague$Skin"
def TX9 : u_T := fun k => match k with
  | 0 => ("SkinLeague$Thing", "number", "I", true)
  | 1 => ("SkinLeague$Prize", "spot", "LSkinLeague$Spot;", true)
  | 2 => ("SkinLeague$Skin", "sales", "Ljava/util/ArrayList;", true)
  | 3 => ("SkinLeague$Skin", "holder", "LSkinLeague$Player;", false)
  | 4 => ("SkinLeague$Skin", "heir", "LSkinLeague$Player;", false)
  | 5 => ("SkinLeague$Skin", "borrower", "LSkinLeague$Player;", false)
  | _ => ("SkinLeague$Skin", "lentUntil", "I", false)
def tyX9 : Nat → FieldType := fun k => match k with
  | 0 => .int
  | 1 => .object "SkinLeague$Spot"
  | 2 => .object "java/util/ArrayList"
  | 3 => .object "SkinLeague$Player"
  | 4 => .object "SkinLeague$Player"
  | 5 => .object "SkinLeague$Player"
  | _ => .int
abbrev wsX90 : List Cond := u_ws RX9 TX9 7
theorem nmX9 : ∀ a, a < 7 → ∀ b, b < 7 → a ≠ b → (TX9 a).2.1 ≠ (TX9 b).2.1 := by decide +kernel
theorem tyX9_ok : ∀ k, k < 7 → parseFieldDescriptor (TX9 k).2.2.1 = some (tyX9 k) := by decide +kernel
abbrev cX9_init : ByteArray := prog_7_method_1_code
def yX9_init : MethodName := ⟨RX9, "<init>", "(ILSkinLeague$Spot;LSkinLeague$Player;)V"⟩
def dkwX9_init_1 : List UInt8 := [181, 0, 22, 177]
abbrev dktX9_init_1 : List UInt8 := dkwX9_init_1 ++ []
def dkwX9_init_0 : List UInt8 := [42, 27, 44, 183, 0, 1, 42, 187, 0, 7, 89, 183, 0, 9, 181, 0, 12, 42, 45, 181, 0, 18, 42, 45]
abbrev dktX9_init_0 : List UInt8 := dkwX9_init_0 ++ dktX9_init_1
theorem dksX9_init_0 : cX9_init.data.toList.drop 0 = dktX9_init_0 := by decide +kernel
theorem dksX9_init_1 : cX9_init.data.toList.drop 24 = dktX9_init_1 := dk_seg dksX9_init_0 24 rfl rfl
theorem dX9_init_0 : decode cX9_init 0 = .ok (.aload_n 0, 1) := dk_42 (dk_at dksX9_init_0 0 rfl rfl)
theorem dX9_init_1 : decode cX9_init 1 = .ok (.iload_n 1, 1) := dk_27 (dk_at dksX9_init_0 1 rfl rfl)
theorem dX9_init_2 : decode cX9_init 2 = .ok (.aload_n 2, 1) := dk_44 (dk_at dksX9_init_0 2 rfl rfl)
theorem dX9_init_3 : decode cX9_init 3 = .ok (.invokespecial 1, 3) := dk_183 0 1 (dk_at dksX9_init_0 3 rfl rfl)
theorem dX9_init_6 : decode cX9_init 6 = .ok (.aload_n 0, 1) := dk_42 (dk_at dksX9_init_0 6 rfl rfl)
theorem dX9_init_7 : decode cX9_init 7 = .ok (.new 7, 3) := dk_187 0 7 (dk_at dksX9_init_0 7 rfl rfl)
theorem dX9_init_10 : decode cX9_init 10 = .ok (.dup, 1) := dk_89 (dk_at dksX9_init_0 10 rfl rfl)
theorem dX9_init_11 : decode cX9_init 11 = .ok (.invokespecial 9, 3) := dk_183 0 9 (dk_at dksX9_init_0 11 rfl rfl)
theorem dX9_init_14 : decode cX9_init 14 = .ok (.putfield 12, 3) := dk_181 0 12 (dk_at dksX9_init_0 14 rfl rfl)
theorem dX9_init_17 : decode cX9_init 17 = .ok (.aload_n 0, 1) := dk_42 (dk_at dksX9_init_0 17 rfl rfl)
theorem dX9_init_18 : decode cX9_init 18 = .ok (.aload_n 3, 1) := dk_45 (dk_at dksX9_init_0 18 rfl rfl)
theorem dX9_init_19 : decode cX9_init 19 = .ok (.putfield 18, 3) := dk_181 0 18 (dk_at dksX9_init_0 19 rfl rfl)
theorem dX9_init_22 : decode cX9_init 22 = .ok (.aload_n 0, 1) := dk_42 (dk_at dksX9_init_0 22 rfl rfl)
theorem dX9_init_23 : decode cX9_init 23 = .ok (.aload_n 3, 1) := dk_45 (dk_at dksX9_init_0 23 rfl rfl)
theorem dX9_init_24 : decode cX9_init 24 = .ok (.putfield 22, 3) := dk_181 0 22 (dk_at dksX9_init_1 0 rfl rfl)
theorem dX9_init_27 : decode cX9_init 27 = .ok (.return_, 1) := dk_177 (dk_at dksX9_init_1 3 rfl rfl)
abbrev cX9_give : ByteArray := prog_7_method_3_code
def yX9_give : MethodName := ⟨RX9, "give", "(LSkinLeague$Player;)V"⟩
def dkwX9_give_0 : List UInt8 := [42, 43, 181, 0, 22, 42, 1, 181, 0, 39, 177]
abbrev dktX9_give_0 : List UInt8 := dkwX9_give_0 ++ []
theorem dksX9_give_0 : cX9_give.data.toList.drop 0 = dktX9_give_0 := by decide +kernel
theorem dX9_give_0 : decode cX9_give 0 = .ok (.aload_n 0, 1) := dk_42 (dk_at dksX9_give_0 0 rfl rfl)
theorem dX9_give_1 : decode cX9_give 1 = .ok (.aload_n 1, 1) := dk_43 (dk_at dksX9_give_0 1 rfl rfl)
theorem dX9_give_2 : decode cX9_give 2 = .ok (.putfield 22, 3) := dk_181 0 22 (dk_at dksX9_give_0 2 rfl rfl)
theorem dX9_give_5 : decode cX9_give 5 = .ok (.aload_n 0, 1) := dk_42 (dk_at dksX9_give_0 5 rfl rfl)
theorem dX9_give_6 : decode cX9_give 6 = .ok (.aconst_null, 1) := dk_1 (dk_at dksX9_give_0 6 rfl rfl)
theorem dX9_give_7 : decode cX9_give 7 = .ok (.putfield 39, 3) := dk_181 0 39 (dk_at dksX9_give_0 7 rfl rfl)
theorem dX9_give_10 : decode cX9_give 10 = .ok (.return_, 1) := dk_177 (dk_at dksX9_give_0 10 rfl rfl)
abbrev cX9_inherit : ByteArray := prog_7_method_5_code
def yX9_inherit : MethodName := ⟨RX9, "inherit", "(LSkinLeague$Player;)V"⟩
def dkwX9_inherit_1 : List UInt8 := [42, 182, 0, 69, 42, 43, 182, 0, 72, 42, 43, 181, 0, 18, 177]
abbrev dktX9_inherit_1 : List UInt8 := dkwX9_inherit_1 ++ []
def dkwX9_inherit_0 : List UInt8 := [42, 182, 0, 65, 77, 44, 198, 0, 18, 42, 180, 0, 18, 43, 44, 180, 0, 55, 184, 0, 59, 167, 0, 12]
abbrev dktX9_inherit_0 : List UInt8 := dkwX9_inherit_0 ++ dktX9_inherit_1
theorem dksX9_inherit_0 : cX9_inherit.data.toList.drop 0 = dktX9_inherit_0 := by decide +kernel
theorem dksX9_inherit_1 : cX9_inherit.data.toList.drop 24 = dktX9_inherit_1 := dk_seg dksX9_inherit_0 24 rfl rfl
theorem dX9_inherit_0 : decode cX9_inherit 0 = .ok (.aload_n 0, 1) := dk_42 (dk_at dksX9_inherit_0 0 rfl rfl)
theorem dX9_inherit_1 : decode cX9_inherit 1 = .ok (.invokevirtual 65, 3) := dk_182 0 65 (dk_at dksX9_inherit_0 1 rfl rfl)
theorem dX9_inherit_4 : decode cX9_inherit 4 = .ok (.astore_n 2, 1) := dk_77 (dk_at dksX9_inherit_0 4 rfl rfl)
theorem dX9_inherit_5 : decode cX9_inherit 5 = .ok (.aload_n 2, 1) := dk_44 (dk_at dksX9_inherit_0 5 rfl rfl)
theorem dX9_inherit_6 : decode cX9_inherit 6 = .ok (.ifnull 18, 3) := dk_198 0 18 (dk_at dksX9_inherit_0 6 rfl rfl)
theorem dX9_inherit_9 : decode cX9_inherit 9 = .ok (.aload_n 0, 1) := dk_42 (dk_at dksX9_inherit_0 9 rfl rfl)
theorem dX9_inherit_10 : decode cX9_inherit 10 = .ok (.getfield 18, 3) := dk_180 0 18 (dk_at dksX9_inherit_0 10 rfl rfl)
theorem dX9_inherit_13 : decode cX9_inherit 13 = .ok (.aload_n 1, 1) := dk_43 (dk_at dksX9_inherit_0 13 rfl rfl)
theorem dX9_inherit_14 : decode cX9_inherit 14 = .ok (.aload_n 2, 1) := dk_44 (dk_at dksX9_inherit_0 14 rfl rfl)
theorem dX9_inherit_15 : decode cX9_inherit 15 = .ok (.getfield 55, 3) := dk_180 0 55 (dk_at dksX9_inherit_0 15 rfl rfl)
theorem dX9_inherit_18 : decode cX9_inherit 18 = .ok (.invokestatic 59, 3) := dk_184 0 59 (dk_at dksX9_inherit_0 18 rfl rfl)
theorem dX9_inherit_21 : decode cX9_inherit 21 = .ok (.goto 12, 3) := dk_167 0 12 (dk_at dksX9_inherit_0 21 rfl rfl)
theorem dX9_inherit_24 : decode cX9_inherit 24 = .ok (.aload_n 0, 1) := dk_42 (dk_at dksX9_inherit_1 0 rfl rfl)
theorem dX9_inherit_25 : decode cX9_inherit 25 = .ok (.invokevirtual 69, 3) := dk_182 0 69 (dk_at dksX9_inherit_1 1 rfl rfl)
theorem dX9_inherit_28 : decode cX9_inherit 28 = .ok (.aload_n 0, 1) := dk_42 (dk_at dksX9_inherit_1 4 rfl rfl)
theorem dX9_inherit_29 : decode cX9_inherit 29 = .ok (.aload_n 1, 1) := dk_43 (dk_at dksX9_inherit_1 5 rfl rfl)
theorem dX9_inherit_30 : decode cX9_inherit 30 = .ok (.invokevirtual 72, 3) := dk_182 0 72 (dk_at dksX9_inherit_1 6 rfl rfl)
theorem dX9_inherit_33 : decode cX9_inherit 33 = .ok (.aload_n 0, 1) := dk_42 (dk_at dksX9_inherit_1 9 rfl rfl)
theorem dX9_inherit_34 : decode cX9_inherit 34 = .ok (.aload_n 1, 1) := dk_43 (dk_at dksX9_inherit_1 10 rfl rfl)
theorem dX9_inherit_35 : decode cX9_inherit 35 = .ok (.putfield 18, 3) := dk_181 0 18 (dk_at dksX9_inherit_1 11 rfl rfl)
theorem dX9_inherit_38 : decode cX9_inherit 38 = .ok (.return_, 1) := dk_177 (dk_at dksX9_inherit_1 14 rfl rfl)
abbrev cX9_faithful : ByteArray := prog_7_method_2_code
def yX9_faithful : MethodName := ⟨RX9, "faithful", "()LSkinLeague$Sale;"⟩
def dkwX9_faithful_2 : List UInt8 := [76, 132, 2, 255, 167, 255, 216, 43, 176]
abbrev dktX9_faithful_2 : List UInt8 := dkwX9_faithful_2 ++ []
def dkwX9_faithful_1 : List UInt8 := [192, 0, 33, 180, 0, 35, 153, 0, 17, 42, 180, 0, 12, 28, 182, 0, 29, 192, 0, 33, 167, 0, 4, 43]
abbrev dktX9_faithful_1 : List UInt8 := dkwX9_faithful_1 ++ dktX9_faithful_2
def dkwX9_faithful_0 : List UInt8 := [1, 76, 42, 180, 0, 12, 182, 0, 25, 4, 100, 61, 28, 155, 0, 42, 42, 180, 0, 12, 28, 182, 0, 29]
abbrev dktX9_faithful_0 : List UInt8 := dkwX9_faithful_0 ++ dktX9_faithful_1
theorem dksX9_faithful_0 : cX9_faithful.data.toList.drop 0 = dktX9_faithful_0 := by decide +kernel
theorem dksX9_faithful_1 : cX9_faithful.data.toList.drop 24 = dktX9_faithful_1 := dk_seg dksX9_faithful_0 24 rfl rfl
theorem dksX9_faithful_2 : cX9_faithful.data.toList.drop 48 = dktX9_faithful_2 := dk_seg dksX9_faithful_1 24 rfl rfl
theorem dX9_faithful_0 : decode cX9_faithful 0 = .ok (.aconst_null, 1) := dk_1 (dk_at dksX9_faithful_0 0 rfl rfl)
theorem dX9_faithful_1 : decode cX9_faithful 1 = .ok (.astore_n 1, 1) := dk_76 (dk_at dksX9_faithful_0 1 rfl rfl)
theorem dX9_faithful_2 : decode cX9_faithful 2 = .ok (.aload_n 0, 1) := dk_42 (dk_at dksX9_faithful_0 2 rfl rfl)
theorem dX9_faithful_3 : decode cX9_faithful 3 = .ok (.getfield 12, 3) := dk_180 0 12 (dk_at dksX9_faithful_0 3 rfl rfl)
theorem dX9_faithful_6 : decode cX9_faithful 6 = .ok (.invokevirtual 25, 3) := dk_182 0 25 (dk_at dksX9_faithful_0 6 rfl rfl)
theorem dX9_faithful_9 : decode cX9_faithful 9 = .ok (.iconst 1, 1) := dk_4 (dk_at dksX9_faithful_0 9 rfl rfl)
theorem dX9_faithful_10 : decode cX9_faithful 10 = .ok (.isub, 1) := dk_100 (dk_at dksX9_faithful_0 10 rfl rfl)
theorem dX9_faithful_11 : decode cX9_faithful 11 = .ok (.istore_n 2, 1) := dk_61 (dk_at dksX9_faithful_0 11 rfl rfl)
theorem dX9_faithful_12 : decode cX9_faithful 12 = .ok (.iload_n 2, 1) := dk_28 (dk_at dksX9_faithful_0 12 rfl rfl)
theorem dX9_faithful_13 : decode cX9_faithful 13 = .ok (.ifCond .lt 42, 3) := dk_155 0 42 (dk_at dksX9_faithful_0 13 rfl rfl)
theorem dX9_faithful_16 : decode cX9_faithful 16 = .ok (.aload_n 0, 1) := dk_42 (dk_at dksX9_faithful_0 16 rfl rfl)
theorem dX9_faithful_17 : decode cX9_faithful 17 = .ok (.getfield 12, 3) := dk_180 0 12 (dk_at dksX9_faithful_0 17 rfl rfl)
theorem dX9_faithful_20 : decode cX9_faithful 20 = .ok (.iload_n 2, 1) := dk_28 (dk_at dksX9_faithful_0 20 rfl rfl)
theorem dX9_faithful_21 : decode cX9_faithful 21 = .ok (.invokevirtual 29, 3) := dk_182 0 29 (dk_at dksX9_faithful_0 21 rfl rfl)
theorem dX9_faithful_24 : decode cX9_faithful 24 = .ok (.checkcast 33, 3) := dk_192 0 33 (dk_at dksX9_faithful_1 0 rfl rfl)
theorem dX9_faithful_27 : decode cX9_faithful 27 = .ok (.getfield 35, 3) := dk_180 0 35 (dk_at dksX9_faithful_1 3 rfl rfl)
theorem dX9_faithful_30 : decode cX9_faithful 30 = .ok (.ifCond .eq 17, 3) := dk_153 0 17 (dk_at dksX9_faithful_1 6 rfl rfl)
theorem dX9_faithful_33 : decode cX9_faithful 33 = .ok (.aload_n 0, 1) := dk_42 (dk_at dksX9_faithful_1 9 rfl rfl)
theorem dX9_faithful_34 : decode cX9_faithful 34 = .ok (.getfield 12, 3) := dk_180 0 12 (dk_at dksX9_faithful_1 10 rfl rfl)
theorem dX9_faithful_37 : decode cX9_faithful 37 = .ok (.iload_n 2, 1) := dk_28 (dk_at dksX9_faithful_1 13 rfl rfl)
theorem dX9_faithful_38 : decode cX9_faithful 38 = .ok (.invokevirtual 29, 3) := dk_182 0 29 (dk_at dksX9_faithful_1 14 rfl rfl)
theorem dX9_faithful_41 : decode cX9_faithful 41 = .ok (.checkcast 33, 3) := dk_192 0 33 (dk_at dksX9_faithful_1 17 rfl rfl)
theorem dX9_faithful_44 : decode cX9_faithful 44 = .ok (.goto 4, 3) := dk_167 0 4 (dk_at dksX9_faithful_1 20 rfl rfl)
theorem dX9_faithful_47 : decode cX9_faithful 47 = .ok (.aload_n 1, 1) := dk_43 (dk_at dksX9_faithful_1 23 rfl rfl)
theorem dX9_faithful_48 : decode cX9_faithful 48 = .ok (.astore_n 1, 1) := dk_76 (dk_at dksX9_faithful_2 0 rfl rfl)
theorem dX9_faithful_49 : decode cX9_faithful 49 = .ok (.iinc 2 (-1), 3) := dk_132 2 255 (dk_at dksX9_faithful_2 1 rfl rfl)
theorem dX9_faithful_52 : decode cX9_faithful 52 = .ok (.goto (-40), 3) := dk_167 255 216 (dk_at dksX9_faithful_2 4 rfl rfl)
theorem dX9_faithful_55 : decode cX9_faithful 55 = .ok (.aload_n 1, 1) := dk_43 (dk_at dksX9_faithful_2 7 rfl rfl)
theorem dX9_faithful_56 : decode cX9_faithful 56 = .ok (.areturn, 1) := dk_176 (dk_at dksX9_faithful_2 8 rfl rfl)
abbrev cX9_undo : ByteArray := prog_7_method_4_code
def yX9_undo : MethodName := ⟨RX9, "undo", "()V"⟩
def dkwX9_undo_2 : List UInt8 := [167, 255, 211, 177]
abbrev dktX9_undo_2 : List UInt8 := dkwX9_undo_2 ++ []
def dkwX9_undo_1 : List UInt8 := [182, 0, 46, 192, 0, 33, 76, 43, 180, 0, 49, 43, 180, 0, 52, 43, 180, 0, 55, 184, 0, 59]
abbrev dktX9_undo_1 : List UInt8 := dkwX9_undo_1 ++ dktX9_undo_2
def dkwX9_undo_0 : List UInt8 := [42, 180, 0, 12, 182, 0, 42, 154, 0, 41, 42, 180, 0, 12, 42, 180, 0, 12, 182, 0, 25, 4, 100]
abbrev dktX9_undo_0 : List UInt8 := dkwX9_undo_0 ++ dktX9_undo_1
theorem dksX9_undo_0 : cX9_undo.data.toList.drop 0 = dktX9_undo_0 := by decide +kernel
theorem dksX9_undo_1 : cX9_undo.data.toList.drop 23 = dktX9_undo_1 := dk_seg dksX9_undo_0 23 rfl rfl
theorem dksX9_undo_2 : cX9_undo.data.toList.drop 45 = dktX9_undo_2 := dk_seg dksX9_undo_1 22 rfl rfl
theorem dX9_undo_0 : decode cX9_undo 0 = .ok (.aload_n 0, 1) := dk_42 (dk_at dksX9_undo_0 0 rfl rfl)
theorem dX9_undo_1 : decode cX9_undo 1 = .ok (.getfield 12, 3) := dk_180 0 12 (dk_at dksX9_undo_0 1 rfl rfl)
theorem dX9_undo_4 : decode cX9_undo 4 = .ok (.invokevirtual 42, 3) := dk_182 0 42 (dk_at dksX9_undo_0 4 rfl rfl)
theorem dX9_undo_7 : decode cX9_undo 7 = .ok (.ifCond .ne 41, 3) := dk_154 0 41 (dk_at dksX9_undo_0 7 rfl rfl)
theorem dX9_undo_10 : decode cX9_undo 10 = .ok (.aload_n 0, 1) := dk_42 (dk_at dksX9_undo_0 10 rfl rfl)
theorem dX9_undo_11 : decode cX9_undo 11 = .ok (.getfield 12, 3) := dk_180 0 12 (dk_at dksX9_undo_0 11 rfl rfl)
theorem dX9_undo_14 : decode cX9_undo 14 = .ok (.aload_n 0, 1) := dk_42 (dk_at dksX9_undo_0 14 rfl rfl)
theorem dX9_undo_15 : decode cX9_undo 15 = .ok (.getfield 12, 3) := dk_180 0 12 (dk_at dksX9_undo_0 15 rfl rfl)
theorem dX9_undo_18 : decode cX9_undo 18 = .ok (.invokevirtual 25, 3) := dk_182 0 25 (dk_at dksX9_undo_0 18 rfl rfl)
theorem dX9_undo_21 : decode cX9_undo 21 = .ok (.iconst 1, 1) := dk_4 (dk_at dksX9_undo_0 21 rfl rfl)
theorem dX9_undo_22 : decode cX9_undo 22 = .ok (.isub, 1) := dk_100 (dk_at dksX9_undo_0 22 rfl rfl)
theorem dX9_undo_23 : decode cX9_undo 23 = .ok (.invokevirtual 46, 3) := dk_182 0 46 (dk_at dksX9_undo_1 0 rfl rfl)
theorem dX9_undo_26 : decode cX9_undo 26 = .ok (.checkcast 33, 3) := dk_192 0 33 (dk_at dksX9_undo_1 3 rfl rfl)
theorem dX9_undo_29 : decode cX9_undo 29 = .ok (.astore_n 1, 1) := dk_76 (dk_at dksX9_undo_1 6 rfl rfl)
theorem dX9_undo_30 : decode cX9_undo 30 = .ok (.aload_n 1, 1) := dk_43 (dk_at dksX9_undo_1 7 rfl rfl)
theorem dX9_undo_31 : decode cX9_undo 31 = .ok (.getfield 49, 3) := dk_180 0 49 (dk_at dksX9_undo_1 8 rfl rfl)
theorem dX9_undo_34 : decode cX9_undo 34 = .ok (.aload_n 1, 1) := dk_43 (dk_at dksX9_undo_1 11 rfl rfl)
theorem dX9_undo_35 : decode cX9_undo 35 = .ok (.getfield 52, 3) := dk_180 0 52 (dk_at dksX9_undo_1 12 rfl rfl)
theorem dX9_undo_38 : decode cX9_undo 38 = .ok (.aload_n 1, 1) := dk_43 (dk_at dksX9_undo_1 15 rfl rfl)
theorem dX9_undo_39 : decode cX9_undo 39 = .ok (.getfield 55, 3) := dk_180 0 55 (dk_at dksX9_undo_1 16 rfl rfl)
theorem dX9_undo_42 : decode cX9_undo 42 = .ok (.invokestatic 59, 3) := dk_184 0 59 (dk_at dksX9_undo_1 19 rfl rfl)
theorem dX9_undo_45 : decode cX9_undo 45 = .ok (.goto (-45), 3) := dk_167 255 211 (dk_at dksX9_undo_2 0 rfl rfl)
theorem dX9_undo_48 : decode cX9_undo 48 = .ok (.return_, 1) := dk_177 (dk_at dksX9_undo_2 3 rfl rfl)
abbrev cX9_toString : ByteArray := prog_7_method_6_code
def yX9_toString : MethodName := ⟨RX9, "toString", "()Ljava/lang/String;"⟩
def dkwX9_toString_2 : List UInt8 := [176]
abbrev dktX9_toString_2 : List UInt8 := dkwX9_toString_2 ++ []
def dkwX9_toString_1 : List UInt8 := [183, 0, 76, 182, 0, 83, 18, 87, 182, 0, 83, 42, 180, 0, 22, 180, 0, 89, 182, 0, 92, 182, 0, 95]
abbrev dktX9_toString_1 : List UInt8 := dkwX9_toString_1 ++ dktX9_toString_2
def dkwX9_toString_0 : List UInt8 := [42, 180, 0, 22, 199, 0, 10, 42, 183, 0, 76, 167, 0, 35, 187, 0, 80, 89, 183, 0, 82, 42]
abbrev dktX9_toString_0 : List UInt8 := dkwX9_toString_0 ++ dktX9_toString_1
theorem dksX9_toString_0 : cX9_toString.data.toList.drop 0 = dktX9_toString_0 := by decide +kernel
theorem dksX9_toString_1 : cX9_toString.data.toList.drop 22 = dktX9_toString_1 := dk_seg dksX9_toString_0 22 rfl rfl
theorem dksX9_toString_2 : cX9_toString.data.toList.drop 46 = dktX9_toString_2 := dk_seg dksX9_toString_1 24 rfl rfl
theorem dX9_toString_0 : decode cX9_toString 0 = .ok (.aload_n 0, 1) := dk_42 (dk_at dksX9_toString_0 0 rfl rfl)
theorem dX9_toString_1 : decode cX9_toString 1 = .ok (.getfield 22, 3) := dk_180 0 22 (dk_at dksX9_toString_0 1 rfl rfl)
theorem dX9_toString_4 : decode cX9_toString 4 = .ok (.ifnonnull 10, 3) := dk_199 0 10 (dk_at dksX9_toString_0 4 rfl rfl)
theorem dX9_toString_7 : decode cX9_toString 7 = .ok (.aload_n 0, 1) := dk_42 (dk_at dksX9_toString_0 7 rfl rfl)
theorem dX9_toString_8 : decode cX9_toString 8 = .ok (.invokespecial 76, 3) := dk_183 0 76 (dk_at dksX9_toString_0 8 rfl rfl)
theorem dX9_toString_11 : decode cX9_toString 11 = .ok (.goto 35, 3) := dk_167 0 35 (dk_at dksX9_toString_0 11 rfl rfl)
theorem dX9_toString_14 : decode cX9_toString 14 = .ok (.new 80, 3) := dk_187 0 80 (dk_at dksX9_toString_0 14 rfl rfl)
theorem dX9_toString_17 : decode cX9_toString 17 = .ok (.dup, 1) := dk_89 (dk_at dksX9_toString_0 17 rfl rfl)
theorem dX9_toString_18 : decode cX9_toString 18 = .ok (.invokespecial 82, 3) := dk_183 0 82 (dk_at dksX9_toString_0 18 rfl rfl)
theorem dX9_toString_21 : decode cX9_toString 21 = .ok (.aload_n 0, 1) := dk_42 (dk_at dksX9_toString_0 21 rfl rfl)
theorem dX9_toString_22 : decode cX9_toString 22 = .ok (.invokespecial 76, 3) := dk_183 0 76 (dk_at dksX9_toString_1 0 rfl rfl)
theorem dX9_toString_25 : decode cX9_toString 25 = .ok (.invokevirtual 83, 3) := dk_182 0 83 (dk_at dksX9_toString_1 3 rfl rfl)
theorem dX9_toString_28 : decode cX9_toString 28 = .ok (.ldc 87, 2) := dk_18 87 (dk_at dksX9_toString_1 6 rfl rfl)
theorem dX9_toString_30 : decode cX9_toString 30 = .ok (.invokevirtual 83, 3) := dk_182 0 83 (dk_at dksX9_toString_1 8 rfl rfl)
theorem dX9_toString_33 : decode cX9_toString 33 = .ok (.aload_n 0, 1) := dk_42 (dk_at dksX9_toString_1 11 rfl rfl)
theorem dX9_toString_34 : decode cX9_toString 34 = .ok (.getfield 22, 3) := dk_180 0 22 (dk_at dksX9_toString_1 12 rfl rfl)
theorem dX9_toString_37 : decode cX9_toString 37 = .ok (.getfield 89, 3) := dk_180 0 89 (dk_at dksX9_toString_1 15 rfl rfl)
theorem dX9_toString_40 : decode cX9_toString 40 = .ok (.invokevirtual 92, 3) := dk_182 0 92 (dk_at dksX9_toString_1 18 rfl rfl)
theorem dX9_toString_43 : decode cX9_toString 43 = .ok (.invokevirtual 95, 3) := dk_182 0 95 (dk_at dksX9_toString_1 21 rfl rfl)
theorem dX9_toString_46 : decode cX9_toString 46 = .ok (.areturn, 1) := dk_176 (dk_at dksX9_toString_2 0 rfl rfl)
theorem q65 : (Jvm.Cond.initialized "SkinLeague$Skin") ∈ lw_all := lw_g (lw_at lw_m1 30 rfl) rfl
theorem q297 : (Jvm.Cond.fieldLinkNest "SkinLeague$Skin" (89 : Nat) "SkinLeague$Player" "number" "I" "SkinLeague") ∈ lw_tbl := lw_at lw_m2 22 rfl
theorem q351 : (Jvm.Cond.selects "SkinLeague$Skin" ({ cls := "java/lang/Object", name := "getClass", desc := "()Ljava/lang/Class;" } : Jvm.MethodName) ({ cls := "java/lang/Object", name := "getClass", desc := "()Ljava/lang/Class;" } : Jvm.MethodName)) ∈ lw_all := lw_g (lw_at lw_m2 76 rfl) rfl
theorem q612 : (Jvm.Cond.instantiable "SkinLeague$Skin" (7 : Nat)) ∈ lw_all := lw_g (lw_at lw_m3 97 rfl) rfl
theorem q624 : (Jvm.Cond.instanceMethod ({ cls := "SkinLeague$Skin", name := "<init>", desc := "(ILSkinLeague$Spot;LSkinLeague$Player;)V" } : Jvm.MethodName)) ∈ lw_all := lw_g (lw_at lw_m3 109 rfl) rfl
theorem q625 : (Jvm.Cond.code ({ cls := "SkinLeague$Skin", name := "<init>", desc := "(ILSkinLeague$Spot;LSkinLeague$Player;)V" } : Jvm.MethodName) prog_7_method_1_code (4 : Nat) (Option.none : Option Jvm.ClassFile.FieldType)) ∈ lw_all := lw_g (lw_at lw_m3 110 rfl) rfl
theorem q626 : (Jvm.Cond.methodLink "SkinLeague$Skin" (1 : Nat) ({ cls := "SkinLeague$Prize", name := "<init>", desc := "(ILSkinLeague$Spot;)V" } : Jvm.MethodName)) ∈ lw_all := lw_g (lw_at lw_m3 111 rfl) rfl
theorem q633 : (Jvm.Cond.classLink "SkinLeague$Skin" (7 : Nat) "java/util/ArrayList") ∈ lw_all := lw_g (lw_at lw_m3 118 rfl) rfl
theorem q634 : (Jvm.Cond.methodLink "SkinLeague$Skin" (9 : Nat) ({ cls := "java/util/ArrayList", name := "<init>", desc := "()V" } : Jvm.MethodName)) ∈ lw_all := lw_g (lw_at lw_m3 119 rfl) rfl
theorem q635 : (Jvm.Cond.fieldLink "SkinLeague$Skin" (12 : Nat) "SkinLeague$Skin" "sales" "Ljava/util/ArrayList;") ∈ lw_all := lw_g (lw_at lw_m3 120 rfl) rfl
theorem q637 : (Jvm.Cond.fieldLink "SkinLeague$Skin" (22 : Nat) "SkinLeague$Skin" "holder" "LSkinLeague$Player;") ∈ lw_all := lw_g (lw_at lw_m3 122 rfl) rfl
theorem q639 : (Jvm.Cond.fieldLink "SkinLeague$Skin" (18 : Nat) "SkinLeague$Skin" "heir" "LSkinLeague$Player;") ∈ lw_all := lw_g (lw_at lw_m3 124 rfl) rfl
theorem q641 : (Jvm.Cond.fieldLink "SkinLeague$Skin" (39 : Nat) "SkinLeague$Skin" "borrower" "LSkinLeague$Player;") ∈ lw_all := lw_g (lw_at lw_m3 126 rfl) rfl
theorem q646 : (Jvm.Cond.laysFinal "SkinLeague$Skin" "SkinLeague$Skin" "sales" "Ljava/util/ArrayList;") ∈ lw_all := lw_g (lw_at lw_m3 131 rfl) rfl
theorem q647 : (Jvm.Cond.soleField "SkinLeague$Skin" "sales") ∈ lw_all := lw_g (lw_at lw_m3 132 rfl) rfl
theorem q648 : (Jvm.Cond.lays "SkinLeague$Skin" "SkinLeague$Skin" "holder" "LSkinLeague$Player;") ∈ lw_all := lw_g (lw_at lw_m3 133 rfl) rfl
theorem q649 : (Jvm.Cond.soleField "SkinLeague$Skin" "holder") ∈ lw_all := lw_g (lw_at lw_m3 134 rfl) rfl
theorem q650 : (Jvm.Cond.lays "SkinLeague$Skin" "SkinLeague$Skin" "heir" "LSkinLeague$Player;") ∈ lw_all := lw_g (lw_at lw_m3 135 rfl) rfl
theorem q651 : (Jvm.Cond.soleField "SkinLeague$Skin" "heir") ∈ lw_all := lw_g (lw_at lw_m3 136 rfl) rfl
theorem q652 : (Jvm.Cond.lays "SkinLeague$Skin" "SkinLeague$Skin" "borrower" "LSkinLeague$Player;") ∈ lw_all := lw_g (lw_at lw_m3 137 rfl) rfl
theorem q653 : (Jvm.Cond.soleField "SkinLeague$Skin" "borrower") ∈ lw_all := lw_g (lw_at lw_m3 138 rfl) rfl
theorem q654 : (Jvm.Cond.lays "SkinLeague$Skin" "SkinLeague$Skin" "lentUntil" "I") ∈ lw_all := lw_g (lw_at lw_m3 139 rfl) rfl
theorem q655 : (Jvm.Cond.soleField "SkinLeague$Skin" "lentUntil") ∈ lw_all := lw_g (lw_at lw_m3 140 rfl) rfl
theorem q656 : (Jvm.Cond.laysFinal "SkinLeague$Skin" "SkinLeague$Prize" "spot" "LSkinLeague$Spot;") ∈ lw_all := lw_g (lw_at lw_m3 141 rfl) rfl
theorem q658 : (Jvm.Cond.laysFinal "SkinLeague$Skin" "SkinLeague$Thing" "number" "I") ∈ lw_all := lw_g (lw_at lw_m3 143 rfl) rfl
theorem q660 : (Jvm.Cond.superclass "SkinLeague$Skin" "SkinLeague$Prize") ∈ lw_all := lw_g (lw_at lw_m3 145 rfl) rfl
theorem q976 : (Jvm.Cond.selects "SkinLeague$Skin" ({ cls := "java/lang/Object", name := "hashCode", desc := "()I" } : Jvm.MethodName) ({ cls := "java/lang/Object", name := "hashCode", desc := "()I" } : Jvm.MethodName)) ∈ lw_all := lw_g (lw_at lw_m4 221 rfl) rfl
theorem q1319 : (Jvm.Cond.selects "SkinLeague$Skin" ({ cls := "java/lang/Object", name := "equals", desc := "(Ljava/lang/Object;)Z" } : Jvm.MethodName) ({ cls := "java/lang/Object", name := "equals", desc := "(Ljava/lang/Object;)Z" } : Jvm.MethodName)) ∈ lw_all := lw_g (lw_at lw_m6 84 rfl) rfl
theorem q1548 : (Jvm.Cond.selects "SkinLeague$Skin" ({ cls := "SkinLeague$Thing", name := "number", desc := "()I" } : Jvm.MethodName) ({ cls := "SkinLeague$Thing", name := "number", desc := "()I" } : Jvm.MethodName)) ∈ lw_all := lw_g (lw_at lw_m7 73 rfl) rfl
theorem q1563 : (Jvm.Cond.fieldLinkNest "SkinLeague$Skin" (49 : Nat) "SkinLeague$Sale" "seller" "LSkinLeague$Player;" "SkinLeague") ∈ lw_tbl := lw_at lw_m7 88 rfl
theorem q1565 : (Jvm.Cond.fieldLinkNest "SkinLeague$Skin" (52 : Nat) "SkinLeague$Sale" "buyer" "LSkinLeague$Player;" "SkinLeague") ∈ lw_tbl := lw_at lw_m7 90 rfl
theorem q1567 : (Jvm.Cond.fieldLinkNest "SkinLeague$Skin" (55 : Nat) "SkinLeague$Sale" "price" "I" "SkinLeague") ∈ lw_tbl := lw_at lw_m7 92 rfl
theorem q1569 : (Jvm.Cond.fieldLinkNest "SkinLeague$Skin" (35 : Nat) "SkinLeague$Sale" "isInFaith" "Z" "SkinLeague") ∈ lw_tbl := lw_at lw_m7 94 rfl
theorem q1584 : (Jvm.Cond.instanceMethod ({ cls := "SkinLeague$Skin", name := "give", desc := "(LSkinLeague$Player;)V" } : Jvm.MethodName)) ∈ lw_all := lw_g (lw_at lw_m7 109 rfl) rfl
theorem q1585 : (Jvm.Cond.selects "SkinLeague$Skin" ({ cls := "SkinLeague$Skin", name := "give", desc := "(LSkinLeague$Player;)V" } : Jvm.MethodName) ({ cls := "SkinLeague$Skin", name := "give", desc := "(LSkinLeague$Player;)V" } : Jvm.MethodName)) ∈ lw_all := lw_g (lw_at lw_m7 110 rfl) rfl
theorem q1586 : (Jvm.Cond.code ({ cls := "SkinLeague$Skin", name := "give", desc := "(LSkinLeague$Player;)V" } : Jvm.MethodName) prog_7_method_3_code (2 : Nat) (Option.none : Option Jvm.ClassFile.FieldType)) ∈ lw_all := lw_g (lw_at lw_m7 111 rfl) rfl
theorem q1626 : (Jvm.Cond.instanceMethod ({ cls := "SkinLeague$Skin", name := "inherit", desc := "(LSkinLeague$Player;)V" } : Jvm.MethodName)) ∈ lw_all := lw_g (lw_at lw_m7 151 rfl) rfl
theorem q1627 : (Jvm.Cond.selects "SkinLeague$Skin" ({ cls := "SkinLeague$Skin", name := "inherit", desc := "(LSkinLeague$Player;)V" } : Jvm.MethodName) ({ cls := "SkinLeague$Skin", name := "inherit", desc := "(LSkinLeague$Player;)V" } : Jvm.MethodName)) ∈ lw_all := lw_g (lw_at lw_m7 152 rfl) rfl
theorem q1628 : (Jvm.Cond.code ({ cls := "SkinLeague$Skin", name := "inherit", desc := "(LSkinLeague$Player;)V" } : Jvm.MethodName) prog_7_method_5_code (3 : Nat) (Option.none : Option Jvm.ClassFile.FieldType)) ∈ lw_all := lw_g (lw_at lw_m7 153 rfl) rfl
theorem q1629 : (Jvm.Cond.methodLink "SkinLeague$Skin" (65 : Nat) ({ cls := "SkinLeague$Skin", name := "faithful", desc := "()LSkinLeague$Sale;" } : Jvm.MethodName)) ∈ lw_all := lw_g (lw_at lw_m7 154 rfl) rfl
theorem q1630 : (Jvm.Cond.instanceMethod ({ cls := "SkinLeague$Skin", name := "faithful", desc := "()LSkinLeague$Sale;" } : Jvm.MethodName)) ∈ lw_all := lw_g (lw_at lw_m7 155 rfl) rfl
theorem q1631 : (Jvm.Cond.selects "SkinLeague$Skin" ({ cls := "SkinLeague$Skin", name := "faithful", desc := "()LSkinLeague$Sale;" } : Jvm.MethodName) ({ cls := "SkinLeague$Skin", name := "faithful", desc := "()LSkinLeague$Sale;" } : Jvm.MethodName)) ∈ lw_all := lw_g (lw_at lw_m7 156 rfl) rfl
theorem q1632 : (Jvm.Cond.code ({ cls := "SkinLeague$Skin", name := "faithful", desc := "()LSkinLeague$Sale;" } : Jvm.MethodName) prog_7_method_2_code (3 : Nat) (Option.some (Jvm.ClassFile.FieldType.object "SkinLeague$Sale"))) ∈ lw_all := lw_g (lw_at lw_m7 157 rfl) rfl
theorem q1633 : (Jvm.Cond.methodLink "SkinLeague$Skin" (25 : Nat) ({ cls := "java/util/ArrayList", name := "size", desc := "()I" } : Jvm.MethodName)) ∈ lw_all := lw_g (lw_at lw_m7 158 rfl) rfl
theorem q1634 : (Jvm.Cond.methodLink "SkinLeague$Skin" (29 : Nat) ({ cls := "java/util/ArrayList", name := "get", desc := "(I)Ljava/lang/Object;" } : Jvm.MethodName)) ∈ lw_all := lw_g (lw_at lw_m7 159 rfl) rfl
theorem q1635 : (Jvm.Cond.classLink "SkinLeague$Skin" (33 : Nat) "SkinLeague$Sale") ∈ lw_all := lw_g (lw_at lw_m7 160 rfl) rfl
theorem q1636 : (Jvm.Cond.methodLink "SkinLeague$Skin" (59 : Nat) ({ cls := "SkinLeague$Player", name := "pay", desc := "(LSkinLeague$Player;LSkinLeague$Player;I)V" } : Jvm.MethodName)) ∈ lw_all := lw_g (lw_at lw_m7 161 rfl) rfl
theorem q1637 : (Jvm.Cond.methodLink "SkinLeague$Skin" (69 : Nat) ({ cls := "SkinLeague$Skin", name := "undo", desc := "()V" } : Jvm.MethodName)) ∈ lw_all := lw_g (lw_at lw_m7 162 rfl) rfl
theorem q1638 : (Jvm.Cond.instanceMethod ({ cls := "SkinLeague$Skin", name := "undo", desc := "()V" } : Jvm.MethodName)) ∈ lw_all := lw_g (lw_at lw_m7 163 rfl) rfl
theorem q1639 : (Jvm.Cond.selects "SkinLeague$Skin" ({ cls := "SkinLeague$Skin", name := "undo", desc := "()V" } : Jvm.MethodName) ({ cls := "SkinLeague$Skin", name := "undo", desc := "()V" } : Jvm.MethodName)) ∈ lw_all := lw_g (lw_at lw_m7 164 rfl) rfl
theorem q1640 : (Jvm.Cond.code ({ cls := "SkinLeague$Skin", name := "undo", desc := "()V" } : Jvm.MethodName) prog_7_method_4_code (2 : Nat) (Option.none : Option Jvm.ClassFile.FieldType)) ∈ lw_all := lw_g (lw_at lw_m7 165 rfl) rfl
theorem q1641 : (Jvm.Cond.methodLink "SkinLeague$Skin" (42 : Nat) ({ cls := "java/util/ArrayList", name := "isEmpty", desc := "()Z" } : Jvm.MethodName)) ∈ lw_all := lw_g (lw_at lw_m7 166 rfl) rfl
theorem q1645 : (Jvm.Cond.methodLink "SkinLeague$Skin" (46 : Nat) ({ cls := "java/util/ArrayList", name := "remove", desc := "(I)Ljava/lang/Object;" } : Jvm.MethodName)) ∈ lw_all := lw_g (lw_at lw_m7 170 rfl) rfl
theorem q1654 : (Jvm.Cond.methodLink "SkinLeague$Skin" (72 : Nat) ({ cls := "SkinLeague$Skin", name := "give", desc := "(LSkinLeague$Player;)V" } : Jvm.MethodName)) ∈ lw_all := lw_g (lw_at lw_m7 179 rfl) rfl
theorem q1703 : (Jvm.Cond.sameMethod "SkinLeague$Skin" "SkinLeague$Prize" "spot" "()LSkinLeague$Spot;") ∈ lw_all := lw_g (lw_at lw_m7 228 rfl) rfl
theorem q1705 : (Jvm.Cond.selects "SkinLeague$Skin" ({ cls := "SkinLeague$Skin", name := "spot", desc := "()LSkinLeague$Spot;" } : Jvm.MethodName) ({ cls := "SkinLeague$Prize", name := "spot", desc := "()LSkinLeague$Spot;" } : Jvm.MethodName)) ∈ lw_all := lw_g (lw_at lw_m7 230 rfl) rfl
theorem q1724 : (Jvm.Cond.instanceMethod ({ cls := "SkinLeague$Skin", name := "toString", desc := "()Ljava/lang/String;" } : Jvm.MethodName)) ∈ lw_all := lw_g (lw_at lw_m8 9 rfl) rfl
theorem q1725 : (Jvm.Cond.selects "SkinLeague$Skin" ({ cls := "SkinLeague$Skin", name := "toString", desc := "()Ljava/lang/String;" } : Jvm.MethodName) ({ cls := "SkinLeague$Skin", name := "toString", desc := "()Ljava/lang/String;" } : Jvm.MethodName)) ∈ lw_all := lw_g (lw_at lw_m8 10 rfl) rfl
theorem q1726 : (Jvm.Cond.code ({ cls := "SkinLeague$Skin", name := "toString", desc := "()Ljava/lang/String;" } : Jvm.MethodName) prog_7_method_6_code (1 : Nat) (Option.some (Jvm.ClassFile.FieldType.object "java/lang/String"))) ∈ lw_all := lw_g (lw_at lw_m8 11 rfl) rfl
theorem q1727 : (Jvm.Cond.methodLink "SkinLeague$Skin" (76 : Nat) ({ cls := "SkinLeague$Prize", name := "toString", desc := "()Ljava/lang/String;" } : Jvm.MethodName)) ∈ lw_all := lw_g (lw_at lw_m8 12 rfl) rfl
theorem q1758 : (Jvm.Cond.selects "SkinLeague$Skin" ({ cls := "java/lang/Object", name := "toString", desc := "()Ljava/lang/String;" } : Jvm.MethodName) ({ cls := "SkinLeague$Skin", name := "toString", desc := "()Ljava/lang/String;" } : Jvm.MethodName)) ∈ lw_all := lw_g (lw_at lw_m8 43 rfl) rfl
theorem q1805 : (Jvm.Cond.classLink "SkinLeague$Skin" (80 : Nat) "java/lang/StringBuilder") ∈ lw_all := lw_g (lw_at lw_m8 90 rfl) rfl
theorem q1806 : (Jvm.Cond.methodLink "SkinLeague$Skin" (82 : Nat) ({ cls := "java/lang/StringBuilder", name := "<init>", desc := "()V" } : Jvm.MethodName)) ∈ lw_all := lw_g (lw_at lw_m8 91 rfl) rfl
theorem q1807 : (Jvm.Cond.methodLink "SkinLeague$Skin" (83 : Nat) ({ cls := "java/lang/StringBuilder", name := "append", desc := "(Ljava/lang/String;)Ljava/lang/StringBuilder;" } : Jvm.MethodName)) ∈ lw_all := lw_g (lw_at lw_m8 92 rfl) rfl
theorem q1808 : (Jvm.Cond.stringRef "SkinLeague$Skin" (87 : Nat) "@") ∈ lw_tbl := lw_at lw_m8 93 rfl
theorem q1809 : (Jvm.Cond.methodLink "SkinLeague$Skin" (92 : Nat) ({ cls := "java/lang/StringBuilder", name := "append", desc := "(I)Ljava/lang/StringBuilder;" } : Jvm.MethodName)) ∈ lw_all := lw_g (lw_at lw_m8 94 rfl) rfl
theorem q1810 : (Jvm.Cond.methodLink "SkinLeague$Skin" (95 : Nat) ({ cls := "java/lang/StringBuilder", name := "toString", desc := "()Ljava/lang/String;" } : Jvm.MethodName)) ∈ lw_all := lw_g (lw_at lw_m8 95 rfl) rfl
theorem q2078 : (Jvm.Cond.castable "SkinLeague$Skin" "SkinLeague$Thing") ∈ lw_tbl := lw_at lw_m9 123 rfl
theorem q2094 : (Jvm.Cond.castable "SkinLeague$Skin" "java/lang/Object") ∈ lw_tbl := lw_at lw_m9 139 rfl
theorem in_X9 : ∀ w ∈ wsX90, w ∈ lw_all := lw_in wsX90 [658, 656, 646, 648, 650, 652, 654] (by decide +kernel) (by decide +kernel)
/-! SkinLeague$Sale -/
def RX10 : String := "SkinLeague$Sale"
def TX10 : u_T := fun k => match k with
  | 0 => ("SkinLeague$Sale", "seller", "LSkinLeague$Player;", true)
  | 1 => ("SkinLeague$Sale", "buyer", "LSkinLeague$Player;", true)
  | 2 => ("SkinLeague$Sale", "price", "I", true)
  | _ => ("SkinLeague$Sale", "isInFaith", "Z", true)
def tyX10 : Nat → FieldType := fun k => match k with
  | 0 => .object "SkinLeague$Player"
  | 1 => .object "SkinLeague$Player"
  | 2 => .int
  | _ => .boolean
abbrev wsX100 : List Cond := u_ws RX10 TX10 4
theorem nmX10 : ∀ a, a < 4 → ∀ b, b < 4 → a ≠ b → (TX10 a).2.1 ≠ (TX10 b).2.1 := by decide +kernel
theorem tyX10_ok : ∀ k, k < 4 → parseFieldDescriptor (TX10 k).2.2.1 = some (tyX10 k) := by decide +kernel
abbrev cX10_init : ByteArray := prog_5_method_1_code
def yX10_init : MethodName := ⟨RX10, "<init>", "(LSkinLeague$Player;LSkinLeague$Player;IZ)V"⟩
def dkwX10_init_1 : List UInt8 := [181, 0, 20, 177]
abbrev dktX10_init_1 : List UInt8 := dkwX10_init_1 ++ []
def dkwX10_init_0 : List UInt8 := [42, 183, 0, 1, 42, 43, 181, 0, 7, 42, 44, 181, 0, 13, 42, 29, 181, 0, 16, 42, 21, 4]
abbrev dktX10_init_0 : List UInt8 := dkwX10_init_0 ++ dktX10_init_1
theorem dksX10_init_0 : cX10_init.data.toList.drop 0 = dktX10_init_0 := by decide +kernel
theorem dksX10_init_1 : cX10_init.data.toList.drop 22 = dktX10_init_1 := dk_seg dksX10_init_0 22 rfl rfl
theorem dX10_init_0 : decode cX10_init 0 = .ok (.aload_n 0, 1) := dk_42 (dk_at dksX10_init_0 0 rfl rfl)
theorem dX10_init_1 : decode cX10_init 1 = .ok (.invokespecial 1, 3) := dk_183 0 1 (dk_at dksX10_init_0 1 rfl rfl)
theorem dX10_init_4 : decode cX10_init 4 = .ok (.aload_n 0, 1) := dk_42 (dk_at dksX10_init_0 4 rfl rfl)
theorem dX10_init_5 : decode cX10_init 5 = .ok (.aload_n 1, 1) := dk_43 (dk_at dksX10_init_0 5 rfl rfl)
theorem dX10_init_6 : decode cX10_init 6 = .ok (.putfield 7, 3) := dk_181 0 7 (dk_at dksX10_init_0 6 rfl rfl)
theorem dX10_init_9 : decode cX10_init 9 = .ok (.aload_n 0, 1) := dk_42 (dk_at dksX10_init_0 9 rfl rfl)
theorem dX10_init_10 : decode cX10_init 10 = .ok (.aload_n 2, 1) := dk_44 (dk_at dksX10_init_0 10 rfl rfl)
theorem dX10_init_11 : decode cX10_init 11 = .ok (.putfield 13, 3) := dk_181 0 13 (dk_at dksX10_init_0 11 rfl rfl)
theorem dX10_init_14 : decode cX10_init 14 = .ok (.aload_n 0, 1) := dk_42 (dk_at dksX10_init_0 14 rfl rfl)
theorem dX10_init_15 : decode cX10_init 15 = .ok (.iload_n 3, 1) := dk_29 (dk_at dksX10_init_0 15 rfl rfl)
theorem dX10_init_16 : decode cX10_init 16 = .ok (.putfield 16, 3) := dk_181 0 16 (dk_at dksX10_init_0 16 rfl rfl)
theorem dX10_init_19 : decode cX10_init 19 = .ok (.aload_n 0, 1) := dk_42 (dk_at dksX10_init_0 19 rfl rfl)
theorem dX10_init_20 : decode cX10_init 20 = .ok (.iload 4, 2) := dk_21 4 (dk_at dksX10_init_0 20 rfl rfl)
theorem dX10_init_22 : decode cX10_init 22 = .ok (.putfield 20, 3) := dk_181 0 20 (dk_at dksX10_init_1 0 rfl rfl)
theorem dX10_init_25 : decode cX10_init 25 = .ok (.return_, 1) := dk_177 (dk_at dksX10_init_1 3 rfl rfl)
theorem q83 : (Jvm.Cond.initialized "SkinLeague$Sale") ∈ lw_all := lw_g (lw_at lw_m1 48 rfl) rfl
theorem q349 : (Jvm.Cond.selects "SkinLeague$Sale" ({ cls := "java/lang/Object", name := "getClass", desc := "()Ljava/lang/Class;" } : Jvm.MethodName) ({ cls := "java/lang/Object", name := "getClass", desc := "()Ljava/lang/Class;" } : Jvm.MethodName)) ∈ lw_all := lw_g (lw_at lw_m2 74 rfl) rfl
theorem q685 : (Jvm.Cond.instanceMethod ({ cls := "SkinLeague$Sale", name := "hashCode", desc := "()I" } : Jvm.MethodName)) ∈ lw_all := lw_g (lw_at lw_m3 170 rfl) rfl
theorem q686 : (Jvm.Cond.code ({ cls := "SkinLeague$Sale", name := "hashCode", desc := "()I" } : Jvm.MethodName) prog_5_method_3_code (1 : Nat) (Option.some Jvm.ClassFile.FieldType.int)) ∈ lw_all := lw_g (lw_at lw_m3 171 rfl) rfl
theorem q974 : (Jvm.Cond.selects "SkinLeague$Sale" ({ cls := "java/lang/Object", name := "hashCode", desc := "()I" } : Jvm.MethodName) ({ cls := "SkinLeague$Sale", name := "hashCode", desc := "()I" } : Jvm.MethodName)) ∈ lw_all := lw_g (lw_at lw_m4 219 rfl) rfl
theorem q1306 : (Jvm.Cond.instanceMethod ({ cls := "SkinLeague$Sale", name := "equals", desc := "(Ljava/lang/Object;)Z" } : Jvm.MethodName)) ∈ lw_all := lw_g (lw_at lw_m6 71 rfl) rfl
theorem q1307 : (Jvm.Cond.code ({ cls := "SkinLeague$Sale", name := "equals", desc := "(Ljava/lang/Object;)Z" } : Jvm.MethodName) prog_5_method_4_code (2 : Nat) (Option.some Jvm.ClassFile.FieldType.boolean)) ∈ lw_all := lw_g (lw_at lw_m6 72 rfl) rfl
theorem q1317 : (Jvm.Cond.selects "SkinLeague$Sale" ({ cls := "java/lang/Object", name := "equals", desc := "(Ljava/lang/Object;)Z" } : Jvm.MethodName) ({ cls := "SkinLeague$Sale", name := "equals", desc := "(Ljava/lang/Object;)Z" } : Jvm.MethodName)) ∈ lw_all := lw_g (lw_at lw_m6 82 rfl) rfl
theorem q1556 : (Jvm.Cond.instantiable "SkinLeague$Sale" (4 : Nat)) ∈ lw_all := lw_g (lw_at lw_m7 81 rfl) rfl
theorem q1559 : (Jvm.Cond.instanceMethod ({ cls := "SkinLeague$Sale", name := "<init>", desc := "(LSkinLeague$Player;LSkinLeague$Player;IZ)V" } : Jvm.MethodName)) ∈ lw_all := lw_g (lw_at lw_m7 84 rfl) rfl
theorem q1560 : (Jvm.Cond.code ({ cls := "SkinLeague$Sale", name := "<init>", desc := "(LSkinLeague$Player;LSkinLeague$Player;IZ)V" } : Jvm.MethodName) prog_5_method_1_code (5 : Nat) (Option.none : Option Jvm.ClassFile.FieldType)) ∈ lw_all := lw_g (lw_at lw_m7 85 rfl) rfl
theorem q1561 : (Jvm.Cond.methodLink "SkinLeague$Sale" (1 : Nat) ({ cls := "java/lang/Record", name := "<init>", desc := "()V" } : Jvm.MethodName)) ∈ lw_all := lw_g (lw_at lw_m7 86 rfl) rfl
theorem q1562 : (Jvm.Cond.fieldLink "SkinLeague$Sale" (7 : Nat) "SkinLeague$Sale" "seller" "LSkinLeague$Player;") ∈ lw_all := lw_g (lw_at lw_m7 87 rfl) rfl
theorem q1564 : (Jvm.Cond.fieldLink "SkinLeague$Sale" (13 : Nat) "SkinLeague$Sale" "buyer" "LSkinLeague$Player;") ∈ lw_all := lw_g (lw_at lw_m7 89 rfl) rfl
theorem q1566 : (Jvm.Cond.fieldLink "SkinLeague$Sale" (16 : Nat) "SkinLeague$Sale" "price" "I") ∈ lw_all := lw_g (lw_at lw_m7 91 rfl) rfl
theorem q1568 : (Jvm.Cond.fieldLink "SkinLeague$Sale" (20 : Nat) "SkinLeague$Sale" "isInFaith" "Z") ∈ lw_all := lw_g (lw_at lw_m7 93 rfl) rfl
theorem q1571 : (Jvm.Cond.laysFinal "SkinLeague$Sale" "SkinLeague$Sale" "seller" "LSkinLeague$Player;") ∈ lw_all := lw_g (lw_at lw_m7 96 rfl) rfl
theorem q1572 : (Jvm.Cond.soleField "SkinLeague$Sale" "seller") ∈ lw_all := lw_g (lw_at lw_m7 97 rfl) rfl
theorem q1573 : (Jvm.Cond.laysFinal "SkinLeague$Sale" "SkinLeague$Sale" "buyer" "LSkinLeague$Player;") ∈ lw_all := lw_g (lw_at lw_m7 98 rfl) rfl
theorem q1574 : (Jvm.Cond.soleField "SkinLeague$Sale" "buyer") ∈ lw_all := lw_g (lw_at lw_m7 99 rfl) rfl
theorem q1575 : (Jvm.Cond.laysFinal "SkinLeague$Sale" "SkinLeague$Sale" "price" "I") ∈ lw_all := lw_g (lw_at lw_m7 100 rfl) rfl
theorem q1576 : (Jvm.Cond.soleField "SkinLeague$Sale" "price") ∈ lw_all := lw_g (lw_at lw_m7 101 rfl) rfl
theorem q1577 : (Jvm.Cond.laysFinal "SkinLeague$Sale" "SkinLeague$Sale" "isInFaith" "Z") ∈ lw_all := lw_g (lw_at lw_m7 102 rfl) rfl
theorem q1578 : (Jvm.Cond.soleField "SkinLeague$Sale" "isInFaith") ∈ lw_all := lw_g (lw_at lw_m7 103 rfl) rfl
theorem q1579 : (Jvm.Cond.superclass "SkinLeague$Sale" "java/lang/Record") ∈ lw_all := lw_g (lw_at lw_m7 104 rfl) rfl
theorem q2104 : (Jvm.Cond.castable "SkinLeague$Sale" "java/lang/Object") ∈ lw_tbl := lw_at lw_m9 149 rfl
theorem in_X10 : ∀ w ∈ wsX100, w ∈ lw_all := lw_in wsX100 [1571, 1573, 1575, 1577] (by decide +kernel) (by decide +kernel)
