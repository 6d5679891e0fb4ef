set_option maxRecDepth 100000
/-! SkinLeagueModel -/
def RX3 : String := "SkinLeagueModel"
def TX3 : u_T := fun k => match k with
  | 0 => ("SkinLeagueModel", "day", "I", false)
  | 1 => ("SkinLeagueModel", "players", "I", false)
  | 2 => ("SkinLeagueModel", "since", "[I", true)
  | 3 => ("SkinLeagueModel", "banned", "[I", true)
  | 4 => ("SkinLeagueModel", "money", "[I", true)
  | 5 => ("SkinLeagueModel", "room", "[I", true)
  | 6 => ("SkinLeagueModel", "matches", "I", false)
  | 7 => ("SkinLeagueModel", "winner", "[I", true)
  | 8 => ("SkinLeagueModel", "loser", "[I", true)
  | 9 => ("SkinLeagueModel", "region", "[I", true)
  | 10 => ("SkinLeagueModel", "played", "[I", true)
  | 11 => ("SkinLeagueModel", "inSeason", "[I", true)
  | 12 => ("SkinLeagueModel", "season", "I", false)
  | 13 => ("SkinLeagueModel", "skins", "I", false)
  | 14 => ("SkinLeagueModel", "skinSeason", "[I", true)
  | 15 => ("SkinLeagueModel", "skinPlace", "[I", true)
  | 16 => ("SkinLeagueModel", "heir", "[I", true)
  | 17 => ("SkinLeagueModel", "holder", "[I", true)
  | 18 => ("SkinLeagueModel", "borrower", "[I", true)
  | 19 => ("SkinLeagueModel", "until", "[I", true)
  | 20 => ("SkinLeagueModel", "faith", "[I", true)
  | 21 => ("SkinLeagueModel", "sales", "[I", true)
  | 22 => ("SkinLeagueModel", "seller", "[I", true)
  | 23 => ("SkinLeagueModel", "buyer", "[I", true)
  | 24 => ("SkinLeagueModel", "price", "[I", true)
  | 25 => ("SkinLeagueModel", "points", "[I", true)
  | 26 => ("SkinLeagueModel", "many", "[I", true)
  | 27 => ("SkinLeagueModel", "text", "[I", true)
  | 28 => ("SkinLeagueModel", "written", "I", false)
  | _ => ("SkinLeagueModel", "thrown", "I", false)
def tyX3 : Nat → FieldType := fun k => match k with
  | 0 => .int
  | 1 => .int
  | 2 => .array .int
  | 3 => .array .int
  | 4 => .array .int
  | 5 => .array .int
  | 6 => .int
  | 7 => .array .int
  | 8 => .array .int
  | 9 => .array .int
  | 10 => .array .int
  | 11 => .array .int
  | 12 => .int
  | 13 => .int
  | 14 => .array .int
  | 15 => .array .int
  | 16 => .array .int
  | 17 => .array .int
  | 18 => .array .int
  | 19 => .array .int
  | 20 => .array .int
  | 21 => .array .int
  | 22 => .array .int
  | 23 => .array .int
  | 24 => .array .int
  | 25 => .array .int
  | 26 => .array .int
  | 27 => .array .int
  | 28 => .int
  | _ => .int
abbrev wsX30 : List Cond := u_ws RX3 TX3 30
set_option maxRecDepth 100000 in
theorem nmX3 : ∀ a, a < 30 → ∀ b, b < 30 → a ≠ b → (TX3 a).2.1 ≠ (TX3 b).2.1 := by decide +kernel
set_option maxRecDepth 100000 in
theorem tyX3_ok : ∀ k, k < 30 → parseFieldDescriptor (TX3 k).2.2.1 = some (tyX3 k) := by decide +kernel
abbrev cX3_init : ByteArray := prog_12_method_1_code
def yX3_init : MethodName := ⟨RX3, "<init>", "()V"⟩
def dkwX3_init_9 : List UInt8 := [177]
abbrev dktX3_init_9 : List UInt8 := dkwX3_init_9 ++ []
def dkwX3_init_8 : List UInt8 := [181, 0, 76, 3, 60, 27, 7, 162, 0, 17, 42, 180, 0, 19, 27, 16, 10, 79, 132, 1, 1, 167, 255, 240]
abbrev dktX3_init_8 : List UInt8 := dkwX3_init_8 ++ dktX3_init_9
def dkwX3_init_7 : List UInt8 := [181, 0, 67, 42, 16, 16, 188, 10, 181, 0, 70, 42, 16, 16, 188, 10, 181, 0, 73, 42, 16, 16, 188, 10]
abbrev dktX3_init_7 : List UInt8 := dkwX3_init_7 ++ dktX3_init_8
def dkwX3_init_6 : List UInt8 := [17, 2, 208, 188, 10, 181, 0, 61, 42, 17, 2, 208, 188, 10, 181, 0, 64, 42, 17, 2, 208, 188, 10]
abbrev dktX3_init_6 : List UInt8 := dkwX3_init_6 ++ dktX3_init_7
def dkwX3_init_5 : List UInt8 := [188, 10, 181, 0, 52, 42, 16, 36, 188, 10, 181, 0, 55, 42, 16, 36, 188, 10, 181, 0, 58, 42]
abbrev dktX3_init_5 : List UInt8 := dkwX3_init_5 ++ dktX3_init_6
def dkwX3_init_4 : List UInt8 := [188, 10, 181, 0, 43, 42, 16, 36, 188, 10, 181, 0, 46, 42, 16, 36, 188, 10, 181, 0, 49, 42, 16, 36]
abbrev dktX3_init_4 : List UInt8 := dkwX3_init_4 ++ dktX3_init_5
def dkwX3_init_3 : List UInt8 := [188, 10, 181, 0, 34, 42, 16, 36, 188, 10, 181, 0, 37, 42, 16, 36, 188, 10, 181, 0, 40, 42, 16, 36]
abbrev dktX3_init_3 : List UInt8 := dkwX3_init_3 ++ dktX3_init_4
def dkwX3_init_2 : List UInt8 := [188, 10, 181, 0, 25, 42, 16, 100, 188, 10, 181, 0, 28, 42, 16, 100, 188, 10, 181, 0, 31, 42, 16, 100]
abbrev dktX3_init_2 : List UInt8 := dkwX3_init_2 ++ dktX3_init_3
def dkwX3_init_1 : List UInt8 := [188, 10, 181, 0, 16, 42, 7, 188, 10, 181, 0, 19, 42, 16, 100, 188, 10, 181, 0, 22, 42, 16, 100]
abbrev dktX3_init_1 : List UInt8 := dkwX3_init_1 ++ dktX3_init_2
def dkwX3_init_0 : List UInt8 := [42, 183, 0, 1, 42, 16, 16, 188, 10, 181, 0, 7, 42, 16, 16, 188, 10, 181, 0, 13, 42, 16, 16]
abbrev dktX3_init_0 : List UInt8 := dkwX3_init_0 ++ dktX3_init_1
theorem dksX3_init_0 : cX3_init.data.toList.drop 0 = dktX3_init_0 := by decide +kernel
theorem dksX3_init_1 : cX3_init.data.toList.drop 23 = dktX3_init_1 := dk_seg dksX3_init_0 23 rfl rfl
theorem dksX3_init_2 : cX3_init.data.toList.drop 46 = dktX3_init_2 := dk_seg dksX3_init_1 23 rfl rfl
theorem dksX3_init_3 : cX3_init.data.toList.drop 70 = dktX3_init_3 := dk_seg dksX3_init_2 24 rfl rfl
theorem dksX3_init_4 : cX3_init.data.toList.drop 94 = dktX3_init_4 := dk_seg dksX3_init_3 24 rfl rfl
theorem dksX3_init_5 : cX3_init.data.toList.drop 118 = dktX3_init_5 := dk_seg dksX3_init_4 24 rfl rfl
theorem dksX3_init_6 : cX3_init.data.toList.drop 140 = dktX3_init_6 := dk_seg dksX3_init_5 22 rfl rfl
theorem dksX3_init_7 : cX3_init.data.toList.drop 163 = dktX3_init_7 := dk_seg dksX3_init_6 23 rfl rfl
theorem dksX3_init_8 : cX3_init.data.toList.drop 187 = dktX3_init_8 := dk_seg dksX3_init_7 24 rfl rfl
theorem dksX3_init_9 : cX3_init.data.toList.drop 211 = dktX3_init_9 := dk_seg dksX3_init_8 24 rfl rfl
theorem dX3_init_0 : decode cX3_init 0 = .ok (.aload_n 0, 1) := dk_42 (dk_at dksX3_init_0 0 rfl rfl)
theorem dX3_init_1 : decode cX3_init 1 = .ok (.invokespecial 1, 3) := dk_183 0 1 (dk_at dksX3_init_0 1 rfl rfl)
theorem dX3_init_4 : decode cX3_init 4 = .ok (.aload_n 0, 1) := dk_42 (dk_at dksX3_init_0 4 rfl rfl)
theorem dX3_init_5 : decode cX3_init 5 = .ok (.bipush 16, 2) := dk_16 16 (dk_at dksX3_init_0 5 rfl rfl)
theorem dX3_init_7 : decode cX3_init 7 = .ok (.newarray .int, 2) := dk_188_10 (dk_at dksX3_init_0 7 rfl rfl)
theorem dX3_init_9 : decode cX3_init 9 = .ok (.putfield 7, 3) := dk_181 0 7 (dk_at dksX3_init_0 9 rfl rfl)
theorem dX3_init_12 : decode cX3_init 12 = .ok (.aload_n 0, 1) := dk_42 (dk_at dksX3_init_0 12 rfl rfl)
theorem dX3_init_13 : decode cX3_init 13 = .ok (.bipush 16, 2) := dk_16 16 (dk_at dksX3_init_0 13 rfl rfl)
theorem dX3_init_15 : decode cX3_init 15 = .ok (.newarray .int, 2) := dk_188_10 (dk_at dksX3_init_0 15 rfl rfl)
theorem dX3_init_17 : decode cX3_init 17 = .ok (.putfield 13, 3) := dk_181 0 13 (dk_at dksX3_init_0 17 rfl rfl)
theorem dX3_init_20 : decode cX3_init 20 = .ok (.aload_n 0, 1) := dk_42 (dk_at dksX3_init_0 20 rfl rfl)
theorem dX3_init_21 : decode cX3_init 21 = .ok (.bipush 16, 2) := dk_16 16 (dk_at dksX3_init_0 21 rfl rfl)
theorem dX3_init_23 : decode cX3_init 23 = .ok (.newarray .int, 2) := dk_188_10 (dk_at dksX3_init_1 0 rfl rfl)
theorem dX3_init_25 : decode cX3_init 25 = .ok (.putfield 16, 3) := dk_181 0 16 (dk_at dksX3_init_1 2 rfl rfl)
theorem dX3_init_28 : decode cX3_init 28 = .ok (.aload_n 0, 1) := dk_42 (dk_at dksX3_init_1 5 rfl rfl)
theorem dX3_init_29 : decode cX3_init 29 = .ok (.iconst 4, 1) := dk_7 (dk_at dksX3_init_1 6 rfl rfl)
theorem dX3_init_30 : decode cX3_init 30 = .ok (.newarray .int, 2) := dk_188_10 (dk_at dksX3_init_1 7 rfl rfl)
theorem dX3_init_32 : decode cX3_init 32 = .ok (.putfield 19, 3) := dk_181 0 19 (dk_at dksX3_init_1 9 rfl rfl)
theorem dX3_init_35 : decode cX3_init 35 = .ok (.aload_n 0, 1) := dk_42 (dk_at dksX3_init_1 12 rfl rfl)
theorem dX3_init_36 : decode cX3_init 36 = .ok (.bipush 100, 2) := dk_16 100 (dk_at dksX3_init_1 13 rfl rfl)
theorem dX3_init_38 : decode cX3_init 38 = .ok (.newarray .int, 2) := dk_188_10 (dk_at dksX3_init_1 15 rfl rfl)
theorem dX3_init_40 : decode cX3_init 40 = .ok (.putfield 22, 3) := dk_181 0 22 (dk_at dksX3_init_1 17 rfl rfl)
theorem dX3_init_43 : decode cX3_init 43 = .ok (.aload_n 0, 1) := dk_42 (dk_at dksX3_init_1 20 rfl rfl)
theorem dX3_init_44 : decode cX3_init 44 = .ok (.bipush 100, 2) := dk_16 100 (dk_at dksX3_init_1 21 rfl rfl)
theorem dX3_init_46 : decode cX3_init 46 = .ok (.newarray .int, 2) := dk_188_10 (dk_at dksX3_init_2 0 rfl rfl)
theorem dX3_init_48 : decode cX3_init 48 = .ok (.putfield 25, 3) := dk_181 0 25 (dk_at dksX3_init_2 2 rfl rfl)
theorem dX3_init_51 : decode cX3_init 51 = .ok (.aload_n 0, 1) := dk_42 (dk_at dksX3_init_2 5 rfl rfl)
theorem dX3_init_52 : decode cX3_init 52 = .ok (.bipush 100, 2) := dk_16 100 (dk_at dksX3_init_2 6 rfl rfl)
theorem dX3_init_54 : decode cX3_init 54 = .ok (.newarray .int, 2) := dk_188_10 (dk_at dksX3_init_2 8 rfl rfl)
theorem dX3_init_56 : decode cX3_init 56 = .ok (.putfield 28, 3) := dk_181 0 28 (dk_at dksX3_init_2 10 rfl rfl)
theorem dX3_init_59 : decode cX3_init 59 = .ok (.aload_n 0, 1) := dk_42 (dk_at dksX3_init_2 13 rfl rfl)
theorem dX3_init_60 : decode cX3_init 60 = .ok (.bipush 100, 2) := dk_16 100 (dk_at dksX3_init_2 14 rfl rfl)
theorem dX3_init_62 : decode cX3_init 62 = .ok (.newarray .int, 2) := dk_188_10 (dk_at dksX3_init_2 16 rfl rfl)
theorem dX3_init_64 : decode cX3_init 64 = .ok (.putfield 31, 3) := dk_181 0 31 (dk_at dksX3_init_2 18 rfl rfl)
theorem dX3_init_67 : decode cX3_init 67 = .ok (.aload_n 0, 1) := dk_42 (dk_at dksX3_init_2 21 rfl rfl)
theorem dX3_init_68 : decode cX3_init 68 = .ok (.bipush 100, 2) := dk_16 100 (dk_at dksX3_init_2 22 rfl rfl)
theorem dX3_init_70 : decode cX3_init 70 = .ok (.newarray .int, 2) := dk_188_10 (dk_at dksX3_init_3 0 rfl rfl)
theorem dX3_init_72 : decode cX3_init 72 = .ok (.putfield 34, 3) := dk_181 0 34 (dk_at dksX3_init_3 2 rfl rfl)
theorem dX3_init_75 : decode cX3_init 75 = .ok (.aload_n 0, 1) := dk_42 (dk_at dksX3_init_3 5 rfl rfl)
theorem dX3_init_76 : decode cX3_init 76 = .ok (.bipush 36, 2) := dk_16 36 (dk_at dksX3_init_3 6 rfl rfl)
theorem dX3_init_78 : decode cX3_init 78 = .ok (.newarray .int, 2) := dk_188_10 (dk_at dksX3_init_3 8 rfl rfl)
theorem dX3_init_80 : decode cX3_init 80 = .ok (.putfield 37, 3) := dk_181 0 37 (dk_at dksX3_init_3 10 rfl rfl)
theorem dX3_init_83 : decode cX3_init 83 = .ok (.aload_n 0, 1) := dk_42 (dk_at dksX3_init_3 13 rfl rfl)
theorem dX3_init_84 : decode cX3_init 84 = .ok (.bipush 36, 2) := dk_16 36 (dk_at dksX3_init_3 14 rfl rfl)
theorem dX3_init_86 : decode cX3_init 86 = .ok (.newarray .int, 2) := dk_188_10 (dk_at dksX3_init_3 16 rfl rfl)
theorem dX3_init_88 : decode cX3_init 88 = .ok (.putfield 40, 3) := dk_181 0 40 (dk_at dksX3_init_3 18 rfl rfl)
theorem dX3_init_91 : decode cX3_init 91 = .ok (.aload_n 0, 1) := dk_42 (dk_at dksX3_init_3 21 rfl rfl)
theorem dX3_init_92 : decode cX3_init 92 = .ok (.bipush 36, 2) := dk_16 36 (dk_at dksX3_init_3 22 rfl rfl)
theorem dX3_init_94 : decode cX3_init 94 = .ok (.newarray .int, 2) := dk_188_10 (dk_at dksX3_init_4 0 rfl rfl)
theorem dX3_init_96 : decode cX3_init 96 = .ok (.putfield 43, 3) := dk_181 0 43 (dk_at dksX3_init_4 2 rfl rfl)
theorem dX3_init_99 : decode cX3_init 99 = .ok (.aload_n 0, 1) := dk_42 (dk_at dksX3_init_4 5 rfl rfl)
theorem dX3_init_100 : decode cX3_init 100 = .ok (.bipush 36, 2) := dk_16 36 (dk_at dksX3_init_4 6 rfl rfl)
theorem dX3_init_102 : decode cX3_init 102 = .ok (.newarray .int, 2) := dk_188_10 (dk_at dksX3_init_4 8 rfl rfl)
theorem dX3_init_104 : decode cX3_init 104 = .ok (.putfield 46, 3) := dk_181 0 46 (dk_at dksX3_init_4 10 rfl rfl)
theorem dX3_init_107 : decode cX3_init 107 = .ok (.aload_n 0, 1) := dk_42 (dk_at dksX3_init_4 13 rfl rfl)
theorem dX3_init_108 : decode cX3_init 108 = .ok (.bipush 36, 2) := dk_16 36 (dk_at dksX3_init_4 14 rfl rfl)
theorem dX3_init_110 : decode cX3_init 110 = .ok (.newarray .int, 2) := dk_188_10 (dk_at dksX3_init_4 16 rfl rfl)
theorem dX3_init_112 : decode cX3_init 112 = .ok (.putfield 49, 3) := dk_181 0 49 (dk_at dksX3_init_4 18 rfl rfl)
theorem dX3_init_115 : decode cX3_init 115 = .ok (.aload_n 0, 1) := dk_42 (dk_at dksX3_init_4 21 rfl rfl)
theorem dX3_init_116 : decode cX3_init 116 = .ok (.bipush 36, 2) := dk_16 36 (dk_at dksX3_init_4 22 rfl rfl)
theorem dX3_init_118 : decode cX3_init 118 = .ok (.newarray .int, 2) := dk_188_10 (dk_at dksX3_init_5 0 rfl rfl)
theorem dX3_init_120 : decode cX3_init 120 = .ok (.putfield 52, 3) := dk_181 0 52 (dk_at dksX3_init_5 2 rfl rfl)
theorem dX3_init_123 : decode cX3_init 123 = .ok (.aload_n 0, 1) := dk_42 (dk_at dksX3_init_5 5 rfl rfl)
theorem dX3_init_124 : decode cX3_init 124 = .ok (.bipush 36, 2) := dk_16 36 (dk_at dksX3_init_5 6 rfl rfl)
theorem dX3_init_126 : decode cX3_init 126 = .ok (.newarray .int, 2) := dk_188_10 (dk_at dksX3_init_5 8 rfl rfl)
theorem dX3_init_128 : decode cX3_init 128 = .ok (.putfield 55, 3) := dk_181 0 55 (dk_at dksX3_init_5 10 rfl rfl)
theorem dX3_init_131 : decode cX3_init 131 = .ok (.aload_n 0, 1) := dk_42 (dk_at dksX3_init_5 13 rfl rfl)
theorem dX3_init_132 : decode cX3_init 132 = .ok (.bipush 36, 2) := dk_16 36 (dk_at dksX3_init_5 14 rfl rfl)
theorem dX3_init_134 : decode cX3_init 134 = .ok (.newarray .int, 2) := dk_188_10 (dk_at dksX3_init_5 16 rfl rfl)
theorem dX3_init_136 : decode cX3_init 136 = .ok (.putfield 58, 3) := dk_181 0 58 (dk_at dksX3_init_5 18 rfl rfl)
theorem dX3_init_139 : decode cX3_init 139 = .ok (.aload_n 0, 1) := dk_42 (dk_at dksX3_init_5 21 rfl rfl)
theorem dX3_init_140 : decode cX3_init 140 = .ok (.sipush 720, 3) := dk_17 2 208 (dk_at dksX3_init_6 0 rfl rfl)
theorem dX3_init_143 : decode cX3_init 143 = .ok (.newarray .int, 2) := dk_188_10 (dk_at dksX3_init_6 3 rfl rfl)
theorem dX3_init_145 : decode cX3_init 145 = .ok (.putfield 61, 3) := dk_181 0 61 (dk_at dksX3_init_6 5 rfl rfl)
theorem dX3_init_148 : decode cX3_init 148 = .ok (.aload_n 0, 1) := dk_42 (dk_at dksX3_init_6 8 rfl rfl)
theorem dX3_init_149 : decode cX3_init 149 = .ok (.sipush 720, 3) := dk_17 2 208 (dk_at dksX3_init_6 9 rfl rfl)
theorem dX3_init_152 : decode cX3_init 152 = .ok (.newarray .int, 2) := dk_188_10 (dk_at dksX3_init_6 12 rfl rfl)
theorem dX3_init_154 : decode cX3_init 154 = .ok (.putfield 64, 3) := dk_181 0 64 (dk_at dksX3_init_6 14 rfl rfl)
theorem dX3_init_157 : decode cX3_init 157 = .ok (.aload_n 0, 1) := dk_42 (dk_at dksX3_init_6 17 rfl rfl)
theorem dX3_init_158 : decode cX3_init 158 = .ok (.sipush 720, 3) := dk_17 2 208 (dk_at dksX3_init_6 18 rfl rfl)
theorem dX3_init_161 : decode cX3_init 161 = .ok (.newarray .int, 2) := dk_188_10 (dk_at dksX3_init_6 21 rfl rfl)
theorem dX3_init_163 : decode cX3_init 163 = .ok (.putfield 67, 3) := dk_181 0 67 (dk_at dksX3_init_7 0 rfl rfl)
theorem dX3_init_166 : decode cX3_init 166 = .ok (.aload_n 0, 1) := dk_42 (dk_at dksX3_init_7 3 rfl rfl)
theorem dX3_init_167 : decode cX3_init 167 = .ok (.bipush 16, 2) := dk_16 16 (dk_at dksX3_init_7 4 rfl rfl)
theorem dX3_init_169 : decode cX3_init 169 = .ok (.newarray .int, 2) := dk_188_10 (dk_at dksX3_init_7 6 rfl rfl)
theorem dX3_init_171 : decode cX3_init 171 = .ok (.putfield 70, 3) := dk_181 0 70 (dk_at dksX3_init_7 8 rfl rfl)
theorem dX3_init_174 : decode cX3_init 174 = .ok (.aload_n 0, 1) := dk_42 (dk_at dksX3_init_7 11 rfl rfl)
theorem dX3_init_175 : decode cX3_init 175 = .ok (.bipush 16, 2) := dk_16 16 (dk_at dksX3_init_7 12 rfl rfl)
theorem dX3_init_177 : decode cX3_init 177 = .ok (.newarray .int, 2) := dk_188_10 (dk_at dksX3_init_7 14 rfl rfl)
theorem dX3_init_179 : decode cX3_init 179 = .ok (.putfield 73, 3) := dk_181 0 73 (dk_at dksX3_init_7 16 rfl rfl)
theorem dX3_init_182 : decode cX3_init 182 = .ok (.aload_n 0, 1) := dk_42 (dk_at dksX3_init_7 19 rfl rfl)
theorem dX3_init_183 : decode cX3_init 183 = .ok (.bipush 16, 2) := dk_16 16 (dk_at dksX3_init_7 20 rfl rfl)
theorem dX3_init_185 : decode cX3_init 185 = .ok (.newarray .int, 2) := dk_188_10 (dk_at dksX3_init_7 22 rfl rfl)
theorem dX3_init_187 : decode cX3_init 187 = .ok (.putfield 76, 3) := dk_181 0 76 (dk_at dksX3_init_8 0 rfl rfl)
theorem dX3_init_190 : decode cX3_init 190 = .ok (.iconst 0, 1) := dk_3 (dk_at dksX3_init_8 3 rfl rfl)
theorem dX3_init_191 : decode cX3_init 191 = .ok (.istore_n 1, 1) := dk_60 (dk_at dksX3_init_8 4 rfl rfl)
theorem dX3_init_192 : decode cX3_init 192 = .ok (.iload_n 1, 1) := dk_27 (dk_at dksX3_init_8 5 rfl rfl)
theorem dX3_init_193 : decode cX3_init 193 = .ok (.iconst 4, 1) := dk_7 (dk_at dksX3_init_8 6 rfl rfl)
theorem dX3_init_194 : decode cX3_init 194 = .ok (.if_icmp .ge 17, 3) := dk_162 0 17 (dk_at dksX3_init_8 7 rfl rfl)
theorem dX3_init_197 : decode cX3_init 197 = .ok (.aload_n 0, 1) := dk_42 (dk_at dksX3_init_8 10 rfl rfl)
theorem dX3_init_198 : decode cX3_init 198 = .ok (.getfield 19, 3) := dk_180 0 19 (dk_at dksX3_init_8 11 rfl rfl)
theorem dX3_init_201 : decode cX3_init 201 = .ok (.iload_n 1, 1) := dk_27 (dk_at dksX3_init_8 14 rfl rfl)
theorem dX3_init_202 : decode cX3_init 202 = .ok (.bipush 10, 2) := dk_16 10 (dk_at dksX3_init_8 15 rfl rfl)
theorem dX3_init_204 : decode cX3_init 204 = .ok (.iastore, 1) := dk_79 (dk_at dksX3_init_8 17 rfl rfl)
theorem dX3_init_205 : decode cX3_init 205 = .ok (.iinc 1 1, 3) := dk_132 1 1 (dk_at dksX3_init_8 18 rfl rfl)
theorem dX3_init_208 : decode cX3_init 208 = .ok (.goto (-16), 3) := dk_167 255 240 (dk_at dksX3_init_8 21 rfl rfl)
theorem dX3_init_211 : decode cX3_init 211 = .ok (.return_, 1) := dk_177 (dk_at dksX3_init_9 0 rfl rfl)
abbrev cX3_thrown : ByteArray := prog_12_method_2_code
def yX3_thrown : MethodName := ⟨RX3, "thrown", "()I"⟩
theorem dX3_thrown_0 : decode cX3_thrown 0 = .ok (.aload_n 0, 1) := by decide +kernel
theorem dX3_thrown_1 : decode cX3_thrown 1 = .ok (.getfield 79, 3) := by decide +kernel
theorem dX3_thrown_4 : decode cX3_thrown 4 = .ok (.ireturn, 1) := by decide +kernel
abbrev cX3_player : ByteArray := prog_12_method_7_code
def yX3_player : MethodName := ⟨RX3, "player", "()I"⟩
def dkwX3_player_2 : List UInt8 := [100, 172]
abbrev dktX3_player_2 : List UInt8 := dkwX3_player_2 ++ []
def dkwX3_player_1 : List UInt8 := [180, 0, 7, 42, 180, 0, 83, 2, 79, 42, 89, 180, 0, 83, 4, 96, 181, 0, 83, 42, 180, 0, 83, 4]
abbrev dktX3_player_1 : List UInt8 := dkwX3_player_1 ++ dktX3_player_2
def dkwX3_player_0 : List UInt8 := [42, 42, 180, 0, 83, 16, 16, 160, 0, 7, 4, 167, 0, 4, 3, 182, 0, 93, 153, 0, 5, 3, 172, 42]
abbrev dktX3_player_0 : List UInt8 := dkwX3_player_0 ++ dktX3_player_1
theorem dksX3_player_0 : cX3_player.data.toList.drop 0 = dktX3_player_0 := by decide +kernel
theorem dksX3_player_1 : cX3_player.data.toList.drop 24 = dktX3_player_1 := dk_seg dksX3_player_0 24 rfl rfl
theorem dksX3_player_2 : cX3_player.data.toList.drop 48 = dktX3_player_2 := dk_seg dksX3_player_1 24 rfl rfl
theorem dX3_player_0 : decode cX3_player 0 = .ok (.aload_n 0, 1) := dk_42 (dk_at dksX3_player_0 0 rfl rfl)
theorem dX3_player_1 : decode cX3_player 1 = .ok (.aload_n 0, 1) := dk_42 (dk_at dksX3_player_0 1 rfl rfl)
theorem dX3_player_2 : decode cX3_player 2 = .ok (.getfield 83, 3) := dk_180 0 83 (dk_at dksX3_player_0 2 rfl rfl)
theorem dX3_player_5 : decode cX3_player 5 = .ok (.bipush 16, 2) := dk_16 16 (dk_at dksX3_player_0 5 rfl rfl)
theorem dX3_player_7 : decode cX3_player 7 = .ok (.if_icmp .ne 7, 3) := dk_160 0 7 (dk_at dksX3_player_0 7 rfl rfl)
theorem dX3_player_10 : decode cX3_player 10 = .ok (.iconst 1, 1) := dk_4 (dk_at dksX3_player_0 10 rfl rfl)
theorem dX3_player_11 : decode cX3_player 11 = .ok (.goto 4, 3) := dk_167 0 4 (dk_at dksX3_player_0 11 rfl rfl)
theorem dX3_player_14 : decode cX3_player 14 = .ok (.iconst 0, 1) := dk_3 (dk_at dksX3_player_0 14 rfl rfl)
theorem dX3_player_15 : decode cX3_player 15 = .ok (.invokevirtual 93, 3) := dk_182 0 93 (dk_at dksX3_player_0 15 rfl rfl)
theorem dX3_player_18 : decode cX3_player 18 = .ok (.ifCond .eq 5, 3) := dk_153 0 5 (dk_at dksX3_player_0 18 rfl rfl)
theorem dX3_player_21 : decode cX3_player 21 = .ok (.iconst 0, 1) := dk_3 (dk_at dksX3_player_0 21 rfl rfl)
theorem dX3_player_22 : decode cX3_player 22 = .ok (.ireturn, 1) := dk_172 (dk_at dksX3_player_0 22 rfl rfl)
theorem dX3_player_23 : decode cX3_player 23 = .ok (.aload_n 0, 1) := dk_42 (dk_at dksX3_player_0 23 rfl rfl)
theorem dX3_player_24 : decode cX3_player 24 = .ok (.getfield 7, 3) := dk_180 0 7 (dk_at dksX3_player_1 0 rfl rfl)
theorem dX3_player_27 : decode cX3_player 27 = .ok (.aload_n 0, 1) := dk_42 (dk_at dksX3_player_1 3 rfl rfl)
theorem dX3_player_28 : decode cX3_player 28 = .ok (.getfield 83, 3) := dk_180 0 83 (dk_at dksX3_player_1 4 rfl rfl)
theorem dX3_player_31 : decode cX3_player 31 = .ok (.iconst (-1), 1) := dk_2 (dk_at dksX3_player_1 7 rfl rfl)
theorem dX3_player_32 : decode cX3_player 32 = .ok (.iastore, 1) := dk_79 (dk_at dksX3_player_1 8 rfl rfl)
theorem dX3_player_33 : decode cX3_player 33 = .ok (.aload_n 0, 1) := dk_42 (dk_at dksX3_player_1 9 rfl rfl)
theorem dX3_player_34 : decode cX3_player 34 = .ok (.dup, 1) := dk_89 (dk_at dksX3_player_1 10 rfl rfl)
theorem dX3_player_35 : decode cX3_player 35 = .ok (.getfield 83, 3) := dk_180 0 83 (dk_at dksX3_player_1 11 rfl rfl)
theorem dX3_player_38 : decode cX3_player 38 = .ok (.iconst 1, 1) := dk_4 (dk_at dksX3_player_1 14 rfl rfl)
theorem dX3_player_39 : decode cX3_player 39 = .ok (.iadd, 1) := dk_96 (dk_at dksX3_player_1 15 rfl rfl)
theorem dX3_player_40 : decode cX3_player 40 = .ok (.putfield 83, 3) := dk_181 0 83 (dk_at dksX3_player_1 16 rfl rfl)
theorem dX3_player_43 : decode cX3_player 43 = .ok (.aload_n 0, 1) := dk_42 (dk_at dksX3_player_1 19 rfl rfl)
theorem dX3_player_44 : decode cX3_player 44 = .ok (.getfield 83, 3) := dk_180 0 83 (dk_at dksX3_player_1 20 rfl rfl)
theorem dX3_player_47 : decode cX3_player 47 = .ok (.iconst 1, 1) := dk_4 (dk_at dksX3_player_1 23 rfl rfl)
theorem dX3_player_48 : decode cX3_player 48 = .ok (.isub, 1) := dk_100 (dk_at dksX3_player_2 0 rfl rfl)
theorem dX3_player_49 : decode cX3_player 49 = .ok (.ireturn, 1) := dk_172 (dk_at dksX3_player_2 1 rfl rfl)
abbrev cX3_fails : ByteArray := prog_12_method_3_code
def yX3_fails : MethodName := ⟨RX3, "fails", "(I)Z"⟩
def dkwX3_fails_0 : List UInt8 := [42, 27, 181, 0, 79, 27, 158, 0, 7, 4, 167, 0, 4, 3, 172]
abbrev dktX3_fails_0 : List UInt8 := dkwX3_fails_0 ++ []
theorem dksX3_fails_0 : cX3_fails.data.toList.drop 0 = dktX3_fails_0 := by decide +kernel
theorem dX3_fails_0 : decode cX3_fails 0 = .ok (.aload_n 0, 1) := dk_42 (dk_at dksX3_fails_0 0 rfl rfl)
theorem dX3_fails_1 : decode cX3_fails 1 = .ok (.iload_n 1, 1) := dk_27 (dk_at dksX3_fails_0 1 rfl rfl)
theorem dX3_fails_2 : decode cX3_fails 2 = .ok (.putfield 79, 3) := dk_181 0 79 (dk_at dksX3_fails_0 2 rfl rfl)
theorem dX3_fails_5 : decode cX3_fails 5 = .ok (.iload_n 1, 1) := dk_27 (dk_at dksX3_fails_0 5 rfl rfl)
theorem dX3_fails_6 : decode cX3_fails 6 = .ok (.ifCond .le 7, 3) := dk_158 0 7 (dk_at dksX3_fails_0 6 rfl rfl)
theorem dX3_fails_9 : decode cX3_fails 9 = .ok (.iconst 1, 1) := dk_4 (dk_at dksX3_fails_0 9 rfl rfl)
theorem dX3_fails_10 : decode cX3_fails 10 = .ok (.goto 4, 3) := dk_167 0 4 (dk_at dksX3_fails_0 10 rfl rfl)
theorem dX3_fails_13 : decode cX3_fails 13 = .ok (.iconst 0, 1) := dk_3 (dk_at dksX3_fails_0 13 rfl rfl)
theorem dX3_fails_14 : decode cX3_fails 14 = .ok (.ireturn, 1) := dk_172 (dk_at dksX3_fails_0 14 rfl rfl)
abbrev cX3_room : ByteArray := prog_12_method_10_code
def yX3_room : MethodName := ⟨RX3, "room", "(II)I"⟩
def dkwX3_room_2 : List UInt8 := [172]
abbrev dktX3_room_2 : List UInt8 := dkwX3_room_2 ++ []
def dkwX3_room_1 : List UInt8 := [167, 0, 4, 5, 182, 0, 93, 153, 0, 5, 3, 172, 42, 180, 0, 19, 27, 28, 79, 42, 27, 182, 0, 103]
abbrev dktX3_room_1 : List UInt8 := dkwX3_room_1 ++ dktX3_room_2
def dkwX3_room_0 : List UInt8 := [42, 27, 184, 0, 100, 154, 0, 7, 4, 167, 0, 18, 28, 3, 16, 50, 184, 0, 86, 153, 0, 7, 3]
abbrev dktX3_room_0 : List UInt8 := dkwX3_room_0 ++ dktX3_room_1
theorem dksX3_room_0 : cX3_room.data.toList.drop 0 = dktX3_room_0 := by decide +kernel
theorem dksX3_room_1 : cX3_room.data.toList.drop 23 = dktX3_room_1 := dk_seg dksX3_room_0 23 rfl rfl
theorem dksX3_room_2 : cX3_room.data.toList.drop 47 = dktX3_room_2 := dk_seg dksX3_room_1 24 rfl rfl
theorem dX3_room_0 : decode cX3_room 0 = .ok (.aload_n 0, 1) := dk_42 (dk_at dksX3_room_0 0 rfl rfl)
theorem dX3_room_1 : decode cX3_room 1 = .ok (.iload_n 1, 1) := dk_27 (dk_at dksX3_room_0 1 rfl rfl)
theorem dX3_room_2 : decode cX3_room 2 = .ok (.invokestatic 100, 3) := dk_184 0 100 (dk_at dksX3_room_0 2 rfl rfl)
theorem dX3_room_5 : decode cX3_room 5 = .ok (.ifCond .ne 7, 3) := dk_154 0 7 (dk_at dksX3_room_0 5 rfl rfl)
theorem dX3_room_8 : decode cX3_room 8 = .ok (.iconst 1, 1) := dk_4 (dk_at dksX3_room_0 8 rfl rfl)
theorem dX3_room_9 : decode cX3_room 9 = .ok (.goto 18, 3) := dk_167 0 18 (dk_at dksX3_room_0 9 rfl rfl)
theorem dX3_room_12 : decode cX3_room 12 = .ok (.iload_n 2, 1) := dk_28 (dk_at dksX3_room_0 12 rfl rfl)
theorem dX3_room_13 : decode cX3_room 13 = .ok (.iconst 0, 1) := dk_3 (dk_at dksX3_room_0 13 rfl rfl)
theorem dX3_room_14 : decode cX3_room 14 = .ok (.bipush 50, 2) := dk_16 50 (dk_at dksX3_room_0 14 rfl rfl)
theorem dX3_room_16 : decode cX3_room 16 = .ok (.invokestatic 86, 3) := dk_184 0 86 (dk_at dksX3_room_0 16 rfl rfl)
theorem dX3_room_19 : decode cX3_room 19 = .ok (.ifCond .eq 7, 3) := dk_153 0 7 (dk_at dksX3_room_0 19 rfl rfl)
theorem dX3_room_22 : decode cX3_room 22 = .ok (.iconst 0, 1) := dk_3 (dk_at dksX3_room_0 22 rfl rfl)
theorem dX3_room_23 : decode cX3_room 23 = .ok (.goto 4, 3) := dk_167 0 4 (dk_at dksX3_room_1 0 rfl rfl)
theorem dX3_room_26 : decode cX3_room 26 = .ok (.iconst 2, 1) := dk_5 (dk_at dksX3_room_1 3 rfl rfl)
theorem dX3_room_27 : decode cX3_room 27 = .ok (.invokevirtual 93, 3) := dk_182 0 93 (dk_at dksX3_room_1 4 rfl rfl)
theorem dX3_room_30 : decode cX3_room 30 = .ok (.ifCond .eq 5, 3) := dk_153 0 5 (dk_at dksX3_room_1 7 rfl rfl)
theorem dX3_room_33 : decode cX3_room 33 = .ok (.iconst 0, 1) := dk_3 (dk_at dksX3_room_1 10 rfl rfl)
theorem dX3_room_34 : decode cX3_room 34 = .ok (.ireturn, 1) := dk_172 (dk_at dksX3_room_1 11 rfl rfl)
theorem dX3_room_35 : decode cX3_room 35 = .ok (.aload_n 0, 1) := dk_42 (dk_at dksX3_room_1 12 rfl rfl)
theorem dX3_room_36 : decode cX3_room 36 = .ok (.getfield 19, 3) := dk_180 0 19 (dk_at dksX3_room_1 13 rfl rfl)
theorem dX3_room_39 : decode cX3_room 39 = .ok (.iload_n 1, 1) := dk_27 (dk_at dksX3_room_1 16 rfl rfl)
theorem dX3_room_40 : decode cX3_room 40 = .ok (.iload_n 2, 1) := dk_28 (dk_at dksX3_room_1 17 rfl rfl)
theorem dX3_room_41 : decode cX3_room 41 = .ok (.iastore, 1) := dk_79 (dk_at dksX3_room_1 18 rfl rfl)
theorem dX3_room_42 : decode cX3_room 42 = .ok (.aload_n 0, 1) := dk_42 (dk_at dksX3_room_1 19 rfl rfl)
theorem dX3_room_43 : decode cX3_room 43 = .ok (.iload_n 1, 1) := dk_27 (dk_at dksX3_room_1 20 rfl rfl)
theorem dX3_room_44 : decode cX3_room 44 = .ok (.invokevirtual 103, 3) := dk_182 0 103 (dk_at dksX3_room_1 21 rfl rfl)
theorem dX3_room_47 : decode cX3_room 47 = .ok (.ireturn, 1) := dk_172 (dk_at dksX3_room_2 0 rfl rfl)
abbrev cX3_isRegion : ByteArray := prog_12_method_8_code
def yX3_isRegion : MethodName := ⟨RX3, "isRegion", "(I)Z"⟩
def dkwX3_isRegion_0 : List UInt8 := [26, 3, 6, 184, 0, 86, 172]
abbrev dktX3_isRegion_0 : List UInt8 := dkwX3_isRegion_0 ++ []
theorem dksX3_isRegion_0 : cX3_isRegion.data.toList.drop 0 = dktX3_isRegion_0 := by decide +kernel
theorem dX3_isRegion_0 : decode cX3_isRegion 0 = .ok (.iload_n 0, 1) := dk_26 (dk_at dksX3_isRegion_0 0 rfl rfl)
theorem dX3_isRegion_1 : decode cX3_isRegion 1 = .ok (.iconst 0, 1) := dk_3 (dk_at dksX3_isRegion_0 1 rfl rfl)
theorem dX3_isRegion_2 : decode cX3_isRegion 2 = .ok (.iconst 3, 1) := dk_6 (dk_at dksX3_isRegion_0 2 rfl rfl)
theorem dX3_isRegion_3 : decode cX3_isRegion 3 = .ok (.invokestatic 86, 3) := dk_184 0 86 (dk_at dksX3_isRegion_0 3 rfl rfl)
theorem dX3_isRegion_6 : decode cX3_isRegion 6 = .ok (.ireturn, 1) := dk_172 (dk_at dksX3_isRegion_0 6 rfl rfl)
abbrev cX3_isIn : ByteArray := prog_12_method_4_code
def yX3_isIn : MethodName := ⟨RX3, "isIn", "(III)Z"⟩
def dkwX3_isIn_0 : List UInt8 := [26, 27, 161, 0, 12, 26, 28, 163, 0, 7, 4, 167, 0, 4, 3, 172]
abbrev dktX3_isIn_0 : List UInt8 := dkwX3_isIn_0 ++ []
theorem dksX3_isIn_0 : cX3_isIn.data.toList.drop 0 = dktX3_isIn_0 := by decide +kernel
theorem dX3_isIn_0 : decode cX3_isIn 0 = .ok (.iload_n 0, 1) := dk_26 (dk_at dksX3_isIn_0 0 rfl rfl)
theorem dX3_isIn_1 : decode cX3_isIn 1 = .ok (.iload_n 1, 1) := dk_27 (dk_at dksX3_isIn_0 1 rfl rfl)
theorem dX3_isIn_2 : decode cX3_isIn 2 = .ok (.if_icmp .lt 12, 3) := dk_161 0 12 (dk_at dksX3_isIn_0 2 rfl rfl)
theorem dX3_isIn_5 : decode cX3_isIn 5 = .ok (.iload_n 0, 1) := dk_26 (dk_at dksX3_isIn_0 5 rfl rfl)
theorem dX3_isIn_6 : decode cX3_isIn 6 = .ok (.iload_n 2, 1) := dk_28 (dk_at dksX3_isIn_0 6 rfl rfl)
theorem dX3_isIn_7 : decode cX3_isIn 7 = .ok (.if_icmp .gt 7, 3) := dk_163 0 7 (dk_at dksX3_isIn_0 7 rfl rfl)
theorem dX3_isIn_10 : decode cX3_isIn 10 = .ok (.iconst 1, 1) := dk_4 (dk_at dksX3_isIn_0 10 rfl rfl)
theorem dX3_isIn_11 : decode cX3_isIn 11 = .ok (.goto 4, 3) := dk_167 0 4 (dk_at dksX3_isIn_0 11 rfl rfl)
theorem dX3_isIn_14 : decode cX3_isIn 14 = .ok (.iconst 0, 1) := dk_3 (dk_at dksX3_isIn_0 14 rfl rfl)
theorem dX3_isIn_15 : decode cX3_isIn 15 = .ok (.ireturn, 1) := dk_172 (dk_at dksX3_isIn_0 15 rfl rfl)
abbrev cX3_today : ByteArray := prog_12_method_9_code
def yX3_today : MethodName := ⟨RX3, "today", "(I)I"⟩
def dkwX3_today_2 : List UInt8 := [167, 255, 214, 28, 172]
abbrev dktX3_today_2 : List UInt8 := dkwX3_today_2 ++ []
def dkwX3_today_1 : List UInt8 := [180, 0, 31, 29, 46, 42, 180, 0, 90, 160, 0, 7, 4, 167, 0, 4, 3, 96, 61, 132, 3, 1]
abbrev dktX3_today_1 : List UInt8 := dkwX3_today_1 ++ dktX3_today_2
def dkwX3_today_0 : List UInt8 := [3, 61, 3, 62, 29, 42, 180, 0, 97, 162, 0, 40, 28, 42, 180, 0, 28, 29, 46, 27, 160, 0, 20, 42]
abbrev dktX3_today_0 : List UInt8 := dkwX3_today_0 ++ dktX3_today_1
theorem dksX3_today_0 : cX3_today.data.toList.drop 0 = dktX3_today_0 := by decide +kernel
theorem dksX3_today_1 : cX3_today.data.toList.drop 24 = dktX3_today_1 := dk_seg dksX3_today_0 24 rfl rfl
theorem dksX3_today_2 : cX3_today.data.toList.drop 46 = dktX3_today_2 := dk_seg dksX3_today_1 22 rfl rfl
theorem dX3_today_0 : decode cX3_today 0 = .ok (.iconst 0, 1) := dk_3 (dk_at dksX3_today_0 0 rfl rfl)
theorem dX3_today_1 : decode cX3_today 1 = .ok (.istore_n 2, 1) := dk_61 (dk_at dksX3_today_0 1 rfl rfl)
theorem dX3_today_2 : decode cX3_today 2 = .ok (.iconst 0, 1) := dk_3 (dk_at dksX3_today_0 2 rfl rfl)
theorem dX3_today_3 : decode cX3_today 3 = .ok (.istore_n 3, 1) := dk_62 (dk_at dksX3_today_0 3 rfl rfl)
theorem dX3_today_4 : decode cX3_today 4 = .ok (.iload_n 3, 1) := dk_29 (dk_at dksX3_today_0 4 rfl rfl)
theorem dX3_today_5 : decode cX3_today 5 = .ok (.aload_n 0, 1) := dk_42 (dk_at dksX3_today_0 5 rfl rfl)
theorem dX3_today_6 : decode cX3_today 6 = .ok (.getfield 97, 3) := dk_180 0 97 (dk_at dksX3_today_0 6 rfl rfl)
theorem dX3_today_9 : decode cX3_today 9 = .ok (.if_icmp .ge 40, 3) := dk_162 0 40 (dk_at dksX3_today_0 9 rfl rfl)
theorem dX3_today_12 : decode cX3_today 12 = .ok (.iload_n 2, 1) := dk_28 (dk_at dksX3_today_0 12 rfl rfl)
theorem dX3_today_13 : decode cX3_today 13 = .ok (.aload_n 0, 1) := dk_42 (dk_at dksX3_today_0 13 rfl rfl)
theorem dX3_today_14 : decode cX3_today 14 = .ok (.getfield 28, 3) := dk_180 0 28 (dk_at dksX3_today_0 14 rfl rfl)
theorem dX3_today_17 : decode cX3_today 17 = .ok (.iload_n 3, 1) := dk_29 (dk_at dksX3_today_0 17 rfl rfl)
theorem dX3_today_18 : decode cX3_today 18 = .ok (.iaload, 1) := dk_46 (dk_at dksX3_today_0 18 rfl rfl)
theorem dX3_today_19 : decode cX3_today 19 = .ok (.iload_n 1, 1) := dk_27 (dk_at dksX3_today_0 19 rfl rfl)
theorem dX3_today_20 : decode cX3_today 20 = .ok (.if_icmp .ne 20, 3) := dk_160 0 20 (dk_at dksX3_today_0 20 rfl rfl)
theorem dX3_today_23 : decode cX3_today 23 = .ok (.aload_n 0, 1) := dk_42 (dk_at dksX3_today_0 23 rfl rfl)
theorem dX3_today_24 : decode cX3_today 24 = .ok (.getfield 31, 3) := dk_180 0 31 (dk_at dksX3_today_1 0 rfl rfl)
theorem dX3_today_27 : decode cX3_today 27 = .ok (.iload_n 3, 1) := dk_29 (dk_at dksX3_today_1 3 rfl rfl)
theorem dX3_today_28 : decode cX3_today 28 = .ok (.iaload, 1) := dk_46 (dk_at dksX3_today_1 4 rfl rfl)
theorem dX3_today_29 : decode cX3_today 29 = .ok (.aload_n 0, 1) := dk_42 (dk_at dksX3_today_1 5 rfl rfl)
theorem dX3_today_30 : decode cX3_today 30 = .ok (.getfield 90, 3) := dk_180 0 90 (dk_at dksX3_today_1 6 rfl rfl)
theorem dX3_today_33 : decode cX3_today 33 = .ok (.if_icmp .ne 7, 3) := dk_160 0 7 (dk_at dksX3_today_1 9 rfl rfl)
theorem dX3_today_36 : decode cX3_today 36 = .ok (.iconst 1, 1) := dk_4 (dk_at dksX3_today_1 12 rfl rfl)
theorem dX3_today_37 : decode cX3_today 37 = .ok (.goto 4, 3) := dk_167 0 4 (dk_at dksX3_today_1 13 rfl rfl)
theorem dX3_today_40 : decode cX3_today 40 = .ok (.iconst 0, 1) := dk_3 (dk_at dksX3_today_1 16 rfl rfl)
theorem dX3_today_41 : decode cX3_today 41 = .ok (.iadd, 1) := dk_96 (dk_at dksX3_today_1 17 rfl rfl)
theorem dX3_today_42 : decode cX3_today 42 = .ok (.istore_n 2, 1) := dk_61 (dk_at dksX3_today_1 18 rfl rfl)
theorem dX3_today_43 : decode cX3_today 43 = .ok (.iinc 3 1, 3) := dk_132 3 1 (dk_at dksX3_today_1 19 rfl rfl)
theorem dX3_today_46 : decode cX3_today 46 = .ok (.goto (-42), 3) := dk_167 255 214 (dk_at dksX3_today_2 0 rfl rfl)
theorem dX3_today_49 : decode cX3_today 49 = .ok (.iload_n 2, 1) := dk_28 (dk_at dksX3_today_2 3 rfl rfl)
theorem dX3_today_50 : decode cX3_today 50 = .ok (.ireturn, 1) := dk_172 (dk_at dksX3_today_2 4 rfl rfl)
abbrev cX3_match : ByteArray := prog_12_method_11_code
def yX3_match : MethodName := ⟨RX3, "match", "(III)I"⟩
def dkwX3_match_8 : List UInt8 := [180, 0, 97, 4, 100, 172]
abbrev dktX3_match_8 : List UInt8 := dkwX3_match_8 ++ []
def dkwX3_match_7 : List UInt8 := [180, 0, 34, 42, 180, 0, 97, 42, 180, 0, 113, 79, 42, 89, 180, 0, 97, 4, 96, 181, 0, 97, 42]
abbrev dktX3_match_7 : List UInt8 := dkwX3_match_7 ++ dktX3_match_8
def dkwX3_match_6 : List UInt8 := [180, 0, 28, 42, 180, 0, 97, 29, 79, 42, 180, 0, 31, 42, 180, 0, 97, 42, 180, 0, 90, 79, 42]
abbrev dktX3_match_6 : List UInt8 := dkwX3_match_6 ++ dktX3_match_7
def dkwX3_match_5 : List UInt8 := [172, 42, 180, 0, 22, 42, 180, 0, 97, 27, 79, 42, 180, 0, 25, 42, 180, 0, 97, 28, 79, 42]
abbrev dktX3_match_5 : List UInt8 := dkwX3_match_5 ++ dktX3_match_6
def dkwX3_match_4 : List UInt8 := [160, 0, 7, 5, 167, 0, 13, 21, 5, 153, 0, 7, 3, 167, 0, 4, 6, 182, 0, 93, 153, 0, 5, 3]
abbrev dktX3_match_4 : List UInt8 := dkwX3_match_4 ++ dktX3_match_5
def dkwX3_match_3 : List UInt8 := [46, 162, 0, 7, 4, 167, 0, 4, 3, 54, 5, 42, 21, 4, 154, 0, 7, 4, 167, 0, 22, 27, 28]
abbrev dktX3_match_3 : List UInt8 := dkwX3_match_3 ++ dktX3_match_4
def dkwX3_match_2 : List UInt8 := [182, 0, 110, 154, 0, 29, 42, 28, 182, 0, 110, 154, 0, 21, 42, 29, 182, 0, 103, 42, 180, 0, 19, 29]
abbrev dktX3_match_2 : List UInt8 := dkwX3_match_2 ++ dktX3_match_3
def dkwX3_match_1 : List UInt8 := [167, 0, 4, 3, 54, 4, 21, 4, 153, 0, 46, 42, 180, 0, 97, 16, 100, 162, 0, 37, 42, 27]
abbrev dktX3_match_1 : List UInt8 := dkwX3_match_1 ++ dktX3_match_2
def dkwX3_match_0 : List UInt8 := [42, 27, 182, 0, 107, 153, 0, 22, 42, 28, 182, 0, 107, 153, 0, 14, 29, 184, 0, 100, 153, 0, 7, 4]
abbrev dktX3_match_0 : List UInt8 := dkwX3_match_0 ++ dktX3_match_1
theorem dksX3_match_0 : cX3_match.data.toList.drop 0 = dktX3_match_0 := by decide +kernel
theorem dksX3_match_1 : cX3_match.data.toList.drop 24 = dktX3_match_1 := dk_seg dksX3_match_0 24 rfl rfl
theorem dksX3_match_2 : cX3_match.data.toList.drop 46 = dktX3_match_2 := dk_seg dksX3_match_1 22 rfl rfl
theorem dksX3_match_3 : cX3_match.data.toList.drop 70 = dktX3_match_3 := dk_seg dksX3_match_2 24 rfl rfl
theorem dksX3_match_4 : cX3_match.data.toList.drop 93 = dktX3_match_4 := dk_seg dksX3_match_3 23 rfl rfl
theorem dksX3_match_5 : cX3_match.data.toList.drop 117 = dktX3_match_5 := dk_seg dksX3_match_4 24 rfl rfl
theorem dksX3_match_6 : cX3_match.data.toList.drop 139 = dktX3_match_6 := dk_seg dksX3_match_5 22 rfl rfl
theorem dksX3_match_7 : cX3_match.data.toList.drop 162 = dktX3_match_7 := dk_seg dksX3_match_6 23 rfl rfl
theorem dksX3_match_8 : cX3_match.data.toList.drop 185 = dktX3_match_8 := dk_seg dksX3_match_7 23 rfl rfl
theorem dX3_match_0 : decode cX3_match 0 = .ok (.aload_n 0, 1) := dk_42 (dk_at dksX3_match_0 0 rfl rfl)
theorem dX3_match_1 : decode cX3_match 1 = .ok (.iload_n 1, 1) := dk_27 (dk_at dksX3_match_0 1 rfl rfl)
theorem dX3_match_2 : decode cX3_match 2 = .ok (.invokevirtual 107, 3) := dk_182 0 107 (dk_at dksX3_match_0 2 rfl rfl)
theorem dX3_match_5 : decode cX3_match 5 = .ok (.ifCond .eq 22, 3) := dk_153 0 22 (dk_at dksX3_match_0 5 rfl rfl)
theorem dX3_match_8 : decode cX3_match 8 = .ok (.aload_n 0, 1) := dk_42 (dk_at dksX3_match_0 8 rfl rfl)
theorem dX3_match_9 : decode cX3_match 9 = .ok (.iload_n 2, 1) := dk_28 (dk_at dksX3_match_0 9 rfl rfl)
theorem dX3_match_10 : decode cX3_match 10 = .ok (.invokevirtual 107, 3) := dk_182 0 107 (dk_at dksX3_match_0 10 rfl rfl)
theorem dX3_match_13 : decode cX3_match 13 = .ok (.ifCond .eq 14, 3) := dk_153 0 14 (dk_at dksX3_match_0 13 rfl rfl)
theorem dX3_match_16 : decode cX3_match 16 = .ok (.iload_n 3, 1) := dk_29 (dk_at dksX3_match_0 16 rfl rfl)
theorem dX3_match_17 : decode cX3_match 17 = .ok (.invokestatic 100, 3) := dk_184 0 100 (dk_at dksX3_match_0 17 rfl rfl)
theorem dX3_match_20 : decode cX3_match 20 = .ok (.ifCond .eq 7, 3) := dk_153 0 7 (dk_at dksX3_match_0 20 rfl rfl)
theorem dX3_match_23 : decode cX3_match 23 = .ok (.iconst 1, 1) := dk_4 (dk_at dksX3_match_0 23 rfl rfl)
theorem dX3_match_24 : decode cX3_match 24 = .ok (.goto 4, 3) := dk_167 0 4 (dk_at dksX3_match_1 0 rfl rfl)
theorem dX3_match_27 : decode cX3_match 27 = .ok (.iconst 0, 1) := dk_3 (dk_at dksX3_match_1 3 rfl rfl)
theorem dX3_match_28 : decode cX3_match 28 = .ok (.istore 4, 2) := dk_54 4 (dk_at dksX3_match_1 4 rfl rfl)
theorem dX3_match_30 : decode cX3_match 30 = .ok (.iload 4, 2) := dk_21 4 (dk_at dksX3_match_1 6 rfl rfl)
theorem dX3_match_32 : decode cX3_match 32 = .ok (.ifCond .eq 46, 3) := dk_153 0 46 (dk_at dksX3_match_1 8 rfl rfl)
theorem dX3_match_35 : decode cX3_match 35 = .ok (.aload_n 0, 1) := dk_42 (dk_at dksX3_match_1 11 rfl rfl)
theorem dX3_match_36 : decode cX3_match 36 = .ok (.getfield 97, 3) := dk_180 0 97 (dk_at dksX3_match_1 12 rfl rfl)
theorem dX3_match_39 : decode cX3_match 39 = .ok (.bipush 100, 2) := dk_16 100 (dk_at dksX3_match_1 15 rfl rfl)
theorem dX3_match_41 : decode cX3_match 41 = .ok (.if_icmp .ge 37, 3) := dk_162 0 37 (dk_at dksX3_match_1 17 rfl rfl)
theorem dX3_match_44 : decode cX3_match 44 = .ok (.aload_n 0, 1) := dk_42 (dk_at dksX3_match_1 20 rfl rfl)
theorem dX3_match_45 : decode cX3_match 45 = .ok (.iload_n 1, 1) := dk_27 (dk_at dksX3_match_1 21 rfl rfl)
theorem dX3_match_46 : decode cX3_match 46 = .ok (.invokevirtual 110, 3) := dk_182 0 110 (dk_at dksX3_match_2 0 rfl rfl)
theorem dX3_match_49 : decode cX3_match 49 = .ok (.ifCond .ne 29, 3) := dk_154 0 29 (dk_at dksX3_match_2 3 rfl rfl)
theorem dX3_match_52 : decode cX3_match 52 = .ok (.aload_n 0, 1) := dk_42 (dk_at dksX3_match_2 6 rfl rfl)
theorem dX3_match_53 : decode cX3_match 53 = .ok (.iload_n 2, 1) := dk_28 (dk_at dksX3_match_2 7 rfl rfl)
theorem dX3_match_54 : decode cX3_match 54 = .ok (.invokevirtual 110, 3) := dk_182 0 110 (dk_at dksX3_match_2 8 rfl rfl)
theorem dX3_match_57 : decode cX3_match 57 = .ok (.ifCond .ne 21, 3) := dk_154 0 21 (dk_at dksX3_match_2 11 rfl rfl)
theorem dX3_match_60 : decode cX3_match 60 = .ok (.aload_n 0, 1) := dk_42 (dk_at dksX3_match_2 14 rfl rfl)
theorem dX3_match_61 : decode cX3_match 61 = .ok (.iload_n 3, 1) := dk_29 (dk_at dksX3_match_2 15 rfl rfl)
theorem dX3_match_62 : decode cX3_match 62 = .ok (.invokevirtual 103, 3) := dk_182 0 103 (dk_at dksX3_match_2 16 rfl rfl)
theorem dX3_match_65 : decode cX3_match 65 = .ok (.aload_n 0, 1) := dk_42 (dk_at dksX3_match_2 19 rfl rfl)
theorem dX3_match_66 : decode cX3_match 66 = .ok (.getfield 19, 3) := dk_180 0 19 (dk_at dksX3_match_2 20 rfl rfl)
theorem dX3_match_69 : decode cX3_match 69 = .ok (.iload_n 3, 1) := dk_29 (dk_at dksX3_match_2 23 rfl rfl)
theorem dX3_match_70 : decode cX3_match 70 = .ok (.iaload, 1) := dk_46 (dk_at dksX3_match_3 0 rfl rfl)
theorem dX3_match_71 : decode cX3_match 71 = .ok (.if_icmp .ge 7, 3) := dk_162 0 7 (dk_at dksX3_match_3 1 rfl rfl)
theorem dX3_match_74 : decode cX3_match 74 = .ok (.iconst 1, 1) := dk_4 (dk_at dksX3_match_3 4 rfl rfl)
theorem dX3_match_75 : decode cX3_match 75 = .ok (.goto 4, 3) := dk_167 0 4 (dk_at dksX3_match_3 5 rfl rfl)
theorem dX3_match_78 : decode cX3_match 78 = .ok (.iconst 0, 1) := dk_3 (dk_at dksX3_match_3 8 rfl rfl)
theorem dX3_match_79 : decode cX3_match 79 = .ok (.istore 5, 2) := dk_54 5 (dk_at dksX3_match_3 9 rfl rfl)
theorem dX3_match_81 : decode cX3_match 81 = .ok (.aload_n 0, 1) := dk_42 (dk_at dksX3_match_3 11 rfl rfl)
theorem dX3_match_82 : decode cX3_match 82 = .ok (.iload 4, 2) := dk_21 4 (dk_at dksX3_match_3 12 rfl rfl)
theorem dX3_match_84 : decode cX3_match 84 = .ok (.ifCond .ne 7, 3) := dk_154 0 7 (dk_at dksX3_match_3 14 rfl rfl)
theorem dX3_match_87 : decode cX3_match 87 = .ok (.iconst 1, 1) := dk_4 (dk_at dksX3_match_3 17 rfl rfl)
theorem dX3_match_88 : decode cX3_match 88 = .ok (.goto 22, 3) := dk_167 0 22 (dk_at dksX3_match_3 18 rfl rfl)
theorem dX3_match_91 : decode cX3_match 91 = .ok (.iload_n 1, 1) := dk_27 (dk_at dksX3_match_3 21 rfl rfl)
theorem dX3_match_92 : decode cX3_match 92 = .ok (.iload_n 2, 1) := dk_28 (dk_at dksX3_match_3 22 rfl rfl)
theorem dX3_match_93 : decode cX3_match 93 = .ok (.if_icmp .ne 7, 3) := dk_160 0 7 (dk_at dksX3_match_4 0 rfl rfl)
theorem dX3_match_96 : decode cX3_match 96 = .ok (.iconst 2, 1) := dk_5 (dk_at dksX3_match_4 3 rfl rfl)
theorem dX3_match_97 : decode cX3_match 97 = .ok (.goto 13, 3) := dk_167 0 13 (dk_at dksX3_match_4 4 rfl rfl)
theorem dX3_match_100 : decode cX3_match 100 = .ok (.iload 5, 2) := dk_21 5 (dk_at dksX3_match_4 7 rfl rfl)
theorem dX3_match_102 : decode cX3_match 102 = .ok (.ifCond .eq 7, 3) := dk_153 0 7 (dk_at dksX3_match_4 9 rfl rfl)
theorem dX3_match_105 : decode cX3_match 105 = .ok (.iconst 0, 1) := dk_3 (dk_at dksX3_match_4 12 rfl rfl)
theorem dX3_match_106 : decode cX3_match 106 = .ok (.goto 4, 3) := dk_167 0 4 (dk_at dksX3_match_4 13 rfl rfl)
theorem dX3_match_109 : decode cX3_match 109 = .ok (.iconst 3, 1) := dk_6 (dk_at dksX3_match_4 16 rfl rfl)
theorem dX3_match_110 : decode cX3_match 110 = .ok (.invokevirtual 93, 3) := dk_182 0 93 (dk_at dksX3_match_4 17 rfl rfl)
theorem dX3_match_113 : decode cX3_match 113 = .ok (.ifCond .eq 5, 3) := dk_153 0 5 (dk_at dksX3_match_4 20 rfl rfl)
theorem dX3_match_116 : decode cX3_match 116 = .ok (.iconst 0, 1) := dk_3 (dk_at dksX3_match_4 23 rfl rfl)
theorem dX3_match_117 : decode cX3_match 117 = .ok (.ireturn, 1) := dk_172 (dk_at dksX3_match_5 0 rfl rfl)
theorem dX3_match_118 : decode cX3_match 118 = .ok (.aload_n 0, 1) := dk_42 (dk_at dksX3_match_5 1 rfl rfl)
theorem dX3_match_119 : decode cX3_match 119 = .ok (.getfield 22, 3) := dk_180 0 22 (dk_at dksX3_match_5 2 rfl rfl)
theorem dX3_match_122 : decode cX3_match 122 = .ok (.aload_n 0, 1) := dk_42 (dk_at dksX3_match_5 5 rfl rfl)
theorem dX3_match_123 : decode cX3_match 123 = .ok (.getfield 97, 3) := dk_180 0 97 (dk_at dksX3_match_5 6 rfl rfl)
theorem dX3_match_126 : decode cX3_match 126 = .ok (.iload_n 1, 1) := dk_27 (dk_at dksX3_match_5 9 rfl rfl)
theorem dX3_match_127 : decode cX3_match 127 = .ok (.iastore, 1) := dk_79 (dk_at dksX3_match_5 10 rfl rfl)
theorem dX3_match_128 : decode cX3_match 128 = .ok (.aload_n 0, 1) := dk_42 (dk_at dksX3_match_5 11 rfl rfl)
theorem dX3_match_129 : decode cX3_match 129 = .ok (.getfield 25, 3) := dk_180 0 25 (dk_at dksX3_match_5 12 rfl rfl)
theorem dX3_match_132 : decode cX3_match 132 = .ok (.aload_n 0, 1) := dk_42 (dk_at dksX3_match_5 15 rfl rfl)
theorem dX3_match_133 : decode cX3_match 133 = .ok (.getfield 97, 3) := dk_180 0 97 (dk_at dksX3_match_5 16 rfl rfl)
theorem dX3_match_136 : decode cX3_match 136 = .ok (.iload_n 2, 1) := dk_28 (dk_at dksX3_match_5 19 rfl rfl)
theorem dX3_match_137 : decode cX3_match 137 = .ok (.iastore, 1) := dk_79 (dk_at dksX3_match_5 20 rfl rfl)
theorem dX3_match_138 : decode cX3_match 138 = .ok (.aload_n 0, 1) := dk_42 (dk_at dksX3_match_5 21 rfl rfl)
theorem dX3_match_139 : decode cX3_match 139 = .ok (.getfield 28, 3) := dk_180 0 28 (dk_at dksX3_match_6 0 rfl rfl)
theorem dX3_match_142 : decode cX3_match 142 = .ok (.aload_n 0, 1) := dk_42 (dk_at dksX3_match_6 3 rfl rfl)
theorem dX3_match_143 : decode cX3_match 143 = .ok (.getfield 97, 3) := dk_180 0 97 (dk_at dksX3_match_6 4 rfl rfl)
theorem dX3_match_146 : decode cX3_match 146 = .ok (.iload_n 3, 1) := dk_29 (dk_at dksX3_match_6 7 rfl rfl)
theorem dX3_match_147 : decode cX3_match 147 = .ok (.iastore, 1) := dk_79 (dk_at dksX3_match_6 8 rfl rfl)
theorem dX3_match_148 : decode cX3_match 148 = .ok (.aload_n 0, 1) := dk_42 (dk_at dksX3_match_6 9 rfl rfl)
theorem dX3_match_149 : decode cX3_match 149 = .ok (.getfield 31, 3) := dk_180 0 31 (dk_at dksX3_match_6 10 rfl rfl)
theorem dX3_match_152 : decode cX3_match 152 = .ok (.aload_n 0, 1) := dk_42 (dk_at dksX3_match_6 13 rfl rfl)
theorem dX3_match_153 : decode cX3_match 153 = .ok (.getfield 97, 3) := dk_180 0 97 (dk_at dksX3_match_6 14 rfl rfl)
theorem dX3_match_156 : decode cX3_match 156 = .ok (.aload_n 0, 1) := dk_42 (dk_at dksX3_match_6 17 rfl rfl)
theorem dX3_match_157 : decode cX3_match 157 = .ok (.getfield 90, 3) := dk_180 0 90 (dk_at dksX3_match_6 18 rfl rfl)
theorem dX3_match_160 : decode cX3_match 160 = .ok (.iastore, 1) := dk_79 (dk_at dksX3_match_6 21 rfl rfl)
theorem dX3_match_161 : decode cX3_match 161 = .ok (.aload_n 0, 1) := dk_42 (dk_at dksX3_match_6 22 rfl rfl)
theorem dX3_match_162 : decode cX3_match 162 = .ok (.getfield 34, 3) := dk_180 0 34 (dk_at dksX3_match_7 0 rfl rfl)
theorem dX3_match_165 : decode cX3_match 165 = .ok (.aload_n 0, 1) := dk_42 (dk_at dksX3_match_7 3 rfl rfl)
theorem dX3_match_166 : decode cX3_match 166 = .ok (.getfield 97, 3) := dk_180 0 97 (dk_at dksX3_match_7 4 rfl rfl)
theorem dX3_match_169 : decode cX3_match 169 = .ok (.aload_n 0, 1) := dk_42 (dk_at dksX3_match_7 7 rfl rfl)
theorem dX3_match_170 : decode cX3_match 170 = .ok (.getfield 113, 3) := dk_180 0 113 (dk_at dksX3_match_7 8 rfl rfl)
theorem dX3_match_173 : decode cX3_match 173 = .ok (.iastore, 1) := dk_79 (dk_at dksX3_match_7 11 rfl rfl)
theorem dX3_match_174 : decode cX3_match 174 = .ok (.aload_n 0, 1) := dk_42 (dk_at dksX3_match_7 12 rfl rfl)
theorem dX3_match_175 : decode cX3_match 175 = .ok (.dup, 1) := dk_89 (dk_at dksX3_match_7 13 rfl rfl)
theorem dX3_match_176 : decode cX3_match 176 = .ok (.getfield 97, 3) := dk_180 0 97 (dk_at dksX3_match_7 14 rfl rfl)
theorem dX3_match_179 : decode cX3_match 179 = .ok (.iconst 1, 1) := dk_4 (dk_at dksX3_match_7 17 rfl rfl)
theorem dX3_match_180 : decode cX3_match 180 = .ok (.iadd, 1) := dk_96 (dk_at dksX3_match_7 18 rfl rfl)
theorem dX3_match_181 : decode cX3_match 181 = .ok (.putfield 97, 3) := dk_181 0 97 (dk_at dksX3_match_7 19 rfl rfl)
theorem dX3_match_184 : decode cX3_match 184 = .ok (.aload_n 0, 1) := dk_42 (dk_at dksX3_match_7 22 rfl rfl)
theorem dX3_match_185 : decode cX3_match 185 = .ok (.getfield 97, 3) := dk_180 0 97 (dk_at dksX3_match_8 0 rfl rfl)
theorem dX3_match_188 : decode cX3_match 188 = .ok (.iconst 1, 1) := dk_4 (dk_at dksX3_match_8 3 rfl rfl)
theorem dX3_match_189 : decode cX3_match 189 = .ok (.isub, 1) := dk_100 (dk_at dksX3_match_8 4 rfl rfl)
theorem dX3_match_190 : decode cX3_match 190 = .ok (.ireturn, 1) := dk_172 (dk_at dksX3_match_8 5 rfl rfl)
abbrev cX3_isPlayer : ByteArray := prog_12_method_5_code
def yX3_isPlayer : MethodName := ⟨RX3, "isPlayer", "(I)Z"⟩
def dkwX3_isPlayer_0 : List UInt8 := [27, 3, 42, 180, 0, 83, 4, 100, 184, 0, 86, 172]
abbrev dktX3_isPlayer_0 : List UInt8 := dkwX3_isPlayer_0 ++ []
theorem dksX3_isPlayer_0 : cX3_isPlayer.data.toList.drop 0 = dktX3_isPlayer_0 := by decide +kernel
theorem dX3_isPlayer_0 : decode cX3_isPlayer 0 = .ok (.iload_n 1, 1) := dk_27 (dk_at dksX3_isPlayer_0 0 rfl rfl)
theorem dX3_isPlayer_1 : decode cX3_isPlayer 1 = .ok (.iconst 0, 1) := dk_3 (dk_at dksX3_isPlayer_0 1 rfl rfl)
theorem dX3_isPlayer_2 : decode cX3_isPlayer 2 = .ok (.aload_n 0, 1) := dk_42 (dk_at dksX3_isPlayer_0 2 rfl rfl)
theorem dX3_isPlayer_3 : decode cX3_isPlayer 3 = .ok (.getfield 83, 3) := dk_180 0 83 (dk_at dksX3_isPlayer_0 3 rfl rfl)
theorem dX3_isPlayer_6 : decode cX3_isPlayer 6 = .ok (.iconst 1, 1) := dk_4 (dk_at dksX3_isPlayer_0 6 rfl rfl)
theorem dX3_isPlayer_7 : decode cX3_isPlayer 7 = .ok (.isub, 1) := dk_100 (dk_at dksX3_isPlayer_0 7 rfl rfl)
theorem dX3_isPlayer_8 : decode cX3_isPlayer 8 = .ok (.invokestatic 86, 3) := dk_184 0 86 (dk_at dksX3_isPlayer_0 8 rfl rfl)
theorem dX3_isPlayer_11 : decode cX3_isPlayer 11 = .ok (.ireturn, 1) := dk_172 (dk_at dksX3_isPlayer_0 11 rfl rfl)
abbrev cX3_isBanned : ByteArray := prog_12_method_6_code
def yX3_isBanned : MethodName := ⟨RX3, "isBanned", "(I)Z"⟩
def dkwX3_isBanned_0 : List UInt8 := [42, 180, 0, 90, 42, 180, 0, 13, 27, 46, 162, 0, 7, 4, 167, 0, 4, 3, 172]
abbrev dktX3_isBanned_0 : List UInt8 := dkwX3_isBanned_0 ++ []
theorem dksX3_isBanned_0 : cX3_isBanned.data.toList.drop 0 = dktX3_isBanned_0 := by decide +kernel
theorem dX3_isBanned_0 : decode cX3_isBanned 0 = .ok (.aload_n 0, 1) := dk_42 (dk_at dksX3_isBanned_0 0 rfl rfl)
theorem dX3_isBanned_1 : decode cX3_isBanned 1 = .ok (.getfield 90, 3) := dk_180 0 90 (dk_at dksX3_isBanned_0 1 rfl rfl)
theorem dX3_isBanned_4 : decode cX3_isBanned 4 = .ok (.aload_n 0, 1) := dk_42 (dk_at dksX3_isBanned_0 4 rfl rfl)
theorem dX3_isBanned_5 : decode cX3_isBanned 5 = .ok (.getfield 13, 3) := dk_180 0 13 (dk_at dksX3_isBanned_0 5 rfl rfl)
theorem dX3_isBanned_8 : decode cX3_isBanned 8 = .ok (.iload_n 1, 1) := dk_27 (dk_at dksX3_isBanned_0 8 rfl rfl)
theorem dX3_isBanned_9 : decode cX3_isBanned 9 = .ok (.iaload, 1) := dk_46 (dk_at dksX3_isBanned_0 9 rfl rfl)
theorem dX3_isBanned_10 : decode cX3_isBanned 10 = .ok (.if_icmp .ge 7, 3) := dk_162 0 7 (dk_at dksX3_isBanned_0 10 rfl rfl)
theorem dX3_isBanned_13 : decode cX3_isBanned 13 = .ok (.iconst 1, 1) := dk_4 (dk_at dksX3_isBanned_0 13 rfl rfl)
theorem dX3_isBanned_14 : decode cX3_isBanned 14 = .ok (.goto 4, 3) := dk_167 0 4 (dk_at dksX3_isBanned_0 14 rfl rfl)
theorem dX3_isBanned_17 : decode cX3_isBanned 17 = .ok (.iconst 0, 1) := dk_3 (dk_at dksX3_isBanned_0 17 rfl rfl)
theorem dX3_isBanned_18 : decode cX3_isBanned 18 = .ok (.ireturn, 1) := dk_172 (dk_at dksX3_isBanned_0 18 rfl rfl)
abbrev cX3_end : ByteArray := prog_12_method_17_code
def yX3_end : MethodName := ⟨RX3, "end", "()I"⟩
def dkwX3_end_6 : List UInt8 := [42, 89, 180, 0, 113, 4, 96, 181, 0, 113, 27, 172]
abbrev dktX3_end_6 : List UInt8 := dkwX3_end_6 ++ []
def dkwX3_end_5 : List UInt8 := [180, 0, 133, 3, 79, 42, 89, 180, 0, 133, 4, 96, 181, 0, 133, 132, 1, 1, 132, 2, 1, 167, 255, 151]
abbrev dktX3_end_5 : List UInt8 := dkwX3_end_5 ++ dktX3_end_6
def dkwX3_end_4 : List UInt8 := [180, 0, 49, 42, 180, 0, 133, 2, 79, 42, 180, 0, 55, 42, 180, 0, 133, 2, 79, 42, 180, 0, 58, 42]
abbrev dktX3_end_4 : List UInt8 := dkwX3_end_4 ++ dktX3_end_5
def dkwX3_end_3 : List UInt8 := [28, 79, 42, 180, 0, 43, 42, 180, 0, 133, 29, 79, 42, 180, 0, 46, 42, 180, 0, 133, 29, 79, 42]
abbrev dktX3_end_3 : List UInt8 := dkwX3_end_3 ++ dktX3_end_4
def dkwX3_end_2 : List UInt8 := [159, 0, 89, 42, 180, 0, 37, 42, 180, 0, 133, 42, 180, 0, 113, 79, 42, 180, 0, 40, 42, 180, 0, 133]
abbrev dktX3_end_2 : List UInt8 := dkwX3_end_2 ++ dktX3_end_3
def dkwX3_end_1 : List UInt8 := [42, 180, 0, 113, 182, 0, 126, 3, 60, 4, 61, 28, 6, 163, 0, 106, 42, 28, 182, 0, 130, 62, 29, 2]
abbrev dktX3_end_1 : List UInt8 := dkwX3_end_1 ++ dktX3_end_2
def dkwX3_end_0 : List UInt8 := [42, 42, 180, 0, 113, 16, 11, 160, 0, 7, 4, 167, 0, 4, 3, 182, 0, 93, 153, 0, 5, 3, 172, 42]
abbrev dktX3_end_0 : List UInt8 := dkwX3_end_0 ++ dktX3_end_1
theorem dksX3_end_0 : cX3_end.data.toList.drop 0 = dktX3_end_0 := by decide +kernel
theorem dksX3_end_1 : cX3_end.data.toList.drop 24 = dktX3_end_1 := dk_seg dksX3_end_0 24 rfl rfl
theorem dksX3_end_2 : cX3_end.data.toList.drop 48 = dktX3_end_2 := dk_seg dksX3_end_1 24 rfl rfl
theorem dksX3_end_3 : cX3_end.data.toList.drop 72 = dktX3_end_3 := dk_seg dksX3_end_2 24 rfl rfl
theorem dksX3_end_4 : cX3_end.data.toList.drop 95 = dktX3_end_4 := dk_seg dksX3_end_3 23 rfl rfl
theorem dksX3_end_5 : cX3_end.data.toList.drop 119 = dktX3_end_5 := dk_seg dksX3_end_4 24 rfl rfl
theorem dksX3_end_6 : cX3_end.data.toList.drop 143 = dktX3_end_6 := dk_seg dksX3_end_5 24 rfl rfl
theorem dX3_end_0 : decode cX3_end 0 = .ok (.aload_n 0, 1) := dk_42 (dk_at dksX3_end_0 0 rfl rfl)
theorem dX3_end_1 : decode cX3_end 1 = .ok (.aload_n 0, 1) := dk_42 (dk_at dksX3_end_0 1 rfl rfl)
theorem dX3_end_2 : decode cX3_end 2 = .ok (.getfield 113, 3) := dk_180 0 113 (dk_at dksX3_end_0 2 rfl rfl)
theorem dX3_end_5 : decode cX3_end 5 = .ok (.bipush 11, 2) := dk_16 11 (dk_at dksX3_end_0 5 rfl rfl)
theorem dX3_end_7 : decode cX3_end 7 = .ok (.if_icmp .ne 7, 3) := dk_160 0 7 (dk_at dksX3_end_0 7 rfl rfl)
theorem dX3_end_10 : decode cX3_end 10 = .ok (.iconst 1, 1) := dk_4 (dk_at dksX3_end_0 10 rfl rfl)
theorem dX3_end_11 : decode cX3_end 11 = .ok (.goto 4, 3) := dk_167 0 4 (dk_at dksX3_end_0 11 rfl rfl)
theorem dX3_end_14 : decode cX3_end 14 = .ok (.iconst 0, 1) := dk_3 (dk_at dksX3_end_0 14 rfl rfl)
theorem dX3_end_15 : decode cX3_end 15 = .ok (.invokevirtual 93, 3) := dk_182 0 93 (dk_at dksX3_end_0 15 rfl rfl)
theorem dX3_end_18 : decode cX3_end 18 = .ok (.ifCond .eq 5, 3) := dk_153 0 5 (dk_at dksX3_end_0 18 rfl rfl)
theorem dX3_end_21 : decode cX3_end 21 = .ok (.iconst 0, 1) := dk_3 (dk_at dksX3_end_0 21 rfl rfl)
theorem dX3_end_22 : decode cX3_end 22 = .ok (.ireturn, 1) := dk_172 (dk_at dksX3_end_0 22 rfl rfl)
theorem dX3_end_23 : decode cX3_end 23 = .ok (.aload_n 0, 1) := dk_42 (dk_at dksX3_end_0 23 rfl rfl)
theorem dX3_end_24 : decode cX3_end 24 = .ok (.aload_n 0, 1) := dk_42 (dk_at dksX3_end_1 0 rfl rfl)
theorem dX3_end_25 : decode cX3_end 25 = .ok (.getfield 113, 3) := dk_180 0 113 (dk_at dksX3_end_1 1 rfl rfl)
theorem dX3_end_28 : decode cX3_end 28 = .ok (.invokevirtual 126, 3) := dk_182 0 126 (dk_at dksX3_end_1 4 rfl rfl)
theorem dX3_end_31 : decode cX3_end 31 = .ok (.iconst 0, 1) := dk_3 (dk_at dksX3_end_1 7 rfl rfl)
theorem dX3_end_32 : decode cX3_end 32 = .ok (.istore_n 1, 1) := dk_60 (dk_at dksX3_end_1 8 rfl rfl)
theorem dX3_end_33 : decode cX3_end 33 = .ok (.iconst 1, 1) := dk_4 (dk_at dksX3_end_1 9 rfl rfl)
theorem dX3_end_34 : decode cX3_end 34 = .ok (.istore_n 2, 1) := dk_61 (dk_at dksX3_end_1 10 rfl rfl)
theorem dX3_end_35 : decode cX3_end 35 = .ok (.iload_n 2, 1) := dk_28 (dk_at dksX3_end_1 11 rfl rfl)
theorem dX3_end_36 : decode cX3_end 36 = .ok (.iconst 3, 1) := dk_6 (dk_at dksX3_end_1 12 rfl rfl)
theorem dX3_end_37 : decode cX3_end 37 = .ok (.if_icmp .gt 106, 3) := dk_163 0 106 (dk_at dksX3_end_1 13 rfl rfl)
theorem dX3_end_40 : decode cX3_end 40 = .ok (.aload_n 0, 1) := dk_42 (dk_at dksX3_end_1 16 rfl rfl)
theorem dX3_end_41 : decode cX3_end 41 = .ok (.iload_n 2, 1) := dk_28 (dk_at dksX3_end_1 17 rfl rfl)
theorem dX3_end_42 : decode cX3_end 42 = .ok (.invokevirtual 130, 3) := dk_182 0 130 (dk_at dksX3_end_1 18 rfl rfl)
theorem dX3_end_45 : decode cX3_end 45 = .ok (.istore_n 3, 1) := dk_62 (dk_at dksX3_end_1 21 rfl rfl)
theorem dX3_end_46 : decode cX3_end 46 = .ok (.iload_n 3, 1) := dk_29 (dk_at dksX3_end_1 22 rfl rfl)
theorem dX3_end_47 : decode cX3_end 47 = .ok (.iconst (-1), 1) := dk_2 (dk_at dksX3_end_1 23 rfl rfl)
theorem dX3_end_48 : decode cX3_end 48 = .ok (.if_icmp .eq 89, 3) := dk_159 0 89 (dk_at dksX3_end_2 0 rfl rfl)
theorem dX3_end_51 : decode cX3_end 51 = .ok (.aload_n 0, 1) := dk_42 (dk_at dksX3_end_2 3 rfl rfl)
theorem dX3_end_52 : decode cX3_end 52 = .ok (.getfield 37, 3) := dk_180 0 37 (dk_at dksX3_end_2 4 rfl rfl)
theorem dX3_end_55 : decode cX3_end 55 = .ok (.aload_n 0, 1) := dk_42 (dk_at dksX3_end_2 7 rfl rfl)
theorem dX3_end_56 : decode cX3_end 56 = .ok (.getfield 133, 3) := dk_180 0 133 (dk_at dksX3_end_2 8 rfl rfl)
theorem dX3_end_59 : decode cX3_end 59 = .ok (.aload_n 0, 1) := dk_42 (dk_at dksX3_end_2 11 rfl rfl)
theorem dX3_end_60 : decode cX3_end 60 = .ok (.getfield 113, 3) := dk_180 0 113 (dk_at dksX3_end_2 12 rfl rfl)
theorem dX3_end_63 : decode cX3_end 63 = .ok (.iastore, 1) := dk_79 (dk_at dksX3_end_2 15 rfl rfl)
theorem dX3_end_64 : decode cX3_end 64 = .ok (.aload_n 0, 1) := dk_42 (dk_at dksX3_end_2 16 rfl rfl)
theorem dX3_end_65 : decode cX3_end 65 = .ok (.getfield 40, 3) := dk_180 0 40 (dk_at dksX3_end_2 17 rfl rfl)
theorem dX3_end_68 : decode cX3_end 68 = .ok (.aload_n 0, 1) := dk_42 (dk_at dksX3_end_2 20 rfl rfl)
theorem dX3_end_69 : decode cX3_end 69 = .ok (.getfield 133, 3) := dk_180 0 133 (dk_at dksX3_end_2 21 rfl rfl)
theorem dX3_end_72 : decode cX3_end 72 = .ok (.iload_n 2, 1) := dk_28 (dk_at dksX3_end_3 0 rfl rfl)
theorem dX3_end_73 : decode cX3_end 73 = .ok (.iastore, 1) := dk_79 (dk_at dksX3_end_3 1 rfl rfl)
theorem dX3_end_74 : decode cX3_end 74 = .ok (.aload_n 0, 1) := dk_42 (dk_at dksX3_end_3 2 rfl rfl)
theorem dX3_end_75 : decode cX3_end 75 = .ok (.getfield 43, 3) := dk_180 0 43 (dk_at dksX3_end_3 3 rfl rfl)
theorem dX3_end_78 : decode cX3_end 78 = .ok (.aload_n 0, 1) := dk_42 (dk_at dksX3_end_3 6 rfl rfl)
theorem dX3_end_79 : decode cX3_end 79 = .ok (.getfield 133, 3) := dk_180 0 133 (dk_at dksX3_end_3 7 rfl rfl)
theorem dX3_end_82 : decode cX3_end 82 = .ok (.iload_n 3, 1) := dk_29 (dk_at dksX3_end_3 10 rfl rfl)
theorem dX3_end_83 : decode cX3_end 83 = .ok (.iastore, 1) := dk_79 (dk_at dksX3_end_3 11 rfl rfl)
theorem dX3_end_84 : decode cX3_end 84 = .ok (.aload_n 0, 1) := dk_42 (dk_at dksX3_end_3 12 rfl rfl)
theorem dX3_end_85 : decode cX3_end 85 = .ok (.getfield 46, 3) := dk_180 0 46 (dk_at dksX3_end_3 13 rfl rfl)
theorem dX3_end_88 : decode cX3_end 88 = .ok (.aload_n 0, 1) := dk_42 (dk_at dksX3_end_3 16 rfl rfl)
theorem dX3_end_89 : decode cX3_end 89 = .ok (.getfield 133, 3) := dk_180 0 133 (dk_at dksX3_end_3 17 rfl rfl)
theorem dX3_end_92 : decode cX3_end 92 = .ok (.iload_n 3, 1) := dk_29 (dk_at dksX3_end_3 20 rfl rfl)
theorem dX3_end_93 : decode cX3_end 93 = .ok (.iastore, 1) := dk_79 (dk_at dksX3_end_3 21 rfl rfl)
theorem dX3_end_94 : decode cX3_end 94 = .ok (.aload_n 0, 1) := dk_42 (dk_at dksX3_end_3 22 rfl rfl)
theorem dX3_end_95 : decode cX3_end 95 = .ok (.getfield 49, 3) := dk_180 0 49 (dk_at dksX3_end_4 0 rfl rfl)
theorem dX3_end_98 : decode cX3_end 98 = .ok (.aload_n 0, 1) := dk_42 (dk_at dksX3_end_4 3 rfl rfl)
theorem dX3_end_99 : decode cX3_end 99 = .ok (.getfield 133, 3) := dk_180 0 133 (dk_at dksX3_end_4 4 rfl rfl)
theorem dX3_end_102 : decode cX3_end 102 = .ok (.iconst (-1), 1) := dk_2 (dk_at dksX3_end_4 7 rfl rfl)
theorem dX3_end_103 : decode cX3_end 103 = .ok (.iastore, 1) := dk_79 (dk_at dksX3_end_4 8 rfl rfl)
theorem dX3_end_104 : decode cX3_end 104 = .ok (.aload_n 0, 1) := dk_42 (dk_at dksX3_end_4 9 rfl rfl)
theorem dX3_end_105 : decode cX3_end 105 = .ok (.getfield 55, 3) := dk_180 0 55 (dk_at dksX3_end_4 10 rfl rfl)
theorem dX3_end_108 : decode cX3_end 108 = .ok (.aload_n 0, 1) := dk_42 (dk_at dksX3_end_4 13 rfl rfl)
theorem dX3_end_109 : decode cX3_end 109 = .ok (.getfield 133, 3) := dk_180 0 133 (dk_at dksX3_end_4 14 rfl rfl)
theorem dX3_end_112 : decode cX3_end 112 = .ok (.iconst (-1), 1) := dk_2 (dk_at dksX3_end_4 17 rfl rfl)
theorem dX3_end_113 : decode cX3_end 113 = .ok (.iastore, 1) := dk_79 (dk_at dksX3_end_4 18 rfl rfl)
theorem dX3_end_114 : decode cX3_end 114 = .ok (.aload_n 0, 1) := dk_42 (dk_at dksX3_end_4 19 rfl rfl)
theorem dX3_end_115 : decode cX3_end 115 = .ok (.getfield 58, 3) := dk_180 0 58 (dk_at dksX3_end_4 20 rfl rfl)
theorem dX3_end_118 : decode cX3_end 118 = .ok (.aload_n 0, 1) := dk_42 (dk_at dksX3_end_4 23 rfl rfl)
theorem dX3_end_119 : decode cX3_end 119 = .ok (.getfield 133, 3) := dk_180 0 133 (dk_at dksX3_end_5 0 rfl rfl)
theorem dX3_end_122 : decode cX3_end 122 = .ok (.iconst 0, 1) := dk_3 (dk_at dksX3_end_5 3 rfl rfl)
theorem dX3_end_123 : decode cX3_end 123 = .ok (.iastore, 1) := dk_79 (dk_at dksX3_end_5 4 rfl rfl)
theorem dX3_end_124 : decode cX3_end 124 = .ok (.aload_n 0, 1) := dk_42 (dk_at dksX3_end_5 5 rfl rfl)
theorem dX3_end_125 : decode cX3_end 125 = .ok (.dup, 1) := dk_89 (dk_at dksX3_end_5 6 rfl rfl)
theorem dX3_end_126 : decode cX3_end 126 = .ok (.getfield 133, 3) := dk_180 0 133 (dk_at dksX3_end_5 7 rfl rfl)
theorem dX3_end_129 : decode cX3_end 129 = .ok (.iconst 1, 1) := dk_4 (dk_at dksX3_end_5 10 rfl rfl)
theorem dX3_end_130 : decode cX3_end 130 = .ok (.iadd, 1) := dk_96 (dk_at dksX3_end_5 11 rfl rfl)
theorem dX3_end_131 : decode cX3_end 131 = .ok (.putfield 133, 3) := dk_181 0 133 (dk_at dksX3_end_5 12 rfl rfl)
theorem dX3_end_134 : decode cX3_end 134 = .ok (.iinc 1 1, 3) := dk_132 1 1 (dk_at dksX3_end_5 15 rfl rfl)
theorem dX3_end_137 : decode cX3_end 137 = .ok (.iinc 2 1, 3) := dk_132 2 1 (dk_at dksX3_end_5 18 rfl rfl)
theorem dX3_end_140 : decode cX3_end 140 = .ok (.goto (-105), 3) := dk_167 255 151 (dk_at dksX3_end_5 21 rfl rfl)
theorem dX3_end_143 : decode cX3_end 143 = .ok (.aload_n 0, 1) := dk_42 (dk_at dksX3_end_6 0 rfl rfl)
theorem dX3_end_144 : decode cX3_end 144 = .ok (.dup, 1) := dk_89 (dk_at dksX3_end_6 1 rfl rfl)
theorem dX3_end_145 : decode cX3_end 145 = .ok (.getfield 113, 3) := dk_180 0 113 (dk_at dksX3_end_6 2 rfl rfl)
theorem dX3_end_148 : decode cX3_end 148 = .ok (.iconst 1, 1) := dk_4 (dk_at dksX3_end_6 5 rfl rfl)
theorem dX3_end_149 : decode cX3_end 149 = .ok (.iadd, 1) := dk_96 (dk_at dksX3_end_6 6 rfl rfl)
theorem dX3_end_150 : decode cX3_end 150 = .ok (.putfield 113, 3) := dk_181 0 113 (dk_at dksX3_end_6 7 rfl rfl)
theorem dX3_end_153 : decode cX3_end 153 = .ok (.iload_n 1, 1) := dk_27 (dk_at dksX3_end_6 10 rfl rfl)
theorem dX3_end_154 : decode cX3_end 154 = .ok (.ireturn, 1) := dk_172 (dk_at dksX3_end_6 11 rfl rfl)
abbrev cX3_counts : ByteArray := prog_12_method_13_code
def yX3_counts : MethodName := ⟨RX3, "counts", "(I)V"⟩
def dkwX3_counts_5 : List UInt8 := [79, 132, 2, 1, 167, 255, 167, 177]
abbrev dktX3_counts_5 : List UInt8 := dkwX3_counts_5 ++ []
def dkwX3_counts_4 : List UInt8 := [180, 0, 22, 28, 46, 92, 46, 4, 96, 79, 42, 180, 0, 73, 42, 180, 0, 25, 28, 46, 92, 46, 4, 96]
abbrev dktX3_counts_4 : List UInt8 := dkwX3_counts_4 ++ dktX3_counts_5
def dkwX3_counts_3 : List UInt8 := [96, 79, 42, 180, 0, 70, 42, 180, 0, 25, 28, 46, 92, 46, 4, 96, 79, 42, 180, 0, 73, 42]
abbrev dktX3_counts_3 : List UInt8 := dkwX3_counts_3 ++ dktX3_counts_4
def dkwX3_counts_2 : List UInt8 := [160, 0, 71, 42, 28, 182, 0, 116, 153, 0, 63, 42, 180, 0, 70, 42, 180, 0, 22, 28, 46, 92, 46, 6]
abbrev dktX3_counts_2 : List UInt8 := dkwX3_counts_2 ++ dktX3_counts_3
def dkwX3_counts_1 : List UInt8 := [132, 2, 1, 167, 255, 231, 3, 61, 28, 42, 180, 0, 97, 162, 0, 87, 42, 180, 0, 34, 28, 46, 27]
abbrev dktX3_counts_1 : List UInt8 := dkwX3_counts_1 ++ dktX3_counts_2
def dkwX3_counts_0 : List UInt8 := [3, 61, 28, 42, 180, 0, 83, 162, 0, 23, 42, 180, 0, 70, 28, 3, 79, 42, 180, 0, 73, 28, 3, 79]
abbrev dktX3_counts_0 : List UInt8 := dkwX3_counts_0 ++ dktX3_counts_1
theorem dksX3_counts_0 : cX3_counts.data.toList.drop 0 = dktX3_counts_0 := by decide +kernel
theorem dksX3_counts_1 : cX3_counts.data.toList.drop 24 = dktX3_counts_1 := dk_seg dksX3_counts_0 24 rfl rfl
theorem dksX3_counts_2 : cX3_counts.data.toList.drop 47 = dktX3_counts_2 := dk_seg dksX3_counts_1 23 rfl rfl
theorem dksX3_counts_3 : cX3_counts.data.toList.drop 71 = dktX3_counts_3 := dk_seg dksX3_counts_2 24 rfl rfl
theorem dksX3_counts_4 : cX3_counts.data.toList.drop 93 = dktX3_counts_4 := dk_seg dksX3_counts_3 22 rfl rfl
theorem dksX3_counts_5 : cX3_counts.data.toList.drop 117 = dktX3_counts_5 := dk_seg dksX3_counts_4 24 rfl rfl
theorem dX3_counts_0 : decode cX3_counts 0 = .ok (.iconst 0, 1) := dk_3 (dk_at dksX3_counts_0 0 rfl rfl)
theorem dX3_counts_1 : decode cX3_counts 1 = .ok (.istore_n 2, 1) := dk_61 (dk_at dksX3_counts_0 1 rfl rfl)
theorem dX3_counts_2 : decode cX3_counts 2 = .ok (.iload_n 2, 1) := dk_28 (dk_at dksX3_counts_0 2 rfl rfl)
theorem dX3_counts_3 : decode cX3_counts 3 = .ok (.aload_n 0, 1) := dk_42 (dk_at dksX3_counts_0 3 rfl rfl)
theorem dX3_counts_4 : decode cX3_counts 4 = .ok (.getfield 83, 3) := dk_180 0 83 (dk_at dksX3_counts_0 4 rfl rfl)
theorem dX3_counts_7 : decode cX3_counts 7 = .ok (.if_icmp .ge 23, 3) := dk_162 0 23 (dk_at dksX3_counts_0 7 rfl rfl)
theorem dX3_counts_10 : decode cX3_counts 10 = .ok (.aload_n 0, 1) := dk_42 (dk_at dksX3_counts_0 10 rfl rfl)
theorem dX3_counts_11 : decode cX3_counts 11 = .ok (.getfield 70, 3) := dk_180 0 70 (dk_at dksX3_counts_0 11 rfl rfl)
theorem dX3_counts_14 : decode cX3_counts 14 = .ok (.iload_n 2, 1) := dk_28 (dk_at dksX3_counts_0 14 rfl rfl)
theorem dX3_counts_15 : decode cX3_counts 15 = .ok (.iconst 0, 1) := dk_3 (dk_at dksX3_counts_0 15 rfl rfl)
theorem dX3_counts_16 : decode cX3_counts 16 = .ok (.iastore, 1) := dk_79 (dk_at dksX3_counts_0 16 rfl rfl)
theorem dX3_counts_17 : decode cX3_counts 17 = .ok (.aload_n 0, 1) := dk_42 (dk_at dksX3_counts_0 17 rfl rfl)
theorem dX3_counts_18 : decode cX3_counts 18 = .ok (.getfield 73, 3) := dk_180 0 73 (dk_at dksX3_counts_0 18 rfl rfl)
theorem dX3_counts_21 : decode cX3_counts 21 = .ok (.iload_n 2, 1) := dk_28 (dk_at dksX3_counts_0 21 rfl rfl)
theorem dX3_counts_22 : decode cX3_counts 22 = .ok (.iconst 0, 1) := dk_3 (dk_at dksX3_counts_0 22 rfl rfl)
theorem dX3_counts_23 : decode cX3_counts 23 = .ok (.iastore, 1) := dk_79 (dk_at dksX3_counts_0 23 rfl rfl)
theorem dX3_counts_24 : decode cX3_counts 24 = .ok (.iinc 2 1, 3) := dk_132 2 1 (dk_at dksX3_counts_1 0 rfl rfl)
theorem dX3_counts_27 : decode cX3_counts 27 = .ok (.goto (-25), 3) := dk_167 255 231 (dk_at dksX3_counts_1 3 rfl rfl)
theorem dX3_counts_30 : decode cX3_counts 30 = .ok (.iconst 0, 1) := dk_3 (dk_at dksX3_counts_1 6 rfl rfl)
theorem dX3_counts_31 : decode cX3_counts 31 = .ok (.istore_n 2, 1) := dk_61 (dk_at dksX3_counts_1 7 rfl rfl)
theorem dX3_counts_32 : decode cX3_counts 32 = .ok (.iload_n 2, 1) := dk_28 (dk_at dksX3_counts_1 8 rfl rfl)
theorem dX3_counts_33 : decode cX3_counts 33 = .ok (.aload_n 0, 1) := dk_42 (dk_at dksX3_counts_1 9 rfl rfl)
theorem dX3_counts_34 : decode cX3_counts 34 = .ok (.getfield 97, 3) := dk_180 0 97 (dk_at dksX3_counts_1 10 rfl rfl)
theorem dX3_counts_37 : decode cX3_counts 37 = .ok (.if_icmp .ge 87, 3) := dk_162 0 87 (dk_at dksX3_counts_1 13 rfl rfl)
theorem dX3_counts_40 : decode cX3_counts 40 = .ok (.aload_n 0, 1) := dk_42 (dk_at dksX3_counts_1 16 rfl rfl)
theorem dX3_counts_41 : decode cX3_counts 41 = .ok (.getfield 34, 3) := dk_180 0 34 (dk_at dksX3_counts_1 17 rfl rfl)
theorem dX3_counts_44 : decode cX3_counts 44 = .ok (.iload_n 2, 1) := dk_28 (dk_at dksX3_counts_1 20 rfl rfl)
theorem dX3_counts_45 : decode cX3_counts 45 = .ok (.iaload, 1) := dk_46 (dk_at dksX3_counts_1 21 rfl rfl)
theorem dX3_counts_46 : decode cX3_counts 46 = .ok (.iload_n 1, 1) := dk_27 (dk_at dksX3_counts_1 22 rfl rfl)
theorem dX3_counts_47 : decode cX3_counts 47 = .ok (.if_icmp .ne 71, 3) := dk_160 0 71 (dk_at dksX3_counts_2 0 rfl rfl)
theorem dX3_counts_50 : decode cX3_counts 50 = .ok (.aload_n 0, 1) := dk_42 (dk_at dksX3_counts_2 3 rfl rfl)
theorem dX3_counts_51 : decode cX3_counts 51 = .ok (.iload_n 2, 1) := dk_28 (dk_at dksX3_counts_2 4 rfl rfl)
theorem dX3_counts_52 : decode cX3_counts 52 = .ok (.invokevirtual 116, 3) := dk_182 0 116 (dk_at dksX3_counts_2 5 rfl rfl)
theorem dX3_counts_55 : decode cX3_counts 55 = .ok (.ifCond .eq 63, 3) := dk_153 0 63 (dk_at dksX3_counts_2 8 rfl rfl)
theorem dX3_counts_58 : decode cX3_counts 58 = .ok (.aload_n 0, 1) := dk_42 (dk_at dksX3_counts_2 11 rfl rfl)
theorem dX3_counts_59 : decode cX3_counts 59 = .ok (.getfield 70, 3) := dk_180 0 70 (dk_at dksX3_counts_2 12 rfl rfl)
theorem dX3_counts_62 : decode cX3_counts 62 = .ok (.aload_n 0, 1) := dk_42 (dk_at dksX3_counts_2 15 rfl rfl)
theorem dX3_counts_63 : decode cX3_counts 63 = .ok (.getfield 22, 3) := dk_180 0 22 (dk_at dksX3_counts_2 16 rfl rfl)
theorem dX3_counts_66 : decode cX3_counts 66 = .ok (.iload_n 2, 1) := dk_28 (dk_at dksX3_counts_2 19 rfl rfl)
theorem dX3_counts_67 : decode cX3_counts 67 = .ok (.iaload, 1) := dk_46 (dk_at dksX3_counts_2 20 rfl rfl)
theorem dX3_counts_68 : decode cX3_counts 68 = .ok (.dup2, 1) := dk_92 (dk_at dksX3_counts_2 21 rfl rfl)
theorem dX3_counts_69 : decode cX3_counts 69 = .ok (.iaload, 1) := dk_46 (dk_at dksX3_counts_2 22 rfl rfl)
theorem dX3_counts_70 : decode cX3_counts 70 = .ok (.iconst 3, 1) := dk_6 (dk_at dksX3_counts_2 23 rfl rfl)
theorem dX3_counts_71 : decode cX3_counts 71 = .ok (.iadd, 1) := dk_96 (dk_at dksX3_counts_3 0 rfl rfl)
theorem dX3_counts_72 : decode cX3_counts 72 = .ok (.iastore, 1) := dk_79 (dk_at dksX3_counts_3 1 rfl rfl)
theorem dX3_counts_73 : decode cX3_counts 73 = .ok (.aload_n 0, 1) := dk_42 (dk_at dksX3_counts_3 2 rfl rfl)
theorem dX3_counts_74 : decode cX3_counts 74 = .ok (.getfield 70, 3) := dk_180 0 70 (dk_at dksX3_counts_3 3 rfl rfl)
theorem dX3_counts_77 : decode cX3_counts 77 = .ok (.aload_n 0, 1) := dk_42 (dk_at dksX3_counts_3 6 rfl rfl)
theorem dX3_counts_78 : decode cX3_counts 78 = .ok (.getfield 25, 3) := dk_180 0 25 (dk_at dksX3_counts_3 7 rfl rfl)
theorem dX3_counts_81 : decode cX3_counts 81 = .ok (.iload_n 2, 1) := dk_28 (dk_at dksX3_counts_3 10 rfl rfl)
theorem dX3_counts_82 : decode cX3_counts 82 = .ok (.iaload, 1) := dk_46 (dk_at dksX3_counts_3 11 rfl rfl)
theorem dX3_counts_83 : decode cX3_counts 83 = .ok (.dup2, 1) := dk_92 (dk_at dksX3_counts_3 12 rfl rfl)
theorem dX3_counts_84 : decode cX3_counts 84 = .ok (.iaload, 1) := dk_46 (dk_at dksX3_counts_3 13 rfl rfl)
theorem dX3_counts_85 : decode cX3_counts 85 = .ok (.iconst 1, 1) := dk_4 (dk_at dksX3_counts_3 14 rfl rfl)
theorem dX3_counts_86 : decode cX3_counts 86 = .ok (.iadd, 1) := dk_96 (dk_at dksX3_counts_3 15 rfl rfl)
theorem dX3_counts_87 : decode cX3_counts 87 = .ok (.iastore, 1) := dk_79 (dk_at dksX3_counts_3 16 rfl rfl)
theorem dX3_counts_88 : decode cX3_counts 88 = .ok (.aload_n 0, 1) := dk_42 (dk_at dksX3_counts_3 17 rfl rfl)
theorem dX3_counts_89 : decode cX3_counts 89 = .ok (.getfield 73, 3) := dk_180 0 73 (dk_at dksX3_counts_3 18 rfl rfl)
theorem dX3_counts_92 : decode cX3_counts 92 = .ok (.aload_n 0, 1) := dk_42 (dk_at dksX3_counts_3 21 rfl rfl)
theorem dX3_counts_93 : decode cX3_counts 93 = .ok (.getfield 22, 3) := dk_180 0 22 (dk_at dksX3_counts_4 0 rfl rfl)
theorem dX3_counts_96 : decode cX3_counts 96 = .ok (.iload_n 2, 1) := dk_28 (dk_at dksX3_counts_4 3 rfl rfl)
theorem dX3_counts_97 : decode cX3_counts 97 = .ok (.iaload, 1) := dk_46 (dk_at dksX3_counts_4 4 rfl rfl)
theorem dX3_counts_98 : decode cX3_counts 98 = .ok (.dup2, 1) := dk_92 (dk_at dksX3_counts_4 5 rfl rfl)
theorem dX3_counts_99 : decode cX3_counts 99 = .ok (.iaload, 1) := dk_46 (dk_at dksX3_counts_4 6 rfl rfl)
theorem dX3_counts_100 : decode cX3_counts 100 = .ok (.iconst 1, 1) := dk_4 (dk_at dksX3_counts_4 7 rfl rfl)
theorem dX3_counts_101 : decode cX3_counts 101 = .ok (.iadd, 1) := dk_96 (dk_at dksX3_counts_4 8 rfl rfl)
theorem dX3_counts_102 : decode cX3_counts 102 = .ok (.iastore, 1) := dk_79 (dk_at dksX3_counts_4 9 rfl rfl)
theorem dX3_counts_103 : decode cX3_counts 103 = .ok (.aload_n 0, 1) := dk_42 (dk_at dksX3_counts_4 10 rfl rfl)
theorem dX3_counts_104 : decode cX3_counts 104 = .ok (.getfield 73, 3) := dk_180 0 73 (dk_at dksX3_counts_4 11 rfl rfl)
theorem dX3_counts_107 : decode cX3_counts 107 = .ok (.aload_n 0, 1) := dk_42 (dk_at dksX3_counts_4 14 rfl rfl)
theorem dX3_counts_108 : decode cX3_counts 108 = .ok (.getfield 25, 3) := dk_180 0 25 (dk_at dksX3_counts_4 15 rfl rfl)
theorem dX3_counts_111 : decode cX3_counts 111 = .ok (.iload_n 2, 1) := dk_28 (dk_at dksX3_counts_4 18 rfl rfl)
theorem dX3_counts_112 : decode cX3_counts 112 = .ok (.iaload, 1) := dk_46 (dk_at dksX3_counts_4 19 rfl rfl)
theorem dX3_counts_113 : decode cX3_counts 113 = .ok (.dup2, 1) := dk_92 (dk_at dksX3_counts_4 20 rfl rfl)
theorem dX3_counts_114 : decode cX3_counts 114 = .ok (.iaload, 1) := dk_46 (dk_at dksX3_counts_4 21 rfl rfl)
theorem dX3_counts_115 : decode cX3_counts 115 = .ok (.iconst 1, 1) := dk_4 (dk_at dksX3_counts_4 22 rfl rfl)
theorem dX3_counts_116 : decode cX3_counts 116 = .ok (.iadd, 1) := dk_96 (dk_at dksX3_counts_4 23 rfl rfl)
theorem dX3_counts_117 : decode cX3_counts 117 = .ok (.iastore, 1) := dk_79 (dk_at dksX3_counts_5 0 rfl rfl)
theorem dX3_counts_118 : decode cX3_counts 118 = .ok (.iinc 2 1, 3) := dk_132 2 1 (dk_at dksX3_counts_5 1 rfl rfl)
theorem dX3_counts_121 : decode cX3_counts 121 = .ok (.goto (-89), 3) := dk_167 255 167 (dk_at dksX3_counts_5 4 rfl rfl)
theorem dX3_counts_124 : decode cX3_counts 124 = .ok (.return_, 1) := dk_177 (dk_at dksX3_counts_5 7 rfl rfl)
abbrev cX3_isGood : ByteArray := prog_12_method_12_code
def yX3_isGood : MethodName := ⟨RX3, "isGood", "(I)Z"⟩
def dkwX3_isGood_1 : List UInt8 := [164, 0, 7, 4, 167, 0, 4, 3, 172]
abbrev dktX3_isGood_1 : List UInt8 := dkwX3_isGood_1 ++ []
def dkwX3_isGood_0 : List UInt8 := [42, 180, 0, 7, 42, 180, 0, 22, 27, 46, 46, 61, 28, 2, 159, 0, 13, 28, 42, 180, 0, 31, 27, 46]
abbrev dktX3_isGood_0 : List UInt8 := dkwX3_isGood_0 ++ dktX3_isGood_1
theorem dksX3_isGood_0 : cX3_isGood.data.toList.drop 0 = dktX3_isGood_0 := by decide +kernel
theorem dksX3_isGood_1 : cX3_isGood.data.toList.drop 24 = dktX3_isGood_1 := dk_seg dksX3_isGood_0 24 rfl rfl
theorem dX3_isGood_0 : decode cX3_isGood 0 = .ok (.aload_n 0, 1) := dk_42 (dk_at dksX3_isGood_0 0 rfl rfl)
theorem dX3_isGood_1 : decode cX3_isGood 1 = .ok (.getfield 7, 3) := dk_180 0 7 (dk_at dksX3_isGood_0 1 rfl rfl)
theorem dX3_isGood_4 : decode cX3_isGood 4 = .ok (.aload_n 0, 1) := dk_42 (dk_at dksX3_isGood_0 4 rfl rfl)
theorem dX3_isGood_5 : decode cX3_isGood 5 = .ok (.getfield 22, 3) := dk_180 0 22 (dk_at dksX3_isGood_0 5 rfl rfl)
theorem dX3_isGood_8 : decode cX3_isGood 8 = .ok (.iload_n 1, 1) := dk_27 (dk_at dksX3_isGood_0 8 rfl rfl)
theorem dX3_isGood_9 : decode cX3_isGood 9 = .ok (.iaload, 1) := dk_46 (dk_at dksX3_isGood_0 9 rfl rfl)
theorem dX3_isGood_10 : decode cX3_isGood 10 = .ok (.iaload, 1) := dk_46 (dk_at dksX3_isGood_0 10 rfl rfl)
theorem dX3_isGood_11 : decode cX3_isGood 11 = .ok (.istore_n 2, 1) := dk_61 (dk_at dksX3_isGood_0 11 rfl rfl)
theorem dX3_isGood_12 : decode cX3_isGood 12 = .ok (.iload_n 2, 1) := dk_28 (dk_at dksX3_isGood_0 12 rfl rfl)
theorem dX3_isGood_13 : decode cX3_isGood 13 = .ok (.iconst (-1), 1) := dk_2 (dk_at dksX3_isGood_0 13 rfl rfl)
theorem dX3_isGood_14 : decode cX3_isGood 14 = .ok (.if_icmp .eq 13, 3) := dk_159 0 13 (dk_at dksX3_isGood_0 14 rfl rfl)
theorem dX3_isGood_17 : decode cX3_isGood 17 = .ok (.iload_n 2, 1) := dk_28 (dk_at dksX3_isGood_0 17 rfl rfl)
theorem dX3_isGood_18 : decode cX3_isGood 18 = .ok (.aload_n 0, 1) := dk_42 (dk_at dksX3_isGood_0 18 rfl rfl)
theorem dX3_isGood_19 : decode cX3_isGood 19 = .ok (.getfield 31, 3) := dk_180 0 31 (dk_at dksX3_isGood_0 19 rfl rfl)
theorem dX3_isGood_22 : decode cX3_isGood 22 = .ok (.iload_n 1, 1) := dk_27 (dk_at dksX3_isGood_0 22 rfl rfl)
theorem dX3_isGood_23 : decode cX3_isGood 23 = .ok (.iaload, 1) := dk_46 (dk_at dksX3_isGood_0 23 rfl rfl)
theorem dX3_isGood_24 : decode cX3_isGood 24 = .ok (.if_icmp .le 7, 3) := dk_164 0 7 (dk_at dksX3_isGood_1 0 rfl rfl)
theorem dX3_isGood_27 : decode cX3_isGood 27 = .ok (.iconst 1, 1) := dk_4 (dk_at dksX3_isGood_1 3 rfl rfl)
theorem dX3_isGood_28 : decode cX3_isGood 28 = .ok (.goto 4, 3) := dk_167 0 4 (dk_at dksX3_isGood_1 4 rfl rfl)
theorem dX3_isGood_31 : decode cX3_isGood 31 = .ok (.iconst 0, 1) := dk_3 (dk_at dksX3_isGood_1 7 rfl rfl)
theorem dX3_isGood_32 : decode cX3_isGood 32 = .ok (.ireturn, 1) := dk_172 (dk_at dksX3_isGood_1 8 rfl rfl)
abbrev cX3_who : ByteArray := prog_12_method_16_code
def yX3_who : MethodName := ⟨RX3, "who", "(I)I"⟩
def dkwX3_who_1 : List UInt8 := [167, 0, 4, 28, 61, 132, 3, 1, 167, 255, 230, 28, 172]
abbrev dktX3_who_1 : List UInt8 := dkwX3_who_1 ++ []
def dkwX3_who_0 : List UInt8 := [2, 61, 3, 62, 29, 42, 180, 0, 83, 162, 0, 24, 42, 29, 182, 0, 123, 27, 160, 0, 7, 29]
abbrev dktX3_who_0 : List UInt8 := dkwX3_who_0 ++ dktX3_who_1
theorem dksX3_who_0 : cX3_who.data.toList.drop 0 = dktX3_who_0 := by decide +kernel
theorem dksX3_who_1 : cX3_who.data.toList.drop 22 = dktX3_who_1 := dk_seg dksX3_who_0 22 rfl rfl
theorem dX3_who_0 : decode cX3_who 0 = .ok (.iconst (-1), 1) := dk_2 (dk_at dksX3_who_0 0 rfl rfl)
theorem dX3_who_1 : decode cX3_who 1 = .ok (.istore_n 2, 1) := dk_61 (dk_at dksX3_who_0 1 rfl rfl)
theorem dX3_who_2 : decode cX3_who 2 = .ok (.iconst 0, 1) := dk_3 (dk_at dksX3_who_0 2 rfl rfl)
theorem dX3_who_3 : decode cX3_who 3 = .ok (.istore_n 3, 1) := dk_62 (dk_at dksX3_who_0 3 rfl rfl)
theorem dX3_who_4 : decode cX3_who 4 = .ok (.iload_n 3, 1) := dk_29 (dk_at dksX3_who_0 4 rfl rfl)
theorem dX3_who_5 : decode cX3_who 5 = .ok (.aload_n 0, 1) := dk_42 (dk_at dksX3_who_0 5 rfl rfl)
theorem dX3_who_6 : decode cX3_who 6 = .ok (.getfield 83, 3) := dk_180 0 83 (dk_at dksX3_who_0 6 rfl rfl)
theorem dX3_who_9 : decode cX3_who 9 = .ok (.if_icmp .ge 24, 3) := dk_162 0 24 (dk_at dksX3_who_0 9 rfl rfl)
theorem dX3_who_12 : decode cX3_who 12 = .ok (.aload_n 0, 1) := dk_42 (dk_at dksX3_who_0 12 rfl rfl)
theorem dX3_who_13 : decode cX3_who 13 = .ok (.iload_n 3, 1) := dk_29 (dk_at dksX3_who_0 13 rfl rfl)
theorem dX3_who_14 : decode cX3_who 14 = .ok (.invokevirtual 123, 3) := dk_182 0 123 (dk_at dksX3_who_0 14 rfl rfl)
theorem dX3_who_17 : decode cX3_who 17 = .ok (.iload_n 1, 1) := dk_27 (dk_at dksX3_who_0 17 rfl rfl)
theorem dX3_who_18 : decode cX3_who 18 = .ok (.if_icmp .ne 7, 3) := dk_160 0 7 (dk_at dksX3_who_0 18 rfl rfl)
theorem dX3_who_21 : decode cX3_who 21 = .ok (.iload_n 3, 1) := dk_29 (dk_at dksX3_who_0 21 rfl rfl)
theorem dX3_who_22 : decode cX3_who 22 = .ok (.goto 4, 3) := dk_167 0 4 (dk_at dksX3_who_1 0 rfl rfl)
theorem dX3_who_25 : decode cX3_who 25 = .ok (.iload_n 2, 1) := dk_28 (dk_at dksX3_who_1 3 rfl rfl)
theorem dX3_who_26 : decode cX3_who 26 = .ok (.istore_n 2, 1) := dk_61 (dk_at dksX3_who_1 4 rfl rfl)
theorem dX3_who_27 : decode cX3_who 27 = .ok (.iinc 3 1, 3) := dk_132 3 1 (dk_at dksX3_who_1 5 rfl rfl)
theorem dX3_who_30 : decode cX3_who 30 = .ok (.goto (-26), 3) := dk_167 255 230 (dk_at dksX3_who_1 8 rfl rfl)
theorem dX3_who_33 : decode cX3_who 33 = .ok (.iload_n 2, 1) := dk_28 (dk_at dksX3_who_1 11 rfl rfl)
theorem dX3_who_34 : decode cX3_who 34 = .ok (.ireturn, 1) := dk_172 (dk_at dksX3_who_1 12 rfl rfl)
abbrev cX3_placeOf : ByteArray := prog_12_method_15_code
def yX3_placeOf : MethodName := ⟨RX3, "placeOf", "(I)I"⟩
def dkwX3_placeOf_2 : List UInt8 := [167, 255, 214, 42, 180, 0, 70, 27, 46, 154, 0, 7, 3, 167, 0, 4, 28, 172]
abbrev dktX3_placeOf_2 : List UInt8 := dkwX3_placeOf_2 ++ []
def dkwX3_placeOf_1 : List UInt8 := [158, 0, 16, 42, 29, 27, 182, 0, 119, 153, 0, 7, 4, 167, 0, 4, 3, 96, 61, 132, 3, 1]
abbrev dktX3_placeOf_1 : List UInt8 := dkwX3_placeOf_1 ++ dktX3_placeOf_2
def dkwX3_placeOf_0 : List UInt8 := [4, 61, 3, 62, 29, 42, 180, 0, 83, 162, 0, 40, 28, 29, 27, 159, 0, 25, 42, 180, 0, 70, 29, 46]
abbrev dktX3_placeOf_0 : List UInt8 := dkwX3_placeOf_0 ++ dktX3_placeOf_1
theorem dksX3_placeOf_0 : cX3_placeOf.data.toList.drop 0 = dktX3_placeOf_0 := by decide +kernel
theorem dksX3_placeOf_1 : cX3_placeOf.data.toList.drop 24 = dktX3_placeOf_1 := dk_seg dksX3_placeOf_0 24 rfl rfl
theorem dksX3_placeOf_2 : cX3_placeOf.data.toList.drop 46 = dktX3_placeOf_2 := dk_seg dksX3_placeOf_1 22 rfl rfl
theorem dX3_placeOf_0 : decode cX3_placeOf 0 = .ok (.iconst 1, 1) := dk_4 (dk_at dksX3_placeOf_0 0 rfl rfl)
theorem dX3_placeOf_1 : decode cX3_placeOf 1 = .ok (.istore_n 2, 1) := dk_61 (dk_at dksX3_placeOf_0 1 rfl rfl)
theorem dX3_placeOf_2 : decode cX3_placeOf 2 = .ok (.iconst 0, 1) := dk_3 (dk_at dksX3_placeOf_0 2 rfl rfl)
theorem dX3_placeOf_3 : decode cX3_placeOf 3 = .ok (.istore_n 3, 1) := dk_62 (dk_at dksX3_placeOf_0 3 rfl rfl)
theorem dX3_placeOf_4 : decode cX3_placeOf 4 = .ok (.iload_n 3, 1) := dk_29 (dk_at dksX3_placeOf_0 4 rfl rfl)
theorem dX3_placeOf_5 : decode cX3_placeOf 5 = .ok (.aload_n 0, 1) := dk_42 (dk_at dksX3_placeOf_0 5 rfl rfl)
theorem dX3_placeOf_6 : decode cX3_placeOf 6 = .ok (.getfield 83, 3) := dk_180 0 83 (dk_at dksX3_placeOf_0 6 rfl rfl)
theorem dX3_placeOf_9 : decode cX3_placeOf 9 = .ok (.if_icmp .ge 40, 3) := dk_162 0 40 (dk_at dksX3_placeOf_0 9 rfl rfl)
theorem dX3_placeOf_12 : decode cX3_placeOf 12 = .ok (.iload_n 2, 1) := dk_28 (dk_at dksX3_placeOf_0 12 rfl rfl)
theorem dX3_placeOf_13 : decode cX3_placeOf 13 = .ok (.iload_n 3, 1) := dk_29 (dk_at dksX3_placeOf_0 13 rfl rfl)
theorem dX3_placeOf_14 : decode cX3_placeOf 14 = .ok (.iload_n 1, 1) := dk_27 (dk_at dksX3_placeOf_0 14 rfl rfl)
theorem dX3_placeOf_15 : decode cX3_placeOf 15 = .ok (.if_icmp .eq 25, 3) := dk_159 0 25 (dk_at dksX3_placeOf_0 15 rfl rfl)
theorem dX3_placeOf_18 : decode cX3_placeOf 18 = .ok (.aload_n 0, 1) := dk_42 (dk_at dksX3_placeOf_0 18 rfl rfl)
theorem dX3_placeOf_19 : decode cX3_placeOf 19 = .ok (.getfield 70, 3) := dk_180 0 70 (dk_at dksX3_placeOf_0 19 rfl rfl)
theorem dX3_placeOf_22 : decode cX3_placeOf 22 = .ok (.iload_n 3, 1) := dk_29 (dk_at dksX3_placeOf_0 22 rfl rfl)
theorem dX3_placeOf_23 : decode cX3_placeOf 23 = .ok (.iaload, 1) := dk_46 (dk_at dksX3_placeOf_0 23 rfl rfl)
theorem dX3_placeOf_24 : decode cX3_placeOf 24 = .ok (.ifCond .le 16, 3) := dk_158 0 16 (dk_at dksX3_placeOf_1 0 rfl rfl)
theorem dX3_placeOf_27 : decode cX3_placeOf 27 = .ok (.aload_n 0, 1) := dk_42 (dk_at dksX3_placeOf_1 3 rfl rfl)
theorem dX3_placeOf_28 : decode cX3_placeOf 28 = .ok (.iload_n 3, 1) := dk_29 (dk_at dksX3_placeOf_1 4 rfl rfl)
theorem dX3_placeOf_29 : decode cX3_placeOf 29 = .ok (.iload_n 1, 1) := dk_27 (dk_at dksX3_placeOf_1 5 rfl rfl)
theorem dX3_placeOf_30 : decode cX3_placeOf 30 = .ok (.invokevirtual 119, 3) := dk_182 0 119 (dk_at dksX3_placeOf_1 6 rfl rfl)
theorem dX3_placeOf_33 : decode cX3_placeOf 33 = .ok (.ifCond .eq 7, 3) := dk_153 0 7 (dk_at dksX3_placeOf_1 9 rfl rfl)
theorem dX3_placeOf_36 : decode cX3_placeOf 36 = .ok (.iconst 1, 1) := dk_4 (dk_at dksX3_placeOf_1 12 rfl rfl)
theorem dX3_placeOf_37 : decode cX3_placeOf 37 = .ok (.goto 4, 3) := dk_167 0 4 (dk_at dksX3_placeOf_1 13 rfl rfl)
theorem dX3_placeOf_40 : decode cX3_placeOf 40 = .ok (.iconst 0, 1) := dk_3 (dk_at dksX3_placeOf_1 16 rfl rfl)
theorem dX3_placeOf_41 : decode cX3_placeOf 41 = .ok (.iadd, 1) := dk_96 (dk_at dksX3_placeOf_1 17 rfl rfl)
theorem dX3_placeOf_42 : decode cX3_placeOf 42 = .ok (.istore_n 2, 1) := dk_61 (dk_at dksX3_placeOf_1 18 rfl rfl)
theorem dX3_placeOf_43 : decode cX3_placeOf 43 = .ok (.iinc 3 1, 3) := dk_132 3 1 (dk_at dksX3_placeOf_1 19 rfl rfl)
theorem dX3_placeOf_46 : decode cX3_placeOf 46 = .ok (.goto (-42), 3) := dk_167 255 214 (dk_at dksX3_placeOf_2 0 rfl rfl)
theorem dX3_placeOf_49 : decode cX3_placeOf 49 = .ok (.aload_n 0, 1) := dk_42 (dk_at dksX3_placeOf_2 3 rfl rfl)
theorem dX3_placeOf_50 : decode cX3_placeOf 50 = .ok (.getfield 70, 3) := dk_180 0 70 (dk_at dksX3_placeOf_2 4 rfl rfl)
theorem dX3_placeOf_53 : decode cX3_placeOf 53 = .ok (.iload_n 1, 1) := dk_27 (dk_at dksX3_placeOf_2 7 rfl rfl)
theorem dX3_placeOf_54 : decode cX3_placeOf 54 = .ok (.iaload, 1) := dk_46 (dk_at dksX3_placeOf_2 8 rfl rfl)
theorem dX3_placeOf_55 : decode cX3_placeOf 55 = .ok (.ifCond .ne 7, 3) := dk_154 0 7 (dk_at dksX3_placeOf_2 9 rfl rfl)
theorem dX3_placeOf_58 : decode cX3_placeOf 58 = .ok (.iconst 0, 1) := dk_3 (dk_at dksX3_placeOf_2 12 rfl rfl)
theorem dX3_placeOf_59 : decode cX3_placeOf 59 = .ok (.goto 4, 3) := dk_167 0 4 (dk_at dksX3_placeOf_2 13 rfl rfl)
theorem dX3_placeOf_62 : decode cX3_placeOf 62 = .ok (.iload_n 2, 1) := dk_28 (dk_at dksX3_placeOf_2 16 rfl rfl)
theorem dX3_placeOf_63 : decode cX3_placeOf 63 = .ok (.ireturn, 1) := dk_172 (dk_at dksX3_placeOf_2 17 rfl rfl)
abbrev cX3_isAhead : ByteArray := prog_12_method_14_code
def yX3_isAhead : MethodName := ⟨RX3, "isAhead", "(II)Z"⟩
def dkwX3_isAhead_3 : List UInt8 := [162, 0, 7, 4, 167, 0, 4, 3, 172]
abbrev dktX3_isAhead_3 : List UInt8 := dkwX3_isAhead_3 ++ []
def dkwX3_isAhead_2 : List UInt8 := [28, 46, 161, 0, 23, 42, 180, 0, 73, 27, 46, 42, 180, 0, 73, 28, 46, 160, 0, 12, 27, 28]
abbrev dktX3_isAhead_2 : List UInt8 := dkwX3_isAhead_2 ++ dktX3_isAhead_3
def dkwX3_isAhead_1 : List UInt8 := [180, 0, 70, 28, 46, 164, 0, 7, 4, 167, 0, 4, 3, 172, 42, 180, 0, 73, 27, 46, 42, 180, 0, 73]
abbrev dktX3_isAhead_1 : List UInt8 := dkwX3_isAhead_1 ++ dktX3_isAhead_2
def dkwX3_isAhead_0 : List UInt8 := [42, 180, 0, 70, 27, 46, 42, 180, 0, 70, 28, 46, 159, 0, 24, 42, 180, 0, 70, 27, 46, 42]
abbrev dktX3_isAhead_0 : List UInt8 := dkwX3_isAhead_0 ++ dktX3_isAhead_1
theorem dksX3_isAhead_0 : cX3_isAhead.data.toList.drop 0 = dktX3_isAhead_0 := by decide +kernel
theorem dksX3_isAhead_1 : cX3_isAhead.data.toList.drop 22 = dktX3_isAhead_1 := dk_seg dksX3_isAhead_0 22 rfl rfl
theorem dksX3_isAhead_2 : cX3_isAhead.data.toList.drop 46 = dktX3_isAhead_2 := dk_seg dksX3_isAhead_1 24 rfl rfl
theorem dksX3_isAhead_3 : cX3_isAhead.data.toList.drop 68 = dktX3_isAhead_3 := dk_seg dksX3_isAhead_2 22 rfl rfl
theorem dX3_isAhead_0 : decode cX3_isAhead 0 = .ok (.aload_n 0, 1) := dk_42 (dk_at dksX3_isAhead_0 0 rfl rfl)
theorem dX3_isAhead_1 : decode cX3_isAhead 1 = .ok (.getfield 70, 3) := dk_180 0 70 (dk_at dksX3_isAhead_0 1 rfl rfl)
theorem dX3_isAhead_4 : decode cX3_isAhead 4 = .ok (.iload_n 1, 1) := dk_27 (dk_at dksX3_isAhead_0 4 rfl rfl)
theorem dX3_isAhead_5 : decode cX3_isAhead 5 = .ok (.iaload, 1) := dk_46 (dk_at dksX3_isAhead_0 5 rfl rfl)
theorem dX3_isAhead_6 : decode cX3_isAhead 6 = .ok (.aload_n 0, 1) := dk_42 (dk_at dksX3_isAhead_0 6 rfl rfl)
theorem dX3_isAhead_7 : decode cX3_isAhead 7 = .ok (.getfield 70, 3) := dk_180 0 70 (dk_at dksX3_isAhead_0 7 rfl rfl)
theorem dX3_isAhead_10 : decode cX3_isAhead 10 = .ok (.iload_n 2, 1) := dk_28 (dk_at dksX3_isAhead_0 10 rfl rfl)
theorem dX3_isAhead_11 : decode cX3_isAhead 11 = .ok (.iaload, 1) := dk_46 (dk_at dksX3_isAhead_0 11 rfl rfl)
theorem dX3_isAhead_12 : decode cX3_isAhead 12 = .ok (.if_icmp .eq 24, 3) := dk_159 0 24 (dk_at dksX3_isAhead_0 12 rfl rfl)
theorem dX3_isAhead_15 : decode cX3_isAhead 15 = .ok (.aload_n 0, 1) := dk_42 (dk_at dksX3_isAhead_0 15 rfl rfl)
theorem dX3_isAhead_16 : decode cX3_isAhead 16 = .ok (.getfield 70, 3) := dk_180 0 70 (dk_at dksX3_isAhead_0 16 rfl rfl)
theorem dX3_isAhead_19 : decode cX3_isAhead 19 = .ok (.iload_n 1, 1) := dk_27 (dk_at dksX3_isAhead_0 19 rfl rfl)
theorem dX3_isAhead_20 : decode cX3_isAhead 20 = .ok (.iaload, 1) := dk_46 (dk_at dksX3_isAhead_0 20 rfl rfl)
theorem dX3_isAhead_21 : decode cX3_isAhead 21 = .ok (.aload_n 0, 1) := dk_42 (dk_at dksX3_isAhead_0 21 rfl rfl)
theorem dX3_isAhead_22 : decode cX3_isAhead 22 = .ok (.getfield 70, 3) := dk_180 0 70 (dk_at dksX3_isAhead_1 0 rfl rfl)
theorem dX3_isAhead_25 : decode cX3_isAhead 25 = .ok (.iload_n 2, 1) := dk_28 (dk_at dksX3_isAhead_1 3 rfl rfl)
theorem dX3_isAhead_26 : decode cX3_isAhead 26 = .ok (.iaload, 1) := dk_46 (dk_at dksX3_isAhead_1 4 rfl rfl)
theorem dX3_isAhead_27 : decode cX3_isAhead 27 = .ok (.if_icmp .le 7, 3) := dk_164 0 7 (dk_at dksX3_isAhead_1 5 rfl rfl)
theorem dX3_isAhead_30 : decode cX3_isAhead 30 = .ok (.iconst 1, 1) := dk_4 (dk_at dksX3_isAhead_1 8 rfl rfl)
theorem dX3_isAhead_31 : decode cX3_isAhead 31 = .ok (.goto 4, 3) := dk_167 0 4 (dk_at dksX3_isAhead_1 9 rfl rfl)
theorem dX3_isAhead_34 : decode cX3_isAhead 34 = .ok (.iconst 0, 1) := dk_3 (dk_at dksX3_isAhead_1 12 rfl rfl)
theorem dX3_isAhead_35 : decode cX3_isAhead 35 = .ok (.ireturn, 1) := dk_172 (dk_at dksX3_isAhead_1 13 rfl rfl)
theorem dX3_isAhead_36 : decode cX3_isAhead 36 = .ok (.aload_n 0, 1) := dk_42 (dk_at dksX3_isAhead_1 14 rfl rfl)
theorem dX3_isAhead_37 : decode cX3_isAhead 37 = .ok (.getfield 73, 3) := dk_180 0 73 (dk_at dksX3_isAhead_1 15 rfl rfl)
theorem dX3_isAhead_40 : decode cX3_isAhead 40 = .ok (.iload_n 1, 1) := dk_27 (dk_at dksX3_isAhead_1 18 rfl rfl)
theorem dX3_isAhead_41 : decode cX3_isAhead 41 = .ok (.iaload, 1) := dk_46 (dk_at dksX3_isAhead_1 19 rfl rfl)
theorem dX3_isAhead_42 : decode cX3_isAhead 42 = .ok (.aload_n 0, 1) := dk_42 (dk_at dksX3_isAhead_1 20 rfl rfl)
theorem dX3_isAhead_43 : decode cX3_isAhead 43 = .ok (.getfield 73, 3) := dk_180 0 73 (dk_at dksX3_isAhead_1 21 rfl rfl)
theorem dX3_isAhead_46 : decode cX3_isAhead 46 = .ok (.iload_n 2, 1) := dk_28 (dk_at dksX3_isAhead_2 0 rfl rfl)
theorem dX3_isAhead_47 : decode cX3_isAhead 47 = .ok (.iaload, 1) := dk_46 (dk_at dksX3_isAhead_2 1 rfl rfl)
theorem dX3_isAhead_48 : decode cX3_isAhead 48 = .ok (.if_icmp .lt 23, 3) := dk_161 0 23 (dk_at dksX3_isAhead_2 2 rfl rfl)
theorem dX3_isAhead_51 : decode cX3_isAhead 51 = .ok (.aload_n 0, 1) := dk_42 (dk_at dksX3_isAhead_2 5 rfl rfl)
theorem dX3_isAhead_52 : decode cX3_isAhead 52 = .ok (.getfield 73, 3) := dk_180 0 73 (dk_at dksX3_isAhead_2 6 rfl rfl)
theorem dX3_isAhead_55 : decode cX3_isAhead 55 = .ok (.iload_n 1, 1) := dk_27 (dk_at dksX3_isAhead_2 9 rfl rfl)
theorem dX3_isAhead_56 : decode cX3_isAhead 56 = .ok (.iaload, 1) := dk_46 (dk_at dksX3_isAhead_2 10 rfl rfl)
theorem dX3_isAhead_57 : decode cX3_isAhead 57 = .ok (.aload_n 0, 1) := dk_42 (dk_at dksX3_isAhead_2 11 rfl rfl)
theorem dX3_isAhead_58 : decode cX3_isAhead 58 = .ok (.getfield 73, 3) := dk_180 0 73 (dk_at dksX3_isAhead_2 12 rfl rfl)
theorem dX3_isAhead_61 : decode cX3_isAhead 61 = .ok (.iload_n 2, 1) := dk_28 (dk_at dksX3_isAhead_2 15 rfl rfl)
theorem dX3_isAhead_62 : decode cX3_isAhead 62 = .ok (.iaload, 1) := dk_46 (dk_at dksX3_isAhead_2 16 rfl rfl)
theorem dX3_isAhead_63 : decode cX3_isAhead 63 = .ok (.if_icmp .ne 12, 3) := dk_160 0 12 (dk_at dksX3_isAhead_2 17 rfl rfl)
theorem dX3_isAhead_66 : decode cX3_isAhead 66 = .ok (.iload_n 1, 1) := dk_27 (dk_at dksX3_isAhead_2 20 rfl rfl)
theorem dX3_isAhead_67 : decode cX3_isAhead 67 = .ok (.iload_n 2, 1) := dk_28 (dk_at dksX3_isAhead_2 21 rfl rfl)
theorem dX3_isAhead_68 : decode cX3_isAhead 68 = .ok (.if_icmp .ge 7, 3) := dk_162 0 7 (dk_at dksX3_isAhead_3 0 rfl rfl)
theorem dX3_isAhead_71 : decode cX3_isAhead 71 = .ok (.iconst 1, 1) := dk_4 (dk_at dksX3_isAhead_3 3 rfl rfl)
theorem dX3_isAhead_72 : decode cX3_isAhead 72 = .ok (.goto 4, 3) := dk_167 0 4 (dk_at dksX3_isAhead_3 4 rfl rfl)
theorem dX3_isAhead_75 : decode cX3_isAhead 75 = .ok (.iconst 0, 1) := dk_3 (dk_at dksX3_isAhead_3 7 rfl rfl)
theorem dX3_isAhead_76 : decode cX3_isAhead 76 = .ok (.ireturn, 1) := dk_172 (dk_at dksX3_isAhead_3 8 rfl rfl)
abbrev cX3_sell : ByteArray := prog_12_method_19_code
def yX3_sell : MethodName := ⟨RX3, "sell", "(III)Z"⟩
def dkwX3_sell_12 : List UInt8 := [42, 180, 0, 49, 27, 2, 79, 21, 6, 172]
abbrev dktX3_sell_12 : List UInt8 := dkwX3_sell_12 ++ []
def dkwX3_sell_11 : List UInt8 := [27, 46, 92, 46, 29, 96, 79, 42, 180, 0, 16, 28, 92, 46, 29, 100, 79, 42, 180, 0, 46, 27, 28, 79]
abbrev dktX3_sell_11 : List UInt8 := dkwX3_sell_11 ++ dktX3_sell_12
def dkwX3_sell_10 : List UInt8 := [180, 0, 55, 27, 46, 79, 42, 180, 0, 58, 27, 92, 46, 4, 96, 79, 42, 180, 0, 16, 42, 180, 0, 46]
abbrev dktX3_sell_10 : List UInt8 := dkwX3_sell_10 ++ dktX3_sell_11
def dkwX3_sell_9 : List UInt8 := [153, 0, 22, 42, 180, 0, 55, 27, 46, 2, 160, 0, 12, 42, 180, 0, 58, 27, 46, 167, 0, 9, 42]
abbrev dktX3_sell_9 : List UInt8 := dkwX3_sell_9 ++ dktX3_sell_10
def dkwX3_sell_8 : List UInt8 := [180, 0, 64, 21, 7, 28, 79, 42, 180, 0, 67, 21, 7, 29, 79, 42, 180, 0, 55, 27, 21, 6]
abbrev dktX3_sell_8 : List UInt8 := dkwX3_sell_8 ++ dktX3_sell_9
def dkwX3_sell_7 : List UInt8 := [104, 42, 180, 0, 58, 27, 46, 96, 54, 7, 42, 180, 0, 61, 21, 7, 42, 180, 0, 46, 27, 46, 79, 42]
abbrev dktX3_sell_7 : List UInt8 := dkwX3_sell_7 ++ dktX3_sell_8
def dkwX3_sell_6 : List UInt8 := [2, 160, 0, 17, 42, 180, 0, 7, 28, 46, 2, 160, 0, 7, 4, 167, 0, 4, 3, 54, 6, 16, 20, 27]
abbrev dktX3_sell_6 : List UInt8 := dkwX3_sell_6 ++ dktX3_sell_7
def dkwX3_sell_5 : List UInt8 := [3, 167, 0, 4, 6, 182, 0, 93, 153, 0, 5, 3, 172, 42, 180, 0, 7, 42, 180, 0, 46, 27, 46, 46]
abbrev dktX3_sell_5 : List UInt8 := dkwX3_sell_5 ++ dktX3_sell_6
def dkwX3_sell_4 : List UInt8 := [4, 167, 0, 28, 29, 3, 17, 39, 16, 184, 0, 86, 154, 0, 7, 5, 167, 0, 13, 21, 5, 153, 0, 7]
abbrev dktX3_sell_4 : List UInt8 := dkwX3_sell_4 ++ dktX3_sell_5
def dkwX3_sell_3 : List UInt8 := [42, 180, 0, 58, 27, 46, 16, 20, 162, 0, 7, 4, 167, 0, 4, 3, 54, 5, 42, 21, 4, 154, 0, 7]
abbrev dktX3_sell_3 : List UInt8 := dkwX3_sell_3 ++ dktX3_sell_4
def dkwX3_sell_2 : List UInt8 := [159, 0, 39, 42, 42, 180, 0, 46, 27, 46, 182, 0, 110, 154, 0, 26, 42, 28, 182, 0, 110, 154, 0, 18]
abbrev dktX3_sell_2 : List UInt8 := dkwX3_sell_2 ++ dktX3_sell_3
def dkwX3_sell_1 : List UInt8 := [21, 4, 153, 0, 59, 42, 180, 0, 46, 27, 46, 2, 159, 0, 49, 42, 180, 0, 46, 27, 46, 28]
abbrev dktX3_sell_1 : List UInt8 := dkwX3_sell_1 ++ dktX3_sell_2
def dkwX3_sell_0 : List UInt8 := [42, 27, 182, 0, 136, 153, 0, 15, 42, 28, 182, 0, 107, 153, 0, 7, 4, 167, 0, 4, 3, 54, 4]
abbrev dktX3_sell_0 : List UInt8 := dkwX3_sell_0 ++ dktX3_sell_1
theorem dksX3_sell_0 : cX3_sell.data.toList.drop 0 = dktX3_sell_0 := by decide +kernel
theorem dksX3_sell_1 : cX3_sell.data.toList.drop 23 = dktX3_sell_1 := dk_seg dksX3_sell_0 23 rfl rfl
theorem dksX3_sell_2 : cX3_sell.data.toList.drop 45 = dktX3_sell_2 := dk_seg dksX3_sell_1 22 rfl rfl
theorem dksX3_sell_3 : cX3_sell.data.toList.drop 69 = dktX3_sell_3 := dk_seg dksX3_sell_2 24 rfl rfl
theorem dksX3_sell_4 : cX3_sell.data.toList.drop 93 = dktX3_sell_4 := dk_seg dksX3_sell_3 24 rfl rfl
theorem dksX3_sell_5 : cX3_sell.data.toList.drop 117 = dktX3_sell_5 := dk_seg dksX3_sell_4 24 rfl rfl
theorem dksX3_sell_6 : cX3_sell.data.toList.drop 141 = dktX3_sell_6 := dk_seg dksX3_sell_5 24 rfl rfl
theorem dksX3_sell_7 : cX3_sell.data.toList.drop 165 = dktX3_sell_7 := dk_seg dksX3_sell_6 24 rfl rfl
theorem dksX3_sell_8 : cX3_sell.data.toList.drop 189 = dktX3_sell_8 := dk_seg dksX3_sell_7 24 rfl rfl
theorem dksX3_sell_9 : cX3_sell.data.toList.drop 211 = dktX3_sell_9 := dk_seg dksX3_sell_8 22 rfl rfl
theorem dksX3_sell_10 : cX3_sell.data.toList.drop 234 = dktX3_sell_10 := dk_seg dksX3_sell_9 23 rfl rfl
theorem dksX3_sell_11 : cX3_sell.data.toList.drop 258 = dktX3_sell_11 := dk_seg dksX3_sell_10 24 rfl rfl
theorem dksX3_sell_12 : cX3_sell.data.toList.drop 282 = dktX3_sell_12 := dk_seg dksX3_sell_11 24 rfl rfl
theorem dX3_sell_0 : decode cX3_sell 0 = .ok (.aload_n 0, 1) := dk_42 (dk_at dksX3_sell_0 0 rfl rfl)
theorem dX3_sell_1 : decode cX3_sell 1 = .ok (.iload_n 1, 1) := dk_27 (dk_at dksX3_sell_0 1 rfl rfl)
theorem dX3_sell_2 : decode cX3_sell 2 = .ok (.invokevirtual 136, 3) := dk_182 0 136 (dk_at dksX3_sell_0 2 rfl rfl)
theorem dX3_sell_5 : decode cX3_sell 5 = .ok (.ifCond .eq 15, 3) := dk_153 0 15 (dk_at dksX3_sell_0 5 rfl rfl)
theorem dX3_sell_8 : decode cX3_sell 8 = .ok (.aload_n 0, 1) := dk_42 (dk_at dksX3_sell_0 8 rfl rfl)
theorem dX3_sell_9 : decode cX3_sell 9 = .ok (.iload_n 2, 1) := dk_28 (dk_at dksX3_sell_0 9 rfl rfl)
theorem dX3_sell_10 : decode cX3_sell 10 = .ok (.invokevirtual 107, 3) := dk_182 0 107 (dk_at dksX3_sell_0 10 rfl rfl)
theorem dX3_sell_13 : decode cX3_sell 13 = .ok (.ifCond .eq 7, 3) := dk_153 0 7 (dk_at dksX3_sell_0 13 rfl rfl)
theorem dX3_sell_16 : decode cX3_sell 16 = .ok (.iconst 1, 1) := dk_4 (dk_at dksX3_sell_0 16 rfl rfl)
theorem dX3_sell_17 : decode cX3_sell 17 = .ok (.goto 4, 3) := dk_167 0 4 (dk_at dksX3_sell_0 17 rfl rfl)
theorem dX3_sell_20 : decode cX3_sell 20 = .ok (.iconst 0, 1) := dk_3 (dk_at dksX3_sell_0 20 rfl rfl)
theorem dX3_sell_21 : decode cX3_sell 21 = .ok (.istore 4, 2) := dk_54 4 (dk_at dksX3_sell_0 21 rfl rfl)
theorem dX3_sell_23 : decode cX3_sell 23 = .ok (.iload 4, 2) := dk_21 4 (dk_at dksX3_sell_1 0 rfl rfl)
theorem dX3_sell_25 : decode cX3_sell 25 = .ok (.ifCond .eq 59, 3) := dk_153 0 59 (dk_at dksX3_sell_1 2 rfl rfl)
theorem dX3_sell_28 : decode cX3_sell 28 = .ok (.aload_n 0, 1) := dk_42 (dk_at dksX3_sell_1 5 rfl rfl)
theorem dX3_sell_29 : decode cX3_sell 29 = .ok (.getfield 46, 3) := dk_180 0 46 (dk_at dksX3_sell_1 6 rfl rfl)
theorem dX3_sell_32 : decode cX3_sell 32 = .ok (.iload_n 1, 1) := dk_27 (dk_at dksX3_sell_1 9 rfl rfl)
theorem dX3_sell_33 : decode cX3_sell 33 = .ok (.iaload, 1) := dk_46 (dk_at dksX3_sell_1 10 rfl rfl)
theorem dX3_sell_34 : decode cX3_sell 34 = .ok (.iconst (-1), 1) := dk_2 (dk_at dksX3_sell_1 11 rfl rfl)
theorem dX3_sell_35 : decode cX3_sell 35 = .ok (.if_icmp .eq 49, 3) := dk_159 0 49 (dk_at dksX3_sell_1 12 rfl rfl)
theorem dX3_sell_38 : decode cX3_sell 38 = .ok (.aload_n 0, 1) := dk_42 (dk_at dksX3_sell_1 15 rfl rfl)
theorem dX3_sell_39 : decode cX3_sell 39 = .ok (.getfield 46, 3) := dk_180 0 46 (dk_at dksX3_sell_1 16 rfl rfl)
theorem dX3_sell_42 : decode cX3_sell 42 = .ok (.iload_n 1, 1) := dk_27 (dk_at dksX3_sell_1 19 rfl rfl)
theorem dX3_sell_43 : decode cX3_sell 43 = .ok (.iaload, 1) := dk_46 (dk_at dksX3_sell_1 20 rfl rfl)
theorem dX3_sell_44 : decode cX3_sell 44 = .ok (.iload_n 2, 1) := dk_28 (dk_at dksX3_sell_1 21 rfl rfl)
theorem dX3_sell_45 : decode cX3_sell 45 = .ok (.if_icmp .eq 39, 3) := dk_159 0 39 (dk_at dksX3_sell_2 0 rfl rfl)
theorem dX3_sell_48 : decode cX3_sell 48 = .ok (.aload_n 0, 1) := dk_42 (dk_at dksX3_sell_2 3 rfl rfl)
theorem dX3_sell_49 : decode cX3_sell 49 = .ok (.aload_n 0, 1) := dk_42 (dk_at dksX3_sell_2 4 rfl rfl)
theorem dX3_sell_50 : decode cX3_sell 50 = .ok (.getfield 46, 3) := dk_180 0 46 (dk_at dksX3_sell_2 5 rfl rfl)
theorem dX3_sell_53 : decode cX3_sell 53 = .ok (.iload_n 1, 1) := dk_27 (dk_at dksX3_sell_2 8 rfl rfl)
theorem dX3_sell_54 : decode cX3_sell 54 = .ok (.iaload, 1) := dk_46 (dk_at dksX3_sell_2 9 rfl rfl)
theorem dX3_sell_55 : decode cX3_sell 55 = .ok (.invokevirtual 110, 3) := dk_182 0 110 (dk_at dksX3_sell_2 10 rfl rfl)
theorem dX3_sell_58 : decode cX3_sell 58 = .ok (.ifCond .ne 26, 3) := dk_154 0 26 (dk_at dksX3_sell_2 13 rfl rfl)
theorem dX3_sell_61 : decode cX3_sell 61 = .ok (.aload_n 0, 1) := dk_42 (dk_at dksX3_sell_2 16 rfl rfl)
theorem dX3_sell_62 : decode cX3_sell 62 = .ok (.iload_n 2, 1) := dk_28 (dk_at dksX3_sell_2 17 rfl rfl)
theorem dX3_sell_63 : decode cX3_sell 63 = .ok (.invokevirtual 110, 3) := dk_182 0 110 (dk_at dksX3_sell_2 18 rfl rfl)
theorem dX3_sell_66 : decode cX3_sell 66 = .ok (.ifCond .ne 18, 3) := dk_154 0 18 (dk_at dksX3_sell_2 21 rfl rfl)
theorem dX3_sell_69 : decode cX3_sell 69 = .ok (.aload_n 0, 1) := dk_42 (dk_at dksX3_sell_3 0 rfl rfl)
theorem dX3_sell_70 : decode cX3_sell 70 = .ok (.getfield 58, 3) := dk_180 0 58 (dk_at dksX3_sell_3 1 rfl rfl)
theorem dX3_sell_73 : decode cX3_sell 73 = .ok (.iload_n 1, 1) := dk_27 (dk_at dksX3_sell_3 4 rfl rfl)
theorem dX3_sell_74 : decode cX3_sell 74 = .ok (.iaload, 1) := dk_46 (dk_at dksX3_sell_3 5 rfl rfl)
theorem dX3_sell_75 : decode cX3_sell 75 = .ok (.bipush 20, 2) := dk_16 20 (dk_at dksX3_sell_3 6 rfl rfl)
theorem dX3_sell_77 : decode cX3_sell 77 = .ok (.if_icmp .ge 7, 3) := dk_162 0 7 (dk_at dksX3_sell_3 8 rfl rfl)
theorem dX3_sell_80 : decode cX3_sell 80 = .ok (.iconst 1, 1) := dk_4 (dk_at dksX3_sell_3 11 rfl rfl)
theorem dX3_sell_81 : decode cX3_sell 81 = .ok (.goto 4, 3) := dk_167 0 4 (dk_at dksX3_sell_3 12 rfl rfl)
theorem dX3_sell_84 : decode cX3_sell 84 = .ok (.iconst 0, 1) := dk_3 (dk_at dksX3_sell_3 15 rfl rfl)
theorem dX3_sell_85 : decode cX3_sell 85 = .ok (.istore 5, 2) := dk_54 5 (dk_at dksX3_sell_3 16 rfl rfl)
theorem dX3_sell_87 : decode cX3_sell 87 = .ok (.aload_n 0, 1) := dk_42 (dk_at dksX3_sell_3 18 rfl rfl)
theorem dX3_sell_88 : decode cX3_sell 88 = .ok (.iload 4, 2) := dk_21 4 (dk_at dksX3_sell_3 19 rfl rfl)
theorem dX3_sell_90 : decode cX3_sell 90 = .ok (.ifCond .ne 7, 3) := dk_154 0 7 (dk_at dksX3_sell_3 21 rfl rfl)
theorem dX3_sell_93 : decode cX3_sell 93 = .ok (.iconst 1, 1) := dk_4 (dk_at dksX3_sell_4 0 rfl rfl)
theorem dX3_sell_94 : decode cX3_sell 94 = .ok (.goto 28, 3) := dk_167 0 28 (dk_at dksX3_sell_4 1 rfl rfl)
theorem dX3_sell_97 : decode cX3_sell 97 = .ok (.iload_n 3, 1) := dk_29 (dk_at dksX3_sell_4 4 rfl rfl)
theorem dX3_sell_98 : decode cX3_sell 98 = .ok (.iconst 0, 1) := dk_3 (dk_at dksX3_sell_4 5 rfl rfl)
theorem dX3_sell_99 : decode cX3_sell 99 = .ok (.sipush 10000, 3) := dk_17 39 16 (dk_at dksX3_sell_4 6 rfl rfl)
theorem dX3_sell_102 : decode cX3_sell 102 = .ok (.invokestatic 86, 3) := dk_184 0 86 (dk_at dksX3_sell_4 9 rfl rfl)
theorem dX3_sell_105 : decode cX3_sell 105 = .ok (.ifCond .ne 7, 3) := dk_154 0 7 (dk_at dksX3_sell_4 12 rfl rfl)
theorem dX3_sell_108 : decode cX3_sell 108 = .ok (.iconst 2, 1) := dk_5 (dk_at dksX3_sell_4 15 rfl rfl)
theorem dX3_sell_109 : decode cX3_sell 109 = .ok (.goto 13, 3) := dk_167 0 13 (dk_at dksX3_sell_4 16 rfl rfl)
theorem dX3_sell_112 : decode cX3_sell 112 = .ok (.iload 5, 2) := dk_21 5 (dk_at dksX3_sell_4 19 rfl rfl)
theorem dX3_sell_114 : decode cX3_sell 114 = .ok (.ifCond .eq 7, 3) := dk_153 0 7 (dk_at dksX3_sell_4 21 rfl rfl)
theorem dX3_sell_117 : decode cX3_sell 117 = .ok (.iconst 0, 1) := dk_3 (dk_at dksX3_sell_5 0 rfl rfl)
theorem dX3_sell_118 : decode cX3_sell 118 = .ok (.goto 4, 3) := dk_167 0 4 (dk_at dksX3_sell_5 1 rfl rfl)
theorem dX3_sell_121 : decode cX3_sell 121 = .ok (.iconst 3, 1) := dk_6 (dk_at dksX3_sell_5 4 rfl rfl)
theorem dX3_sell_122 : decode cX3_sell 122 = .ok (.invokevirtual 93, 3) := dk_182 0 93 (dk_at dksX3_sell_5 5 rfl rfl)
theorem dX3_sell_125 : decode cX3_sell 125 = .ok (.ifCond .eq 5, 3) := dk_153 0 5 (dk_at dksX3_sell_5 8 rfl rfl)
theorem dX3_sell_128 : decode cX3_sell 128 = .ok (.iconst 0, 1) := dk_3 (dk_at dksX3_sell_5 11 rfl rfl)
theorem dX3_sell_129 : decode cX3_sell 129 = .ok (.ireturn, 1) := dk_172 (dk_at dksX3_sell_5 12 rfl rfl)
theorem dX3_sell_130 : decode cX3_sell 130 = .ok (.aload_n 0, 1) := dk_42 (dk_at dksX3_sell_5 13 rfl rfl)
theorem dX3_sell_131 : decode cX3_sell 131 = .ok (.getfield 7, 3) := dk_180 0 7 (dk_at dksX3_sell_5 14 rfl rfl)
theorem dX3_sell_134 : decode cX3_sell 134 = .ok (.aload_n 0, 1) := dk_42 (dk_at dksX3_sell_5 17 rfl rfl)
theorem dX3_sell_135 : decode cX3_sell 135 = .ok (.getfield 46, 3) := dk_180 0 46 (dk_at dksX3_sell_5 18 rfl rfl)
theorem dX3_sell_138 : decode cX3_sell 138 = .ok (.iload_n 1, 1) := dk_27 (dk_at dksX3_sell_5 21 rfl rfl)
theorem dX3_sell_139 : decode cX3_sell 139 = .ok (.iaload, 1) := dk_46 (dk_at dksX3_sell_5 22 rfl rfl)
theorem dX3_sell_140 : decode cX3_sell 140 = .ok (.iaload, 1) := dk_46 (dk_at dksX3_sell_5 23 rfl rfl)
theorem dX3_sell_141 : decode cX3_sell 141 = .ok (.iconst (-1), 1) := dk_2 (dk_at dksX3_sell_6 0 rfl rfl)
theorem dX3_sell_142 : decode cX3_sell 142 = .ok (.if_icmp .ne 17, 3) := dk_160 0 17 (dk_at dksX3_sell_6 1 rfl rfl)
theorem dX3_sell_145 : decode cX3_sell 145 = .ok (.aload_n 0, 1) := dk_42 (dk_at dksX3_sell_6 4 rfl rfl)
theorem dX3_sell_146 : decode cX3_sell 146 = .ok (.getfield 7, 3) := dk_180 0 7 (dk_at dksX3_sell_6 5 rfl rfl)
theorem dX3_sell_149 : decode cX3_sell 149 = .ok (.iload_n 2, 1) := dk_28 (dk_at dksX3_sell_6 8 rfl rfl)
theorem dX3_sell_150 : decode cX3_sell 150 = .ok (.iaload, 1) := dk_46 (dk_at dksX3_sell_6 9 rfl rfl)
theorem dX3_sell_151 : decode cX3_sell 151 = .ok (.iconst (-1), 1) := dk_2 (dk_at dksX3_sell_6 10 rfl rfl)
theorem dX3_sell_152 : decode cX3_sell 152 = .ok (.if_icmp .ne 7, 3) := dk_160 0 7 (dk_at dksX3_sell_6 11 rfl rfl)
theorem dX3_sell_155 : decode cX3_sell 155 = .ok (.iconst 1, 1) := dk_4 (dk_at dksX3_sell_6 14 rfl rfl)
theorem dX3_sell_156 : decode cX3_sell 156 = .ok (.goto 4, 3) := dk_167 0 4 (dk_at dksX3_sell_6 15 rfl rfl)
theorem dX3_sell_159 : decode cX3_sell 159 = .ok (.iconst 0, 1) := dk_3 (dk_at dksX3_sell_6 18 rfl rfl)
theorem dX3_sell_160 : decode cX3_sell 160 = .ok (.istore 6, 2) := dk_54 6 (dk_at dksX3_sell_6 19 rfl rfl)
theorem dX3_sell_162 : decode cX3_sell 162 = .ok (.bipush 20, 2) := dk_16 20 (dk_at dksX3_sell_6 21 rfl rfl)
theorem dX3_sell_164 : decode cX3_sell 164 = .ok (.iload_n 1, 1) := dk_27 (dk_at dksX3_sell_6 23 rfl rfl)
theorem dX3_sell_165 : decode cX3_sell 165 = .ok (.imul, 1) := dk_104 (dk_at dksX3_sell_7 0 rfl rfl)
theorem dX3_sell_166 : decode cX3_sell 166 = .ok (.aload_n 0, 1) := dk_42 (dk_at dksX3_sell_7 1 rfl rfl)
theorem dX3_sell_167 : decode cX3_sell 167 = .ok (.getfield 58, 3) := dk_180 0 58 (dk_at dksX3_sell_7 2 rfl rfl)
theorem dX3_sell_170 : decode cX3_sell 170 = .ok (.iload_n 1, 1) := dk_27 (dk_at dksX3_sell_7 5 rfl rfl)
theorem dX3_sell_171 : decode cX3_sell 171 = .ok (.iaload, 1) := dk_46 (dk_at dksX3_sell_7 6 rfl rfl)
theorem dX3_sell_172 : decode cX3_sell 172 = .ok (.iadd, 1) := dk_96 (dk_at dksX3_sell_7 7 rfl rfl)
theorem dX3_sell_173 : decode cX3_sell 173 = .ok (.istore 7, 2) := dk_54 7 (dk_at dksX3_sell_7 8 rfl rfl)
theorem dX3_sell_175 : decode cX3_sell 175 = .ok (.aload_n 0, 1) := dk_42 (dk_at dksX3_sell_7 10 rfl rfl)
theorem dX3_sell_176 : decode cX3_sell 176 = .ok (.getfield 61, 3) := dk_180 0 61 (dk_at dksX3_sell_7 11 rfl rfl)
theorem dX3_sell_179 : decode cX3_sell 179 = .ok (.iload 7, 2) := dk_21 7 (dk_at dksX3_sell_7 14 rfl rfl)
theorem dX3_sell_181 : decode cX3_sell 181 = .ok (.aload_n 0, 1) := dk_42 (dk_at dksX3_sell_7 16 rfl rfl)
theorem dX3_sell_182 : decode cX3_sell 182 = .ok (.getfield 46, 3) := dk_180 0 46 (dk_at dksX3_sell_7 17 rfl rfl)
theorem dX3_sell_185 : decode cX3_sell 185 = .ok (.iload_n 1, 1) := dk_27 (dk_at dksX3_sell_7 20 rfl rfl)
theorem dX3_sell_186 : decode cX3_sell 186 = .ok (.iaload, 1) := dk_46 (dk_at dksX3_sell_7 21 rfl rfl)
theorem dX3_sell_187 : decode cX3_sell 187 = .ok (.iastore, 1) := dk_79 (dk_at dksX3_sell_7 22 rfl rfl)
theorem dX3_sell_188 : decode cX3_sell 188 = .ok (.aload_n 0, 1) := dk_42 (dk_at dksX3_sell_7 23 rfl rfl)
theorem dX3_sell_189 : decode cX3_sell 189 = .ok (.getfield 64, 3) := dk_180 0 64 (dk_at dksX3_sell_8 0 rfl rfl)
theorem dX3_sell_192 : decode cX3_sell 192 = .ok (.iload 7, 2) := dk_21 7 (dk_at dksX3_sell_8 3 rfl rfl)
theorem dX3_sell_194 : decode cX3_sell 194 = .ok (.iload_n 2, 1) := dk_28 (dk_at dksX3_sell_8 5 rfl rfl)
theorem dX3_sell_195 : decode cX3_sell 195 = .ok (.iastore, 1) := dk_79 (dk_at dksX3_sell_8 6 rfl rfl)
theorem dX3_sell_196 : decode cX3_sell 196 = .ok (.aload_n 0, 1) := dk_42 (dk_at dksX3_sell_8 7 rfl rfl)
theorem dX3_sell_197 : decode cX3_sell 197 = .ok (.getfield 67, 3) := dk_180 0 67 (dk_at dksX3_sell_8 8 rfl rfl)
theorem dX3_sell_200 : decode cX3_sell 200 = .ok (.iload 7, 2) := dk_21 7 (dk_at dksX3_sell_8 11 rfl rfl)
theorem dX3_sell_202 : decode cX3_sell 202 = .ok (.iload_n 3, 1) := dk_29 (dk_at dksX3_sell_8 13 rfl rfl)
theorem dX3_sell_203 : decode cX3_sell 203 = .ok (.iastore, 1) := dk_79 (dk_at dksX3_sell_8 14 rfl rfl)
theorem dX3_sell_204 : decode cX3_sell 204 = .ok (.aload_n 0, 1) := dk_42 (dk_at dksX3_sell_8 15 rfl rfl)
theorem dX3_sell_205 : decode cX3_sell 205 = .ok (.getfield 55, 3) := dk_180 0 55 (dk_at dksX3_sell_8 16 rfl rfl)
theorem dX3_sell_208 : decode cX3_sell 208 = .ok (.iload_n 1, 1) := dk_27 (dk_at dksX3_sell_8 19 rfl rfl)
theorem dX3_sell_209 : decode cX3_sell 209 = .ok (.iload 6, 2) := dk_21 6 (dk_at dksX3_sell_8 20 rfl rfl)
theorem dX3_sell_211 : decode cX3_sell 211 = .ok (.ifCond .eq 22, 3) := dk_153 0 22 (dk_at dksX3_sell_9 0 rfl rfl)
theorem dX3_sell_214 : decode cX3_sell 214 = .ok (.aload_n 0, 1) := dk_42 (dk_at dksX3_sell_9 3 rfl rfl)
theorem dX3_sell_215 : decode cX3_sell 215 = .ok (.getfield 55, 3) := dk_180 0 55 (dk_at dksX3_sell_9 4 rfl rfl)
theorem dX3_sell_218 : decode cX3_sell 218 = .ok (.iload_n 1, 1) := dk_27 (dk_at dksX3_sell_9 7 rfl rfl)
theorem dX3_sell_219 : decode cX3_sell 219 = .ok (.iaload, 1) := dk_46 (dk_at dksX3_sell_9 8 rfl rfl)
theorem dX3_sell_220 : decode cX3_sell 220 = .ok (.iconst (-1), 1) := dk_2 (dk_at dksX3_sell_9 9 rfl rfl)
theorem dX3_sell_221 : decode cX3_sell 221 = .ok (.if_icmp .ne 12, 3) := dk_160 0 12 (dk_at dksX3_sell_9 10 rfl rfl)
theorem dX3_sell_224 : decode cX3_sell 224 = .ok (.aload_n 0, 1) := dk_42 (dk_at dksX3_sell_9 13 rfl rfl)
theorem dX3_sell_225 : decode cX3_sell 225 = .ok (.getfield 58, 3) := dk_180 0 58 (dk_at dksX3_sell_9 14 rfl rfl)
theorem dX3_sell_228 : decode cX3_sell 228 = .ok (.iload_n 1, 1) := dk_27 (dk_at dksX3_sell_9 17 rfl rfl)
theorem dX3_sell_229 : decode cX3_sell 229 = .ok (.iaload, 1) := dk_46 (dk_at dksX3_sell_9 18 rfl rfl)
theorem dX3_sell_230 : decode cX3_sell 230 = .ok (.goto 9, 3) := dk_167 0 9 (dk_at dksX3_sell_9 19 rfl rfl)
theorem dX3_sell_233 : decode cX3_sell 233 = .ok (.aload_n 0, 1) := dk_42 (dk_at dksX3_sell_9 22 rfl rfl)
theorem dX3_sell_234 : decode cX3_sell 234 = .ok (.getfield 55, 3) := dk_180 0 55 (dk_at dksX3_sell_10 0 rfl rfl)
theorem dX3_sell_237 : decode cX3_sell 237 = .ok (.iload_n 1, 1) := dk_27 (dk_at dksX3_sell_10 3 rfl rfl)
theorem dX3_sell_238 : decode cX3_sell 238 = .ok (.iaload, 1) := dk_46 (dk_at dksX3_sell_10 4 rfl rfl)
theorem dX3_sell_239 : decode cX3_sell 239 = .ok (.iastore, 1) := dk_79 (dk_at dksX3_sell_10 5 rfl rfl)
theorem dX3_sell_240 : decode cX3_sell 240 = .ok (.aload_n 0, 1) := dk_42 (dk_at dksX3_sell_10 6 rfl rfl)
theorem dX3_sell_241 : decode cX3_sell 241 = .ok (.getfield 58, 3) := dk_180 0 58 (dk_at dksX3_sell_10 7 rfl rfl)
theorem dX3_sell_244 : decode cX3_sell 244 = .ok (.iload_n 1, 1) := dk_27 (dk_at dksX3_sell_10 10 rfl rfl)
theorem dX3_sell_245 : decode cX3_sell 245 = .ok (.dup2, 1) := dk_92 (dk_at dksX3_sell_10 11 rfl rfl)
theorem dX3_sell_246 : decode cX3_sell 246 = .ok (.iaload, 1) := dk_46 (dk_at dksX3_sell_10 12 rfl rfl)
theorem dX3_sell_247 : decode cX3_sell 247 = .ok (.iconst 1, 1) := dk_4 (dk_at dksX3_sell_10 13 rfl rfl)
theorem dX3_sell_248 : decode cX3_sell 248 = .ok (.iadd, 1) := dk_96 (dk_at dksX3_sell_10 14 rfl rfl)
theorem dX3_sell_249 : decode cX3_sell 249 = .ok (.iastore, 1) := dk_79 (dk_at dksX3_sell_10 15 rfl rfl)
theorem dX3_sell_250 : decode cX3_sell 250 = .ok (.aload_n 0, 1) := dk_42 (dk_at dksX3_sell_10 16 rfl rfl)
theorem dX3_sell_251 : decode cX3_sell 251 = .ok (.getfield 16, 3) := dk_180 0 16 (dk_at dksX3_sell_10 17 rfl rfl)
theorem dX3_sell_254 : decode cX3_sell 254 = .ok (.aload_n 0, 1) := dk_42 (dk_at dksX3_sell_10 20 rfl rfl)
theorem dX3_sell_255 : decode cX3_sell 255 = .ok (.getfield 46, 3) := dk_180 0 46 (dk_at dksX3_sell_10 21 rfl rfl)
theorem dX3_sell_258 : decode cX3_sell 258 = .ok (.iload_n 1, 1) := dk_27 (dk_at dksX3_sell_11 0 rfl rfl)
theorem dX3_sell_259 : decode cX3_sell 259 = .ok (.iaload, 1) := dk_46 (dk_at dksX3_sell_11 1 rfl rfl)
theorem dX3_sell_260 : decode cX3_sell 260 = .ok (.dup2, 1) := dk_92 (dk_at dksX3_sell_11 2 rfl rfl)
theorem dX3_sell_261 : decode cX3_sell 261 = .ok (.iaload, 1) := dk_46 (dk_at dksX3_sell_11 3 rfl rfl)
theorem dX3_sell_262 : decode cX3_sell 262 = .ok (.iload_n 3, 1) := dk_29 (dk_at dksX3_sell_11 4 rfl rfl)
theorem dX3_sell_263 : decode cX3_sell 263 = .ok (.iadd, 1) := dk_96 (dk_at dksX3_sell_11 5 rfl rfl)
theorem dX3_sell_264 : decode cX3_sell 264 = .ok (.iastore, 1) := dk_79 (dk_at dksX3_sell_11 6 rfl rfl)
theorem dX3_sell_265 : decode cX3_sell 265 = .ok (.aload_n 0, 1) := dk_42 (dk_at dksX3_sell_11 7 rfl rfl)
theorem dX3_sell_266 : decode cX3_sell 266 = .ok (.getfield 16, 3) := dk_180 0 16 (dk_at dksX3_sell_11 8 rfl rfl)
theorem dX3_sell_269 : decode cX3_sell 269 = .ok (.iload_n 2, 1) := dk_28 (dk_at dksX3_sell_11 11 rfl rfl)
theorem dX3_sell_270 : decode cX3_sell 270 = .ok (.dup2, 1) := dk_92 (dk_at dksX3_sell_11 12 rfl rfl)
theorem dX3_sell_271 : decode cX3_sell 271 = .ok (.iaload, 1) := dk_46 (dk_at dksX3_sell_11 13 rfl rfl)
theorem dX3_sell_272 : decode cX3_sell 272 = .ok (.iload_n 3, 1) := dk_29 (dk_at dksX3_sell_11 14 rfl rfl)
theorem dX3_sell_273 : decode cX3_sell 273 = .ok (.isub, 1) := dk_100 (dk_at dksX3_sell_11 15 rfl rfl)
theorem dX3_sell_274 : decode cX3_sell 274 = .ok (.iastore, 1) := dk_79 (dk_at dksX3_sell_11 16 rfl rfl)
theorem dX3_sell_275 : decode cX3_sell 275 = .ok (.aload_n 0, 1) := dk_42 (dk_at dksX3_sell_11 17 rfl rfl)
theorem dX3_sell_276 : decode cX3_sell 276 = .ok (.getfield 46, 3) := dk_180 0 46 (dk_at dksX3_sell_11 18 rfl rfl)
theorem dX3_sell_279 : decode cX3_sell 279 = .ok (.iload_n 1, 1) := dk_27 (dk_at dksX3_sell_11 21 rfl rfl)
theorem dX3_sell_280 : decode cX3_sell 280 = .ok (.iload_n 2, 1) := dk_28 (dk_at dksX3_sell_11 22 rfl rfl)
theorem dX3_sell_281 : decode cX3_sell 281 = .ok (.iastore, 1) := dk_79 (dk_at dksX3_sell_11 23 rfl rfl)
theorem dX3_sell_282 : decode cX3_sell 282 = .ok (.aload_n 0, 1) := dk_42 (dk_at dksX3_sell_12 0 rfl rfl)
theorem dX3_sell_283 : decode cX3_sell 283 = .ok (.getfield 49, 3) := dk_180 0 49 (dk_at dksX3_sell_12 1 rfl rfl)
theorem dX3_sell_286 : decode cX3_sell 286 = .ok (.iload_n 1, 1) := dk_27 (dk_at dksX3_sell_12 4 rfl rfl)
theorem dX3_sell_287 : decode cX3_sell 287 = .ok (.iconst (-1), 1) := dk_2 (dk_at dksX3_sell_12 5 rfl rfl)
theorem dX3_sell_288 : decode cX3_sell 288 = .ok (.iastore, 1) := dk_79 (dk_at dksX3_sell_12 6 rfl rfl)
theorem dX3_sell_289 : decode cX3_sell 289 = .ok (.iload 6, 2) := dk_21 6 (dk_at dksX3_sell_12 7 rfl rfl)
theorem dX3_sell_291 : decode cX3_sell 291 = .ok (.ireturn, 1) := dk_172 (dk_at dksX3_sell_12 9 rfl rfl)
abbrev cX3_isSkin : ByteArray := prog_12_method_18_code
def yX3_isSkin : MethodName := ⟨RX3, "isSkin", "(I)Z"⟩
def dkwX3_isSkin_0 : List UInt8 := [27, 3, 42, 180, 0, 133, 4, 100, 184, 0, 86, 172]
abbrev dktX3_isSkin_0 : List UInt8 := dkwX3_isSkin_0 ++ []
theorem dksX3_isSkin_0 : cX3_isSkin.data.toList.drop 0 = dktX3_isSkin_0 := by decide +kernel
theorem dX3_isSkin_0 : decode cX3_isSkin 0 = .ok (.iload_n 1, 1) := dk_27 (dk_at dksX3_isSkin_0 0 rfl rfl)
theorem dX3_isSkin_1 : decode cX3_isSkin 1 = .ok (.iconst 0, 1) := dk_3 (dk_at dksX3_isSkin_0 1 rfl rfl)
theorem dX3_isSkin_2 : decode cX3_isSkin 2 = .ok (.aload_n 0, 1) := dk_42 (dk_at dksX3_isSkin_0 2 rfl rfl)
theorem dX3_isSkin_3 : decode cX3_isSkin 3 = .ok (.getfield 133, 3) := dk_180 0 133 (dk_at dksX3_isSkin_0 3 rfl rfl)
theorem dX3_isSkin_6 : decode cX3_isSkin 6 = .ok (.iconst 1, 1) := dk_4 (dk_at dksX3_isSkin_0 6 rfl rfl)
theorem dX3_isSkin_7 : decode cX3_isSkin 7 = .ok (.isub, 1) := dk_100 (dk_at dksX3_isSkin_0 7 rfl rfl)
theorem dX3_isSkin_8 : decode cX3_isSkin 8 = .ok (.invokestatic 86, 3) := dk_184 0 86 (dk_at dksX3_isSkin_0 8 rfl rfl)
theorem dX3_isSkin_11 : decode cX3_isSkin 11 = .ok (.ireturn, 1) := dk_172 (dk_at dksX3_isSkin_0 11 rfl rfl)
abbrev cX3_lend : ByteArray := prog_12_method_20_code
def yX3_lend : MethodName := ⟨RX3, "lend", "(III)I"⟩
def dkwX3_lend_6 : List UInt8 := [180, 0, 52, 27, 46, 172]
abbrev dktX3_lend_6 : List UInt8 := dkwX3_lend_6 ++ []
def dkwX3_lend_5 : List UInt8 := [172, 42, 180, 0, 49, 27, 28, 79, 42, 180, 0, 52, 27, 42, 180, 0, 90, 29, 96, 4, 100, 79, 42]
abbrev dktX3_lend_5 : List UInt8 := dkwX3_lend_5 ++ dktX3_lend_6
def dkwX3_lend_4 : List UInt8 := [154, 0, 7, 5, 167, 0, 13, 21, 5, 153, 0, 7, 3, 167, 0, 4, 6, 182, 0, 93, 153, 0, 5, 3]
abbrev dktX3_lend_4 : List UInt8 := dkwX3_lend_4 ++ dktX3_lend_5
def dkwX3_lend_3 : List UInt8 := [4, 167, 0, 4, 3, 54, 5, 42, 21, 4, 154, 0, 7, 4, 167, 0, 27, 29, 4, 16, 100, 184, 0, 86]
abbrev dktX3_lend_3 : List UInt8 := dkwX3_lend_3 ++ dktX3_lend_4
def dkwX3_lend_2 : List UInt8 := [159, 0, 28, 42, 42, 180, 0, 46, 27, 46, 182, 0, 110, 154, 0, 15, 42, 28, 182, 0, 110, 154, 0, 7]
abbrev dktX3_lend_2 : List UInt8 := dkwX3_lend_2 ++ dktX3_lend_3
def dkwX3_lend_1 : List UInt8 := [21, 4, 153, 0, 48, 42, 180, 0, 46, 27, 46, 2, 159, 0, 38, 42, 180, 0, 46, 27, 46, 28]
abbrev dktX3_lend_1 : List UInt8 := dkwX3_lend_1 ++ dktX3_lend_2
def dkwX3_lend_0 : List UInt8 := [42, 27, 182, 0, 136, 153, 0, 15, 42, 28, 182, 0, 107, 153, 0, 7, 4, 167, 0, 4, 3, 54, 4]
abbrev dktX3_lend_0 : List UInt8 := dkwX3_lend_0 ++ dktX3_lend_1
theorem dksX3_lend_0 : cX3_lend.data.toList.drop 0 = dktX3_lend_0 := by decide +kernel
theorem dksX3_lend_1 : cX3_lend.data.toList.drop 23 = dktX3_lend_1 := dk_seg dksX3_lend_0 23 rfl rfl
theorem dksX3_lend_2 : cX3_lend.data.toList.drop 45 = dktX3_lend_2 := dk_seg dksX3_lend_1 22 rfl rfl
theorem dksX3_lend_3 : cX3_lend.data.toList.drop 69 = dktX3_lend_3 := dk_seg dksX3_lend_2 24 rfl rfl
theorem dksX3_lend_4 : cX3_lend.data.toList.drop 93 = dktX3_lend_4 := dk_seg dksX3_lend_3 24 rfl rfl
theorem dksX3_lend_5 : cX3_lend.data.toList.drop 117 = dktX3_lend_5 := dk_seg dksX3_lend_4 24 rfl rfl
theorem dksX3_lend_6 : cX3_lend.data.toList.drop 140 = dktX3_lend_6 := dk_seg dksX3_lend_5 23 rfl rfl
theorem dX3_lend_0 : decode cX3_lend 0 = .ok (.aload_n 0, 1) := dk_42 (dk_at dksX3_lend_0 0 rfl rfl)
theorem dX3_lend_1 : decode cX3_lend 1 = .ok (.iload_n 1, 1) := dk_27 (dk_at dksX3_lend_0 1 rfl rfl)
theorem dX3_lend_2 : decode cX3_lend 2 = .ok (.invokevirtual 136, 3) := dk_182 0 136 (dk_at dksX3_lend_0 2 rfl rfl)
theorem dX3_lend_5 : decode cX3_lend 5 = .ok (.ifCond .eq 15, 3) := dk_153 0 15 (dk_at dksX3_lend_0 5 rfl rfl)
theorem dX3_lend_8 : decode cX3_lend 8 = .ok (.aload_n 0, 1) := dk_42 (dk_at dksX3_lend_0 8 rfl rfl)
theorem dX3_lend_9 : decode cX3_lend 9 = .ok (.iload_n 2, 1) := dk_28 (dk_at dksX3_lend_0 9 rfl rfl)
theorem dX3_lend_10 : decode cX3_lend 10 = .ok (.invokevirtual 107, 3) := dk_182 0 107 (dk_at dksX3_lend_0 10 rfl rfl)
theorem dX3_lend_13 : decode cX3_lend 13 = .ok (.ifCond .eq 7, 3) := dk_153 0 7 (dk_at dksX3_lend_0 13 rfl rfl)
theorem dX3_lend_16 : decode cX3_lend 16 = .ok (.iconst 1, 1) := dk_4 (dk_at dksX3_lend_0 16 rfl rfl)
theorem dX3_lend_17 : decode cX3_lend 17 = .ok (.goto 4, 3) := dk_167 0 4 (dk_at dksX3_lend_0 17 rfl rfl)
theorem dX3_lend_20 : decode cX3_lend 20 = .ok (.iconst 0, 1) := dk_3 (dk_at dksX3_lend_0 20 rfl rfl)
theorem dX3_lend_21 : decode cX3_lend 21 = .ok (.istore 4, 2) := dk_54 4 (dk_at dksX3_lend_0 21 rfl rfl)
theorem dX3_lend_23 : decode cX3_lend 23 = .ok (.iload 4, 2) := dk_21 4 (dk_at dksX3_lend_1 0 rfl rfl)
theorem dX3_lend_25 : decode cX3_lend 25 = .ok (.ifCond .eq 48, 3) := dk_153 0 48 (dk_at dksX3_lend_1 2 rfl rfl)
theorem dX3_lend_28 : decode cX3_lend 28 = .ok (.aload_n 0, 1) := dk_42 (dk_at dksX3_lend_1 5 rfl rfl)
theorem dX3_lend_29 : decode cX3_lend 29 = .ok (.getfield 46, 3) := dk_180 0 46 (dk_at dksX3_lend_1 6 rfl rfl)
theorem dX3_lend_32 : decode cX3_lend 32 = .ok (.iload_n 1, 1) := dk_27 (dk_at dksX3_lend_1 9 rfl rfl)
theorem dX3_lend_33 : decode cX3_lend 33 = .ok (.iaload, 1) := dk_46 (dk_at dksX3_lend_1 10 rfl rfl)
theorem dX3_lend_34 : decode cX3_lend 34 = .ok (.iconst (-1), 1) := dk_2 (dk_at dksX3_lend_1 11 rfl rfl)
theorem dX3_lend_35 : decode cX3_lend 35 = .ok (.if_icmp .eq 38, 3) := dk_159 0 38 (dk_at dksX3_lend_1 12 rfl rfl)
theorem dX3_lend_38 : decode cX3_lend 38 = .ok (.aload_n 0, 1) := dk_42 (dk_at dksX3_lend_1 15 rfl rfl)
theorem dX3_lend_39 : decode cX3_lend 39 = .ok (.getfield 46, 3) := dk_180 0 46 (dk_at dksX3_lend_1 16 rfl rfl)
theorem dX3_lend_42 : decode cX3_lend 42 = .ok (.iload_n 1, 1) := dk_27 (dk_at dksX3_lend_1 19 rfl rfl)
theorem dX3_lend_43 : decode cX3_lend 43 = .ok (.iaload, 1) := dk_46 (dk_at dksX3_lend_1 20 rfl rfl)
theorem dX3_lend_44 : decode cX3_lend 44 = .ok (.iload_n 2, 1) := dk_28 (dk_at dksX3_lend_1 21 rfl rfl)
theorem dX3_lend_45 : decode cX3_lend 45 = .ok (.if_icmp .eq 28, 3) := dk_159 0 28 (dk_at dksX3_lend_2 0 rfl rfl)
theorem dX3_lend_48 : decode cX3_lend 48 = .ok (.aload_n 0, 1) := dk_42 (dk_at dksX3_lend_2 3 rfl rfl)
theorem dX3_lend_49 : decode cX3_lend 49 = .ok (.aload_n 0, 1) := dk_42 (dk_at dksX3_lend_2 4 rfl rfl)
theorem dX3_lend_50 : decode cX3_lend 50 = .ok (.getfield 46, 3) := dk_180 0 46 (dk_at dksX3_lend_2 5 rfl rfl)
theorem dX3_lend_53 : decode cX3_lend 53 = .ok (.iload_n 1, 1) := dk_27 (dk_at dksX3_lend_2 8 rfl rfl)
theorem dX3_lend_54 : decode cX3_lend 54 = .ok (.iaload, 1) := dk_46 (dk_at dksX3_lend_2 9 rfl rfl)
theorem dX3_lend_55 : decode cX3_lend 55 = .ok (.invokevirtual 110, 3) := dk_182 0 110 (dk_at dksX3_lend_2 10 rfl rfl)
theorem dX3_lend_58 : decode cX3_lend 58 = .ok (.ifCond .ne 15, 3) := dk_154 0 15 (dk_at dksX3_lend_2 13 rfl rfl)
theorem dX3_lend_61 : decode cX3_lend 61 = .ok (.aload_n 0, 1) := dk_42 (dk_at dksX3_lend_2 16 rfl rfl)
theorem dX3_lend_62 : decode cX3_lend 62 = .ok (.iload_n 2, 1) := dk_28 (dk_at dksX3_lend_2 17 rfl rfl)
theorem dX3_lend_63 : decode cX3_lend 63 = .ok (.invokevirtual 110, 3) := dk_182 0 110 (dk_at dksX3_lend_2 18 rfl rfl)
theorem dX3_lend_66 : decode cX3_lend 66 = .ok (.ifCond .ne 7, 3) := dk_154 0 7 (dk_at dksX3_lend_2 21 rfl rfl)
theorem dX3_lend_69 : decode cX3_lend 69 = .ok (.iconst 1, 1) := dk_4 (dk_at dksX3_lend_3 0 rfl rfl)
theorem dX3_lend_70 : decode cX3_lend 70 = .ok (.goto 4, 3) := dk_167 0 4 (dk_at dksX3_lend_3 1 rfl rfl)
theorem dX3_lend_73 : decode cX3_lend 73 = .ok (.iconst 0, 1) := dk_3 (dk_at dksX3_lend_3 4 rfl rfl)
theorem dX3_lend_74 : decode cX3_lend 74 = .ok (.istore 5, 2) := dk_54 5 (dk_at dksX3_lend_3 5 rfl rfl)
theorem dX3_lend_76 : decode cX3_lend 76 = .ok (.aload_n 0, 1) := dk_42 (dk_at dksX3_lend_3 7 rfl rfl)
theorem dX3_lend_77 : decode cX3_lend 77 = .ok (.iload 4, 2) := dk_21 4 (dk_at dksX3_lend_3 8 rfl rfl)
theorem dX3_lend_79 : decode cX3_lend 79 = .ok (.ifCond .ne 7, 3) := dk_154 0 7 (dk_at dksX3_lend_3 10 rfl rfl)
theorem dX3_lend_82 : decode cX3_lend 82 = .ok (.iconst 1, 1) := dk_4 (dk_at dksX3_lend_3 13 rfl rfl)
theorem dX3_lend_83 : decode cX3_lend 83 = .ok (.goto 27, 3) := dk_167 0 27 (dk_at dksX3_lend_3 14 rfl rfl)
theorem dX3_lend_86 : decode cX3_lend 86 = .ok (.iload_n 3, 1) := dk_29 (dk_at dksX3_lend_3 17 rfl rfl)
theorem dX3_lend_87 : decode cX3_lend 87 = .ok (.iconst 1, 1) := dk_4 (dk_at dksX3_lend_3 18 rfl rfl)
theorem dX3_lend_88 : decode cX3_lend 88 = .ok (.bipush 100, 2) := dk_16 100 (dk_at dksX3_lend_3 19 rfl rfl)
theorem dX3_lend_90 : decode cX3_lend 90 = .ok (.invokestatic 86, 3) := dk_184 0 86 (dk_at dksX3_lend_3 21 rfl rfl)
theorem dX3_lend_93 : decode cX3_lend 93 = .ok (.ifCond .ne 7, 3) := dk_154 0 7 (dk_at dksX3_lend_4 0 rfl rfl)
theorem dX3_lend_96 : decode cX3_lend 96 = .ok (.iconst 2, 1) := dk_5 (dk_at dksX3_lend_4 3 rfl rfl)
theorem dX3_lend_97 : decode cX3_lend 97 = .ok (.goto 13, 3) := dk_167 0 13 (dk_at dksX3_lend_4 4 rfl rfl)
theorem dX3_lend_100 : decode cX3_lend 100 = .ok (.iload 5, 2) := dk_21 5 (dk_at dksX3_lend_4 7 rfl rfl)
theorem dX3_lend_102 : decode cX3_lend 102 = .ok (.ifCond .eq 7, 3) := dk_153 0 7 (dk_at dksX3_lend_4 9 rfl rfl)
theorem dX3_lend_105 : decode cX3_lend 105 = .ok (.iconst 0, 1) := dk_3 (dk_at dksX3_lend_4 12 rfl rfl)
theorem dX3_lend_106 : decode cX3_lend 106 = .ok (.goto 4, 3) := dk_167 0 4 (dk_at dksX3_lend_4 13 rfl rfl)
theorem dX3_lend_109 : decode cX3_lend 109 = .ok (.iconst 3, 1) := dk_6 (dk_at dksX3_lend_4 16 rfl rfl)
theorem dX3_lend_110 : decode cX3_lend 110 = .ok (.invokevirtual 93, 3) := dk_182 0 93 (dk_at dksX3_lend_4 17 rfl rfl)
theorem dX3_lend_113 : decode cX3_lend 113 = .ok (.ifCond .eq 5, 3) := dk_153 0 5 (dk_at dksX3_lend_4 20 rfl rfl)
theorem dX3_lend_116 : decode cX3_lend 116 = .ok (.iconst 0, 1) := dk_3 (dk_at dksX3_lend_4 23 rfl rfl)
theorem dX3_lend_117 : decode cX3_lend 117 = .ok (.ireturn, 1) := dk_172 (dk_at dksX3_lend_5 0 rfl rfl)
theorem dX3_lend_118 : decode cX3_lend 118 = .ok (.aload_n 0, 1) := dk_42 (dk_at dksX3_lend_5 1 rfl rfl)
theorem dX3_lend_119 : decode cX3_lend 119 = .ok (.getfield 49, 3) := dk_180 0 49 (dk_at dksX3_lend_5 2 rfl rfl)
theorem dX3_lend_122 : decode cX3_lend 122 = .ok (.iload_n 1, 1) := dk_27 (dk_at dksX3_lend_5 5 rfl rfl)
theorem dX3_lend_123 : decode cX3_lend 123 = .ok (.iload_n 2, 1) := dk_28 (dk_at dksX3_lend_5 6 rfl rfl)
theorem dX3_lend_124 : decode cX3_lend 124 = .ok (.iastore, 1) := dk_79 (dk_at dksX3_lend_5 7 rfl rfl)
theorem dX3_lend_125 : decode cX3_lend 125 = .ok (.aload_n 0, 1) := dk_42 (dk_at dksX3_lend_5 8 rfl rfl)
theorem dX3_lend_126 : decode cX3_lend 126 = .ok (.getfield 52, 3) := dk_180 0 52 (dk_at dksX3_lend_5 9 rfl rfl)
theorem dX3_lend_129 : decode cX3_lend 129 = .ok (.iload_n 1, 1) := dk_27 (dk_at dksX3_lend_5 12 rfl rfl)
theorem dX3_lend_130 : decode cX3_lend 130 = .ok (.aload_n 0, 1) := dk_42 (dk_at dksX3_lend_5 13 rfl rfl)
theorem dX3_lend_131 : decode cX3_lend 131 = .ok (.getfield 90, 3) := dk_180 0 90 (dk_at dksX3_lend_5 14 rfl rfl)
theorem dX3_lend_134 : decode cX3_lend 134 = .ok (.iload_n 3, 1) := dk_29 (dk_at dksX3_lend_5 17 rfl rfl)
theorem dX3_lend_135 : decode cX3_lend 135 = .ok (.iadd, 1) := dk_96 (dk_at dksX3_lend_5 18 rfl rfl)
theorem dX3_lend_136 : decode cX3_lend 136 = .ok (.iconst 1, 1) := dk_4 (dk_at dksX3_lend_5 19 rfl rfl)
theorem dX3_lend_137 : decode cX3_lend 137 = .ok (.isub, 1) := dk_100 (dk_at dksX3_lend_5 20 rfl rfl)
theorem dX3_lend_138 : decode cX3_lend 138 = .ok (.iastore, 1) := dk_79 (dk_at dksX3_lend_5 21 rfl rfl)
theorem dX3_lend_139 : decode cX3_lend 139 = .ok (.aload_n 0, 1) := dk_42 (dk_at dksX3_lend_5 22 rfl rfl)
theorem dX3_lend_140 : decode cX3_lend 140 = .ok (.getfield 52, 3) := dk_180 0 52 (dk_at dksX3_lend_6 0 rfl rfl)
theorem dX3_lend_143 : decode cX3_lend 143 = .ok (.iload_n 1, 1) := dk_27 (dk_at dksX3_lend_6 3 rfl rfl)
theorem dX3_lend_144 : decode cX3_lend 144 = .ok (.iaload, 1) := dk_46 (dk_at dksX3_lend_6 4 rfl rfl)
theorem dX3_lend_145 : decode cX3_lend 145 = .ok (.ireturn, 1) := dk_172 (dk_at dksX3_lend_6 5 rfl rfl)
abbrev cX3_proof : ByteArray := prog_12_method_24_code
def yX3_proof : MethodName := ⟨RX3, "proof", "(II)I"⟩
def dkwX3_proof_5 : List UInt8 := [172]
abbrev dktX3_proof_5 : List UInt8 := dkwX3_proof_5 ++ []
def dkwX3_proof_4 : List UInt8 := [29, 42, 21, 4, 182, 0, 116, 153, 0, 7, 3, 167, 0, 4, 4, 96, 62, 132, 4, 1, 167, 255, 227, 29]
abbrev dktX3_proof_4 : List UInt8 := dkwX3_proof_4 ++ dktX3_proof_5
def dkwX3_proof_3 : List UInt8 := [180, 0, 7, 27, 46, 79, 42, 182, 0, 147, 3, 62, 3, 54, 4, 21, 4, 42, 180, 0, 97, 162, 0, 26]
abbrev dktX3_proof_3 : List UInt8 := dkwX3_proof_3 ++ dktX3_proof_4
def dkwX3_proof_2 : List UInt8 := [180, 0, 7, 27, 46, 2, 159, 0, 13, 28, 42, 180, 0, 7, 27, 46, 162, 0, 7, 28, 167, 0, 9, 42]
abbrev dktX3_proof_2 : List UInt8 := dkwX3_proof_2 ++ dktX3_proof_3
def dkwX3_proof_1 : List UInt8 := [153, 0, 7, 3, 167, 0, 4, 5, 182, 0, 93, 153, 0, 5, 3, 172, 42, 180, 0, 7, 27, 42]
abbrev dktX3_proof_1 : List UInt8 := dkwX3_proof_1 ++ dktX3_proof_2
def dkwX3_proof_0 : List UInt8 := [42, 42, 27, 182, 0, 107, 154, 0, 7, 4, 167, 0, 20, 28, 3, 42, 180, 0, 90, 184, 0, 86]
abbrev dktX3_proof_0 : List UInt8 := dkwX3_proof_0 ++ dktX3_proof_1
theorem dksX3_proof_0 : cX3_proof.data.toList.drop 0 = dktX3_proof_0 := by decide +kernel
theorem dksX3_proof_1 : cX3_proof.data.toList.drop 22 = dktX3_proof_1 := dk_seg dksX3_proof_0 22 rfl rfl
theorem dksX3_proof_2 : cX3_proof.data.toList.drop 44 = dktX3_proof_2 := dk_seg dksX3_proof_1 22 rfl rfl
theorem dksX3_proof_3 : cX3_proof.data.toList.drop 68 = dktX3_proof_3 := dk_seg dksX3_proof_2 24 rfl rfl
theorem dksX3_proof_4 : cX3_proof.data.toList.drop 92 = dktX3_proof_4 := dk_seg dksX3_proof_3 24 rfl rfl
theorem dksX3_proof_5 : cX3_proof.data.toList.drop 116 = dktX3_proof_5 := dk_seg dksX3_proof_4 24 rfl rfl
theorem dX3_proof_0 : decode cX3_proof 0 = .ok (.aload_n 0, 1) := dk_42 (dk_at dksX3_proof_0 0 rfl rfl)
theorem dX3_proof_1 : decode cX3_proof 1 = .ok (.aload_n 0, 1) := dk_42 (dk_at dksX3_proof_0 1 rfl rfl)
theorem dX3_proof_2 : decode cX3_proof 2 = .ok (.iload_n 1, 1) := dk_27 (dk_at dksX3_proof_0 2 rfl rfl)
theorem dX3_proof_3 : decode cX3_proof 3 = .ok (.invokevirtual 107, 3) := dk_182 0 107 (dk_at dksX3_proof_0 3 rfl rfl)
theorem dX3_proof_6 : decode cX3_proof 6 = .ok (.ifCond .ne 7, 3) := dk_154 0 7 (dk_at dksX3_proof_0 6 rfl rfl)
theorem dX3_proof_9 : decode cX3_proof 9 = .ok (.iconst 1, 1) := dk_4 (dk_at dksX3_proof_0 9 rfl rfl)
theorem dX3_proof_10 : decode cX3_proof 10 = .ok (.goto 20, 3) := dk_167 0 20 (dk_at dksX3_proof_0 10 rfl rfl)
theorem dX3_proof_13 : decode cX3_proof 13 = .ok (.iload_n 2, 1) := dk_28 (dk_at dksX3_proof_0 13 rfl rfl)
theorem dX3_proof_14 : decode cX3_proof 14 = .ok (.iconst 0, 1) := dk_3 (dk_at dksX3_proof_0 14 rfl rfl)
theorem dX3_proof_15 : decode cX3_proof 15 = .ok (.aload_n 0, 1) := dk_42 (dk_at dksX3_proof_0 15 rfl rfl)
theorem dX3_proof_16 : decode cX3_proof 16 = .ok (.getfield 90, 3) := dk_180 0 90 (dk_at dksX3_proof_0 16 rfl rfl)
theorem dX3_proof_19 : decode cX3_proof 19 = .ok (.invokestatic 86, 3) := dk_184 0 86 (dk_at dksX3_proof_0 19 rfl rfl)
theorem dX3_proof_22 : decode cX3_proof 22 = .ok (.ifCond .eq 7, 3) := dk_153 0 7 (dk_at dksX3_proof_1 0 rfl rfl)
theorem dX3_proof_25 : decode cX3_proof 25 = .ok (.iconst 0, 1) := dk_3 (dk_at dksX3_proof_1 3 rfl rfl)
theorem dX3_proof_26 : decode cX3_proof 26 = .ok (.goto 4, 3) := dk_167 0 4 (dk_at dksX3_proof_1 4 rfl rfl)
theorem dX3_proof_29 : decode cX3_proof 29 = .ok (.iconst 2, 1) := dk_5 (dk_at dksX3_proof_1 7 rfl rfl)
theorem dX3_proof_30 : decode cX3_proof 30 = .ok (.invokevirtual 93, 3) := dk_182 0 93 (dk_at dksX3_proof_1 8 rfl rfl)
theorem dX3_proof_33 : decode cX3_proof 33 = .ok (.ifCond .eq 5, 3) := dk_153 0 5 (dk_at dksX3_proof_1 11 rfl rfl)
theorem dX3_proof_36 : decode cX3_proof 36 = .ok (.iconst 0, 1) := dk_3 (dk_at dksX3_proof_1 14 rfl rfl)
theorem dX3_proof_37 : decode cX3_proof 37 = .ok (.ireturn, 1) := dk_172 (dk_at dksX3_proof_1 15 rfl rfl)
theorem dX3_proof_38 : decode cX3_proof 38 = .ok (.aload_n 0, 1) := dk_42 (dk_at dksX3_proof_1 16 rfl rfl)
theorem dX3_proof_39 : decode cX3_proof 39 = .ok (.getfield 7, 3) := dk_180 0 7 (dk_at dksX3_proof_1 17 rfl rfl)
theorem dX3_proof_42 : decode cX3_proof 42 = .ok (.iload_n 1, 1) := dk_27 (dk_at dksX3_proof_1 20 rfl rfl)
theorem dX3_proof_43 : decode cX3_proof 43 = .ok (.aload_n 0, 1) := dk_42 (dk_at dksX3_proof_1 21 rfl rfl)
theorem dX3_proof_44 : decode cX3_proof 44 = .ok (.getfield 7, 3) := dk_180 0 7 (dk_at dksX3_proof_2 0 rfl rfl)
theorem dX3_proof_47 : decode cX3_proof 47 = .ok (.iload_n 1, 1) := dk_27 (dk_at dksX3_proof_2 3 rfl rfl)
theorem dX3_proof_48 : decode cX3_proof 48 = .ok (.iaload, 1) := dk_46 (dk_at dksX3_proof_2 4 rfl rfl)
theorem dX3_proof_49 : decode cX3_proof 49 = .ok (.iconst (-1), 1) := dk_2 (dk_at dksX3_proof_2 5 rfl rfl)
theorem dX3_proof_50 : decode cX3_proof 50 = .ok (.if_icmp .eq 13, 3) := dk_159 0 13 (dk_at dksX3_proof_2 6 rfl rfl)
theorem dX3_proof_53 : decode cX3_proof 53 = .ok (.iload_n 2, 1) := dk_28 (dk_at dksX3_proof_2 9 rfl rfl)
theorem dX3_proof_54 : decode cX3_proof 54 = .ok (.aload_n 0, 1) := dk_42 (dk_at dksX3_proof_2 10 rfl rfl)
theorem dX3_proof_55 : decode cX3_proof 55 = .ok (.getfield 7, 3) := dk_180 0 7 (dk_at dksX3_proof_2 11 rfl rfl)
theorem dX3_proof_58 : decode cX3_proof 58 = .ok (.iload_n 1, 1) := dk_27 (dk_at dksX3_proof_2 14 rfl rfl)
theorem dX3_proof_59 : decode cX3_proof 59 = .ok (.iaload, 1) := dk_46 (dk_at dksX3_proof_2 15 rfl rfl)
theorem dX3_proof_60 : decode cX3_proof 60 = .ok (.if_icmp .ge 7, 3) := dk_162 0 7 (dk_at dksX3_proof_2 16 rfl rfl)
theorem dX3_proof_63 : decode cX3_proof 63 = .ok (.iload_n 2, 1) := dk_28 (dk_at dksX3_proof_2 19 rfl rfl)
theorem dX3_proof_64 : decode cX3_proof 64 = .ok (.goto 9, 3) := dk_167 0 9 (dk_at dksX3_proof_2 20 rfl rfl)
theorem dX3_proof_67 : decode cX3_proof 67 = .ok (.aload_n 0, 1) := dk_42 (dk_at dksX3_proof_2 23 rfl rfl)
theorem dX3_proof_68 : decode cX3_proof 68 = .ok (.getfield 7, 3) := dk_180 0 7 (dk_at dksX3_proof_3 0 rfl rfl)
theorem dX3_proof_71 : decode cX3_proof 71 = .ok (.iload_n 1, 1) := dk_27 (dk_at dksX3_proof_3 3 rfl rfl)
theorem dX3_proof_72 : decode cX3_proof 72 = .ok (.iaload, 1) := dk_46 (dk_at dksX3_proof_3 4 rfl rfl)
theorem dX3_proof_73 : decode cX3_proof 73 = .ok (.iastore, 1) := dk_79 (dk_at dksX3_proof_3 5 rfl rfl)
theorem dX3_proof_74 : decode cX3_proof 74 = .ok (.aload_n 0, 1) := dk_42 (dk_at dksX3_proof_3 6 rfl rfl)
theorem dX3_proof_75 : decode cX3_proof 75 = .ok (.invokevirtual 147, 3) := dk_182 0 147 (dk_at dksX3_proof_3 7 rfl rfl)
theorem dX3_proof_78 : decode cX3_proof 78 = .ok (.iconst 0, 1) := dk_3 (dk_at dksX3_proof_3 10 rfl rfl)
theorem dX3_proof_79 : decode cX3_proof 79 = .ok (.istore_n 3, 1) := dk_62 (dk_at dksX3_proof_3 11 rfl rfl)
theorem dX3_proof_80 : decode cX3_proof 80 = .ok (.iconst 0, 1) := dk_3 (dk_at dksX3_proof_3 12 rfl rfl)
theorem dX3_proof_81 : decode cX3_proof 81 = .ok (.istore 4, 2) := dk_54 4 (dk_at dksX3_proof_3 13 rfl rfl)
theorem dX3_proof_83 : decode cX3_proof 83 = .ok (.iload 4, 2) := dk_21 4 (dk_at dksX3_proof_3 15 rfl rfl)
theorem dX3_proof_85 : decode cX3_proof 85 = .ok (.aload_n 0, 1) := dk_42 (dk_at dksX3_proof_3 17 rfl rfl)
theorem dX3_proof_86 : decode cX3_proof 86 = .ok (.getfield 97, 3) := dk_180 0 97 (dk_at dksX3_proof_3 18 rfl rfl)
theorem dX3_proof_89 : decode cX3_proof 89 = .ok (.if_icmp .ge 26, 3) := dk_162 0 26 (dk_at dksX3_proof_3 21 rfl rfl)
theorem dX3_proof_92 : decode cX3_proof 92 = .ok (.iload_n 3, 1) := dk_29 (dk_at dksX3_proof_4 0 rfl rfl)
theorem dX3_proof_93 : decode cX3_proof 93 = .ok (.aload_n 0, 1) := dk_42 (dk_at dksX3_proof_4 1 rfl rfl)
theorem dX3_proof_94 : decode cX3_proof 94 = .ok (.iload 4, 2) := dk_21 4 (dk_at dksX3_proof_4 2 rfl rfl)
theorem dX3_proof_96 : decode cX3_proof 96 = .ok (.invokevirtual 116, 3) := dk_182 0 116 (dk_at dksX3_proof_4 4 rfl rfl)
theorem dX3_proof_99 : decode cX3_proof 99 = .ok (.ifCond .eq 7, 3) := dk_153 0 7 (dk_at dksX3_proof_4 7 rfl rfl)
theorem dX3_proof_102 : decode cX3_proof 102 = .ok (.iconst 0, 1) := dk_3 (dk_at dksX3_proof_4 10 rfl rfl)
theorem dX3_proof_103 : decode cX3_proof 103 = .ok (.goto 4, 3) := dk_167 0 4 (dk_at dksX3_proof_4 11 rfl rfl)
theorem dX3_proof_106 : decode cX3_proof 106 = .ok (.iconst 1, 1) := dk_4 (dk_at dksX3_proof_4 14 rfl rfl)
theorem dX3_proof_107 : decode cX3_proof 107 = .ok (.iadd, 1) := dk_96 (dk_at dksX3_proof_4 15 rfl rfl)
theorem dX3_proof_108 : decode cX3_proof 108 = .ok (.istore_n 3, 1) := dk_62 (dk_at dksX3_proof_4 16 rfl rfl)
theorem dX3_proof_109 : decode cX3_proof 109 = .ok (.iinc 4 1, 3) := dk_132 4 1 (dk_at dksX3_proof_4 17 rfl rfl)
theorem dX3_proof_112 : decode cX3_proof 112 = .ok (.goto (-29), 3) := dk_167 255 227 (dk_at dksX3_proof_4 20 rfl rfl)
theorem dX3_proof_115 : decode cX3_proof 115 = .ok (.iload_n 3, 1) := dk_29 (dk_at dksX3_proof_4 23 rfl rfl)
theorem dX3_proof_116 : decode cX3_proof 116 = .ok (.ireturn, 1) := dk_172 (dk_at dksX3_proof_5 0 rfl rfl)
abbrev cX3_looks : ByteArray := prog_12_method_23_code
def yX3_looks : MethodName := ⟨RX3, "looks", "()V"⟩
def dkwX3_looks_2 : List UInt8 := [182, 0, 143, 132, 1, 1, 167, 255, 208, 177]
abbrev dktX3_looks_2 : List UInt8 := dkwX3_looks_2 ++ []
def dkwX3_looks_1 : List UInt8 := [180, 0, 40, 27, 46, 182, 0, 130, 61, 28, 42, 180, 0, 43, 27, 46, 159, 0, 9, 42, 27, 28]
abbrev dktX3_looks_1 : List UInt8 := dkwX3_looks_1 ++ dktX3_looks_2
def dkwX3_looks_0 : List UInt8 := [3, 60, 27, 42, 180, 0, 133, 162, 0, 46, 42, 42, 180, 0, 37, 27, 46, 182, 0, 126, 42, 42]
abbrev dktX3_looks_0 : List UInt8 := dkwX3_looks_0 ++ dktX3_looks_1
theorem dksX3_looks_0 : cX3_looks.data.toList.drop 0 = dktX3_looks_0 := by decide +kernel
theorem dksX3_looks_1 : cX3_looks.data.toList.drop 22 = dktX3_looks_1 := dk_seg dksX3_looks_0 22 rfl rfl
theorem dksX3_looks_2 : cX3_looks.data.toList.drop 44 = dktX3_looks_2 := dk_seg dksX3_looks_1 22 rfl rfl
theorem dX3_looks_0 : decode cX3_looks 0 = .ok (.iconst 0, 1) := dk_3 (dk_at dksX3_looks_0 0 rfl rfl)
theorem dX3_looks_1 : decode cX3_looks 1 = .ok (.istore_n 1, 1) := dk_60 (dk_at dksX3_looks_0 1 rfl rfl)
theorem dX3_looks_2 : decode cX3_looks 2 = .ok (.iload_n 1, 1) := dk_27 (dk_at dksX3_looks_0 2 rfl rfl)
theorem dX3_looks_3 : decode cX3_looks 3 = .ok (.aload_n 0, 1) := dk_42 (dk_at dksX3_looks_0 3 rfl rfl)
theorem dX3_looks_4 : decode cX3_looks 4 = .ok (.getfield 133, 3) := dk_180 0 133 (dk_at dksX3_looks_0 4 rfl rfl)
theorem dX3_looks_7 : decode cX3_looks 7 = .ok (.if_icmp .ge 46, 3) := dk_162 0 46 (dk_at dksX3_looks_0 7 rfl rfl)
theorem dX3_looks_10 : decode cX3_looks 10 = .ok (.aload_n 0, 1) := dk_42 (dk_at dksX3_looks_0 10 rfl rfl)
theorem dX3_looks_11 : decode cX3_looks 11 = .ok (.aload_n 0, 1) := dk_42 (dk_at dksX3_looks_0 11 rfl rfl)
theorem dX3_looks_12 : decode cX3_looks 12 = .ok (.getfield 37, 3) := dk_180 0 37 (dk_at dksX3_looks_0 12 rfl rfl)
theorem dX3_looks_15 : decode cX3_looks 15 = .ok (.iload_n 1, 1) := dk_27 (dk_at dksX3_looks_0 15 rfl rfl)
theorem dX3_looks_16 : decode cX3_looks 16 = .ok (.iaload, 1) := dk_46 (dk_at dksX3_looks_0 16 rfl rfl)
theorem dX3_looks_17 : decode cX3_looks 17 = .ok (.invokevirtual 126, 3) := dk_182 0 126 (dk_at dksX3_looks_0 17 rfl rfl)
theorem dX3_looks_20 : decode cX3_looks 20 = .ok (.aload_n 0, 1) := dk_42 (dk_at dksX3_looks_0 20 rfl rfl)
theorem dX3_looks_21 : decode cX3_looks 21 = .ok (.aload_n 0, 1) := dk_42 (dk_at dksX3_looks_0 21 rfl rfl)
theorem dX3_looks_22 : decode cX3_looks 22 = .ok (.getfield 40, 3) := dk_180 0 40 (dk_at dksX3_looks_1 0 rfl rfl)
theorem dX3_looks_25 : decode cX3_looks 25 = .ok (.iload_n 1, 1) := dk_27 (dk_at dksX3_looks_1 3 rfl rfl)
theorem dX3_looks_26 : decode cX3_looks 26 = .ok (.iaload, 1) := dk_46 (dk_at dksX3_looks_1 4 rfl rfl)
theorem dX3_looks_27 : decode cX3_looks 27 = .ok (.invokevirtual 130, 3) := dk_182 0 130 (dk_at dksX3_looks_1 5 rfl rfl)
theorem dX3_looks_30 : decode cX3_looks 30 = .ok (.istore_n 2, 1) := dk_61 (dk_at dksX3_looks_1 8 rfl rfl)
theorem dX3_looks_31 : decode cX3_looks 31 = .ok (.iload_n 2, 1) := dk_28 (dk_at dksX3_looks_1 9 rfl rfl)
theorem dX3_looks_32 : decode cX3_looks 32 = .ok (.aload_n 0, 1) := dk_42 (dk_at dksX3_looks_1 10 rfl rfl)
theorem dX3_looks_33 : decode cX3_looks 33 = .ok (.getfield 43, 3) := dk_180 0 43 (dk_at dksX3_looks_1 11 rfl rfl)
theorem dX3_looks_36 : decode cX3_looks 36 = .ok (.iload_n 1, 1) := dk_27 (dk_at dksX3_looks_1 14 rfl rfl)
theorem dX3_looks_37 : decode cX3_looks 37 = .ok (.iaload, 1) := dk_46 (dk_at dksX3_looks_1 15 rfl rfl)
theorem dX3_looks_38 : decode cX3_looks 38 = .ok (.if_icmp .eq 9, 3) := dk_159 0 9 (dk_at dksX3_looks_1 16 rfl rfl)
theorem dX3_looks_41 : decode cX3_looks 41 = .ok (.aload_n 0, 1) := dk_42 (dk_at dksX3_looks_1 19 rfl rfl)
theorem dX3_looks_42 : decode cX3_looks 42 = .ok (.iload_n 1, 1) := dk_27 (dk_at dksX3_looks_1 20 rfl rfl)
theorem dX3_looks_43 : decode cX3_looks 43 = .ok (.iload_n 2, 1) := dk_28 (dk_at dksX3_looks_1 21 rfl rfl)
theorem dX3_looks_44 : decode cX3_looks 44 = .ok (.invokevirtual 143, 3) := dk_182 0 143 (dk_at dksX3_looks_2 0 rfl rfl)
theorem dX3_looks_47 : decode cX3_looks 47 = .ok (.iinc 1 1, 3) := dk_132 1 1 (dk_at dksX3_looks_2 3 rfl rfl)
theorem dX3_looks_50 : decode cX3_looks 50 = .ok (.goto (-48), 3) := dk_167 255 208 (dk_at dksX3_looks_2 6 rfl rfl)
theorem dX3_looks_53 : decode cX3_looks 53 = .ok (.return_, 1) := dk_177 (dk_at dksX3_looks_2 9 rfl rfl)
abbrev cX3_inherits : ByteArray := prog_12_method_22_code
def yX3_inherits : MethodName := ⟨RX3, "inherits", "(II)V"⟩
def dkwX3_inherits_5 : List UInt8 := [177]
abbrev dktX3_inherits_5 : List UInt8 := dkwX3_inherits_5 ++ []
def dkwX3_inherits_4 : List UInt8 := [27, 3, 79, 42, 180, 0, 46, 27, 28, 79, 42, 180, 0, 49, 27, 2, 79, 42, 180, 0, 43, 27, 28, 79]
abbrev dktX3_inherits_4 : List UInt8 := dkwX3_inherits_4 ++ dktX3_inherits_5
def dkwX3_inherits_3 : List UInt8 := [180, 0, 64, 29, 46, 42, 180, 0, 67, 29, 46, 182, 0, 139, 132, 3, 255, 167, 255, 223, 42, 180, 0, 58]
abbrev dktX3_inherits_3 : List UInt8 := dkwX3_inherits_3 ++ dktX3_inherits_4
def dkwX3_inherits_2 : List UInt8 := [27, 46, 96, 4, 100, 62, 29, 16, 20, 27, 104, 161, 0, 31, 42, 42, 180, 0, 61, 29, 46, 42]
abbrev dktX3_inherits_2 : List UInt8 := dkwX3_inherits_2 ++ dktX3_inherits_3
def dkwX3_inherits_1 : List UInt8 := [27, 104, 42, 180, 0, 55, 27, 46, 96, 46, 182, 0, 139, 167, 0, 74, 16, 20, 27, 104, 42, 180, 0, 58]
abbrev dktX3_inherits_1 : List UInt8 := dkwX3_inherits_1 ++ dktX3_inherits_2
def dkwX3_inherits_0 : List UInt8 := [42, 180, 0, 55, 27, 46, 2, 159, 0, 33, 42, 42, 180, 0, 43, 27, 46, 28, 42, 180, 0, 67, 16, 20]
abbrev dktX3_inherits_0 : List UInt8 := dkwX3_inherits_0 ++ dktX3_inherits_1
theorem dksX3_inherits_0 : cX3_inherits.data.toList.drop 0 = dktX3_inherits_0 := by decide +kernel
theorem dksX3_inherits_1 : cX3_inherits.data.toList.drop 24 = dktX3_inherits_1 := dk_seg dksX3_inherits_0 24 rfl rfl
theorem dksX3_inherits_2 : cX3_inherits.data.toList.drop 48 = dktX3_inherits_2 := dk_seg dksX3_inherits_1 24 rfl rfl
theorem dksX3_inherits_3 : cX3_inherits.data.toList.drop 70 = dktX3_inherits_3 := dk_seg dksX3_inherits_2 22 rfl rfl
theorem dksX3_inherits_4 : cX3_inherits.data.toList.drop 94 = dktX3_inherits_4 := dk_seg dksX3_inherits_3 24 rfl rfl
theorem dksX3_inherits_5 : cX3_inherits.data.toList.drop 118 = dktX3_inherits_5 := dk_seg dksX3_inherits_4 24 rfl rfl
theorem dX3_inherits_0 : decode cX3_inherits 0 = .ok (.aload_n 0, 1) := dk_42 (dk_at dksX3_inherits_0 0 rfl rfl)
theorem dX3_inherits_1 : decode cX3_inherits 1 = .ok (.getfield 55, 3) := dk_180 0 55 (dk_at dksX3_inherits_0 1 rfl rfl)
theorem dX3_inherits_4 : decode cX3_inherits 4 = .ok (.iload_n 1, 1) := dk_27 (dk_at dksX3_inherits_0 4 rfl rfl)
theorem dX3_inherits_5 : decode cX3_inherits 5 = .ok (.iaload, 1) := dk_46 (dk_at dksX3_inherits_0 5 rfl rfl)
theorem dX3_inherits_6 : decode cX3_inherits 6 = .ok (.iconst (-1), 1) := dk_2 (dk_at dksX3_inherits_0 6 rfl rfl)
theorem dX3_inherits_7 : decode cX3_inherits 7 = .ok (.if_icmp .eq 33, 3) := dk_159 0 33 (dk_at dksX3_inherits_0 7 rfl rfl)
theorem dX3_inherits_10 : decode cX3_inherits 10 = .ok (.aload_n 0, 1) := dk_42 (dk_at dksX3_inherits_0 10 rfl rfl)
theorem dX3_inherits_11 : decode cX3_inherits 11 = .ok (.aload_n 0, 1) := dk_42 (dk_at dksX3_inherits_0 11 rfl rfl)
theorem dX3_inherits_12 : decode cX3_inherits 12 = .ok (.getfield 43, 3) := dk_180 0 43 (dk_at dksX3_inherits_0 12 rfl rfl)
theorem dX3_inherits_15 : decode cX3_inherits 15 = .ok (.iload_n 1, 1) := dk_27 (dk_at dksX3_inherits_0 15 rfl rfl)
theorem dX3_inherits_16 : decode cX3_inherits 16 = .ok (.iaload, 1) := dk_46 (dk_at dksX3_inherits_0 16 rfl rfl)
theorem dX3_inherits_17 : decode cX3_inherits 17 = .ok (.iload_n 2, 1) := dk_28 (dk_at dksX3_inherits_0 17 rfl rfl)
theorem dX3_inherits_18 : decode cX3_inherits 18 = .ok (.aload_n 0, 1) := dk_42 (dk_at dksX3_inherits_0 18 rfl rfl)
theorem dX3_inherits_19 : decode cX3_inherits 19 = .ok (.getfield 67, 3) := dk_180 0 67 (dk_at dksX3_inherits_0 19 rfl rfl)
theorem dX3_inherits_22 : decode cX3_inherits 22 = .ok (.bipush 20, 2) := dk_16 20 (dk_at dksX3_inherits_0 22 rfl rfl)
theorem dX3_inherits_24 : decode cX3_inherits 24 = .ok (.iload_n 1, 1) := dk_27 (dk_at dksX3_inherits_1 0 rfl rfl)
theorem dX3_inherits_25 : decode cX3_inherits 25 = .ok (.imul, 1) := dk_104 (dk_at dksX3_inherits_1 1 rfl rfl)
theorem dX3_inherits_26 : decode cX3_inherits 26 = .ok (.aload_n 0, 1) := dk_42 (dk_at dksX3_inherits_1 2 rfl rfl)
theorem dX3_inherits_27 : decode cX3_inherits 27 = .ok (.getfield 55, 3) := dk_180 0 55 (dk_at dksX3_inherits_1 3 rfl rfl)
theorem dX3_inherits_30 : decode cX3_inherits 30 = .ok (.iload_n 1, 1) := dk_27 (dk_at dksX3_inherits_1 6 rfl rfl)
theorem dX3_inherits_31 : decode cX3_inherits 31 = .ok (.iaload, 1) := dk_46 (dk_at dksX3_inherits_1 7 rfl rfl)
theorem dX3_inherits_32 : decode cX3_inherits 32 = .ok (.iadd, 1) := dk_96 (dk_at dksX3_inherits_1 8 rfl rfl)
theorem dX3_inherits_33 : decode cX3_inherits 33 = .ok (.iaload, 1) := dk_46 (dk_at dksX3_inherits_1 9 rfl rfl)
theorem dX3_inherits_34 : decode cX3_inherits 34 = .ok (.invokevirtual 139, 3) := dk_182 0 139 (dk_at dksX3_inherits_1 10 rfl rfl)
theorem dX3_inherits_37 : decode cX3_inherits 37 = .ok (.goto 74, 3) := dk_167 0 74 (dk_at dksX3_inherits_1 13 rfl rfl)
theorem dX3_inherits_40 : decode cX3_inherits 40 = .ok (.bipush 20, 2) := dk_16 20 (dk_at dksX3_inherits_1 16 rfl rfl)
theorem dX3_inherits_42 : decode cX3_inherits 42 = .ok (.iload_n 1, 1) := dk_27 (dk_at dksX3_inherits_1 18 rfl rfl)
theorem dX3_inherits_43 : decode cX3_inherits 43 = .ok (.imul, 1) := dk_104 (dk_at dksX3_inherits_1 19 rfl rfl)
theorem dX3_inherits_44 : decode cX3_inherits 44 = .ok (.aload_n 0, 1) := dk_42 (dk_at dksX3_inherits_1 20 rfl rfl)
theorem dX3_inherits_45 : decode cX3_inherits 45 = .ok (.getfield 58, 3) := dk_180 0 58 (dk_at dksX3_inherits_1 21 rfl rfl)
theorem dX3_inherits_48 : decode cX3_inherits 48 = .ok (.iload_n 1, 1) := dk_27 (dk_at dksX3_inherits_2 0 rfl rfl)
theorem dX3_inherits_49 : decode cX3_inherits 49 = .ok (.iaload, 1) := dk_46 (dk_at dksX3_inherits_2 1 rfl rfl)
theorem dX3_inherits_50 : decode cX3_inherits 50 = .ok (.iadd, 1) := dk_96 (dk_at dksX3_inherits_2 2 rfl rfl)
theorem dX3_inherits_51 : decode cX3_inherits 51 = .ok (.iconst 1, 1) := dk_4 (dk_at dksX3_inherits_2 3 rfl rfl)
theorem dX3_inherits_52 : decode cX3_inherits 52 = .ok (.isub, 1) := dk_100 (dk_at dksX3_inherits_2 4 rfl rfl)
theorem dX3_inherits_53 : decode cX3_inherits 53 = .ok (.istore_n 3, 1) := dk_62 (dk_at dksX3_inherits_2 5 rfl rfl)
theorem dX3_inherits_54 : decode cX3_inherits 54 = .ok (.iload_n 3, 1) := dk_29 (dk_at dksX3_inherits_2 6 rfl rfl)
theorem dX3_inherits_55 : decode cX3_inherits 55 = .ok (.bipush 20, 2) := dk_16 20 (dk_at dksX3_inherits_2 7 rfl rfl)
theorem dX3_inherits_57 : decode cX3_inherits 57 = .ok (.iload_n 1, 1) := dk_27 (dk_at dksX3_inherits_2 9 rfl rfl)
theorem dX3_inherits_58 : decode cX3_inherits 58 = .ok (.imul, 1) := dk_104 (dk_at dksX3_inherits_2 10 rfl rfl)
theorem dX3_inherits_59 : decode cX3_inherits 59 = .ok (.if_icmp .lt 31, 3) := dk_161 0 31 (dk_at dksX3_inherits_2 11 rfl rfl)
theorem dX3_inherits_62 : decode cX3_inherits 62 = .ok (.aload_n 0, 1) := dk_42 (dk_at dksX3_inherits_2 14 rfl rfl)
theorem dX3_inherits_63 : decode cX3_inherits 63 = .ok (.aload_n 0, 1) := dk_42 (dk_at dksX3_inherits_2 15 rfl rfl)
theorem dX3_inherits_64 : decode cX3_inherits 64 = .ok (.getfield 61, 3) := dk_180 0 61 (dk_at dksX3_inherits_2 16 rfl rfl)
theorem dX3_inherits_67 : decode cX3_inherits 67 = .ok (.iload_n 3, 1) := dk_29 (dk_at dksX3_inherits_2 19 rfl rfl)
theorem dX3_inherits_68 : decode cX3_inherits 68 = .ok (.iaload, 1) := dk_46 (dk_at dksX3_inherits_2 20 rfl rfl)
theorem dX3_inherits_69 : decode cX3_inherits 69 = .ok (.aload_n 0, 1) := dk_42 (dk_at dksX3_inherits_2 21 rfl rfl)
theorem dX3_inherits_70 : decode cX3_inherits 70 = .ok (.getfield 64, 3) := dk_180 0 64 (dk_at dksX3_inherits_3 0 rfl rfl)
theorem dX3_inherits_73 : decode cX3_inherits 73 = .ok (.iload_n 3, 1) := dk_29 (dk_at dksX3_inherits_3 3 rfl rfl)
theorem dX3_inherits_74 : decode cX3_inherits 74 = .ok (.iaload, 1) := dk_46 (dk_at dksX3_inherits_3 4 rfl rfl)
theorem dX3_inherits_75 : decode cX3_inherits 75 = .ok (.aload_n 0, 1) := dk_42 (dk_at dksX3_inherits_3 5 rfl rfl)
theorem dX3_inherits_76 : decode cX3_inherits 76 = .ok (.getfield 67, 3) := dk_180 0 67 (dk_at dksX3_inherits_3 6 rfl rfl)
theorem dX3_inherits_79 : decode cX3_inherits 79 = .ok (.iload_n 3, 1) := dk_29 (dk_at dksX3_inherits_3 9 rfl rfl)
theorem dX3_inherits_80 : decode cX3_inherits 80 = .ok (.iaload, 1) := dk_46 (dk_at dksX3_inherits_3 10 rfl rfl)
theorem dX3_inherits_81 : decode cX3_inherits 81 = .ok (.invokevirtual 139, 3) := dk_182 0 139 (dk_at dksX3_inherits_3 11 rfl rfl)
theorem dX3_inherits_84 : decode cX3_inherits 84 = .ok (.iinc 3 (-1), 3) := dk_132 3 255 (dk_at dksX3_inherits_3 14 rfl rfl)
theorem dX3_inherits_87 : decode cX3_inherits 87 = .ok (.goto (-33), 3) := dk_167 255 223 (dk_at dksX3_inherits_3 17 rfl rfl)
theorem dX3_inherits_90 : decode cX3_inherits 90 = .ok (.aload_n 0, 1) := dk_42 (dk_at dksX3_inherits_3 20 rfl rfl)
theorem dX3_inherits_91 : decode cX3_inherits 91 = .ok (.getfield 58, 3) := dk_180 0 58 (dk_at dksX3_inherits_3 21 rfl rfl)
theorem dX3_inherits_94 : decode cX3_inherits 94 = .ok (.iload_n 1, 1) := dk_27 (dk_at dksX3_inherits_4 0 rfl rfl)
theorem dX3_inherits_95 : decode cX3_inherits 95 = .ok (.iconst 0, 1) := dk_3 (dk_at dksX3_inherits_4 1 rfl rfl)
theorem dX3_inherits_96 : decode cX3_inherits 96 = .ok (.iastore, 1) := dk_79 (dk_at dksX3_inherits_4 2 rfl rfl)
theorem dX3_inherits_97 : decode cX3_inherits 97 = .ok (.aload_n 0, 1) := dk_42 (dk_at dksX3_inherits_4 3 rfl rfl)
theorem dX3_inherits_98 : decode cX3_inherits 98 = .ok (.getfield 46, 3) := dk_180 0 46 (dk_at dksX3_inherits_4 4 rfl rfl)
theorem dX3_inherits_101 : decode cX3_inherits 101 = .ok (.iload_n 1, 1) := dk_27 (dk_at dksX3_inherits_4 7 rfl rfl)
theorem dX3_inherits_102 : decode cX3_inherits 102 = .ok (.iload_n 2, 1) := dk_28 (dk_at dksX3_inherits_4 8 rfl rfl)
theorem dX3_inherits_103 : decode cX3_inherits 103 = .ok (.iastore, 1) := dk_79 (dk_at dksX3_inherits_4 9 rfl rfl)
theorem dX3_inherits_104 : decode cX3_inherits 104 = .ok (.aload_n 0, 1) := dk_42 (dk_at dksX3_inherits_4 10 rfl rfl)
theorem dX3_inherits_105 : decode cX3_inherits 105 = .ok (.getfield 49, 3) := dk_180 0 49 (dk_at dksX3_inherits_4 11 rfl rfl)
theorem dX3_inherits_108 : decode cX3_inherits 108 = .ok (.iload_n 1, 1) := dk_27 (dk_at dksX3_inherits_4 14 rfl rfl)
theorem dX3_inherits_109 : decode cX3_inherits 109 = .ok (.iconst (-1), 1) := dk_2 (dk_at dksX3_inherits_4 15 rfl rfl)
theorem dX3_inherits_110 : decode cX3_inherits 110 = .ok (.iastore, 1) := dk_79 (dk_at dksX3_inherits_4 16 rfl rfl)
theorem dX3_inherits_111 : decode cX3_inherits 111 = .ok (.aload_n 0, 1) := dk_42 (dk_at dksX3_inherits_4 17 rfl rfl)
theorem dX3_inherits_112 : decode cX3_inherits 112 = .ok (.getfield 43, 3) := dk_180 0 43 (dk_at dksX3_inherits_4 18 rfl rfl)
theorem dX3_inherits_115 : decode cX3_inherits 115 = .ok (.iload_n 1, 1) := dk_27 (dk_at dksX3_inherits_4 21 rfl rfl)
theorem dX3_inherits_116 : decode cX3_inherits 116 = .ok (.iload_n 2, 1) := dk_28 (dk_at dksX3_inherits_4 22 rfl rfl)
theorem dX3_inherits_117 : decode cX3_inherits 117 = .ok (.iastore, 1) := dk_79 (dk_at dksX3_inherits_4 23 rfl rfl)
theorem dX3_inherits_118 : decode cX3_inherits 118 = .ok (.return_, 1) := dk_177 (dk_at dksX3_inherits_5 0 rfl rfl)
abbrev cX3_pays : ByteArray := prog_12_method_21_code
def yX3_pays : MethodName := ⟨RX3, "pays", "(III)V"⟩
def dkwX3_pays_1 : List UInt8 := [28, 92, 46, 29, 96, 79, 177]
abbrev dktX3_pays_1 : List UInt8 := dkwX3_pays_1 ++ []
def dkwX3_pays_0 : List UInt8 := [27, 2, 159, 0, 28, 28, 2, 159, 0, 23, 42, 180, 0, 16, 27, 92, 46, 29, 100, 79, 42, 180, 0, 16]
abbrev dktX3_pays_0 : List UInt8 := dkwX3_pays_0 ++ dktX3_pays_1
theorem dksX3_pays_0 : cX3_pays.data.toList.drop 0 = dktX3_pays_0 := by decide +kernel
theorem dksX3_pays_1 : cX3_pays.data.toList.drop 24 = dktX3_pays_1 := dk_seg dksX3_pays_0 24 rfl rfl
theorem dX3_pays_0 : decode cX3_pays 0 = .ok (.iload_n 1, 1) := dk_27 (dk_at dksX3_pays_0 0 rfl rfl)
theorem dX3_pays_1 : decode cX3_pays 1 = .ok (.iconst (-1), 1) := dk_2 (dk_at dksX3_pays_0 1 rfl rfl)
theorem dX3_pays_2 : decode cX3_pays 2 = .ok (.if_icmp .eq 28, 3) := dk_159 0 28 (dk_at dksX3_pays_0 2 rfl rfl)
theorem dX3_pays_5 : decode cX3_pays 5 = .ok (.iload_n 2, 1) := dk_28 (dk_at dksX3_pays_0 5 rfl rfl)
theorem dX3_pays_6 : decode cX3_pays 6 = .ok (.iconst (-1), 1) := dk_2 (dk_at dksX3_pays_0 6 rfl rfl)
theorem dX3_pays_7 : decode cX3_pays 7 = .ok (.if_icmp .eq 23, 3) := dk_159 0 23 (dk_at dksX3_pays_0 7 rfl rfl)
theorem dX3_pays_10 : decode cX3_pays 10 = .ok (.aload_n 0, 1) := dk_42 (dk_at dksX3_pays_0 10 rfl rfl)
theorem dX3_pays_11 : decode cX3_pays 11 = .ok (.getfield 16, 3) := dk_180 0 16 (dk_at dksX3_pays_0 11 rfl rfl)
theorem dX3_pays_14 : decode cX3_pays 14 = .ok (.iload_n 1, 1) := dk_27 (dk_at dksX3_pays_0 14 rfl rfl)
theorem dX3_pays_15 : decode cX3_pays 15 = .ok (.dup2, 1) := dk_92 (dk_at dksX3_pays_0 15 rfl rfl)
theorem dX3_pays_16 : decode cX3_pays 16 = .ok (.iaload, 1) := dk_46 (dk_at dksX3_pays_0 16 rfl rfl)
theorem dX3_pays_17 : decode cX3_pays 17 = .ok (.iload_n 3, 1) := dk_29 (dk_at dksX3_pays_0 17 rfl rfl)
theorem dX3_pays_18 : decode cX3_pays 18 = .ok (.isub, 1) := dk_100 (dk_at dksX3_pays_0 18 rfl rfl)
theorem dX3_pays_19 : decode cX3_pays 19 = .ok (.iastore, 1) := dk_79 (dk_at dksX3_pays_0 19 rfl rfl)
theorem dX3_pays_20 : decode cX3_pays 20 = .ok (.aload_n 0, 1) := dk_42 (dk_at dksX3_pays_0 20 rfl rfl)
theorem dX3_pays_21 : decode cX3_pays 21 = .ok (.getfield 16, 3) := dk_180 0 16 (dk_at dksX3_pays_0 21 rfl rfl)
theorem dX3_pays_24 : decode cX3_pays 24 = .ok (.iload_n 2, 1) := dk_28 (dk_at dksX3_pays_1 0 rfl rfl)
theorem dX3_pays_25 : decode cX3_pays 25 = .ok (.dup2, 1) := dk_92 (dk_at dksX3_pays_1 1 rfl rfl)
theorem dX3_pays_26 : decode cX3_pays 26 = .ok (.iaload, 1) := dk_46 (dk_at dksX3_pays_1 2 rfl rfl)
theorem dX3_pays_27 : decode cX3_pays 27 = .ok (.iload_n 3, 1) := dk_29 (dk_at dksX3_pays_1 3 rfl rfl)
theorem dX3_pays_28 : decode cX3_pays 28 = .ok (.iadd, 1) := dk_96 (dk_at dksX3_pays_1 4 rfl rfl)
theorem dX3_pays_29 : decode cX3_pays 29 = .ok (.iastore, 1) := dk_79 (dk_at dksX3_pays_1 5 rfl rfl)
theorem dX3_pays_30 : decode cX3_pays 30 = .ok (.return_, 1) := dk_177 (dk_at dksX3_pays_1 6 rfl rfl)
abbrev cX3_clear : ByteArray := prog_12_method_25_code
def yX3_clear : MethodName := ⟨RX3, "clear", "(I)I"⟩
def dkwX3_clear_2 : List UInt8 := [2, 79, 42, 182, 0, 147, 28, 172]
abbrev dktX3_clear_2 : List UInt8 := dkwX3_clear_2 ++ []
def dkwX3_clear_1 : List UInt8 := [167, 0, 4, 3, 182, 0, 93, 153, 0, 5, 3, 172, 42, 180, 0, 7, 27, 46, 61, 42, 180, 0, 7, 27]
abbrev dktX3_clear_1 : List UInt8 := dkwX3_clear_1 ++ dktX3_clear_2
def dkwX3_clear_0 : List UInt8 := [42, 42, 27, 182, 0, 107, 154, 0, 7, 4, 167, 0, 18, 42, 180, 0, 7, 27, 46, 2, 160, 0, 7, 5]
abbrev dktX3_clear_0 : List UInt8 := dkwX3_clear_0 ++ dktX3_clear_1
theorem dksX3_clear_0 : cX3_clear.data.toList.drop 0 = dktX3_clear_0 := by decide +kernel
theorem dksX3_clear_1 : cX3_clear.data.toList.drop 24 = dktX3_clear_1 := dk_seg dksX3_clear_0 24 rfl rfl
theorem dksX3_clear_2 : cX3_clear.data.toList.drop 48 = dktX3_clear_2 := dk_seg dksX3_clear_1 24 rfl rfl
theorem dX3_clear_0 : decode cX3_clear 0 = .ok (.aload_n 0, 1) := dk_42 (dk_at dksX3_clear_0 0 rfl rfl)
theorem dX3_clear_1 : decode cX3_clear 1 = .ok (.aload_n 0, 1) := dk_42 (dk_at dksX3_clear_0 1 rfl rfl)
theorem dX3_clear_2 : decode cX3_clear 2 = .ok (.iload_n 1, 1) := dk_27 (dk_at dksX3_clear_0 2 rfl rfl)
theorem dX3_clear_3 : decode cX3_clear 3 = .ok (.invokevirtual 107, 3) := dk_182 0 107 (dk_at dksX3_clear_0 3 rfl rfl)
theorem dX3_clear_6 : decode cX3_clear 6 = .ok (.ifCond .ne 7, 3) := dk_154 0 7 (dk_at dksX3_clear_0 6 rfl rfl)
theorem dX3_clear_9 : decode cX3_clear 9 = .ok (.iconst 1, 1) := dk_4 (dk_at dksX3_clear_0 9 rfl rfl)
theorem dX3_clear_10 : decode cX3_clear 10 = .ok (.goto 18, 3) := dk_167 0 18 (dk_at dksX3_clear_0 10 rfl rfl)
theorem dX3_clear_13 : decode cX3_clear 13 = .ok (.aload_n 0, 1) := dk_42 (dk_at dksX3_clear_0 13 rfl rfl)
theorem dX3_clear_14 : decode cX3_clear 14 = .ok (.getfield 7, 3) := dk_180 0 7 (dk_at dksX3_clear_0 14 rfl rfl)
theorem dX3_clear_17 : decode cX3_clear 17 = .ok (.iload_n 1, 1) := dk_27 (dk_at dksX3_clear_0 17 rfl rfl)
theorem dX3_clear_18 : decode cX3_clear 18 = .ok (.iaload, 1) := dk_46 (dk_at dksX3_clear_0 18 rfl rfl)
theorem dX3_clear_19 : decode cX3_clear 19 = .ok (.iconst (-1), 1) := dk_2 (dk_at dksX3_clear_0 19 rfl rfl)
theorem dX3_clear_20 : decode cX3_clear 20 = .ok (.if_icmp .ne 7, 3) := dk_160 0 7 (dk_at dksX3_clear_0 20 rfl rfl)
theorem dX3_clear_23 : decode cX3_clear 23 = .ok (.iconst 2, 1) := dk_5 (dk_at dksX3_clear_0 23 rfl rfl)
theorem dX3_clear_24 : decode cX3_clear 24 = .ok (.goto 4, 3) := dk_167 0 4 (dk_at dksX3_clear_1 0 rfl rfl)
theorem dX3_clear_27 : decode cX3_clear 27 = .ok (.iconst 0, 1) := dk_3 (dk_at dksX3_clear_1 3 rfl rfl)
theorem dX3_clear_28 : decode cX3_clear 28 = .ok (.invokevirtual 93, 3) := dk_182 0 93 (dk_at dksX3_clear_1 4 rfl rfl)
theorem dX3_clear_31 : decode cX3_clear 31 = .ok (.ifCond .eq 5, 3) := dk_153 0 5 (dk_at dksX3_clear_1 7 rfl rfl)
theorem dX3_clear_34 : decode cX3_clear 34 = .ok (.iconst 0, 1) := dk_3 (dk_at dksX3_clear_1 10 rfl rfl)
theorem dX3_clear_35 : decode cX3_clear 35 = .ok (.ireturn, 1) := dk_172 (dk_at dksX3_clear_1 11 rfl rfl)
theorem dX3_clear_36 : decode cX3_clear 36 = .ok (.aload_n 0, 1) := dk_42 (dk_at dksX3_clear_1 12 rfl rfl)
theorem dX3_clear_37 : decode cX3_clear 37 = .ok (.getfield 7, 3) := dk_180 0 7 (dk_at dksX3_clear_1 13 rfl rfl)
theorem dX3_clear_40 : decode cX3_clear 40 = .ok (.iload_n 1, 1) := dk_27 (dk_at dksX3_clear_1 16 rfl rfl)
theorem dX3_clear_41 : decode cX3_clear 41 = .ok (.iaload, 1) := dk_46 (dk_at dksX3_clear_1 17 rfl rfl)
theorem dX3_clear_42 : decode cX3_clear 42 = .ok (.istore_n 2, 1) := dk_61 (dk_at dksX3_clear_1 18 rfl rfl)
theorem dX3_clear_43 : decode cX3_clear 43 = .ok (.aload_n 0, 1) := dk_42 (dk_at dksX3_clear_1 19 rfl rfl)
theorem dX3_clear_44 : decode cX3_clear 44 = .ok (.getfield 7, 3) := dk_180 0 7 (dk_at dksX3_clear_1 20 rfl rfl)
theorem dX3_clear_47 : decode cX3_clear 47 = .ok (.iload_n 1, 1) := dk_27 (dk_at dksX3_clear_1 23 rfl rfl)
theorem dX3_clear_48 : decode cX3_clear 48 = .ok (.iconst (-1), 1) := dk_2 (dk_at dksX3_clear_2 0 rfl rfl)
theorem dX3_clear_49 : decode cX3_clear 49 = .ok (.iastore, 1) := dk_79 (dk_at dksX3_clear_2 1 rfl rfl)
theorem dX3_clear_50 : decode cX3_clear 50 = .ok (.aload_n 0, 1) := dk_42 (dk_at dksX3_clear_2 2 rfl rfl)
theorem dX3_clear_51 : decode cX3_clear 51 = .ok (.invokevirtual 147, 3) := dk_182 0 147 (dk_at dksX3_clear_2 3 rfl rfl)
theorem dX3_clear_54 : decode cX3_clear 54 = .ok (.iload_n 2, 1) := dk_28 (dk_at dksX3_clear_2 6 rfl rfl)
theorem dX3_clear_55 : decode cX3_clear 55 = .ok (.ireturn, 1) := dk_172 (dk_at dksX3_clear_2 7 rfl rfl)
abbrev cX3_ban : ByteArray := prog_12_method_26_code
def yX3_ban : MethodName := ⟨RX3, "ban", "(II)I"⟩
def dkwX3_ban_2 : List UInt8 := [79, 42, 180, 0, 13, 27, 46, 172]
abbrev dktX3_ban_2 : List UInt8 := dkwX3_ban_2 ++ []
def dkwX3_ban_1 : List UInt8 := [3, 167, 0, 4, 5, 182, 0, 93, 153, 0, 5, 3, 172, 42, 180, 0, 13, 27, 42, 180, 0, 90, 28, 96]
abbrev dktX3_ban_1 : List UInt8 := dkwX3_ban_1 ++ dktX3_ban_2
def dkwX3_ban_0 : List UInt8 := [42, 42, 27, 182, 0, 107, 154, 0, 7, 4, 167, 0, 19, 28, 3, 17, 3, 232, 184, 0, 86, 153, 0, 7]
abbrev dktX3_ban_0 : List UInt8 := dkwX3_ban_0 ++ dktX3_ban_1
theorem dksX3_ban_0 : cX3_ban.data.toList.drop 0 = dktX3_ban_0 := by decide +kernel
theorem dksX3_ban_1 : cX3_ban.data.toList.drop 24 = dktX3_ban_1 := dk_seg dksX3_ban_0 24 rfl rfl
theorem dksX3_ban_2 : cX3_ban.data.toList.drop 48 = dktX3_ban_2 := dk_seg dksX3_ban_1 24 rfl rfl
theorem dX3_ban_0 : decode cX3_ban 0 = .ok (.aload_n 0, 1) := dk_42 (dk_at dksX3_ban_0 0 rfl rfl)
theorem dX3_ban_1 : decode cX3_ban 1 = .ok (.aload_n 0, 1) := dk_42 (dk_at dksX3_ban_0 1 rfl rfl)
theorem dX3_ban_2 : decode cX3_ban 2 = .ok (.iload_n 1, 1) := dk_27 (dk_at dksX3_ban_0 2 rfl rfl)
theorem dX3_ban_3 : decode cX3_ban 3 = .ok (.invokevirtual 107, 3) := dk_182 0 107 (dk_at dksX3_ban_0 3 rfl rfl)
theorem dX3_ban_6 : decode cX3_ban 6 = .ok (.ifCond .ne 7, 3) := dk_154 0 7 (dk_at dksX3_ban_0 6 rfl rfl)
theorem dX3_ban_9 : decode cX3_ban 9 = .ok (.iconst 1, 1) := dk_4 (dk_at dksX3_ban_0 9 rfl rfl)
theorem dX3_ban_10 : decode cX3_ban 10 = .ok (.goto 19, 3) := dk_167 0 19 (dk_at dksX3_ban_0 10 rfl rfl)
theorem dX3_ban_13 : decode cX3_ban 13 = .ok (.iload_n 2, 1) := dk_28 (dk_at dksX3_ban_0 13 rfl rfl)
theorem dX3_ban_14 : decode cX3_ban 14 = .ok (.iconst 0, 1) := dk_3 (dk_at dksX3_ban_0 14 rfl rfl)
theorem dX3_ban_15 : decode cX3_ban 15 = .ok (.sipush 1000, 3) := dk_17 3 232 (dk_at dksX3_ban_0 15 rfl rfl)
theorem dX3_ban_18 : decode cX3_ban 18 = .ok (.invokestatic 86, 3) := dk_184 0 86 (dk_at dksX3_ban_0 18 rfl rfl)
theorem dX3_ban_21 : decode cX3_ban 21 = .ok (.ifCond .eq 7, 3) := dk_153 0 7 (dk_at dksX3_ban_0 21 rfl rfl)
theorem dX3_ban_24 : decode cX3_ban 24 = .ok (.iconst 0, 1) := dk_3 (dk_at dksX3_ban_1 0 rfl rfl)
theorem dX3_ban_25 : decode cX3_ban 25 = .ok (.goto 4, 3) := dk_167 0 4 (dk_at dksX3_ban_1 1 rfl rfl)
theorem dX3_ban_28 : decode cX3_ban 28 = .ok (.iconst 2, 1) := dk_5 (dk_at dksX3_ban_1 4 rfl rfl)
theorem dX3_ban_29 : decode cX3_ban 29 = .ok (.invokevirtual 93, 3) := dk_182 0 93 (dk_at dksX3_ban_1 5 rfl rfl)
theorem dX3_ban_32 : decode cX3_ban 32 = .ok (.ifCond .eq 5, 3) := dk_153 0 5 (dk_at dksX3_ban_1 8 rfl rfl)
theorem dX3_ban_35 : decode cX3_ban 35 = .ok (.iconst 0, 1) := dk_3 (dk_at dksX3_ban_1 11 rfl rfl)
theorem dX3_ban_36 : decode cX3_ban 36 = .ok (.ireturn, 1) := dk_172 (dk_at dksX3_ban_1 12 rfl rfl)
theorem dX3_ban_37 : decode cX3_ban 37 = .ok (.aload_n 0, 1) := dk_42 (dk_at dksX3_ban_1 13 rfl rfl)
theorem dX3_ban_38 : decode cX3_ban 38 = .ok (.getfield 13, 3) := dk_180 0 13 (dk_at dksX3_ban_1 14 rfl rfl)
theorem dX3_ban_41 : decode cX3_ban 41 = .ok (.iload_n 1, 1) := dk_27 (dk_at dksX3_ban_1 17 rfl rfl)
theorem dX3_ban_42 : decode cX3_ban 42 = .ok (.aload_n 0, 1) := dk_42 (dk_at dksX3_ban_1 18 rfl rfl)
theorem dX3_ban_43 : decode cX3_ban 43 = .ok (.getfield 90, 3) := dk_180 0 90 (dk_at dksX3_ban_1 19 rfl rfl)
theorem dX3_ban_46 : decode cX3_ban 46 = .ok (.iload_n 2, 1) := dk_28 (dk_at dksX3_ban_1 22 rfl rfl)
theorem dX3_ban_47 : decode cX3_ban 47 = .ok (.iadd, 1) := dk_96 (dk_at dksX3_ban_1 23 rfl rfl)
theorem dX3_ban_48 : decode cX3_ban 48 = .ok (.iastore, 1) := dk_79 (dk_at dksX3_ban_2 0 rfl rfl)
theorem dX3_ban_49 : decode cX3_ban 49 = .ok (.aload_n 0, 1) := dk_42 (dk_at dksX3_ban_2 1 rfl rfl)
theorem dX3_ban_50 : decode cX3_ban 50 = .ok (.getfield 13, 3) := dk_180 0 13 (dk_at dksX3_ban_2 2 rfl rfl)
theorem dX3_ban_53 : decode cX3_ban 53 = .ok (.iload_n 1, 1) := dk_27 (dk_at dksX3_ban_2 5 rfl rfl)
theorem dX3_ban_54 : decode cX3_ban 54 = .ok (.iaload, 1) := dk_46 (dk_at dksX3_ban_2 6 rfl rfl)
theorem dX3_ban_55 : decode cX3_ban 55 = .ok (.ireturn, 1) := dk_172 (dk_at dksX3_ban_2 7 rfl rfl)
abbrev cX3_pass : ByteArray := prog_12_method_27_code
def yX3_pass : MethodName := ⟨RX3, "pass", "(I)I"⟩
def dkwX3_pass_1 : List UInt8 := [172, 42, 89, 180, 0, 90, 27, 96, 181, 0, 90, 42, 180, 0, 90, 172]
abbrev dktX3_pass_1 : List UInt8 := dkwX3_pass_1 ++ []
def dkwX3_pass_0 : List UInt8 := [42, 27, 4, 17, 1, 144, 184, 0, 86, 153, 0, 7, 3, 167, 0, 4, 4, 182, 0, 93, 153, 0, 5, 3]
abbrev dktX3_pass_0 : List UInt8 := dkwX3_pass_0 ++ dktX3_pass_1
theorem dksX3_pass_0 : cX3_pass.data.toList.drop 0 = dktX3_pass_0 := by decide +kernel
theorem dksX3_pass_1 : cX3_pass.data.toList.drop 24 = dktX3_pass_1 := dk_seg dksX3_pass_0 24 rfl rfl
theorem dX3_pass_0 : decode cX3_pass 0 = .ok (.aload_n 0, 1) := dk_42 (dk_at dksX3_pass_0 0 rfl rfl)
theorem dX3_pass_1 : decode cX3_pass 1 = .ok (.iload_n 1, 1) := dk_27 (dk_at dksX3_pass_0 1 rfl rfl)
theorem dX3_pass_2 : decode cX3_pass 2 = .ok (.iconst 1, 1) := dk_4 (dk_at dksX3_pass_0 2 rfl rfl)
theorem dX3_pass_3 : decode cX3_pass 3 = .ok (.sipush 400, 3) := dk_17 1 144 (dk_at dksX3_pass_0 3 rfl rfl)
theorem dX3_pass_6 : decode cX3_pass 6 = .ok (.invokestatic 86, 3) := dk_184 0 86 (dk_at dksX3_pass_0 6 rfl rfl)
theorem dX3_pass_9 : decode cX3_pass 9 = .ok (.ifCond .eq 7, 3) := dk_153 0 7 (dk_at dksX3_pass_0 9 rfl rfl)
theorem dX3_pass_12 : decode cX3_pass 12 = .ok (.iconst 0, 1) := dk_3 (dk_at dksX3_pass_0 12 rfl rfl)
theorem dX3_pass_13 : decode cX3_pass 13 = .ok (.goto 4, 3) := dk_167 0 4 (dk_at dksX3_pass_0 13 rfl rfl)
theorem dX3_pass_16 : decode cX3_pass 16 = .ok (.iconst 1, 1) := dk_4 (dk_at dksX3_pass_0 16 rfl rfl)
theorem dX3_pass_17 : decode cX3_pass 17 = .ok (.invokevirtual 93, 3) := dk_182 0 93 (dk_at dksX3_pass_0 17 rfl rfl)
theorem dX3_pass_20 : decode cX3_pass 20 = .ok (.ifCond .eq 5, 3) := dk_153 0 5 (dk_at dksX3_pass_0 20 rfl rfl)
theorem dX3_pass_23 : decode cX3_pass 23 = .ok (.iconst 0, 1) := dk_3 (dk_at dksX3_pass_0 23 rfl rfl)
theorem dX3_pass_24 : decode cX3_pass 24 = .ok (.ireturn, 1) := dk_172 (dk_at dksX3_pass_1 0 rfl rfl)
theorem dX3_pass_25 : decode cX3_pass 25 = .ok (.aload_n 0, 1) := dk_42 (dk_at dksX3_pass_1 1 rfl rfl)
theorem dX3_pass_26 : decode cX3_pass 26 = .ok (.dup, 1) := dk_89 (dk_at dksX3_pass_1 2 rfl rfl)
theorem dX3_pass_27 : decode cX3_pass 27 = .ok (.getfield 90, 3) := dk_180 0 90 (dk_at dksX3_pass_1 3 rfl rfl)
theorem dX3_pass_30 : decode cX3_pass 30 = .ok (.iload_n 1, 1) := dk_27 (dk_at dksX3_pass_1 6 rfl rfl)
theorem dX3_pass_31 : decode cX3_pass 31 = .ok (.iadd, 1) := dk_96 (dk_at dksX3_pass_1 7 rfl rfl)
theorem dX3_pass_32 : decode cX3_pass 32 = .ok (.putfield 90, 3) := dk_181 0 90 (dk_at dksX3_pass_1 8 rfl rfl)
theorem dX3_pass_35 : decode cX3_pass 35 = .ok (.aload_n 0, 1) := dk_42 (dk_at dksX3_pass_1 11 rfl rfl)
theorem dX3_pass_36 : decode cX3_pass 36 = .ok (.getfield 90, 3) := dk_180 0 90 (dk_at dksX3_pass_1 12 rfl rfl)
theorem dX3_pass_39 : decode cX3_pass 39 = .ok (.ireturn, 1) := dk_172 (dk_at dksX3_pass_1 15 rfl rfl)
abbrev cX3_stands : ByteArray := prog_12_method_28_code
def yX3_stands : MethodName := ⟨RX3, "stands", "(I)Z"⟩
def dkwX3_stands_1 : List UInt8 := [154, 0, 15, 42, 27, 182, 0, 116, 153, 0, 7, 4, 167, 0, 4, 3, 172]
abbrev dktX3_stands_1 : List UInt8 := dkwX3_stands_1 ++ []
def dkwX3_stands_0 : List UInt8 := [42, 27, 3, 42, 180, 0, 97, 4, 100, 184, 0, 86, 153, 0, 7, 3, 167, 0, 4, 4, 182, 0, 93]
abbrev dktX3_stands_0 : List UInt8 := dkwX3_stands_0 ++ dktX3_stands_1
theorem dksX3_stands_0 : cX3_stands.data.toList.drop 0 = dktX3_stands_0 := by decide +kernel
theorem dksX3_stands_1 : cX3_stands.data.toList.drop 23 = dktX3_stands_1 := dk_seg dksX3_stands_0 23 rfl rfl
theorem dX3_stands_0 : decode cX3_stands 0 = .ok (.aload_n 0, 1) := dk_42 (dk_at dksX3_stands_0 0 rfl rfl)
theorem dX3_stands_1 : decode cX3_stands 1 = .ok (.iload_n 1, 1) := dk_27 (dk_at dksX3_stands_0 1 rfl rfl)
theorem dX3_stands_2 : decode cX3_stands 2 = .ok (.iconst 0, 1) := dk_3 (dk_at dksX3_stands_0 2 rfl rfl)
theorem dX3_stands_3 : decode cX3_stands 3 = .ok (.aload_n 0, 1) := dk_42 (dk_at dksX3_stands_0 3 rfl rfl)
theorem dX3_stands_4 : decode cX3_stands 4 = .ok (.getfield 97, 3) := dk_180 0 97 (dk_at dksX3_stands_0 4 rfl rfl)
theorem dX3_stands_7 : decode cX3_stands 7 = .ok (.iconst 1, 1) := dk_4 (dk_at dksX3_stands_0 7 rfl rfl)
theorem dX3_stands_8 : decode cX3_stands 8 = .ok (.isub, 1) := dk_100 (dk_at dksX3_stands_0 8 rfl rfl)
theorem dX3_stands_9 : decode cX3_stands 9 = .ok (.invokestatic 86, 3) := dk_184 0 86 (dk_at dksX3_stands_0 9 rfl rfl)
theorem dX3_stands_12 : decode cX3_stands 12 = .ok (.ifCond .eq 7, 3) := dk_153 0 7 (dk_at dksX3_stands_0 12 rfl rfl)
theorem dX3_stands_15 : decode cX3_stands 15 = .ok (.iconst 0, 1) := dk_3 (dk_at dksX3_stands_0 15 rfl rfl)
theorem dX3_stands_16 : decode cX3_stands 16 = .ok (.goto 4, 3) := dk_167 0 4 (dk_at dksX3_stands_0 16 rfl rfl)
theorem dX3_stands_19 : decode cX3_stands 19 = .ok (.iconst 1, 1) := dk_4 (dk_at dksX3_stands_0 19 rfl rfl)
theorem dX3_stands_20 : decode cX3_stands 20 = .ok (.invokevirtual 93, 3) := dk_182 0 93 (dk_at dksX3_stands_0 20 rfl rfl)
theorem dX3_stands_23 : decode cX3_stands 23 = .ok (.ifCond .ne 15, 3) := dk_154 0 15 (dk_at dksX3_stands_1 0 rfl rfl)
theorem dX3_stands_26 : decode cX3_stands 26 = .ok (.aload_n 0, 1) := dk_42 (dk_at dksX3_stands_1 3 rfl rfl)
theorem dX3_stands_27 : decode cX3_stands 27 = .ok (.iload_n 1, 1) := dk_27 (dk_at dksX3_stands_1 4 rfl rfl)
theorem dX3_stands_28 : decode cX3_stands 28 = .ok (.invokevirtual 116, 3) := dk_182 0 116 (dk_at dksX3_stands_1 5 rfl rfl)
theorem dX3_stands_31 : decode cX3_stands 31 = .ok (.ifCond .eq 7, 3) := dk_153 0 7 (dk_at dksX3_stands_1 8 rfl rfl)
theorem dX3_stands_34 : decode cX3_stands 34 = .ok (.iconst 1, 1) := dk_4 (dk_at dksX3_stands_1 11 rfl rfl)
theorem dX3_stands_35 : decode cX3_stands 35 = .ok (.goto 4, 3) := dk_167 0 4 (dk_at dksX3_stands_1 12 rfl rfl)
theorem dX3_stands_38 : decode cX3_stands 38 = .ok (.iconst 0, 1) := dk_3 (dk_at dksX3_stands_1 15 rfl rfl)
theorem dX3_stands_39 : decode cX3_stands 39 = .ok (.ireturn, 1) := dk_172 (dk_at dksX3_stands_1 16 rfl rfl)
abbrev cX3_ranked : ByteArray := prog_12_method_29_code
def yX3_ranked : MethodName := ⟨RX3, "ranked", "(III)I"⟩
def dkwX3_ranked_4 : List UInt8 := [182, 0, 123, 172]
abbrev dktX3_ranked_4 : List UInt8 := dkwX3_ranked_4 ++ []
def dkwX3_ranked_3 : List UInt8 := [180, 0, 70, 28, 46, 167, 0, 22, 29, 4, 160, 0, 12, 42, 180, 0, 73, 28, 46, 167, 0, 8, 42, 28]
abbrev dktX3_ranked_3 : List UInt8 := dkwX3_ranked_3 ++ dktX3_ranked_4
def dkwX3_ranked_2 : List UInt8 := [167, 0, 4, 5, 182, 0, 93, 153, 0, 5, 3, 172, 42, 27, 182, 0, 126, 29, 154, 0, 12, 42]
abbrev dktX3_ranked_2 : List UInt8 := dkwX3_ranked_2 ++ dktX3_ranked_3
def dkwX3_ranked_1 : List UInt8 := [3, 54, 4, 42, 21, 4, 154, 0, 7, 4, 167, 0, 17, 29, 3, 5, 184, 0, 86, 153, 0, 7, 3]
abbrev dktX3_ranked_1 : List UInt8 := dkwX3_ranked_1 ++ dktX3_ranked_2
def dkwX3_ranked_0 : List UInt8 := [27, 3, 42, 180, 0, 113, 184, 0, 86, 153, 0, 15, 42, 28, 182, 0, 107, 153, 0, 7, 4, 167, 0, 4]
abbrev dktX3_ranked_0 : List UInt8 := dkwX3_ranked_0 ++ dktX3_ranked_1
theorem dksX3_ranked_0 : cX3_ranked.data.toList.drop 0 = dktX3_ranked_0 := by decide +kernel
theorem dksX3_ranked_1 : cX3_ranked.data.toList.drop 24 = dktX3_ranked_1 := dk_seg dksX3_ranked_0 24 rfl rfl
theorem dksX3_ranked_2 : cX3_ranked.data.toList.drop 47 = dktX3_ranked_2 := dk_seg dksX3_ranked_1 23 rfl rfl
theorem dksX3_ranked_3 : cX3_ranked.data.toList.drop 69 = dktX3_ranked_3 := dk_seg dksX3_ranked_2 22 rfl rfl
theorem dksX3_ranked_4 : cX3_ranked.data.toList.drop 93 = dktX3_ranked_4 := dk_seg dksX3_ranked_3 24 rfl rfl
theorem dX3_ranked_0 : decode cX3_ranked 0 = .ok (.iload_n 1, 1) := dk_27 (dk_at dksX3_ranked_0 0 rfl rfl)
theorem dX3_ranked_1 : decode cX3_ranked 1 = .ok (.iconst 0, 1) := dk_3 (dk_at dksX3_ranked_0 1 rfl rfl)
theorem dX3_ranked_2 : decode cX3_ranked 2 = .ok (.aload_n 0, 1) := dk_42 (dk_at dksX3_ranked_0 2 rfl rfl)
theorem dX3_ranked_3 : decode cX3_ranked 3 = .ok (.getfield 113, 3) := dk_180 0 113 (dk_at dksX3_ranked_0 3 rfl rfl)
theorem dX3_ranked_6 : decode cX3_ranked 6 = .ok (.invokestatic 86, 3) := dk_184 0 86 (dk_at dksX3_ranked_0 6 rfl rfl)
theorem dX3_ranked_9 : decode cX3_ranked 9 = .ok (.ifCond .eq 15, 3) := dk_153 0 15 (dk_at dksX3_ranked_0 9 rfl rfl)
theorem dX3_ranked_12 : decode cX3_ranked 12 = .ok (.aload_n 0, 1) := dk_42 (dk_at dksX3_ranked_0 12 rfl rfl)
theorem dX3_ranked_13 : decode cX3_ranked 13 = .ok (.iload_n 2, 1) := dk_28 (dk_at dksX3_ranked_0 13 rfl rfl)
theorem dX3_ranked_14 : decode cX3_ranked 14 = .ok (.invokevirtual 107, 3) := dk_182 0 107 (dk_at dksX3_ranked_0 14 rfl rfl)
theorem dX3_ranked_17 : decode cX3_ranked 17 = .ok (.ifCond .eq 7, 3) := dk_153 0 7 (dk_at dksX3_ranked_0 17 rfl rfl)
theorem dX3_ranked_20 : decode cX3_ranked 20 = .ok (.iconst 1, 1) := dk_4 (dk_at dksX3_ranked_0 20 rfl rfl)
theorem dX3_ranked_21 : decode cX3_ranked 21 = .ok (.goto 4, 3) := dk_167 0 4 (dk_at dksX3_ranked_0 21 rfl rfl)
theorem dX3_ranked_24 : decode cX3_ranked 24 = .ok (.iconst 0, 1) := dk_3 (dk_at dksX3_ranked_1 0 rfl rfl)
theorem dX3_ranked_25 : decode cX3_ranked 25 = .ok (.istore 4, 2) := dk_54 4 (dk_at dksX3_ranked_1 1 rfl rfl)
theorem dX3_ranked_27 : decode cX3_ranked 27 = .ok (.aload_n 0, 1) := dk_42 (dk_at dksX3_ranked_1 3 rfl rfl)
theorem dX3_ranked_28 : decode cX3_ranked 28 = .ok (.iload 4, 2) := dk_21 4 (dk_at dksX3_ranked_1 4 rfl rfl)
theorem dX3_ranked_30 : decode cX3_ranked 30 = .ok (.ifCond .ne 7, 3) := dk_154 0 7 (dk_at dksX3_ranked_1 6 rfl rfl)
theorem dX3_ranked_33 : decode cX3_ranked 33 = .ok (.iconst 1, 1) := dk_4 (dk_at dksX3_ranked_1 9 rfl rfl)
theorem dX3_ranked_34 : decode cX3_ranked 34 = .ok (.goto 17, 3) := dk_167 0 17 (dk_at dksX3_ranked_1 10 rfl rfl)
theorem dX3_ranked_37 : decode cX3_ranked 37 = .ok (.iload_n 3, 1) := dk_29 (dk_at dksX3_ranked_1 13 rfl rfl)
theorem dX3_ranked_38 : decode cX3_ranked 38 = .ok (.iconst 0, 1) := dk_3 (dk_at dksX3_ranked_1 14 rfl rfl)
theorem dX3_ranked_39 : decode cX3_ranked 39 = .ok (.iconst 2, 1) := dk_5 (dk_at dksX3_ranked_1 15 rfl rfl)
theorem dX3_ranked_40 : decode cX3_ranked 40 = .ok (.invokestatic 86, 3) := dk_184 0 86 (dk_at dksX3_ranked_1 16 rfl rfl)
theorem dX3_ranked_43 : decode cX3_ranked 43 = .ok (.ifCond .eq 7, 3) := dk_153 0 7 (dk_at dksX3_ranked_1 19 rfl rfl)
theorem dX3_ranked_46 : decode cX3_ranked 46 = .ok (.iconst 0, 1) := dk_3 (dk_at dksX3_ranked_1 22 rfl rfl)
theorem dX3_ranked_47 : decode cX3_ranked 47 = .ok (.goto 4, 3) := dk_167 0 4 (dk_at dksX3_ranked_2 0 rfl rfl)
theorem dX3_ranked_50 : decode cX3_ranked 50 = .ok (.iconst 2, 1) := dk_5 (dk_at dksX3_ranked_2 3 rfl rfl)
theorem dX3_ranked_51 : decode cX3_ranked 51 = .ok (.invokevirtual 93, 3) := dk_182 0 93 (dk_at dksX3_ranked_2 4 rfl rfl)
theorem dX3_ranked_54 : decode cX3_ranked 54 = .ok (.ifCond .eq 5, 3) := dk_153 0 5 (dk_at dksX3_ranked_2 7 rfl rfl)
theorem dX3_ranked_57 : decode cX3_ranked 57 = .ok (.iconst 0, 1) := dk_3 (dk_at dksX3_ranked_2 10 rfl rfl)
theorem dX3_ranked_58 : decode cX3_ranked 58 = .ok (.ireturn, 1) := dk_172 (dk_at dksX3_ranked_2 11 rfl rfl)
theorem dX3_ranked_59 : decode cX3_ranked 59 = .ok (.aload_n 0, 1) := dk_42 (dk_at dksX3_ranked_2 12 rfl rfl)
theorem dX3_ranked_60 : decode cX3_ranked 60 = .ok (.iload_n 1, 1) := dk_27 (dk_at dksX3_ranked_2 13 rfl rfl)
theorem dX3_ranked_61 : decode cX3_ranked 61 = .ok (.invokevirtual 126, 3) := dk_182 0 126 (dk_at dksX3_ranked_2 14 rfl rfl)
theorem dX3_ranked_64 : decode cX3_ranked 64 = .ok (.iload_n 3, 1) := dk_29 (dk_at dksX3_ranked_2 17 rfl rfl)
theorem dX3_ranked_65 : decode cX3_ranked 65 = .ok (.ifCond .ne 12, 3) := dk_154 0 12 (dk_at dksX3_ranked_2 18 rfl rfl)
theorem dX3_ranked_68 : decode cX3_ranked 68 = .ok (.aload_n 0, 1) := dk_42 (dk_at dksX3_ranked_2 21 rfl rfl)
theorem dX3_ranked_69 : decode cX3_ranked 69 = .ok (.getfield 70, 3) := dk_180 0 70 (dk_at dksX3_ranked_3 0 rfl rfl)
theorem dX3_ranked_72 : decode cX3_ranked 72 = .ok (.iload_n 2, 1) := dk_28 (dk_at dksX3_ranked_3 3 rfl rfl)
theorem dX3_ranked_73 : decode cX3_ranked 73 = .ok (.iaload, 1) := dk_46 (dk_at dksX3_ranked_3 4 rfl rfl)
theorem dX3_ranked_74 : decode cX3_ranked 74 = .ok (.goto 22, 3) := dk_167 0 22 (dk_at dksX3_ranked_3 5 rfl rfl)
theorem dX3_ranked_77 : decode cX3_ranked 77 = .ok (.iload_n 3, 1) := dk_29 (dk_at dksX3_ranked_3 8 rfl rfl)
theorem dX3_ranked_78 : decode cX3_ranked 78 = .ok (.iconst 1, 1) := dk_4 (dk_at dksX3_ranked_3 9 rfl rfl)
theorem dX3_ranked_79 : decode cX3_ranked 79 = .ok (.if_icmp .ne 12, 3) := dk_160 0 12 (dk_at dksX3_ranked_3 10 rfl rfl)
theorem dX3_ranked_82 : decode cX3_ranked 82 = .ok (.aload_n 0, 1) := dk_42 (dk_at dksX3_ranked_3 13 rfl rfl)
theorem dX3_ranked_83 : decode cX3_ranked 83 = .ok (.getfield 73, 3) := dk_180 0 73 (dk_at dksX3_ranked_3 14 rfl rfl)
theorem dX3_ranked_86 : decode cX3_ranked 86 = .ok (.iload_n 2, 1) := dk_28 (dk_at dksX3_ranked_3 17 rfl rfl)
theorem dX3_ranked_87 : decode cX3_ranked 87 = .ok (.iaload, 1) := dk_46 (dk_at dksX3_ranked_3 18 rfl rfl)
theorem dX3_ranked_88 : decode cX3_ranked 88 = .ok (.goto 8, 3) := dk_167 0 8 (dk_at dksX3_ranked_3 19 rfl rfl)
theorem dX3_ranked_91 : decode cX3_ranked 91 = .ok (.aload_n 0, 1) := dk_42 (dk_at dksX3_ranked_3 22 rfl rfl)
theorem dX3_ranked_92 : decode cX3_ranked 92 = .ok (.iload_n 2, 1) := dk_28 (dk_at dksX3_ranked_3 23 rfl rfl)
theorem dX3_ranked_93 : decode cX3_ranked 93 = .ok (.invokevirtual 123, 3) := dk_182 0 123 (dk_at dksX3_ranked_4 0 rfl rfl)
theorem dX3_ranked_96 : decode cX3_ranked 96 = .ok (.ireturn, 1) := dk_172 (dk_at dksX3_ranked_4 3 rfl rfl)
abbrev cX3_skinOf : ByteArray := prog_12_method_31_code
def yX3_skinOf : MethodName := ⟨RX3, "skinOf", "(II)I"⟩
def dkwX3_skinOf_5 : List UInt8 := [160, 0, 7, 3, 167, 0, 4, 4, 172]
abbrev dktX3_skinOf_5 : List UInt8 := dkwX3_skinOf_5 ++ []
def dkwX3_skinOf_4 : List UInt8 := [27, 46, 172, 42, 180, 0, 40, 27, 46, 172, 42, 180, 0, 58, 27, 46, 172, 42, 180, 0, 55, 27, 46, 2]
abbrev dktX3_skinOf_4 : List UInt8 := dkwX3_skinOf_4 ++ dktX3_skinOf_5
def dkwX3_skinOf_3 : List UInt8 := [42, 180, 0, 46, 27, 46, 172, 42, 180, 0, 43, 27, 46, 172, 42, 27, 182, 0, 150, 172, 42, 180, 0, 37]
abbrev dktX3_skinOf_3 : List UInt8 := dkwX3_skinOf_3 ++ dktX3_skinOf_4
def dkwX3_skinOf_2 : List UInt8 := [170, 0, 0, 0, 0, 0, 80, 0, 0, 0, 0, 0, 0, 0, 5, 0, 0, 0, 39, 0, 0, 0, 46, 0, 0, 0, 53, 0, 0, 0, 59, 0, 0, 0, 66, 0, 0, 0, 73]
abbrev dktX3_skinOf_2 : List UInt8 := dkwX3_skinOf_2 ++ dktX3_skinOf_3
def dkwX3_skinOf_1 : List UInt8 := [167, 0, 4, 5, 182, 0, 93, 153, 0, 5, 3, 172, 28]
abbrev dktX3_skinOf_1 : List UInt8 := dkwX3_skinOf_1 ++ dktX3_skinOf_2
def dkwX3_skinOf_0 : List UInt8 := [42, 42, 27, 182, 0, 136, 154, 0, 7, 4, 167, 0, 18, 28, 3, 16, 6, 184, 0, 86, 153, 0, 7, 3]
abbrev dktX3_skinOf_0 : List UInt8 := dkwX3_skinOf_0 ++ dktX3_skinOf_1
theorem dksX3_skinOf_0 : cX3_skinOf.data.toList.drop 0 = dktX3_skinOf_0 := by decide +kernel
theorem dksX3_skinOf_1 : cX3_skinOf.data.toList.drop 24 = dktX3_skinOf_1 := dk_seg dksX3_skinOf_0 24 rfl rfl
theorem dksX3_skinOf_2 : cX3_skinOf.data.toList.drop 37 = dktX3_skinOf_2 := dk_seg dksX3_skinOf_1 13 rfl rfl
theorem dksX3_skinOf_3 : cX3_skinOf.data.toList.drop 76 = dktX3_skinOf_3 := dk_seg dksX3_skinOf_2 39 rfl rfl
theorem dksX3_skinOf_4 : cX3_skinOf.data.toList.drop 100 = dktX3_skinOf_4 := dk_seg dksX3_skinOf_3 24 rfl rfl
theorem dksX3_skinOf_5 : cX3_skinOf.data.toList.drop 124 = dktX3_skinOf_5 := dk_seg dksX3_skinOf_4 24 rfl rfl
theorem dX3_skinOf_0 : decode cX3_skinOf 0 = .ok (.aload_n 0, 1) := dk_42 (dk_at dksX3_skinOf_0 0 rfl rfl)
theorem dX3_skinOf_1 : decode cX3_skinOf 1 = .ok (.aload_n 0, 1) := dk_42 (dk_at dksX3_skinOf_0 1 rfl rfl)
theorem dX3_skinOf_2 : decode cX3_skinOf 2 = .ok (.iload_n 1, 1) := dk_27 (dk_at dksX3_skinOf_0 2 rfl rfl)
theorem dX3_skinOf_3 : decode cX3_skinOf 3 = .ok (.invokevirtual 136, 3) := dk_182 0 136 (dk_at dksX3_skinOf_0 3 rfl rfl)
theorem dX3_skinOf_6 : decode cX3_skinOf 6 = .ok (.ifCond .ne 7, 3) := dk_154 0 7 (dk_at dksX3_skinOf_0 6 rfl rfl)
theorem dX3_skinOf_9 : decode cX3_skinOf 9 = .ok (.iconst 1, 1) := dk_4 (dk_at dksX3_skinOf_0 9 rfl rfl)
theorem dX3_skinOf_10 : decode cX3_skinOf 10 = .ok (.goto 18, 3) := dk_167 0 18 (dk_at dksX3_skinOf_0 10 rfl rfl)
theorem dX3_skinOf_13 : decode cX3_skinOf 13 = .ok (.iload_n 2, 1) := dk_28 (dk_at dksX3_skinOf_0 13 rfl rfl)
theorem dX3_skinOf_14 : decode cX3_skinOf 14 = .ok (.iconst 0, 1) := dk_3 (dk_at dksX3_skinOf_0 14 rfl rfl)
theorem dX3_skinOf_15 : decode cX3_skinOf 15 = .ok (.bipush 6, 2) := dk_16 6 (dk_at dksX3_skinOf_0 15 rfl rfl)
theorem dX3_skinOf_17 : decode cX3_skinOf 17 = .ok (.invokestatic 86, 3) := dk_184 0 86 (dk_at dksX3_skinOf_0 17 rfl rfl)
theorem dX3_skinOf_20 : decode cX3_skinOf 20 = .ok (.ifCond .eq 7, 3) := dk_153 0 7 (dk_at dksX3_skinOf_0 20 rfl rfl)
theorem dX3_skinOf_23 : decode cX3_skinOf 23 = .ok (.iconst 0, 1) := dk_3 (dk_at dksX3_skinOf_0 23 rfl rfl)
theorem dX3_skinOf_24 : decode cX3_skinOf 24 = .ok (.goto 4, 3) := dk_167 0 4 (dk_at dksX3_skinOf_1 0 rfl rfl)
theorem dX3_skinOf_27 : decode cX3_skinOf 27 = .ok (.iconst 2, 1) := dk_5 (dk_at dksX3_skinOf_1 3 rfl rfl)
theorem dX3_skinOf_28 : decode cX3_skinOf 28 = .ok (.invokevirtual 93, 3) := dk_182 0 93 (dk_at dksX3_skinOf_1 4 rfl rfl)
theorem dX3_skinOf_31 : decode cX3_skinOf 31 = .ok (.ifCond .eq 5, 3) := dk_153 0 5 (dk_at dksX3_skinOf_1 7 rfl rfl)
theorem dX3_skinOf_34 : decode cX3_skinOf 34 = .ok (.iconst 0, 1) := dk_3 (dk_at dksX3_skinOf_1 10 rfl rfl)
theorem dX3_skinOf_35 : decode cX3_skinOf 35 = .ok (.ireturn, 1) := dk_172 (dk_at dksX3_skinOf_1 11 rfl rfl)
theorem dX3_skinOf_36 : decode cX3_skinOf 36 = .ok (.iload_n 2, 1) := dk_28 (dk_at dksX3_skinOf_1 12 rfl rfl)
theorem dX3_skinOf_37 : decode cX3_skinOf 37 = .ok (.tableswitch 80 0 5 #[39, 46, 53, 59, 66, 73], 39) := by decide +kernel
theorem dX3_skinOf_76 : decode cX3_skinOf 76 = .ok (.aload_n 0, 1) := dk_42 (dk_at dksX3_skinOf_3 0 rfl rfl)
theorem dX3_skinOf_77 : decode cX3_skinOf 77 = .ok (.getfield 46, 3) := dk_180 0 46 (dk_at dksX3_skinOf_3 1 rfl rfl)
theorem dX3_skinOf_80 : decode cX3_skinOf 80 = .ok (.iload_n 1, 1) := dk_27 (dk_at dksX3_skinOf_3 4 rfl rfl)
theorem dX3_skinOf_81 : decode cX3_skinOf 81 = .ok (.iaload, 1) := dk_46 (dk_at dksX3_skinOf_3 5 rfl rfl)
theorem dX3_skinOf_82 : decode cX3_skinOf 82 = .ok (.ireturn, 1) := dk_172 (dk_at dksX3_skinOf_3 6 rfl rfl)
theorem dX3_skinOf_83 : decode cX3_skinOf 83 = .ok (.aload_n 0, 1) := dk_42 (dk_at dksX3_skinOf_3 7 rfl rfl)
theorem dX3_skinOf_84 : decode cX3_skinOf 84 = .ok (.getfield 43, 3) := dk_180 0 43 (dk_at dksX3_skinOf_3 8 rfl rfl)
theorem dX3_skinOf_87 : decode cX3_skinOf 87 = .ok (.iload_n 1, 1) := dk_27 (dk_at dksX3_skinOf_3 11 rfl rfl)
theorem dX3_skinOf_88 : decode cX3_skinOf 88 = .ok (.iaload, 1) := dk_46 (dk_at dksX3_skinOf_3 12 rfl rfl)
theorem dX3_skinOf_89 : decode cX3_skinOf 89 = .ok (.ireturn, 1) := dk_172 (dk_at dksX3_skinOf_3 13 rfl rfl)
theorem dX3_skinOf_90 : decode cX3_skinOf 90 = .ok (.aload_n 0, 1) := dk_42 (dk_at dksX3_skinOf_3 14 rfl rfl)
theorem dX3_skinOf_91 : decode cX3_skinOf 91 = .ok (.iload_n 1, 1) := dk_27 (dk_at dksX3_skinOf_3 15 rfl rfl)
theorem dX3_skinOf_92 : decode cX3_skinOf 92 = .ok (.invokevirtual 150, 3) := dk_182 0 150 (dk_at dksX3_skinOf_3 16 rfl rfl)
theorem dX3_skinOf_95 : decode cX3_skinOf 95 = .ok (.ireturn, 1) := dk_172 (dk_at dksX3_skinOf_3 19 rfl rfl)
theorem dX3_skinOf_96 : decode cX3_skinOf 96 = .ok (.aload_n 0, 1) := dk_42 (dk_at dksX3_skinOf_3 20 rfl rfl)
theorem dX3_skinOf_97 : decode cX3_skinOf 97 = .ok (.getfield 37, 3) := dk_180 0 37 (dk_at dksX3_skinOf_3 21 rfl rfl)
theorem dX3_skinOf_100 : decode cX3_skinOf 100 = .ok (.iload_n 1, 1) := dk_27 (dk_at dksX3_skinOf_4 0 rfl rfl)
theorem dX3_skinOf_101 : decode cX3_skinOf 101 = .ok (.iaload, 1) := dk_46 (dk_at dksX3_skinOf_4 1 rfl rfl)
theorem dX3_skinOf_102 : decode cX3_skinOf 102 = .ok (.ireturn, 1) := dk_172 (dk_at dksX3_skinOf_4 2 rfl rfl)
theorem dX3_skinOf_103 : decode cX3_skinOf 103 = .ok (.aload_n 0, 1) := dk_42 (dk_at dksX3_skinOf_4 3 rfl rfl)
theorem dX3_skinOf_104 : decode cX3_skinOf 104 = .ok (.getfield 40, 3) := dk_180 0 40 (dk_at dksX3_skinOf_4 4 rfl rfl)
theorem dX3_skinOf_107 : decode cX3_skinOf 107 = .ok (.iload_n 1, 1) := dk_27 (dk_at dksX3_skinOf_4 7 rfl rfl)
theorem dX3_skinOf_108 : decode cX3_skinOf 108 = .ok (.iaload, 1) := dk_46 (dk_at dksX3_skinOf_4 8 rfl rfl)
theorem dX3_skinOf_109 : decode cX3_skinOf 109 = .ok (.ireturn, 1) := dk_172 (dk_at dksX3_skinOf_4 9 rfl rfl)
theorem dX3_skinOf_110 : decode cX3_skinOf 110 = .ok (.aload_n 0, 1) := dk_42 (dk_at dksX3_skinOf_4 10 rfl rfl)
theorem dX3_skinOf_111 : decode cX3_skinOf 111 = .ok (.getfield 58, 3) := dk_180 0 58 (dk_at dksX3_skinOf_4 11 rfl rfl)
theorem dX3_skinOf_114 : decode cX3_skinOf 114 = .ok (.iload_n 1, 1) := dk_27 (dk_at dksX3_skinOf_4 14 rfl rfl)
theorem dX3_skinOf_115 : decode cX3_skinOf 115 = .ok (.iaload, 1) := dk_46 (dk_at dksX3_skinOf_4 15 rfl rfl)
theorem dX3_skinOf_116 : decode cX3_skinOf 116 = .ok (.ireturn, 1) := dk_172 (dk_at dksX3_skinOf_4 16 rfl rfl)
theorem dX3_skinOf_117 : decode cX3_skinOf 117 = .ok (.aload_n 0, 1) := dk_42 (dk_at dksX3_skinOf_4 17 rfl rfl)
theorem dX3_skinOf_118 : decode cX3_skinOf 118 = .ok (.getfield 55, 3) := dk_180 0 55 (dk_at dksX3_skinOf_4 18 rfl rfl)
theorem dX3_skinOf_121 : decode cX3_skinOf 121 = .ok (.iload_n 1, 1) := dk_27 (dk_at dksX3_skinOf_4 21 rfl rfl)
theorem dX3_skinOf_122 : decode cX3_skinOf 122 = .ok (.iaload, 1) := dk_46 (dk_at dksX3_skinOf_4 22 rfl rfl)
theorem dX3_skinOf_123 : decode cX3_skinOf 123 = .ok (.iconst (-1), 1) := dk_2 (dk_at dksX3_skinOf_4 23 rfl rfl)
theorem dX3_skinOf_124 : decode cX3_skinOf 124 = .ok (.if_icmp .ne 7, 3) := dk_160 0 7 (dk_at dksX3_skinOf_5 0 rfl rfl)
theorem dX3_skinOf_127 : decode cX3_skinOf 127 = .ok (.iconst 0, 1) := dk_3 (dk_at dksX3_skinOf_5 3 rfl rfl)
theorem dX3_skinOf_128 : decode cX3_skinOf 128 = .ok (.goto 4, 3) := dk_167 0 4 (dk_at dksX3_skinOf_5 4 rfl rfl)
theorem dX3_skinOf_131 : decode cX3_skinOf 131 = .ok (.iconst 1, 1) := dk_4 (dk_at dksX3_skinOf_5 7 rfl rfl)
theorem dX3_skinOf_132 : decode cX3_skinOf 132 = .ok (.ireturn, 1) := dk_172 (dk_at dksX3_skinOf_5 8 rfl rfl)
abbrev cX3_user : ByteArray := prog_12_method_30_code
def yX3_user : MethodName := ⟨RX3, "user", "(I)I"⟩
def dkwX3_user_2 : List UInt8 := [172]
abbrev dktX3_user_2 : List UInt8 := dkwX3_user_2 ++ []
def dkwX3_user_1 : List UInt8 := [42, 180, 0, 52, 27, 46, 163, 0, 12, 42, 180, 0, 49, 27, 46, 167, 0, 9, 42, 180, 0, 46, 27, 46]
abbrev dktX3_user_1 : List UInt8 := dkwX3_user_1 ++ dktX3_user_2
def dkwX3_user_0 : List UInt8 := [42, 180, 0, 46, 27, 46, 2, 159, 0, 35, 42, 180, 0, 49, 27, 46, 2, 159, 0, 25, 42, 180, 0, 90]
abbrev dktX3_user_0 : List UInt8 := dkwX3_user_0 ++ dktX3_user_1
theorem dksX3_user_0 : cX3_user.data.toList.drop 0 = dktX3_user_0 := by decide +kernel
theorem dksX3_user_1 : cX3_user.data.toList.drop 24 = dktX3_user_1 := dk_seg dksX3_user_0 24 rfl rfl
theorem dksX3_user_2 : cX3_user.data.toList.drop 48 = dktX3_user_2 := dk_seg dksX3_user_1 24 rfl rfl
theorem dX3_user_0 : decode cX3_user 0 = .ok (.aload_n 0, 1) := dk_42 (dk_at dksX3_user_0 0 rfl rfl)
theorem dX3_user_1 : decode cX3_user 1 = .ok (.getfield 46, 3) := dk_180 0 46 (dk_at dksX3_user_0 1 rfl rfl)
theorem dX3_user_4 : decode cX3_user 4 = .ok (.iload_n 1, 1) := dk_27 (dk_at dksX3_user_0 4 rfl rfl)
theorem dX3_user_5 : decode cX3_user 5 = .ok (.iaload, 1) := dk_46 (dk_at dksX3_user_0 5 rfl rfl)
theorem dX3_user_6 : decode cX3_user 6 = .ok (.iconst (-1), 1) := dk_2 (dk_at dksX3_user_0 6 rfl rfl)
theorem dX3_user_7 : decode cX3_user 7 = .ok (.if_icmp .eq 35, 3) := dk_159 0 35 (dk_at dksX3_user_0 7 rfl rfl)
theorem dX3_user_10 : decode cX3_user 10 = .ok (.aload_n 0, 1) := dk_42 (dk_at dksX3_user_0 10 rfl rfl)
theorem dX3_user_11 : decode cX3_user 11 = .ok (.getfield 49, 3) := dk_180 0 49 (dk_at dksX3_user_0 11 rfl rfl)
theorem dX3_user_14 : decode cX3_user 14 = .ok (.iload_n 1, 1) := dk_27 (dk_at dksX3_user_0 14 rfl rfl)
theorem dX3_user_15 : decode cX3_user 15 = .ok (.iaload, 1) := dk_46 (dk_at dksX3_user_0 15 rfl rfl)
theorem dX3_user_16 : decode cX3_user 16 = .ok (.iconst (-1), 1) := dk_2 (dk_at dksX3_user_0 16 rfl rfl)
theorem dX3_user_17 : decode cX3_user 17 = .ok (.if_icmp .eq 25, 3) := dk_159 0 25 (dk_at dksX3_user_0 17 rfl rfl)
theorem dX3_user_20 : decode cX3_user 20 = .ok (.aload_n 0, 1) := dk_42 (dk_at dksX3_user_0 20 rfl rfl)
theorem dX3_user_21 : decode cX3_user 21 = .ok (.getfield 90, 3) := dk_180 0 90 (dk_at dksX3_user_0 21 rfl rfl)
theorem dX3_user_24 : decode cX3_user 24 = .ok (.aload_n 0, 1) := dk_42 (dk_at dksX3_user_1 0 rfl rfl)
theorem dX3_user_25 : decode cX3_user 25 = .ok (.getfield 52, 3) := dk_180 0 52 (dk_at dksX3_user_1 1 rfl rfl)
theorem dX3_user_28 : decode cX3_user 28 = .ok (.iload_n 1, 1) := dk_27 (dk_at dksX3_user_1 4 rfl rfl)
theorem dX3_user_29 : decode cX3_user 29 = .ok (.iaload, 1) := dk_46 (dk_at dksX3_user_1 5 rfl rfl)
theorem dX3_user_30 : decode cX3_user 30 = .ok (.if_icmp .gt 12, 3) := dk_163 0 12 (dk_at dksX3_user_1 6 rfl rfl)
theorem dX3_user_33 : decode cX3_user 33 = .ok (.aload_n 0, 1) := dk_42 (dk_at dksX3_user_1 9 rfl rfl)
theorem dX3_user_34 : decode cX3_user 34 = .ok (.getfield 49, 3) := dk_180 0 49 (dk_at dksX3_user_1 10 rfl rfl)
theorem dX3_user_37 : decode cX3_user 37 = .ok (.iload_n 1, 1) := dk_27 (dk_at dksX3_user_1 13 rfl rfl)
theorem dX3_user_38 : decode cX3_user 38 = .ok (.iaload, 1) := dk_46 (dk_at dksX3_user_1 14 rfl rfl)
theorem dX3_user_39 : decode cX3_user 39 = .ok (.goto 9, 3) := dk_167 0 9 (dk_at dksX3_user_1 15 rfl rfl)
theorem dX3_user_42 : decode cX3_user 42 = .ok (.aload_n 0, 1) := dk_42 (dk_at dksX3_user_1 18 rfl rfl)
theorem dX3_user_43 : decode cX3_user 43 = .ok (.getfield 46, 3) := dk_180 0 46 (dk_at dksX3_user_1 19 rfl rfl)
theorem dX3_user_46 : decode cX3_user 46 = .ok (.iload_n 1, 1) := dk_27 (dk_at dksX3_user_1 22 rfl rfl)
theorem dX3_user_47 : decode cX3_user 47 = .ok (.iaload, 1) := dk_46 (dk_at dksX3_user_1 23 rfl rfl)
theorem dX3_user_48 : decode cX3_user 48 = .ok (.ireturn, 1) := dk_172 (dk_at dksX3_user_2 0 rfl rfl)
abbrev cX3_money : ByteArray := prog_12_method_32_code
def yX3_money : MethodName := ⟨RX3, "money", "(I)I"⟩
def dkwX3_money_1 : List UInt8 := [42, 180, 0, 16, 27, 46, 172]
abbrev dktX3_money_1 : List UInt8 := dkwX3_money_1 ++ []
def dkwX3_money_0 : List UInt8 := [42, 42, 27, 182, 0, 107, 153, 0, 7, 3, 167, 0, 4, 4, 182, 0, 93, 153, 0, 7, 3, 167, 0, 9]
abbrev dktX3_money_0 : List UInt8 := dkwX3_money_0 ++ dktX3_money_1
theorem dksX3_money_0 : cX3_money.data.toList.drop 0 = dktX3_money_0 := by decide +kernel
theorem dksX3_money_1 : cX3_money.data.toList.drop 24 = dktX3_money_1 := dk_seg dksX3_money_0 24 rfl rfl
theorem dX3_money_0 : decode cX3_money 0 = .ok (.aload_n 0, 1) := dk_42 (dk_at dksX3_money_0 0 rfl rfl)
theorem dX3_money_1 : decode cX3_money 1 = .ok (.aload_n 0, 1) := dk_42 (dk_at dksX3_money_0 1 rfl rfl)
theorem dX3_money_2 : decode cX3_money 2 = .ok (.iload_n 1, 1) := dk_27 (dk_at dksX3_money_0 2 rfl rfl)
theorem dX3_money_3 : decode cX3_money 3 = .ok (.invokevirtual 107, 3) := dk_182 0 107 (dk_at dksX3_money_0 3 rfl rfl)
theorem dX3_money_6 : decode cX3_money 6 = .ok (.ifCond .eq 7, 3) := dk_153 0 7 (dk_at dksX3_money_0 6 rfl rfl)
theorem dX3_money_9 : decode cX3_money 9 = .ok (.iconst 0, 1) := dk_3 (dk_at dksX3_money_0 9 rfl rfl)
theorem dX3_money_10 : decode cX3_money 10 = .ok (.goto 4, 3) := dk_167 0 4 (dk_at dksX3_money_0 10 rfl rfl)
theorem dX3_money_13 : decode cX3_money 13 = .ok (.iconst 1, 1) := dk_4 (dk_at dksX3_money_0 13 rfl rfl)
theorem dX3_money_14 : decode cX3_money 14 = .ok (.invokevirtual 93, 3) := dk_182 0 93 (dk_at dksX3_money_0 14 rfl rfl)
theorem dX3_money_17 : decode cX3_money 17 = .ok (.ifCond .eq 7, 3) := dk_153 0 7 (dk_at dksX3_money_0 17 rfl rfl)
theorem dX3_money_20 : decode cX3_money 20 = .ok (.iconst 0, 1) := dk_3 (dk_at dksX3_money_0 20 rfl rfl)
theorem dX3_money_21 : decode cX3_money 21 = .ok (.goto 9, 3) := dk_167 0 9 (dk_at dksX3_money_0 21 rfl rfl)
theorem dX3_money_24 : decode cX3_money 24 = .ok (.aload_n 0, 1) := dk_42 (dk_at dksX3_money_1 0 rfl rfl)
theorem dX3_money_25 : decode cX3_money 25 = .ok (.getfield 16, 3) := dk_180 0 16 (dk_at dksX3_money_1 1 rfl rfl)
theorem dX3_money_28 : decode cX3_money 28 = .ok (.iload_n 1, 1) := dk_27 (dk_at dksX3_money_1 4 rfl rfl)
theorem dX3_money_29 : decode cX3_money 29 = .ok (.iaload, 1) := dk_46 (dk_at dksX3_money_1 5 rfl rfl)
theorem dX3_money_30 : decode cX3_money 30 = .ok (.ireturn, 1) := dk_172 (dk_at dksX3_money_1 6 rfl rfl)
abbrev cX3_label : ByteArray := prog_12_method_35_code
def yX3_label : MethodName := ⟨RX3, "label", "(II)C"⟩
def dkwX3_label_4 : List UInt8 := [180, 0, 153, 162, 0, 13, 42, 180, 0, 76, 28, 46, 146, 167, 0, 4, 3, 172]
abbrev dktX3_label_4 : List UInt8 := dkwX3_label_4 ++ []
def dkwX3_label_3 : List UInt8 := [27, 46, 2, 159, 0, 19, 42, 16, 64, 182, 0, 156, 42, 42, 180, 0, 46, 27, 46, 182, 0, 159, 28, 42]
abbrev dktX3_label_3 : List UInt8 := dkwX3_label_3 ++ dktX3_label_4
def dkwX3_label_2 : List UInt8 := [46, 182, 0, 159, 42, 16, 47, 182, 0, 156, 42, 42, 180, 0, 40, 27, 46, 182, 0, 159, 42, 180, 0, 46]
abbrev dktX3_label_2 : List UInt8 := dkwX3_label_2 ++ dktX3_label_3
def dkwX3_label_1 : List UInt8 := [3, 172, 42, 3, 181, 0, 153, 42, 27, 182, 0, 159, 42, 16, 58, 182, 0, 156, 42, 42, 180, 0, 37, 27]
abbrev dktX3_label_1 : List UInt8 := dkwX3_label_1 ++ dktX3_label_2
def dkwX3_label_0 : List UInt8 := [42, 42, 27, 182, 0, 136, 153, 0, 11, 28, 155, 0, 7, 3, 167, 0, 4, 4, 182, 0, 93, 153, 0, 5]
abbrev dktX3_label_0 : List UInt8 := dkwX3_label_0 ++ dktX3_label_1
theorem dksX3_label_0 : cX3_label.data.toList.drop 0 = dktX3_label_0 := by decide +kernel
theorem dksX3_label_1 : cX3_label.data.toList.drop 24 = dktX3_label_1 := dk_seg dksX3_label_0 24 rfl rfl
theorem dksX3_label_2 : cX3_label.data.toList.drop 48 = dktX3_label_2 := dk_seg dksX3_label_1 24 rfl rfl
theorem dksX3_label_3 : cX3_label.data.toList.drop 72 = dktX3_label_3 := dk_seg dksX3_label_2 24 rfl rfl
theorem dksX3_label_4 : cX3_label.data.toList.drop 96 = dktX3_label_4 := dk_seg dksX3_label_3 24 rfl rfl
theorem dX3_label_0 : decode cX3_label 0 = .ok (.aload_n 0, 1) := dk_42 (dk_at dksX3_label_0 0 rfl rfl)
theorem dX3_label_1 : decode cX3_label 1 = .ok (.aload_n 0, 1) := dk_42 (dk_at dksX3_label_0 1 rfl rfl)
theorem dX3_label_2 : decode cX3_label 2 = .ok (.iload_n 1, 1) := dk_27 (dk_at dksX3_label_0 2 rfl rfl)
theorem dX3_label_3 : decode cX3_label 3 = .ok (.invokevirtual 136, 3) := dk_182 0 136 (dk_at dksX3_label_0 3 rfl rfl)
theorem dX3_label_6 : decode cX3_label 6 = .ok (.ifCond .eq 11, 3) := dk_153 0 11 (dk_at dksX3_label_0 6 rfl rfl)
theorem dX3_label_9 : decode cX3_label 9 = .ok (.iload_n 2, 1) := dk_28 (dk_at dksX3_label_0 9 rfl rfl)
theorem dX3_label_10 : decode cX3_label 10 = .ok (.ifCond .lt 7, 3) := dk_155 0 7 (dk_at dksX3_label_0 10 rfl rfl)
theorem dX3_label_13 : decode cX3_label 13 = .ok (.iconst 0, 1) := dk_3 (dk_at dksX3_label_0 13 rfl rfl)
theorem dX3_label_14 : decode cX3_label 14 = .ok (.goto 4, 3) := dk_167 0 4 (dk_at dksX3_label_0 14 rfl rfl)
theorem dX3_label_17 : decode cX3_label 17 = .ok (.iconst 1, 1) := dk_4 (dk_at dksX3_label_0 17 rfl rfl)
theorem dX3_label_18 : decode cX3_label 18 = .ok (.invokevirtual 93, 3) := dk_182 0 93 (dk_at dksX3_label_0 18 rfl rfl)
theorem dX3_label_21 : decode cX3_label 21 = .ok (.ifCond .eq 5, 3) := dk_153 0 5 (dk_at dksX3_label_0 21 rfl rfl)
theorem dX3_label_24 : decode cX3_label 24 = .ok (.iconst 0, 1) := dk_3 (dk_at dksX3_label_1 0 rfl rfl)
theorem dX3_label_25 : decode cX3_label 25 = .ok (.ireturn, 1) := dk_172 (dk_at dksX3_label_1 1 rfl rfl)
theorem dX3_label_26 : decode cX3_label 26 = .ok (.aload_n 0, 1) := dk_42 (dk_at dksX3_label_1 2 rfl rfl)
theorem dX3_label_27 : decode cX3_label 27 = .ok (.iconst 0, 1) := dk_3 (dk_at dksX3_label_1 3 rfl rfl)
theorem dX3_label_28 : decode cX3_label 28 = .ok (.putfield 153, 3) := dk_181 0 153 (dk_at dksX3_label_1 4 rfl rfl)
theorem dX3_label_31 : decode cX3_label 31 = .ok (.aload_n 0, 1) := dk_42 (dk_at dksX3_label_1 7 rfl rfl)
theorem dX3_label_32 : decode cX3_label 32 = .ok (.iload_n 1, 1) := dk_27 (dk_at dksX3_label_1 8 rfl rfl)
theorem dX3_label_33 : decode cX3_label 33 = .ok (.invokevirtual 159, 3) := dk_182 0 159 (dk_at dksX3_label_1 9 rfl rfl)
theorem dX3_label_36 : decode cX3_label 36 = .ok (.aload_n 0, 1) := dk_42 (dk_at dksX3_label_1 12 rfl rfl)
theorem dX3_label_37 : decode cX3_label 37 = .ok (.bipush 58, 2) := dk_16 58 (dk_at dksX3_label_1 13 rfl rfl)
theorem dX3_label_39 : decode cX3_label 39 = .ok (.invokevirtual 156, 3) := dk_182 0 156 (dk_at dksX3_label_1 15 rfl rfl)
theorem dX3_label_42 : decode cX3_label 42 = .ok (.aload_n 0, 1) := dk_42 (dk_at dksX3_label_1 18 rfl rfl)
theorem dX3_label_43 : decode cX3_label 43 = .ok (.aload_n 0, 1) := dk_42 (dk_at dksX3_label_1 19 rfl rfl)
theorem dX3_label_44 : decode cX3_label 44 = .ok (.getfield 37, 3) := dk_180 0 37 (dk_at dksX3_label_1 20 rfl rfl)
theorem dX3_label_47 : decode cX3_label 47 = .ok (.iload_n 1, 1) := dk_27 (dk_at dksX3_label_1 23 rfl rfl)
theorem dX3_label_48 : decode cX3_label 48 = .ok (.iaload, 1) := dk_46 (dk_at dksX3_label_2 0 rfl rfl)
theorem dX3_label_49 : decode cX3_label 49 = .ok (.invokevirtual 159, 3) := dk_182 0 159 (dk_at dksX3_label_2 1 rfl rfl)
theorem dX3_label_52 : decode cX3_label 52 = .ok (.aload_n 0, 1) := dk_42 (dk_at dksX3_label_2 4 rfl rfl)
theorem dX3_label_53 : decode cX3_label 53 = .ok (.bipush 47, 2) := dk_16 47 (dk_at dksX3_label_2 5 rfl rfl)
theorem dX3_label_55 : decode cX3_label 55 = .ok (.invokevirtual 156, 3) := dk_182 0 156 (dk_at dksX3_label_2 7 rfl rfl)
theorem dX3_label_58 : decode cX3_label 58 = .ok (.aload_n 0, 1) := dk_42 (dk_at dksX3_label_2 10 rfl rfl)
theorem dX3_label_59 : decode cX3_label 59 = .ok (.aload_n 0, 1) := dk_42 (dk_at dksX3_label_2 11 rfl rfl)
theorem dX3_label_60 : decode cX3_label 60 = .ok (.getfield 40, 3) := dk_180 0 40 (dk_at dksX3_label_2 12 rfl rfl)
theorem dX3_label_63 : decode cX3_label 63 = .ok (.iload_n 1, 1) := dk_27 (dk_at dksX3_label_2 15 rfl rfl)
theorem dX3_label_64 : decode cX3_label 64 = .ok (.iaload, 1) := dk_46 (dk_at dksX3_label_2 16 rfl rfl)
theorem dX3_label_65 : decode cX3_label 65 = .ok (.invokevirtual 159, 3) := dk_182 0 159 (dk_at dksX3_label_2 17 rfl rfl)
theorem dX3_label_68 : decode cX3_label 68 = .ok (.aload_n 0, 1) := dk_42 (dk_at dksX3_label_2 20 rfl rfl)
theorem dX3_label_69 : decode cX3_label 69 = .ok (.getfield 46, 3) := dk_180 0 46 (dk_at dksX3_label_2 21 rfl rfl)
theorem dX3_label_72 : decode cX3_label 72 = .ok (.iload_n 1, 1) := dk_27 (dk_at dksX3_label_3 0 rfl rfl)
theorem dX3_label_73 : decode cX3_label 73 = .ok (.iaload, 1) := dk_46 (dk_at dksX3_label_3 1 rfl rfl)
theorem dX3_label_74 : decode cX3_label 74 = .ok (.iconst (-1), 1) := dk_2 (dk_at dksX3_label_3 2 rfl rfl)
theorem dX3_label_75 : decode cX3_label 75 = .ok (.if_icmp .eq 19, 3) := dk_159 0 19 (dk_at dksX3_label_3 3 rfl rfl)
theorem dX3_label_78 : decode cX3_label 78 = .ok (.aload_n 0, 1) := dk_42 (dk_at dksX3_label_3 6 rfl rfl)
theorem dX3_label_79 : decode cX3_label 79 = .ok (.bipush 64, 2) := dk_16 64 (dk_at dksX3_label_3 7 rfl rfl)
theorem dX3_label_81 : decode cX3_label 81 = .ok (.invokevirtual 156, 3) := dk_182 0 156 (dk_at dksX3_label_3 9 rfl rfl)
theorem dX3_label_84 : decode cX3_label 84 = .ok (.aload_n 0, 1) := dk_42 (dk_at dksX3_label_3 12 rfl rfl)
theorem dX3_label_85 : decode cX3_label 85 = .ok (.aload_n 0, 1) := dk_42 (dk_at dksX3_label_3 13 rfl rfl)
theorem dX3_label_86 : decode cX3_label 86 = .ok (.getfield 46, 3) := dk_180 0 46 (dk_at dksX3_label_3 14 rfl rfl)
theorem dX3_label_89 : decode cX3_label 89 = .ok (.iload_n 1, 1) := dk_27 (dk_at dksX3_label_3 17 rfl rfl)
theorem dX3_label_90 : decode cX3_label 90 = .ok (.iaload, 1) := dk_46 (dk_at dksX3_label_3 18 rfl rfl)
theorem dX3_label_91 : decode cX3_label 91 = .ok (.invokevirtual 159, 3) := dk_182 0 159 (dk_at dksX3_label_3 19 rfl rfl)
theorem dX3_label_94 : decode cX3_label 94 = .ok (.iload_n 2, 1) := dk_28 (dk_at dksX3_label_3 22 rfl rfl)
theorem dX3_label_95 : decode cX3_label 95 = .ok (.aload_n 0, 1) := dk_42 (dk_at dksX3_label_3 23 rfl rfl)
theorem dX3_label_96 : decode cX3_label 96 = .ok (.getfield 153, 3) := dk_180 0 153 (dk_at dksX3_label_4 0 rfl rfl)
theorem dX3_label_99 : decode cX3_label 99 = .ok (.if_icmp .ge 13, 3) := dk_162 0 13 (dk_at dksX3_label_4 3 rfl rfl)
theorem dX3_label_102 : decode cX3_label 102 = .ok (.aload_n 0, 1) := dk_42 (dk_at dksX3_label_4 6 rfl rfl)
theorem dX3_label_103 : decode cX3_label 103 = .ok (.getfield 76, 3) := dk_180 0 76 (dk_at dksX3_label_4 7 rfl rfl)
theorem dX3_label_106 : decode cX3_label 106 = .ok (.iload_n 2, 1) := dk_28 (dk_at dksX3_label_4 10 rfl rfl)
theorem dX3_label_107 : decode cX3_label 107 = .ok (.iaload, 1) := dk_46 (dk_at dksX3_label_4 11 rfl rfl)
theorem dX3_label_108 : decode cX3_label 108 = .ok (.i2c, 1) := dk_146 (dk_at dksX3_label_4 12 rfl rfl)
theorem dX3_label_109 : decode cX3_label 109 = .ok (.goto 4, 3) := dk_167 0 4 (dk_at dksX3_label_4 13 rfl rfl)
theorem dX3_label_112 : decode cX3_label 112 = .ok (.iconst 0, 1) := dk_3 (dk_at dksX3_label_4 16 rfl rfl)
theorem dX3_label_113 : decode cX3_label 113 = .ok (.ireturn, 1) := dk_172 (dk_at dksX3_label_4 17 rfl rfl)
abbrev cX3_putsNumber : ByteArray := prog_12_method_34_code
def yX3_putsNumber : MethodName := ⟨RX3, "putsNumber", "(I)V"⟩
def dkwX3_putsNumber_1 : List UInt8 := [96, 182, 0, 156, 177]
abbrev dktX3_putsNumber_1 : List UInt8 := dkwX3_putsNumber_1 ++ []
def dkwX3_putsNumber_0 : List UInt8 := [27, 16, 9, 164, 0, 14, 42, 16, 48, 27, 16, 10, 108, 96, 182, 0, 156, 42, 16, 48, 27, 16, 10, 112]
abbrev dktX3_putsNumber_0 : List UInt8 := dkwX3_putsNumber_0 ++ dktX3_putsNumber_1
theorem dksX3_putsNumber_0 : cX3_putsNumber.data.toList.drop 0 = dktX3_putsNumber_0 := by decide +kernel
theorem dksX3_putsNumber_1 : cX3_putsNumber.data.toList.drop 24 = dktX3_putsNumber_1 := dk_seg dksX3_putsNumber_0 24 rfl rfl
theorem dX3_putsNumber_0 : decode cX3_putsNumber 0 = .ok (.iload_n 1, 1) := dk_27 (dk_at dksX3_putsNumber_0 0 rfl rfl)
theorem dX3_putsNumber_1 : decode cX3_putsNumber 1 = .ok (.bipush 9, 2) := dk_16 9 (dk_at dksX3_putsNumber_0 1 rfl rfl)
theorem dX3_putsNumber_3 : decode cX3_putsNumber 3 = .ok (.if_icmp .le 14, 3) := dk_164 0 14 (dk_at dksX3_putsNumber_0 3 rfl rfl)
theorem dX3_putsNumber_6 : decode cX3_putsNumber 6 = .ok (.aload_n 0, 1) := dk_42 (dk_at dksX3_putsNumber_0 6 rfl rfl)
theorem dX3_putsNumber_7 : decode cX3_putsNumber 7 = .ok (.bipush 48, 2) := dk_16 48 (dk_at dksX3_putsNumber_0 7 rfl rfl)
theorem dX3_putsNumber_9 : decode cX3_putsNumber 9 = .ok (.iload_n 1, 1) := dk_27 (dk_at dksX3_putsNumber_0 9 rfl rfl)
theorem dX3_putsNumber_10 : decode cX3_putsNumber 10 = .ok (.bipush 10, 2) := dk_16 10 (dk_at dksX3_putsNumber_0 10 rfl rfl)
theorem dX3_putsNumber_12 : decode cX3_putsNumber 12 = .ok (.idiv, 1) := dk_108 (dk_at dksX3_putsNumber_0 12 rfl rfl)
theorem dX3_putsNumber_13 : decode cX3_putsNumber 13 = .ok (.iadd, 1) := dk_96 (dk_at dksX3_putsNumber_0 13 rfl rfl)
theorem dX3_putsNumber_14 : decode cX3_putsNumber 14 = .ok (.invokevirtual 156, 3) := dk_182 0 156 (dk_at dksX3_putsNumber_0 14 rfl rfl)
theorem dX3_putsNumber_17 : decode cX3_putsNumber 17 = .ok (.aload_n 0, 1) := dk_42 (dk_at dksX3_putsNumber_0 17 rfl rfl)
theorem dX3_putsNumber_18 : decode cX3_putsNumber 18 = .ok (.bipush 48, 2) := dk_16 48 (dk_at dksX3_putsNumber_0 18 rfl rfl)
theorem dX3_putsNumber_20 : decode cX3_putsNumber 20 = .ok (.iload_n 1, 1) := dk_27 (dk_at dksX3_putsNumber_0 20 rfl rfl)
theorem dX3_putsNumber_21 : decode cX3_putsNumber 21 = .ok (.bipush 10, 2) := dk_16 10 (dk_at dksX3_putsNumber_0 21 rfl rfl)
theorem dX3_putsNumber_23 : decode cX3_putsNumber 23 = .ok (.irem, 1) := dk_112 (dk_at dksX3_putsNumber_0 23 rfl rfl)
theorem dX3_putsNumber_24 : decode cX3_putsNumber 24 = .ok (.iadd, 1) := dk_96 (dk_at dksX3_putsNumber_1 0 rfl rfl)
theorem dX3_putsNumber_25 : decode cX3_putsNumber 25 = .ok (.invokevirtual 156, 3) := dk_182 0 156 (dk_at dksX3_putsNumber_1 1 rfl rfl)
theorem dX3_putsNumber_28 : decode cX3_putsNumber 28 = .ok (.return_, 1) := dk_177 (dk_at dksX3_putsNumber_1 4 rfl rfl)
abbrev cX3_puts : ByteArray := prog_12_method_33_code
def yX3_puts : MethodName := ⟨RX3, "puts", "(I)V"⟩
def dkwX3_puts_0 : List UInt8 := [42, 180, 0, 76, 42, 180, 0, 153, 27, 79, 42, 89, 180, 0, 153, 4, 96, 181, 0, 153, 177]
abbrev dktX3_puts_0 : List UInt8 := dkwX3_puts_0 ++ []
theorem dksX3_puts_0 : cX3_puts.data.toList.drop 0 = dktX3_puts_0 := by decide +kernel
theorem dX3_puts_0 : decode cX3_puts 0 = .ok (.aload_n 0, 1) := dk_42 (dk_at dksX3_puts_0 0 rfl rfl)
theorem dX3_puts_1 : decode cX3_puts 1 = .ok (.getfield 76, 3) := dk_180 0 76 (dk_at dksX3_puts_0 1 rfl rfl)
theorem dX3_puts_4 : decode cX3_puts 4 = .ok (.aload_n 0, 1) := dk_42 (dk_at dksX3_puts_0 4 rfl rfl)
theorem dX3_puts_5 : decode cX3_puts 5 = .ok (.getfield 153, 3) := dk_180 0 153 (dk_at dksX3_puts_0 5 rfl rfl)
theorem dX3_puts_8 : decode cX3_puts 8 = .ok (.iload_n 1, 1) := dk_27 (dk_at dksX3_puts_0 8 rfl rfl)
theorem dX3_puts_9 : decode cX3_puts 9 = .ok (.iastore, 1) := dk_79 (dk_at dksX3_puts_0 9 rfl rfl)
theorem dX3_puts_10 : decode cX3_puts 10 = .ok (.aload_n 0, 1) := dk_42 (dk_at dksX3_puts_0 10 rfl rfl)
theorem dX3_puts_11 : decode cX3_puts 11 = .ok (.dup, 1) := dk_89 (dk_at dksX3_puts_0 11 rfl rfl)
theorem dX3_puts_12 : decode cX3_puts 12 = .ok (.getfield 153, 3) := dk_180 0 153 (dk_at dksX3_puts_0 12 rfl rfl)
theorem dX3_puts_15 : decode cX3_puts 15 = .ok (.iconst 1, 1) := dk_4 (dk_at dksX3_puts_0 15 rfl rfl)
theorem dX3_puts_16 : decode cX3_puts 16 = .ok (.iadd, 1) := dk_96 (dk_at dksX3_puts_0 16 rfl rfl)
theorem dX3_puts_17 : decode cX3_puts 17 = .ok (.putfield 153, 3) := dk_181 0 153 (dk_at dksX3_puts_0 17 rfl rfl)
theorem dX3_puts_20 : decode cX3_puts 20 = .ok (.return_, 1) := dk_177 (dk_at dksX3_puts_0 20 rfl rfl)
theorem q44 : (Jvm.Cond.initialized "SkinLeagueModel") ∈ lw_all := lw_g (lw_at lw_m1 9 rfl) rfl
theorem q353 : (Jvm.Cond.selects "SkinLeagueModel" ({ cls := "java/lang/Object", name := "getClass", desc := "()Ljava/lang/Class;" } : Jvm.MethodName) ({ cls := "java/lang/Object", name := "getClass", desc := "()Ljava/lang/Class;" } : Jvm.MethodName)) ∈ lw_all := lw_g (lw_at lw_m2 78 rfl) rfl
theorem q978 : (Jvm.Cond.selects "SkinLeagueModel" ({ cls := "java/lang/Object", name := "hashCode", desc := "()I" } : Jvm.MethodName) ({ cls := "java/lang/Object", name := "hashCode", desc := "()I" } : Jvm.MethodName)) ∈ lw_all := lw_g (lw_at lw_m4 223 rfl) rfl
theorem q1321 : (Jvm.Cond.selects "SkinLeagueModel" ({ cls := "java/lang/Object", name := "equals", desc := "(Ljava/lang/Object;)Z" } : Jvm.MethodName) ({ cls := "java/lang/Object", name := "equals", desc := "(Ljava/lang/Object;)Z" } : Jvm.MethodName)) ∈ lw_all := lw_g (lw_at lw_m6 86 rfl) rfl
theorem q1768 : (Jvm.Cond.selects "SkinLeagueModel" ({ cls := "java/lang/Object", name := "toString", desc := "()Ljava/lang/String;" } : Jvm.MethodName) ({ cls := "java/lang/Object", name := "toString", desc := "()Ljava/lang/String;" } : Jvm.MethodName)) ∈ lw_all := lw_g (lw_at lw_m8 53 rfl) rfl
theorem q1831 : (Jvm.Cond.instantiable "SkinLeagueModel" (30 : Nat)) ∈ lw_all := lw_g (lw_at lw_m8 116 rfl) rfl
theorem q1833 : (Jvm.Cond.instanceMethod ({ cls := "SkinLeagueModel", name := "<init>", desc := "()V" } : Jvm.MethodName)) ∈ lw_all := lw_g (lw_at lw_m8 118 rfl) rfl
theorem q1834 : (Jvm.Cond.code ({ cls := "SkinLeagueModel", name := "<init>", desc := "()V" } : Jvm.MethodName) prog_12_method_1_code (2 : Nat) (Option.none : Option Jvm.ClassFile.FieldType)) ∈ lw_all := lw_g (lw_at lw_m8 119 rfl) rfl
theorem q1835 : (Jvm.Cond.methodLink "SkinLeagueModel" (1 : Nat) ({ cls := "java/lang/Object", name := "<init>", desc := "()V" } : Jvm.MethodName)) ∈ lw_all := lw_g (lw_at lw_m8 120 rfl) rfl
theorem q1836 : (Jvm.Cond.fieldLink "SkinLeagueModel" (90 : Nat) "SkinLeagueModel" "day" "I") ∈ lw_all := lw_g (lw_at lw_m8 121 rfl) rfl
theorem q1837 : (Jvm.Cond.fieldLink "SkinLeagueModel" (83 : Nat) "SkinLeagueModel" "players" "I") ∈ lw_all := lw_g (lw_at lw_m8 122 rfl) rfl
theorem q1838 : (Jvm.Cond.fieldLink "SkinLeagueModel" (7 : Nat) "SkinLeagueModel" "since" "[I") ∈ lw_all := lw_g (lw_at lw_m8 123 rfl) rfl
theorem q1839 : (Jvm.Cond.fieldLink "SkinLeagueModel" (13 : Nat) "SkinLeagueModel" "banned" "[I") ∈ lw_all := lw_g (lw_at lw_m8 124 rfl) rfl
theorem q1840 : (Jvm.Cond.fieldLink "SkinLeagueModel" (16 : Nat) "SkinLeagueModel" "money" "[I") ∈ lw_all := lw_g (lw_at lw_m8 125 rfl) rfl
theorem q1841 : (Jvm.Cond.fieldLink "SkinLeagueModel" (19 : Nat) "SkinLeagueModel" "room" "[I") ∈ lw_all := lw_g (lw_at lw_m8 126 rfl) rfl
theorem q1842 : (Jvm.Cond.fieldLink "SkinLeagueModel" (97 : Nat) "SkinLeagueModel" "matches" "I") ∈ lw_all := lw_g (lw_at lw_m8 127 rfl) rfl
theorem q1843 : (Jvm.Cond.fieldLink "SkinLeagueModel" (22 : Nat) "SkinLeagueModel" "winner" "[I") ∈ lw_all := lw_g (lw_at lw_m8 128 rfl) rfl
theorem q1844 : (Jvm.Cond.fieldLink "SkinLeagueModel" (25 : Nat) "SkinLeagueModel" "loser" "[I") ∈ lw_all := lw_g (lw_at lw_m8 129 rfl) rfl
theorem q1845 : (Jvm.Cond.fieldLink "SkinLeagueModel" (28 : Nat) "SkinLeagueModel" "region" "[I") ∈ lw_all := lw_g (lw_at lw_m8 130 rfl) rfl
theorem q1846 : (Jvm.Cond.fieldLink "SkinLeagueModel" (31 : Nat) "SkinLeagueModel" "played" "[I") ∈ lw_all := lw_g (lw_at lw_m8 131 rfl) rfl
theorem q1847 : (Jvm.Cond.fieldLink "SkinLeagueModel" (34 : Nat) "SkinLeagueModel" "inSeason" "[I") ∈ lw_all := lw_g (lw_at lw_m8 132 rfl) rfl
theorem q1848 : (Jvm.Cond.fieldLink "SkinLeagueModel" (113 : Nat) "SkinLeagueModel" "season" "I") ∈ lw_all := lw_g (lw_at lw_m8 133 rfl) rfl
theorem q1849 : (Jvm.Cond.fieldLink "SkinLeagueModel" (133 : Nat) "SkinLeagueModel" "skins" "I") ∈ lw_all := lw_g (lw_at lw_m8 134 rfl) rfl
theorem q1850 : (Jvm.Cond.fieldLink "SkinLeagueModel" (37 : Nat) "SkinLeagueModel" "skinSeason" "[I") ∈ lw_all := lw_g (lw_at lw_m8 135 rfl) rfl
theorem q1851 : (Jvm.Cond.fieldLink "SkinLeagueModel" (40 : Nat) "SkinLeagueModel" "skinPlace" "[I") ∈ lw_all := lw_g (lw_at lw_m8 136 rfl) rfl
theorem q1852 : (Jvm.Cond.fieldLink "SkinLeagueModel" (43 : Nat) "SkinLeagueModel" "heir" "[I") ∈ lw_all := lw_g (lw_at lw_m8 137 rfl) rfl
theorem q1853 : (Jvm.Cond.fieldLink "SkinLeagueModel" (46 : Nat) "SkinLeagueModel" "holder" "[I") ∈ lw_all := lw_g (lw_at lw_m8 138 rfl) rfl
theorem q1854 : (Jvm.Cond.fieldLink "SkinLeagueModel" (49 : Nat) "SkinLeagueModel" "borrower" "[I") ∈ lw_all := lw_g (lw_at lw_m8 139 rfl) rfl
theorem q1855 : (Jvm.Cond.fieldLink "SkinLeagueModel" (52 : Nat) "SkinLeagueModel" "until" "[I") ∈ lw_all := lw_g (lw_at lw_m8 140 rfl) rfl
theorem q1856 : (Jvm.Cond.fieldLink "SkinLeagueModel" (55 : Nat) "SkinLeagueModel" "faith" "[I") ∈ lw_all := lw_g (lw_at lw_m8 141 rfl) rfl
theorem q1857 : (Jvm.Cond.fieldLink "SkinLeagueModel" (58 : Nat) "SkinLeagueModel" "sales" "[I") ∈ lw_all := lw_g (lw_at lw_m8 142 rfl) rfl
theorem q1858 : (Jvm.Cond.fieldLink "SkinLeagueModel" (61 : Nat) "SkinLeagueModel" "seller" "[I") ∈ lw_all := lw_g (lw_at lw_m8 143 rfl) rfl
theorem q1859 : (Jvm.Cond.fieldLink "SkinLeagueModel" (64 : Nat) "SkinLeagueModel" "buyer" "[I") ∈ lw_all := lw_g (lw_at lw_m8 144 rfl) rfl
theorem q1860 : (Jvm.Cond.fieldLink "SkinLeagueModel" (67 : Nat) "SkinLeagueModel" "price" "[I") ∈ lw_all := lw_g (lw_at lw_m8 145 rfl) rfl
theorem q1861 : (Jvm.Cond.fieldLink "SkinLeagueModel" (70 : Nat) "SkinLeagueModel" "points" "[I") ∈ lw_all := lw_g (lw_at lw_m8 146 rfl) rfl
theorem q1862 : (Jvm.Cond.fieldLink "SkinLeagueModel" (73 : Nat) "SkinLeagueModel" "many" "[I") ∈ lw_all := lw_g (lw_at lw_m8 147 rfl) rfl
theorem q1863 : (Jvm.Cond.fieldLink "SkinLeagueModel" (76 : Nat) "SkinLeagueModel" "text" "[I") ∈ lw_all := lw_g (lw_at lw_m8 148 rfl) rfl
theorem q1864 : (Jvm.Cond.fieldLink "SkinLeagueModel" (153 : Nat) "SkinLeagueModel" "written" "I") ∈ lw_all := lw_g (lw_at lw_m8 149 rfl) rfl
theorem q1865 : (Jvm.Cond.fieldLink "SkinLeagueModel" (79 : Nat) "SkinLeagueModel" "thrown" "I") ∈ lw_all := lw_g (lw_at lw_m8 150 rfl) rfl
theorem q1866 : (Jvm.Cond.lays "SkinLeagueModel" "SkinLeagueModel" "day" "I") ∈ lw_all := lw_g (lw_at lw_m8 151 rfl) rfl
theorem q1867 : (Jvm.Cond.soleField "SkinLeagueModel" "day") ∈ lw_all := lw_g (lw_at lw_m8 152 rfl) rfl
theorem q1868 : (Jvm.Cond.lays "SkinLeagueModel" "SkinLeagueModel" "players" "I") ∈ lw_all := lw_g (lw_at lw_m8 153 rfl) rfl
theorem q1869 : (Jvm.Cond.soleField "SkinLeagueModel" "players") ∈ lw_all := lw_g (lw_at lw_m8 154 rfl) rfl
theorem q1870 : (Jvm.Cond.laysFinal "SkinLeagueModel" "SkinLeagueModel" "since" "[I") ∈ lw_all := lw_g (lw_at lw_m8 155 rfl) rfl
theorem q1871 : (Jvm.Cond.soleField "SkinLeagueModel" "since") ∈ lw_all := lw_g (lw_at lw_m8 156 rfl) rfl
theorem q1872 : (Jvm.Cond.laysFinal "SkinLeagueModel" "SkinLeagueModel" "banned" "[I") ∈ lw_all := lw_g (lw_at lw_m8 157 rfl) rfl
theorem q1873 : (Jvm.Cond.soleField "SkinLeagueModel" "banned") ∈ lw_all := lw_g (lw_at lw_m8 158 rfl) rfl
theorem q1874 : (Jvm.Cond.laysFinal "SkinLeagueModel" "SkinLeagueModel" "money" "[I") ∈ lw_all := lw_g (lw_at lw_m8 159 rfl) rfl
theorem q1875 : (Jvm.Cond.soleField "SkinLeagueModel" "money") ∈ lw_all := lw_g (lw_at lw_m8 160 rfl) rfl
theorem q1876 : (Jvm.Cond.laysFinal "SkinLeagueModel" "SkinLeagueModel" "room" "[I") ∈ lw_all := lw_g (lw_at lw_m8 161 rfl) rfl
theorem q1877 : (Jvm.Cond.soleField "SkinLeagueModel" "room") ∈ lw_all := lw_g (lw_at lw_m8 162 rfl) rfl
theorem q1878 : (Jvm.Cond.lays "SkinLeagueModel" "SkinLeagueModel" "matches" "I") ∈ lw_all := lw_g (lw_at lw_m8 163 rfl) rfl
theorem q1879 : (Jvm.Cond.soleField "SkinLeagueModel" "matches") ∈ lw_all := lw_g (lw_at lw_m8 164 rfl) rfl
theorem q1880 : (Jvm.Cond.laysFinal "SkinLeagueModel" "SkinLeagueModel" "winner" "[I") ∈ lw_all := lw_g (lw_at lw_m8 165 rfl) rfl
theorem q1881 : (Jvm.Cond.soleField "SkinLeagueModel" "winner") ∈ lw_all := lw_g (lw_at lw_m8 166 rfl) rfl
theorem q1882 : (Jvm.Cond.laysFinal "SkinLeagueModel" "SkinLeagueModel" "loser" "[I") ∈ lw_all := lw_g (lw_at lw_m8 167 rfl) rfl
theorem q1883 : (Jvm.Cond.soleField "SkinLeagueModel" "loser") ∈ lw_all := lw_g (lw_at lw_m8 168 rfl) rfl
theorem q1884 : (Jvm.Cond.laysFinal "SkinLeagueModel" "SkinLeagueModel" "region" "[I") ∈ lw_all := lw_g (lw_at lw_m8 169 rfl) rfl
theorem q1885 : (Jvm.Cond.soleField "SkinLeagueModel" "region") ∈ lw_all := lw_g (lw_at lw_m8 170 rfl) rfl
theorem q1886 : (Jvm.Cond.laysFinal "SkinLeagueModel" "SkinLeagueModel" "played" "[I") ∈ lw_all := lw_g (lw_at lw_m8 171 rfl) rfl
theorem q1887 : (Jvm.Cond.soleField "SkinLeagueModel" "played") ∈ lw_all := lw_g (lw_at lw_m8 172 rfl) rfl
theorem q1888 : (Jvm.Cond.laysFinal "SkinLeagueModel" "SkinLeagueModel" "inSeason" "[I") ∈ lw_all := lw_g (lw_at lw_m8 173 rfl) rfl
theorem q1889 : (Jvm.Cond.soleField "SkinLeagueModel" "inSeason") ∈ lw_all := lw_g (lw_at lw_m8 174 rfl) rfl
theorem q1890 : (Jvm.Cond.lays "SkinLeagueModel" "SkinLeagueModel" "season" "I") ∈ lw_all := lw_g (lw_at lw_m8 175 rfl) rfl
theorem q1891 : (Jvm.Cond.soleField "SkinLeagueModel" "season") ∈ lw_all := lw_g (lw_at lw_m8 176 rfl) rfl
theorem q1892 : (Jvm.Cond.lays "SkinLeagueModel" "SkinLeagueModel" "skins" "I") ∈ lw_all := lw_g (lw_at lw_m8 177 rfl) rfl
theorem q1893 : (Jvm.Cond.soleField "SkinLeagueModel" "skins") ∈ lw_all := lw_g (lw_at lw_m8 178 rfl) rfl
theorem q1894 : (Jvm.Cond.laysFinal "SkinLeagueModel" "SkinLeagueModel" "skinSeason" "[I") ∈ lw_all := lw_g (lw_at lw_m8 179 rfl) rfl
theorem q1895 : (Jvm.Cond.soleField "SkinLeagueModel" "skinSeason") ∈ lw_all := lw_g (lw_at lw_m8 180 rfl) rfl
theorem q1896 : (Jvm.Cond.laysFinal "SkinLeagueModel" "SkinLeagueModel" "skinPlace" "[I") ∈ lw_all := lw_g (lw_at lw_m8 181 rfl) rfl
theorem q1897 : (Jvm.Cond.soleField "SkinLeagueModel" "skinPlace") ∈ lw_all := lw_g (lw_at lw_m8 182 rfl) rfl
theorem q1898 : (Jvm.Cond.laysFinal "SkinLeagueModel" "SkinLeagueModel" "heir" "[I") ∈ lw_all := lw_g (lw_at lw_m8 183 rfl) rfl
theorem q1899 : (Jvm.Cond.soleField "SkinLeagueModel" "heir") ∈ lw_all := lw_g (lw_at lw_m8 184 rfl) rfl
theorem q1900 : (Jvm.Cond.laysFinal "SkinLeagueModel" "SkinLeagueModel" "holder" "[I") ∈ lw_all := lw_g (lw_at lw_m8 185 rfl) rfl
theorem q1901 : (Jvm.Cond.soleField "SkinLeagueModel" "holder") ∈ lw_all := lw_g (lw_at lw_m8 186 rfl) rfl
theorem q1902 : (Jvm.Cond.laysFinal "SkinLeagueModel" "SkinLeagueModel" "borrower" "[I") ∈ lw_all := lw_g (lw_at lw_m8 187 rfl) rfl
theorem q1903 : (Jvm.Cond.soleField "SkinLeagueModel" "borrower") ∈ lw_all := lw_g (lw_at lw_m8 188 rfl) rfl
theorem q1904 : (Jvm.Cond.laysFinal "SkinLeagueModel" "SkinLeagueModel" "until" "[I") ∈ lw_all := lw_g (lw_at lw_m8 189 rfl) rfl
theorem q1905 : (Jvm.Cond.soleField "SkinLeagueModel" "until") ∈ lw_all := lw_g (lw_at lw_m8 190 rfl) rfl
theorem q1906 : (Jvm.Cond.laysFinal "SkinLeagueModel" "SkinLeagueModel" "faith" "[I") ∈ lw_all := lw_g (lw_at lw_m8 191 rfl) rfl
theorem q1907 : (Jvm.Cond.soleField "SkinLeagueModel" "faith") ∈ lw_all := lw_g (lw_at lw_m8 192 rfl) rfl
theorem q1908 : (Jvm.Cond.laysFinal "SkinLeagueModel" "SkinLeagueModel" "sales" "[I") ∈ lw_all := lw_g (lw_at lw_m8 193 rfl) rfl
theorem q1909 : (Jvm.Cond.soleField "SkinLeagueModel" "sales") ∈ lw_all := lw_g (lw_at lw_m8 194 rfl) rfl
theorem q1910 : (Jvm.Cond.laysFinal "SkinLeagueModel" "SkinLeagueModel" "seller" "[I") ∈ lw_all := lw_g (lw_at lw_m8 195 rfl) rfl
theorem q1911 : (Jvm.Cond.soleField "SkinLeagueModel" "seller") ∈ lw_all := lw_g (lw_at lw_m8 196 rfl) rfl
theorem q1912 : (Jvm.Cond.laysFinal "SkinLeagueModel" "SkinLeagueModel" "buyer" "[I") ∈ lw_all := lw_g (lw_at lw_m8 197 rfl) rfl
theorem q1913 : (Jvm.Cond.soleField "SkinLeagueModel" "buyer") ∈ lw_all := lw_g (lw_at lw_m8 198 rfl) rfl
theorem q1914 : (Jvm.Cond.laysFinal "SkinLeagueModel" "SkinLeagueModel" "price" "[I") ∈ lw_all := lw_g (lw_at lw_m8 199 rfl) rfl
theorem q1915 : (Jvm.Cond.soleField "SkinLeagueModel" "price") ∈ lw_all := lw_g (lw_at lw_m8 200 rfl) rfl
theorem q1916 : (Jvm.Cond.laysFinal "SkinLeagueModel" "SkinLeagueModel" "points" "[I") ∈ lw_all := lw_g (lw_at lw_m8 201 rfl) rfl
theorem q1917 : (Jvm.Cond.soleField "SkinLeagueModel" "points") ∈ lw_all := lw_g (lw_at lw_m8 202 rfl) rfl
theorem q1918 : (Jvm.Cond.laysFinal "SkinLeagueModel" "SkinLeagueModel" "many" "[I") ∈ lw_all := lw_g (lw_at lw_m8 203 rfl) rfl
theorem q1919 : (Jvm.Cond.soleField "SkinLeagueModel" "many") ∈ lw_all := lw_g (lw_at lw_m8 204 rfl) rfl
theorem q1920 : (Jvm.Cond.laysFinal "SkinLeagueModel" "SkinLeagueModel" "text" "[I") ∈ lw_all := lw_g (lw_at lw_m8 205 rfl) rfl
theorem q1921 : (Jvm.Cond.soleField "SkinLeagueModel" "text") ∈ lw_all := lw_g (lw_at lw_m8 206 rfl) rfl
theorem q1922 : (Jvm.Cond.lays "SkinLeagueModel" "SkinLeagueModel" "written" "I") ∈ lw_all := lw_g (lw_at lw_m8 207 rfl) rfl
theorem q1923 : (Jvm.Cond.soleField "SkinLeagueModel" "written") ∈ lw_all := lw_g (lw_at lw_m8 208 rfl) rfl
theorem q1924 : (Jvm.Cond.lays "SkinLeagueModel" "SkinLeagueModel" "thrown" "I") ∈ lw_all := lw_g (lw_at lw_m8 209 rfl) rfl
theorem q1925 : (Jvm.Cond.soleField "SkinLeagueModel" "thrown") ∈ lw_all := lw_g (lw_at lw_m8 210 rfl) rfl
theorem q1926 : (Jvm.Cond.superclass "SkinLeagueModel" "java/lang/Object") ∈ lw_all := lw_g (lw_at lw_m8 211 rfl) rfl
theorem q1928 : (Jvm.Cond.instanceMethod ({ cls := "SkinLeagueModel", name := "thrown", desc := "()I" } : Jvm.MethodName)) ∈ lw_all := lw_g (lw_at lw_m8 213 rfl) rfl
theorem q1929 : (Jvm.Cond.selects "SkinLeagueModel" ({ cls := "SkinLeagueModel", name := "thrown", desc := "()I" } : Jvm.MethodName) ({ cls := "SkinLeagueModel", name := "thrown", desc := "()I" } : Jvm.MethodName)) ∈ lw_all := lw_g (lw_at lw_m8 214 rfl) rfl
theorem q1930 : (Jvm.Cond.code ({ cls := "SkinLeagueModel", name := "thrown", desc := "()I" } : Jvm.MethodName) prog_12_method_2_code (1 : Nat) (Option.some Jvm.ClassFile.FieldType.int)) ∈ lw_all := lw_g (lw_at lw_m8 215 rfl) rfl
theorem q1932 : (Jvm.Cond.instanceMethod ({ cls := "SkinLeagueModel", name := "player", desc := "()I" } : Jvm.MethodName)) ∈ lw_all := lw_g (lw_at lw_m8 217 rfl) rfl
theorem q1933 : (Jvm.Cond.selects "SkinLeagueModel" ({ cls := "SkinLeagueModel", name := "player", desc := "()I" } : Jvm.MethodName) ({ cls := "SkinLeagueModel", name := "player", desc := "()I" } : Jvm.MethodName)) ∈ lw_all := lw_g (lw_at lw_m8 218 rfl) rfl
theorem q1934 : (Jvm.Cond.code ({ cls := "SkinLeagueModel", name := "player", desc := "()I" } : Jvm.MethodName) prog_12_method_7_code (1 : Nat) (Option.some Jvm.ClassFile.FieldType.int)) ∈ lw_all := lw_g (lw_at lw_m8 219 rfl) rfl
theorem q1935 : (Jvm.Cond.methodLink "SkinLeagueModel" (93 : Nat) ({ cls := "SkinLeagueModel", name := "fails", desc := "(I)Z" } : Jvm.MethodName)) ∈ lw_all := lw_g (lw_at lw_m8 220 rfl) rfl
theorem q1936 : (Jvm.Cond.privateMethod ({ cls := "SkinLeagueModel", name := "fails", desc := "(I)Z" } : Jvm.MethodName)) ∈ lw_tbl := lw_at lw_m8 221 rfl
theorem q1937 : (Jvm.Cond.instanceMethod ({ cls := "SkinLeagueModel", name := "fails", desc := "(I)Z" } : Jvm.MethodName)) ∈ lw_all := lw_g (lw_at lw_m8 222 rfl) rfl
theorem q1938 : (Jvm.Cond.code ({ cls := "SkinLeagueModel", name := "fails", desc := "(I)Z" } : Jvm.MethodName) prog_12_method_3_code (2 : Nat) (Option.some Jvm.ClassFile.FieldType.boolean)) ∈ lw_all := lw_g (lw_at lw_m8 223 rfl) rfl
theorem q1940 : (Jvm.Cond.instanceMethod ({ cls := "SkinLeagueModel", name := "room", desc := "(II)I" } : Jvm.MethodName)) ∈ lw_all := lw_g (lw_at lw_m8 225 rfl) rfl
theorem q1941 : (Jvm.Cond.selects "SkinLeagueModel" ({ cls := "SkinLeagueModel", name := "room", desc := "(II)I" } : Jvm.MethodName) ({ cls := "SkinLeagueModel", name := "room", desc := "(II)I" } : Jvm.MethodName)) ∈ lw_all := lw_g (lw_at lw_m8 226 rfl) rfl
theorem q1942 : (Jvm.Cond.code ({ cls := "SkinLeagueModel", name := "room", desc := "(II)I" } : Jvm.MethodName) prog_12_method_10_code (3 : Nat) (Option.some Jvm.ClassFile.FieldType.int)) ∈ lw_all := lw_g (lw_at lw_m8 227 rfl) rfl
theorem q1943 : (Jvm.Cond.methodLink "SkinLeagueModel" (100 : Nat) ({ cls := "SkinLeagueModel", name := "isRegion", desc := "(I)Z" } : Jvm.MethodName)) ∈ lw_all := lw_g (lw_at lw_m8 228 rfl) rfl
theorem q1944 : (Jvm.Cond.static ({ cls := "SkinLeagueModel", name := "isRegion", desc := "(I)Z" } : Jvm.MethodName)) ∈ lw_all := lw_g (lw_at lw_m8 229 rfl) rfl
theorem q1945 : (Jvm.Cond.code ({ cls := "SkinLeagueModel", name := "isRegion", desc := "(I)Z" } : Jvm.MethodName) prog_12_method_8_code (1 : Nat) (Option.some Jvm.ClassFile.FieldType.boolean)) ∈ lw_all := lw_g (lw_at lw_m8 230 rfl) rfl
theorem q1946 : (Jvm.Cond.methodLink "SkinLeagueModel" (86 : Nat) ({ cls := "SkinLeagueModel", name := "isIn", desc := "(III)Z" } : Jvm.MethodName)) ∈ lw_all := lw_g (lw_at lw_m8 231 rfl) rfl
theorem q1947 : (Jvm.Cond.static ({ cls := "SkinLeagueModel", name := "isIn", desc := "(III)Z" } : Jvm.MethodName)) ∈ lw_all := lw_g (lw_at lw_m8 232 rfl) rfl
theorem q1948 : (Jvm.Cond.code ({ cls := "SkinLeagueModel", name := "isIn", desc := "(III)Z" } : Jvm.MethodName) prog_12_method_4_code (3 : Nat) (Option.some Jvm.ClassFile.FieldType.boolean)) ∈ lw_all := lw_g (lw_at lw_m8 233 rfl) rfl
theorem q1949 : (Jvm.Cond.methodLink "SkinLeagueModel" (103 : Nat) ({ cls := "SkinLeagueModel", name := "today", desc := "(I)I" } : Jvm.MethodName)) ∈ lw_all := lw_g (lw_at lw_m8 234 rfl) rfl
theorem q1950 : (Jvm.Cond.privateMethod ({ cls := "SkinLeagueModel", name := "today", desc := "(I)I" } : Jvm.MethodName)) ∈ lw_tbl := lw_at lw_m8 235 rfl
theorem q1951 : (Jvm.Cond.instanceMethod ({ cls := "SkinLeagueModel", name := "today", desc := "(I)I" } : Jvm.MethodName)) ∈ lw_all := lw_g (lw_at lw_m8 236 rfl) rfl
theorem q1952 : (Jvm.Cond.code ({ cls := "SkinLeagueModel", name := "today", desc := "(I)I" } : Jvm.MethodName) prog_12_method_9_code (4 : Nat) (Option.some Jvm.ClassFile.FieldType.int)) ∈ lw_all := lw_g (lw_at lw_m8 237 rfl) rfl
theorem q1954 : (Jvm.Cond.instanceMethod ({ cls := "SkinLeagueModel", name := "match", desc := "(III)I" } : Jvm.MethodName)) ∈ lw_all := lw_g (lw_at lw_m8 239 rfl) rfl
theorem q1955 : (Jvm.Cond.selects "SkinLeagueModel" ({ cls := "SkinLeagueModel", name := "match", desc := "(III)I" } : Jvm.MethodName) ({ cls := "SkinLeagueModel", name := "match", desc := "(III)I" } : Jvm.MethodName)) ∈ lw_all := lw_g (lw_at lw_m9 0 rfl) rfl
theorem q1956 : (Jvm.Cond.code ({ cls := "SkinLeagueModel", name := "match", desc := "(III)I" } : Jvm.MethodName) prog_12_method_11_code (6 : Nat) (Option.some Jvm.ClassFile.FieldType.int)) ∈ lw_all := lw_g (lw_at lw_m9 1 rfl) rfl
theorem q1957 : (Jvm.Cond.methodLink "SkinLeagueModel" (107 : Nat) ({ cls := "SkinLeagueModel", name := "isPlayer", desc := "(I)Z" } : Jvm.MethodName)) ∈ lw_all := lw_g (lw_at lw_m9 2 rfl) rfl
theorem q1958 : (Jvm.Cond.privateMethod ({ cls := "SkinLeagueModel", name := "isPlayer", desc := "(I)Z" } : Jvm.MethodName)) ∈ lw_tbl := lw_at lw_m9 3 rfl
theorem q1959 : (Jvm.Cond.instanceMethod ({ cls := "SkinLeagueModel", name := "isPlayer", desc := "(I)Z" } : Jvm.MethodName)) ∈ lw_all := lw_g (lw_at lw_m9 4 rfl) rfl
theorem q1960 : (Jvm.Cond.code ({ cls := "SkinLeagueModel", name := "isPlayer", desc := "(I)Z" } : Jvm.MethodName) prog_12_method_5_code (2 : Nat) (Option.some Jvm.ClassFile.FieldType.boolean)) ∈ lw_all := lw_g (lw_at lw_m9 5 rfl) rfl
theorem q1961 : (Jvm.Cond.methodLink "SkinLeagueModel" (110 : Nat) ({ cls := "SkinLeagueModel", name := "isBanned", desc := "(I)Z" } : Jvm.MethodName)) ∈ lw_all := lw_g (lw_at lw_m9 6 rfl) rfl
theorem q1962 : (Jvm.Cond.privateMethod ({ cls := "SkinLeagueModel", name := "isBanned", desc := "(I)Z" } : Jvm.MethodName)) ∈ lw_tbl := lw_at lw_m9 7 rfl
theorem q1963 : (Jvm.Cond.instanceMethod ({ cls := "SkinLeagueModel", name := "isBanned", desc := "(I)Z" } : Jvm.MethodName)) ∈ lw_all := lw_g (lw_at lw_m9 8 rfl) rfl
theorem q1964 : (Jvm.Cond.code ({ cls := "SkinLeagueModel", name := "isBanned", desc := "(I)Z" } : Jvm.MethodName) prog_12_method_6_code (2 : Nat) (Option.some Jvm.ClassFile.FieldType.boolean)) ∈ lw_all := lw_g (lw_at lw_m9 9 rfl) rfl
theorem q1966 : (Jvm.Cond.instanceMethod ({ cls := "SkinLeagueModel", name := "end", desc := "()I" } : Jvm.MethodName)) ∈ lw_all := lw_g (lw_at lw_m9 11 rfl) rfl
theorem q1967 : (Jvm.Cond.selects "SkinLeagueModel" ({ cls := "SkinLeagueModel", name := "end", desc := "()I" } : Jvm.MethodName) ({ cls := "SkinLeagueModel", name := "end", desc := "()I" } : Jvm.MethodName)) ∈ lw_all := lw_g (lw_at lw_m9 12 rfl) rfl
theorem q1968 : (Jvm.Cond.code ({ cls := "SkinLeagueModel", name := "end", desc := "()I" } : Jvm.MethodName) prog_12_method_17_code (4 : Nat) (Option.some Jvm.ClassFile.FieldType.int)) ∈ lw_all := lw_g (lw_at lw_m9 13 rfl) rfl
theorem q1969 : (Jvm.Cond.methodLink "SkinLeagueModel" (126 : Nat) ({ cls := "SkinLeagueModel", name := "counts", desc := "(I)V" } : Jvm.MethodName)) ∈ lw_all := lw_g (lw_at lw_m9 14 rfl) rfl
theorem q1970 : (Jvm.Cond.privateMethod ({ cls := "SkinLeagueModel", name := "counts", desc := "(I)V" } : Jvm.MethodName)) ∈ lw_tbl := lw_at lw_m9 15 rfl
theorem q1971 : (Jvm.Cond.instanceMethod ({ cls := "SkinLeagueModel", name := "counts", desc := "(I)V" } : Jvm.MethodName)) ∈ lw_all := lw_g (lw_at lw_m9 16 rfl) rfl
theorem q1972 : (Jvm.Cond.code ({ cls := "SkinLeagueModel", name := "counts", desc := "(I)V" } : Jvm.MethodName) prog_12_method_13_code (3 : Nat) (Option.none : Option Jvm.ClassFile.FieldType)) ∈ lw_all := lw_g (lw_at lw_m9 17 rfl) rfl
theorem q1973 : (Jvm.Cond.methodLink "SkinLeagueModel" (116 : Nat) ({ cls := "SkinLeagueModel", name := "isGood", desc := "(I)Z" } : Jvm.MethodName)) ∈ lw_all := lw_g (lw_at lw_m9 18 rfl) rfl
theorem q1974 : (Jvm.Cond.privateMethod ({ cls := "SkinLeagueModel", name := "isGood", desc := "(I)Z" } : Jvm.MethodName)) ∈ lw_tbl := lw_at lw_m9 19 rfl
theorem q1975 : (Jvm.Cond.instanceMethod ({ cls := "SkinLeagueModel", name := "isGood", desc := "(I)Z" } : Jvm.MethodName)) ∈ lw_all := lw_g (lw_at lw_m9 20 rfl) rfl
theorem q1976 : (Jvm.Cond.code ({ cls := "SkinLeagueModel", name := "isGood", desc := "(I)Z" } : Jvm.MethodName) prog_12_method_12_code (3 : Nat) (Option.some Jvm.ClassFile.FieldType.boolean)) ∈ lw_all := lw_g (lw_at lw_m9 21 rfl) rfl
theorem q1977 : (Jvm.Cond.methodLink "SkinLeagueModel" (130 : Nat) ({ cls := "SkinLeagueModel", name := "who", desc := "(I)I" } : Jvm.MethodName)) ∈ lw_all := lw_g (lw_at lw_m9 22 rfl) rfl
theorem q1978 : (Jvm.Cond.privateMethod ({ cls := "SkinLeagueModel", name := "who", desc := "(I)I" } : Jvm.MethodName)) ∈ lw_tbl := lw_at lw_m9 23 rfl
theorem q1979 : (Jvm.Cond.instanceMethod ({ cls := "SkinLeagueModel", name := "who", desc := "(I)I" } : Jvm.MethodName)) ∈ lw_all := lw_g (lw_at lw_m9 24 rfl) rfl
theorem q1980 : (Jvm.Cond.code ({ cls := "SkinLeagueModel", name := "who", desc := "(I)I" } : Jvm.MethodName) prog_12_method_16_code (4 : Nat) (Option.some Jvm.ClassFile.FieldType.int)) ∈ lw_all := lw_g (lw_at lw_m9 25 rfl) rfl
theorem q1981 : (Jvm.Cond.methodLink "SkinLeagueModel" (123 : Nat) ({ cls := "SkinLeagueModel", name := "placeOf", desc := "(I)I" } : Jvm.MethodName)) ∈ lw_all := lw_g (lw_at lw_m9 26 rfl) rfl
theorem q1982 : (Jvm.Cond.privateMethod ({ cls := "SkinLeagueModel", name := "placeOf", desc := "(I)I" } : Jvm.MethodName)) ∈ lw_tbl := lw_at lw_m9 27 rfl
theorem q1983 : (Jvm.Cond.instanceMethod ({ cls := "SkinLeagueModel", name := "placeOf", desc := "(I)I" } : Jvm.MethodName)) ∈ lw_all := lw_g (lw_at lw_m9 28 rfl) rfl
theorem q1984 : (Jvm.Cond.code ({ cls := "SkinLeagueModel", name := "placeOf", desc := "(I)I" } : Jvm.MethodName) prog_12_method_15_code (4 : Nat) (Option.some Jvm.ClassFile.FieldType.int)) ∈ lw_all := lw_g (lw_at lw_m9 29 rfl) rfl
theorem q1985 : (Jvm.Cond.methodLink "SkinLeagueModel" (119 : Nat) ({ cls := "SkinLeagueModel", name := "isAhead", desc := "(II)Z" } : Jvm.MethodName)) ∈ lw_all := lw_g (lw_at lw_m9 30 rfl) rfl
theorem q1986 : (Jvm.Cond.privateMethod ({ cls := "SkinLeagueModel", name := "isAhead", desc := "(II)Z" } : Jvm.MethodName)) ∈ lw_tbl := lw_at lw_m9 31 rfl
theorem q1987 : (Jvm.Cond.instanceMethod ({ cls := "SkinLeagueModel", name := "isAhead", desc := "(II)Z" } : Jvm.MethodName)) ∈ lw_all := lw_g (lw_at lw_m9 32 rfl) rfl
theorem q1988 : (Jvm.Cond.code ({ cls := "SkinLeagueModel", name := "isAhead", desc := "(II)Z" } : Jvm.MethodName) prog_12_method_14_code (3 : Nat) (Option.some Jvm.ClassFile.FieldType.boolean)) ∈ lw_all := lw_g (lw_at lw_m9 33 rfl) rfl
theorem q1990 : (Jvm.Cond.instanceMethod ({ cls := "SkinLeagueModel", name := "sell", desc := "(III)Z" } : Jvm.MethodName)) ∈ lw_all := lw_g (lw_at lw_m9 35 rfl) rfl
theorem q1991 : (Jvm.Cond.selects "SkinLeagueModel" ({ cls := "SkinLeagueModel", name := "sell", desc := "(III)Z" } : Jvm.MethodName) ({ cls := "SkinLeagueModel", name := "sell", desc := "(III)Z" } : Jvm.MethodName)) ∈ lw_all := lw_g (lw_at lw_m9 36 rfl) rfl
theorem q1992 : (Jvm.Cond.code ({ cls := "SkinLeagueModel", name := "sell", desc := "(III)Z" } : Jvm.MethodName) prog_12_method_19_code (8 : Nat) (Option.some Jvm.ClassFile.FieldType.boolean)) ∈ lw_all := lw_g (lw_at lw_m9 37 rfl) rfl
theorem q1993 : (Jvm.Cond.methodLink "SkinLeagueModel" (136 : Nat) ({ cls := "SkinLeagueModel", name := "isSkin", desc := "(I)Z" } : Jvm.MethodName)) ∈ lw_all := lw_g (lw_at lw_m9 38 rfl) rfl
theorem q1994 : (Jvm.Cond.privateMethod ({ cls := "SkinLeagueModel", name := "isSkin", desc := "(I)Z" } : Jvm.MethodName)) ∈ lw_tbl := lw_at lw_m9 39 rfl
theorem q1995 : (Jvm.Cond.instanceMethod ({ cls := "SkinLeagueModel", name := "isSkin", desc := "(I)Z" } : Jvm.MethodName)) ∈ lw_all := lw_g (lw_at lw_m9 40 rfl) rfl
theorem q1996 : (Jvm.Cond.code ({ cls := "SkinLeagueModel", name := "isSkin", desc := "(I)Z" } : Jvm.MethodName) prog_12_method_18_code (2 : Nat) (Option.some Jvm.ClassFile.FieldType.boolean)) ∈ lw_all := lw_g (lw_at lw_m9 41 rfl) rfl
theorem q1998 : (Jvm.Cond.instanceMethod ({ cls := "SkinLeagueModel", name := "lend", desc := "(III)I" } : Jvm.MethodName)) ∈ lw_all := lw_g (lw_at lw_m9 43 rfl) rfl
theorem q1999 : (Jvm.Cond.selects "SkinLeagueModel" ({ cls := "SkinLeagueModel", name := "lend", desc := "(III)I" } : Jvm.MethodName) ({ cls := "SkinLeagueModel", name := "lend", desc := "(III)I" } : Jvm.MethodName)) ∈ lw_all := lw_g (lw_at lw_m9 44 rfl) rfl
theorem q2000 : (Jvm.Cond.code ({ cls := "SkinLeagueModel", name := "lend", desc := "(III)I" } : Jvm.MethodName) prog_12_method_20_code (6 : Nat) (Option.some Jvm.ClassFile.FieldType.int)) ∈ lw_all := lw_g (lw_at lw_m9 45 rfl) rfl
theorem q2002 : (Jvm.Cond.instanceMethod ({ cls := "SkinLeagueModel", name := "proof", desc := "(II)I" } : Jvm.MethodName)) ∈ lw_all := lw_g (lw_at lw_m9 47 rfl) rfl
theorem q2003 : (Jvm.Cond.selects "SkinLeagueModel" ({ cls := "SkinLeagueModel", name := "proof", desc := "(II)I" } : Jvm.MethodName) ({ cls := "SkinLeagueModel", name := "proof", desc := "(II)I" } : Jvm.MethodName)) ∈ lw_all := lw_g (lw_at lw_m9 48 rfl) rfl
theorem q2004 : (Jvm.Cond.code ({ cls := "SkinLeagueModel", name := "proof", desc := "(II)I" } : Jvm.MethodName) prog_12_method_24_code (5 : Nat) (Option.some Jvm.ClassFile.FieldType.int)) ∈ lw_all := lw_g (lw_at lw_m9 49 rfl) rfl
theorem q2005 : (Jvm.Cond.methodLink "SkinLeagueModel" (147 : Nat) ({ cls := "SkinLeagueModel", name := "looks", desc := "()V" } : Jvm.MethodName)) ∈ lw_all := lw_g (lw_at lw_m9 50 rfl) rfl
theorem q2006 : (Jvm.Cond.privateMethod ({ cls := "SkinLeagueModel", name := "looks", desc := "()V" } : Jvm.MethodName)) ∈ lw_tbl := lw_at lw_m9 51 rfl
theorem q2007 : (Jvm.Cond.instanceMethod ({ cls := "SkinLeagueModel", name := "looks", desc := "()V" } : Jvm.MethodName)) ∈ lw_all := lw_g (lw_at lw_m9 52 rfl) rfl
theorem q2008 : (Jvm.Cond.code ({ cls := "SkinLeagueModel", name := "looks", desc := "()V" } : Jvm.MethodName) prog_12_method_23_code (3 : Nat) (Option.none : Option Jvm.ClassFile.FieldType)) ∈ lw_all := lw_g (lw_at lw_m9 53 rfl) rfl
theorem q2009 : (Jvm.Cond.methodLink "SkinLeagueModel" (143 : Nat) ({ cls := "SkinLeagueModel", name := "inherits", desc := "(II)V" } : Jvm.MethodName)) ∈ lw_all := lw_g (lw_at lw_m9 54 rfl) rfl
theorem q2010 : (Jvm.Cond.privateMethod ({ cls := "SkinLeagueModel", name := "inherits", desc := "(II)V" } : Jvm.MethodName)) ∈ lw_tbl := lw_at lw_m9 55 rfl
theorem q2011 : (Jvm.Cond.instanceMethod ({ cls := "SkinLeagueModel", name := "inherits", desc := "(II)V" } : Jvm.MethodName)) ∈ lw_all := lw_g (lw_at lw_m9 56 rfl) rfl
theorem q2012 : (Jvm.Cond.code ({ cls := "SkinLeagueModel", name := "inherits", desc := "(II)V" } : Jvm.MethodName) prog_12_method_22_code (4 : Nat) (Option.none : Option Jvm.ClassFile.FieldType)) ∈ lw_all := lw_g (lw_at lw_m9 57 rfl) rfl
theorem q2013 : (Jvm.Cond.methodLink "SkinLeagueModel" (139 : Nat) ({ cls := "SkinLeagueModel", name := "pays", desc := "(III)V" } : Jvm.MethodName)) ∈ lw_all := lw_g (lw_at lw_m9 58 rfl) rfl
theorem q2014 : (Jvm.Cond.privateMethod ({ cls := "SkinLeagueModel", name := "pays", desc := "(III)V" } : Jvm.MethodName)) ∈ lw_tbl := lw_at lw_m9 59 rfl
theorem q2015 : (Jvm.Cond.instanceMethod ({ cls := "SkinLeagueModel", name := "pays", desc := "(III)V" } : Jvm.MethodName)) ∈ lw_all := lw_g (lw_at lw_m9 60 rfl) rfl
theorem q2016 : (Jvm.Cond.code ({ cls := "SkinLeagueModel", name := "pays", desc := "(III)V" } : Jvm.MethodName) prog_12_method_21_code (4 : Nat) (Option.none : Option Jvm.ClassFile.FieldType)) ∈ lw_all := lw_g (lw_at lw_m9 61 rfl) rfl
theorem q2018 : (Jvm.Cond.instanceMethod ({ cls := "SkinLeagueModel", name := "clear", desc := "(I)I" } : Jvm.MethodName)) ∈ lw_all := lw_g (lw_at lw_m9 63 rfl) rfl
theorem q2019 : (Jvm.Cond.selects "SkinLeagueModel" ({ cls := "SkinLeagueModel", name := "clear", desc := "(I)I" } : Jvm.MethodName) ({ cls := "SkinLeagueModel", name := "clear", desc := "(I)I" } : Jvm.MethodName)) ∈ lw_all := lw_g (lw_at lw_m9 64 rfl) rfl
theorem q2020 : (Jvm.Cond.code ({ cls := "SkinLeagueModel", name := "clear", desc := "(I)I" } : Jvm.MethodName) prog_12_method_25_code (3 : Nat) (Option.some Jvm.ClassFile.FieldType.int)) ∈ lw_all := lw_g (lw_at lw_m9 65 rfl) rfl
theorem q2022 : (Jvm.Cond.instanceMethod ({ cls := "SkinLeagueModel", name := "ban", desc := "(II)I" } : Jvm.MethodName)) ∈ lw_all := lw_g (lw_at lw_m9 67 rfl) rfl
theorem q2023 : (Jvm.Cond.selects "SkinLeagueModel" ({ cls := "SkinLeagueModel", name := "ban", desc := "(II)I" } : Jvm.MethodName) ({ cls := "SkinLeagueModel", name := "ban", desc := "(II)I" } : Jvm.MethodName)) ∈ lw_all := lw_g (lw_at lw_m9 68 rfl) rfl
theorem q2024 : (Jvm.Cond.code ({ cls := "SkinLeagueModel", name := "ban", desc := "(II)I" } : Jvm.MethodName) prog_12_method_26_code (3 : Nat) (Option.some Jvm.ClassFile.FieldType.int)) ∈ lw_all := lw_g (lw_at lw_m9 69 rfl) rfl
theorem q2026 : (Jvm.Cond.instanceMethod ({ cls := "SkinLeagueModel", name := "pass", desc := "(I)I" } : Jvm.MethodName)) ∈ lw_all := lw_g (lw_at lw_m9 71 rfl) rfl
theorem q2027 : (Jvm.Cond.selects "SkinLeagueModel" ({ cls := "SkinLeagueModel", name := "pass", desc := "(I)I" } : Jvm.MethodName) ({ cls := "SkinLeagueModel", name := "pass", desc := "(I)I" } : Jvm.MethodName)) ∈ lw_all := lw_g (lw_at lw_m9 72 rfl) rfl
theorem q2028 : (Jvm.Cond.code ({ cls := "SkinLeagueModel", name := "pass", desc := "(I)I" } : Jvm.MethodName) prog_12_method_27_code (2 : Nat) (Option.some Jvm.ClassFile.FieldType.int)) ∈ lw_all := lw_g (lw_at lw_m9 73 rfl) rfl
theorem q2030 : (Jvm.Cond.instanceMethod ({ cls := "SkinLeagueModel", name := "stands", desc := "(I)Z" } : Jvm.MethodName)) ∈ lw_all := lw_g (lw_at lw_m9 75 rfl) rfl
theorem q2031 : (Jvm.Cond.selects "SkinLeagueModel" ({ cls := "SkinLeagueModel", name := "stands", desc := "(I)Z" } : Jvm.MethodName) ({ cls := "SkinLeagueModel", name := "stands", desc := "(I)Z" } : Jvm.MethodName)) ∈ lw_all := lw_g (lw_at lw_m9 76 rfl) rfl
theorem q2032 : (Jvm.Cond.code ({ cls := "SkinLeagueModel", name := "stands", desc := "(I)Z" } : Jvm.MethodName) prog_12_method_28_code (2 : Nat) (Option.some Jvm.ClassFile.FieldType.boolean)) ∈ lw_all := lw_g (lw_at lw_m9 77 rfl) rfl
theorem q2034 : (Jvm.Cond.instanceMethod ({ cls := "SkinLeagueModel", name := "ranked", desc := "(III)I" } : Jvm.MethodName)) ∈ lw_all := lw_g (lw_at lw_m9 79 rfl) rfl
theorem q2035 : (Jvm.Cond.selects "SkinLeagueModel" ({ cls := "SkinLeagueModel", name := "ranked", desc := "(III)I" } : Jvm.MethodName) ({ cls := "SkinLeagueModel", name := "ranked", desc := "(III)I" } : Jvm.MethodName)) ∈ lw_all := lw_g (lw_at lw_m9 80 rfl) rfl
theorem q2036 : (Jvm.Cond.code ({ cls := "SkinLeagueModel", name := "ranked", desc := "(III)I" } : Jvm.MethodName) prog_12_method_29_code (5 : Nat) (Option.some Jvm.ClassFile.FieldType.int)) ∈ lw_all := lw_g (lw_at lw_m9 81 rfl) rfl
theorem q2038 : (Jvm.Cond.instanceMethod ({ cls := "SkinLeagueModel", name := "skinOf", desc := "(II)I" } : Jvm.MethodName)) ∈ lw_all := lw_g (lw_at lw_m9 83 rfl) rfl
theorem q2039 : (Jvm.Cond.selects "SkinLeagueModel" ({ cls := "SkinLeagueModel", name := "skinOf", desc := "(II)I" } : Jvm.MethodName) ({ cls := "SkinLeagueModel", name := "skinOf", desc := "(II)I" } : Jvm.MethodName)) ∈ lw_all := lw_g (lw_at lw_m9 84 rfl) rfl
theorem q2040 : (Jvm.Cond.code ({ cls := "SkinLeagueModel", name := "skinOf", desc := "(II)I" } : Jvm.MethodName) prog_12_method_31_code (3 : Nat) (Option.some Jvm.ClassFile.FieldType.int)) ∈ lw_all := lw_g (lw_at lw_m9 85 rfl) rfl
theorem q2041 : (Jvm.Cond.methodLink "SkinLeagueModel" (150 : Nat) ({ cls := "SkinLeagueModel", name := "user", desc := "(I)I" } : Jvm.MethodName)) ∈ lw_all := lw_g (lw_at lw_m9 86 rfl) rfl
theorem q2042 : (Jvm.Cond.privateMethod ({ cls := "SkinLeagueModel", name := "user", desc := "(I)I" } : Jvm.MethodName)) ∈ lw_tbl := lw_at lw_m9 87 rfl
theorem q2043 : (Jvm.Cond.instanceMethod ({ cls := "SkinLeagueModel", name := "user", desc := "(I)I" } : Jvm.MethodName)) ∈ lw_all := lw_g (lw_at lw_m9 88 rfl) rfl
theorem q2044 : (Jvm.Cond.code ({ cls := "SkinLeagueModel", name := "user", desc := "(I)I" } : Jvm.MethodName) prog_12_method_30_code (2 : Nat) (Option.some Jvm.ClassFile.FieldType.int)) ∈ lw_all := lw_g (lw_at lw_m9 89 rfl) rfl
theorem q2046 : (Jvm.Cond.instanceMethod ({ cls := "SkinLeagueModel", name := "money", desc := "(I)I" } : Jvm.MethodName)) ∈ lw_all := lw_g (lw_at lw_m9 91 rfl) rfl
theorem q2047 : (Jvm.Cond.selects "SkinLeagueModel" ({ cls := "SkinLeagueModel", name := "money", desc := "(I)I" } : Jvm.MethodName) ({ cls := "SkinLeagueModel", name := "money", desc := "(I)I" } : Jvm.MethodName)) ∈ lw_all := lw_g (lw_at lw_m9 92 rfl) rfl
theorem q2048 : (Jvm.Cond.code ({ cls := "SkinLeagueModel", name := "money", desc := "(I)I" } : Jvm.MethodName) prog_12_method_32_code (2 : Nat) (Option.some Jvm.ClassFile.FieldType.int)) ∈ lw_all := lw_g (lw_at lw_m9 93 rfl) rfl
theorem q2050 : (Jvm.Cond.instanceMethod ({ cls := "SkinLeagueModel", name := "label", desc := "(II)C" } : Jvm.MethodName)) ∈ lw_all := lw_g (lw_at lw_m9 95 rfl) rfl
theorem q2051 : (Jvm.Cond.selects "SkinLeagueModel" ({ cls := "SkinLeagueModel", name := "label", desc := "(II)C" } : Jvm.MethodName) ({ cls := "SkinLeagueModel", name := "label", desc := "(II)C" } : Jvm.MethodName)) ∈ lw_all := lw_g (lw_at lw_m9 96 rfl) rfl
theorem q2052 : (Jvm.Cond.code ({ cls := "SkinLeagueModel", name := "label", desc := "(II)C" } : Jvm.MethodName) prog_12_method_35_code (3 : Nat) (Option.some Jvm.ClassFile.FieldType.char)) ∈ lw_all := lw_g (lw_at lw_m9 97 rfl) rfl
theorem q2053 : (Jvm.Cond.methodLink "SkinLeagueModel" (159 : Nat) ({ cls := "SkinLeagueModel", name := "putsNumber", desc := "(I)V" } : Jvm.MethodName)) ∈ lw_all := lw_g (lw_at lw_m9 98 rfl) rfl
theorem q2054 : (Jvm.Cond.privateMethod ({ cls := "SkinLeagueModel", name := "putsNumber", desc := "(I)V" } : Jvm.MethodName)) ∈ lw_tbl := lw_at lw_m9 99 rfl
theorem q2055 : (Jvm.Cond.instanceMethod ({ cls := "SkinLeagueModel", name := "putsNumber", desc := "(I)V" } : Jvm.MethodName)) ∈ lw_all := lw_g (lw_at lw_m9 100 rfl) rfl
theorem q2056 : (Jvm.Cond.code ({ cls := "SkinLeagueModel", name := "putsNumber", desc := "(I)V" } : Jvm.MethodName) prog_12_method_34_code (2 : Nat) (Option.none : Option Jvm.ClassFile.FieldType)) ∈ lw_all := lw_g (lw_at lw_m9 101 rfl) rfl
theorem q2057 : (Jvm.Cond.methodLink "SkinLeagueModel" (156 : Nat) ({ cls := "SkinLeagueModel", name := "puts", desc := "(I)V" } : Jvm.MethodName)) ∈ lw_all := lw_g (lw_at lw_m9 102 rfl) rfl
theorem q2058 : (Jvm.Cond.privateMethod ({ cls := "SkinLeagueModel", name := "puts", desc := "(I)V" } : Jvm.MethodName)) ∈ lw_tbl := lw_at lw_m9 103 rfl
theorem q2059 : (Jvm.Cond.instanceMethod ({ cls := "SkinLeagueModel", name := "puts", desc := "(I)V" } : Jvm.MethodName)) ∈ lw_all := lw_g (lw_at lw_m9 104 rfl) rfl
theorem q2060 : (Jvm.Cond.code ({ cls := "SkinLeagueModel", name := "puts", desc := "(I)V" } : Jvm.MethodName) prog_12_method_33_code (2 : Nat) (Option.none : Option Jvm.ClassFile.FieldType)) ∈ lw_all := lw_g (lw_at lw_m9 105 rfl) rfl
theorem q2086 : (Jvm.Cond.castable "SkinLeagueModel" "java/lang/Object") ∈ lw_tbl := lw_at lw_m9 131 rfl
theorem in_X3 : ∀ w ∈ wsX30, w ∈ lw_all := lw_in wsX30 [1866, 1868, 1870, 1872, 1874, 1876, 1878, 1880, 1882, 1884, 1886, 1888, 1890, 1892, 1894, 1896, 1898, 1900, 1902, 1904, 1906, 1908, 1910, 1912, 1914, 1916, 1918, 1920, 1922, 1924] (by decide +kernel) (by decide +kernel)
