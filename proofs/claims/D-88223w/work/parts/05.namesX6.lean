/-! SledHouseModel -/
set_option maxRecDepth 100000
def RX6 : String := "SledHouseModel"
def TX6 : u_T := fun k => match k with
  | 0 => ("SledHouseModel", "thrown", "I", false)
  | 1 => ("SledHouseModel", "trouble", "I", false)
  | 2 => ("SledHouseModel", "where", "I", false)
  | 3 => ("SledHouseModel", "fault", "I", false)
  | 4 => ("SledHouseModel", "legs", "I", false)
  | 5 => ("SledHouseModel", "teams", "I", false)
  | 6 => ("SledHouseModel", "steps", "I", false)
  | 7 => ("SledHouseModel", "each", "I", false)
  | 8 => ("SledHouseModel", "length", "[I", true)
  | 9 => ("SledHouseModel", "hardness", "[I", true)
  | 10 => ("SledHouseModel", "cold", "[I", true)
  | 11 => ("SledHouseModel", "team", "[LSledHouseModel$Team;", true)
  | 12 => ("SledHouseModel", "keptLegs", "I", false)
  | 13 => ("SledHouseModel", "keptTeams", "I", false)
  | 14 => ("SledHouseModel", "keptSteps", "I", false)
  | 15 => ("SledHouseModel", "keptEach", "I", false)
  | 16 => ("SledHouseModel", "keptLength", "[I", true)
  | 17 => ("SledHouseModel", "keptHardness", "[I", true)
  | 18 => ("SledHouseModel", "keptCold", "[I", true)
  | 19 => ("SledHouseModel", "keptTeam", "[LSledHouseModel$Team;", true)
  | 20 => ("SledHouseModel", "other", "LSledHouseModel$Team;", true)
  | 21 => ("SledHouseModel", "stop", "LSledHouseModel$Stop;", true)
  | 22 => ("SledHouseModel", "tape", "[B", true)
  | 23 => ("SledHouseModel", "taped", "I", false)
  | 24 => ("SledHouseModel", "size", "I", false)
  | 25 => ("SledHouseModel", "at", "I", false)
  | 26 => ("SledHouseModel", "sort", "I", false)
  | 27 => ("SledHouseModel", "place", "I", false)
  | 28 => ("SledHouseModel", "sign", "I", false)
  | 29 => ("SledHouseModel", "number", "I", false)
  | 30 => ("SledHouseModel", "word", "J", false)
  | 31 => ("SledHouseModel", "plans", "I", false)
  | 32 => ("SledHouseModel", "rules", "[I", true)
  | 33 => ("SledHouseModel", "act", "[I", true)
  | 34 => ("SledHouseModel", "tests", "[I", true)
  | 35 => ("SledHouseModel", "testName", "[I", true)
  | 36 => ("SledHouseModel", "testNumber", "[I", true)
  | 37 => ("SledHouseModel", "testLess", "[Z", true)
  | 38 => ("SledHouseModel", "laws", "I", false)
  | _ => ("SledHouseModel", "law", "[I", true)
def tyX6 : Nat → FieldType := fun k => match k with
  | 0 => .int
  | 1 => .int
  | 2 => .int
  | 3 => .int
  | 4 => .int
  | 5 => .int
  | 6 => .int
  | 7 => .int
  | 8 => .array .int
  | 9 => .array .int
  | 10 => .array .int
  | 11 => .array (.object "SledHouseModel$Team")
  | 12 => .int
  | 13 => .int
  | 14 => .int
  | 15 => .int
  | 16 => .array .int
  | 17 => .array .int
  | 18 => .array .int
  | 19 => .array (.object "SledHouseModel$Team")
  | 20 => .object "SledHouseModel$Team"
  | 21 => .object "SledHouseModel$Stop"
  | 22 => .array .byte
  | 23 => .int
  | 24 => .int
  | 25 => .int
  | 26 => .int
  | 27 => .int
  | 28 => .int
  | 29 => .int
  | 30 => .long
  | 31 => .int
  | 32 => .array .int
  | 33 => .array .int
  | 34 => .array .int
  | 35 => .array .int
  | 36 => .array .int
  | 37 => .array .boolean
  | 38 => .int
  | _ => .array .int
abbrev wsX60 : List Cond := u_ws RX6 TX6 40
set_option maxRecDepth 100000 in
theorem nmX6 : ∀ a, a < 40 → ∀ b, b < 40 → a ≠ b → (TX6 a).2.1 ≠ (TX6 b).2.1 := by decide +kernel
set_option maxRecDepth 100000 in
theorem tyX6_ok : ∀ k, k < 40 → parseFieldDescriptor (TX6 k).2.2.1 = some (tyX6 k) := by decide +kernel
abbrev cX6_init : ByteArray := prog_16_method_7_code
def yX6_init : MethodName := ⟨RX6, "<init>", "()V"⟩
def dkwX6_init_10 : List UInt8 := [89, 183, 0, 53, 83, 132, 1, 1, 167, 255, 221, 177]
abbrev dktX6_init_10 : List UInt8 := dkwX6_init_10 ++ []
def dkwX6_init_9 : List UInt8 := [162, 0, 35, 42, 180, 0, 34, 27, 187, 0, 32, 89, 183, 0, 53, 83, 42, 180, 0, 50, 27, 187, 0, 32]
abbrev dktX6_init_9 : List UInt8 := dkwX6_init_9 ++ dktX6_init_10
def dkwX6_init_8 : List UInt8 := [162, 0, 17, 42, 180, 0, 29, 27, 16, 236, 79, 132, 1, 1, 167, 255, 238, 3, 60, 27, 16, 6]
abbrev dktX6_init_8 : List UInt8 := dkwX6_init_8 ++ dktX6_init_9
def dkwX6_init_7 : List UInt8 := [17, 1, 176, 188, 4, 181, 0, 84, 42, 16, 44, 188, 10, 181, 0, 88, 3, 60, 27, 17, 1, 78]
abbrev dktX6_init_7 : List UInt8 := dkwX6_init_7 ++ dktX6_init_8
def dkwX6_init_6 : List UInt8 := [181, 0, 75, 42, 17, 1, 176, 188, 10, 181, 0, 78, 42, 17, 1, 176, 188, 10, 181, 0, 81, 42]
abbrev dktX6_init_6 : List UInt8 := dkwX6_init_6 ++ dktX6_init_7
def dkwX6_init_5 : List UInt8 := [181, 0, 65, 42, 16, 9, 188, 10, 181, 0, 69, 42, 16, 108, 188, 10, 181, 0, 72, 42, 16, 108, 188, 10]
abbrev dktX6_init_5 : List UInt8 := dkwX6_init_5 ++ dktX6_init_6
def dkwX6_init_4 : List UInt8 := [183, 0, 53, 181, 0, 54, 42, 187, 0, 58, 89, 183, 0, 60, 181, 0, 61, 42, 17, 1, 144, 188, 8]
abbrev dktX6_init_4 : List UInt8 := dkwX6_init_4 ++ dktX6_init_5
def dkwX6_init_3 : List UInt8 := [42, 17, 1, 78, 188, 10, 181, 0, 47, 42, 16, 6, 189, 0, 32, 181, 0, 50, 42, 187, 0, 32, 89]
abbrev dktX6_init_3 : List UInt8 := dkwX6_init_3 ++ dktX6_init_4
def dkwX6_init_2 : List UInt8 := [181, 0, 34, 42, 2, 181, 0, 38, 42, 16, 12, 188, 10, 181, 0, 41, 42, 16, 12, 188, 10, 181, 0, 44]
abbrev dktX6_init_2 : List UInt8 := dkwX6_init_2 ++ dktX6_init_3
def dkwX6_init_1 : List UInt8 := [16, 12, 188, 10, 181, 0, 26, 42, 17, 1, 78, 188, 10, 181, 0, 29, 42, 16, 6, 189, 0, 32]
abbrev dktX6_init_1 : List UInt8 := dkwX6_init_1 ++ dktX6_init_2
def dkwX6_init_0 : List UInt8 := [42, 183, 0, 13, 42, 2, 181, 0, 10, 42, 16, 6, 181, 0, 19, 42, 16, 12, 188, 10, 181, 0, 22, 42]
abbrev dktX6_init_0 : List UInt8 := dkwX6_init_0 ++ dktX6_init_1
theorem dksX6_init_0 : cX6_init.data.toList.drop 0 = dktX6_init_0 := by decide +kernel
theorem dksX6_init_1 : cX6_init.data.toList.drop 24 = dktX6_init_1 := dk_seg dksX6_init_0 24 rfl rfl
theorem dksX6_init_2 : cX6_init.data.toList.drop 46 = dktX6_init_2 := dk_seg dksX6_init_1 22 rfl rfl
theorem dksX6_init_3 : cX6_init.data.toList.drop 70 = dktX6_init_3 := dk_seg dksX6_init_2 24 rfl rfl
theorem dksX6_init_4 : cX6_init.data.toList.drop 93 = dktX6_init_4 := dk_seg dksX6_init_3 23 rfl rfl
theorem dksX6_init_5 : cX6_init.data.toList.drop 116 = dktX6_init_5 := dk_seg dksX6_init_4 23 rfl rfl
theorem dksX6_init_6 : cX6_init.data.toList.drop 140 = dktX6_init_6 := dk_seg dksX6_init_5 24 rfl rfl
theorem dksX6_init_7 : cX6_init.data.toList.drop 162 = dktX6_init_7 := dk_seg dksX6_init_6 22 rfl rfl
theorem dksX6_init_8 : cX6_init.data.toList.drop 184 = dktX6_init_8 := dk_seg dksX6_init_7 22 rfl rfl
theorem dksX6_init_9 : cX6_init.data.toList.drop 206 = dktX6_init_9 := dk_seg dksX6_init_8 22 rfl rfl
theorem dksX6_init_10 : cX6_init.data.toList.drop 230 = dktX6_init_10 := dk_seg dksX6_init_9 24 rfl rfl
theorem dX6_init_0 : decode cX6_init 0 = .ok (.aload_n 0, 1) := dk_42 (dk_at dksX6_init_0 0 rfl rfl)
theorem dX6_init_1 : decode cX6_init 1 = .ok (.invokespecial 13, 3) := dk_183 0 13 (dk_at dksX6_init_0 1 rfl rfl)
theorem dX6_init_4 : decode cX6_init 4 = .ok (.aload_n 0, 1) := dk_42 (dk_at dksX6_init_0 4 rfl rfl)
theorem dX6_init_5 : decode cX6_init 5 = .ok (.iconst (-1), 1) := dk_2 (dk_at dksX6_init_0 5 rfl rfl)
theorem dX6_init_6 : decode cX6_init 6 = .ok (.putfield 10, 3) := dk_181 0 10 (dk_at dksX6_init_0 6 rfl rfl)
theorem dX6_init_9 : decode cX6_init 9 = .ok (.aload_n 0, 1) := dk_42 (dk_at dksX6_init_0 9 rfl rfl)
theorem dX6_init_10 : decode cX6_init 10 = .ok (.bipush 6, 2) := dk_16 6 (dk_at dksX6_init_0 10 rfl rfl)
theorem dX6_init_12 : decode cX6_init 12 = .ok (.putfield 19, 3) := dk_181 0 19 (dk_at dksX6_init_0 12 rfl rfl)
theorem dX6_init_15 : decode cX6_init 15 = .ok (.aload_n 0, 1) := dk_42 (dk_at dksX6_init_0 15 rfl rfl)
theorem dX6_init_16 : decode cX6_init 16 = .ok (.bipush 12, 2) := dk_16 12 (dk_at dksX6_init_0 16 rfl rfl)
theorem dX6_init_18 : decode cX6_init 18 = .ok (.newarray .int, 2) := dk_188_10 (dk_at dksX6_init_0 18 rfl rfl)
theorem dX6_init_20 : decode cX6_init 20 = .ok (.putfield 22, 3) := dk_181 0 22 (dk_at dksX6_init_0 20 rfl rfl)
theorem dX6_init_23 : decode cX6_init 23 = .ok (.aload_n 0, 1) := dk_42 (dk_at dksX6_init_0 23 rfl rfl)
theorem dX6_init_24 : decode cX6_init 24 = .ok (.bipush 12, 2) := dk_16 12 (dk_at dksX6_init_1 0 rfl rfl)
theorem dX6_init_26 : decode cX6_init 26 = .ok (.newarray .int, 2) := dk_188_10 (dk_at dksX6_init_1 2 rfl rfl)
theorem dX6_init_28 : decode cX6_init 28 = .ok (.putfield 26, 3) := dk_181 0 26 (dk_at dksX6_init_1 4 rfl rfl)
theorem dX6_init_31 : decode cX6_init 31 = .ok (.aload_n 0, 1) := dk_42 (dk_at dksX6_init_1 7 rfl rfl)
theorem dX6_init_32 : decode cX6_init 32 = .ok (.sipush 334, 3) := dk_17 1 78 (dk_at dksX6_init_1 8 rfl rfl)
theorem dX6_init_35 : decode cX6_init 35 = .ok (.newarray .int, 2) := dk_188_10 (dk_at dksX6_init_1 11 rfl rfl)
theorem dX6_init_37 : decode cX6_init 37 = .ok (.putfield 29, 3) := dk_181 0 29 (dk_at dksX6_init_1 13 rfl rfl)
theorem dX6_init_40 : decode cX6_init 40 = .ok (.aload_n 0, 1) := dk_42 (dk_at dksX6_init_1 16 rfl rfl)
theorem dX6_init_41 : decode cX6_init 41 = .ok (.bipush 6, 2) := dk_16 6 (dk_at dksX6_init_1 17 rfl rfl)
theorem dX6_init_43 : decode cX6_init 43 = .ok (.anewarray 32, 3) := dk_189 0 32 (dk_at dksX6_init_1 19 rfl rfl)
theorem dX6_init_46 : decode cX6_init 46 = .ok (.putfield 34, 3) := dk_181 0 34 (dk_at dksX6_init_2 0 rfl rfl)
theorem dX6_init_49 : decode cX6_init 49 = .ok (.aload_n 0, 1) := dk_42 (dk_at dksX6_init_2 3 rfl rfl)
theorem dX6_init_50 : decode cX6_init 50 = .ok (.iconst (-1), 1) := dk_2 (dk_at dksX6_init_2 4 rfl rfl)
theorem dX6_init_51 : decode cX6_init 51 = .ok (.putfield 38, 3) := dk_181 0 38 (dk_at dksX6_init_2 5 rfl rfl)
theorem dX6_init_54 : decode cX6_init 54 = .ok (.aload_n 0, 1) := dk_42 (dk_at dksX6_init_2 8 rfl rfl)
theorem dX6_init_55 : decode cX6_init 55 = .ok (.bipush 12, 2) := dk_16 12 (dk_at dksX6_init_2 9 rfl rfl)
theorem dX6_init_57 : decode cX6_init 57 = .ok (.newarray .int, 2) := dk_188_10 (dk_at dksX6_init_2 11 rfl rfl)
theorem dX6_init_59 : decode cX6_init 59 = .ok (.putfield 41, 3) := dk_181 0 41 (dk_at dksX6_init_2 13 rfl rfl)
theorem dX6_init_62 : decode cX6_init 62 = .ok (.aload_n 0, 1) := dk_42 (dk_at dksX6_init_2 16 rfl rfl)
theorem dX6_init_63 : decode cX6_init 63 = .ok (.bipush 12, 2) := dk_16 12 (dk_at dksX6_init_2 17 rfl rfl)
theorem dX6_init_65 : decode cX6_init 65 = .ok (.newarray .int, 2) := dk_188_10 (dk_at dksX6_init_2 19 rfl rfl)
theorem dX6_init_67 : decode cX6_init 67 = .ok (.putfield 44, 3) := dk_181 0 44 (dk_at dksX6_init_2 21 rfl rfl)
theorem dX6_init_70 : decode cX6_init 70 = .ok (.aload_n 0, 1) := dk_42 (dk_at dksX6_init_3 0 rfl rfl)
theorem dX6_init_71 : decode cX6_init 71 = .ok (.sipush 334, 3) := dk_17 1 78 (dk_at dksX6_init_3 1 rfl rfl)
theorem dX6_init_74 : decode cX6_init 74 = .ok (.newarray .int, 2) := dk_188_10 (dk_at dksX6_init_3 4 rfl rfl)
theorem dX6_init_76 : decode cX6_init 76 = .ok (.putfield 47, 3) := dk_181 0 47 (dk_at dksX6_init_3 6 rfl rfl)
theorem dX6_init_79 : decode cX6_init 79 = .ok (.aload_n 0, 1) := dk_42 (dk_at dksX6_init_3 9 rfl rfl)
theorem dX6_init_80 : decode cX6_init 80 = .ok (.bipush 6, 2) := dk_16 6 (dk_at dksX6_init_3 10 rfl rfl)
theorem dX6_init_82 : decode cX6_init 82 = .ok (.anewarray 32, 3) := dk_189 0 32 (dk_at dksX6_init_3 12 rfl rfl)
theorem dX6_init_85 : decode cX6_init 85 = .ok (.putfield 50, 3) := dk_181 0 50 (dk_at dksX6_init_3 15 rfl rfl)
theorem dX6_init_88 : decode cX6_init 88 = .ok (.aload_n 0, 1) := dk_42 (dk_at dksX6_init_3 18 rfl rfl)
theorem dX6_init_89 : decode cX6_init 89 = .ok (.new 32, 3) := dk_187 0 32 (dk_at dksX6_init_3 19 rfl rfl)
theorem dX6_init_92 : decode cX6_init 92 = .ok (.dup, 1) := dk_89 (dk_at dksX6_init_3 22 rfl rfl)
theorem dX6_init_93 : decode cX6_init 93 = .ok (.invokespecial 53, 3) := dk_183 0 53 (dk_at dksX6_init_4 0 rfl rfl)
theorem dX6_init_96 : decode cX6_init 96 = .ok (.putfield 54, 3) := dk_181 0 54 (dk_at dksX6_init_4 3 rfl rfl)
theorem dX6_init_99 : decode cX6_init 99 = .ok (.aload_n 0, 1) := dk_42 (dk_at dksX6_init_4 6 rfl rfl)
theorem dX6_init_100 : decode cX6_init 100 = .ok (.new 58, 3) := dk_187 0 58 (dk_at dksX6_init_4 7 rfl rfl)
theorem dX6_init_103 : decode cX6_init 103 = .ok (.dup, 1) := dk_89 (dk_at dksX6_init_4 10 rfl rfl)
theorem dX6_init_104 : decode cX6_init 104 = .ok (.invokespecial 60, 3) := dk_183 0 60 (dk_at dksX6_init_4 11 rfl rfl)
theorem dX6_init_107 : decode cX6_init 107 = .ok (.putfield 61, 3) := dk_181 0 61 (dk_at dksX6_init_4 14 rfl rfl)
theorem dX6_init_110 : decode cX6_init 110 = .ok (.aload_n 0, 1) := dk_42 (dk_at dksX6_init_4 17 rfl rfl)
theorem dX6_init_111 : decode cX6_init 111 = .ok (.sipush 400, 3) := dk_17 1 144 (dk_at dksX6_init_4 18 rfl rfl)
theorem dX6_init_114 : decode cX6_init 114 = .ok (.newarray .byte, 2) := dk_188_8 (dk_at dksX6_init_4 21 rfl rfl)
theorem dX6_init_116 : decode cX6_init 116 = .ok (.putfield 65, 3) := dk_181 0 65 (dk_at dksX6_init_5 0 rfl rfl)
theorem dX6_init_119 : decode cX6_init 119 = .ok (.aload_n 0, 1) := dk_42 (dk_at dksX6_init_5 3 rfl rfl)
theorem dX6_init_120 : decode cX6_init 120 = .ok (.bipush 9, 2) := dk_16 9 (dk_at dksX6_init_5 4 rfl rfl)
theorem dX6_init_122 : decode cX6_init 122 = .ok (.newarray .int, 2) := dk_188_10 (dk_at dksX6_init_5 6 rfl rfl)
theorem dX6_init_124 : decode cX6_init 124 = .ok (.putfield 69, 3) := dk_181 0 69 (dk_at dksX6_init_5 8 rfl rfl)
theorem dX6_init_127 : decode cX6_init 127 = .ok (.aload_n 0, 1) := dk_42 (dk_at dksX6_init_5 11 rfl rfl)
theorem dX6_init_128 : decode cX6_init 128 = .ok (.bipush 108, 2) := dk_16 108 (dk_at dksX6_init_5 12 rfl rfl)
theorem dX6_init_130 : decode cX6_init 130 = .ok (.newarray .int, 2) := dk_188_10 (dk_at dksX6_init_5 14 rfl rfl)
theorem dX6_init_132 : decode cX6_init 132 = .ok (.putfield 72, 3) := dk_181 0 72 (dk_at dksX6_init_5 16 rfl rfl)
theorem dX6_init_135 : decode cX6_init 135 = .ok (.aload_n 0, 1) := dk_42 (dk_at dksX6_init_5 19 rfl rfl)
theorem dX6_init_136 : decode cX6_init 136 = .ok (.bipush 108, 2) := dk_16 108 (dk_at dksX6_init_5 20 rfl rfl)
theorem dX6_init_138 : decode cX6_init 138 = .ok (.newarray .int, 2) := dk_188_10 (dk_at dksX6_init_5 22 rfl rfl)
theorem dX6_init_140 : decode cX6_init 140 = .ok (.putfield 75, 3) := dk_181 0 75 (dk_at dksX6_init_6 0 rfl rfl)
theorem dX6_init_143 : decode cX6_init 143 = .ok (.aload_n 0, 1) := dk_42 (dk_at dksX6_init_6 3 rfl rfl)
theorem dX6_init_144 : decode cX6_init 144 = .ok (.sipush 432, 3) := dk_17 1 176 (dk_at dksX6_init_6 4 rfl rfl)
theorem dX6_init_147 : decode cX6_init 147 = .ok (.newarray .int, 2) := dk_188_10 (dk_at dksX6_init_6 7 rfl rfl)
theorem dX6_init_149 : decode cX6_init 149 = .ok (.putfield 78, 3) := dk_181 0 78 (dk_at dksX6_init_6 9 rfl rfl)
theorem dX6_init_152 : decode cX6_init 152 = .ok (.aload_n 0, 1) := dk_42 (dk_at dksX6_init_6 12 rfl rfl)
theorem dX6_init_153 : decode cX6_init 153 = .ok (.sipush 432, 3) := dk_17 1 176 (dk_at dksX6_init_6 13 rfl rfl)
theorem dX6_init_156 : decode cX6_init 156 = .ok (.newarray .int, 2) := dk_188_10 (dk_at dksX6_init_6 16 rfl rfl)
theorem dX6_init_158 : decode cX6_init 158 = .ok (.putfield 81, 3) := dk_181 0 81 (dk_at dksX6_init_6 18 rfl rfl)
theorem dX6_init_161 : decode cX6_init 161 = .ok (.aload_n 0, 1) := dk_42 (dk_at dksX6_init_6 21 rfl rfl)
theorem dX6_init_162 : decode cX6_init 162 = .ok (.sipush 432, 3) := dk_17 1 176 (dk_at dksX6_init_7 0 rfl rfl)
theorem dX6_init_165 : decode cX6_init 165 = .ok (.newarray .boolean, 2) := dk_188_4 (dk_at dksX6_init_7 3 rfl rfl)
theorem dX6_init_167 : decode cX6_init 167 = .ok (.putfield 84, 3) := dk_181 0 84 (dk_at dksX6_init_7 5 rfl rfl)
theorem dX6_init_170 : decode cX6_init 170 = .ok (.aload_n 0, 1) := dk_42 (dk_at dksX6_init_7 8 rfl rfl)
theorem dX6_init_171 : decode cX6_init 171 = .ok (.bipush 44, 2) := dk_16 44 (dk_at dksX6_init_7 9 rfl rfl)
theorem dX6_init_173 : decode cX6_init 173 = .ok (.newarray .int, 2) := dk_188_10 (dk_at dksX6_init_7 11 rfl rfl)
theorem dX6_init_175 : decode cX6_init 175 = .ok (.putfield 88, 3) := dk_181 0 88 (dk_at dksX6_init_7 13 rfl rfl)
theorem dX6_init_178 : decode cX6_init 178 = .ok (.iconst 0, 1) := dk_3 (dk_at dksX6_init_7 16 rfl rfl)
theorem dX6_init_179 : decode cX6_init 179 = .ok (.istore_n 1, 1) := dk_60 (dk_at dksX6_init_7 17 rfl rfl)
theorem dX6_init_180 : decode cX6_init 180 = .ok (.iload_n 1, 1) := dk_27 (dk_at dksX6_init_7 18 rfl rfl)
theorem dX6_init_181 : decode cX6_init 181 = .ok (.sipush 334, 3) := dk_17 1 78 (dk_at dksX6_init_7 19 rfl rfl)
theorem dX6_init_184 : decode cX6_init 184 = .ok (.if_icmp .ge 17, 3) := dk_162 0 17 (dk_at dksX6_init_8 0 rfl rfl)
theorem dX6_init_187 : decode cX6_init 187 = .ok (.aload_n 0, 1) := dk_42 (dk_at dksX6_init_8 3 rfl rfl)
theorem dX6_init_188 : decode cX6_init 188 = .ok (.getfield 29, 3) := dk_180 0 29 (dk_at dksX6_init_8 4 rfl rfl)
theorem dX6_init_191 : decode cX6_init 191 = .ok (.iload_n 1, 1) := dk_27 (dk_at dksX6_init_8 7 rfl rfl)
theorem dX6_init_192 : decode cX6_init 192 = .ok (.bipush (-20), 2) := dk_16 236 (dk_at dksX6_init_8 8 rfl rfl)
theorem dX6_init_194 : decode cX6_init 194 = .ok (.iastore, 1) := dk_79 (dk_at dksX6_init_8 10 rfl rfl)
theorem dX6_init_195 : decode cX6_init 195 = .ok (.iinc 1 1, 3) := dk_132 1 1 (dk_at dksX6_init_8 11 rfl rfl)
theorem dX6_init_198 : decode cX6_init 198 = .ok (.goto (-18), 3) := dk_167 255 238 (dk_at dksX6_init_8 14 rfl rfl)
theorem dX6_init_201 : decode cX6_init 201 = .ok (.iconst 0, 1) := dk_3 (dk_at dksX6_init_8 17 rfl rfl)
theorem dX6_init_202 : decode cX6_init 202 = .ok (.istore_n 1, 1) := dk_60 (dk_at dksX6_init_8 18 rfl rfl)
theorem dX6_init_203 : decode cX6_init 203 = .ok (.iload_n 1, 1) := dk_27 (dk_at dksX6_init_8 19 rfl rfl)
theorem dX6_init_204 : decode cX6_init 204 = .ok (.bipush 6, 2) := dk_16 6 (dk_at dksX6_init_8 20 rfl rfl)
theorem dX6_init_206 : decode cX6_init 206 = .ok (.if_icmp .ge 35, 3) := dk_162 0 35 (dk_at dksX6_init_9 0 rfl rfl)
theorem dX6_init_209 : decode cX6_init 209 = .ok (.aload_n 0, 1) := dk_42 (dk_at dksX6_init_9 3 rfl rfl)
theorem dX6_init_210 : decode cX6_init 210 = .ok (.getfield 34, 3) := dk_180 0 34 (dk_at dksX6_init_9 4 rfl rfl)
theorem dX6_init_213 : decode cX6_init 213 = .ok (.iload_n 1, 1) := dk_27 (dk_at dksX6_init_9 7 rfl rfl)
theorem dX6_init_214 : decode cX6_init 214 = .ok (.new 32, 3) := dk_187 0 32 (dk_at dksX6_init_9 8 rfl rfl)
theorem dX6_init_217 : decode cX6_init 217 = .ok (.dup, 1) := dk_89 (dk_at dksX6_init_9 11 rfl rfl)
theorem dX6_init_218 : decode cX6_init 218 = .ok (.invokespecial 53, 3) := dk_183 0 53 (dk_at dksX6_init_9 12 rfl rfl)
theorem dX6_init_221 : decode cX6_init 221 = .ok (.aastore, 1) := dk_83 (dk_at dksX6_init_9 15 rfl rfl)
theorem dX6_init_222 : decode cX6_init 222 = .ok (.aload_n 0, 1) := dk_42 (dk_at dksX6_init_9 16 rfl rfl)
theorem dX6_init_223 : decode cX6_init 223 = .ok (.getfield 50, 3) := dk_180 0 50 (dk_at dksX6_init_9 17 rfl rfl)
theorem dX6_init_226 : decode cX6_init 226 = .ok (.iload_n 1, 1) := dk_27 (dk_at dksX6_init_9 20 rfl rfl)
theorem dX6_init_227 : decode cX6_init 227 = .ok (.new 32, 3) := dk_187 0 32 (dk_at dksX6_init_9 21 rfl rfl)
theorem dX6_init_230 : decode cX6_init 230 = .ok (.dup, 1) := dk_89 (dk_at dksX6_init_10 0 rfl rfl)
theorem dX6_init_231 : decode cX6_init 231 = .ok (.invokespecial 53, 3) := dk_183 0 53 (dk_at dksX6_init_10 1 rfl rfl)
theorem dX6_init_234 : decode cX6_init 234 = .ok (.aastore, 1) := dk_83 (dk_at dksX6_init_10 4 rfl rfl)
theorem dX6_init_235 : decode cX6_init 235 = .ok (.iinc 1 1, 3) := dk_132 1 1 (dk_at dksX6_init_10 5 rfl rfl)
theorem dX6_init_238 : decode cX6_init 238 = .ok (.goto (-35), 3) := dk_167 255 221 (dk_at dksX6_init_10 8 rfl rfl)
theorem dX6_init_241 : decode cX6_init 241 = .ok (.return_, 1) := dk_177 (dk_at dksX6_init_10 11 rfl rfl)
abbrev cX6_keep : ByteArray := prog_16_method_8_code
def yX6_keep : MethodName := ⟨RX6, "keep", "()Z"⟩
def dkwX6_keep_5 : List UInt8 := [50, 42, 180, 0, 34, 27, 50, 182, 0, 109, 132, 1, 1, 167, 255, 230, 4, 172]
abbrev dktX6_keep_5 : List UInt8 := dkwX6_keep_5 ++ []
def dkwX6_keep_4 : List UInt8 := [27, 46, 79, 132, 1, 1, 167, 255, 234, 3, 60, 27, 42, 180, 0, 94, 162, 0, 24, 42, 180, 0, 50, 27]
abbrev dktX6_keep_4 : List UInt8 := dkwX6_keep_4 ++ dktX6_keep_5
def dkwX6_keep_3 : List UInt8 := [132, 1, 1, 167, 255, 223, 3, 60, 27, 17, 1, 78, 162, 0, 21, 42, 180, 0, 47, 27, 42, 180, 0, 29]
abbrev dktX6_keep_3 : List UInt8 := dkwX6_keep_3 ++ dktX6_keep_4
def dkwX6_keep_2 : List UInt8 := [180, 0, 41, 27, 42, 180, 0, 22, 27, 46, 79, 42, 180, 0, 44, 27, 42, 180, 0, 26, 27, 46, 79]
abbrev dktX6_keep_2 : List UInt8 := dkwX6_keep_2 ++ dktX6_keep_3
def dkwX6_keep_1 : List UInt8 := [180, 0, 100, 181, 0, 103, 42, 42, 180, 0, 19, 181, 0, 106, 3, 60, 27, 16, 12, 162, 0, 33, 42]
abbrev dktX6_keep_1 : List UInt8 := dkwX6_keep_1 ++ dktX6_keep_2
def dkwX6_keep_0 : List UInt8 := [42, 3, 181, 0, 1, 42, 42, 180, 0, 91, 181, 0, 38, 42, 42, 180, 0, 94, 181, 0, 97, 42, 42]
abbrev dktX6_keep_0 : List UInt8 := dkwX6_keep_0 ++ dktX6_keep_1
theorem dksX6_keep_0 : cX6_keep.data.toList.drop 0 = dktX6_keep_0 := by decide +kernel
theorem dksX6_keep_1 : cX6_keep.data.toList.drop 23 = dktX6_keep_1 := dk_seg dksX6_keep_0 23 rfl rfl
theorem dksX6_keep_2 : cX6_keep.data.toList.drop 46 = dktX6_keep_2 := dk_seg dksX6_keep_1 23 rfl rfl
theorem dksX6_keep_3 : cX6_keep.data.toList.drop 69 = dktX6_keep_3 := dk_seg dksX6_keep_2 23 rfl rfl
theorem dksX6_keep_4 : cX6_keep.data.toList.drop 93 = dktX6_keep_4 := dk_seg dksX6_keep_3 24 rfl rfl
theorem dksX6_keep_5 : cX6_keep.data.toList.drop 117 = dktX6_keep_5 := dk_seg dksX6_keep_4 24 rfl rfl
theorem dX6_keep_0 : decode cX6_keep 0 = .ok (.aload_n 0, 1) := dk_42 (dk_at dksX6_keep_0 0 rfl rfl)
theorem dX6_keep_1 : decode cX6_keep 1 = .ok (.iconst 0, 1) := dk_3 (dk_at dksX6_keep_0 1 rfl rfl)
theorem dX6_keep_2 : decode cX6_keep 2 = .ok (.putfield 1, 3) := dk_181 0 1 (dk_at dksX6_keep_0 2 rfl rfl)
theorem dX6_keep_5 : decode cX6_keep 5 = .ok (.aload_n 0, 1) := dk_42 (dk_at dksX6_keep_0 5 rfl rfl)
theorem dX6_keep_6 : decode cX6_keep 6 = .ok (.aload_n 0, 1) := dk_42 (dk_at dksX6_keep_0 6 rfl rfl)
theorem dX6_keep_7 : decode cX6_keep 7 = .ok (.getfield 91, 3) := dk_180 0 91 (dk_at dksX6_keep_0 7 rfl rfl)
theorem dX6_keep_10 : decode cX6_keep 10 = .ok (.putfield 38, 3) := dk_181 0 38 (dk_at dksX6_keep_0 10 rfl rfl)
theorem dX6_keep_13 : decode cX6_keep 13 = .ok (.aload_n 0, 1) := dk_42 (dk_at dksX6_keep_0 13 rfl rfl)
theorem dX6_keep_14 : decode cX6_keep 14 = .ok (.aload_n 0, 1) := dk_42 (dk_at dksX6_keep_0 14 rfl rfl)
theorem dX6_keep_15 : decode cX6_keep 15 = .ok (.getfield 94, 3) := dk_180 0 94 (dk_at dksX6_keep_0 15 rfl rfl)
theorem dX6_keep_18 : decode cX6_keep 18 = .ok (.putfield 97, 3) := dk_181 0 97 (dk_at dksX6_keep_0 18 rfl rfl)
theorem dX6_keep_21 : decode cX6_keep 21 = .ok (.aload_n 0, 1) := dk_42 (dk_at dksX6_keep_0 21 rfl rfl)
theorem dX6_keep_22 : decode cX6_keep 22 = .ok (.aload_n 0, 1) := dk_42 (dk_at dksX6_keep_0 22 rfl rfl)
theorem dX6_keep_23 : decode cX6_keep 23 = .ok (.getfield 100, 3) := dk_180 0 100 (dk_at dksX6_keep_1 0 rfl rfl)
theorem dX6_keep_26 : decode cX6_keep 26 = .ok (.putfield 103, 3) := dk_181 0 103 (dk_at dksX6_keep_1 3 rfl rfl)
theorem dX6_keep_29 : decode cX6_keep 29 = .ok (.aload_n 0, 1) := dk_42 (dk_at dksX6_keep_1 6 rfl rfl)
theorem dX6_keep_30 : decode cX6_keep 30 = .ok (.aload_n 0, 1) := dk_42 (dk_at dksX6_keep_1 7 rfl rfl)
theorem dX6_keep_31 : decode cX6_keep 31 = .ok (.getfield 19, 3) := dk_180 0 19 (dk_at dksX6_keep_1 8 rfl rfl)
theorem dX6_keep_34 : decode cX6_keep 34 = .ok (.putfield 106, 3) := dk_181 0 106 (dk_at dksX6_keep_1 11 rfl rfl)
theorem dX6_keep_37 : decode cX6_keep 37 = .ok (.iconst 0, 1) := dk_3 (dk_at dksX6_keep_1 14 rfl rfl)
theorem dX6_keep_38 : decode cX6_keep 38 = .ok (.istore_n 1, 1) := dk_60 (dk_at dksX6_keep_1 15 rfl rfl)
theorem dX6_keep_39 : decode cX6_keep 39 = .ok (.iload_n 1, 1) := dk_27 (dk_at dksX6_keep_1 16 rfl rfl)
theorem dX6_keep_40 : decode cX6_keep 40 = .ok (.bipush 12, 2) := dk_16 12 (dk_at dksX6_keep_1 17 rfl rfl)
theorem dX6_keep_42 : decode cX6_keep 42 = .ok (.if_icmp .ge 33, 3) := dk_162 0 33 (dk_at dksX6_keep_1 19 rfl rfl)
theorem dX6_keep_45 : decode cX6_keep 45 = .ok (.aload_n 0, 1) := dk_42 (dk_at dksX6_keep_1 22 rfl rfl)
theorem dX6_keep_46 : decode cX6_keep 46 = .ok (.getfield 41, 3) := dk_180 0 41 (dk_at dksX6_keep_2 0 rfl rfl)
theorem dX6_keep_49 : decode cX6_keep 49 = .ok (.iload_n 1, 1) := dk_27 (dk_at dksX6_keep_2 3 rfl rfl)
theorem dX6_keep_50 : decode cX6_keep 50 = .ok (.aload_n 0, 1) := dk_42 (dk_at dksX6_keep_2 4 rfl rfl)
theorem dX6_keep_51 : decode cX6_keep 51 = .ok (.getfield 22, 3) := dk_180 0 22 (dk_at dksX6_keep_2 5 rfl rfl)
theorem dX6_keep_54 : decode cX6_keep 54 = .ok (.iload_n 1, 1) := dk_27 (dk_at dksX6_keep_2 8 rfl rfl)
theorem dX6_keep_55 : decode cX6_keep 55 = .ok (.iaload, 1) := dk_46 (dk_at dksX6_keep_2 9 rfl rfl)
theorem dX6_keep_56 : decode cX6_keep 56 = .ok (.iastore, 1) := dk_79 (dk_at dksX6_keep_2 10 rfl rfl)
theorem dX6_keep_57 : decode cX6_keep 57 = .ok (.aload_n 0, 1) := dk_42 (dk_at dksX6_keep_2 11 rfl rfl)
theorem dX6_keep_58 : decode cX6_keep 58 = .ok (.getfield 44, 3) := dk_180 0 44 (dk_at dksX6_keep_2 12 rfl rfl)
theorem dX6_keep_61 : decode cX6_keep 61 = .ok (.iload_n 1, 1) := dk_27 (dk_at dksX6_keep_2 15 rfl rfl)
theorem dX6_keep_62 : decode cX6_keep 62 = .ok (.aload_n 0, 1) := dk_42 (dk_at dksX6_keep_2 16 rfl rfl)
theorem dX6_keep_63 : decode cX6_keep 63 = .ok (.getfield 26, 3) := dk_180 0 26 (dk_at dksX6_keep_2 17 rfl rfl)
theorem dX6_keep_66 : decode cX6_keep 66 = .ok (.iload_n 1, 1) := dk_27 (dk_at dksX6_keep_2 20 rfl rfl)
theorem dX6_keep_67 : decode cX6_keep 67 = .ok (.iaload, 1) := dk_46 (dk_at dksX6_keep_2 21 rfl rfl)
theorem dX6_keep_68 : decode cX6_keep 68 = .ok (.iastore, 1) := dk_79 (dk_at dksX6_keep_2 22 rfl rfl)
theorem dX6_keep_69 : decode cX6_keep 69 = .ok (.iinc 1 1, 3) := dk_132 1 1 (dk_at dksX6_keep_3 0 rfl rfl)
theorem dX6_keep_72 : decode cX6_keep 72 = .ok (.goto (-33), 3) := dk_167 255 223 (dk_at dksX6_keep_3 3 rfl rfl)
theorem dX6_keep_75 : decode cX6_keep 75 = .ok (.iconst 0, 1) := dk_3 (dk_at dksX6_keep_3 6 rfl rfl)
theorem dX6_keep_76 : decode cX6_keep 76 = .ok (.istore_n 1, 1) := dk_60 (dk_at dksX6_keep_3 7 rfl rfl)
theorem dX6_keep_77 : decode cX6_keep 77 = .ok (.iload_n 1, 1) := dk_27 (dk_at dksX6_keep_3 8 rfl rfl)
theorem dX6_keep_78 : decode cX6_keep 78 = .ok (.sipush 334, 3) := dk_17 1 78 (dk_at dksX6_keep_3 9 rfl rfl)
theorem dX6_keep_81 : decode cX6_keep 81 = .ok (.if_icmp .ge 21, 3) := dk_162 0 21 (dk_at dksX6_keep_3 12 rfl rfl)
theorem dX6_keep_84 : decode cX6_keep 84 = .ok (.aload_n 0, 1) := dk_42 (dk_at dksX6_keep_3 15 rfl rfl)
theorem dX6_keep_85 : decode cX6_keep 85 = .ok (.getfield 47, 3) := dk_180 0 47 (dk_at dksX6_keep_3 16 rfl rfl)
theorem dX6_keep_88 : decode cX6_keep 88 = .ok (.iload_n 1, 1) := dk_27 (dk_at dksX6_keep_3 19 rfl rfl)
theorem dX6_keep_89 : decode cX6_keep 89 = .ok (.aload_n 0, 1) := dk_42 (dk_at dksX6_keep_3 20 rfl rfl)
theorem dX6_keep_90 : decode cX6_keep 90 = .ok (.getfield 29, 3) := dk_180 0 29 (dk_at dksX6_keep_3 21 rfl rfl)
theorem dX6_keep_93 : decode cX6_keep 93 = .ok (.iload_n 1, 1) := dk_27 (dk_at dksX6_keep_4 0 rfl rfl)
theorem dX6_keep_94 : decode cX6_keep 94 = .ok (.iaload, 1) := dk_46 (dk_at dksX6_keep_4 1 rfl rfl)
theorem dX6_keep_95 : decode cX6_keep 95 = .ok (.iastore, 1) := dk_79 (dk_at dksX6_keep_4 2 rfl rfl)
theorem dX6_keep_96 : decode cX6_keep 96 = .ok (.iinc 1 1, 3) := dk_132 1 1 (dk_at dksX6_keep_4 3 rfl rfl)
theorem dX6_keep_99 : decode cX6_keep 99 = .ok (.goto (-22), 3) := dk_167 255 234 (dk_at dksX6_keep_4 6 rfl rfl)
theorem dX6_keep_102 : decode cX6_keep 102 = .ok (.iconst 0, 1) := dk_3 (dk_at dksX6_keep_4 9 rfl rfl)
theorem dX6_keep_103 : decode cX6_keep 103 = .ok (.istore_n 1, 1) := dk_60 (dk_at dksX6_keep_4 10 rfl rfl)
theorem dX6_keep_104 : decode cX6_keep 104 = .ok (.iload_n 1, 1) := dk_27 (dk_at dksX6_keep_4 11 rfl rfl)
theorem dX6_keep_105 : decode cX6_keep 105 = .ok (.aload_n 0, 1) := dk_42 (dk_at dksX6_keep_4 12 rfl rfl)
theorem dX6_keep_106 : decode cX6_keep 106 = .ok (.getfield 94, 3) := dk_180 0 94 (dk_at dksX6_keep_4 13 rfl rfl)
theorem dX6_keep_109 : decode cX6_keep 109 = .ok (.if_icmp .ge 24, 3) := dk_162 0 24 (dk_at dksX6_keep_4 16 rfl rfl)
theorem dX6_keep_112 : decode cX6_keep 112 = .ok (.aload_n 0, 1) := dk_42 (dk_at dksX6_keep_4 19 rfl rfl)
theorem dX6_keep_113 : decode cX6_keep 113 = .ok (.getfield 50, 3) := dk_180 0 50 (dk_at dksX6_keep_4 20 rfl rfl)
theorem dX6_keep_116 : decode cX6_keep 116 = .ok (.iload_n 1, 1) := dk_27 (dk_at dksX6_keep_4 23 rfl rfl)
theorem dX6_keep_117 : decode cX6_keep 117 = .ok (.aaload, 1) := dk_50 (dk_at dksX6_keep_5 0 rfl rfl)
theorem dX6_keep_118 : decode cX6_keep 118 = .ok (.aload_n 0, 1) := dk_42 (dk_at dksX6_keep_5 1 rfl rfl)
theorem dX6_keep_119 : decode cX6_keep 119 = .ok (.getfield 34, 3) := dk_180 0 34 (dk_at dksX6_keep_5 2 rfl rfl)
theorem dX6_keep_122 : decode cX6_keep 122 = .ok (.iload_n 1, 1) := dk_27 (dk_at dksX6_keep_5 5 rfl rfl)
theorem dX6_keep_123 : decode cX6_keep 123 = .ok (.aaload, 1) := dk_50 (dk_at dksX6_keep_5 6 rfl rfl)
theorem dX6_keep_124 : decode cX6_keep 124 = .ok (.invokevirtual 109, 3) := dk_182 0 109 (dk_at dksX6_keep_5 7 rfl rfl)
theorem dX6_keep_127 : decode cX6_keep 127 = .ok (.iinc 1 1, 3) := dk_132 1 1 (dk_at dksX6_keep_5 10 rfl rfl)
theorem dX6_keep_130 : decode cX6_keep 130 = .ok (.goto (-26), 3) := dk_167 255 230 (dk_at dksX6_keep_5 13 rfl rfl)
theorem dX6_keep_133 : decode cX6_keep 133 = .ok (.iconst 1, 1) := dk_4 (dk_at dksX6_keep_5 16 rfl rfl)
theorem dX6_keep_134 : decode cX6_keep 134 = .ok (.ireturn, 1) := dk_172 (dk_at dksX6_keep_5 17 rfl rfl)
abbrev cX6_back : ByteArray := prog_16_method_9_code
def yX6_back : MethodName := ⟨RX6, "back", "()Z"⟩
def dkwX6_back_6 : List UInt8 := [132, 1, 1, 167, 255, 230, 42, 182, 0, 117, 172]
abbrev dktX6_back_6 : List UInt8 := dkwX6_back_6 ++ []
def dkwX6_back_5 : List UInt8 := [42, 180, 0, 94, 162, 0, 24, 42, 180, 0, 34, 27, 50, 42, 180, 0, 50, 27, 50, 182, 0, 109]
abbrev dktX6_back_5 : List UInt8 := dkwX6_back_5 ++ dktX6_back_6
def dkwX6_back_4 : List UInt8 := [162, 0, 21, 42, 180, 0, 29, 27, 42, 180, 0, 47, 27, 46, 79, 132, 1, 1, 167, 255, 234, 3, 60, 27]
abbrev dktX6_back_4 : List UInt8 := dkwX6_back_4 ++ dktX6_back_5
def dkwX6_back_3 : List UInt8 := [180, 0, 26, 27, 42, 180, 0, 44, 27, 46, 79, 132, 1, 1, 167, 255, 223, 3, 60, 27, 17, 1, 78]
abbrev dktX6_back_3 : List UInt8 := dkwX6_back_3 ++ dktX6_back_4
def dkwX6_back_2 : List UInt8 := [181, 0, 19, 3, 60, 27, 16, 12, 162, 0, 33, 42, 180, 0, 22, 27, 42, 180, 0, 41, 27, 46, 79, 42]
abbrev dktX6_back_2 : List UInt8 := dkwX6_back_2 ++ dktX6_back_3
def dkwX6_back_1 : List UInt8 := [181, 0, 91, 42, 42, 180, 0, 97, 181, 0, 94, 42, 42, 180, 0, 103, 181, 0, 100, 42, 42, 180, 0, 106]
abbrev dktX6_back_1 : List UInt8 := dkwX6_back_1 ++ dktX6_back_2
def dkwX6_back_0 : List UInt8 := [42, 3, 181, 0, 1, 42, 180, 0, 38, 2, 160, 0, 9, 42, 4, 182, 0, 113, 172, 42, 42, 180, 0, 38]
abbrev dktX6_back_0 : List UInt8 := dkwX6_back_0 ++ dktX6_back_1
theorem dksX6_back_0 : cX6_back.data.toList.drop 0 = dktX6_back_0 := by decide +kernel
theorem dksX6_back_1 : cX6_back.data.toList.drop 24 = dktX6_back_1 := dk_seg dksX6_back_0 24 rfl rfl
theorem dksX6_back_2 : cX6_back.data.toList.drop 48 = dktX6_back_2 := dk_seg dksX6_back_1 24 rfl rfl
theorem dksX6_back_3 : cX6_back.data.toList.drop 72 = dktX6_back_3 := dk_seg dksX6_back_2 24 rfl rfl
theorem dksX6_back_4 : cX6_back.data.toList.drop 95 = dktX6_back_4 := dk_seg dksX6_back_3 23 rfl rfl
theorem dksX6_back_5 : cX6_back.data.toList.drop 119 = dktX6_back_5 := dk_seg dksX6_back_4 24 rfl rfl
theorem dksX6_back_6 : cX6_back.data.toList.drop 141 = dktX6_back_6 := dk_seg dksX6_back_5 22 rfl rfl
theorem dX6_back_0 : decode cX6_back 0 = .ok (.aload_n 0, 1) := dk_42 (dk_at dksX6_back_0 0 rfl rfl)
theorem dX6_back_1 : decode cX6_back 1 = .ok (.iconst 0, 1) := dk_3 (dk_at dksX6_back_0 1 rfl rfl)
theorem dX6_back_2 : decode cX6_back 2 = .ok (.putfield 1, 3) := dk_181 0 1 (dk_at dksX6_back_0 2 rfl rfl)
theorem dX6_back_5 : decode cX6_back 5 = .ok (.aload_n 0, 1) := dk_42 (dk_at dksX6_back_0 5 rfl rfl)
theorem dX6_back_6 : decode cX6_back 6 = .ok (.getfield 38, 3) := dk_180 0 38 (dk_at dksX6_back_0 6 rfl rfl)
theorem dX6_back_9 : decode cX6_back 9 = .ok (.iconst (-1), 1) := dk_2 (dk_at dksX6_back_0 9 rfl rfl)
theorem dX6_back_10 : decode cX6_back 10 = .ok (.if_icmp .ne 9, 3) := dk_160 0 9 (dk_at dksX6_back_0 10 rfl rfl)
theorem dX6_back_13 : decode cX6_back 13 = .ok (.aload_n 0, 1) := dk_42 (dk_at dksX6_back_0 13 rfl rfl)
theorem dX6_back_14 : decode cX6_back 14 = .ok (.iconst 1, 1) := dk_4 (dk_at dksX6_back_0 14 rfl rfl)
theorem dX6_back_15 : decode cX6_back 15 = .ok (.invokevirtual 113, 3) := dk_182 0 113 (dk_at dksX6_back_0 15 rfl rfl)
theorem dX6_back_18 : decode cX6_back 18 = .ok (.ireturn, 1) := dk_172 (dk_at dksX6_back_0 18 rfl rfl)
theorem dX6_back_19 : decode cX6_back 19 = .ok (.aload_n 0, 1) := dk_42 (dk_at dksX6_back_0 19 rfl rfl)
theorem dX6_back_20 : decode cX6_back 20 = .ok (.aload_n 0, 1) := dk_42 (dk_at dksX6_back_0 20 rfl rfl)
theorem dX6_back_21 : decode cX6_back 21 = .ok (.getfield 38, 3) := dk_180 0 38 (dk_at dksX6_back_0 21 rfl rfl)
theorem dX6_back_24 : decode cX6_back 24 = .ok (.putfield 91, 3) := dk_181 0 91 (dk_at dksX6_back_1 0 rfl rfl)
theorem dX6_back_27 : decode cX6_back 27 = .ok (.aload_n 0, 1) := dk_42 (dk_at dksX6_back_1 3 rfl rfl)
theorem dX6_back_28 : decode cX6_back 28 = .ok (.aload_n 0, 1) := dk_42 (dk_at dksX6_back_1 4 rfl rfl)
theorem dX6_back_29 : decode cX6_back 29 = .ok (.getfield 97, 3) := dk_180 0 97 (dk_at dksX6_back_1 5 rfl rfl)
theorem dX6_back_32 : decode cX6_back 32 = .ok (.putfield 94, 3) := dk_181 0 94 (dk_at dksX6_back_1 8 rfl rfl)
theorem dX6_back_35 : decode cX6_back 35 = .ok (.aload_n 0, 1) := dk_42 (dk_at dksX6_back_1 11 rfl rfl)
theorem dX6_back_36 : decode cX6_back 36 = .ok (.aload_n 0, 1) := dk_42 (dk_at dksX6_back_1 12 rfl rfl)
theorem dX6_back_37 : decode cX6_back 37 = .ok (.getfield 103, 3) := dk_180 0 103 (dk_at dksX6_back_1 13 rfl rfl)
theorem dX6_back_40 : decode cX6_back 40 = .ok (.putfield 100, 3) := dk_181 0 100 (dk_at dksX6_back_1 16 rfl rfl)
theorem dX6_back_43 : decode cX6_back 43 = .ok (.aload_n 0, 1) := dk_42 (dk_at dksX6_back_1 19 rfl rfl)
theorem dX6_back_44 : decode cX6_back 44 = .ok (.aload_n 0, 1) := dk_42 (dk_at dksX6_back_1 20 rfl rfl)
theorem dX6_back_45 : decode cX6_back 45 = .ok (.getfield 106, 3) := dk_180 0 106 (dk_at dksX6_back_1 21 rfl rfl)
theorem dX6_back_48 : decode cX6_back 48 = .ok (.putfield 19, 3) := dk_181 0 19 (dk_at dksX6_back_2 0 rfl rfl)
theorem dX6_back_51 : decode cX6_back 51 = .ok (.iconst 0, 1) := dk_3 (dk_at dksX6_back_2 3 rfl rfl)
theorem dX6_back_52 : decode cX6_back 52 = .ok (.istore_n 1, 1) := dk_60 (dk_at dksX6_back_2 4 rfl rfl)
theorem dX6_back_53 : decode cX6_back 53 = .ok (.iload_n 1, 1) := dk_27 (dk_at dksX6_back_2 5 rfl rfl)
theorem dX6_back_54 : decode cX6_back 54 = .ok (.bipush 12, 2) := dk_16 12 (dk_at dksX6_back_2 6 rfl rfl)
theorem dX6_back_56 : decode cX6_back 56 = .ok (.if_icmp .ge 33, 3) := dk_162 0 33 (dk_at dksX6_back_2 8 rfl rfl)
theorem dX6_back_59 : decode cX6_back 59 = .ok (.aload_n 0, 1) := dk_42 (dk_at dksX6_back_2 11 rfl rfl)
theorem dX6_back_60 : decode cX6_back 60 = .ok (.getfield 22, 3) := dk_180 0 22 (dk_at dksX6_back_2 12 rfl rfl)
theorem dX6_back_63 : decode cX6_back 63 = .ok (.iload_n 1, 1) := dk_27 (dk_at dksX6_back_2 15 rfl rfl)
theorem dX6_back_64 : decode cX6_back 64 = .ok (.aload_n 0, 1) := dk_42 (dk_at dksX6_back_2 16 rfl rfl)
theorem dX6_back_65 : decode cX6_back 65 = .ok (.getfield 41, 3) := dk_180 0 41 (dk_at dksX6_back_2 17 rfl rfl)
theorem dX6_back_68 : decode cX6_back 68 = .ok (.iload_n 1, 1) := dk_27 (dk_at dksX6_back_2 20 rfl rfl)
theorem dX6_back_69 : decode cX6_back 69 = .ok (.iaload, 1) := dk_46 (dk_at dksX6_back_2 21 rfl rfl)
theorem dX6_back_70 : decode cX6_back 70 = .ok (.iastore, 1) := dk_79 (dk_at dksX6_back_2 22 rfl rfl)
theorem dX6_back_71 : decode cX6_back 71 = .ok (.aload_n 0, 1) := dk_42 (dk_at dksX6_back_2 23 rfl rfl)
theorem dX6_back_72 : decode cX6_back 72 = .ok (.getfield 26, 3) := dk_180 0 26 (dk_at dksX6_back_3 0 rfl rfl)
theorem dX6_back_75 : decode cX6_back 75 = .ok (.iload_n 1, 1) := dk_27 (dk_at dksX6_back_3 3 rfl rfl)
theorem dX6_back_76 : decode cX6_back 76 = .ok (.aload_n 0, 1) := dk_42 (dk_at dksX6_back_3 4 rfl rfl)
theorem dX6_back_77 : decode cX6_back 77 = .ok (.getfield 44, 3) := dk_180 0 44 (dk_at dksX6_back_3 5 rfl rfl)
theorem dX6_back_80 : decode cX6_back 80 = .ok (.iload_n 1, 1) := dk_27 (dk_at dksX6_back_3 8 rfl rfl)
theorem dX6_back_81 : decode cX6_back 81 = .ok (.iaload, 1) := dk_46 (dk_at dksX6_back_3 9 rfl rfl)
theorem dX6_back_82 : decode cX6_back 82 = .ok (.iastore, 1) := dk_79 (dk_at dksX6_back_3 10 rfl rfl)
theorem dX6_back_83 : decode cX6_back 83 = .ok (.iinc 1 1, 3) := dk_132 1 1 (dk_at dksX6_back_3 11 rfl rfl)
theorem dX6_back_86 : decode cX6_back 86 = .ok (.goto (-33), 3) := dk_167 255 223 (dk_at dksX6_back_3 14 rfl rfl)
theorem dX6_back_89 : decode cX6_back 89 = .ok (.iconst 0, 1) := dk_3 (dk_at dksX6_back_3 17 rfl rfl)
theorem dX6_back_90 : decode cX6_back 90 = .ok (.istore_n 1, 1) := dk_60 (dk_at dksX6_back_3 18 rfl rfl)
theorem dX6_back_91 : decode cX6_back 91 = .ok (.iload_n 1, 1) := dk_27 (dk_at dksX6_back_3 19 rfl rfl)
theorem dX6_back_92 : decode cX6_back 92 = .ok (.sipush 334, 3) := dk_17 1 78 (dk_at dksX6_back_3 20 rfl rfl)
theorem dX6_back_95 : decode cX6_back 95 = .ok (.if_icmp .ge 21, 3) := dk_162 0 21 (dk_at dksX6_back_4 0 rfl rfl)
theorem dX6_back_98 : decode cX6_back 98 = .ok (.aload_n 0, 1) := dk_42 (dk_at dksX6_back_4 3 rfl rfl)
theorem dX6_back_99 : decode cX6_back 99 = .ok (.getfield 29, 3) := dk_180 0 29 (dk_at dksX6_back_4 4 rfl rfl)
theorem dX6_back_102 : decode cX6_back 102 = .ok (.iload_n 1, 1) := dk_27 (dk_at dksX6_back_4 7 rfl rfl)
theorem dX6_back_103 : decode cX6_back 103 = .ok (.aload_n 0, 1) := dk_42 (dk_at dksX6_back_4 8 rfl rfl)
theorem dX6_back_104 : decode cX6_back 104 = .ok (.getfield 47, 3) := dk_180 0 47 (dk_at dksX6_back_4 9 rfl rfl)
theorem dX6_back_107 : decode cX6_back 107 = .ok (.iload_n 1, 1) := dk_27 (dk_at dksX6_back_4 12 rfl rfl)
theorem dX6_back_108 : decode cX6_back 108 = .ok (.iaload, 1) := dk_46 (dk_at dksX6_back_4 13 rfl rfl)
theorem dX6_back_109 : decode cX6_back 109 = .ok (.iastore, 1) := dk_79 (dk_at dksX6_back_4 14 rfl rfl)
theorem dX6_back_110 : decode cX6_back 110 = .ok (.iinc 1 1, 3) := dk_132 1 1 (dk_at dksX6_back_4 15 rfl rfl)
theorem dX6_back_113 : decode cX6_back 113 = .ok (.goto (-22), 3) := dk_167 255 234 (dk_at dksX6_back_4 18 rfl rfl)
theorem dX6_back_116 : decode cX6_back 116 = .ok (.iconst 0, 1) := dk_3 (dk_at dksX6_back_4 21 rfl rfl)
theorem dX6_back_117 : decode cX6_back 117 = .ok (.istore_n 1, 1) := dk_60 (dk_at dksX6_back_4 22 rfl rfl)
theorem dX6_back_118 : decode cX6_back 118 = .ok (.iload_n 1, 1) := dk_27 (dk_at dksX6_back_4 23 rfl rfl)
theorem dX6_back_119 : decode cX6_back 119 = .ok (.aload_n 0, 1) := dk_42 (dk_at dksX6_back_5 0 rfl rfl)
theorem dX6_back_120 : decode cX6_back 120 = .ok (.getfield 94, 3) := dk_180 0 94 (dk_at dksX6_back_5 1 rfl rfl)
theorem dX6_back_123 : decode cX6_back 123 = .ok (.if_icmp .ge 24, 3) := dk_162 0 24 (dk_at dksX6_back_5 4 rfl rfl)
theorem dX6_back_126 : decode cX6_back 126 = .ok (.aload_n 0, 1) := dk_42 (dk_at dksX6_back_5 7 rfl rfl)
theorem dX6_back_127 : decode cX6_back 127 = .ok (.getfield 34, 3) := dk_180 0 34 (dk_at dksX6_back_5 8 rfl rfl)
theorem dX6_back_130 : decode cX6_back 130 = .ok (.iload_n 1, 1) := dk_27 (dk_at dksX6_back_5 11 rfl rfl)
theorem dX6_back_131 : decode cX6_back 131 = .ok (.aaload, 1) := dk_50 (dk_at dksX6_back_5 12 rfl rfl)
theorem dX6_back_132 : decode cX6_back 132 = .ok (.aload_n 0, 1) := dk_42 (dk_at dksX6_back_5 13 rfl rfl)
theorem dX6_back_133 : decode cX6_back 133 = .ok (.getfield 50, 3) := dk_180 0 50 (dk_at dksX6_back_5 14 rfl rfl)
theorem dX6_back_136 : decode cX6_back 136 = .ok (.iload_n 1, 1) := dk_27 (dk_at dksX6_back_5 17 rfl rfl)
theorem dX6_back_137 : decode cX6_back 137 = .ok (.aaload, 1) := dk_50 (dk_at dksX6_back_5 18 rfl rfl)
theorem dX6_back_138 : decode cX6_back 138 = .ok (.invokevirtual 109, 3) := dk_182 0 109 (dk_at dksX6_back_5 19 rfl rfl)
theorem dX6_back_141 : decode cX6_back 141 = .ok (.iinc 1 1, 3) := dk_132 1 1 (dk_at dksX6_back_6 0 rfl rfl)
theorem dX6_back_144 : decode cX6_back 144 = .ok (.goto (-26), 3) := dk_167 255 230 (dk_at dksX6_back_6 3 rfl rfl)
theorem dX6_back_147 : decode cX6_back 147 = .ok (.aload_n 0, 1) := dk_42 (dk_at dksX6_back_6 6 rfl rfl)
theorem dX6_back_148 : decode cX6_back 148 = .ok (.invokevirtual 117, 3) := dk_182 0 117 (dk_at dksX6_back_6 7 rfl rfl)
theorem dX6_back_151 : decode cX6_back 151 = .ok (.ireturn, 1) := dk_172 (dk_at dksX6_back_6 10 rfl rfl)
abbrev cX6_denied : ByteArray := prog_16_method_4_code
def yX6_denied : MethodName := ⟨RX6, "denied", "(I)Z"⟩
def dkwX6_denied_0 : List UInt8 := [42, 27, 181, 0, 7, 42, 2, 181, 0, 10, 3, 172]
abbrev dktX6_denied_0 : List UInt8 := dkwX6_denied_0 ++ []
theorem dksX6_denied_0 : cX6_denied.data.toList.drop 0 = dktX6_denied_0 := by decide +kernel
theorem dX6_denied_0 : decode cX6_denied 0 = .ok (.aload_n 0, 1) := dk_42 (dk_at dksX6_denied_0 0 rfl rfl)
theorem dX6_denied_1 : decode cX6_denied 1 = .ok (.iload_n 1, 1) := dk_27 (dk_at dksX6_denied_0 1 rfl rfl)
theorem dX6_denied_2 : decode cX6_denied 2 = .ok (.putfield 7, 3) := dk_181 0 7 (dk_at dksX6_denied_0 2 rfl rfl)
theorem dX6_denied_5 : decode cX6_denied 5 = .ok (.aload_n 0, 1) := dk_42 (dk_at dksX6_denied_0 5 rfl rfl)
theorem dX6_denied_6 : decode cX6_denied 6 = .ok (.iconst (-1), 1) := dk_2 (dk_at dksX6_denied_0 6 rfl rfl)
theorem dX6_denied_7 : decode cX6_denied 7 = .ok (.putfield 10, 3) := dk_181 0 10 (dk_at dksX6_denied_0 7 rfl rfl)
theorem dX6_denied_10 : decode cX6_denied 10 = .ok (.iconst 0, 1) := dk_3 (dk_at dksX6_denied_0 10 rfl rfl)
theorem dX6_denied_11 : decode cX6_denied 11 = .ok (.ireturn, 1) := dk_172 (dk_at dksX6_denied_0 11 rfl rfl)
abbrev cX6_granted : ByteArray := prog_16_method_5_code
def yX6_granted : MethodName := ⟨RX6, "granted", "()Z"⟩
def dkwX6_granted_0 : List UInt8 := [42, 3, 181, 0, 7, 42, 2, 181, 0, 10, 4, 172]
abbrev dktX6_granted_0 : List UInt8 := dkwX6_granted_0 ++ []
theorem dksX6_granted_0 : cX6_granted.data.toList.drop 0 = dktX6_granted_0 := by decide +kernel
theorem dX6_granted_0 : decode cX6_granted 0 = .ok (.aload_n 0, 1) := dk_42 (dk_at dksX6_granted_0 0 rfl rfl)
theorem dX6_granted_1 : decode cX6_granted 1 = .ok (.iconst 0, 1) := dk_3 (dk_at dksX6_granted_0 1 rfl rfl)
theorem dX6_granted_2 : decode cX6_granted 2 = .ok (.putfield 7, 3) := dk_181 0 7 (dk_at dksX6_granted_0 2 rfl rfl)
theorem dX6_granted_5 : decode cX6_granted 5 = .ok (.aload_n 0, 1) := dk_42 (dk_at dksX6_granted_0 5 rfl rfl)
theorem dX6_granted_6 : decode cX6_granted 6 = .ok (.iconst (-1), 1) := dk_2 (dk_at dksX6_granted_0 6 rfl rfl)
theorem dX6_granted_7 : decode cX6_granted 7 = .ok (.putfield 10, 3) := dk_181 0 10 (dk_at dksX6_granted_0 7 rfl rfl)
theorem dX6_granted_10 : decode cX6_granted 10 = .ok (.iconst 1, 1) := dk_4 (dk_at dksX6_granted_0 10 rfl rfl)
theorem dX6_granted_11 : decode cX6_granted 11 = .ok (.ireturn, 1) := dk_172 (dk_at dksX6_granted_0 11 rfl rfl)
abbrev cX6_leg : ByteArray := prog_16_method_10_code
def yX6_leg : MethodName := ⟨RX6, "leg", "(II)I"⟩
def dkwX6_leg_4 : List UInt8 := [180, 0, 91, 182, 0, 129, 172]
abbrev dktX6_leg_4 : List UInt8 := dkwX6_leg_4 ++ []
def dkwX6_leg_3 : List UInt8 := [79, 42, 180, 0, 26, 42, 180, 0, 91, 28, 79, 42, 89, 180, 0, 91, 4, 96, 181, 0, 91, 42, 42]
abbrev dktX6_leg_3 : List UInt8 := dkwX6_leg_3 ++ dktX6_leg_4
def dkwX6_leg_2 : List UInt8 := [42, 180, 0, 91, 16, 12, 160, 0, 9, 42, 6, 182, 0, 121, 172, 42, 180, 0, 22, 42, 180, 0, 91, 27]
abbrev dktX6_leg_2 : List UInt8 := dkwX6_leg_2 ++ dktX6_leg_3
def dkwX6_leg_1 : List UInt8 := [184, 0, 125, 153, 0, 15, 28, 16, 50, 17, 0, 200, 184, 0, 125, 154, 0, 9, 42, 5, 182, 0, 121, 172]
abbrev dktX6_leg_1 : List UInt8 := dkwX6_leg_1 ++ dktX6_leg_2
def dkwX6_leg_0 : List UInt8 := [42, 3, 181, 0, 1, 42, 180, 0, 100, 158, 0, 9, 42, 8, 182, 0, 121, 172, 27, 16, 10, 17, 7, 208]
abbrev dktX6_leg_0 : List UInt8 := dkwX6_leg_0 ++ dktX6_leg_1
theorem dksX6_leg_0 : cX6_leg.data.toList.drop 0 = dktX6_leg_0 := by decide +kernel
theorem dksX6_leg_1 : cX6_leg.data.toList.drop 24 = dktX6_leg_1 := dk_seg dksX6_leg_0 24 rfl rfl
theorem dksX6_leg_2 : cX6_leg.data.toList.drop 48 = dktX6_leg_2 := dk_seg dksX6_leg_1 24 rfl rfl
theorem dksX6_leg_3 : cX6_leg.data.toList.drop 72 = dktX6_leg_3 := dk_seg dksX6_leg_2 24 rfl rfl
theorem dksX6_leg_4 : cX6_leg.data.toList.drop 95 = dktX6_leg_4 := dk_seg dksX6_leg_3 23 rfl rfl
theorem dX6_leg_0 : decode cX6_leg 0 = .ok (.aload_n 0, 1) := dk_42 (dk_at dksX6_leg_0 0 rfl rfl)
theorem dX6_leg_1 : decode cX6_leg 1 = .ok (.iconst 0, 1) := dk_3 (dk_at dksX6_leg_0 1 rfl rfl)
theorem dX6_leg_2 : decode cX6_leg 2 = .ok (.putfield 1, 3) := dk_181 0 1 (dk_at dksX6_leg_0 2 rfl rfl)
theorem dX6_leg_5 : decode cX6_leg 5 = .ok (.aload_n 0, 1) := dk_42 (dk_at dksX6_leg_0 5 rfl rfl)
theorem dX6_leg_6 : decode cX6_leg 6 = .ok (.getfield 100, 3) := dk_180 0 100 (dk_at dksX6_leg_0 6 rfl rfl)
theorem dX6_leg_9 : decode cX6_leg 9 = .ok (.ifCond .le 9, 3) := dk_158 0 9 (dk_at dksX6_leg_0 9 rfl rfl)
theorem dX6_leg_12 : decode cX6_leg 12 = .ok (.aload_n 0, 1) := dk_42 (dk_at dksX6_leg_0 12 rfl rfl)
theorem dX6_leg_13 : decode cX6_leg 13 = .ok (.iconst 5, 1) := dk_8 (dk_at dksX6_leg_0 13 rfl rfl)
theorem dX6_leg_14 : decode cX6_leg 14 = .ok (.invokevirtual 121, 3) := dk_182 0 121 (dk_at dksX6_leg_0 14 rfl rfl)
theorem dX6_leg_17 : decode cX6_leg 17 = .ok (.ireturn, 1) := dk_172 (dk_at dksX6_leg_0 17 rfl rfl)
theorem dX6_leg_18 : decode cX6_leg 18 = .ok (.iload_n 1, 1) := dk_27 (dk_at dksX6_leg_0 18 rfl rfl)
theorem dX6_leg_19 : decode cX6_leg 19 = .ok (.bipush 10, 2) := dk_16 10 (dk_at dksX6_leg_0 19 rfl rfl)
theorem dX6_leg_21 : decode cX6_leg 21 = .ok (.sipush 2000, 3) := dk_17 7 208 (dk_at dksX6_leg_0 21 rfl rfl)
theorem dX6_leg_24 : decode cX6_leg 24 = .ok (.invokestatic 125, 3) := dk_184 0 125 (dk_at dksX6_leg_1 0 rfl rfl)
theorem dX6_leg_27 : decode cX6_leg 27 = .ok (.ifCond .eq 15, 3) := dk_153 0 15 (dk_at dksX6_leg_1 3 rfl rfl)
theorem dX6_leg_30 : decode cX6_leg 30 = .ok (.iload_n 2, 1) := dk_28 (dk_at dksX6_leg_1 6 rfl rfl)
theorem dX6_leg_31 : decode cX6_leg 31 = .ok (.bipush 50, 2) := dk_16 50 (dk_at dksX6_leg_1 7 rfl rfl)
theorem dX6_leg_33 : decode cX6_leg 33 = .ok (.sipush 200, 3) := dk_17 0 200 (dk_at dksX6_leg_1 9 rfl rfl)
theorem dX6_leg_36 : decode cX6_leg 36 = .ok (.invokestatic 125, 3) := dk_184 0 125 (dk_at dksX6_leg_1 12 rfl rfl)
theorem dX6_leg_39 : decode cX6_leg 39 = .ok (.ifCond .ne 9, 3) := dk_154 0 9 (dk_at dksX6_leg_1 15 rfl rfl)
theorem dX6_leg_42 : decode cX6_leg 42 = .ok (.aload_n 0, 1) := dk_42 (dk_at dksX6_leg_1 18 rfl rfl)
theorem dX6_leg_43 : decode cX6_leg 43 = .ok (.iconst 2, 1) := dk_5 (dk_at dksX6_leg_1 19 rfl rfl)
theorem dX6_leg_44 : decode cX6_leg 44 = .ok (.invokevirtual 121, 3) := dk_182 0 121 (dk_at dksX6_leg_1 20 rfl rfl)
theorem dX6_leg_47 : decode cX6_leg 47 = .ok (.ireturn, 1) := dk_172 (dk_at dksX6_leg_1 23 rfl rfl)
theorem dX6_leg_48 : decode cX6_leg 48 = .ok (.aload_n 0, 1) := dk_42 (dk_at dksX6_leg_2 0 rfl rfl)
theorem dX6_leg_49 : decode cX6_leg 49 = .ok (.getfield 91, 3) := dk_180 0 91 (dk_at dksX6_leg_2 1 rfl rfl)
theorem dX6_leg_52 : decode cX6_leg 52 = .ok (.bipush 12, 2) := dk_16 12 (dk_at dksX6_leg_2 4 rfl rfl)
theorem dX6_leg_54 : decode cX6_leg 54 = .ok (.if_icmp .ne 9, 3) := dk_160 0 9 (dk_at dksX6_leg_2 6 rfl rfl)
theorem dX6_leg_57 : decode cX6_leg 57 = .ok (.aload_n 0, 1) := dk_42 (dk_at dksX6_leg_2 9 rfl rfl)
theorem dX6_leg_58 : decode cX6_leg 58 = .ok (.iconst 3, 1) := dk_6 (dk_at dksX6_leg_2 10 rfl rfl)
theorem dX6_leg_59 : decode cX6_leg 59 = .ok (.invokevirtual 121, 3) := dk_182 0 121 (dk_at dksX6_leg_2 11 rfl rfl)
theorem dX6_leg_62 : decode cX6_leg 62 = .ok (.ireturn, 1) := dk_172 (dk_at dksX6_leg_2 14 rfl rfl)
theorem dX6_leg_63 : decode cX6_leg 63 = .ok (.aload_n 0, 1) := dk_42 (dk_at dksX6_leg_2 15 rfl rfl)
theorem dX6_leg_64 : decode cX6_leg 64 = .ok (.getfield 22, 3) := dk_180 0 22 (dk_at dksX6_leg_2 16 rfl rfl)
theorem dX6_leg_67 : decode cX6_leg 67 = .ok (.aload_n 0, 1) := dk_42 (dk_at dksX6_leg_2 19 rfl rfl)
theorem dX6_leg_68 : decode cX6_leg 68 = .ok (.getfield 91, 3) := dk_180 0 91 (dk_at dksX6_leg_2 20 rfl rfl)
theorem dX6_leg_71 : decode cX6_leg 71 = .ok (.iload_n 1, 1) := dk_27 (dk_at dksX6_leg_2 23 rfl rfl)
theorem dX6_leg_72 : decode cX6_leg 72 = .ok (.iastore, 1) := dk_79 (dk_at dksX6_leg_3 0 rfl rfl)
theorem dX6_leg_73 : decode cX6_leg 73 = .ok (.aload_n 0, 1) := dk_42 (dk_at dksX6_leg_3 1 rfl rfl)
theorem dX6_leg_74 : decode cX6_leg 74 = .ok (.getfield 26, 3) := dk_180 0 26 (dk_at dksX6_leg_3 2 rfl rfl)
theorem dX6_leg_77 : decode cX6_leg 77 = .ok (.aload_n 0, 1) := dk_42 (dk_at dksX6_leg_3 5 rfl rfl)
theorem dX6_leg_78 : decode cX6_leg 78 = .ok (.getfield 91, 3) := dk_180 0 91 (dk_at dksX6_leg_3 6 rfl rfl)
theorem dX6_leg_81 : decode cX6_leg 81 = .ok (.iload_n 2, 1) := dk_28 (dk_at dksX6_leg_3 9 rfl rfl)
theorem dX6_leg_82 : decode cX6_leg 82 = .ok (.iastore, 1) := dk_79 (dk_at dksX6_leg_3 10 rfl rfl)
theorem dX6_leg_83 : decode cX6_leg 83 = .ok (.aload_n 0, 1) := dk_42 (dk_at dksX6_leg_3 11 rfl rfl)
theorem dX6_leg_84 : decode cX6_leg 84 = .ok (.dup, 1) := dk_89 (dk_at dksX6_leg_3 12 rfl rfl)
theorem dX6_leg_85 : decode cX6_leg 85 = .ok (.getfield 91, 3) := dk_180 0 91 (dk_at dksX6_leg_3 13 rfl rfl)
theorem dX6_leg_88 : decode cX6_leg 88 = .ok (.iconst 1, 1) := dk_4 (dk_at dksX6_leg_3 16 rfl rfl)
theorem dX6_leg_89 : decode cX6_leg 89 = .ok (.iadd, 1) := dk_96 (dk_at dksX6_leg_3 17 rfl rfl)
theorem dX6_leg_90 : decode cX6_leg 90 = .ok (.putfield 91, 3) := dk_181 0 91 (dk_at dksX6_leg_3 18 rfl rfl)
theorem dX6_leg_93 : decode cX6_leg 93 = .ok (.aload_n 0, 1) := dk_42 (dk_at dksX6_leg_3 21 rfl rfl)
theorem dX6_leg_94 : decode cX6_leg 94 = .ok (.aload_n 0, 1) := dk_42 (dk_at dksX6_leg_3 22 rfl rfl)
theorem dX6_leg_95 : decode cX6_leg 95 = .ok (.getfield 91, 3) := dk_180 0 91 (dk_at dksX6_leg_4 0 rfl rfl)
theorem dX6_leg_98 : decode cX6_leg 98 = .ok (.invokevirtual 129, 3) := dk_182 0 129 (dk_at dksX6_leg_4 3 rfl rfl)
theorem dX6_leg_101 : decode cX6_leg 101 = .ok (.ireturn, 1) := dk_172 (dk_at dksX6_leg_4 6 rfl rfl)
abbrev cX6_refused : ByteArray := prog_16_method_2_code
def yX6_refused : MethodName := ⟨RX6, "refused", "(I)I"⟩
def dkwX6_refused_0 : List UInt8 := [42, 27, 181, 0, 7, 42, 2, 181, 0, 10, 2, 172]
abbrev dktX6_refused_0 : List UInt8 := dkwX6_refused_0 ++ []
theorem dksX6_refused_0 : cX6_refused.data.toList.drop 0 = dktX6_refused_0 := by decide +kernel
theorem dX6_refused_0 : decode cX6_refused 0 = .ok (.aload_n 0, 1) := dk_42 (dk_at dksX6_refused_0 0 rfl rfl)
theorem dX6_refused_1 : decode cX6_refused 1 = .ok (.iload_n 1, 1) := dk_27 (dk_at dksX6_refused_0 1 rfl rfl)
theorem dX6_refused_2 : decode cX6_refused 2 = .ok (.putfield 7, 3) := dk_181 0 7 (dk_at dksX6_refused_0 2 rfl rfl)
theorem dX6_refused_5 : decode cX6_refused 5 = .ok (.aload_n 0, 1) := dk_42 (dk_at dksX6_refused_0 5 rfl rfl)
theorem dX6_refused_6 : decode cX6_refused 6 = .ok (.iconst (-1), 1) := dk_2 (dk_at dksX6_refused_0 6 rfl rfl)
theorem dX6_refused_7 : decode cX6_refused 7 = .ok (.putfield 10, 3) := dk_181 0 10 (dk_at dksX6_refused_0 7 rfl rfl)
theorem dX6_refused_10 : decode cX6_refused 10 = .ok (.iconst (-1), 1) := dk_2 (dk_at dksX6_refused_0 10 rfl rfl)
theorem dX6_refused_11 : decode cX6_refused 11 = .ok (.ireturn, 1) := dk_172 (dk_at dksX6_refused_0 11 rfl rfl)
abbrev cX6_in : ByteArray := prog_16_method_6_code
def yX6_in : MethodName := ⟨RX6, "in", "(III)Z"⟩
def dkwX6_in_0 : List UInt8 := [26, 27, 161, 0, 12, 26, 28, 163, 0, 7, 4, 167, 0, 4, 3, 172]
abbrev dktX6_in_0 : List UInt8 := dkwX6_in_0 ++ []
theorem dksX6_in_0 : cX6_in.data.toList.drop 0 = dktX6_in_0 := by decide +kernel
theorem dX6_in_0 : decode cX6_in 0 = .ok (.iload_n 0, 1) := dk_26 (dk_at dksX6_in_0 0 rfl rfl)
theorem dX6_in_1 : decode cX6_in 1 = .ok (.iload_n 1, 1) := dk_27 (dk_at dksX6_in_0 1 rfl rfl)
theorem dX6_in_2 : decode cX6_in 2 = .ok (.if_icmp .lt 12, 3) := dk_161 0 12 (dk_at dksX6_in_0 2 rfl rfl)
theorem dX6_in_5 : decode cX6_in 5 = .ok (.iload_n 0, 1) := dk_26 (dk_at dksX6_in_0 5 rfl rfl)
theorem dX6_in_6 : decode cX6_in 6 = .ok (.iload_n 2, 1) := dk_28 (dk_at dksX6_in_0 6 rfl rfl)
theorem dX6_in_7 : decode cX6_in 7 = .ok (.if_icmp .gt 7, 3) := dk_163 0 7 (dk_at dksX6_in_0 7 rfl rfl)
theorem dX6_in_10 : decode cX6_in 10 = .ok (.iconst 1, 1) := dk_4 (dk_at dksX6_in_0 10 rfl rfl)
theorem dX6_in_11 : decode cX6_in 11 = .ok (.goto 4, 3) := dk_167 0 4 (dk_at dksX6_in_0 11 rfl rfl)
theorem dX6_in_14 : decode cX6_in 14 = .ok (.iconst 0, 1) := dk_3 (dk_at dksX6_in_0 14 rfl rfl)
theorem dX6_in_15 : decode cX6_in 15 = .ok (.ireturn, 1) := dk_172 (dk_at dksX6_in_0 15 rfl rfl)
abbrev cX6_done : ByteArray := prog_16_method_3_code
def yX6_done : MethodName := ⟨RX6, "done", "(I)I"⟩
def dkwX6_done_0 : List UInt8 := [42, 3, 181, 0, 7, 42, 2, 181, 0, 10, 27, 172]
abbrev dktX6_done_0 : List UInt8 := dkwX6_done_0 ++ []
theorem dksX6_done_0 : cX6_done.data.toList.drop 0 = dktX6_done_0 := by decide +kernel
theorem dX6_done_0 : decode cX6_done 0 = .ok (.aload_n 0, 1) := dk_42 (dk_at dksX6_done_0 0 rfl rfl)
theorem dX6_done_1 : decode cX6_done 1 = .ok (.iconst 0, 1) := dk_3 (dk_at dksX6_done_0 1 rfl rfl)
theorem dX6_done_2 : decode cX6_done 2 = .ok (.putfield 7, 3) := dk_181 0 7 (dk_at dksX6_done_0 2 rfl rfl)
theorem dX6_done_5 : decode cX6_done 5 = .ok (.aload_n 0, 1) := dk_42 (dk_at dksX6_done_0 5 rfl rfl)
theorem dX6_done_6 : decode cX6_done 6 = .ok (.iconst (-1), 1) := dk_2 (dk_at dksX6_done_0 6 rfl rfl)
theorem dX6_done_7 : decode cX6_done 7 = .ok (.putfield 10, 3) := dk_181 0 10 (dk_at dksX6_done_0 7 rfl rfl)
theorem dX6_done_10 : decode cX6_done 10 = .ok (.iload_n 1, 1) := dk_27 (dk_at dksX6_done_0 10 rfl rfl)
theorem dX6_done_11 : decode cX6_done 11 = .ok (.ireturn, 1) := dk_172 (dk_at dksX6_done_0 11 rfl rfl)
abbrev cX6_cold : ByteArray := prog_16_method_11_code
def yX6_cold : MethodName := ⟨RX6, "cold", "(III)Z"⟩
def dkwX6_cold_3 : List UInt8 := [167, 255, 227, 42, 182, 0, 117, 172]
abbrev dktX6_cold_3 : List UInt8 := dkwX6_cold_3 ++ []
def dkwX6_cold_2 : List UInt8 := [16, 6, 21, 4, 104, 42, 180, 0, 100, 161, 0, 11, 42, 180, 0, 29, 21, 4, 29, 79, 132, 4, 1]
abbrev dktX6_cold_2 : List UInt8 := dkwX6_cold_2 ++ dktX6_cold_3
def dkwX6_cold_1 : List UInt8 := [16, 20, 184, 0, 125, 154, 0, 9, 42, 5, 182, 0, 113, 172, 27, 54, 4, 21, 4, 28, 163, 0, 29]
abbrev dktX6_cold_1 : List UInt8 := dkwX6_cold_1 ++ dktX6_cold_2
def dkwX6_cold_0 : List UInt8 := [42, 3, 181, 0, 1, 27, 155, 0, 26, 27, 28, 163, 0, 21, 28, 17, 1, 78, 162, 0, 14, 29, 16, 206]
abbrev dktX6_cold_0 : List UInt8 := dkwX6_cold_0 ++ dktX6_cold_1
theorem dksX6_cold_0 : cX6_cold.data.toList.drop 0 = dktX6_cold_0 := by decide +kernel
theorem dksX6_cold_1 : cX6_cold.data.toList.drop 24 = dktX6_cold_1 := dk_seg dksX6_cold_0 24 rfl rfl
theorem dksX6_cold_2 : cX6_cold.data.toList.drop 47 = dktX6_cold_2 := dk_seg dksX6_cold_1 23 rfl rfl
theorem dksX6_cold_3 : cX6_cold.data.toList.drop 70 = dktX6_cold_3 := dk_seg dksX6_cold_2 23 rfl rfl
theorem dX6_cold_0 : decode cX6_cold 0 = .ok (.aload_n 0, 1) := dk_42 (dk_at dksX6_cold_0 0 rfl rfl)
theorem dX6_cold_1 : decode cX6_cold 1 = .ok (.iconst 0, 1) := dk_3 (dk_at dksX6_cold_0 1 rfl rfl)
theorem dX6_cold_2 : decode cX6_cold 2 = .ok (.putfield 1, 3) := dk_181 0 1 (dk_at dksX6_cold_0 2 rfl rfl)
theorem dX6_cold_5 : decode cX6_cold 5 = .ok (.iload_n 1, 1) := dk_27 (dk_at dksX6_cold_0 5 rfl rfl)
theorem dX6_cold_6 : decode cX6_cold 6 = .ok (.ifCond .lt 26, 3) := dk_155 0 26 (dk_at dksX6_cold_0 6 rfl rfl)
theorem dX6_cold_9 : decode cX6_cold 9 = .ok (.iload_n 1, 1) := dk_27 (dk_at dksX6_cold_0 9 rfl rfl)
theorem dX6_cold_10 : decode cX6_cold 10 = .ok (.iload_n 2, 1) := dk_28 (dk_at dksX6_cold_0 10 rfl rfl)
theorem dX6_cold_11 : decode cX6_cold 11 = .ok (.if_icmp .gt 21, 3) := dk_163 0 21 (dk_at dksX6_cold_0 11 rfl rfl)
theorem dX6_cold_14 : decode cX6_cold 14 = .ok (.iload_n 2, 1) := dk_28 (dk_at dksX6_cold_0 14 rfl rfl)
theorem dX6_cold_15 : decode cX6_cold 15 = .ok (.sipush 334, 3) := dk_17 1 78 (dk_at dksX6_cold_0 15 rfl rfl)
theorem dX6_cold_18 : decode cX6_cold 18 = .ok (.if_icmp .ge 14, 3) := dk_162 0 14 (dk_at dksX6_cold_0 18 rfl rfl)
theorem dX6_cold_21 : decode cX6_cold 21 = .ok (.iload_n 3, 1) := dk_29 (dk_at dksX6_cold_0 21 rfl rfl)
theorem dX6_cold_22 : decode cX6_cold 22 = .ok (.bipush (-50), 2) := dk_16 206 (dk_at dksX6_cold_0 22 rfl rfl)
theorem dX6_cold_24 : decode cX6_cold 24 = .ok (.bipush 20, 2) := dk_16 20 (dk_at dksX6_cold_1 0 rfl rfl)
theorem dX6_cold_26 : decode cX6_cold 26 = .ok (.invokestatic 125, 3) := dk_184 0 125 (dk_at dksX6_cold_1 2 rfl rfl)
theorem dX6_cold_29 : decode cX6_cold 29 = .ok (.ifCond .ne 9, 3) := dk_154 0 9 (dk_at dksX6_cold_1 5 rfl rfl)
theorem dX6_cold_32 : decode cX6_cold 32 = .ok (.aload_n 0, 1) := dk_42 (dk_at dksX6_cold_1 8 rfl rfl)
theorem dX6_cold_33 : decode cX6_cold 33 = .ok (.iconst 2, 1) := dk_5 (dk_at dksX6_cold_1 9 rfl rfl)
theorem dX6_cold_34 : decode cX6_cold 34 = .ok (.invokevirtual 113, 3) := dk_182 0 113 (dk_at dksX6_cold_1 10 rfl rfl)
theorem dX6_cold_37 : decode cX6_cold 37 = .ok (.ireturn, 1) := dk_172 (dk_at dksX6_cold_1 13 rfl rfl)
theorem dX6_cold_38 : decode cX6_cold 38 = .ok (.iload_n 1, 1) := dk_27 (dk_at dksX6_cold_1 14 rfl rfl)
theorem dX6_cold_39 : decode cX6_cold 39 = .ok (.istore 4, 2) := dk_54 4 (dk_at dksX6_cold_1 15 rfl rfl)
theorem dX6_cold_41 : decode cX6_cold 41 = .ok (.iload 4, 2) := dk_21 4 (dk_at dksX6_cold_1 17 rfl rfl)
theorem dX6_cold_43 : decode cX6_cold 43 = .ok (.iload_n 2, 1) := dk_28 (dk_at dksX6_cold_1 19 rfl rfl)
theorem dX6_cold_44 : decode cX6_cold 44 = .ok (.if_icmp .gt 29, 3) := dk_163 0 29 (dk_at dksX6_cold_1 20 rfl rfl)
theorem dX6_cold_47 : decode cX6_cold 47 = .ok (.bipush 6, 2) := dk_16 6 (dk_at dksX6_cold_2 0 rfl rfl)
theorem dX6_cold_49 : decode cX6_cold 49 = .ok (.iload 4, 2) := dk_21 4 (dk_at dksX6_cold_2 2 rfl rfl)
theorem dX6_cold_51 : decode cX6_cold 51 = .ok (.imul, 1) := dk_104 (dk_at dksX6_cold_2 4 rfl rfl)
theorem dX6_cold_52 : decode cX6_cold 52 = .ok (.aload_n 0, 1) := dk_42 (dk_at dksX6_cold_2 5 rfl rfl)
theorem dX6_cold_53 : decode cX6_cold 53 = .ok (.getfield 100, 3) := dk_180 0 100 (dk_at dksX6_cold_2 6 rfl rfl)
theorem dX6_cold_56 : decode cX6_cold 56 = .ok (.if_icmp .lt 11, 3) := dk_161 0 11 (dk_at dksX6_cold_2 9 rfl rfl)
theorem dX6_cold_59 : decode cX6_cold 59 = .ok (.aload_n 0, 1) := dk_42 (dk_at dksX6_cold_2 12 rfl rfl)
theorem dX6_cold_60 : decode cX6_cold 60 = .ok (.getfield 29, 3) := dk_180 0 29 (dk_at dksX6_cold_2 13 rfl rfl)
theorem dX6_cold_63 : decode cX6_cold 63 = .ok (.iload 4, 2) := dk_21 4 (dk_at dksX6_cold_2 16 rfl rfl)
theorem dX6_cold_65 : decode cX6_cold 65 = .ok (.iload_n 3, 1) := dk_29 (dk_at dksX6_cold_2 18 rfl rfl)
theorem dX6_cold_66 : decode cX6_cold 66 = .ok (.iastore, 1) := dk_79 (dk_at dksX6_cold_2 19 rfl rfl)
theorem dX6_cold_67 : decode cX6_cold 67 = .ok (.iinc 4 1, 3) := dk_132 4 1 (dk_at dksX6_cold_2 20 rfl rfl)
theorem dX6_cold_70 : decode cX6_cold 70 = .ok (.goto (-29), 3) := dk_167 255 227 (dk_at dksX6_cold_3 0 rfl rfl)
theorem dX6_cold_73 : decode cX6_cold 73 = .ok (.aload_n 0, 1) := dk_42 (dk_at dksX6_cold_3 3 rfl rfl)
theorem dX6_cold_74 : decode cX6_cold 74 = .ok (.invokevirtual 117, 3) := dk_182 0 117 (dk_at dksX6_cold_3 4 rfl rfl)
theorem dX6_cold_77 : decode cX6_cold 77 = .ok (.ireturn, 1) := dk_172 (dk_at dksX6_cold_3 7 rfl rfl)
abbrev cX6_feed : ByteArray := prog_16_method_28_code
def yX6_feed : MethodName := ⟨RX6, "feed", "(IIIII)I"⟩
def dkwX6_feed_5 : List UInt8 := [180, 0, 221, 172]
abbrev dktX6_feed_5 : List UInt8 := dkwX6_feed_5 ++ []
def dkwX6_feed_4 : List UInt8 := [112, 104, 100, 122, 145, 84, 42, 89, 180, 0, 221, 4, 96, 181, 0, 221, 132, 6, 1, 167, 255, 165, 42]
abbrev dktX6_feed_4 : List UInt8 := dkwX6_feed_4 ++ dktX6_feed_5
def dkwX6_feed_3 : List UInt8 := [167, 0, 5, 21, 5, 54, 7, 42, 180, 0, 65, 42, 180, 0, 221, 21, 7, 16, 24, 16, 8, 21, 6, 7]
abbrev dktX6_feed_3 : List UInt8 := dkwX6_feed_3 ++ dktX6_feed_4
def dkwX6_feed_2 : List UInt8 := [28, 167, 0, 28, 21, 6, 16, 12, 162, 0, 7, 29, 167, 0, 17, 21, 6, 16, 16, 162, 0, 8, 21, 4]
abbrev dktX6_feed_2 : List UInt8 := dkwX6_feed_2 ++ dktX6_feed_3
def dkwX6_feed_1 : List UInt8 := [21, 6, 16, 20, 162, 0, 90, 21, 6, 7, 162, 0, 7, 27, 167, 0, 39, 21, 6, 16, 8, 162, 0, 7]
abbrev dktX6_feed_1 : List UInt8 := dkwX6_feed_1 ++ dktX6_feed_2
def dkwX6_feed_0 : List UInt8 := [42, 3, 181, 0, 1, 42, 180, 0, 221, 16, 20, 96, 17, 1, 144, 164, 0, 5, 2, 172, 3, 54, 6]
abbrev dktX6_feed_0 : List UInt8 := dkwX6_feed_0 ++ dktX6_feed_1
theorem dksX6_feed_0 : cX6_feed.data.toList.drop 0 = dktX6_feed_0 := by decide +kernel
theorem dksX6_feed_1 : cX6_feed.data.toList.drop 23 = dktX6_feed_1 := dk_seg dksX6_feed_0 23 rfl rfl
theorem dksX6_feed_2 : cX6_feed.data.toList.drop 47 = dktX6_feed_2 := dk_seg dksX6_feed_1 24 rfl rfl
theorem dksX6_feed_3 : cX6_feed.data.toList.drop 71 = dktX6_feed_3 := dk_seg dksX6_feed_2 24 rfl rfl
theorem dksX6_feed_4 : cX6_feed.data.toList.drop 95 = dktX6_feed_4 := dk_seg dksX6_feed_3 24 rfl rfl
theorem dksX6_feed_5 : cX6_feed.data.toList.drop 118 = dktX6_feed_5 := dk_seg dksX6_feed_4 23 rfl rfl
theorem dX6_feed_0 : decode cX6_feed 0 = .ok (.aload_n 0, 1) := dk_42 (dk_at dksX6_feed_0 0 rfl rfl)
theorem dX6_feed_1 : decode cX6_feed 1 = .ok (.iconst 0, 1) := dk_3 (dk_at dksX6_feed_0 1 rfl rfl)
theorem dX6_feed_2 : decode cX6_feed 2 = .ok (.putfield 1, 3) := dk_181 0 1 (dk_at dksX6_feed_0 2 rfl rfl)
theorem dX6_feed_5 : decode cX6_feed 5 = .ok (.aload_n 0, 1) := dk_42 (dk_at dksX6_feed_0 5 rfl rfl)
theorem dX6_feed_6 : decode cX6_feed 6 = .ok (.getfield 221, 3) := dk_180 0 221 (dk_at dksX6_feed_0 6 rfl rfl)
theorem dX6_feed_9 : decode cX6_feed 9 = .ok (.bipush 20, 2) := dk_16 20 (dk_at dksX6_feed_0 9 rfl rfl)
theorem dX6_feed_11 : decode cX6_feed 11 = .ok (.iadd, 1) := dk_96 (dk_at dksX6_feed_0 11 rfl rfl)
theorem dX6_feed_12 : decode cX6_feed 12 = .ok (.sipush 400, 3) := dk_17 1 144 (dk_at dksX6_feed_0 12 rfl rfl)
theorem dX6_feed_15 : decode cX6_feed 15 = .ok (.if_icmp .le 5, 3) := dk_164 0 5 (dk_at dksX6_feed_0 15 rfl rfl)
theorem dX6_feed_18 : decode cX6_feed 18 = .ok (.iconst (-1), 1) := dk_2 (dk_at dksX6_feed_0 18 rfl rfl)
theorem dX6_feed_19 : decode cX6_feed 19 = .ok (.ireturn, 1) := dk_172 (dk_at dksX6_feed_0 19 rfl rfl)
theorem dX6_feed_20 : decode cX6_feed 20 = .ok (.iconst 0, 1) := dk_3 (dk_at dksX6_feed_0 20 rfl rfl)
theorem dX6_feed_21 : decode cX6_feed 21 = .ok (.istore 6, 2) := dk_54 6 (dk_at dksX6_feed_0 21 rfl rfl)
theorem dX6_feed_23 : decode cX6_feed 23 = .ok (.iload 6, 2) := dk_21 6 (dk_at dksX6_feed_1 0 rfl rfl)
theorem dX6_feed_25 : decode cX6_feed 25 = .ok (.bipush 20, 2) := dk_16 20 (dk_at dksX6_feed_1 2 rfl rfl)
theorem dX6_feed_27 : decode cX6_feed 27 = .ok (.if_icmp .ge 90, 3) := dk_162 0 90 (dk_at dksX6_feed_1 4 rfl rfl)
theorem dX6_feed_30 : decode cX6_feed 30 = .ok (.iload 6, 2) := dk_21 6 (dk_at dksX6_feed_1 7 rfl rfl)
theorem dX6_feed_32 : decode cX6_feed 32 = .ok (.iconst 4, 1) := dk_7 (dk_at dksX6_feed_1 9 rfl rfl)
theorem dX6_feed_33 : decode cX6_feed 33 = .ok (.if_icmp .ge 7, 3) := dk_162 0 7 (dk_at dksX6_feed_1 10 rfl rfl)
theorem dX6_feed_36 : decode cX6_feed 36 = .ok (.iload_n 1, 1) := dk_27 (dk_at dksX6_feed_1 13 rfl rfl)
theorem dX6_feed_37 : decode cX6_feed 37 = .ok (.goto 39, 3) := dk_167 0 39 (dk_at dksX6_feed_1 14 rfl rfl)
theorem dX6_feed_40 : decode cX6_feed 40 = .ok (.iload 6, 2) := dk_21 6 (dk_at dksX6_feed_1 17 rfl rfl)
theorem dX6_feed_42 : decode cX6_feed 42 = .ok (.bipush 8, 2) := dk_16 8 (dk_at dksX6_feed_1 19 rfl rfl)
theorem dX6_feed_44 : decode cX6_feed 44 = .ok (.if_icmp .ge 7, 3) := dk_162 0 7 (dk_at dksX6_feed_1 21 rfl rfl)
theorem dX6_feed_47 : decode cX6_feed 47 = .ok (.iload_n 2, 1) := dk_28 (dk_at dksX6_feed_2 0 rfl rfl)
theorem dX6_feed_48 : decode cX6_feed 48 = .ok (.goto 28, 3) := dk_167 0 28 (dk_at dksX6_feed_2 1 rfl rfl)
theorem dX6_feed_51 : decode cX6_feed 51 = .ok (.iload 6, 2) := dk_21 6 (dk_at dksX6_feed_2 4 rfl rfl)
theorem dX6_feed_53 : decode cX6_feed 53 = .ok (.bipush 12, 2) := dk_16 12 (dk_at dksX6_feed_2 6 rfl rfl)
theorem dX6_feed_55 : decode cX6_feed 55 = .ok (.if_icmp .ge 7, 3) := dk_162 0 7 (dk_at dksX6_feed_2 8 rfl rfl)
theorem dX6_feed_58 : decode cX6_feed 58 = .ok (.iload_n 3, 1) := dk_29 (dk_at dksX6_feed_2 11 rfl rfl)
theorem dX6_feed_59 : decode cX6_feed 59 = .ok (.goto 17, 3) := dk_167 0 17 (dk_at dksX6_feed_2 12 rfl rfl)
theorem dX6_feed_62 : decode cX6_feed 62 = .ok (.iload 6, 2) := dk_21 6 (dk_at dksX6_feed_2 15 rfl rfl)
theorem dX6_feed_64 : decode cX6_feed 64 = .ok (.bipush 16, 2) := dk_16 16 (dk_at dksX6_feed_2 17 rfl rfl)
theorem dX6_feed_66 : decode cX6_feed 66 = .ok (.if_icmp .ge 8, 3) := dk_162 0 8 (dk_at dksX6_feed_2 19 rfl rfl)
theorem dX6_feed_69 : decode cX6_feed 69 = .ok (.iload 4, 2) := dk_21 4 (dk_at dksX6_feed_2 22 rfl rfl)
theorem dX6_feed_71 : decode cX6_feed 71 = .ok (.goto 5, 3) := dk_167 0 5 (dk_at dksX6_feed_3 0 rfl rfl)
theorem dX6_feed_74 : decode cX6_feed 74 = .ok (.iload 5, 2) := dk_21 5 (dk_at dksX6_feed_3 3 rfl rfl)
theorem dX6_feed_76 : decode cX6_feed 76 = .ok (.istore 7, 2) := dk_54 7 (dk_at dksX6_feed_3 5 rfl rfl)
theorem dX6_feed_78 : decode cX6_feed 78 = .ok (.aload_n 0, 1) := dk_42 (dk_at dksX6_feed_3 7 rfl rfl)
theorem dX6_feed_79 : decode cX6_feed 79 = .ok (.getfield 65, 3) := dk_180 0 65 (dk_at dksX6_feed_3 8 rfl rfl)
theorem dX6_feed_82 : decode cX6_feed 82 = .ok (.aload_n 0, 1) := dk_42 (dk_at dksX6_feed_3 11 rfl rfl)
theorem dX6_feed_83 : decode cX6_feed 83 = .ok (.getfield 221, 3) := dk_180 0 221 (dk_at dksX6_feed_3 12 rfl rfl)
theorem dX6_feed_86 : decode cX6_feed 86 = .ok (.iload 7, 2) := dk_21 7 (dk_at dksX6_feed_3 15 rfl rfl)
theorem dX6_feed_88 : decode cX6_feed 88 = .ok (.bipush 24, 2) := dk_16 24 (dk_at dksX6_feed_3 17 rfl rfl)
theorem dX6_feed_90 : decode cX6_feed 90 = .ok (.bipush 8, 2) := dk_16 8 (dk_at dksX6_feed_3 19 rfl rfl)
theorem dX6_feed_92 : decode cX6_feed 92 = .ok (.iload 6, 2) := dk_21 6 (dk_at dksX6_feed_3 21 rfl rfl)
theorem dX6_feed_94 : decode cX6_feed 94 = .ok (.iconst 4, 1) := dk_7 (dk_at dksX6_feed_3 23 rfl rfl)
theorem dX6_feed_95 : decode cX6_feed 95 = .ok (.irem, 1) := dk_112 (dk_at dksX6_feed_4 0 rfl rfl)
theorem dX6_feed_96 : decode cX6_feed 96 = .ok (.imul, 1) := dk_104 (dk_at dksX6_feed_4 1 rfl rfl)
theorem dX6_feed_97 : decode cX6_feed 97 = .ok (.isub, 1) := dk_100 (dk_at dksX6_feed_4 2 rfl rfl)
theorem dX6_feed_98 : decode cX6_feed 98 = .ok (.ishr, 1) := dk_122 (dk_at dksX6_feed_4 3 rfl rfl)
theorem dX6_feed_99 : decode cX6_feed 99 = .ok (.i2b, 1) := dk_145 (dk_at dksX6_feed_4 4 rfl rfl)
theorem dX6_feed_100 : decode cX6_feed 100 = .ok (.bastore, 1) := dk_84 (dk_at dksX6_feed_4 5 rfl rfl)
theorem dX6_feed_101 : decode cX6_feed 101 = .ok (.aload_n 0, 1) := dk_42 (dk_at dksX6_feed_4 6 rfl rfl)
theorem dX6_feed_102 : decode cX6_feed 102 = .ok (.dup, 1) := dk_89 (dk_at dksX6_feed_4 7 rfl rfl)
theorem dX6_feed_103 : decode cX6_feed 103 = .ok (.getfield 221, 3) := dk_180 0 221 (dk_at dksX6_feed_4 8 rfl rfl)
theorem dX6_feed_106 : decode cX6_feed 106 = .ok (.iconst 1, 1) := dk_4 (dk_at dksX6_feed_4 11 rfl rfl)
theorem dX6_feed_107 : decode cX6_feed 107 = .ok (.iadd, 1) := dk_96 (dk_at dksX6_feed_4 12 rfl rfl)
theorem dX6_feed_108 : decode cX6_feed 108 = .ok (.putfield 221, 3) := dk_181 0 221 (dk_at dksX6_feed_4 13 rfl rfl)
theorem dX6_feed_111 : decode cX6_feed 111 = .ok (.iinc 6 1, 3) := dk_132 6 1 (dk_at dksX6_feed_4 16 rfl rfl)
theorem dX6_feed_114 : decode cX6_feed 114 = .ok (.goto (-91), 3) := dk_167 255 165 (dk_at dksX6_feed_4 19 rfl rfl)
theorem dX6_feed_117 : decode cX6_feed 117 = .ok (.aload_n 0, 1) := dk_42 (dk_at dksX6_feed_4 22 rfl rfl)
theorem dX6_feed_118 : decode cX6_feed 118 = .ok (.getfield 221, 3) := dk_180 0 221 (dk_at dksX6_feed_5 0 rfl rfl)
theorem dX6_feed_121 : decode cX6_feed 121 = .ok (.ireturn, 1) := dk_172 (dk_at dksX6_feed_5 3 rfl rfl)
abbrev cX6_plan : ByteArray := prog_16_method_30_code
def yX6_plan : MethodName := ⟨RX6, "plan", "(I)I"⟩
def dkwX6_plan_3 : List UInt8 := [4, 100, 182, 0, 129, 172]
abbrev dktX6_plan_3 : List UInt8 := dkwX6_plan_3 ++ []
def dkwX6_plan_2 : List UInt8 := [160, 0, 9, 42, 6, 182, 0, 121, 172, 42, 89, 180, 0, 227, 4, 96, 181, 0, 227, 42, 42, 180, 0, 227]
abbrev dktX6_plan_2 : List UInt8 := dkwX6_plan_2 ++ dktX6_plan_3
def dkwX6_plan_1 : List UInt8 := [27, 182, 1, 10, 42, 182, 1, 13, 167, 0, 10, 77, 42, 44, 182, 1, 16, 172, 42, 180, 0, 227, 16, 8]
abbrev dktX6_plan_1 : List UInt8 := dkwX6_plan_1 ++ dktX6_plan_2
def dkwX6_plan_0 : List UInt8 := [42, 3, 181, 0, 1, 27, 155, 0, 11, 27, 42, 180, 0, 221, 164, 0, 9, 42, 5, 182, 0, 121, 172, 42]
abbrev dktX6_plan_0 : List UInt8 := dkwX6_plan_0 ++ dktX6_plan_1
theorem dksX6_plan_0 : cX6_plan.data.toList.drop 0 = dktX6_plan_0 := by decide +kernel
theorem dksX6_plan_1 : cX6_plan.data.toList.drop 24 = dktX6_plan_1 := dk_seg dksX6_plan_0 24 rfl rfl
theorem dksX6_plan_2 : cX6_plan.data.toList.drop 48 = dktX6_plan_2 := dk_seg dksX6_plan_1 24 rfl rfl
theorem dksX6_plan_3 : cX6_plan.data.toList.drop 72 = dktX6_plan_3 := dk_seg dksX6_plan_2 24 rfl rfl
theorem dX6_plan_0 : decode cX6_plan 0 = .ok (.aload_n 0, 1) := dk_42 (dk_at dksX6_plan_0 0 rfl rfl)
theorem dX6_plan_1 : decode cX6_plan 1 = .ok (.iconst 0, 1) := dk_3 (dk_at dksX6_plan_0 1 rfl rfl)
theorem dX6_plan_2 : decode cX6_plan 2 = .ok (.putfield 1, 3) := dk_181 0 1 (dk_at dksX6_plan_0 2 rfl rfl)
theorem dX6_plan_5 : decode cX6_plan 5 = .ok (.iload_n 1, 1) := dk_27 (dk_at dksX6_plan_0 5 rfl rfl)
theorem dX6_plan_6 : decode cX6_plan 6 = .ok (.ifCond .lt 11, 3) := dk_155 0 11 (dk_at dksX6_plan_0 6 rfl rfl)
theorem dX6_plan_9 : decode cX6_plan 9 = .ok (.iload_n 1, 1) := dk_27 (dk_at dksX6_plan_0 9 rfl rfl)
theorem dX6_plan_10 : decode cX6_plan 10 = .ok (.aload_n 0, 1) := dk_42 (dk_at dksX6_plan_0 10 rfl rfl)
theorem dX6_plan_11 : decode cX6_plan 11 = .ok (.getfield 221, 3) := dk_180 0 221 (dk_at dksX6_plan_0 11 rfl rfl)
theorem dX6_plan_14 : decode cX6_plan 14 = .ok (.if_icmp .le 9, 3) := dk_164 0 9 (dk_at dksX6_plan_0 14 rfl rfl)
theorem dX6_plan_17 : decode cX6_plan 17 = .ok (.aload_n 0, 1) := dk_42 (dk_at dksX6_plan_0 17 rfl rfl)
theorem dX6_plan_18 : decode cX6_plan 18 = .ok (.iconst 2, 1) := dk_5 (dk_at dksX6_plan_0 18 rfl rfl)
theorem dX6_plan_19 : decode cX6_plan 19 = .ok (.invokevirtual 121, 3) := dk_182 0 121 (dk_at dksX6_plan_0 19 rfl rfl)
theorem dX6_plan_22 : decode cX6_plan 22 = .ok (.ireturn, 1) := dk_172 (dk_at dksX6_plan_0 22 rfl rfl)
theorem dX6_plan_23 : decode cX6_plan 23 = .ok (.aload_n 0, 1) := dk_42 (dk_at dksX6_plan_0 23 rfl rfl)
theorem dX6_plan_24 : decode cX6_plan 24 = .ok (.iload_n 1, 1) := dk_27 (dk_at dksX6_plan_1 0 rfl rfl)
theorem dX6_plan_25 : decode cX6_plan 25 = .ok (.invokevirtual 266, 3) := dk_182 1 10 (dk_at dksX6_plan_1 1 rfl rfl)
theorem dX6_plan_28 : decode cX6_plan 28 = .ok (.aload_n 0, 1) := dk_42 (dk_at dksX6_plan_1 4 rfl rfl)
theorem dX6_plan_29 : decode cX6_plan 29 = .ok (.invokevirtual 269, 3) := dk_182 1 13 (dk_at dksX6_plan_1 5 rfl rfl)
theorem dX6_plan_32 : decode cX6_plan 32 = .ok (.goto 10, 3) := dk_167 0 10 (dk_at dksX6_plan_1 8 rfl rfl)
theorem dX6_plan_35 : decode cX6_plan 35 = .ok (.astore_n 2, 1) := dk_77 (dk_at dksX6_plan_1 11 rfl rfl)
theorem dX6_plan_36 : decode cX6_plan 36 = .ok (.aload_n 0, 1) := dk_42 (dk_at dksX6_plan_1 12 rfl rfl)
theorem dX6_plan_37 : decode cX6_plan 37 = .ok (.aload_n 2, 1) := dk_44 (dk_at dksX6_plan_1 13 rfl rfl)
theorem dX6_plan_38 : decode cX6_plan 38 = .ok (.invokevirtual 272, 3) := dk_182 1 16 (dk_at dksX6_plan_1 14 rfl rfl)
theorem dX6_plan_41 : decode cX6_plan 41 = .ok (.ireturn, 1) := dk_172 (dk_at dksX6_plan_1 17 rfl rfl)
theorem dX6_plan_42 : decode cX6_plan 42 = .ok (.aload_n 0, 1) := dk_42 (dk_at dksX6_plan_1 18 rfl rfl)
theorem dX6_plan_43 : decode cX6_plan 43 = .ok (.getfield 227, 3) := dk_180 0 227 (dk_at dksX6_plan_1 19 rfl rfl)
theorem dX6_plan_46 : decode cX6_plan 46 = .ok (.bipush 8, 2) := dk_16 8 (dk_at dksX6_plan_1 22 rfl rfl)
theorem dX6_plan_48 : decode cX6_plan 48 = .ok (.if_icmp .ne 9, 3) := dk_160 0 9 (dk_at dksX6_plan_2 0 rfl rfl)
theorem dX6_plan_51 : decode cX6_plan 51 = .ok (.aload_n 0, 1) := dk_42 (dk_at dksX6_plan_2 3 rfl rfl)
theorem dX6_plan_52 : decode cX6_plan 52 = .ok (.iconst 3, 1) := dk_6 (dk_at dksX6_plan_2 4 rfl rfl)
theorem dX6_plan_53 : decode cX6_plan 53 = .ok (.invokevirtual 121, 3) := dk_182 0 121 (dk_at dksX6_plan_2 5 rfl rfl)
theorem dX6_plan_56 : decode cX6_plan 56 = .ok (.ireturn, 1) := dk_172 (dk_at dksX6_plan_2 8 rfl rfl)
theorem dX6_plan_57 : decode cX6_plan 57 = .ok (.aload_n 0, 1) := dk_42 (dk_at dksX6_plan_2 9 rfl rfl)
theorem dX6_plan_58 : decode cX6_plan 58 = .ok (.dup, 1) := dk_89 (dk_at dksX6_plan_2 10 rfl rfl)
theorem dX6_plan_59 : decode cX6_plan 59 = .ok (.getfield 227, 3) := dk_180 0 227 (dk_at dksX6_plan_2 11 rfl rfl)
theorem dX6_plan_62 : decode cX6_plan 62 = .ok (.iconst 1, 1) := dk_4 (dk_at dksX6_plan_2 14 rfl rfl)
theorem dX6_plan_63 : decode cX6_plan 63 = .ok (.iadd, 1) := dk_96 (dk_at dksX6_plan_2 15 rfl rfl)
theorem dX6_plan_64 : decode cX6_plan 64 = .ok (.putfield 227, 3) := dk_181 0 227 (dk_at dksX6_plan_2 16 rfl rfl)
theorem dX6_plan_67 : decode cX6_plan 67 = .ok (.aload_n 0, 1) := dk_42 (dk_at dksX6_plan_2 19 rfl rfl)
theorem dX6_plan_68 : decode cX6_plan 68 = .ok (.aload_n 0, 1) := dk_42 (dk_at dksX6_plan_2 20 rfl rfl)
theorem dX6_plan_69 : decode cX6_plan 69 = .ok (.getfield 227, 3) := dk_180 0 227 (dk_at dksX6_plan_2 21 rfl rfl)
theorem dX6_plan_72 : decode cX6_plan 72 = .ok (.iconst 1, 1) := dk_4 (dk_at dksX6_plan_3 0 rfl rfl)
theorem dX6_plan_73 : decode cX6_plan 73 = .ok (.isub, 1) := dk_100 (dk_at dksX6_plan_3 1 rfl rfl)
theorem dX6_plan_74 : decode cX6_plan 74 = .ok (.invokevirtual 129, 3) := dk_182 0 129 (dk_at dksX6_plan_3 2 rfl rfl)
theorem dX6_plan_77 : decode cX6_plan 77 = .ok (.ireturn, 1) := dk_172 (dk_at dksX6_plan_3 5 rfl rfl)
abbrev cX6_start : ByteArray := prog_16_method_24_code
def yX6_start : MethodName := ⟨RX6, "start", "(I)V"⟩
def dkwX6_start_1 : List UInt8 := [177]
abbrev dktX6_start_1 : List UInt8 := dkwX6_start_1 ++ []
def dkwX6_start_0 : List UInt8 := [42, 27, 181, 0, 139, 42, 3, 181, 0, 221, 42, 3, 181, 0, 153, 42, 3, 181, 0, 224, 42, 182, 0, 189]
abbrev dktX6_start_0 : List UInt8 := dkwX6_start_0 ++ dktX6_start_1
theorem dksX6_start_0 : cX6_start.data.toList.drop 0 = dktX6_start_0 := by decide +kernel
theorem dksX6_start_1 : cX6_start.data.toList.drop 24 = dktX6_start_1 := dk_seg dksX6_start_0 24 rfl rfl
theorem dX6_start_0 : decode cX6_start 0 = .ok (.aload_n 0, 1) := dk_42 (dk_at dksX6_start_0 0 rfl rfl)
theorem dX6_start_1 : decode cX6_start 1 = .ok (.iload_n 1, 1) := dk_27 (dk_at dksX6_start_0 1 rfl rfl)
theorem dX6_start_2 : decode cX6_start 2 = .ok (.putfield 139, 3) := dk_181 0 139 (dk_at dksX6_start_0 2 rfl rfl)
theorem dX6_start_5 : decode cX6_start 5 = .ok (.aload_n 0, 1) := dk_42 (dk_at dksX6_start_0 5 rfl rfl)
theorem dX6_start_6 : decode cX6_start 6 = .ok (.iconst 0, 1) := dk_3 (dk_at dksX6_start_0 6 rfl rfl)
theorem dX6_start_7 : decode cX6_start 7 = .ok (.putfield 221, 3) := dk_181 0 221 (dk_at dksX6_start_0 7 rfl rfl)
theorem dX6_start_10 : decode cX6_start 10 = .ok (.aload_n 0, 1) := dk_42 (dk_at dksX6_start_0 10 rfl rfl)
theorem dX6_start_11 : decode cX6_start 11 = .ok (.iconst 0, 1) := dk_3 (dk_at dksX6_start_0 11 rfl rfl)
theorem dX6_start_12 : decode cX6_start 12 = .ok (.putfield 153, 3) := dk_181 0 153 (dk_at dksX6_start_0 12 rfl rfl)
theorem dX6_start_15 : decode cX6_start 15 = .ok (.aload_n 0, 1) := dk_42 (dk_at dksX6_start_0 15 rfl rfl)
theorem dX6_start_16 : decode cX6_start 16 = .ok (.iconst 0, 1) := dk_3 (dk_at dksX6_start_0 16 rfl rfl)
theorem dX6_start_17 : decode cX6_start 17 = .ok (.putfield 224, 3) := dk_181 0 224 (dk_at dksX6_start_0 17 rfl rfl)
theorem dX6_start_20 : decode cX6_start 20 = .ok (.aload_n 0, 1) := dk_42 (dk_at dksX6_start_0 20 rfl rfl)
theorem dX6_start_21 : decode cX6_start 21 = .ok (.invokevirtual 189, 3) := dk_182 0 189 (dk_at dksX6_start_0 21 rfl rfl)
theorem dX6_start_24 : decode cX6_start 24 = .ok (.return_, 1) := dk_177 (dk_at dksX6_start_1 0 rfl rfl)
abbrev cX6_next : ByteArray := prog_16_method_17_code
def yX6_next : MethodName := ⟨RX6, "next", "()V"⟩
def dkwX6_next_12 : List UInt8 := [181, 0, 162, 42, 89, 180, 0, 153, 4, 96, 181, 0, 153, 177]
abbrev dktX6_next_12 : List UInt8 := dkwX6_next_12 ++ []
def dkwX6_next_11 : List UInt8 := [159, 0, 15, 27, 16, 62, 159, 0, 9, 27, 16, 59, 160, 0, 23, 42, 7, 181, 0, 159, 42, 27]
abbrev dktX6_next_11 : List UInt8 := dkwX6_next_11 ++ dktX6_next_12
def dkwX6_next_10 : List UInt8 := [181, 0, 153, 167, 255, 201, 28, 8, 162, 0, 49, 42, 6, 181, 0, 159, 167, 0, 41, 27, 16, 60]
abbrev dktX6_next_10 : List UInt8 := dkwX6_next_10 ++ dktX6_next_11
def dkwX6_next_9 : List UInt8 := [180, 0, 153, 182, 0, 156, 96, 16, 48, 100, 181, 0, 175, 132, 2, 1, 42, 89, 180, 0, 153, 4, 96]
abbrev dktX6_next_9 : List UInt8 := dkwX6_next_9 ++ dktX6_next_10
def dkwX6_next_8 : List UInt8 := [182, 0, 156, 184, 0, 172, 153, 0, 47, 28, 7, 162, 0, 26, 42, 16, 10, 42, 180, 0, 175, 104, 42, 42]
abbrev dktX6_next_8 : List UInt8 := dkwX6_next_8 ++ dktX6_next_9
def dkwX6_next_7 : List UInt8 := [181, 0, 159, 167, 0, 124, 27, 184, 0, 172, 153, 0, 79, 42, 3, 181, 0, 175, 42, 42, 180, 0, 153]
abbrev dktX6_next_7 : List UInt8 := dkwX6_next_7 ++ dktX6_next_8
def dkwX6_next_6 : List UInt8 := [132, 2, 1, 42, 89, 180, 0, 153, 4, 96, 181, 0, 153, 167, 255, 196, 28, 16, 9, 162, 0, 132, 42, 5]
abbrev dktX6_next_6 : List UInt8 := dkwX6_next_6 ++ dktX6_next_7
def dkwX6_next_5 : List UInt8 := [180, 0, 168, 105, 42, 42, 180, 0, 153, 182, 0, 156, 16, 97, 100, 4, 96, 133, 97, 181, 0, 168]
abbrev dktX6_next_5 : List UInt8 := dkwX6_next_5 ++ dktX6_next_6
def dkwX6_next_4 : List UInt8 := [42, 180, 0, 153, 182, 0, 156, 184, 0, 165, 153, 0, 52, 28, 16, 8, 162, 0, 30, 42, 20, 0, 147, 42]
abbrev dktX6_next_4 : List UInt8 := dkwX6_next_4 ++ dktX6_next_5
def dkwX6_next_3 : List UInt8 := [160, 0, 11, 42, 4, 181, 0, 159, 167, 0, 213, 27, 184, 0, 165, 153, 0, 85, 42, 9, 181, 0, 168, 42]
abbrev dktX6_next_3 : List UInt8 := dkwX6_next_3 ++ dktX6_next_4
def dkwX6_next_2 : List UInt8 := [42, 3, 181, 0, 159, 42, 3, 181, 0, 162, 42, 42, 180, 0, 153, 182, 0, 156, 60, 3, 61, 27, 2]
abbrev dktX6_next_2 : List UInt8 := dkwX6_next_2 ++ dktX6_next_3
def dkwX6_next_1 : List UInt8 := [160, 0, 16, 42, 89, 180, 0, 153, 4, 96, 181, 0, 153, 167, 255, 220, 42, 42, 180, 0, 153, 181, 0, 135]
abbrev dktX6_next_1 : List UInt8 := dkwX6_next_1 ++ dktX6_next_2
def dkwX6_next_0 : List UInt8 := [42, 42, 180, 0, 153, 182, 0, 156, 16, 32, 159, 0, 16, 42, 42, 180, 0, 153, 182, 0, 156, 16, 10]
abbrev dktX6_next_0 : List UInt8 := dkwX6_next_0 ++ dktX6_next_1
theorem dksX6_next_0 : cX6_next.data.toList.drop 0 = dktX6_next_0 := by decide +kernel
theorem dksX6_next_1 : cX6_next.data.toList.drop 23 = dktX6_next_1 := dk_seg dksX6_next_0 23 rfl rfl
theorem dksX6_next_2 : cX6_next.data.toList.drop 47 = dktX6_next_2 := dk_seg dksX6_next_1 24 rfl rfl
theorem dksX6_next_3 : cX6_next.data.toList.drop 70 = dktX6_next_3 := dk_seg dksX6_next_2 23 rfl rfl
theorem dksX6_next_4 : cX6_next.data.toList.drop 94 = dktX6_next_4 := dk_seg dksX6_next_3 24 rfl rfl
theorem dksX6_next_5 : cX6_next.data.toList.drop 118 = dktX6_next_5 := dk_seg dksX6_next_4 24 rfl rfl
theorem dksX6_next_6 : cX6_next.data.toList.drop 140 = dktX6_next_6 := dk_seg dksX6_next_5 22 rfl rfl
theorem dksX6_next_7 : cX6_next.data.toList.drop 164 = dktX6_next_7 := dk_seg dksX6_next_6 24 rfl rfl
theorem dksX6_next_8 : cX6_next.data.toList.drop 187 = dktX6_next_8 := dk_seg dksX6_next_7 23 rfl rfl
theorem dksX6_next_9 : cX6_next.data.toList.drop 211 = dktX6_next_9 := dk_seg dksX6_next_8 24 rfl rfl
theorem dksX6_next_10 : cX6_next.data.toList.drop 234 = dktX6_next_10 := dk_seg dksX6_next_9 23 rfl rfl
theorem dksX6_next_11 : cX6_next.data.toList.drop 256 = dktX6_next_11 := dk_seg dksX6_next_10 22 rfl rfl
theorem dksX6_next_12 : cX6_next.data.toList.drop 278 = dktX6_next_12 := dk_seg dksX6_next_11 22 rfl rfl
theorem dX6_next_0 : decode cX6_next 0 = .ok (.aload_n 0, 1) := dk_42 (dk_at dksX6_next_0 0 rfl rfl)
theorem dX6_next_1 : decode cX6_next 1 = .ok (.aload_n 0, 1) := dk_42 (dk_at dksX6_next_0 1 rfl rfl)
theorem dX6_next_2 : decode cX6_next 2 = .ok (.getfield 153, 3) := dk_180 0 153 (dk_at dksX6_next_0 2 rfl rfl)
theorem dX6_next_5 : decode cX6_next 5 = .ok (.invokevirtual 156, 3) := dk_182 0 156 (dk_at dksX6_next_0 5 rfl rfl)
theorem dX6_next_8 : decode cX6_next 8 = .ok (.bipush 32, 2) := dk_16 32 (dk_at dksX6_next_0 8 rfl rfl)
theorem dX6_next_10 : decode cX6_next 10 = .ok (.if_icmp .eq 16, 3) := dk_159 0 16 (dk_at dksX6_next_0 10 rfl rfl)
theorem dX6_next_13 : decode cX6_next 13 = .ok (.aload_n 0, 1) := dk_42 (dk_at dksX6_next_0 13 rfl rfl)
theorem dX6_next_14 : decode cX6_next 14 = .ok (.aload_n 0, 1) := dk_42 (dk_at dksX6_next_0 14 rfl rfl)
theorem dX6_next_15 : decode cX6_next 15 = .ok (.getfield 153, 3) := dk_180 0 153 (dk_at dksX6_next_0 15 rfl rfl)
theorem dX6_next_18 : decode cX6_next 18 = .ok (.invokevirtual 156, 3) := dk_182 0 156 (dk_at dksX6_next_0 18 rfl rfl)
theorem dX6_next_21 : decode cX6_next 21 = .ok (.bipush 10, 2) := dk_16 10 (dk_at dksX6_next_0 21 rfl rfl)
theorem dX6_next_23 : decode cX6_next 23 = .ok (.if_icmp .ne 16, 3) := dk_160 0 16 (dk_at dksX6_next_1 0 rfl rfl)
theorem dX6_next_26 : decode cX6_next 26 = .ok (.aload_n 0, 1) := dk_42 (dk_at dksX6_next_1 3 rfl rfl)
theorem dX6_next_27 : decode cX6_next 27 = .ok (.dup, 1) := dk_89 (dk_at dksX6_next_1 4 rfl rfl)
theorem dX6_next_28 : decode cX6_next 28 = .ok (.getfield 153, 3) := dk_180 0 153 (dk_at dksX6_next_1 5 rfl rfl)
theorem dX6_next_31 : decode cX6_next 31 = .ok (.iconst 1, 1) := dk_4 (dk_at dksX6_next_1 8 rfl rfl)
theorem dX6_next_32 : decode cX6_next 32 = .ok (.iadd, 1) := dk_96 (dk_at dksX6_next_1 9 rfl rfl)
theorem dX6_next_33 : decode cX6_next 33 = .ok (.putfield 153, 3) := dk_181 0 153 (dk_at dksX6_next_1 10 rfl rfl)
theorem dX6_next_36 : decode cX6_next 36 = .ok (.goto (-36), 3) := dk_167 255 220 (dk_at dksX6_next_1 13 rfl rfl)
theorem dX6_next_39 : decode cX6_next 39 = .ok (.aload_n 0, 1) := dk_42 (dk_at dksX6_next_1 16 rfl rfl)
theorem dX6_next_40 : decode cX6_next 40 = .ok (.aload_n 0, 1) := dk_42 (dk_at dksX6_next_1 17 rfl rfl)
theorem dX6_next_41 : decode cX6_next 41 = .ok (.getfield 153, 3) := dk_180 0 153 (dk_at dksX6_next_1 18 rfl rfl)
theorem dX6_next_44 : decode cX6_next 44 = .ok (.putfield 135, 3) := dk_181 0 135 (dk_at dksX6_next_1 21 rfl rfl)
theorem dX6_next_47 : decode cX6_next 47 = .ok (.aload_n 0, 1) := dk_42 (dk_at dksX6_next_2 0 rfl rfl)
theorem dX6_next_48 : decode cX6_next 48 = .ok (.iconst 0, 1) := dk_3 (dk_at dksX6_next_2 1 rfl rfl)
theorem dX6_next_49 : decode cX6_next 49 = .ok (.putfield 159, 3) := dk_181 0 159 (dk_at dksX6_next_2 2 rfl rfl)
theorem dX6_next_52 : decode cX6_next 52 = .ok (.aload_n 0, 1) := dk_42 (dk_at dksX6_next_2 5 rfl rfl)
theorem dX6_next_53 : decode cX6_next 53 = .ok (.iconst 0, 1) := dk_3 (dk_at dksX6_next_2 6 rfl rfl)
theorem dX6_next_54 : decode cX6_next 54 = .ok (.putfield 162, 3) := dk_181 0 162 (dk_at dksX6_next_2 7 rfl rfl)
theorem dX6_next_57 : decode cX6_next 57 = .ok (.aload_n 0, 1) := dk_42 (dk_at dksX6_next_2 10 rfl rfl)
theorem dX6_next_58 : decode cX6_next 58 = .ok (.aload_n 0, 1) := dk_42 (dk_at dksX6_next_2 11 rfl rfl)
theorem dX6_next_59 : decode cX6_next 59 = .ok (.getfield 153, 3) := dk_180 0 153 (dk_at dksX6_next_2 12 rfl rfl)
theorem dX6_next_62 : decode cX6_next 62 = .ok (.invokevirtual 156, 3) := dk_182 0 156 (dk_at dksX6_next_2 15 rfl rfl)
theorem dX6_next_65 : decode cX6_next 65 = .ok (.istore_n 1, 1) := dk_60 (dk_at dksX6_next_2 18 rfl rfl)
theorem dX6_next_66 : decode cX6_next 66 = .ok (.iconst 0, 1) := dk_3 (dk_at dksX6_next_2 19 rfl rfl)
theorem dX6_next_67 : decode cX6_next 67 = .ok (.istore_n 2, 1) := dk_61 (dk_at dksX6_next_2 20 rfl rfl)
theorem dX6_next_68 : decode cX6_next 68 = .ok (.iload_n 1, 1) := dk_27 (dk_at dksX6_next_2 21 rfl rfl)
theorem dX6_next_69 : decode cX6_next 69 = .ok (.iconst (-1), 1) := dk_2 (dk_at dksX6_next_2 22 rfl rfl)
theorem dX6_next_70 : decode cX6_next 70 = .ok (.if_icmp .ne 11, 3) := dk_160 0 11 (dk_at dksX6_next_3 0 rfl rfl)
theorem dX6_next_73 : decode cX6_next 73 = .ok (.aload_n 0, 1) := dk_42 (dk_at dksX6_next_3 3 rfl rfl)
theorem dX6_next_74 : decode cX6_next 74 = .ok (.iconst 1, 1) := dk_4 (dk_at dksX6_next_3 4 rfl rfl)
theorem dX6_next_75 : decode cX6_next 75 = .ok (.putfield 159, 3) := dk_181 0 159 (dk_at dksX6_next_3 5 rfl rfl)
theorem dX6_next_78 : decode cX6_next 78 = .ok (.goto 213, 3) := dk_167 0 213 (dk_at dksX6_next_3 8 rfl rfl)
theorem dX6_next_81 : decode cX6_next 81 = .ok (.iload_n 1, 1) := dk_27 (dk_at dksX6_next_3 11 rfl rfl)
theorem dX6_next_82 : decode cX6_next 82 = .ok (.invokestatic 165, 3) := dk_184 0 165 (dk_at dksX6_next_3 12 rfl rfl)
theorem dX6_next_85 : decode cX6_next 85 = .ok (.ifCond .eq 85, 3) := dk_153 0 85 (dk_at dksX6_next_3 15 rfl rfl)
theorem dX6_next_88 : decode cX6_next 88 = .ok (.aload_n 0, 1) := dk_42 (dk_at dksX6_next_3 18 rfl rfl)
theorem dX6_next_89 : decode cX6_next 89 = .ok (.lconst 0, 1) := dk_9 (dk_at dksX6_next_3 19 rfl rfl)
theorem dX6_next_90 : decode cX6_next 90 = .ok (.putfield 168, 3) := dk_181 0 168 (dk_at dksX6_next_3 20 rfl rfl)
theorem dX6_next_93 : decode cX6_next 93 = .ok (.aload_n 0, 1) := dk_42 (dk_at dksX6_next_3 23 rfl rfl)
theorem dX6_next_94 : decode cX6_next 94 = .ok (.aload_n 0, 1) := dk_42 (dk_at dksX6_next_4 0 rfl rfl)
theorem dX6_next_95 : decode cX6_next 95 = .ok (.getfield 153, 3) := dk_180 0 153 (dk_at dksX6_next_4 1 rfl rfl)
theorem dX6_next_98 : decode cX6_next 98 = .ok (.invokevirtual 156, 3) := dk_182 0 156 (dk_at dksX6_next_4 4 rfl rfl)
theorem dX6_next_101 : decode cX6_next 101 = .ok (.invokestatic 165, 3) := dk_184 0 165 (dk_at dksX6_next_4 7 rfl rfl)
theorem dX6_next_104 : decode cX6_next 104 = .ok (.ifCond .eq 52, 3) := dk_153 0 52 (dk_at dksX6_next_4 10 rfl rfl)
theorem dX6_next_107 : decode cX6_next 107 = .ok (.iload_n 2, 1) := dk_28 (dk_at dksX6_next_4 13 rfl rfl)
theorem dX6_next_108 : decode cX6_next 108 = .ok (.bipush 8, 2) := dk_16 8 (dk_at dksX6_next_4 14 rfl rfl)
theorem dX6_next_110 : decode cX6_next 110 = .ok (.if_icmp .ge 30, 3) := dk_162 0 30 (dk_at dksX6_next_4 16 rfl rfl)
theorem dX6_next_113 : decode cX6_next 113 = .ok (.aload_n 0, 1) := dk_42 (dk_at dksX6_next_4 19 rfl rfl)
theorem dX6_next_114 : decode cX6_next 114 = .ok (.ldc2_w 147, 3) := dk_20 0 147 (dk_at dksX6_next_4 20 rfl rfl)
theorem dX6_next_117 : decode cX6_next 117 = .ok (.aload_n 0, 1) := dk_42 (dk_at dksX6_next_4 23 rfl rfl)
theorem dX6_next_118 : decode cX6_next 118 = .ok (.getfield 168, 3) := dk_180 0 168 (dk_at dksX6_next_5 0 rfl rfl)
theorem dX6_next_121 : decode cX6_next 121 = .ok (.lmul, 1) := dk_105 (dk_at dksX6_next_5 3 rfl rfl)
theorem dX6_next_122 : decode cX6_next 122 = .ok (.aload_n 0, 1) := dk_42 (dk_at dksX6_next_5 4 rfl rfl)
theorem dX6_next_123 : decode cX6_next 123 = .ok (.aload_n 0, 1) := dk_42 (dk_at dksX6_next_5 5 rfl rfl)
theorem dX6_next_124 : decode cX6_next 124 = .ok (.getfield 153, 3) := dk_180 0 153 (dk_at dksX6_next_5 6 rfl rfl)
theorem dX6_next_127 : decode cX6_next 127 = .ok (.invokevirtual 156, 3) := dk_182 0 156 (dk_at dksX6_next_5 9 rfl rfl)
theorem dX6_next_130 : decode cX6_next 130 = .ok (.bipush 97, 2) := dk_16 97 (dk_at dksX6_next_5 12 rfl rfl)
theorem dX6_next_132 : decode cX6_next 132 = .ok (.isub, 1) := dk_100 (dk_at dksX6_next_5 14 rfl rfl)
theorem dX6_next_133 : decode cX6_next 133 = .ok (.iconst 1, 1) := dk_4 (dk_at dksX6_next_5 15 rfl rfl)
theorem dX6_next_134 : decode cX6_next 134 = .ok (.iadd, 1) := dk_96 (dk_at dksX6_next_5 16 rfl rfl)
theorem dX6_next_135 : decode cX6_next 135 = .ok (.i2l, 1) := dk_133 (dk_at dksX6_next_5 17 rfl rfl)
theorem dX6_next_136 : decode cX6_next 136 = .ok (.ladd, 1) := dk_97 (dk_at dksX6_next_5 18 rfl rfl)
theorem dX6_next_137 : decode cX6_next 137 = .ok (.putfield 168, 3) := dk_181 0 168 (dk_at dksX6_next_5 19 rfl rfl)
theorem dX6_next_140 : decode cX6_next 140 = .ok (.iinc 2 1, 3) := dk_132 2 1 (dk_at dksX6_next_6 0 rfl rfl)
theorem dX6_next_143 : decode cX6_next 143 = .ok (.aload_n 0, 1) := dk_42 (dk_at dksX6_next_6 3 rfl rfl)
theorem dX6_next_144 : decode cX6_next 144 = .ok (.dup, 1) := dk_89 (dk_at dksX6_next_6 4 rfl rfl)
theorem dX6_next_145 : decode cX6_next 145 = .ok (.getfield 153, 3) := dk_180 0 153 (dk_at dksX6_next_6 5 rfl rfl)
theorem dX6_next_148 : decode cX6_next 148 = .ok (.iconst 1, 1) := dk_4 (dk_at dksX6_next_6 8 rfl rfl)
theorem dX6_next_149 : decode cX6_next 149 = .ok (.iadd, 1) := dk_96 (dk_at dksX6_next_6 9 rfl rfl)
theorem dX6_next_150 : decode cX6_next 150 = .ok (.putfield 153, 3) := dk_181 0 153 (dk_at dksX6_next_6 10 rfl rfl)
theorem dX6_next_153 : decode cX6_next 153 = .ok (.goto (-60), 3) := dk_167 255 196 (dk_at dksX6_next_6 13 rfl rfl)
theorem dX6_next_156 : decode cX6_next 156 = .ok (.iload_n 2, 1) := dk_28 (dk_at dksX6_next_6 16 rfl rfl)
theorem dX6_next_157 : decode cX6_next 157 = .ok (.bipush 9, 2) := dk_16 9 (dk_at dksX6_next_6 17 rfl rfl)
theorem dX6_next_159 : decode cX6_next 159 = .ok (.if_icmp .ge 132, 3) := dk_162 0 132 (dk_at dksX6_next_6 19 rfl rfl)
theorem dX6_next_162 : decode cX6_next 162 = .ok (.aload_n 0, 1) := dk_42 (dk_at dksX6_next_6 22 rfl rfl)
theorem dX6_next_163 : decode cX6_next 163 = .ok (.iconst 2, 1) := dk_5 (dk_at dksX6_next_6 23 rfl rfl)
theorem dX6_next_164 : decode cX6_next 164 = .ok (.putfield 159, 3) := dk_181 0 159 (dk_at dksX6_next_7 0 rfl rfl)
theorem dX6_next_167 : decode cX6_next 167 = .ok (.goto 124, 3) := dk_167 0 124 (dk_at dksX6_next_7 3 rfl rfl)
theorem dX6_next_170 : decode cX6_next 170 = .ok (.iload_n 1, 1) := dk_27 (dk_at dksX6_next_7 6 rfl rfl)
theorem dX6_next_171 : decode cX6_next 171 = .ok (.invokestatic 172, 3) := dk_184 0 172 (dk_at dksX6_next_7 7 rfl rfl)
theorem dX6_next_174 : decode cX6_next 174 = .ok (.ifCond .eq 79, 3) := dk_153 0 79 (dk_at dksX6_next_7 10 rfl rfl)
theorem dX6_next_177 : decode cX6_next 177 = .ok (.aload_n 0, 1) := dk_42 (dk_at dksX6_next_7 13 rfl rfl)
theorem dX6_next_178 : decode cX6_next 178 = .ok (.iconst 0, 1) := dk_3 (dk_at dksX6_next_7 14 rfl rfl)
theorem dX6_next_179 : decode cX6_next 179 = .ok (.putfield 175, 3) := dk_181 0 175 (dk_at dksX6_next_7 15 rfl rfl)
theorem dX6_next_182 : decode cX6_next 182 = .ok (.aload_n 0, 1) := dk_42 (dk_at dksX6_next_7 18 rfl rfl)
theorem dX6_next_183 : decode cX6_next 183 = .ok (.aload_n 0, 1) := dk_42 (dk_at dksX6_next_7 19 rfl rfl)
theorem dX6_next_184 : decode cX6_next 184 = .ok (.getfield 153, 3) := dk_180 0 153 (dk_at dksX6_next_7 20 rfl rfl)
theorem dX6_next_187 : decode cX6_next 187 = .ok (.invokevirtual 156, 3) := dk_182 0 156 (dk_at dksX6_next_8 0 rfl rfl)
theorem dX6_next_190 : decode cX6_next 190 = .ok (.invokestatic 172, 3) := dk_184 0 172 (dk_at dksX6_next_8 3 rfl rfl)
theorem dX6_next_193 : decode cX6_next 193 = .ok (.ifCond .eq 47, 3) := dk_153 0 47 (dk_at dksX6_next_8 6 rfl rfl)
theorem dX6_next_196 : decode cX6_next 196 = .ok (.iload_n 2, 1) := dk_28 (dk_at dksX6_next_8 9 rfl rfl)
theorem dX6_next_197 : decode cX6_next 197 = .ok (.iconst 4, 1) := dk_7 (dk_at dksX6_next_8 10 rfl rfl)
theorem dX6_next_198 : decode cX6_next 198 = .ok (.if_icmp .ge 26, 3) := dk_162 0 26 (dk_at dksX6_next_8 11 rfl rfl)
theorem dX6_next_201 : decode cX6_next 201 = .ok (.aload_n 0, 1) := dk_42 (dk_at dksX6_next_8 14 rfl rfl)
theorem dX6_next_202 : decode cX6_next 202 = .ok (.bipush 10, 2) := dk_16 10 (dk_at dksX6_next_8 15 rfl rfl)
theorem dX6_next_204 : decode cX6_next 204 = .ok (.aload_n 0, 1) := dk_42 (dk_at dksX6_next_8 17 rfl rfl)
theorem dX6_next_205 : decode cX6_next 205 = .ok (.getfield 175, 3) := dk_180 0 175 (dk_at dksX6_next_8 18 rfl rfl)
theorem dX6_next_208 : decode cX6_next 208 = .ok (.imul, 1) := dk_104 (dk_at dksX6_next_8 21 rfl rfl)
theorem dX6_next_209 : decode cX6_next 209 = .ok (.aload_n 0, 1) := dk_42 (dk_at dksX6_next_8 22 rfl rfl)
theorem dX6_next_210 : decode cX6_next 210 = .ok (.aload_n 0, 1) := dk_42 (dk_at dksX6_next_8 23 rfl rfl)
theorem dX6_next_211 : decode cX6_next 211 = .ok (.getfield 153, 3) := dk_180 0 153 (dk_at dksX6_next_9 0 rfl rfl)
theorem dX6_next_214 : decode cX6_next 214 = .ok (.invokevirtual 156, 3) := dk_182 0 156 (dk_at dksX6_next_9 3 rfl rfl)
theorem dX6_next_217 : decode cX6_next 217 = .ok (.iadd, 1) := dk_96 (dk_at dksX6_next_9 6 rfl rfl)
theorem dX6_next_218 : decode cX6_next 218 = .ok (.bipush 48, 2) := dk_16 48 (dk_at dksX6_next_9 7 rfl rfl)
theorem dX6_next_220 : decode cX6_next 220 = .ok (.isub, 1) := dk_100 (dk_at dksX6_next_9 9 rfl rfl)
theorem dX6_next_221 : decode cX6_next 221 = .ok (.putfield 175, 3) := dk_181 0 175 (dk_at dksX6_next_9 10 rfl rfl)
theorem dX6_next_224 : decode cX6_next 224 = .ok (.iinc 2 1, 3) := dk_132 2 1 (dk_at dksX6_next_9 13 rfl rfl)
theorem dX6_next_227 : decode cX6_next 227 = .ok (.aload_n 0, 1) := dk_42 (dk_at dksX6_next_9 16 rfl rfl)
theorem dX6_next_228 : decode cX6_next 228 = .ok (.dup, 1) := dk_89 (dk_at dksX6_next_9 17 rfl rfl)
theorem dX6_next_229 : decode cX6_next 229 = .ok (.getfield 153, 3) := dk_180 0 153 (dk_at dksX6_next_9 18 rfl rfl)
theorem dX6_next_232 : decode cX6_next 232 = .ok (.iconst 1, 1) := dk_4 (dk_at dksX6_next_9 21 rfl rfl)
theorem dX6_next_233 : decode cX6_next 233 = .ok (.iadd, 1) := dk_96 (dk_at dksX6_next_9 22 rfl rfl)
theorem dX6_next_234 : decode cX6_next 234 = .ok (.putfield 153, 3) := dk_181 0 153 (dk_at dksX6_next_10 0 rfl rfl)
theorem dX6_next_237 : decode cX6_next 237 = .ok (.goto (-55), 3) := dk_167 255 201 (dk_at dksX6_next_10 3 rfl rfl)
theorem dX6_next_240 : decode cX6_next 240 = .ok (.iload_n 2, 1) := dk_28 (dk_at dksX6_next_10 6 rfl rfl)
theorem dX6_next_241 : decode cX6_next 241 = .ok (.iconst 5, 1) := dk_8 (dk_at dksX6_next_10 7 rfl rfl)
theorem dX6_next_242 : decode cX6_next 242 = .ok (.if_icmp .ge 49, 3) := dk_162 0 49 (dk_at dksX6_next_10 8 rfl rfl)
theorem dX6_next_245 : decode cX6_next 245 = .ok (.aload_n 0, 1) := dk_42 (dk_at dksX6_next_10 11 rfl rfl)
theorem dX6_next_246 : decode cX6_next 246 = .ok (.iconst 3, 1) := dk_6 (dk_at dksX6_next_10 12 rfl rfl)
theorem dX6_next_247 : decode cX6_next 247 = .ok (.putfield 159, 3) := dk_181 0 159 (dk_at dksX6_next_10 13 rfl rfl)
theorem dX6_next_250 : decode cX6_next 250 = .ok (.goto 41, 3) := dk_167 0 41 (dk_at dksX6_next_10 16 rfl rfl)
theorem dX6_next_253 : decode cX6_next 253 = .ok (.iload_n 1, 1) := dk_27 (dk_at dksX6_next_10 19 rfl rfl)
theorem dX6_next_254 : decode cX6_next 254 = .ok (.bipush 60, 2) := dk_16 60 (dk_at dksX6_next_10 20 rfl rfl)
theorem dX6_next_256 : decode cX6_next 256 = .ok (.if_icmp .eq 15, 3) := dk_159 0 15 (dk_at dksX6_next_11 0 rfl rfl)
theorem dX6_next_259 : decode cX6_next 259 = .ok (.iload_n 1, 1) := dk_27 (dk_at dksX6_next_11 3 rfl rfl)
theorem dX6_next_260 : decode cX6_next 260 = .ok (.bipush 62, 2) := dk_16 62 (dk_at dksX6_next_11 4 rfl rfl)
theorem dX6_next_262 : decode cX6_next 262 = .ok (.if_icmp .eq 9, 3) := dk_159 0 9 (dk_at dksX6_next_11 6 rfl rfl)
theorem dX6_next_265 : decode cX6_next 265 = .ok (.iload_n 1, 1) := dk_27 (dk_at dksX6_next_11 9 rfl rfl)
theorem dX6_next_266 : decode cX6_next 266 = .ok (.bipush 59, 2) := dk_16 59 (dk_at dksX6_next_11 10 rfl rfl)
theorem dX6_next_268 : decode cX6_next 268 = .ok (.if_icmp .ne 23, 3) := dk_160 0 23 (dk_at dksX6_next_11 12 rfl rfl)
theorem dX6_next_271 : decode cX6_next 271 = .ok (.aload_n 0, 1) := dk_42 (dk_at dksX6_next_11 15 rfl rfl)
theorem dX6_next_272 : decode cX6_next 272 = .ok (.iconst 4, 1) := dk_7 (dk_at dksX6_next_11 16 rfl rfl)
theorem dX6_next_273 : decode cX6_next 273 = .ok (.putfield 159, 3) := dk_181 0 159 (dk_at dksX6_next_11 17 rfl rfl)
theorem dX6_next_276 : decode cX6_next 276 = .ok (.aload_n 0, 1) := dk_42 (dk_at dksX6_next_11 20 rfl rfl)
theorem dX6_next_277 : decode cX6_next 277 = .ok (.iload_n 1, 1) := dk_27 (dk_at dksX6_next_11 21 rfl rfl)
theorem dX6_next_278 : decode cX6_next 278 = .ok (.putfield 162, 3) := dk_181 0 162 (dk_at dksX6_next_12 0 rfl rfl)
theorem dX6_next_281 : decode cX6_next 281 = .ok (.aload_n 0, 1) := dk_42 (dk_at dksX6_next_12 3 rfl rfl)
theorem dX6_next_282 : decode cX6_next 282 = .ok (.dup, 1) := dk_89 (dk_at dksX6_next_12 4 rfl rfl)
theorem dX6_next_283 : decode cX6_next 283 = .ok (.getfield 153, 3) := dk_180 0 153 (dk_at dksX6_next_12 5 rfl rfl)
theorem dX6_next_286 : decode cX6_next 286 = .ok (.iconst 1, 1) := dk_4 (dk_at dksX6_next_12 8 rfl rfl)
theorem dX6_next_287 : decode cX6_next 287 = .ok (.iadd, 1) := dk_96 (dk_at dksX6_next_12 9 rfl rfl)
theorem dX6_next_288 : decode cX6_next 288 = .ok (.putfield 153, 3) := dk_181 0 153 (dk_at dksX6_next_12 10 rfl rfl)
theorem dX6_next_291 : decode cX6_next 291 = .ok (.return_, 1) := dk_177 (dk_at dksX6_next_12 13 rfl rfl)
abbrev cX6_byteAt : ByteArray := prog_16_method_13_code
def yX6_byteAt : MethodName := ⟨RX6, "byteAt", "(I)I"⟩
def dkwX6_byteAt_0 : List UInt8 := [27, 42, 180, 0, 139, 162, 0, 16, 42, 180, 0, 65, 27, 51, 17, 0, 255, 126, 167, 0, 4, 2, 172]
abbrev dktX6_byteAt_0 : List UInt8 := dkwX6_byteAt_0 ++ []
theorem dksX6_byteAt_0 : cX6_byteAt.data.toList.drop 0 = dktX6_byteAt_0 := by decide +kernel
theorem dX6_byteAt_0 : decode cX6_byteAt 0 = .ok (.iload_n 1, 1) := dk_27 (dk_at dksX6_byteAt_0 0 rfl rfl)
theorem dX6_byteAt_1 : decode cX6_byteAt 1 = .ok (.aload_n 0, 1) := dk_42 (dk_at dksX6_byteAt_0 1 rfl rfl)
theorem dX6_byteAt_2 : decode cX6_byteAt 2 = .ok (.getfield 139, 3) := dk_180 0 139 (dk_at dksX6_byteAt_0 2 rfl rfl)
theorem dX6_byteAt_5 : decode cX6_byteAt 5 = .ok (.if_icmp .ge 16, 3) := dk_162 0 16 (dk_at dksX6_byteAt_0 5 rfl rfl)
theorem dX6_byteAt_8 : decode cX6_byteAt 8 = .ok (.aload_n 0, 1) := dk_42 (dk_at dksX6_byteAt_0 8 rfl rfl)
theorem dX6_byteAt_9 : decode cX6_byteAt 9 = .ok (.getfield 65, 3) := dk_180 0 65 (dk_at dksX6_byteAt_0 9 rfl rfl)
theorem dX6_byteAt_12 : decode cX6_byteAt 12 = .ok (.iload_n 1, 1) := dk_27 (dk_at dksX6_byteAt_0 12 rfl rfl)
theorem dX6_byteAt_13 : decode cX6_byteAt 13 = .ok (.baload, 1) := dk_51 (dk_at dksX6_byteAt_0 13 rfl rfl)
theorem dX6_byteAt_14 : decode cX6_byteAt 14 = .ok (.sipush 255, 3) := dk_17 0 255 (dk_at dksX6_byteAt_0 14 rfl rfl)
theorem dX6_byteAt_17 : decode cX6_byteAt 17 = .ok (.iand, 1) := dk_126 (dk_at dksX6_byteAt_0 17 rfl rfl)
theorem dX6_byteAt_18 : decode cX6_byteAt 18 = .ok (.goto 4, 3) := dk_167 0 4 (dk_at dksX6_byteAt_0 18 rfl rfl)
theorem dX6_byteAt_21 : decode cX6_byteAt 21 = .ok (.iconst (-1), 1) := dk_2 (dk_at dksX6_byteAt_0 21 rfl rfl)
theorem dX6_byteAt_22 : decode cX6_byteAt 22 = .ok (.ireturn, 1) := dk_172 (dk_at dksX6_byteAt_0 22 rfl rfl)
abbrev cX6_isLetter : ByteArray := prog_16_method_14_code
def yX6_isLetter : MethodName := ⟨RX6, "isLetter", "(I)Z"⟩
def dkwX6_isLetter_0 : List UInt8 := [26, 16, 97, 161, 0, 13, 26, 16, 122, 163, 0, 7, 4, 167, 0, 4, 3, 172]
abbrev dktX6_isLetter_0 : List UInt8 := dkwX6_isLetter_0 ++ []
theorem dksX6_isLetter_0 : cX6_isLetter.data.toList.drop 0 = dktX6_isLetter_0 := by decide +kernel
theorem dX6_isLetter_0 : decode cX6_isLetter 0 = .ok (.iload_n 0, 1) := dk_26 (dk_at dksX6_isLetter_0 0 rfl rfl)
theorem dX6_isLetter_1 : decode cX6_isLetter 1 = .ok (.bipush 97, 2) := dk_16 97 (dk_at dksX6_isLetter_0 1 rfl rfl)
theorem dX6_isLetter_3 : decode cX6_isLetter 3 = .ok (.if_icmp .lt 13, 3) := dk_161 0 13 (dk_at dksX6_isLetter_0 3 rfl rfl)
theorem dX6_isLetter_6 : decode cX6_isLetter 6 = .ok (.iload_n 0, 1) := dk_26 (dk_at dksX6_isLetter_0 6 rfl rfl)
theorem dX6_isLetter_7 : decode cX6_isLetter 7 = .ok (.bipush 122, 2) := dk_16 122 (dk_at dksX6_isLetter_0 7 rfl rfl)
theorem dX6_isLetter_9 : decode cX6_isLetter 9 = .ok (.if_icmp .gt 7, 3) := dk_163 0 7 (dk_at dksX6_isLetter_0 9 rfl rfl)
theorem dX6_isLetter_12 : decode cX6_isLetter 12 = .ok (.iconst 1, 1) := dk_4 (dk_at dksX6_isLetter_0 12 rfl rfl)
theorem dX6_isLetter_13 : decode cX6_isLetter 13 = .ok (.goto 4, 3) := dk_167 0 4 (dk_at dksX6_isLetter_0 13 rfl rfl)
theorem dX6_isLetter_16 : decode cX6_isLetter 16 = .ok (.iconst 0, 1) := dk_3 (dk_at dksX6_isLetter_0 16 rfl rfl)
theorem dX6_isLetter_17 : decode cX6_isLetter 17 = .ok (.ireturn, 1) := dk_172 (dk_at dksX6_isLetter_0 17 rfl rfl)
abbrev cX6_isDigit : ByteArray := prog_16_method_15_code
def yX6_isDigit : MethodName := ⟨RX6, "isDigit", "(I)Z"⟩
def dkwX6_isDigit_0 : List UInt8 := [26, 16, 48, 161, 0, 13, 26, 16, 57, 163, 0, 7, 4, 167, 0, 4, 3, 172]
abbrev dktX6_isDigit_0 : List UInt8 := dkwX6_isDigit_0 ++ []
theorem dksX6_isDigit_0 : cX6_isDigit.data.toList.drop 0 = dktX6_isDigit_0 := by decide +kernel
theorem dX6_isDigit_0 : decode cX6_isDigit 0 = .ok (.iload_n 0, 1) := dk_26 (dk_at dksX6_isDigit_0 0 rfl rfl)
theorem dX6_isDigit_1 : decode cX6_isDigit 1 = .ok (.bipush 48, 2) := dk_16 48 (dk_at dksX6_isDigit_0 1 rfl rfl)
theorem dX6_isDigit_3 : decode cX6_isDigit 3 = .ok (.if_icmp .lt 13, 3) := dk_161 0 13 (dk_at dksX6_isDigit_0 3 rfl rfl)
theorem dX6_isDigit_6 : decode cX6_isDigit 6 = .ok (.iload_n 0, 1) := dk_26 (dk_at dksX6_isDigit_0 6 rfl rfl)
theorem dX6_isDigit_7 : decode cX6_isDigit 7 = .ok (.bipush 57, 2) := dk_16 57 (dk_at dksX6_isDigit_0 7 rfl rfl)
theorem dX6_isDigit_9 : decode cX6_isDigit 9 = .ok (.if_icmp .gt 7, 3) := dk_163 0 7 (dk_at dksX6_isDigit_0 9 rfl rfl)
theorem dX6_isDigit_12 : decode cX6_isDigit 12 = .ok (.iconst 1, 1) := dk_4 (dk_at dksX6_isDigit_0 12 rfl rfl)
theorem dX6_isDigit_13 : decode cX6_isDigit 13 = .ok (.goto 4, 3) := dk_167 0 4 (dk_at dksX6_isDigit_0 13 rfl rfl)
theorem dX6_isDigit_16 : decode cX6_isDigit 16 = .ok (.iconst 0, 1) := dk_3 (dk_at dksX6_isDigit_0 16 rfl rfl)
theorem dX6_isDigit_17 : decode cX6_isDigit 17 = .ok (.ireturn, 1) := dk_172 (dk_at dksX6_isDigit_0 17 rfl rfl)
abbrev cX6_readPlan : ByteArray := prog_16_method_25_code
def yX6_readPlan : MethodName := ⟨RX6, "readPlan", "()V"⟩
def dkwX6_readPlan_7 : List UInt8 := [42, 182, 0, 189, 167, 255, 103, 42, 180, 0, 159, 4, 159, 0, 9, 42, 4, 182, 0, 186, 191, 177]
abbrev dktX6_readPlan_7 : List UInt8 := dkwX6_readPlan_7 ++ []
def dkwX6_readPlan_6 : List UInt8 := [182, 0, 189, 42, 180, 0, 69, 27, 92, 46, 4, 96, 79, 42, 16, 59, 182, 0, 241, 61, 28, 153, 0, 7]
abbrev dktX6_readPlan_6 : List UInt8 := dkwX6_readPlan_6 ++ dktX6_readPlan_7
def dkwX6_readPlan_5 : List UInt8 := [182, 0, 232, 79, 42, 180, 0, 72, 21, 4, 46, 2, 160, 0, 9, 42, 4, 182, 0, 186, 191, 42]
abbrev dktX6_readPlan_5 : List UInt8 := dkwX6_readPlan_5 ++ dktX6_readPlan_6
def dkwX6_readPlan_4 : List UInt8 := [21, 4, 182, 0, 235, 42, 18, 239, 182, 0, 182, 54, 5, 167, 255, 233, 42, 180, 0, 72, 21, 4, 42]
abbrev dktX6_readPlan_4 : List UInt8 := dkwX6_readPlan_4 ++ dktX6_readPlan_5
def dkwX6_readPlan_3 : List UInt8 := [54, 4, 42, 180, 0, 75, 21, 4, 3, 79, 29, 54, 5, 21, 5, 153, 0, 24, 42, 182, 0, 189, 42]
abbrev dktX6_readPlan_3 : List UInt8 := dkwX6_readPlan_3 ++ dktX6_readPlan_4
def dkwX6_readPlan_2 : List UInt8 := [46, 16, 12, 160, 0, 9, 42, 6, 182, 0, 186, 191, 16, 12, 27, 104, 42, 180, 0, 69, 27, 46, 96]
abbrev dktX6_readPlan_2 : List UInt8 := dkwX6_readPlan_2 ++ dktX6_readPlan_3
def dkwX6_readPlan_1 : List UInt8 := [62, 29, 154, 0, 17, 42, 182, 0, 232, 2, 160, 0, 9, 42, 4, 182, 0, 186, 191, 42, 180, 0, 69, 27]
abbrev dktX6_readPlan_1 : List UInt8 := dkwX6_readPlan_1 ++ dktX6_readPlan_2
def dkwX6_readPlan_0 : List UInt8 := [42, 180, 0, 227, 60, 42, 180, 0, 69, 27, 3, 79, 4, 61, 28, 153, 0, 155, 42, 18, 230, 182, 0, 182]
abbrev dktX6_readPlan_0 : List UInt8 := dkwX6_readPlan_0 ++ dktX6_readPlan_1
theorem dksX6_readPlan_0 : cX6_readPlan.data.toList.drop 0 = dktX6_readPlan_0 := by decide +kernel
theorem dksX6_readPlan_1 : cX6_readPlan.data.toList.drop 24 = dktX6_readPlan_1 := dk_seg dksX6_readPlan_0 24 rfl rfl
theorem dksX6_readPlan_2 : cX6_readPlan.data.toList.drop 48 = dktX6_readPlan_2 := dk_seg dksX6_readPlan_1 24 rfl rfl
theorem dksX6_readPlan_3 : cX6_readPlan.data.toList.drop 71 = dktX6_readPlan_3 := dk_seg dksX6_readPlan_2 23 rfl rfl
theorem dksX6_readPlan_4 : cX6_readPlan.data.toList.drop 94 = dktX6_readPlan_4 := dk_seg dksX6_readPlan_3 23 rfl rfl
theorem dksX6_readPlan_5 : cX6_readPlan.data.toList.drop 117 = dktX6_readPlan_5 := dk_seg dksX6_readPlan_4 23 rfl rfl
theorem dksX6_readPlan_6 : cX6_readPlan.data.toList.drop 139 = dktX6_readPlan_6 := dk_seg dksX6_readPlan_5 22 rfl rfl
theorem dksX6_readPlan_7 : cX6_readPlan.data.toList.drop 163 = dktX6_readPlan_7 := dk_seg dksX6_readPlan_6 24 rfl rfl
theorem dX6_readPlan_0 : decode cX6_readPlan 0 = .ok (.aload_n 0, 1) := dk_42 (dk_at dksX6_readPlan_0 0 rfl rfl)
theorem dX6_readPlan_1 : decode cX6_readPlan 1 = .ok (.getfield 227, 3) := dk_180 0 227 (dk_at dksX6_readPlan_0 1 rfl rfl)
theorem dX6_readPlan_4 : decode cX6_readPlan 4 = .ok (.istore_n 1, 1) := dk_60 (dk_at dksX6_readPlan_0 4 rfl rfl)
theorem dX6_readPlan_5 : decode cX6_readPlan 5 = .ok (.aload_n 0, 1) := dk_42 (dk_at dksX6_readPlan_0 5 rfl rfl)
theorem dX6_readPlan_6 : decode cX6_readPlan 6 = .ok (.getfield 69, 3) := dk_180 0 69 (dk_at dksX6_readPlan_0 6 rfl rfl)
theorem dX6_readPlan_9 : decode cX6_readPlan 9 = .ok (.iload_n 1, 1) := dk_27 (dk_at dksX6_readPlan_0 9 rfl rfl)
theorem dX6_readPlan_10 : decode cX6_readPlan 10 = .ok (.iconst 0, 1) := dk_3 (dk_at dksX6_readPlan_0 10 rfl rfl)
theorem dX6_readPlan_11 : decode cX6_readPlan 11 = .ok (.iastore, 1) := dk_79 (dk_at dksX6_readPlan_0 11 rfl rfl)
theorem dX6_readPlan_12 : decode cX6_readPlan 12 = .ok (.iconst 1, 1) := dk_4 (dk_at dksX6_readPlan_0 12 rfl rfl)
theorem dX6_readPlan_13 : decode cX6_readPlan 13 = .ok (.istore_n 2, 1) := dk_61 (dk_at dksX6_readPlan_0 13 rfl rfl)
theorem dX6_readPlan_14 : decode cX6_readPlan 14 = .ok (.iload_n 2, 1) := dk_28 (dk_at dksX6_readPlan_0 14 rfl rfl)
theorem dX6_readPlan_15 : decode cX6_readPlan 15 = .ok (.ifCond .eq 155, 3) := dk_153 0 155 (dk_at dksX6_readPlan_0 15 rfl rfl)
theorem dX6_readPlan_18 : decode cX6_readPlan 18 = .ok (.aload_n 0, 1) := dk_42 (dk_at dksX6_readPlan_0 18 rfl rfl)
theorem dX6_readPlan_19 : decode cX6_readPlan 19 = .ok (.ldc 230, 2) := dk_18 230 (dk_at dksX6_readPlan_0 19 rfl rfl)
theorem dX6_readPlan_21 : decode cX6_readPlan 21 = .ok (.invokevirtual 182, 3) := dk_182 0 182 (dk_at dksX6_readPlan_0 21 rfl rfl)
theorem dX6_readPlan_24 : decode cX6_readPlan 24 = .ok (.istore_n 3, 1) := dk_62 (dk_at dksX6_readPlan_1 0 rfl rfl)
theorem dX6_readPlan_25 : decode cX6_readPlan 25 = .ok (.iload_n 3, 1) := dk_29 (dk_at dksX6_readPlan_1 1 rfl rfl)
theorem dX6_readPlan_26 : decode cX6_readPlan 26 = .ok (.ifCond .ne 17, 3) := dk_154 0 17 (dk_at dksX6_readPlan_1 2 rfl rfl)
theorem dX6_readPlan_29 : decode cX6_readPlan 29 = .ok (.aload_n 0, 1) := dk_42 (dk_at dksX6_readPlan_1 5 rfl rfl)
theorem dX6_readPlan_30 : decode cX6_readPlan 30 = .ok (.invokevirtual 232, 3) := dk_182 0 232 (dk_at dksX6_readPlan_1 6 rfl rfl)
theorem dX6_readPlan_33 : decode cX6_readPlan 33 = .ok (.iconst (-1), 1) := dk_2 (dk_at dksX6_readPlan_1 9 rfl rfl)
theorem dX6_readPlan_34 : decode cX6_readPlan 34 = .ok (.if_icmp .ne 9, 3) := dk_160 0 9 (dk_at dksX6_readPlan_1 10 rfl rfl)
theorem dX6_readPlan_37 : decode cX6_readPlan 37 = .ok (.aload_n 0, 1) := dk_42 (dk_at dksX6_readPlan_1 13 rfl rfl)
theorem dX6_readPlan_38 : decode cX6_readPlan 38 = .ok (.iconst 1, 1) := dk_4 (dk_at dksX6_readPlan_1 14 rfl rfl)
theorem dX6_readPlan_39 : decode cX6_readPlan 39 = .ok (.invokevirtual 186, 3) := dk_182 0 186 (dk_at dksX6_readPlan_1 15 rfl rfl)
theorem dX6_readPlan_42 : decode cX6_readPlan 42 = .ok (.athrow, 1) := dk_191 (dk_at dksX6_readPlan_1 18 rfl rfl)
theorem dX6_readPlan_43 : decode cX6_readPlan 43 = .ok (.aload_n 0, 1) := dk_42 (dk_at dksX6_readPlan_1 19 rfl rfl)
theorem dX6_readPlan_44 : decode cX6_readPlan 44 = .ok (.getfield 69, 3) := dk_180 0 69 (dk_at dksX6_readPlan_1 20 rfl rfl)
theorem dX6_readPlan_47 : decode cX6_readPlan 47 = .ok (.iload_n 1, 1) := dk_27 (dk_at dksX6_readPlan_1 23 rfl rfl)
theorem dX6_readPlan_48 : decode cX6_readPlan 48 = .ok (.iaload, 1) := dk_46 (dk_at dksX6_readPlan_2 0 rfl rfl)
theorem dX6_readPlan_49 : decode cX6_readPlan 49 = .ok (.bipush 12, 2) := dk_16 12 (dk_at dksX6_readPlan_2 1 rfl rfl)
theorem dX6_readPlan_51 : decode cX6_readPlan 51 = .ok (.if_icmp .ne 9, 3) := dk_160 0 9 (dk_at dksX6_readPlan_2 3 rfl rfl)
theorem dX6_readPlan_54 : decode cX6_readPlan 54 = .ok (.aload_n 0, 1) := dk_42 (dk_at dksX6_readPlan_2 6 rfl rfl)
theorem dX6_readPlan_55 : decode cX6_readPlan 55 = .ok (.iconst 3, 1) := dk_6 (dk_at dksX6_readPlan_2 7 rfl rfl)
theorem dX6_readPlan_56 : decode cX6_readPlan 56 = .ok (.invokevirtual 186, 3) := dk_182 0 186 (dk_at dksX6_readPlan_2 8 rfl rfl)
theorem dX6_readPlan_59 : decode cX6_readPlan 59 = .ok (.athrow, 1) := dk_191 (dk_at dksX6_readPlan_2 11 rfl rfl)
theorem dX6_readPlan_60 : decode cX6_readPlan 60 = .ok (.bipush 12, 2) := dk_16 12 (dk_at dksX6_readPlan_2 12 rfl rfl)
theorem dX6_readPlan_62 : decode cX6_readPlan 62 = .ok (.iload_n 1, 1) := dk_27 (dk_at dksX6_readPlan_2 14 rfl rfl)
theorem dX6_readPlan_63 : decode cX6_readPlan 63 = .ok (.imul, 1) := dk_104 (dk_at dksX6_readPlan_2 15 rfl rfl)
theorem dX6_readPlan_64 : decode cX6_readPlan 64 = .ok (.aload_n 0, 1) := dk_42 (dk_at dksX6_readPlan_2 16 rfl rfl)
theorem dX6_readPlan_65 : decode cX6_readPlan 65 = .ok (.getfield 69, 3) := dk_180 0 69 (dk_at dksX6_readPlan_2 17 rfl rfl)
theorem dX6_readPlan_68 : decode cX6_readPlan 68 = .ok (.iload_n 1, 1) := dk_27 (dk_at dksX6_readPlan_2 20 rfl rfl)
theorem dX6_readPlan_69 : decode cX6_readPlan 69 = .ok (.iaload, 1) := dk_46 (dk_at dksX6_readPlan_2 21 rfl rfl)
theorem dX6_readPlan_70 : decode cX6_readPlan 70 = .ok (.iadd, 1) := dk_96 (dk_at dksX6_readPlan_2 22 rfl rfl)
theorem dX6_readPlan_71 : decode cX6_readPlan 71 = .ok (.istore 4, 2) := dk_54 4 (dk_at dksX6_readPlan_3 0 rfl rfl)
theorem dX6_readPlan_73 : decode cX6_readPlan 73 = .ok (.aload_n 0, 1) := dk_42 (dk_at dksX6_readPlan_3 2 rfl rfl)
theorem dX6_readPlan_74 : decode cX6_readPlan 74 = .ok (.getfield 75, 3) := dk_180 0 75 (dk_at dksX6_readPlan_3 3 rfl rfl)
theorem dX6_readPlan_77 : decode cX6_readPlan 77 = .ok (.iload 4, 2) := dk_21 4 (dk_at dksX6_readPlan_3 6 rfl rfl)
theorem dX6_readPlan_79 : decode cX6_readPlan 79 = .ok (.iconst 0, 1) := dk_3 (dk_at dksX6_readPlan_3 8 rfl rfl)
theorem dX6_readPlan_80 : decode cX6_readPlan 80 = .ok (.iastore, 1) := dk_79 (dk_at dksX6_readPlan_3 9 rfl rfl)
theorem dX6_readPlan_81 : decode cX6_readPlan 81 = .ok (.iload_n 3, 1) := dk_29 (dk_at dksX6_readPlan_3 10 rfl rfl)
theorem dX6_readPlan_82 : decode cX6_readPlan 82 = .ok (.istore 5, 2) := dk_54 5 (dk_at dksX6_readPlan_3 11 rfl rfl)
theorem dX6_readPlan_84 : decode cX6_readPlan 84 = .ok (.iload 5, 2) := dk_21 5 (dk_at dksX6_readPlan_3 13 rfl rfl)
theorem dX6_readPlan_86 : decode cX6_readPlan 86 = .ok (.ifCond .eq 24, 3) := dk_153 0 24 (dk_at dksX6_readPlan_3 15 rfl rfl)
theorem dX6_readPlan_89 : decode cX6_readPlan 89 = .ok (.aload_n 0, 1) := dk_42 (dk_at dksX6_readPlan_3 18 rfl rfl)
theorem dX6_readPlan_90 : decode cX6_readPlan 90 = .ok (.invokevirtual 189, 3) := dk_182 0 189 (dk_at dksX6_readPlan_3 19 rfl rfl)
theorem dX6_readPlan_93 : decode cX6_readPlan 93 = .ok (.aload_n 0, 1) := dk_42 (dk_at dksX6_readPlan_3 22 rfl rfl)
theorem dX6_readPlan_94 : decode cX6_readPlan 94 = .ok (.iload 4, 2) := dk_21 4 (dk_at dksX6_readPlan_4 0 rfl rfl)
theorem dX6_readPlan_96 : decode cX6_readPlan 96 = .ok (.invokevirtual 235, 3) := dk_182 0 235 (dk_at dksX6_readPlan_4 2 rfl rfl)
theorem dX6_readPlan_99 : decode cX6_readPlan 99 = .ok (.aload_n 0, 1) := dk_42 (dk_at dksX6_readPlan_4 5 rfl rfl)
theorem dX6_readPlan_100 : decode cX6_readPlan 100 = .ok (.ldc 239, 2) := dk_18 239 (dk_at dksX6_readPlan_4 6 rfl rfl)
theorem dX6_readPlan_102 : decode cX6_readPlan 102 = .ok (.invokevirtual 182, 3) := dk_182 0 182 (dk_at dksX6_readPlan_4 8 rfl rfl)
theorem dX6_readPlan_105 : decode cX6_readPlan 105 = .ok (.istore 5, 2) := dk_54 5 (dk_at dksX6_readPlan_4 11 rfl rfl)
theorem dX6_readPlan_107 : decode cX6_readPlan 107 = .ok (.goto (-23), 3) := dk_167 255 233 (dk_at dksX6_readPlan_4 13 rfl rfl)
theorem dX6_readPlan_110 : decode cX6_readPlan 110 = .ok (.aload_n 0, 1) := dk_42 (dk_at dksX6_readPlan_4 16 rfl rfl)
theorem dX6_readPlan_111 : decode cX6_readPlan 111 = .ok (.getfield 72, 3) := dk_180 0 72 (dk_at dksX6_readPlan_4 17 rfl rfl)
theorem dX6_readPlan_114 : decode cX6_readPlan 114 = .ok (.iload 4, 2) := dk_21 4 (dk_at dksX6_readPlan_4 20 rfl rfl)
theorem dX6_readPlan_116 : decode cX6_readPlan 116 = .ok (.aload_n 0, 1) := dk_42 (dk_at dksX6_readPlan_4 22 rfl rfl)
theorem dX6_readPlan_117 : decode cX6_readPlan 117 = .ok (.invokevirtual 232, 3) := dk_182 0 232 (dk_at dksX6_readPlan_5 0 rfl rfl)
theorem dX6_readPlan_120 : decode cX6_readPlan 120 = .ok (.iastore, 1) := dk_79 (dk_at dksX6_readPlan_5 3 rfl rfl)
theorem dX6_readPlan_121 : decode cX6_readPlan 121 = .ok (.aload_n 0, 1) := dk_42 (dk_at dksX6_readPlan_5 4 rfl rfl)
theorem dX6_readPlan_122 : decode cX6_readPlan 122 = .ok (.getfield 72, 3) := dk_180 0 72 (dk_at dksX6_readPlan_5 5 rfl rfl)
theorem dX6_readPlan_125 : decode cX6_readPlan 125 = .ok (.iload 4, 2) := dk_21 4 (dk_at dksX6_readPlan_5 8 rfl rfl)
theorem dX6_readPlan_127 : decode cX6_readPlan 127 = .ok (.iaload, 1) := dk_46 (dk_at dksX6_readPlan_5 10 rfl rfl)
theorem dX6_readPlan_128 : decode cX6_readPlan 128 = .ok (.iconst (-1), 1) := dk_2 (dk_at dksX6_readPlan_5 11 rfl rfl)
theorem dX6_readPlan_129 : decode cX6_readPlan 129 = .ok (.if_icmp .ne 9, 3) := dk_160 0 9 (dk_at dksX6_readPlan_5 12 rfl rfl)
theorem dX6_readPlan_132 : decode cX6_readPlan 132 = .ok (.aload_n 0, 1) := dk_42 (dk_at dksX6_readPlan_5 15 rfl rfl)
theorem dX6_readPlan_133 : decode cX6_readPlan 133 = .ok (.iconst 1, 1) := dk_4 (dk_at dksX6_readPlan_5 16 rfl rfl)
theorem dX6_readPlan_134 : decode cX6_readPlan 134 = .ok (.invokevirtual 186, 3) := dk_182 0 186 (dk_at dksX6_readPlan_5 17 rfl rfl)
theorem dX6_readPlan_137 : decode cX6_readPlan 137 = .ok (.athrow, 1) := dk_191 (dk_at dksX6_readPlan_5 20 rfl rfl)
theorem dX6_readPlan_138 : decode cX6_readPlan 138 = .ok (.aload_n 0, 1) := dk_42 (dk_at dksX6_readPlan_5 21 rfl rfl)
theorem dX6_readPlan_139 : decode cX6_readPlan 139 = .ok (.invokevirtual 189, 3) := dk_182 0 189 (dk_at dksX6_readPlan_6 0 rfl rfl)
theorem dX6_readPlan_142 : decode cX6_readPlan 142 = .ok (.aload_n 0, 1) := dk_42 (dk_at dksX6_readPlan_6 3 rfl rfl)
theorem dX6_readPlan_143 : decode cX6_readPlan 143 = .ok (.getfield 69, 3) := dk_180 0 69 (dk_at dksX6_readPlan_6 4 rfl rfl)
theorem dX6_readPlan_146 : decode cX6_readPlan 146 = .ok (.iload_n 1, 1) := dk_27 (dk_at dksX6_readPlan_6 7 rfl rfl)
theorem dX6_readPlan_147 : decode cX6_readPlan 147 = .ok (.dup2, 1) := dk_92 (dk_at dksX6_readPlan_6 8 rfl rfl)
theorem dX6_readPlan_148 : decode cX6_readPlan 148 = .ok (.iaload, 1) := dk_46 (dk_at dksX6_readPlan_6 9 rfl rfl)
theorem dX6_readPlan_149 : decode cX6_readPlan 149 = .ok (.iconst 1, 1) := dk_4 (dk_at dksX6_readPlan_6 10 rfl rfl)
theorem dX6_readPlan_150 : decode cX6_readPlan 150 = .ok (.iadd, 1) := dk_96 (dk_at dksX6_readPlan_6 11 rfl rfl)
theorem dX6_readPlan_151 : decode cX6_readPlan 151 = .ok (.iastore, 1) := dk_79 (dk_at dksX6_readPlan_6 12 rfl rfl)
theorem dX6_readPlan_152 : decode cX6_readPlan 152 = .ok (.aload_n 0, 1) := dk_42 (dk_at dksX6_readPlan_6 13 rfl rfl)
theorem dX6_readPlan_153 : decode cX6_readPlan 153 = .ok (.bipush 59, 2) := dk_16 59 (dk_at dksX6_readPlan_6 14 rfl rfl)
theorem dX6_readPlan_155 : decode cX6_readPlan 155 = .ok (.invokevirtual 241, 3) := dk_182 0 241 (dk_at dksX6_readPlan_6 16 rfl rfl)
theorem dX6_readPlan_158 : decode cX6_readPlan 158 = .ok (.istore_n 2, 1) := dk_61 (dk_at dksX6_readPlan_6 19 rfl rfl)
theorem dX6_readPlan_159 : decode cX6_readPlan 159 = .ok (.iload_n 2, 1) := dk_28 (dk_at dksX6_readPlan_6 20 rfl rfl)
theorem dX6_readPlan_160 : decode cX6_readPlan 160 = .ok (.ifCond .eq 7, 3) := dk_153 0 7 (dk_at dksX6_readPlan_6 21 rfl rfl)
theorem dX6_readPlan_163 : decode cX6_readPlan 163 = .ok (.aload_n 0, 1) := dk_42 (dk_at dksX6_readPlan_7 0 rfl rfl)
theorem dX6_readPlan_164 : decode cX6_readPlan 164 = .ok (.invokevirtual 189, 3) := dk_182 0 189 (dk_at dksX6_readPlan_7 1 rfl rfl)
theorem dX6_readPlan_167 : decode cX6_readPlan 167 = .ok (.goto (-153), 3) := dk_167 255 103 (dk_at dksX6_readPlan_7 4 rfl rfl)
theorem dX6_readPlan_170 : decode cX6_readPlan 170 = .ok (.aload_n 0, 1) := dk_42 (dk_at dksX6_readPlan_7 7 rfl rfl)
theorem dX6_readPlan_171 : decode cX6_readPlan 171 = .ok (.getfield 159, 3) := dk_180 0 159 (dk_at dksX6_readPlan_7 8 rfl rfl)
theorem dX6_readPlan_174 : decode cX6_readPlan 174 = .ok (.iconst 1, 1) := dk_4 (dk_at dksX6_readPlan_7 11 rfl rfl)
theorem dX6_readPlan_175 : decode cX6_readPlan 175 = .ok (.if_icmp .eq 9, 3) := dk_159 0 9 (dk_at dksX6_readPlan_7 12 rfl rfl)
theorem dX6_readPlan_178 : decode cX6_readPlan 178 = .ok (.aload_n 0, 1) := dk_42 (dk_at dksX6_readPlan_7 15 rfl rfl)
theorem dX6_readPlan_179 : decode cX6_readPlan 179 = .ok (.iconst 1, 1) := dk_4 (dk_at dksX6_readPlan_7 16 rfl rfl)
theorem dX6_readPlan_180 : decode cX6_readPlan 180 = .ok (.invokevirtual 186, 3) := dk_182 0 186 (dk_at dksX6_readPlan_7 17 rfl rfl)
theorem dX6_readPlan_183 : decode cX6_readPlan 183 = .ok (.athrow, 1) := dk_191 (dk_at dksX6_readPlan_7 20 rfl rfl)
theorem dX6_readPlan_184 : decode cX6_readPlan 184 = .ok (.return_, 1) := dk_177 (dk_at dksX6_readPlan_7 21 rfl rfl)
abbrev cX6_isWord : ByteArray := prog_16_method_18_code
def yX6_isWord : MethodName := ⟨RX6, "isWord", "(Ljava/lang/String;)Z"⟩
def dkwX6_isWord_1 : List UInt8 := [3, 172]
abbrev dktX6_isWord_1 : List UInt8 := dkwX6_isWord_1 ++ []
def dkwX6_isWord_0 : List UInt8 := [42, 180, 0, 159, 5, 160, 0, 19, 42, 180, 0, 168, 43, 184, 0, 178, 148, 154, 0, 7, 4, 167, 0, 4]
abbrev dktX6_isWord_0 : List UInt8 := dkwX6_isWord_0 ++ dktX6_isWord_1
theorem dksX6_isWord_0 : cX6_isWord.data.toList.drop 0 = dktX6_isWord_0 := by decide +kernel
theorem dksX6_isWord_1 : cX6_isWord.data.toList.drop 24 = dktX6_isWord_1 := dk_seg dksX6_isWord_0 24 rfl rfl
theorem dX6_isWord_0 : decode cX6_isWord 0 = .ok (.aload_n 0, 1) := dk_42 (dk_at dksX6_isWord_0 0 rfl rfl)
theorem dX6_isWord_1 : decode cX6_isWord 1 = .ok (.getfield 159, 3) := dk_180 0 159 (dk_at dksX6_isWord_0 1 rfl rfl)
theorem dX6_isWord_4 : decode cX6_isWord 4 = .ok (.iconst 2, 1) := dk_5 (dk_at dksX6_isWord_0 4 rfl rfl)
theorem dX6_isWord_5 : decode cX6_isWord 5 = .ok (.if_icmp .ne 19, 3) := dk_160 0 19 (dk_at dksX6_isWord_0 5 rfl rfl)
theorem dX6_isWord_8 : decode cX6_isWord 8 = .ok (.aload_n 0, 1) := dk_42 (dk_at dksX6_isWord_0 8 rfl rfl)
theorem dX6_isWord_9 : decode cX6_isWord 9 = .ok (.getfield 168, 3) := dk_180 0 168 (dk_at dksX6_isWord_0 9 rfl rfl)
theorem dX6_isWord_12 : decode cX6_isWord 12 = .ok (.aload_n 1, 1) := dk_43 (dk_at dksX6_isWord_0 12 rfl rfl)
theorem dX6_isWord_13 : decode cX6_isWord 13 = .ok (.invokestatic 178, 3) := dk_184 0 178 (dk_at dksX6_isWord_0 13 rfl rfl)
theorem dX6_isWord_16 : decode cX6_isWord 16 = .ok (.lcmp, 1) := dk_148 (dk_at dksX6_isWord_0 16 rfl rfl)
theorem dX6_isWord_17 : decode cX6_isWord 17 = .ok (.ifCond .ne 7, 3) := dk_154 0 7 (dk_at dksX6_isWord_0 17 rfl rfl)
theorem dX6_isWord_20 : decode cX6_isWord 20 = .ok (.iconst 1, 1) := dk_4 (dk_at dksX6_isWord_0 20 rfl rfl)
theorem dX6_isWord_21 : decode cX6_isWord 21 = .ok (.goto 4, 3) := dk_167 0 4 (dk_at dksX6_isWord_0 21 rfl rfl)
theorem dX6_isWord_24 : decode cX6_isWord 24 = .ok (.iconst 0, 1) := dk_3 (dk_at dksX6_isWord_1 0 rfl rfl)
theorem dX6_isWord_25 : decode cX6_isWord 25 = .ok (.ireturn, 1) := dk_172 (dk_at dksX6_isWord_1 1 rfl rfl)
abbrev cX6_wordOf : ByteArray := prog_16_method_16_code
def yX6_wordOf : MethodName := ⟨RX6, "wordOf", "(Ljava/lang/String;)J"⟩
def dkwX6_wordOf_1 : List UInt8 := [100, 4, 96, 133, 97, 64, 132, 3, 1, 167, 255, 227, 31, 173]
abbrev dktX6_wordOf_1 : List UInt8 := dkwX6_wordOf_1 ++ []
def dkwX6_wordOf_0 : List UInt8 := [9, 64, 3, 62, 29, 42, 182, 0, 142, 162, 0, 27, 20, 0, 147, 31, 105, 42, 29, 182, 0, 149, 16, 97]
abbrev dktX6_wordOf_0 : List UInt8 := dkwX6_wordOf_0 ++ dktX6_wordOf_1
theorem dksX6_wordOf_0 : cX6_wordOf.data.toList.drop 0 = dktX6_wordOf_0 := by decide +kernel
theorem dksX6_wordOf_1 : cX6_wordOf.data.toList.drop 24 = dktX6_wordOf_1 := dk_seg dksX6_wordOf_0 24 rfl rfl
theorem dX6_wordOf_0 : decode cX6_wordOf 0 = .ok (.lconst 0, 1) := dk_9 (dk_at dksX6_wordOf_0 0 rfl rfl)
theorem dX6_wordOf_1 : decode cX6_wordOf 1 = .ok (.lstore_n 1, 1) := dk_64 (dk_at dksX6_wordOf_0 1 rfl rfl)
theorem dX6_wordOf_2 : decode cX6_wordOf 2 = .ok (.iconst 0, 1) := dk_3 (dk_at dksX6_wordOf_0 2 rfl rfl)
theorem dX6_wordOf_3 : decode cX6_wordOf 3 = .ok (.istore_n 3, 1) := dk_62 (dk_at dksX6_wordOf_0 3 rfl rfl)
theorem dX6_wordOf_4 : decode cX6_wordOf 4 = .ok (.iload_n 3, 1) := dk_29 (dk_at dksX6_wordOf_0 4 rfl rfl)
theorem dX6_wordOf_5 : decode cX6_wordOf 5 = .ok (.aload_n 0, 1) := dk_42 (dk_at dksX6_wordOf_0 5 rfl rfl)
theorem dX6_wordOf_6 : decode cX6_wordOf 6 = .ok (.invokevirtual 142, 3) := dk_182 0 142 (dk_at dksX6_wordOf_0 6 rfl rfl)
theorem dX6_wordOf_9 : decode cX6_wordOf 9 = .ok (.if_icmp .ge 27, 3) := dk_162 0 27 (dk_at dksX6_wordOf_0 9 rfl rfl)
theorem dX6_wordOf_12 : decode cX6_wordOf 12 = .ok (.ldc2_w 147, 3) := dk_20 0 147 (dk_at dksX6_wordOf_0 12 rfl rfl)
theorem dX6_wordOf_15 : decode cX6_wordOf 15 = .ok (.lload_n 1, 1) := dk_31 (dk_at dksX6_wordOf_0 15 rfl rfl)
theorem dX6_wordOf_16 : decode cX6_wordOf 16 = .ok (.lmul, 1) := dk_105 (dk_at dksX6_wordOf_0 16 rfl rfl)
theorem dX6_wordOf_17 : decode cX6_wordOf 17 = .ok (.aload_n 0, 1) := dk_42 (dk_at dksX6_wordOf_0 17 rfl rfl)
theorem dX6_wordOf_18 : decode cX6_wordOf 18 = .ok (.iload_n 3, 1) := dk_29 (dk_at dksX6_wordOf_0 18 rfl rfl)
theorem dX6_wordOf_19 : decode cX6_wordOf 19 = .ok (.invokevirtual 149, 3) := dk_182 0 149 (dk_at dksX6_wordOf_0 19 rfl rfl)
theorem dX6_wordOf_22 : decode cX6_wordOf 22 = .ok (.bipush 97, 2) := dk_16 97 (dk_at dksX6_wordOf_0 22 rfl rfl)
theorem dX6_wordOf_24 : decode cX6_wordOf 24 = .ok (.isub, 1) := dk_100 (dk_at dksX6_wordOf_1 0 rfl rfl)
theorem dX6_wordOf_25 : decode cX6_wordOf 25 = .ok (.iconst 1, 1) := dk_4 (dk_at dksX6_wordOf_1 1 rfl rfl)
theorem dX6_wordOf_26 : decode cX6_wordOf 26 = .ok (.iadd, 1) := dk_96 (dk_at dksX6_wordOf_1 2 rfl rfl)
theorem dX6_wordOf_27 : decode cX6_wordOf 27 = .ok (.i2l, 1) := dk_133 (dk_at dksX6_wordOf_1 3 rfl rfl)
theorem dX6_wordOf_28 : decode cX6_wordOf 28 = .ok (.ladd, 1) := dk_97 (dk_at dksX6_wordOf_1 4 rfl rfl)
theorem dX6_wordOf_29 : decode cX6_wordOf 29 = .ok (.lstore_n 1, 1) := dk_64 (dk_at dksX6_wordOf_1 5 rfl rfl)
theorem dX6_wordOf_30 : decode cX6_wordOf 30 = .ok (.iinc 3 1, 3) := dk_132 3 1 (dk_at dksX6_wordOf_1 6 rfl rfl)
theorem dX6_wordOf_33 : decode cX6_wordOf 33 = .ok (.goto (-29), 3) := dk_167 255 227 (dk_at dksX6_wordOf_1 9 rfl rfl)
theorem dX6_wordOf_36 : decode cX6_wordOf 36 = .ok (.lload_n 1, 1) := dk_31 (dk_at dksX6_wordOf_1 12 rfl rfl)
theorem dX6_wordOf_37 : decode cX6_wordOf 37 = .ok (.lreturn, 1) := dk_173 (dk_at dksX6_wordOf_1 13 rfl rfl)
abbrev cX6_actHere : ByteArray := prog_16_method_22_code
def yX6_actHere : MethodName := ⟨RX6, "actHere", "()I"⟩
def dkwX6_actHere_2 : List UInt8 := [153, 0, 7, 6, 167, 0, 4, 2, 172]
abbrev dktX6_actHere_2 : List UInt8 := dkwX6_actHere_2 ++ []
def dkwX6_actHere_1 : List UInt8 := [167, 0, 30, 42, 18, 196, 182, 0, 182, 153, 0, 7, 5, 167, 0, 17, 42, 18, 198, 182, 0, 182]
abbrev dktX6_actHere_1 : List UInt8 := dkwX6_actHere_1 ++ dktX6_actHere_2
def dkwX6_actHere_0 : List UInt8 := [42, 18, 192, 182, 0, 182, 153, 0, 7, 3, 167, 0, 43, 42, 18, 194, 182, 0, 182, 153, 0, 7, 4]
abbrev dktX6_actHere_0 : List UInt8 := dkwX6_actHere_0 ++ dktX6_actHere_1
theorem dksX6_actHere_0 : cX6_actHere.data.toList.drop 0 = dktX6_actHere_0 := by decide +kernel
theorem dksX6_actHere_1 : cX6_actHere.data.toList.drop 23 = dktX6_actHere_1 := dk_seg dksX6_actHere_0 23 rfl rfl
theorem dksX6_actHere_2 : cX6_actHere.data.toList.drop 45 = dktX6_actHere_2 := dk_seg dksX6_actHere_1 22 rfl rfl
theorem dX6_actHere_0 : decode cX6_actHere 0 = .ok (.aload_n 0, 1) := dk_42 (dk_at dksX6_actHere_0 0 rfl rfl)
theorem dX6_actHere_1 : decode cX6_actHere 1 = .ok (.ldc 192, 2) := dk_18 192 (dk_at dksX6_actHere_0 1 rfl rfl)
theorem dX6_actHere_3 : decode cX6_actHere 3 = .ok (.invokevirtual 182, 3) := dk_182 0 182 (dk_at dksX6_actHere_0 3 rfl rfl)
theorem dX6_actHere_6 : decode cX6_actHere 6 = .ok (.ifCond .eq 7, 3) := dk_153 0 7 (dk_at dksX6_actHere_0 6 rfl rfl)
theorem dX6_actHere_9 : decode cX6_actHere 9 = .ok (.iconst 0, 1) := dk_3 (dk_at dksX6_actHere_0 9 rfl rfl)
theorem dX6_actHere_10 : decode cX6_actHere 10 = .ok (.goto 43, 3) := dk_167 0 43 (dk_at dksX6_actHere_0 10 rfl rfl)
theorem dX6_actHere_13 : decode cX6_actHere 13 = .ok (.aload_n 0, 1) := dk_42 (dk_at dksX6_actHere_0 13 rfl rfl)
theorem dX6_actHere_14 : decode cX6_actHere 14 = .ok (.ldc 194, 2) := dk_18 194 (dk_at dksX6_actHere_0 14 rfl rfl)
theorem dX6_actHere_16 : decode cX6_actHere 16 = .ok (.invokevirtual 182, 3) := dk_182 0 182 (dk_at dksX6_actHere_0 16 rfl rfl)
theorem dX6_actHere_19 : decode cX6_actHere 19 = .ok (.ifCond .eq 7, 3) := dk_153 0 7 (dk_at dksX6_actHere_0 19 rfl rfl)
theorem dX6_actHere_22 : decode cX6_actHere 22 = .ok (.iconst 1, 1) := dk_4 (dk_at dksX6_actHere_0 22 rfl rfl)
theorem dX6_actHere_23 : decode cX6_actHere 23 = .ok (.goto 30, 3) := dk_167 0 30 (dk_at dksX6_actHere_1 0 rfl rfl)
theorem dX6_actHere_26 : decode cX6_actHere 26 = .ok (.aload_n 0, 1) := dk_42 (dk_at dksX6_actHere_1 3 rfl rfl)
theorem dX6_actHere_27 : decode cX6_actHere 27 = .ok (.ldc 196, 2) := dk_18 196 (dk_at dksX6_actHere_1 4 rfl rfl)
theorem dX6_actHere_29 : decode cX6_actHere 29 = .ok (.invokevirtual 182, 3) := dk_182 0 182 (dk_at dksX6_actHere_1 6 rfl rfl)
theorem dX6_actHere_32 : decode cX6_actHere 32 = .ok (.ifCond .eq 7, 3) := dk_153 0 7 (dk_at dksX6_actHere_1 9 rfl rfl)
theorem dX6_actHere_35 : decode cX6_actHere 35 = .ok (.iconst 2, 1) := dk_5 (dk_at dksX6_actHere_1 12 rfl rfl)
theorem dX6_actHere_36 : decode cX6_actHere 36 = .ok (.goto 17, 3) := dk_167 0 17 (dk_at dksX6_actHere_1 13 rfl rfl)
theorem dX6_actHere_39 : decode cX6_actHere 39 = .ok (.aload_n 0, 1) := dk_42 (dk_at dksX6_actHere_1 16 rfl rfl)
theorem dX6_actHere_40 : decode cX6_actHere 40 = .ok (.ldc 198, 2) := dk_18 198 (dk_at dksX6_actHere_1 17 rfl rfl)
theorem dX6_actHere_42 : decode cX6_actHere 42 = .ok (.invokevirtual 182, 3) := dk_182 0 182 (dk_at dksX6_actHere_1 19 rfl rfl)
theorem dX6_actHere_45 : decode cX6_actHere 45 = .ok (.ifCond .eq 7, 3) := dk_153 0 7 (dk_at dksX6_actHere_2 0 rfl rfl)
theorem dX6_actHere_48 : decode cX6_actHere 48 = .ok (.iconst 3, 1) := dk_6 (dk_at dksX6_actHere_2 3 rfl rfl)
theorem dX6_actHere_49 : decode cX6_actHere 49 = .ok (.goto 4, 3) := dk_167 0 4 (dk_at dksX6_actHere_2 4 rfl rfl)
theorem dX6_actHere_52 : decode cX6_actHere 52 = .ok (.iconst (-1), 1) := dk_2 (dk_at dksX6_actHere_2 7 rfl rfl)
theorem dX6_actHere_53 : decode cX6_actHere 53 = .ok (.ireturn, 1) := dk_172 (dk_at dksX6_actHere_2 8 rfl rfl)
abbrev cX6_stop : ByteArray := prog_16_method_12_code
def yX6_stop : MethodName := ⟨RX6, "stop", "(I)LSledHouseModel$Stop;"⟩
def dkwX6_stop_0 : List UInt8 := [42, 180, 0, 61, 27, 181, 0, 132, 42, 180, 0, 61, 42, 180, 0, 135, 181, 0, 138, 42, 180, 0, 61, 176]
abbrev dktX6_stop_0 : List UInt8 := dkwX6_stop_0 ++ []
theorem dksX6_stop_0 : cX6_stop.data.toList.drop 0 = dktX6_stop_0 := by decide +kernel
theorem dX6_stop_0 : decode cX6_stop 0 = .ok (.aload_n 0, 1) := dk_42 (dk_at dksX6_stop_0 0 rfl rfl)
theorem dX6_stop_1 : decode cX6_stop 1 = .ok (.getfield 61, 3) := dk_180 0 61 (dk_at dksX6_stop_0 1 rfl rfl)
theorem dX6_stop_4 : decode cX6_stop 4 = .ok (.iload_n 1, 1) := dk_27 (dk_at dksX6_stop_0 4 rfl rfl)
theorem dX6_stop_5 : decode cX6_stop 5 = .ok (.putfield 132, 3) := dk_181 0 132 (dk_at dksX6_stop_0 5 rfl rfl)
theorem dX6_stop_8 : decode cX6_stop 8 = .ok (.aload_n 0, 1) := dk_42 (dk_at dksX6_stop_0 8 rfl rfl)
theorem dX6_stop_9 : decode cX6_stop 9 = .ok (.getfield 61, 3) := dk_180 0 61 (dk_at dksX6_stop_0 9 rfl rfl)
theorem dX6_stop_12 : decode cX6_stop 12 = .ok (.aload_n 0, 1) := dk_42 (dk_at dksX6_stop_0 12 rfl rfl)
theorem dX6_stop_13 : decode cX6_stop 13 = .ok (.getfield 135, 3) := dk_180 0 135 (dk_at dksX6_stop_0 13 rfl rfl)
theorem dX6_stop_16 : decode cX6_stop 16 = .ok (.putfield 138, 3) := dk_181 0 138 (dk_at dksX6_stop_0 16 rfl rfl)
theorem dX6_stop_19 : decode cX6_stop 19 = .ok (.aload_n 0, 1) := dk_42 (dk_at dksX6_stop_0 19 rfl rfl)
theorem dX6_stop_20 : decode cX6_stop 20 = .ok (.getfield 61, 3) := dk_180 0 61 (dk_at dksX6_stop_0 20 rfl rfl)
theorem dX6_stop_23 : decode cX6_stop 23 = .ok (.areturn, 1) := dk_176 (dk_at dksX6_stop_0 23 rfl rfl)
abbrev cX6_readTest : ByteArray := prog_16_method_26_code
def yX6_readTest : MethodName := ⟨RX6, "readTest", "(I)V"⟩
def dkwX6_readTest_6 : List UInt8 := [79, 42, 180, 0, 75, 27, 92, 46, 4, 96, 79, 177]
abbrev dktX6_readTest_6 : List UInt8 := dkwX6_readTest_6 ++ []
def dkwX6_readTest_5 : List UInt8 := [180, 0, 84, 29, 42, 16, 60, 182, 0, 241, 84, 42, 182, 0, 189, 42, 180, 0, 81, 29, 42, 182, 0, 247]
abbrev dktX6_readTest_5 : List UInt8 := dkwX6_readTest_5 ++ dktX6_readTest_6
def dkwX6_readTest_4 : List UInt8 := [16, 60, 182, 0, 241, 154, 0, 18, 42, 16, 62, 182, 0, 241, 154, 0, 9, 42, 4, 182, 0, 186, 191, 42]
abbrev dktX6_readTest_4 : List UInt8 := dkwX6_readTest_4 ++ dktX6_readTest_5
def dkwX6_readTest_3 : List UInt8 := [191, 7, 27, 104, 42, 180, 0, 75, 27, 46, 96, 62, 42, 180, 0, 78, 29, 28, 79, 42, 182, 0, 189, 42]
abbrev dktX6_readTest_3 : List UInt8 := dkwX6_readTest_3 ++ dktX6_readTest_4
def dkwX6_readTest_2 : List UInt8 := [160, 0, 9, 42, 5, 182, 0, 186, 191, 42, 180, 0, 75, 27, 46, 7, 160, 0, 9, 42, 6, 182, 0, 186]
abbrev dktX6_readTest_2 : List UInt8 := dkwX6_readTest_2 ++ dktX6_readTest_3
def dkwX6_readTest_1 : List UInt8 := [154, 0, 11, 42, 182, 0, 232, 2, 159, 0, 9, 42, 4, 182, 0, 186, 191, 42, 182, 0, 244, 61, 28, 2]
abbrev dktX6_readTest_1 : List UInt8 := dkwX6_readTest_1 ++ dktX6_readTest_2
def dkwX6_readTest_0 : List UInt8 := [42, 180, 0, 159, 5, 160, 0, 29, 42, 18, 230, 182, 0, 182, 154, 0, 20, 42, 18, 239, 182, 0, 182]
abbrev dktX6_readTest_0 : List UInt8 := dkwX6_readTest_0 ++ dktX6_readTest_1
theorem dksX6_readTest_0 : cX6_readTest.data.toList.drop 0 = dktX6_readTest_0 := by decide +kernel
theorem dksX6_readTest_1 : cX6_readTest.data.toList.drop 23 = dktX6_readTest_1 := dk_seg dksX6_readTest_0 23 rfl rfl
theorem dksX6_readTest_2 : cX6_readTest.data.toList.drop 47 = dktX6_readTest_2 := dk_seg dksX6_readTest_1 24 rfl rfl
theorem dksX6_readTest_3 : cX6_readTest.data.toList.drop 71 = dktX6_readTest_3 := dk_seg dksX6_readTest_2 24 rfl rfl
theorem dksX6_readTest_4 : cX6_readTest.data.toList.drop 95 = dktX6_readTest_4 := dk_seg dksX6_readTest_3 24 rfl rfl
theorem dksX6_readTest_5 : cX6_readTest.data.toList.drop 119 = dktX6_readTest_5 := dk_seg dksX6_readTest_4 24 rfl rfl
theorem dksX6_readTest_6 : cX6_readTest.data.toList.drop 143 = dktX6_readTest_6 := dk_seg dksX6_readTest_5 24 rfl rfl
theorem dX6_readTest_0 : decode cX6_readTest 0 = .ok (.aload_n 0, 1) := dk_42 (dk_at dksX6_readTest_0 0 rfl rfl)
theorem dX6_readTest_1 : decode cX6_readTest 1 = .ok (.getfield 159, 3) := dk_180 0 159 (dk_at dksX6_readTest_0 1 rfl rfl)
theorem dX6_readTest_4 : decode cX6_readTest 4 = .ok (.iconst 2, 1) := dk_5 (dk_at dksX6_readTest_0 4 rfl rfl)
theorem dX6_readTest_5 : decode cX6_readTest 5 = .ok (.if_icmp .ne 29, 3) := dk_160 0 29 (dk_at dksX6_readTest_0 5 rfl rfl)
theorem dX6_readTest_8 : decode cX6_readTest 8 = .ok (.aload_n 0, 1) := dk_42 (dk_at dksX6_readTest_0 8 rfl rfl)
theorem dX6_readTest_9 : decode cX6_readTest 9 = .ok (.ldc 230, 2) := dk_18 230 (dk_at dksX6_readTest_0 9 rfl rfl)
theorem dX6_readTest_11 : decode cX6_readTest 11 = .ok (.invokevirtual 182, 3) := dk_182 0 182 (dk_at dksX6_readTest_0 11 rfl rfl)
theorem dX6_readTest_14 : decode cX6_readTest 14 = .ok (.ifCond .ne 20, 3) := dk_154 0 20 (dk_at dksX6_readTest_0 14 rfl rfl)
theorem dX6_readTest_17 : decode cX6_readTest 17 = .ok (.aload_n 0, 1) := dk_42 (dk_at dksX6_readTest_0 17 rfl rfl)
theorem dX6_readTest_18 : decode cX6_readTest 18 = .ok (.ldc 239, 2) := dk_18 239 (dk_at dksX6_readTest_0 18 rfl rfl)
theorem dX6_readTest_20 : decode cX6_readTest 20 = .ok (.invokevirtual 182, 3) := dk_182 0 182 (dk_at dksX6_readTest_0 20 rfl rfl)
theorem dX6_readTest_23 : decode cX6_readTest 23 = .ok (.ifCond .ne 11, 3) := dk_154 0 11 (dk_at dksX6_readTest_1 0 rfl rfl)
theorem dX6_readTest_26 : decode cX6_readTest 26 = .ok (.aload_n 0, 1) := dk_42 (dk_at dksX6_readTest_1 3 rfl rfl)
theorem dX6_readTest_27 : decode cX6_readTest 27 = .ok (.invokevirtual 232, 3) := dk_182 0 232 (dk_at dksX6_readTest_1 4 rfl rfl)
theorem dX6_readTest_30 : decode cX6_readTest 30 = .ok (.iconst (-1), 1) := dk_2 (dk_at dksX6_readTest_1 7 rfl rfl)
theorem dX6_readTest_31 : decode cX6_readTest 31 = .ok (.if_icmp .eq 9, 3) := dk_159 0 9 (dk_at dksX6_readTest_1 8 rfl rfl)
theorem dX6_readTest_34 : decode cX6_readTest 34 = .ok (.aload_n 0, 1) := dk_42 (dk_at dksX6_readTest_1 11 rfl rfl)
theorem dX6_readTest_35 : decode cX6_readTest 35 = .ok (.iconst 1, 1) := dk_4 (dk_at dksX6_readTest_1 12 rfl rfl)
theorem dX6_readTest_36 : decode cX6_readTest 36 = .ok (.invokevirtual 186, 3) := dk_182 0 186 (dk_at dksX6_readTest_1 13 rfl rfl)
theorem dX6_readTest_39 : decode cX6_readTest 39 = .ok (.athrow, 1) := dk_191 (dk_at dksX6_readTest_1 16 rfl rfl)
theorem dX6_readTest_40 : decode cX6_readTest 40 = .ok (.aload_n 0, 1) := dk_42 (dk_at dksX6_readTest_1 17 rfl rfl)
theorem dX6_readTest_41 : decode cX6_readTest 41 = .ok (.invokevirtual 244, 3) := dk_182 0 244 (dk_at dksX6_readTest_1 18 rfl rfl)
theorem dX6_readTest_44 : decode cX6_readTest 44 = .ok (.istore_n 2, 1) := dk_61 (dk_at dksX6_readTest_1 21 rfl rfl)
theorem dX6_readTest_45 : decode cX6_readTest 45 = .ok (.iload_n 2, 1) := dk_28 (dk_at dksX6_readTest_1 22 rfl rfl)
theorem dX6_readTest_46 : decode cX6_readTest 46 = .ok (.iconst (-1), 1) := dk_2 (dk_at dksX6_readTest_1 23 rfl rfl)
theorem dX6_readTest_47 : decode cX6_readTest 47 = .ok (.if_icmp .ne 9, 3) := dk_160 0 9 (dk_at dksX6_readTest_2 0 rfl rfl)
theorem dX6_readTest_50 : decode cX6_readTest 50 = .ok (.aload_n 0, 1) := dk_42 (dk_at dksX6_readTest_2 3 rfl rfl)
theorem dX6_readTest_51 : decode cX6_readTest 51 = .ok (.iconst 2, 1) := dk_5 (dk_at dksX6_readTest_2 4 rfl rfl)
theorem dX6_readTest_52 : decode cX6_readTest 52 = .ok (.invokevirtual 186, 3) := dk_182 0 186 (dk_at dksX6_readTest_2 5 rfl rfl)
theorem dX6_readTest_55 : decode cX6_readTest 55 = .ok (.athrow, 1) := dk_191 (dk_at dksX6_readTest_2 8 rfl rfl)
theorem dX6_readTest_56 : decode cX6_readTest 56 = .ok (.aload_n 0, 1) := dk_42 (dk_at dksX6_readTest_2 9 rfl rfl)
theorem dX6_readTest_57 : decode cX6_readTest 57 = .ok (.getfield 75, 3) := dk_180 0 75 (dk_at dksX6_readTest_2 10 rfl rfl)
theorem dX6_readTest_60 : decode cX6_readTest 60 = .ok (.iload_n 1, 1) := dk_27 (dk_at dksX6_readTest_2 13 rfl rfl)
theorem dX6_readTest_61 : decode cX6_readTest 61 = .ok (.iaload, 1) := dk_46 (dk_at dksX6_readTest_2 14 rfl rfl)
theorem dX6_readTest_62 : decode cX6_readTest 62 = .ok (.iconst 4, 1) := dk_7 (dk_at dksX6_readTest_2 15 rfl rfl)
theorem dX6_readTest_63 : decode cX6_readTest 63 = .ok (.if_icmp .ne 9, 3) := dk_160 0 9 (dk_at dksX6_readTest_2 16 rfl rfl)
theorem dX6_readTest_66 : decode cX6_readTest 66 = .ok (.aload_n 0, 1) := dk_42 (dk_at dksX6_readTest_2 19 rfl rfl)
theorem dX6_readTest_67 : decode cX6_readTest 67 = .ok (.iconst 3, 1) := dk_6 (dk_at dksX6_readTest_2 20 rfl rfl)
theorem dX6_readTest_68 : decode cX6_readTest 68 = .ok (.invokevirtual 186, 3) := dk_182 0 186 (dk_at dksX6_readTest_2 21 rfl rfl)
theorem dX6_readTest_71 : decode cX6_readTest 71 = .ok (.athrow, 1) := dk_191 (dk_at dksX6_readTest_3 0 rfl rfl)
theorem dX6_readTest_72 : decode cX6_readTest 72 = .ok (.iconst 4, 1) := dk_7 (dk_at dksX6_readTest_3 1 rfl rfl)
theorem dX6_readTest_73 : decode cX6_readTest 73 = .ok (.iload_n 1, 1) := dk_27 (dk_at dksX6_readTest_3 2 rfl rfl)
theorem dX6_readTest_74 : decode cX6_readTest 74 = .ok (.imul, 1) := dk_104 (dk_at dksX6_readTest_3 3 rfl rfl)
theorem dX6_readTest_75 : decode cX6_readTest 75 = .ok (.aload_n 0, 1) := dk_42 (dk_at dksX6_readTest_3 4 rfl rfl)
theorem dX6_readTest_76 : decode cX6_readTest 76 = .ok (.getfield 75, 3) := dk_180 0 75 (dk_at dksX6_readTest_3 5 rfl rfl)
theorem dX6_readTest_79 : decode cX6_readTest 79 = .ok (.iload_n 1, 1) := dk_27 (dk_at dksX6_readTest_3 8 rfl rfl)
theorem dX6_readTest_80 : decode cX6_readTest 80 = .ok (.iaload, 1) := dk_46 (dk_at dksX6_readTest_3 9 rfl rfl)
theorem dX6_readTest_81 : decode cX6_readTest 81 = .ok (.iadd, 1) := dk_96 (dk_at dksX6_readTest_3 10 rfl rfl)
theorem dX6_readTest_82 : decode cX6_readTest 82 = .ok (.istore_n 3, 1) := dk_62 (dk_at dksX6_readTest_3 11 rfl rfl)
theorem dX6_readTest_83 : decode cX6_readTest 83 = .ok (.aload_n 0, 1) := dk_42 (dk_at dksX6_readTest_3 12 rfl rfl)
theorem dX6_readTest_84 : decode cX6_readTest 84 = .ok (.getfield 78, 3) := dk_180 0 78 (dk_at dksX6_readTest_3 13 rfl rfl)
theorem dX6_readTest_87 : decode cX6_readTest 87 = .ok (.iload_n 3, 1) := dk_29 (dk_at dksX6_readTest_3 16 rfl rfl)
theorem dX6_readTest_88 : decode cX6_readTest 88 = .ok (.iload_n 2, 1) := dk_28 (dk_at dksX6_readTest_3 17 rfl rfl)
theorem dX6_readTest_89 : decode cX6_readTest 89 = .ok (.iastore, 1) := dk_79 (dk_at dksX6_readTest_3 18 rfl rfl)
theorem dX6_readTest_90 : decode cX6_readTest 90 = .ok (.aload_n 0, 1) := dk_42 (dk_at dksX6_readTest_3 19 rfl rfl)
theorem dX6_readTest_91 : decode cX6_readTest 91 = .ok (.invokevirtual 189, 3) := dk_182 0 189 (dk_at dksX6_readTest_3 20 rfl rfl)
theorem dX6_readTest_94 : decode cX6_readTest 94 = .ok (.aload_n 0, 1) := dk_42 (dk_at dksX6_readTest_3 23 rfl rfl)
theorem dX6_readTest_95 : decode cX6_readTest 95 = .ok (.bipush 60, 2) := dk_16 60 (dk_at dksX6_readTest_4 0 rfl rfl)
theorem dX6_readTest_97 : decode cX6_readTest 97 = .ok (.invokevirtual 241, 3) := dk_182 0 241 (dk_at dksX6_readTest_4 2 rfl rfl)
theorem dX6_readTest_100 : decode cX6_readTest 100 = .ok (.ifCond .ne 18, 3) := dk_154 0 18 (dk_at dksX6_readTest_4 5 rfl rfl)
theorem dX6_readTest_103 : decode cX6_readTest 103 = .ok (.aload_n 0, 1) := dk_42 (dk_at dksX6_readTest_4 8 rfl rfl)
theorem dX6_readTest_104 : decode cX6_readTest 104 = .ok (.bipush 62, 2) := dk_16 62 (dk_at dksX6_readTest_4 9 rfl rfl)
theorem dX6_readTest_106 : decode cX6_readTest 106 = .ok (.invokevirtual 241, 3) := dk_182 0 241 (dk_at dksX6_readTest_4 11 rfl rfl)
theorem dX6_readTest_109 : decode cX6_readTest 109 = .ok (.ifCond .ne 9, 3) := dk_154 0 9 (dk_at dksX6_readTest_4 14 rfl rfl)
theorem dX6_readTest_112 : decode cX6_readTest 112 = .ok (.aload_n 0, 1) := dk_42 (dk_at dksX6_readTest_4 17 rfl rfl)
theorem dX6_readTest_113 : decode cX6_readTest 113 = .ok (.iconst 1, 1) := dk_4 (dk_at dksX6_readTest_4 18 rfl rfl)
theorem dX6_readTest_114 : decode cX6_readTest 114 = .ok (.invokevirtual 186, 3) := dk_182 0 186 (dk_at dksX6_readTest_4 19 rfl rfl)
theorem dX6_readTest_117 : decode cX6_readTest 117 = .ok (.athrow, 1) := dk_191 (dk_at dksX6_readTest_4 22 rfl rfl)
theorem dX6_readTest_118 : decode cX6_readTest 118 = .ok (.aload_n 0, 1) := dk_42 (dk_at dksX6_readTest_4 23 rfl rfl)
theorem dX6_readTest_119 : decode cX6_readTest 119 = .ok (.getfield 84, 3) := dk_180 0 84 (dk_at dksX6_readTest_5 0 rfl rfl)
theorem dX6_readTest_122 : decode cX6_readTest 122 = .ok (.iload_n 3, 1) := dk_29 (dk_at dksX6_readTest_5 3 rfl rfl)
theorem dX6_readTest_123 : decode cX6_readTest 123 = .ok (.aload_n 0, 1) := dk_42 (dk_at dksX6_readTest_5 4 rfl rfl)
theorem dX6_readTest_124 : decode cX6_readTest 124 = .ok (.bipush 60, 2) := dk_16 60 (dk_at dksX6_readTest_5 5 rfl rfl)
theorem dX6_readTest_126 : decode cX6_readTest 126 = .ok (.invokevirtual 241, 3) := dk_182 0 241 (dk_at dksX6_readTest_5 7 rfl rfl)
theorem dX6_readTest_129 : decode cX6_readTest 129 = .ok (.bastore, 1) := dk_84 (dk_at dksX6_readTest_5 10 rfl rfl)
theorem dX6_readTest_130 : decode cX6_readTest 130 = .ok (.aload_n 0, 1) := dk_42 (dk_at dksX6_readTest_5 11 rfl rfl)
theorem dX6_readTest_131 : decode cX6_readTest 131 = .ok (.invokevirtual 189, 3) := dk_182 0 189 (dk_at dksX6_readTest_5 12 rfl rfl)
theorem dX6_readTest_134 : decode cX6_readTest 134 = .ok (.aload_n 0, 1) := dk_42 (dk_at dksX6_readTest_5 15 rfl rfl)
theorem dX6_readTest_135 : decode cX6_readTest 135 = .ok (.getfield 81, 3) := dk_180 0 81 (dk_at dksX6_readTest_5 16 rfl rfl)
theorem dX6_readTest_138 : decode cX6_readTest 138 = .ok (.iload_n 3, 1) := dk_29 (dk_at dksX6_readTest_5 19 rfl rfl)
theorem dX6_readTest_139 : decode cX6_readTest 139 = .ok (.aload_n 0, 1) := dk_42 (dk_at dksX6_readTest_5 20 rfl rfl)
theorem dX6_readTest_140 : decode cX6_readTest 140 = .ok (.invokevirtual 247, 3) := dk_182 0 247 (dk_at dksX6_readTest_5 21 rfl rfl)
theorem dX6_readTest_143 : decode cX6_readTest 143 = .ok (.iastore, 1) := dk_79 (dk_at dksX6_readTest_6 0 rfl rfl)
theorem dX6_readTest_144 : decode cX6_readTest 144 = .ok (.aload_n 0, 1) := dk_42 (dk_at dksX6_readTest_6 1 rfl rfl)
theorem dX6_readTest_145 : decode cX6_readTest 145 = .ok (.getfield 75, 3) := dk_180 0 75 (dk_at dksX6_readTest_6 2 rfl rfl)
theorem dX6_readTest_148 : decode cX6_readTest 148 = .ok (.iload_n 1, 1) := dk_27 (dk_at dksX6_readTest_6 5 rfl rfl)
theorem dX6_readTest_149 : decode cX6_readTest 149 = .ok (.dup2, 1) := dk_92 (dk_at dksX6_readTest_6 6 rfl rfl)
theorem dX6_readTest_150 : decode cX6_readTest 150 = .ok (.iaload, 1) := dk_46 (dk_at dksX6_readTest_6 7 rfl rfl)
theorem dX6_readTest_151 : decode cX6_readTest 151 = .ok (.iconst 1, 1) := dk_4 (dk_at dksX6_readTest_6 8 rfl rfl)
theorem dX6_readTest_152 : decode cX6_readTest 152 = .ok (.iadd, 1) := dk_96 (dk_at dksX6_readTest_6 9 rfl rfl)
theorem dX6_readTest_153 : decode cX6_readTest 153 = .ok (.iastore, 1) := dk_79 (dk_at dksX6_readTest_6 10 rfl rfl)
theorem dX6_readTest_154 : decode cX6_readTest 154 = .ok (.return_, 1) := dk_177 (dk_at dksX6_readTest_6 11 rfl rfl)
abbrev cX6_nameHere : ByteArray := prog_16_method_23_code
def yX6_nameHere : MethodName := ⟨RX6, "nameHere", "()I"⟩
def dkwX6_nameHere_6 : List UInt8 := [167, 0, 18, 42, 18, 219, 182, 0, 182, 153, 0, 8, 16, 10, 167, 0, 4, 2, 172]
abbrev dktX6_nameHere_6 : List UInt8 := dkwX6_nameHere_6 ++ []
def dkwX6_nameHere_5 : List UInt8 := [18, 215, 182, 0, 182, 153, 0, 8, 16, 8, 167, 0, 32, 42, 18, 217, 182, 0, 182, 153, 0, 8, 16, 9]
abbrev dktX6_nameHere_5 : List UInt8 := dkwX6_nameHere_5 ++ dktX6_nameHere_6
def dkwX6_nameHere_4 : List UInt8 := [153, 0, 8, 16, 6, 167, 0, 60, 42, 18, 213, 182, 0, 182, 153, 0, 8, 16, 7, 167, 0, 46, 42]
abbrev dktX6_nameHere_4 : List UInt8 := dkwX6_nameHere_4 ++ dktX6_nameHere_5
def dkwX6_nameHere_3 : List UInt8 := [159, 0, 5, 27, 172, 42, 18, 209, 182, 0, 182, 153, 0, 7, 8, 167, 0, 74, 42, 18, 211, 182, 0, 182]
abbrev dktX6_nameHere_3 : List UInt8 := dkwX6_nameHere_3 ++ dktX6_nameHere_4
def dkwX6_nameHere_2 : List UInt8 := [153, 0, 7, 6, 167, 0, 17, 42, 18, 208, 182, 0, 182, 153, 0, 7, 7, 167, 0, 4, 2, 60, 27, 2]
abbrev dktX6_nameHere_2 : List UInt8 := dkwX6_nameHere_2 ++ dktX6_nameHere_3
def dkwX6_nameHere_1 : List UInt8 := [167, 0, 43, 42, 18, 204, 182, 0, 182, 153, 0, 7, 5, 167, 0, 30, 42, 18, 206, 182, 0, 182]
abbrev dktX6_nameHere_1 : List UInt8 := dkwX6_nameHere_1 ++ dktX6_nameHere_2
def dkwX6_nameHere_0 : List UInt8 := [42, 18, 200, 182, 0, 182, 153, 0, 7, 3, 167, 0, 56, 42, 18, 202, 182, 0, 182, 153, 0, 7, 4]
abbrev dktX6_nameHere_0 : List UInt8 := dkwX6_nameHere_0 ++ dktX6_nameHere_1
theorem dksX6_nameHere_0 : cX6_nameHere.data.toList.drop 0 = dktX6_nameHere_0 := by decide +kernel
theorem dksX6_nameHere_1 : cX6_nameHere.data.toList.drop 23 = dktX6_nameHere_1 := dk_seg dksX6_nameHere_0 23 rfl rfl
theorem dksX6_nameHere_2 : cX6_nameHere.data.toList.drop 45 = dktX6_nameHere_2 := dk_seg dksX6_nameHere_1 22 rfl rfl
theorem dksX6_nameHere_3 : cX6_nameHere.data.toList.drop 69 = dktX6_nameHere_3 := dk_seg dksX6_nameHere_2 24 rfl rfl
theorem dksX6_nameHere_4 : cX6_nameHere.data.toList.drop 93 = dktX6_nameHere_4 := dk_seg dksX6_nameHere_3 24 rfl rfl
theorem dksX6_nameHere_5 : cX6_nameHere.data.toList.drop 116 = dktX6_nameHere_5 := dk_seg dksX6_nameHere_4 23 rfl rfl
theorem dksX6_nameHere_6 : cX6_nameHere.data.toList.drop 140 = dktX6_nameHere_6 := dk_seg dksX6_nameHere_5 24 rfl rfl
theorem dX6_nameHere_0 : decode cX6_nameHere 0 = .ok (.aload_n 0, 1) := dk_42 (dk_at dksX6_nameHere_0 0 rfl rfl)
theorem dX6_nameHere_1 : decode cX6_nameHere 1 = .ok (.ldc 200, 2) := dk_18 200 (dk_at dksX6_nameHere_0 1 rfl rfl)
theorem dX6_nameHere_3 : decode cX6_nameHere 3 = .ok (.invokevirtual 182, 3) := dk_182 0 182 (dk_at dksX6_nameHere_0 3 rfl rfl)
theorem dX6_nameHere_6 : decode cX6_nameHere 6 = .ok (.ifCond .eq 7, 3) := dk_153 0 7 (dk_at dksX6_nameHere_0 6 rfl rfl)
theorem dX6_nameHere_9 : decode cX6_nameHere 9 = .ok (.iconst 0, 1) := dk_3 (dk_at dksX6_nameHere_0 9 rfl rfl)
theorem dX6_nameHere_10 : decode cX6_nameHere 10 = .ok (.goto 56, 3) := dk_167 0 56 (dk_at dksX6_nameHere_0 10 rfl rfl)
theorem dX6_nameHere_13 : decode cX6_nameHere 13 = .ok (.aload_n 0, 1) := dk_42 (dk_at dksX6_nameHere_0 13 rfl rfl)
theorem dX6_nameHere_14 : decode cX6_nameHere 14 = .ok (.ldc 202, 2) := dk_18 202 (dk_at dksX6_nameHere_0 14 rfl rfl)
theorem dX6_nameHere_16 : decode cX6_nameHere 16 = .ok (.invokevirtual 182, 3) := dk_182 0 182 (dk_at dksX6_nameHere_0 16 rfl rfl)
theorem dX6_nameHere_19 : decode cX6_nameHere 19 = .ok (.ifCond .eq 7, 3) := dk_153 0 7 (dk_at dksX6_nameHere_0 19 rfl rfl)
theorem dX6_nameHere_22 : decode cX6_nameHere 22 = .ok (.iconst 1, 1) := dk_4 (dk_at dksX6_nameHere_0 22 rfl rfl)
theorem dX6_nameHere_23 : decode cX6_nameHere 23 = .ok (.goto 43, 3) := dk_167 0 43 (dk_at dksX6_nameHere_1 0 rfl rfl)
theorem dX6_nameHere_26 : decode cX6_nameHere 26 = .ok (.aload_n 0, 1) := dk_42 (dk_at dksX6_nameHere_1 3 rfl rfl)
theorem dX6_nameHere_27 : decode cX6_nameHere 27 = .ok (.ldc 204, 2) := dk_18 204 (dk_at dksX6_nameHere_1 4 rfl rfl)
theorem dX6_nameHere_29 : decode cX6_nameHere 29 = .ok (.invokevirtual 182, 3) := dk_182 0 182 (dk_at dksX6_nameHere_1 6 rfl rfl)
theorem dX6_nameHere_32 : decode cX6_nameHere 32 = .ok (.ifCond .eq 7, 3) := dk_153 0 7 (dk_at dksX6_nameHere_1 9 rfl rfl)
theorem dX6_nameHere_35 : decode cX6_nameHere 35 = .ok (.iconst 2, 1) := dk_5 (dk_at dksX6_nameHere_1 12 rfl rfl)
theorem dX6_nameHere_36 : decode cX6_nameHere 36 = .ok (.goto 30, 3) := dk_167 0 30 (dk_at dksX6_nameHere_1 13 rfl rfl)
theorem dX6_nameHere_39 : decode cX6_nameHere 39 = .ok (.aload_n 0, 1) := dk_42 (dk_at dksX6_nameHere_1 16 rfl rfl)
theorem dX6_nameHere_40 : decode cX6_nameHere 40 = .ok (.ldc 206, 2) := dk_18 206 (dk_at dksX6_nameHere_1 17 rfl rfl)
theorem dX6_nameHere_42 : decode cX6_nameHere 42 = .ok (.invokevirtual 182, 3) := dk_182 0 182 (dk_at dksX6_nameHere_1 19 rfl rfl)
theorem dX6_nameHere_45 : decode cX6_nameHere 45 = .ok (.ifCond .eq 7, 3) := dk_153 0 7 (dk_at dksX6_nameHere_2 0 rfl rfl)
theorem dX6_nameHere_48 : decode cX6_nameHere 48 = .ok (.iconst 3, 1) := dk_6 (dk_at dksX6_nameHere_2 3 rfl rfl)
theorem dX6_nameHere_49 : decode cX6_nameHere 49 = .ok (.goto 17, 3) := dk_167 0 17 (dk_at dksX6_nameHere_2 4 rfl rfl)
theorem dX6_nameHere_52 : decode cX6_nameHere 52 = .ok (.aload_n 0, 1) := dk_42 (dk_at dksX6_nameHere_2 7 rfl rfl)
theorem dX6_nameHere_53 : decode cX6_nameHere 53 = .ok (.ldc 208, 2) := dk_18 208 (dk_at dksX6_nameHere_2 8 rfl rfl)
theorem dX6_nameHere_55 : decode cX6_nameHere 55 = .ok (.invokevirtual 182, 3) := dk_182 0 182 (dk_at dksX6_nameHere_2 10 rfl rfl)
theorem dX6_nameHere_58 : decode cX6_nameHere 58 = .ok (.ifCond .eq 7, 3) := dk_153 0 7 (dk_at dksX6_nameHere_2 13 rfl rfl)
theorem dX6_nameHere_61 : decode cX6_nameHere 61 = .ok (.iconst 4, 1) := dk_7 (dk_at dksX6_nameHere_2 16 rfl rfl)
theorem dX6_nameHere_62 : decode cX6_nameHere 62 = .ok (.goto 4, 3) := dk_167 0 4 (dk_at dksX6_nameHere_2 17 rfl rfl)
theorem dX6_nameHere_65 : decode cX6_nameHere 65 = .ok (.iconst (-1), 1) := dk_2 (dk_at dksX6_nameHere_2 20 rfl rfl)
theorem dX6_nameHere_66 : decode cX6_nameHere 66 = .ok (.istore_n 1, 1) := dk_60 (dk_at dksX6_nameHere_2 21 rfl rfl)
theorem dX6_nameHere_67 : decode cX6_nameHere 67 = .ok (.iload_n 1, 1) := dk_27 (dk_at dksX6_nameHere_2 22 rfl rfl)
theorem dX6_nameHere_68 : decode cX6_nameHere 68 = .ok (.iconst (-1), 1) := dk_2 (dk_at dksX6_nameHere_2 23 rfl rfl)
theorem dX6_nameHere_69 : decode cX6_nameHere 69 = .ok (.if_icmp .eq 5, 3) := dk_159 0 5 (dk_at dksX6_nameHere_3 0 rfl rfl)
theorem dX6_nameHere_72 : decode cX6_nameHere 72 = .ok (.iload_n 1, 1) := dk_27 (dk_at dksX6_nameHere_3 3 rfl rfl)
theorem dX6_nameHere_73 : decode cX6_nameHere 73 = .ok (.ireturn, 1) := dk_172 (dk_at dksX6_nameHere_3 4 rfl rfl)
theorem dX6_nameHere_74 : decode cX6_nameHere 74 = .ok (.aload_n 0, 1) := dk_42 (dk_at dksX6_nameHere_3 5 rfl rfl)
theorem dX6_nameHere_75 : decode cX6_nameHere 75 = .ok (.ldc 209, 2) := dk_18 209 (dk_at dksX6_nameHere_3 6 rfl rfl)
theorem dX6_nameHere_77 : decode cX6_nameHere 77 = .ok (.invokevirtual 182, 3) := dk_182 0 182 (dk_at dksX6_nameHere_3 8 rfl rfl)
theorem dX6_nameHere_80 : decode cX6_nameHere 80 = .ok (.ifCond .eq 7, 3) := dk_153 0 7 (dk_at dksX6_nameHere_3 11 rfl rfl)
theorem dX6_nameHere_83 : decode cX6_nameHere 83 = .ok (.iconst 5, 1) := dk_8 (dk_at dksX6_nameHere_3 14 rfl rfl)
theorem dX6_nameHere_84 : decode cX6_nameHere 84 = .ok (.goto 74, 3) := dk_167 0 74 (dk_at dksX6_nameHere_3 15 rfl rfl)
theorem dX6_nameHere_87 : decode cX6_nameHere 87 = .ok (.aload_n 0, 1) := dk_42 (dk_at dksX6_nameHere_3 18 rfl rfl)
theorem dX6_nameHere_88 : decode cX6_nameHere 88 = .ok (.ldc 211, 2) := dk_18 211 (dk_at dksX6_nameHere_3 19 rfl rfl)
theorem dX6_nameHere_90 : decode cX6_nameHere 90 = .ok (.invokevirtual 182, 3) := dk_182 0 182 (dk_at dksX6_nameHere_3 21 rfl rfl)
theorem dX6_nameHere_93 : decode cX6_nameHere 93 = .ok (.ifCond .eq 8, 3) := dk_153 0 8 (dk_at dksX6_nameHere_4 0 rfl rfl)
theorem dX6_nameHere_96 : decode cX6_nameHere 96 = .ok (.bipush 6, 2) := dk_16 6 (dk_at dksX6_nameHere_4 3 rfl rfl)
theorem dX6_nameHere_98 : decode cX6_nameHere 98 = .ok (.goto 60, 3) := dk_167 0 60 (dk_at dksX6_nameHere_4 5 rfl rfl)
theorem dX6_nameHere_101 : decode cX6_nameHere 101 = .ok (.aload_n 0, 1) := dk_42 (dk_at dksX6_nameHere_4 8 rfl rfl)
theorem dX6_nameHere_102 : decode cX6_nameHere 102 = .ok (.ldc 213, 2) := dk_18 213 (dk_at dksX6_nameHere_4 9 rfl rfl)
theorem dX6_nameHere_104 : decode cX6_nameHere 104 = .ok (.invokevirtual 182, 3) := dk_182 0 182 (dk_at dksX6_nameHere_4 11 rfl rfl)
theorem dX6_nameHere_107 : decode cX6_nameHere 107 = .ok (.ifCond .eq 8, 3) := dk_153 0 8 (dk_at dksX6_nameHere_4 14 rfl rfl)
theorem dX6_nameHere_110 : decode cX6_nameHere 110 = .ok (.bipush 7, 2) := dk_16 7 (dk_at dksX6_nameHere_4 17 rfl rfl)
theorem dX6_nameHere_112 : decode cX6_nameHere 112 = .ok (.goto 46, 3) := dk_167 0 46 (dk_at dksX6_nameHere_4 19 rfl rfl)
theorem dX6_nameHere_115 : decode cX6_nameHere 115 = .ok (.aload_n 0, 1) := dk_42 (dk_at dksX6_nameHere_4 22 rfl rfl)
theorem dX6_nameHere_116 : decode cX6_nameHere 116 = .ok (.ldc 215, 2) := dk_18 215 (dk_at dksX6_nameHere_5 0 rfl rfl)
theorem dX6_nameHere_118 : decode cX6_nameHere 118 = .ok (.invokevirtual 182, 3) := dk_182 0 182 (dk_at dksX6_nameHere_5 2 rfl rfl)
theorem dX6_nameHere_121 : decode cX6_nameHere 121 = .ok (.ifCond .eq 8, 3) := dk_153 0 8 (dk_at dksX6_nameHere_5 5 rfl rfl)
theorem dX6_nameHere_124 : decode cX6_nameHere 124 = .ok (.bipush 8, 2) := dk_16 8 (dk_at dksX6_nameHere_5 8 rfl rfl)
theorem dX6_nameHere_126 : decode cX6_nameHere 126 = .ok (.goto 32, 3) := dk_167 0 32 (dk_at dksX6_nameHere_5 10 rfl rfl)
theorem dX6_nameHere_129 : decode cX6_nameHere 129 = .ok (.aload_n 0, 1) := dk_42 (dk_at dksX6_nameHere_5 13 rfl rfl)
theorem dX6_nameHere_130 : decode cX6_nameHere 130 = .ok (.ldc 217, 2) := dk_18 217 (dk_at dksX6_nameHere_5 14 rfl rfl)
theorem dX6_nameHere_132 : decode cX6_nameHere 132 = .ok (.invokevirtual 182, 3) := dk_182 0 182 (dk_at dksX6_nameHere_5 16 rfl rfl)
theorem dX6_nameHere_135 : decode cX6_nameHere 135 = .ok (.ifCond .eq 8, 3) := dk_153 0 8 (dk_at dksX6_nameHere_5 19 rfl rfl)
theorem dX6_nameHere_138 : decode cX6_nameHere 138 = .ok (.bipush 9, 2) := dk_16 9 (dk_at dksX6_nameHere_5 22 rfl rfl)
theorem dX6_nameHere_140 : decode cX6_nameHere 140 = .ok (.goto 18, 3) := dk_167 0 18 (dk_at dksX6_nameHere_6 0 rfl rfl)
theorem dX6_nameHere_143 : decode cX6_nameHere 143 = .ok (.aload_n 0, 1) := dk_42 (dk_at dksX6_nameHere_6 3 rfl rfl)
theorem dX6_nameHere_144 : decode cX6_nameHere 144 = .ok (.ldc 219, 2) := dk_18 219 (dk_at dksX6_nameHere_6 4 rfl rfl)
theorem dX6_nameHere_146 : decode cX6_nameHere 146 = .ok (.invokevirtual 182, 3) := dk_182 0 182 (dk_at dksX6_nameHere_6 6 rfl rfl)
theorem dX6_nameHere_149 : decode cX6_nameHere 149 = .ok (.ifCond .eq 8, 3) := dk_153 0 8 (dk_at dksX6_nameHere_6 9 rfl rfl)
theorem dX6_nameHere_152 : decode cX6_nameHere 152 = .ok (.bipush 10, 2) := dk_16 10 (dk_at dksX6_nameHere_6 12 rfl rfl)
theorem dX6_nameHere_154 : decode cX6_nameHere 154 = .ok (.goto 4, 3) := dk_167 0 4 (dk_at dksX6_nameHere_6 14 rfl rfl)
theorem dX6_nameHere_157 : decode cX6_nameHere 157 = .ok (.iconst (-1), 1) := dk_2 (dk_at dksX6_nameHere_6 17 rfl rfl)
theorem dX6_nameHere_158 : decode cX6_nameHere 158 = .ok (.ireturn, 1) := dk_172 (dk_at dksX6_nameHere_6 18 rfl rfl)
abbrev cX6_is : ByteArray := prog_16_method_19_code
def yX6_is : MethodName := ⟨RX6, "is", "(I)Z"⟩
def dkwX6_is_0 : List UInt8 := [42, 180, 0, 159, 7, 160, 0, 15, 42, 180, 0, 162, 27, 160, 0, 7, 4, 167, 0, 4, 3, 172]
abbrev dktX6_is_0 : List UInt8 := dkwX6_is_0 ++ []
theorem dksX6_is_0 : cX6_is.data.toList.drop 0 = dktX6_is_0 := by decide +kernel
theorem dX6_is_0 : decode cX6_is 0 = .ok (.aload_n 0, 1) := dk_42 (dk_at dksX6_is_0 0 rfl rfl)
theorem dX6_is_1 : decode cX6_is 1 = .ok (.getfield 159, 3) := dk_180 0 159 (dk_at dksX6_is_0 1 rfl rfl)
theorem dX6_is_4 : decode cX6_is 4 = .ok (.iconst 4, 1) := dk_7 (dk_at dksX6_is_0 4 rfl rfl)
theorem dX6_is_5 : decode cX6_is 5 = .ok (.if_icmp .ne 15, 3) := dk_160 0 15 (dk_at dksX6_is_0 5 rfl rfl)
theorem dX6_is_8 : decode cX6_is 8 = .ok (.aload_n 0, 1) := dk_42 (dk_at dksX6_is_0 8 rfl rfl)
theorem dX6_is_9 : decode cX6_is 9 = .ok (.getfield 162, 3) := dk_180 0 162 (dk_at dksX6_is_0 9 rfl rfl)
theorem dX6_is_12 : decode cX6_is 12 = .ok (.iload_n 1, 1) := dk_27 (dk_at dksX6_is_0 12 rfl rfl)
theorem dX6_is_13 : decode cX6_is 13 = .ok (.if_icmp .ne 7, 3) := dk_160 0 7 (dk_at dksX6_is_0 13 rfl rfl)
theorem dX6_is_16 : decode cX6_is 16 = .ok (.iconst 1, 1) := dk_4 (dk_at dksX6_is_0 16 rfl rfl)
theorem dX6_is_17 : decode cX6_is 17 = .ok (.goto 4, 3) := dk_167 0 4 (dk_at dksX6_is_0 17 rfl rfl)
theorem dX6_is_20 : decode cX6_is 20 = .ok (.iconst 0, 1) := dk_3 (dk_at dksX6_is_0 20 rfl rfl)
theorem dX6_is_21 : decode cX6_is 21 = .ok (.ireturn, 1) := dk_172 (dk_at dksX6_is_0 21 rfl rfl)
abbrev cX6_needNumber : ByteArray := prog_16_method_21_code
def yX6_needNumber : MethodName := ⟨RX6, "needNumber", "()I"⟩
def dkwX6_needNumber_1 : List UInt8 := [172]
abbrev dktX6_needNumber_1 : List UInt8 := dkwX6_needNumber_1 ++ []
def dkwX6_needNumber_0 : List UInt8 := [42, 180, 0, 159, 6, 159, 0, 9, 42, 4, 182, 0, 186, 191, 42, 180, 0, 175, 60, 42, 182, 0, 189, 27]
abbrev dktX6_needNumber_0 : List UInt8 := dkwX6_needNumber_0 ++ dktX6_needNumber_1
theorem dksX6_needNumber_0 : cX6_needNumber.data.toList.drop 0 = dktX6_needNumber_0 := by decide +kernel
theorem dksX6_needNumber_1 : cX6_needNumber.data.toList.drop 24 = dktX6_needNumber_1 := dk_seg dksX6_needNumber_0 24 rfl rfl
theorem dX6_needNumber_0 : decode cX6_needNumber 0 = .ok (.aload_n 0, 1) := dk_42 (dk_at dksX6_needNumber_0 0 rfl rfl)
theorem dX6_needNumber_1 : decode cX6_needNumber 1 = .ok (.getfield 159, 3) := dk_180 0 159 (dk_at dksX6_needNumber_0 1 rfl rfl)
theorem dX6_needNumber_4 : decode cX6_needNumber 4 = .ok (.iconst 3, 1) := dk_6 (dk_at dksX6_needNumber_0 4 rfl rfl)
theorem dX6_needNumber_5 : decode cX6_needNumber 5 = .ok (.if_icmp .eq 9, 3) := dk_159 0 9 (dk_at dksX6_needNumber_0 5 rfl rfl)
theorem dX6_needNumber_8 : decode cX6_needNumber 8 = .ok (.aload_n 0, 1) := dk_42 (dk_at dksX6_needNumber_0 8 rfl rfl)
theorem dX6_needNumber_9 : decode cX6_needNumber 9 = .ok (.iconst 1, 1) := dk_4 (dk_at dksX6_needNumber_0 9 rfl rfl)
theorem dX6_needNumber_10 : decode cX6_needNumber 10 = .ok (.invokevirtual 186, 3) := dk_182 0 186 (dk_at dksX6_needNumber_0 10 rfl rfl)
theorem dX6_needNumber_13 : decode cX6_needNumber 13 = .ok (.athrow, 1) := dk_191 (dk_at dksX6_needNumber_0 13 rfl rfl)
theorem dX6_needNumber_14 : decode cX6_needNumber 14 = .ok (.aload_n 0, 1) := dk_42 (dk_at dksX6_needNumber_0 14 rfl rfl)
theorem dX6_needNumber_15 : decode cX6_needNumber 15 = .ok (.getfield 175, 3) := dk_180 0 175 (dk_at dksX6_needNumber_0 15 rfl rfl)
theorem dX6_needNumber_18 : decode cX6_needNumber 18 = .ok (.istore_n 1, 1) := dk_60 (dk_at dksX6_needNumber_0 18 rfl rfl)
theorem dX6_needNumber_19 : decode cX6_needNumber 19 = .ok (.aload_n 0, 1) := dk_42 (dk_at dksX6_needNumber_0 19 rfl rfl)
theorem dX6_needNumber_20 : decode cX6_needNumber 20 = .ok (.invokevirtual 189, 3) := dk_182 0 189 (dk_at dksX6_needNumber_0 20 rfl rfl)
theorem dX6_needNumber_23 : decode cX6_needNumber 23 = .ok (.iload_n 1, 1) := dk_27 (dk_at dksX6_needNumber_0 23 rfl rfl)
theorem dX6_needNumber_24 : decode cX6_needNumber 24 = .ok (.ireturn, 1) := dk_172 (dk_at dksX6_needNumber_1 0 rfl rfl)
abbrev cX6_wrong : ByteArray := prog_16_method_29_code
def yX6_wrong : MethodName := ⟨RX6, "wrong", "(LSledHouseModel$Stop;)I"⟩
def dkwX6_wrong_0 : List UInt8 := [42, 43, 180, 0, 132, 181, 0, 224, 42, 7, 181, 0, 7, 42, 43, 180, 0, 138, 181, 0, 10, 2, 172]
abbrev dktX6_wrong_0 : List UInt8 := dkwX6_wrong_0 ++ []
theorem dksX6_wrong_0 : cX6_wrong.data.toList.drop 0 = dktX6_wrong_0 := by decide +kernel
theorem dX6_wrong_0 : decode cX6_wrong 0 = .ok (.aload_n 0, 1) := dk_42 (dk_at dksX6_wrong_0 0 rfl rfl)
theorem dX6_wrong_1 : decode cX6_wrong 1 = .ok (.aload_n 1, 1) := dk_43 (dk_at dksX6_wrong_0 1 rfl rfl)
theorem dX6_wrong_2 : decode cX6_wrong 2 = .ok (.getfield 132, 3) := dk_180 0 132 (dk_at dksX6_wrong_0 2 rfl rfl)
theorem dX6_wrong_5 : decode cX6_wrong 5 = .ok (.putfield 224, 3) := dk_181 0 224 (dk_at dksX6_wrong_0 5 rfl rfl)
theorem dX6_wrong_8 : decode cX6_wrong 8 = .ok (.aload_n 0, 1) := dk_42 (dk_at dksX6_wrong_0 8 rfl rfl)
theorem dX6_wrong_9 : decode cX6_wrong 9 = .ok (.iconst 4, 1) := dk_7 (dk_at dksX6_wrong_0 9 rfl rfl)
theorem dX6_wrong_10 : decode cX6_wrong 10 = .ok (.putfield 7, 3) := dk_181 0 7 (dk_at dksX6_wrong_0 10 rfl rfl)
theorem dX6_wrong_13 : decode cX6_wrong 13 = .ok (.aload_n 0, 1) := dk_42 (dk_at dksX6_wrong_0 13 rfl rfl)
theorem dX6_wrong_14 : decode cX6_wrong 14 = .ok (.aload_n 1, 1) := dk_43 (dk_at dksX6_wrong_0 14 rfl rfl)
theorem dX6_wrong_15 : decode cX6_wrong 15 = .ok (.getfield 138, 3) := dk_180 0 138 (dk_at dksX6_wrong_0 15 rfl rfl)
theorem dX6_wrong_18 : decode cX6_wrong 18 = .ok (.putfield 10, 3) := dk_181 0 10 (dk_at dksX6_wrong_0 18 rfl rfl)
theorem dX6_wrong_21 : decode cX6_wrong 21 = .ok (.iconst (-1), 1) := dk_2 (dk_at dksX6_wrong_0 21 rfl rfl)
theorem dX6_wrong_22 : decode cX6_wrong 22 = .ok (.ireturn, 1) := dk_172 (dk_at dksX6_wrong_0 22 rfl rfl)
abbrev cX6_laws : ByteArray := prog_16_method_31_code
def yX6_laws : MethodName := ⟨RX6, "laws", "(I)I"⟩
def dkwX6_laws_2 : List UInt8 := [42, 42, 180, 0, 250, 182, 0, 129, 172]
abbrev dktX6_laws_2 : List UInt8 := dkwX6_laws_2 ++ []
def dkwX6_laws_1 : List UInt8 := [27, 182, 1, 10, 42, 182, 1, 20, 61, 167, 0, 10, 78, 42, 45, 182, 1, 16, 172, 42, 28, 181, 0, 250]
abbrev dktX6_laws_1 : List UInt8 := dkwX6_laws_1 ++ dktX6_laws_2
def dkwX6_laws_0 : List UInt8 := [42, 3, 181, 0, 1, 27, 155, 0, 11, 27, 42, 180, 0, 221, 164, 0, 9, 42, 5, 182, 0, 121, 172, 42]
abbrev dktX6_laws_0 : List UInt8 := dkwX6_laws_0 ++ dktX6_laws_1
theorem dksX6_laws_0 : cX6_laws.data.toList.drop 0 = dktX6_laws_0 := by decide +kernel
theorem dksX6_laws_1 : cX6_laws.data.toList.drop 24 = dktX6_laws_1 := dk_seg dksX6_laws_0 24 rfl rfl
theorem dksX6_laws_2 : cX6_laws.data.toList.drop 48 = dktX6_laws_2 := dk_seg dksX6_laws_1 24 rfl rfl
theorem dX6_laws_0 : decode cX6_laws 0 = .ok (.aload_n 0, 1) := dk_42 (dk_at dksX6_laws_0 0 rfl rfl)
theorem dX6_laws_1 : decode cX6_laws 1 = .ok (.iconst 0, 1) := dk_3 (dk_at dksX6_laws_0 1 rfl rfl)
theorem dX6_laws_2 : decode cX6_laws 2 = .ok (.putfield 1, 3) := dk_181 0 1 (dk_at dksX6_laws_0 2 rfl rfl)
theorem dX6_laws_5 : decode cX6_laws 5 = .ok (.iload_n 1, 1) := dk_27 (dk_at dksX6_laws_0 5 rfl rfl)
theorem dX6_laws_6 : decode cX6_laws 6 = .ok (.ifCond .lt 11, 3) := dk_155 0 11 (dk_at dksX6_laws_0 6 rfl rfl)
theorem dX6_laws_9 : decode cX6_laws 9 = .ok (.iload_n 1, 1) := dk_27 (dk_at dksX6_laws_0 9 rfl rfl)
theorem dX6_laws_10 : decode cX6_laws 10 = .ok (.aload_n 0, 1) := dk_42 (dk_at dksX6_laws_0 10 rfl rfl)
theorem dX6_laws_11 : decode cX6_laws 11 = .ok (.getfield 221, 3) := dk_180 0 221 (dk_at dksX6_laws_0 11 rfl rfl)
theorem dX6_laws_14 : decode cX6_laws 14 = .ok (.if_icmp .le 9, 3) := dk_164 0 9 (dk_at dksX6_laws_0 14 rfl rfl)
theorem dX6_laws_17 : decode cX6_laws 17 = .ok (.aload_n 0, 1) := dk_42 (dk_at dksX6_laws_0 17 rfl rfl)
theorem dX6_laws_18 : decode cX6_laws 18 = .ok (.iconst 2, 1) := dk_5 (dk_at dksX6_laws_0 18 rfl rfl)
theorem dX6_laws_19 : decode cX6_laws 19 = .ok (.invokevirtual 121, 3) := dk_182 0 121 (dk_at dksX6_laws_0 19 rfl rfl)
theorem dX6_laws_22 : decode cX6_laws 22 = .ok (.ireturn, 1) := dk_172 (dk_at dksX6_laws_0 22 rfl rfl)
theorem dX6_laws_23 : decode cX6_laws 23 = .ok (.aload_n 0, 1) := dk_42 (dk_at dksX6_laws_0 23 rfl rfl)
theorem dX6_laws_24 : decode cX6_laws 24 = .ok (.iload_n 1, 1) := dk_27 (dk_at dksX6_laws_1 0 rfl rfl)
theorem dX6_laws_25 : decode cX6_laws 25 = .ok (.invokevirtual 266, 3) := dk_182 1 10 (dk_at dksX6_laws_1 1 rfl rfl)
theorem dX6_laws_28 : decode cX6_laws 28 = .ok (.aload_n 0, 1) := dk_42 (dk_at dksX6_laws_1 4 rfl rfl)
theorem dX6_laws_29 : decode cX6_laws 29 = .ok (.invokevirtual 276, 3) := dk_182 1 20 (dk_at dksX6_laws_1 5 rfl rfl)
theorem dX6_laws_32 : decode cX6_laws 32 = .ok (.istore_n 2, 1) := dk_61 (dk_at dksX6_laws_1 8 rfl rfl)
theorem dX6_laws_33 : decode cX6_laws 33 = .ok (.goto 10, 3) := dk_167 0 10 (dk_at dksX6_laws_1 9 rfl rfl)
theorem dX6_laws_36 : decode cX6_laws 36 = .ok (.astore_n 3, 1) := dk_78 (dk_at dksX6_laws_1 12 rfl rfl)
theorem dX6_laws_37 : decode cX6_laws 37 = .ok (.aload_n 0, 1) := dk_42 (dk_at dksX6_laws_1 13 rfl rfl)
theorem dX6_laws_38 : decode cX6_laws 38 = .ok (.aload_n 3, 1) := dk_45 (dk_at dksX6_laws_1 14 rfl rfl)
theorem dX6_laws_39 : decode cX6_laws 39 = .ok (.invokevirtual 272, 3) := dk_182 1 16 (dk_at dksX6_laws_1 15 rfl rfl)
theorem dX6_laws_42 : decode cX6_laws 42 = .ok (.ireturn, 1) := dk_172 (dk_at dksX6_laws_1 18 rfl rfl)
theorem dX6_laws_43 : decode cX6_laws 43 = .ok (.aload_n 0, 1) := dk_42 (dk_at dksX6_laws_1 19 rfl rfl)
theorem dX6_laws_44 : decode cX6_laws 44 = .ok (.iload_n 2, 1) := dk_28 (dk_at dksX6_laws_1 20 rfl rfl)
theorem dX6_laws_45 : decode cX6_laws 45 = .ok (.putfield 250, 3) := dk_181 0 250 (dk_at dksX6_laws_1 21 rfl rfl)
theorem dX6_laws_48 : decode cX6_laws 48 = .ok (.aload_n 0, 1) := dk_42 (dk_at dksX6_laws_2 0 rfl rfl)
theorem dX6_laws_49 : decode cX6_laws 49 = .ok (.aload_n 0, 1) := dk_42 (dk_at dksX6_laws_2 1 rfl rfl)
theorem dX6_laws_50 : decode cX6_laws 50 = .ok (.getfield 250, 3) := dk_180 0 250 (dk_at dksX6_laws_2 2 rfl rfl)
theorem dX6_laws_53 : decode cX6_laws 53 = .ok (.invokevirtual 129, 3) := dk_182 0 129 (dk_at dksX6_laws_2 5 rfl rfl)
theorem dX6_laws_56 : decode cX6_laws 56 = .ok (.ireturn, 1) := dk_172 (dk_at dksX6_laws_2 8 rfl rfl)
abbrev cX6_readLaws : ByteArray := prog_16_method_27_code
def yX6_readLaws : MethodName := ⟨RX6, "readLaws", "()I"⟩
def dkwX6_readLaws_11 : List UInt8 := [42, 180, 0, 159, 4, 159, 0, 9, 42, 4, 182, 0, 186, 191, 27, 172]
abbrev dktX6_readLaws_11 : List UInt8 := dkwX6_readLaws_11 ++ []
def dkwX6_readLaws_10 : List UInt8 := [21, 6, 79, 132, 1, 1, 42, 16, 59, 182, 0, 241, 61, 28, 153, 0, 7, 42, 182, 0, 189, 167, 255, 6]
abbrev dktX6_readLaws_10 : List UInt8 := dkwX6_readLaws_10 ++ dktX6_readLaws_11
def dkwX6_readLaws_9 : List UInt8 := [21, 4, 79, 42, 180, 0, 88, 7, 27, 104, 5, 96, 21, 5, 79, 42, 180, 0, 88, 7, 27, 104, 6, 96]
abbrev dktX6_readLaws_9 : List UInt8 := dkwX6_readLaws_9 ++ dktX6_readLaws_10
def dkwX6_readLaws_8 : List UInt8 := [182, 0, 247, 54, 6, 42, 180, 0, 88, 7, 27, 104, 29, 79, 42, 180, 0, 88, 7, 27, 104, 4, 96]
abbrev dktX6_readLaws_8 : List UInt8 := dkwX6_readLaws_8 ++ dktX6_readLaws_9
def dkwX6_readLaws_7 : List UInt8 := [62, 42, 182, 0, 189, 42, 182, 0, 247, 54, 5, 29, 4, 160, 0, 16, 42, 19, 1, 8, 182, 1, 1, 42]
abbrev dktX6_readLaws_7 : List UInt8 := dkwX6_readLaws_7 ++ dktX6_readLaws_8
def dkwX6_readLaws_6 : List UInt8 := [154, 0, 9, 42, 4, 182, 0, 186, 191, 42, 19, 1, 5, 182, 0, 182, 153, 0, 7, 3, 167, 0, 4, 4]
abbrev dktX6_readLaws_6 : List UInt8 := dkwX6_readLaws_6 ++ dktX6_readLaws_7
def dkwX6_readLaws_5 : List UInt8 := [167, 0, 77, 29, 154, 0, 73, 42, 19, 1, 5, 182, 0, 182, 154, 0, 19, 42, 19, 1, 6, 182, 0, 182]
abbrev dktX6_readLaws_5 : List UInt8 := dkwX6_readLaws_5 ++ dktX6_readLaws_6
def dkwX6_readLaws_4 : List UInt8 := [3, 54, 5, 3, 54, 6, 29, 6, 160, 0, 18, 42, 18, 255, 182, 1, 1, 42, 182, 0, 247, 54, 5]
abbrev dktX6_readLaws_4 : List UInt8 := dkwX6_readLaws_4 ++ dktX6_readLaws_5
def dkwX6_readLaws_3 : List UInt8 := [18, 253, 182, 0, 182, 153, 0, 7, 6, 167, 0, 4, 3, 62, 42, 182, 0, 189, 42, 182, 0, 247, 54, 4]
abbrev dktX6_readLaws_3 : List UInt8 := dkwX6_readLaws_3 ++ dktX6_readLaws_4
def dkwX6_readLaws_2 : List UInt8 := [160, 0, 9, 42, 6, 182, 0, 186, 191, 42, 18, 211, 182, 0, 182, 153, 0, 7, 5, 167, 0, 17, 42]
abbrev dktX6_readLaws_2 : List UInt8 := dkwX6_readLaws_2 ++ dktX6_readLaws_3
def dkwX6_readLaws_1 : List UInt8 := [182, 0, 182, 154, 0, 18, 42, 18, 253, 182, 0, 182, 154, 0, 9, 42, 4, 182, 0, 186, 191, 27, 16, 10]
abbrev dktX6_readLaws_1 : List UInt8 := dkwX6_readLaws_1 ++ dktX6_readLaws_2
def dkwX6_readLaws_0 : List UInt8 := [42, 180, 0, 250, 60, 4, 61, 28, 153, 0, 252, 42, 18, 202, 182, 0, 182, 154, 0, 27, 42, 18, 211]
abbrev dktX6_readLaws_0 : List UInt8 := dkwX6_readLaws_0 ++ dktX6_readLaws_1
theorem dksX6_readLaws_0 : cX6_readLaws.data.toList.drop 0 = dktX6_readLaws_0 := by decide +kernel
theorem dksX6_readLaws_1 : cX6_readLaws.data.toList.drop 23 = dktX6_readLaws_1 := dk_seg dksX6_readLaws_0 23 rfl rfl
theorem dksX6_readLaws_2 : cX6_readLaws.data.toList.drop 47 = dktX6_readLaws_2 := dk_seg dksX6_readLaws_1 24 rfl rfl
theorem dksX6_readLaws_3 : cX6_readLaws.data.toList.drop 70 = dktX6_readLaws_3 := dk_seg dksX6_readLaws_2 23 rfl rfl
theorem dksX6_readLaws_4 : cX6_readLaws.data.toList.drop 94 = dktX6_readLaws_4 := dk_seg dksX6_readLaws_3 24 rfl rfl
theorem dksX6_readLaws_5 : cX6_readLaws.data.toList.drop 117 = dktX6_readLaws_5 := dk_seg dksX6_readLaws_4 23 rfl rfl
theorem dksX6_readLaws_6 : cX6_readLaws.data.toList.drop 141 = dktX6_readLaws_6 := dk_seg dksX6_readLaws_5 24 rfl rfl
theorem dksX6_readLaws_7 : cX6_readLaws.data.toList.drop 165 = dktX6_readLaws_7 := dk_seg dksX6_readLaws_6 24 rfl rfl
theorem dksX6_readLaws_8 : cX6_readLaws.data.toList.drop 189 = dktX6_readLaws_8 := dk_seg dksX6_readLaws_7 24 rfl rfl
theorem dksX6_readLaws_9 : cX6_readLaws.data.toList.drop 212 = dktX6_readLaws_9 := dk_seg dksX6_readLaws_8 23 rfl rfl
theorem dksX6_readLaws_10 : cX6_readLaws.data.toList.drop 236 = dktX6_readLaws_10 := dk_seg dksX6_readLaws_9 24 rfl rfl
theorem dksX6_readLaws_11 : cX6_readLaws.data.toList.drop 260 = dktX6_readLaws_11 := dk_seg dksX6_readLaws_10 24 rfl rfl
theorem dX6_readLaws_0 : decode cX6_readLaws 0 = .ok (.aload_n 0, 1) := dk_42 (dk_at dksX6_readLaws_0 0 rfl rfl)
theorem dX6_readLaws_1 : decode cX6_readLaws 1 = .ok (.getfield 250, 3) := dk_180 0 250 (dk_at dksX6_readLaws_0 1 rfl rfl)
theorem dX6_readLaws_4 : decode cX6_readLaws 4 = .ok (.istore_n 1, 1) := dk_60 (dk_at dksX6_readLaws_0 4 rfl rfl)
theorem dX6_readLaws_5 : decode cX6_readLaws 5 = .ok (.iconst 1, 1) := dk_4 (dk_at dksX6_readLaws_0 5 rfl rfl)
theorem dX6_readLaws_6 : decode cX6_readLaws 6 = .ok (.istore_n 2, 1) := dk_61 (dk_at dksX6_readLaws_0 6 rfl rfl)
theorem dX6_readLaws_7 : decode cX6_readLaws 7 = .ok (.iload_n 2, 1) := dk_28 (dk_at dksX6_readLaws_0 7 rfl rfl)
theorem dX6_readLaws_8 : decode cX6_readLaws 8 = .ok (.ifCond .eq 252, 3) := dk_153 0 252 (dk_at dksX6_readLaws_0 8 rfl rfl)
theorem dX6_readLaws_11 : decode cX6_readLaws 11 = .ok (.aload_n 0, 1) := dk_42 (dk_at dksX6_readLaws_0 11 rfl rfl)
theorem dX6_readLaws_12 : decode cX6_readLaws 12 = .ok (.ldc 202, 2) := dk_18 202 (dk_at dksX6_readLaws_0 12 rfl rfl)
theorem dX6_readLaws_14 : decode cX6_readLaws 14 = .ok (.invokevirtual 182, 3) := dk_182 0 182 (dk_at dksX6_readLaws_0 14 rfl rfl)
theorem dX6_readLaws_17 : decode cX6_readLaws 17 = .ok (.ifCond .ne 27, 3) := dk_154 0 27 (dk_at dksX6_readLaws_0 17 rfl rfl)
theorem dX6_readLaws_20 : decode cX6_readLaws 20 = .ok (.aload_n 0, 1) := dk_42 (dk_at dksX6_readLaws_0 20 rfl rfl)
theorem dX6_readLaws_21 : decode cX6_readLaws 21 = .ok (.ldc 211, 2) := dk_18 211 (dk_at dksX6_readLaws_0 21 rfl rfl)
theorem dX6_readLaws_23 : decode cX6_readLaws 23 = .ok (.invokevirtual 182, 3) := dk_182 0 182 (dk_at dksX6_readLaws_1 0 rfl rfl)
theorem dX6_readLaws_26 : decode cX6_readLaws 26 = .ok (.ifCond .ne 18, 3) := dk_154 0 18 (dk_at dksX6_readLaws_1 3 rfl rfl)
theorem dX6_readLaws_29 : decode cX6_readLaws 29 = .ok (.aload_n 0, 1) := dk_42 (dk_at dksX6_readLaws_1 6 rfl rfl)
theorem dX6_readLaws_30 : decode cX6_readLaws 30 = .ok (.ldc 253, 2) := dk_18 253 (dk_at dksX6_readLaws_1 7 rfl rfl)
theorem dX6_readLaws_32 : decode cX6_readLaws 32 = .ok (.invokevirtual 182, 3) := dk_182 0 182 (dk_at dksX6_readLaws_1 9 rfl rfl)
theorem dX6_readLaws_35 : decode cX6_readLaws 35 = .ok (.ifCond .ne 9, 3) := dk_154 0 9 (dk_at dksX6_readLaws_1 12 rfl rfl)
theorem dX6_readLaws_38 : decode cX6_readLaws 38 = .ok (.aload_n 0, 1) := dk_42 (dk_at dksX6_readLaws_1 15 rfl rfl)
theorem dX6_readLaws_39 : decode cX6_readLaws 39 = .ok (.iconst 1, 1) := dk_4 (dk_at dksX6_readLaws_1 16 rfl rfl)
theorem dX6_readLaws_40 : decode cX6_readLaws 40 = .ok (.invokevirtual 186, 3) := dk_182 0 186 (dk_at dksX6_readLaws_1 17 rfl rfl)
theorem dX6_readLaws_43 : decode cX6_readLaws 43 = .ok (.athrow, 1) := dk_191 (dk_at dksX6_readLaws_1 20 rfl rfl)
theorem dX6_readLaws_44 : decode cX6_readLaws 44 = .ok (.iload_n 1, 1) := dk_27 (dk_at dksX6_readLaws_1 21 rfl rfl)
theorem dX6_readLaws_45 : decode cX6_readLaws 45 = .ok (.bipush 10, 2) := dk_16 10 (dk_at dksX6_readLaws_1 22 rfl rfl)
theorem dX6_readLaws_47 : decode cX6_readLaws 47 = .ok (.if_icmp .ne 9, 3) := dk_160 0 9 (dk_at dksX6_readLaws_2 0 rfl rfl)
theorem dX6_readLaws_50 : decode cX6_readLaws 50 = .ok (.aload_n 0, 1) := dk_42 (dk_at dksX6_readLaws_2 3 rfl rfl)
theorem dX6_readLaws_51 : decode cX6_readLaws 51 = .ok (.iconst 3, 1) := dk_6 (dk_at dksX6_readLaws_2 4 rfl rfl)
theorem dX6_readLaws_52 : decode cX6_readLaws 52 = .ok (.invokevirtual 186, 3) := dk_182 0 186 (dk_at dksX6_readLaws_2 5 rfl rfl)
theorem dX6_readLaws_55 : decode cX6_readLaws 55 = .ok (.athrow, 1) := dk_191 (dk_at dksX6_readLaws_2 8 rfl rfl)
theorem dX6_readLaws_56 : decode cX6_readLaws 56 = .ok (.aload_n 0, 1) := dk_42 (dk_at dksX6_readLaws_2 9 rfl rfl)
theorem dX6_readLaws_57 : decode cX6_readLaws 57 = .ok (.ldc 211, 2) := dk_18 211 (dk_at dksX6_readLaws_2 10 rfl rfl)
theorem dX6_readLaws_59 : decode cX6_readLaws 59 = .ok (.invokevirtual 182, 3) := dk_182 0 182 (dk_at dksX6_readLaws_2 12 rfl rfl)
theorem dX6_readLaws_62 : decode cX6_readLaws 62 = .ok (.ifCond .eq 7, 3) := dk_153 0 7 (dk_at dksX6_readLaws_2 15 rfl rfl)
theorem dX6_readLaws_65 : decode cX6_readLaws 65 = .ok (.iconst 2, 1) := dk_5 (dk_at dksX6_readLaws_2 18 rfl rfl)
theorem dX6_readLaws_66 : decode cX6_readLaws 66 = .ok (.goto 17, 3) := dk_167 0 17 (dk_at dksX6_readLaws_2 19 rfl rfl)
theorem dX6_readLaws_69 : decode cX6_readLaws 69 = .ok (.aload_n 0, 1) := dk_42 (dk_at dksX6_readLaws_2 22 rfl rfl)
theorem dX6_readLaws_70 : decode cX6_readLaws 70 = .ok (.ldc 253, 2) := dk_18 253 (dk_at dksX6_readLaws_3 0 rfl rfl)
theorem dX6_readLaws_72 : decode cX6_readLaws 72 = .ok (.invokevirtual 182, 3) := dk_182 0 182 (dk_at dksX6_readLaws_3 2 rfl rfl)
theorem dX6_readLaws_75 : decode cX6_readLaws 75 = .ok (.ifCond .eq 7, 3) := dk_153 0 7 (dk_at dksX6_readLaws_3 5 rfl rfl)
theorem dX6_readLaws_78 : decode cX6_readLaws 78 = .ok (.iconst 3, 1) := dk_6 (dk_at dksX6_readLaws_3 8 rfl rfl)
theorem dX6_readLaws_79 : decode cX6_readLaws 79 = .ok (.goto 4, 3) := dk_167 0 4 (dk_at dksX6_readLaws_3 9 rfl rfl)
theorem dX6_readLaws_82 : decode cX6_readLaws 82 = .ok (.iconst 0, 1) := dk_3 (dk_at dksX6_readLaws_3 12 rfl rfl)
theorem dX6_readLaws_83 : decode cX6_readLaws 83 = .ok (.istore_n 3, 1) := dk_62 (dk_at dksX6_readLaws_3 13 rfl rfl)
theorem dX6_readLaws_84 : decode cX6_readLaws 84 = .ok (.aload_n 0, 1) := dk_42 (dk_at dksX6_readLaws_3 14 rfl rfl)
theorem dX6_readLaws_85 : decode cX6_readLaws 85 = .ok (.invokevirtual 189, 3) := dk_182 0 189 (dk_at dksX6_readLaws_3 15 rfl rfl)
theorem dX6_readLaws_88 : decode cX6_readLaws 88 = .ok (.aload_n 0, 1) := dk_42 (dk_at dksX6_readLaws_3 18 rfl rfl)
theorem dX6_readLaws_89 : decode cX6_readLaws 89 = .ok (.invokevirtual 247, 3) := dk_182 0 247 (dk_at dksX6_readLaws_3 19 rfl rfl)
theorem dX6_readLaws_92 : decode cX6_readLaws 92 = .ok (.istore 4, 2) := dk_54 4 (dk_at dksX6_readLaws_3 22 rfl rfl)
theorem dX6_readLaws_94 : decode cX6_readLaws 94 = .ok (.iconst 0, 1) := dk_3 (dk_at dksX6_readLaws_4 0 rfl rfl)
theorem dX6_readLaws_95 : decode cX6_readLaws 95 = .ok (.istore 5, 2) := dk_54 5 (dk_at dksX6_readLaws_4 1 rfl rfl)
theorem dX6_readLaws_97 : decode cX6_readLaws 97 = .ok (.iconst 0, 1) := dk_3 (dk_at dksX6_readLaws_4 3 rfl rfl)
theorem dX6_readLaws_98 : decode cX6_readLaws 98 = .ok (.istore 6, 2) := dk_54 6 (dk_at dksX6_readLaws_4 4 rfl rfl)
theorem dX6_readLaws_100 : decode cX6_readLaws 100 = .ok (.iload_n 3, 1) := dk_29 (dk_at dksX6_readLaws_4 6 rfl rfl)
theorem dX6_readLaws_101 : decode cX6_readLaws 101 = .ok (.iconst 3, 1) := dk_6 (dk_at dksX6_readLaws_4 7 rfl rfl)
theorem dX6_readLaws_102 : decode cX6_readLaws 102 = .ok (.if_icmp .ne 18, 3) := dk_160 0 18 (dk_at dksX6_readLaws_4 8 rfl rfl)
theorem dX6_readLaws_105 : decode cX6_readLaws 105 = .ok (.aload_n 0, 1) := dk_42 (dk_at dksX6_readLaws_4 11 rfl rfl)
theorem dX6_readLaws_106 : decode cX6_readLaws 106 = .ok (.ldc 255, 2) := dk_18 255 (dk_at dksX6_readLaws_4 12 rfl rfl)
theorem dX6_readLaws_108 : decode cX6_readLaws 108 = .ok (.invokevirtual 257, 3) := dk_182 1 1 (dk_at dksX6_readLaws_4 14 rfl rfl)
theorem dX6_readLaws_111 : decode cX6_readLaws 111 = .ok (.aload_n 0, 1) := dk_42 (dk_at dksX6_readLaws_4 17 rfl rfl)
theorem dX6_readLaws_112 : decode cX6_readLaws 112 = .ok (.invokevirtual 247, 3) := dk_182 0 247 (dk_at dksX6_readLaws_4 18 rfl rfl)
theorem dX6_readLaws_115 : decode cX6_readLaws 115 = .ok (.istore 5, 2) := dk_54 5 (dk_at dksX6_readLaws_4 21 rfl rfl)
theorem dX6_readLaws_117 : decode cX6_readLaws 117 = .ok (.goto 77, 3) := dk_167 0 77 (dk_at dksX6_readLaws_5 0 rfl rfl)
theorem dX6_readLaws_120 : decode cX6_readLaws 120 = .ok (.iload_n 3, 1) := dk_29 (dk_at dksX6_readLaws_5 3 rfl rfl)
theorem dX6_readLaws_121 : decode cX6_readLaws 121 = .ok (.ifCond .ne 73, 3) := dk_154 0 73 (dk_at dksX6_readLaws_5 4 rfl rfl)
theorem dX6_readLaws_124 : decode cX6_readLaws 124 = .ok (.aload_n 0, 1) := dk_42 (dk_at dksX6_readLaws_5 7 rfl rfl)
theorem dX6_readLaws_125 : decode cX6_readLaws 125 = .ok (.ldc_w 261, 3) := dk_19 1 5 (dk_at dksX6_readLaws_5 8 rfl rfl)
theorem dX6_readLaws_128 : decode cX6_readLaws 128 = .ok (.invokevirtual 182, 3) := dk_182 0 182 (dk_at dksX6_readLaws_5 11 rfl rfl)
theorem dX6_readLaws_131 : decode cX6_readLaws 131 = .ok (.ifCond .ne 19, 3) := dk_154 0 19 (dk_at dksX6_readLaws_5 14 rfl rfl)
theorem dX6_readLaws_134 : decode cX6_readLaws 134 = .ok (.aload_n 0, 1) := dk_42 (dk_at dksX6_readLaws_5 17 rfl rfl)
theorem dX6_readLaws_135 : decode cX6_readLaws 135 = .ok (.ldc_w 262, 3) := dk_19 1 6 (dk_at dksX6_readLaws_5 18 rfl rfl)
theorem dX6_readLaws_138 : decode cX6_readLaws 138 = .ok (.invokevirtual 182, 3) := dk_182 0 182 (dk_at dksX6_readLaws_5 21 rfl rfl)
theorem dX6_readLaws_141 : decode cX6_readLaws 141 = .ok (.ifCond .ne 9, 3) := dk_154 0 9 (dk_at dksX6_readLaws_6 0 rfl rfl)
theorem dX6_readLaws_144 : decode cX6_readLaws 144 = .ok (.aload_n 0, 1) := dk_42 (dk_at dksX6_readLaws_6 3 rfl rfl)
theorem dX6_readLaws_145 : decode cX6_readLaws 145 = .ok (.iconst 1, 1) := dk_4 (dk_at dksX6_readLaws_6 4 rfl rfl)
theorem dX6_readLaws_146 : decode cX6_readLaws 146 = .ok (.invokevirtual 186, 3) := dk_182 0 186 (dk_at dksX6_readLaws_6 5 rfl rfl)
theorem dX6_readLaws_149 : decode cX6_readLaws 149 = .ok (.athrow, 1) := dk_191 (dk_at dksX6_readLaws_6 8 rfl rfl)
theorem dX6_readLaws_150 : decode cX6_readLaws 150 = .ok (.aload_n 0, 1) := dk_42 (dk_at dksX6_readLaws_6 9 rfl rfl)
theorem dX6_readLaws_151 : decode cX6_readLaws 151 = .ok (.ldc_w 261, 3) := dk_19 1 5 (dk_at dksX6_readLaws_6 10 rfl rfl)
theorem dX6_readLaws_154 : decode cX6_readLaws 154 = .ok (.invokevirtual 182, 3) := dk_182 0 182 (dk_at dksX6_readLaws_6 13 rfl rfl)
theorem dX6_readLaws_157 : decode cX6_readLaws 157 = .ok (.ifCond .eq 7, 3) := dk_153 0 7 (dk_at dksX6_readLaws_6 16 rfl rfl)
theorem dX6_readLaws_160 : decode cX6_readLaws 160 = .ok (.iconst 0, 1) := dk_3 (dk_at dksX6_readLaws_6 19 rfl rfl)
theorem dX6_readLaws_161 : decode cX6_readLaws 161 = .ok (.goto 4, 3) := dk_167 0 4 (dk_at dksX6_readLaws_6 20 rfl rfl)
theorem dX6_readLaws_164 : decode cX6_readLaws 164 = .ok (.iconst 1, 1) := dk_4 (dk_at dksX6_readLaws_6 23 rfl rfl)
theorem dX6_readLaws_165 : decode cX6_readLaws 165 = .ok (.istore_n 3, 1) := dk_62 (dk_at dksX6_readLaws_7 0 rfl rfl)
theorem dX6_readLaws_166 : decode cX6_readLaws 166 = .ok (.aload_n 0, 1) := dk_42 (dk_at dksX6_readLaws_7 1 rfl rfl)
theorem dX6_readLaws_167 : decode cX6_readLaws 167 = .ok (.invokevirtual 189, 3) := dk_182 0 189 (dk_at dksX6_readLaws_7 2 rfl rfl)
theorem dX6_readLaws_170 : decode cX6_readLaws 170 = .ok (.aload_n 0, 1) := dk_42 (dk_at dksX6_readLaws_7 5 rfl rfl)
theorem dX6_readLaws_171 : decode cX6_readLaws 171 = .ok (.invokevirtual 247, 3) := dk_182 0 247 (dk_at dksX6_readLaws_7 6 rfl rfl)
theorem dX6_readLaws_174 : decode cX6_readLaws 174 = .ok (.istore 5, 2) := dk_54 5 (dk_at dksX6_readLaws_7 9 rfl rfl)
theorem dX6_readLaws_176 : decode cX6_readLaws 176 = .ok (.iload_n 3, 1) := dk_29 (dk_at dksX6_readLaws_7 11 rfl rfl)
theorem dX6_readLaws_177 : decode cX6_readLaws 177 = .ok (.iconst 1, 1) := dk_4 (dk_at dksX6_readLaws_7 12 rfl rfl)
theorem dX6_readLaws_178 : decode cX6_readLaws 178 = .ok (.if_icmp .ne 16, 3) := dk_160 0 16 (dk_at dksX6_readLaws_7 13 rfl rfl)
theorem dX6_readLaws_181 : decode cX6_readLaws 181 = .ok (.aload_n 0, 1) := dk_42 (dk_at dksX6_readLaws_7 16 rfl rfl)
theorem dX6_readLaws_182 : decode cX6_readLaws 182 = .ok (.ldc_w 264, 3) := dk_19 1 8 (dk_at dksX6_readLaws_7 17 rfl rfl)
theorem dX6_readLaws_185 : decode cX6_readLaws 185 = .ok (.invokevirtual 257, 3) := dk_182 1 1 (dk_at dksX6_readLaws_7 20 rfl rfl)
theorem dX6_readLaws_188 : decode cX6_readLaws 188 = .ok (.aload_n 0, 1) := dk_42 (dk_at dksX6_readLaws_7 23 rfl rfl)
theorem dX6_readLaws_189 : decode cX6_readLaws 189 = .ok (.invokevirtual 247, 3) := dk_182 0 247 (dk_at dksX6_readLaws_8 0 rfl rfl)
theorem dX6_readLaws_192 : decode cX6_readLaws 192 = .ok (.istore 6, 2) := dk_54 6 (dk_at dksX6_readLaws_8 3 rfl rfl)
theorem dX6_readLaws_194 : decode cX6_readLaws 194 = .ok (.aload_n 0, 1) := dk_42 (dk_at dksX6_readLaws_8 5 rfl rfl)
theorem dX6_readLaws_195 : decode cX6_readLaws 195 = .ok (.getfield 88, 3) := dk_180 0 88 (dk_at dksX6_readLaws_8 6 rfl rfl)
theorem dX6_readLaws_198 : decode cX6_readLaws 198 = .ok (.iconst 4, 1) := dk_7 (dk_at dksX6_readLaws_8 9 rfl rfl)
theorem dX6_readLaws_199 : decode cX6_readLaws 199 = .ok (.iload_n 1, 1) := dk_27 (dk_at dksX6_readLaws_8 10 rfl rfl)
theorem dX6_readLaws_200 : decode cX6_readLaws 200 = .ok (.imul, 1) := dk_104 (dk_at dksX6_readLaws_8 11 rfl rfl)
theorem dX6_readLaws_201 : decode cX6_readLaws 201 = .ok (.iload_n 3, 1) := dk_29 (dk_at dksX6_readLaws_8 12 rfl rfl)
theorem dX6_readLaws_202 : decode cX6_readLaws 202 = .ok (.iastore, 1) := dk_79 (dk_at dksX6_readLaws_8 13 rfl rfl)
theorem dX6_readLaws_203 : decode cX6_readLaws 203 = .ok (.aload_n 0, 1) := dk_42 (dk_at dksX6_readLaws_8 14 rfl rfl)
theorem dX6_readLaws_204 : decode cX6_readLaws 204 = .ok (.getfield 88, 3) := dk_180 0 88 (dk_at dksX6_readLaws_8 15 rfl rfl)
theorem dX6_readLaws_207 : decode cX6_readLaws 207 = .ok (.iconst 4, 1) := dk_7 (dk_at dksX6_readLaws_8 18 rfl rfl)
theorem dX6_readLaws_208 : decode cX6_readLaws 208 = .ok (.iload_n 1, 1) := dk_27 (dk_at dksX6_readLaws_8 19 rfl rfl)
theorem dX6_readLaws_209 : decode cX6_readLaws 209 = .ok (.imul, 1) := dk_104 (dk_at dksX6_readLaws_8 20 rfl rfl)
theorem dX6_readLaws_210 : decode cX6_readLaws 210 = .ok (.iconst 1, 1) := dk_4 (dk_at dksX6_readLaws_8 21 rfl rfl)
theorem dX6_readLaws_211 : decode cX6_readLaws 211 = .ok (.iadd, 1) := dk_96 (dk_at dksX6_readLaws_8 22 rfl rfl)
theorem dX6_readLaws_212 : decode cX6_readLaws 212 = .ok (.iload 4, 2) := dk_21 4 (dk_at dksX6_readLaws_9 0 rfl rfl)
theorem dX6_readLaws_214 : decode cX6_readLaws 214 = .ok (.iastore, 1) := dk_79 (dk_at dksX6_readLaws_9 2 rfl rfl)
theorem dX6_readLaws_215 : decode cX6_readLaws 215 = .ok (.aload_n 0, 1) := dk_42 (dk_at dksX6_readLaws_9 3 rfl rfl)
theorem dX6_readLaws_216 : decode cX6_readLaws 216 = .ok (.getfield 88, 3) := dk_180 0 88 (dk_at dksX6_readLaws_9 4 rfl rfl)
theorem dX6_readLaws_219 : decode cX6_readLaws 219 = .ok (.iconst 4, 1) := dk_7 (dk_at dksX6_readLaws_9 7 rfl rfl)
theorem dX6_readLaws_220 : decode cX6_readLaws 220 = .ok (.iload_n 1, 1) := dk_27 (dk_at dksX6_readLaws_9 8 rfl rfl)
theorem dX6_readLaws_221 : decode cX6_readLaws 221 = .ok (.imul, 1) := dk_104 (dk_at dksX6_readLaws_9 9 rfl rfl)
theorem dX6_readLaws_222 : decode cX6_readLaws 222 = .ok (.iconst 2, 1) := dk_5 (dk_at dksX6_readLaws_9 10 rfl rfl)
theorem dX6_readLaws_223 : decode cX6_readLaws 223 = .ok (.iadd, 1) := dk_96 (dk_at dksX6_readLaws_9 11 rfl rfl)
theorem dX6_readLaws_224 : decode cX6_readLaws 224 = .ok (.iload 5, 2) := dk_21 5 (dk_at dksX6_readLaws_9 12 rfl rfl)
theorem dX6_readLaws_226 : decode cX6_readLaws 226 = .ok (.iastore, 1) := dk_79 (dk_at dksX6_readLaws_9 14 rfl rfl)
theorem dX6_readLaws_227 : decode cX6_readLaws 227 = .ok (.aload_n 0, 1) := dk_42 (dk_at dksX6_readLaws_9 15 rfl rfl)
theorem dX6_readLaws_228 : decode cX6_readLaws 228 = .ok (.getfield 88, 3) := dk_180 0 88 (dk_at dksX6_readLaws_9 16 rfl rfl)
theorem dX6_readLaws_231 : decode cX6_readLaws 231 = .ok (.iconst 4, 1) := dk_7 (dk_at dksX6_readLaws_9 19 rfl rfl)
theorem dX6_readLaws_232 : decode cX6_readLaws 232 = .ok (.iload_n 1, 1) := dk_27 (dk_at dksX6_readLaws_9 20 rfl rfl)
theorem dX6_readLaws_233 : decode cX6_readLaws 233 = .ok (.imul, 1) := dk_104 (dk_at dksX6_readLaws_9 21 rfl rfl)
theorem dX6_readLaws_234 : decode cX6_readLaws 234 = .ok (.iconst 3, 1) := dk_6 (dk_at dksX6_readLaws_9 22 rfl rfl)
theorem dX6_readLaws_235 : decode cX6_readLaws 235 = .ok (.iadd, 1) := dk_96 (dk_at dksX6_readLaws_9 23 rfl rfl)
theorem dX6_readLaws_236 : decode cX6_readLaws 236 = .ok (.iload 6, 2) := dk_21 6 (dk_at dksX6_readLaws_10 0 rfl rfl)
theorem dX6_readLaws_238 : decode cX6_readLaws 238 = .ok (.iastore, 1) := dk_79 (dk_at dksX6_readLaws_10 2 rfl rfl)
theorem dX6_readLaws_239 : decode cX6_readLaws 239 = .ok (.iinc 1 1, 3) := dk_132 1 1 (dk_at dksX6_readLaws_10 3 rfl rfl)
theorem dX6_readLaws_242 : decode cX6_readLaws 242 = .ok (.aload_n 0, 1) := dk_42 (dk_at dksX6_readLaws_10 6 rfl rfl)
theorem dX6_readLaws_243 : decode cX6_readLaws 243 = .ok (.bipush 59, 2) := dk_16 59 (dk_at dksX6_readLaws_10 7 rfl rfl)
theorem dX6_readLaws_245 : decode cX6_readLaws 245 = .ok (.invokevirtual 241, 3) := dk_182 0 241 (dk_at dksX6_readLaws_10 9 rfl rfl)
theorem dX6_readLaws_248 : decode cX6_readLaws 248 = .ok (.istore_n 2, 1) := dk_61 (dk_at dksX6_readLaws_10 12 rfl rfl)
theorem dX6_readLaws_249 : decode cX6_readLaws 249 = .ok (.iload_n 2, 1) := dk_28 (dk_at dksX6_readLaws_10 13 rfl rfl)
theorem dX6_readLaws_250 : decode cX6_readLaws 250 = .ok (.ifCond .eq 7, 3) := dk_153 0 7 (dk_at dksX6_readLaws_10 14 rfl rfl)
theorem dX6_readLaws_253 : decode cX6_readLaws 253 = .ok (.aload_n 0, 1) := dk_42 (dk_at dksX6_readLaws_10 17 rfl rfl)
theorem dX6_readLaws_254 : decode cX6_readLaws 254 = .ok (.invokevirtual 189, 3) := dk_182 0 189 (dk_at dksX6_readLaws_10 18 rfl rfl)
theorem dX6_readLaws_257 : decode cX6_readLaws 257 = .ok (.goto (-250), 3) := dk_167 255 6 (dk_at dksX6_readLaws_10 21 rfl rfl)
theorem dX6_readLaws_260 : decode cX6_readLaws 260 = .ok (.aload_n 0, 1) := dk_42 (dk_at dksX6_readLaws_11 0 rfl rfl)
theorem dX6_readLaws_261 : decode cX6_readLaws 261 = .ok (.getfield 159, 3) := dk_180 0 159 (dk_at dksX6_readLaws_11 1 rfl rfl)
theorem dX6_readLaws_264 : decode cX6_readLaws 264 = .ok (.iconst 1, 1) := dk_4 (dk_at dksX6_readLaws_11 4 rfl rfl)
theorem dX6_readLaws_265 : decode cX6_readLaws 265 = .ok (.if_icmp .eq 9, 3) := dk_159 0 9 (dk_at dksX6_readLaws_11 5 rfl rfl)
theorem dX6_readLaws_268 : decode cX6_readLaws 268 = .ok (.aload_n 0, 1) := dk_42 (dk_at dksX6_readLaws_11 8 rfl rfl)
theorem dX6_readLaws_269 : decode cX6_readLaws 269 = .ok (.iconst 1, 1) := dk_4 (dk_at dksX6_readLaws_11 9 rfl rfl)
theorem dX6_readLaws_270 : decode cX6_readLaws 270 = .ok (.invokevirtual 186, 3) := dk_182 0 186 (dk_at dksX6_readLaws_11 10 rfl rfl)
theorem dX6_readLaws_273 : decode cX6_readLaws 273 = .ok (.athrow, 1) := dk_191 (dk_at dksX6_readLaws_11 13 rfl rfl)
theorem dX6_readLaws_274 : decode cX6_readLaws 274 = .ok (.iload_n 1, 1) := dk_27 (dk_at dksX6_readLaws_11 14 rfl rfl)
theorem dX6_readLaws_275 : decode cX6_readLaws 275 = .ok (.ireturn, 1) := dk_172 (dk_at dksX6_readLaws_11 15 rfl rfl)
abbrev cX6_needWord : ByteArray := prog_16_method_20_code
def yX6_needWord : MethodName := ⟨RX6, "needWord", "(Ljava/lang/String;)V"⟩
def dkwX6_needWord_0 : List UInt8 := [42, 43, 182, 0, 182, 154, 0, 9, 42, 4, 182, 0, 186, 191, 42, 182, 0, 189, 177]
abbrev dktX6_needWord_0 : List UInt8 := dkwX6_needWord_0 ++ []
theorem dksX6_needWord_0 : cX6_needWord.data.toList.drop 0 = dktX6_needWord_0 := by decide +kernel
theorem dX6_needWord_0 : decode cX6_needWord 0 = .ok (.aload_n 0, 1) := dk_42 (dk_at dksX6_needWord_0 0 rfl rfl)
theorem dX6_needWord_1 : decode cX6_needWord 1 = .ok (.aload_n 1, 1) := dk_43 (dk_at dksX6_needWord_0 1 rfl rfl)
theorem dX6_needWord_2 : decode cX6_needWord 2 = .ok (.invokevirtual 182, 3) := dk_182 0 182 (dk_at dksX6_needWord_0 2 rfl rfl)
theorem dX6_needWord_5 : decode cX6_needWord 5 = .ok (.ifCond .ne 9, 3) := dk_154 0 9 (dk_at dksX6_needWord_0 5 rfl rfl)
theorem dX6_needWord_8 : decode cX6_needWord 8 = .ok (.aload_n 0, 1) := dk_42 (dk_at dksX6_needWord_0 8 rfl rfl)
theorem dX6_needWord_9 : decode cX6_needWord 9 = .ok (.iconst 1, 1) := dk_4 (dk_at dksX6_needWord_0 9 rfl rfl)
theorem dX6_needWord_10 : decode cX6_needWord 10 = .ok (.invokevirtual 186, 3) := dk_182 0 186 (dk_at dksX6_needWord_0 10 rfl rfl)
theorem dX6_needWord_13 : decode cX6_needWord 13 = .ok (.athrow, 1) := dk_191 (dk_at dksX6_needWord_0 13 rfl rfl)
theorem dX6_needWord_14 : decode cX6_needWord 14 = .ok (.aload_n 0, 1) := dk_42 (dk_at dksX6_needWord_0 14 rfl rfl)
theorem dX6_needWord_15 : decode cX6_needWord 15 = .ok (.invokevirtual 189, 3) := dk_182 0 189 (dk_at dksX6_needWord_0 15 rfl rfl)
theorem dX6_needWord_18 : decode cX6_needWord 18 = .ok (.return_, 1) := dk_177 (dk_at dksX6_needWord_0 18 rfl rfl)
abbrev cX6_fault : ByteArray := prog_16_method_32_code
def yX6_fault : MethodName := ⟨RX6, "fault", "()I"⟩
def dkwX6_fault_0 : List UInt8 := [42, 3, 181, 0, 1, 42, 180, 0, 224, 172]
abbrev dktX6_fault_0 : List UInt8 := dkwX6_fault_0 ++ []
theorem dksX6_fault_0 : cX6_fault.data.toList.drop 0 = dktX6_fault_0 := by decide +kernel
theorem dX6_fault_0 : decode cX6_fault 0 = .ok (.aload_n 0, 1) := dk_42 (dk_at dksX6_fault_0 0 rfl rfl)
theorem dX6_fault_1 : decode cX6_fault 1 = .ok (.iconst 0, 1) := dk_3 (dk_at dksX6_fault_0 1 rfl rfl)
theorem dX6_fault_2 : decode cX6_fault 2 = .ok (.putfield 1, 3) := dk_181 0 1 (dk_at dksX6_fault_0 2 rfl rfl)
theorem dX6_fault_5 : decode cX6_fault 5 = .ok (.aload_n 0, 1) := dk_42 (dk_at dksX6_fault_0 5 rfl rfl)
theorem dX6_fault_6 : decode cX6_fault 6 = .ok (.getfield 224, 3) := dk_180 0 224 (dk_at dksX6_fault_0 6 rfl rfl)
theorem dX6_fault_9 : decode cX6_fault 9 = .ok (.ireturn, 1) := dk_172 (dk_at dksX6_fault_0 9 rfl rfl)
abbrev cX6_where : ByteArray := prog_16_method_33_code
def yX6_where : MethodName := ⟨RX6, "where", "()I"⟩
def dkwX6_where_0 : List UInt8 := [42, 3, 181, 0, 1, 42, 180, 0, 10, 172]
abbrev dktX6_where_0 : List UInt8 := dkwX6_where_0 ++ []
theorem dksX6_where_0 : cX6_where.data.toList.drop 0 = dktX6_where_0 := by decide +kernel
theorem dX6_where_0 : decode cX6_where 0 = .ok (.aload_n 0, 1) := dk_42 (dk_at dksX6_where_0 0 rfl rfl)
theorem dX6_where_1 : decode cX6_where 1 = .ok (.iconst 0, 1) := dk_3 (dk_at dksX6_where_0 1 rfl rfl)
theorem dX6_where_2 : decode cX6_where 2 = .ok (.putfield 1, 3) := dk_181 0 1 (dk_at dksX6_where_0 2 rfl rfl)
theorem dX6_where_5 : decode cX6_where 5 = .ok (.aload_n 0, 1) := dk_42 (dk_at dksX6_where_0 5 rfl rfl)
theorem dX6_where_6 : decode cX6_where 6 = .ok (.getfield 10, 3) := dk_180 0 10 (dk_at dksX6_where_0 6 rfl rfl)
theorem dX6_where_9 : decode cX6_where 9 = .ok (.ireturn, 1) := dk_172 (dk_at dksX6_where_0 9 rfl rfl)
abbrev cX6_law : ByteArray := prog_16_method_34_code
def yX6_law : MethodName := ⟨RX6, "law", "(II)I"⟩
def dkwX6_law_1 : List UInt8 := [153, 0, 16, 42, 180, 0, 88, 7, 27, 104, 28, 96, 46, 167, 0, 4, 2, 172]
abbrev dktX6_law_1 : List UInt8 := dkwX6_law_1 ++ []
def dkwX6_law_0 : List UInt8 := [42, 3, 181, 0, 1, 27, 155, 0, 33, 27, 42, 180, 0, 250, 162, 0, 25, 28, 3, 6, 184, 0, 125]
abbrev dktX6_law_0 : List UInt8 := dkwX6_law_0 ++ dktX6_law_1
theorem dksX6_law_0 : cX6_law.data.toList.drop 0 = dktX6_law_0 := by decide +kernel
theorem dksX6_law_1 : cX6_law.data.toList.drop 23 = dktX6_law_1 := dk_seg dksX6_law_0 23 rfl rfl
theorem dX6_law_0 : decode cX6_law 0 = .ok (.aload_n 0, 1) := dk_42 (dk_at dksX6_law_0 0 rfl rfl)
theorem dX6_law_1 : decode cX6_law 1 = .ok (.iconst 0, 1) := dk_3 (dk_at dksX6_law_0 1 rfl rfl)
theorem dX6_law_2 : decode cX6_law 2 = .ok (.putfield 1, 3) := dk_181 0 1 (dk_at dksX6_law_0 2 rfl rfl)
theorem dX6_law_5 : decode cX6_law 5 = .ok (.iload_n 1, 1) := dk_27 (dk_at dksX6_law_0 5 rfl rfl)
theorem dX6_law_6 : decode cX6_law 6 = .ok (.ifCond .lt 33, 3) := dk_155 0 33 (dk_at dksX6_law_0 6 rfl rfl)
theorem dX6_law_9 : decode cX6_law 9 = .ok (.iload_n 1, 1) := dk_27 (dk_at dksX6_law_0 9 rfl rfl)
theorem dX6_law_10 : decode cX6_law 10 = .ok (.aload_n 0, 1) := dk_42 (dk_at dksX6_law_0 10 rfl rfl)
theorem dX6_law_11 : decode cX6_law 11 = .ok (.getfield 250, 3) := dk_180 0 250 (dk_at dksX6_law_0 11 rfl rfl)
theorem dX6_law_14 : decode cX6_law 14 = .ok (.if_icmp .ge 25, 3) := dk_162 0 25 (dk_at dksX6_law_0 14 rfl rfl)
theorem dX6_law_17 : decode cX6_law 17 = .ok (.iload_n 2, 1) := dk_28 (dk_at dksX6_law_0 17 rfl rfl)
theorem dX6_law_18 : decode cX6_law 18 = .ok (.iconst 0, 1) := dk_3 (dk_at dksX6_law_0 18 rfl rfl)
theorem dX6_law_19 : decode cX6_law 19 = .ok (.iconst 3, 1) := dk_6 (dk_at dksX6_law_0 19 rfl rfl)
theorem dX6_law_20 : decode cX6_law 20 = .ok (.invokestatic 125, 3) := dk_184 0 125 (dk_at dksX6_law_0 20 rfl rfl)
theorem dX6_law_23 : decode cX6_law 23 = .ok (.ifCond .eq 16, 3) := dk_153 0 16 (dk_at dksX6_law_1 0 rfl rfl)
theorem dX6_law_26 : decode cX6_law 26 = .ok (.aload_n 0, 1) := dk_42 (dk_at dksX6_law_1 3 rfl rfl)
theorem dX6_law_27 : decode cX6_law 27 = .ok (.getfield 88, 3) := dk_180 0 88 (dk_at dksX6_law_1 4 rfl rfl)
theorem dX6_law_30 : decode cX6_law 30 = .ok (.iconst 4, 1) := dk_7 (dk_at dksX6_law_1 7 rfl rfl)
theorem dX6_law_31 : decode cX6_law 31 = .ok (.iload_n 1, 1) := dk_27 (dk_at dksX6_law_1 8 rfl rfl)
theorem dX6_law_32 : decode cX6_law 32 = .ok (.imul, 1) := dk_104 (dk_at dksX6_law_1 9 rfl rfl)
theorem dX6_law_33 : decode cX6_law 33 = .ok (.iload_n 2, 1) := dk_28 (dk_at dksX6_law_1 10 rfl rfl)
theorem dX6_law_34 : decode cX6_law 34 = .ok (.iadd, 1) := dk_96 (dk_at dksX6_law_1 11 rfl rfl)
theorem dX6_law_35 : decode cX6_law 35 = .ok (.iaload, 1) := dk_46 (dk_at dksX6_law_1 12 rfl rfl)
theorem dX6_law_36 : decode cX6_law 36 = .ok (.goto 4, 3) := dk_167 0 4 (dk_at dksX6_law_1 13 rfl rfl)
theorem dX6_law_39 : decode cX6_law 39 = .ok (.iconst (-1), 1) := dk_2 (dk_at dksX6_law_1 16 rfl rfl)
theorem dX6_law_40 : decode cX6_law 40 = .ok (.ireturn, 1) := dk_172 (dk_at dksX6_law_1 17 rfl rfl)
abbrev cX6_planned : ByteArray := prog_16_method_35_code
def yX6_planned : MethodName := ⟨RX6, "planned", "(II)I"⟩
def dkwX6_planned_3 : List UInt8 := [167, 255, 227, 29, 172]
abbrev dktX6_planned_3 : List UInt8 := dkwX6_planned_3 ++ []
def dkwX6_planned_2 : List UInt8 := [27, 46, 162, 0, 24, 29, 42, 180, 0, 75, 16, 12, 27, 104, 21, 4, 96, 46, 96, 62, 132, 4, 1]
abbrev dktX6_planned_2 : List UInt8 := dkwX6_planned_2 ++ dktX6_planned_3
def dkwX6_planned_1 : List UInt8 := [180, 0, 69, 27, 46, 172, 28, 4, 159, 0, 5, 2, 172, 3, 62, 3, 54, 4, 21, 4, 42, 180, 0, 69]
abbrev dktX6_planned_1 : List UInt8 := dkwX6_planned_1 ++ dktX6_planned_2
def dkwX6_planned_0 : List UInt8 := [42, 3, 181, 0, 1, 27, 155, 0, 11, 27, 42, 180, 0, 227, 161, 0, 5, 2, 172, 28, 154, 0, 10, 42]
abbrev dktX6_planned_0 : List UInt8 := dkwX6_planned_0 ++ dktX6_planned_1
theorem dksX6_planned_0 : cX6_planned.data.toList.drop 0 = dktX6_planned_0 := by decide +kernel
theorem dksX6_planned_1 : cX6_planned.data.toList.drop 24 = dktX6_planned_1 := dk_seg dksX6_planned_0 24 rfl rfl
theorem dksX6_planned_2 : cX6_planned.data.toList.drop 48 = dktX6_planned_2 := dk_seg dksX6_planned_1 24 rfl rfl
theorem dksX6_planned_3 : cX6_planned.data.toList.drop 71 = dktX6_planned_3 := dk_seg dksX6_planned_2 23 rfl rfl
theorem dX6_planned_0 : decode cX6_planned 0 = .ok (.aload_n 0, 1) := dk_42 (dk_at dksX6_planned_0 0 rfl rfl)
theorem dX6_planned_1 : decode cX6_planned 1 = .ok (.iconst 0, 1) := dk_3 (dk_at dksX6_planned_0 1 rfl rfl)
theorem dX6_planned_2 : decode cX6_planned 2 = .ok (.putfield 1, 3) := dk_181 0 1 (dk_at dksX6_planned_0 2 rfl rfl)
theorem dX6_planned_5 : decode cX6_planned 5 = .ok (.iload_n 1, 1) := dk_27 (dk_at dksX6_planned_0 5 rfl rfl)
theorem dX6_planned_6 : decode cX6_planned 6 = .ok (.ifCond .lt 11, 3) := dk_155 0 11 (dk_at dksX6_planned_0 6 rfl rfl)
theorem dX6_planned_9 : decode cX6_planned 9 = .ok (.iload_n 1, 1) := dk_27 (dk_at dksX6_planned_0 9 rfl rfl)
theorem dX6_planned_10 : decode cX6_planned 10 = .ok (.aload_n 0, 1) := dk_42 (dk_at dksX6_planned_0 10 rfl rfl)
theorem dX6_planned_11 : decode cX6_planned 11 = .ok (.getfield 227, 3) := dk_180 0 227 (dk_at dksX6_planned_0 11 rfl rfl)
theorem dX6_planned_14 : decode cX6_planned 14 = .ok (.if_icmp .lt 5, 3) := dk_161 0 5 (dk_at dksX6_planned_0 14 rfl rfl)
theorem dX6_planned_17 : decode cX6_planned 17 = .ok (.iconst (-1), 1) := dk_2 (dk_at dksX6_planned_0 17 rfl rfl)
theorem dX6_planned_18 : decode cX6_planned 18 = .ok (.ireturn, 1) := dk_172 (dk_at dksX6_planned_0 18 rfl rfl)
theorem dX6_planned_19 : decode cX6_planned 19 = .ok (.iload_n 2, 1) := dk_28 (dk_at dksX6_planned_0 19 rfl rfl)
theorem dX6_planned_20 : decode cX6_planned 20 = .ok (.ifCond .ne 10, 3) := dk_154 0 10 (dk_at dksX6_planned_0 20 rfl rfl)
theorem dX6_planned_23 : decode cX6_planned 23 = .ok (.aload_n 0, 1) := dk_42 (dk_at dksX6_planned_0 23 rfl rfl)
theorem dX6_planned_24 : decode cX6_planned 24 = .ok (.getfield 69, 3) := dk_180 0 69 (dk_at dksX6_planned_1 0 rfl rfl)
theorem dX6_planned_27 : decode cX6_planned 27 = .ok (.iload_n 1, 1) := dk_27 (dk_at dksX6_planned_1 3 rfl rfl)
theorem dX6_planned_28 : decode cX6_planned 28 = .ok (.iaload, 1) := dk_46 (dk_at dksX6_planned_1 4 rfl rfl)
theorem dX6_planned_29 : decode cX6_planned 29 = .ok (.ireturn, 1) := dk_172 (dk_at dksX6_planned_1 5 rfl rfl)
theorem dX6_planned_30 : decode cX6_planned 30 = .ok (.iload_n 2, 1) := dk_28 (dk_at dksX6_planned_1 6 rfl rfl)
theorem dX6_planned_31 : decode cX6_planned 31 = .ok (.iconst 1, 1) := dk_4 (dk_at dksX6_planned_1 7 rfl rfl)
theorem dX6_planned_32 : decode cX6_planned 32 = .ok (.if_icmp .eq 5, 3) := dk_159 0 5 (dk_at dksX6_planned_1 8 rfl rfl)
theorem dX6_planned_35 : decode cX6_planned 35 = .ok (.iconst (-1), 1) := dk_2 (dk_at dksX6_planned_1 11 rfl rfl)
theorem dX6_planned_36 : decode cX6_planned 36 = .ok (.ireturn, 1) := dk_172 (dk_at dksX6_planned_1 12 rfl rfl)
theorem dX6_planned_37 : decode cX6_planned 37 = .ok (.iconst 0, 1) := dk_3 (dk_at dksX6_planned_1 13 rfl rfl)
theorem dX6_planned_38 : decode cX6_planned 38 = .ok (.istore_n 3, 1) := dk_62 (dk_at dksX6_planned_1 14 rfl rfl)
theorem dX6_planned_39 : decode cX6_planned 39 = .ok (.iconst 0, 1) := dk_3 (dk_at dksX6_planned_1 15 rfl rfl)
theorem dX6_planned_40 : decode cX6_planned 40 = .ok (.istore 4, 2) := dk_54 4 (dk_at dksX6_planned_1 16 rfl rfl)
theorem dX6_planned_42 : decode cX6_planned 42 = .ok (.iload 4, 2) := dk_21 4 (dk_at dksX6_planned_1 18 rfl rfl)
theorem dX6_planned_44 : decode cX6_planned 44 = .ok (.aload_n 0, 1) := dk_42 (dk_at dksX6_planned_1 20 rfl rfl)
theorem dX6_planned_45 : decode cX6_planned 45 = .ok (.getfield 69, 3) := dk_180 0 69 (dk_at dksX6_planned_1 21 rfl rfl)
theorem dX6_planned_48 : decode cX6_planned 48 = .ok (.iload_n 1, 1) := dk_27 (dk_at dksX6_planned_2 0 rfl rfl)
theorem dX6_planned_49 : decode cX6_planned 49 = .ok (.iaload, 1) := dk_46 (dk_at dksX6_planned_2 1 rfl rfl)
theorem dX6_planned_50 : decode cX6_planned 50 = .ok (.if_icmp .ge 24, 3) := dk_162 0 24 (dk_at dksX6_planned_2 2 rfl rfl)
theorem dX6_planned_53 : decode cX6_planned 53 = .ok (.iload_n 3, 1) := dk_29 (dk_at dksX6_planned_2 5 rfl rfl)
theorem dX6_planned_54 : decode cX6_planned 54 = .ok (.aload_n 0, 1) := dk_42 (dk_at dksX6_planned_2 6 rfl rfl)
theorem dX6_planned_55 : decode cX6_planned 55 = .ok (.getfield 75, 3) := dk_180 0 75 (dk_at dksX6_planned_2 7 rfl rfl)
theorem dX6_planned_58 : decode cX6_planned 58 = .ok (.bipush 12, 2) := dk_16 12 (dk_at dksX6_planned_2 10 rfl rfl)
theorem dX6_planned_60 : decode cX6_planned 60 = .ok (.iload_n 1, 1) := dk_27 (dk_at dksX6_planned_2 12 rfl rfl)
theorem dX6_planned_61 : decode cX6_planned 61 = .ok (.imul, 1) := dk_104 (dk_at dksX6_planned_2 13 rfl rfl)
theorem dX6_planned_62 : decode cX6_planned 62 = .ok (.iload 4, 2) := dk_21 4 (dk_at dksX6_planned_2 14 rfl rfl)
theorem dX6_planned_64 : decode cX6_planned 64 = .ok (.iadd, 1) := dk_96 (dk_at dksX6_planned_2 16 rfl rfl)
theorem dX6_planned_65 : decode cX6_planned 65 = .ok (.iaload, 1) := dk_46 (dk_at dksX6_planned_2 17 rfl rfl)
theorem dX6_planned_66 : decode cX6_planned 66 = .ok (.iadd, 1) := dk_96 (dk_at dksX6_planned_2 18 rfl rfl)
theorem dX6_planned_67 : decode cX6_planned 67 = .ok (.istore_n 3, 1) := dk_62 (dk_at dksX6_planned_2 19 rfl rfl)
theorem dX6_planned_68 : decode cX6_planned 68 = .ok (.iinc 4 1, 3) := dk_132 4 1 (dk_at dksX6_planned_2 20 rfl rfl)
theorem dX6_planned_71 : decode cX6_planned 71 = .ok (.goto (-29), 3) := dk_167 255 227 (dk_at dksX6_planned_3 0 rfl rfl)
theorem dX6_planned_74 : decode cX6_planned 74 = .ok (.iload_n 3, 1) := dk_29 (dk_at dksX6_planned_3 3 rfl rfl)
theorem dX6_planned_75 : decode cX6_planned 75 = .ok (.ireturn, 1) := dk_172 (dk_at dksX6_planned_3 4 rfl rfl)
abbrev cX6_team : ByteArray := prog_16_method_38_code
def yX6_team : MethodName := ⟨RX6, "team", "(IIIII)I"⟩
def dkwX6_team_6 : List UInt8 := [182, 0, 129, 172]
abbrev dktX6_team_6 : List UInt8 := dkwX6_team_6 ++ []
def dkwX6_team_5 : List UInt8 := [21, 4, 21, 5, 182, 1, 26, 42, 89, 180, 0, 94, 4, 96, 181, 0, 94, 42, 42, 180, 0, 94, 4, 100]
abbrev dktX6_team_5 : List UInt8 := dkwX6_team_5 ++ dktX6_team_6
def dkwX6_team_4 : List UInt8 := [16, 6, 160, 0, 9, 42, 6, 182, 0, 121, 172, 42, 180, 0, 34, 42, 180, 0, 94, 50, 27, 28, 29]
abbrev dktX6_team_4 : List UInt8 := dkwX6_team_4 ++ dktX6_team_5
def dkwX6_team_3 : List UInt8 := [153, 0, 14, 21, 4, 3, 16, 100, 184, 0, 125, 154, 0, 9, 42, 5, 182, 0, 121, 172, 42, 180, 0, 94]
abbrev dktX6_team_3 : List UInt8 := dkwX6_team_3 ++ dktX6_team_4
def dkwX6_team_2 : List UInt8 := [153, 0, 36, 28, 16, 20, 17, 1, 44, 184, 0, 125, 153, 0, 24, 29, 3, 16, 60, 184, 0, 125]
abbrev dktX6_team_2 : List UInt8 := dkwX6_team_2 ++ dktX6_team_3
def dkwX6_team_1 : List UInt8 := [172, 42, 21, 5, 182, 1, 23, 154, 0, 9, 42, 4, 182, 0, 121, 172, 27, 7, 16, 16, 184, 0, 125]
abbrev dktX6_team_1 : List UInt8 := dkwX6_team_1 ++ dktX6_team_2
def dkwX6_team_0 : List UInt8 := [42, 3, 181, 0, 1, 42, 180, 0, 100, 157, 0, 10, 42, 180, 0, 91, 154, 0, 9, 42, 8, 182, 0, 121]
abbrev dktX6_team_0 : List UInt8 := dkwX6_team_0 ++ dktX6_team_1
theorem dksX6_team_0 : cX6_team.data.toList.drop 0 = dktX6_team_0 := by decide +kernel
theorem dksX6_team_1 : cX6_team.data.toList.drop 24 = dktX6_team_1 := dk_seg dksX6_team_0 24 rfl rfl
theorem dksX6_team_2 : cX6_team.data.toList.drop 47 = dktX6_team_2 := dk_seg dksX6_team_1 23 rfl rfl
theorem dksX6_team_3 : cX6_team.data.toList.drop 69 = dktX6_team_3 := dk_seg dksX6_team_2 22 rfl rfl
theorem dksX6_team_4 : cX6_team.data.toList.drop 93 = dktX6_team_4 := dk_seg dksX6_team_3 24 rfl rfl
theorem dksX6_team_5 : cX6_team.data.toList.drop 116 = dktX6_team_5 := dk_seg dksX6_team_4 23 rfl rfl
theorem dksX6_team_6 : cX6_team.data.toList.drop 140 = dktX6_team_6 := dk_seg dksX6_team_5 24 rfl rfl
theorem dX6_team_0 : decode cX6_team 0 = .ok (.aload_n 0, 1) := dk_42 (dk_at dksX6_team_0 0 rfl rfl)
theorem dX6_team_1 : decode cX6_team 1 = .ok (.iconst 0, 1) := dk_3 (dk_at dksX6_team_0 1 rfl rfl)
theorem dX6_team_2 : decode cX6_team 2 = .ok (.putfield 1, 3) := dk_181 0 1 (dk_at dksX6_team_0 2 rfl rfl)
theorem dX6_team_5 : decode cX6_team 5 = .ok (.aload_n 0, 1) := dk_42 (dk_at dksX6_team_0 5 rfl rfl)
theorem dX6_team_6 : decode cX6_team 6 = .ok (.getfield 100, 3) := dk_180 0 100 (dk_at dksX6_team_0 6 rfl rfl)
theorem dX6_team_9 : decode cX6_team 9 = .ok (.ifCond .gt 10, 3) := dk_157 0 10 (dk_at dksX6_team_0 9 rfl rfl)
theorem dX6_team_12 : decode cX6_team 12 = .ok (.aload_n 0, 1) := dk_42 (dk_at dksX6_team_0 12 rfl rfl)
theorem dX6_team_13 : decode cX6_team 13 = .ok (.getfield 91, 3) := dk_180 0 91 (dk_at dksX6_team_0 13 rfl rfl)
theorem dX6_team_16 : decode cX6_team 16 = .ok (.ifCond .ne 9, 3) := dk_154 0 9 (dk_at dksX6_team_0 16 rfl rfl)
theorem dX6_team_19 : decode cX6_team 19 = .ok (.aload_n 0, 1) := dk_42 (dk_at dksX6_team_0 19 rfl rfl)
theorem dX6_team_20 : decode cX6_team 20 = .ok (.iconst 5, 1) := dk_8 (dk_at dksX6_team_0 20 rfl rfl)
theorem dX6_team_21 : decode cX6_team 21 = .ok (.invokevirtual 121, 3) := dk_182 0 121 (dk_at dksX6_team_0 21 rfl rfl)
theorem dX6_team_24 : decode cX6_team 24 = .ok (.ireturn, 1) := dk_172 (dk_at dksX6_team_1 0 rfl rfl)
theorem dX6_team_25 : decode cX6_team 25 = .ok (.aload_n 0, 1) := dk_42 (dk_at dksX6_team_1 1 rfl rfl)
theorem dX6_team_26 : decode cX6_team 26 = .ok (.iload 5, 2) := dk_21 5 (dk_at dksX6_team_1 2 rfl rfl)
theorem dX6_team_28 : decode cX6_team 28 = .ok (.invokevirtual 279, 3) := dk_182 1 23 (dk_at dksX6_team_1 4 rfl rfl)
theorem dX6_team_31 : decode cX6_team 31 = .ok (.ifCond .ne 9, 3) := dk_154 0 9 (dk_at dksX6_team_1 7 rfl rfl)
theorem dX6_team_34 : decode cX6_team 34 = .ok (.aload_n 0, 1) := dk_42 (dk_at dksX6_team_1 10 rfl rfl)
theorem dX6_team_35 : decode cX6_team 35 = .ok (.iconst 1, 1) := dk_4 (dk_at dksX6_team_1 11 rfl rfl)
theorem dX6_team_36 : decode cX6_team 36 = .ok (.invokevirtual 121, 3) := dk_182 0 121 (dk_at dksX6_team_1 12 rfl rfl)
theorem dX6_team_39 : decode cX6_team 39 = .ok (.ireturn, 1) := dk_172 (dk_at dksX6_team_1 15 rfl rfl)
theorem dX6_team_40 : decode cX6_team 40 = .ok (.iload_n 1, 1) := dk_27 (dk_at dksX6_team_1 16 rfl rfl)
theorem dX6_team_41 : decode cX6_team 41 = .ok (.iconst 4, 1) := dk_7 (dk_at dksX6_team_1 17 rfl rfl)
theorem dX6_team_42 : decode cX6_team 42 = .ok (.bipush 16, 2) := dk_16 16 (dk_at dksX6_team_1 18 rfl rfl)
theorem dX6_team_44 : decode cX6_team 44 = .ok (.invokestatic 125, 3) := dk_184 0 125 (dk_at dksX6_team_1 20 rfl rfl)
theorem dX6_team_47 : decode cX6_team 47 = .ok (.ifCond .eq 36, 3) := dk_153 0 36 (dk_at dksX6_team_2 0 rfl rfl)
theorem dX6_team_50 : decode cX6_team 50 = .ok (.iload_n 2, 1) := dk_28 (dk_at dksX6_team_2 3 rfl rfl)
theorem dX6_team_51 : decode cX6_team 51 = .ok (.bipush 20, 2) := dk_16 20 (dk_at dksX6_team_2 4 rfl rfl)
theorem dX6_team_53 : decode cX6_team 53 = .ok (.sipush 300, 3) := dk_17 1 44 (dk_at dksX6_team_2 6 rfl rfl)
theorem dX6_team_56 : decode cX6_team 56 = .ok (.invokestatic 125, 3) := dk_184 0 125 (dk_at dksX6_team_2 9 rfl rfl)
theorem dX6_team_59 : decode cX6_team 59 = .ok (.ifCond .eq 24, 3) := dk_153 0 24 (dk_at dksX6_team_2 12 rfl rfl)
theorem dX6_team_62 : decode cX6_team 62 = .ok (.iload_n 3, 1) := dk_29 (dk_at dksX6_team_2 15 rfl rfl)
theorem dX6_team_63 : decode cX6_team 63 = .ok (.iconst 0, 1) := dk_3 (dk_at dksX6_team_2 16 rfl rfl)
theorem dX6_team_64 : decode cX6_team 64 = .ok (.bipush 60, 2) := dk_16 60 (dk_at dksX6_team_2 17 rfl rfl)
theorem dX6_team_66 : decode cX6_team 66 = .ok (.invokestatic 125, 3) := dk_184 0 125 (dk_at dksX6_team_2 19 rfl rfl)
theorem dX6_team_69 : decode cX6_team 69 = .ok (.ifCond .eq 14, 3) := dk_153 0 14 (dk_at dksX6_team_3 0 rfl rfl)
theorem dX6_team_72 : decode cX6_team 72 = .ok (.iload 4, 2) := dk_21 4 (dk_at dksX6_team_3 3 rfl rfl)
theorem dX6_team_74 : decode cX6_team 74 = .ok (.iconst 0, 1) := dk_3 (dk_at dksX6_team_3 5 rfl rfl)
theorem dX6_team_75 : decode cX6_team 75 = .ok (.bipush 100, 2) := dk_16 100 (dk_at dksX6_team_3 6 rfl rfl)
theorem dX6_team_77 : decode cX6_team 77 = .ok (.invokestatic 125, 3) := dk_184 0 125 (dk_at dksX6_team_3 8 rfl rfl)
theorem dX6_team_80 : decode cX6_team 80 = .ok (.ifCond .ne 9, 3) := dk_154 0 9 (dk_at dksX6_team_3 11 rfl rfl)
theorem dX6_team_83 : decode cX6_team 83 = .ok (.aload_n 0, 1) := dk_42 (dk_at dksX6_team_3 14 rfl rfl)
theorem dX6_team_84 : decode cX6_team 84 = .ok (.iconst 2, 1) := dk_5 (dk_at dksX6_team_3 15 rfl rfl)
theorem dX6_team_85 : decode cX6_team 85 = .ok (.invokevirtual 121, 3) := dk_182 0 121 (dk_at dksX6_team_3 16 rfl rfl)
theorem dX6_team_88 : decode cX6_team 88 = .ok (.ireturn, 1) := dk_172 (dk_at dksX6_team_3 19 rfl rfl)
theorem dX6_team_89 : decode cX6_team 89 = .ok (.aload_n 0, 1) := dk_42 (dk_at dksX6_team_3 20 rfl rfl)
theorem dX6_team_90 : decode cX6_team 90 = .ok (.getfield 94, 3) := dk_180 0 94 (dk_at dksX6_team_3 21 rfl rfl)
theorem dX6_team_93 : decode cX6_team 93 = .ok (.bipush 6, 2) := dk_16 6 (dk_at dksX6_team_4 0 rfl rfl)
theorem dX6_team_95 : decode cX6_team 95 = .ok (.if_icmp .ne 9, 3) := dk_160 0 9 (dk_at dksX6_team_4 2 rfl rfl)
theorem dX6_team_98 : decode cX6_team 98 = .ok (.aload_n 0, 1) := dk_42 (dk_at dksX6_team_4 5 rfl rfl)
theorem dX6_team_99 : decode cX6_team 99 = .ok (.iconst 3, 1) := dk_6 (dk_at dksX6_team_4 6 rfl rfl)
theorem dX6_team_100 : decode cX6_team 100 = .ok (.invokevirtual 121, 3) := dk_182 0 121 (dk_at dksX6_team_4 7 rfl rfl)
theorem dX6_team_103 : decode cX6_team 103 = .ok (.ireturn, 1) := dk_172 (dk_at dksX6_team_4 10 rfl rfl)
theorem dX6_team_104 : decode cX6_team 104 = .ok (.aload_n 0, 1) := dk_42 (dk_at dksX6_team_4 11 rfl rfl)
theorem dX6_team_105 : decode cX6_team 105 = .ok (.getfield 34, 3) := dk_180 0 34 (dk_at dksX6_team_4 12 rfl rfl)
theorem dX6_team_108 : decode cX6_team 108 = .ok (.aload_n 0, 1) := dk_42 (dk_at dksX6_team_4 15 rfl rfl)
theorem dX6_team_109 : decode cX6_team 109 = .ok (.getfield 94, 3) := dk_180 0 94 (dk_at dksX6_team_4 16 rfl rfl)
theorem dX6_team_112 : decode cX6_team 112 = .ok (.aaload, 1) := dk_50 (dk_at dksX6_team_4 19 rfl rfl)
theorem dX6_team_113 : decode cX6_team 113 = .ok (.iload_n 1, 1) := dk_27 (dk_at dksX6_team_4 20 rfl rfl)
theorem dX6_team_114 : decode cX6_team 114 = .ok (.iload_n 2, 1) := dk_28 (dk_at dksX6_team_4 21 rfl rfl)
theorem dX6_team_115 : decode cX6_team 115 = .ok (.iload_n 3, 1) := dk_29 (dk_at dksX6_team_4 22 rfl rfl)
theorem dX6_team_116 : decode cX6_team 116 = .ok (.iload 4, 2) := dk_21 4 (dk_at dksX6_team_5 0 rfl rfl)
theorem dX6_team_118 : decode cX6_team 118 = .ok (.iload 5, 2) := dk_21 5 (dk_at dksX6_team_5 2 rfl rfl)
theorem dX6_team_120 : decode cX6_team 120 = .ok (.invokevirtual 282, 3) := dk_182 1 26 (dk_at dksX6_team_5 4 rfl rfl)
theorem dX6_team_123 : decode cX6_team 123 = .ok (.aload_n 0, 1) := dk_42 (dk_at dksX6_team_5 7 rfl rfl)
theorem dX6_team_124 : decode cX6_team 124 = .ok (.dup, 1) := dk_89 (dk_at dksX6_team_5 8 rfl rfl)
theorem dX6_team_125 : decode cX6_team 125 = .ok (.getfield 94, 3) := dk_180 0 94 (dk_at dksX6_team_5 9 rfl rfl)
theorem dX6_team_128 : decode cX6_team 128 = .ok (.iconst 1, 1) := dk_4 (dk_at dksX6_team_5 12 rfl rfl)
theorem dX6_team_129 : decode cX6_team 129 = .ok (.iadd, 1) := dk_96 (dk_at dksX6_team_5 13 rfl rfl)
theorem dX6_team_130 : decode cX6_team 130 = .ok (.putfield 94, 3) := dk_181 0 94 (dk_at dksX6_team_5 14 rfl rfl)
theorem dX6_team_133 : decode cX6_team 133 = .ok (.aload_n 0, 1) := dk_42 (dk_at dksX6_team_5 17 rfl rfl)
theorem dX6_team_134 : decode cX6_team 134 = .ok (.aload_n 0, 1) := dk_42 (dk_at dksX6_team_5 18 rfl rfl)
theorem dX6_team_135 : decode cX6_team 135 = .ok (.getfield 94, 3) := dk_180 0 94 (dk_at dksX6_team_5 19 rfl rfl)
theorem dX6_team_138 : decode cX6_team 138 = .ok (.iconst 1, 1) := dk_4 (dk_at dksX6_team_5 22 rfl rfl)
theorem dX6_team_139 : decode cX6_team 139 = .ok (.isub, 1) := dk_100 (dk_at dksX6_team_5 23 rfl rfl)
theorem dX6_team_140 : decode cX6_team 140 = .ok (.invokevirtual 129, 3) := dk_182 0 129 (dk_at dksX6_team_6 0 rfl rfl)
theorem dX6_team_143 : decode cX6_team 143 = .ok (.ireturn, 1) := dk_172 (dk_at dksX6_team_6 3 rfl rfl)
abbrev cX6_isPlan : ByteArray := prog_16_method_37_code
def yX6_isPlan : MethodName := ⟨RX6, "isPlan", "(I)Z"⟩
def dkwX6_isPlan_0 : List UInt8 := [27, 155, 0, 15, 27, 42, 180, 0, 227, 162, 0, 7, 4, 167, 0, 4, 3, 172]
abbrev dktX6_isPlan_0 : List UInt8 := dkwX6_isPlan_0 ++ []
theorem dksX6_isPlan_0 : cX6_isPlan.data.toList.drop 0 = dktX6_isPlan_0 := by decide +kernel
theorem dX6_isPlan_0 : decode cX6_isPlan 0 = .ok (.iload_n 1, 1) := dk_27 (dk_at dksX6_isPlan_0 0 rfl rfl)
theorem dX6_isPlan_1 : decode cX6_isPlan 1 = .ok (.ifCond .lt 15, 3) := dk_155 0 15 (dk_at dksX6_isPlan_0 1 rfl rfl)
theorem dX6_isPlan_4 : decode cX6_isPlan 4 = .ok (.iload_n 1, 1) := dk_27 (dk_at dksX6_isPlan_0 4 rfl rfl)
theorem dX6_isPlan_5 : decode cX6_isPlan 5 = .ok (.aload_n 0, 1) := dk_42 (dk_at dksX6_isPlan_0 5 rfl rfl)
theorem dX6_isPlan_6 : decode cX6_isPlan 6 = .ok (.getfield 227, 3) := dk_180 0 227 (dk_at dksX6_isPlan_0 6 rfl rfl)
theorem dX6_isPlan_9 : decode cX6_isPlan 9 = .ok (.if_icmp .ge 7, 3) := dk_162 0 7 (dk_at dksX6_isPlan_0 9 rfl rfl)
theorem dX6_isPlan_12 : decode cX6_isPlan 12 = .ok (.iconst 1, 1) := dk_4 (dk_at dksX6_isPlan_0 12 rfl rfl)
theorem dX6_isPlan_13 : decode cX6_isPlan 13 = .ok (.goto 4, 3) := dk_167 0 4 (dk_at dksX6_isPlan_0 13 rfl rfl)
theorem dX6_isPlan_16 : decode cX6_isPlan 16 = .ok (.iconst 0, 1) := dk_3 (dk_at dksX6_isPlan_0 16 rfl rfl)
theorem dX6_isPlan_17 : decode cX6_isPlan 17 = .ok (.ireturn, 1) := dk_172 (dk_at dksX6_isPlan_0 17 rfl rfl)
abbrev cX6_follow : ByteArray := prog_16_method_39_code
def yX6_follow : MethodName := ⟨RX6, "follow", "(II)Z"⟩
def dkwX6_follow_2 : List UInt8 := [172, 45, 28, 181, 1, 36, 42, 182, 0, 117, 172]
abbrev dktX6_follow_2 : List UInt8 := dkwX6_follow_2 ++ []
def dkwX6_follow_1 : List UInt8 := [182, 0, 113, 172, 42, 180, 0, 34, 27, 50, 78, 45, 180, 1, 33, 4, 164, 0, 9, 42, 8, 182, 0, 113]
abbrev dktX6_follow_1 : List UInt8 := dkwX6_follow_1 ++ dktX6_follow_2
def dkwX6_follow_0 : List UInt8 := [42, 3, 181, 0, 1, 42, 27, 182, 1, 30, 153, 0, 11, 42, 28, 182, 1, 23, 154, 0, 9, 42, 4]
abbrev dktX6_follow_0 : List UInt8 := dkwX6_follow_0 ++ dktX6_follow_1
theorem dksX6_follow_0 : cX6_follow.data.toList.drop 0 = dktX6_follow_0 := by decide +kernel
theorem dksX6_follow_1 : cX6_follow.data.toList.drop 23 = dktX6_follow_1 := dk_seg dksX6_follow_0 23 rfl rfl
theorem dksX6_follow_2 : cX6_follow.data.toList.drop 47 = dktX6_follow_2 := dk_seg dksX6_follow_1 24 rfl rfl
theorem dX6_follow_0 : decode cX6_follow 0 = .ok (.aload_n 0, 1) := dk_42 (dk_at dksX6_follow_0 0 rfl rfl)
theorem dX6_follow_1 : decode cX6_follow 1 = .ok (.iconst 0, 1) := dk_3 (dk_at dksX6_follow_0 1 rfl rfl)
theorem dX6_follow_2 : decode cX6_follow 2 = .ok (.putfield 1, 3) := dk_181 0 1 (dk_at dksX6_follow_0 2 rfl rfl)
theorem dX6_follow_5 : decode cX6_follow 5 = .ok (.aload_n 0, 1) := dk_42 (dk_at dksX6_follow_0 5 rfl rfl)
theorem dX6_follow_6 : decode cX6_follow 6 = .ok (.iload_n 1, 1) := dk_27 (dk_at dksX6_follow_0 6 rfl rfl)
theorem dX6_follow_7 : decode cX6_follow 7 = .ok (.invokevirtual 286, 3) := dk_182 1 30 (dk_at dksX6_follow_0 7 rfl rfl)
theorem dX6_follow_10 : decode cX6_follow 10 = .ok (.ifCond .eq 11, 3) := dk_153 0 11 (dk_at dksX6_follow_0 10 rfl rfl)
theorem dX6_follow_13 : decode cX6_follow 13 = .ok (.aload_n 0, 1) := dk_42 (dk_at dksX6_follow_0 13 rfl rfl)
theorem dX6_follow_14 : decode cX6_follow 14 = .ok (.iload_n 2, 1) := dk_28 (dk_at dksX6_follow_0 14 rfl rfl)
theorem dX6_follow_15 : decode cX6_follow 15 = .ok (.invokevirtual 279, 3) := dk_182 1 23 (dk_at dksX6_follow_0 15 rfl rfl)
theorem dX6_follow_18 : decode cX6_follow 18 = .ok (.ifCond .ne 9, 3) := dk_154 0 9 (dk_at dksX6_follow_0 18 rfl rfl)
theorem dX6_follow_21 : decode cX6_follow 21 = .ok (.aload_n 0, 1) := dk_42 (dk_at dksX6_follow_0 21 rfl rfl)
theorem dX6_follow_22 : decode cX6_follow 22 = .ok (.iconst 1, 1) := dk_4 (dk_at dksX6_follow_0 22 rfl rfl)
theorem dX6_follow_23 : decode cX6_follow 23 = .ok (.invokevirtual 113, 3) := dk_182 0 113 (dk_at dksX6_follow_1 0 rfl rfl)
theorem dX6_follow_26 : decode cX6_follow 26 = .ok (.ireturn, 1) := dk_172 (dk_at dksX6_follow_1 3 rfl rfl)
theorem dX6_follow_27 : decode cX6_follow 27 = .ok (.aload_n 0, 1) := dk_42 (dk_at dksX6_follow_1 4 rfl rfl)
theorem dX6_follow_28 : decode cX6_follow 28 = .ok (.getfield 34, 3) := dk_180 0 34 (dk_at dksX6_follow_1 5 rfl rfl)
theorem dX6_follow_31 : decode cX6_follow 31 = .ok (.iload_n 1, 1) := dk_27 (dk_at dksX6_follow_1 8 rfl rfl)
theorem dX6_follow_32 : decode cX6_follow 32 = .ok (.aaload, 1) := dk_50 (dk_at dksX6_follow_1 9 rfl rfl)
theorem dX6_follow_33 : decode cX6_follow 33 = .ok (.astore_n 3, 1) := dk_78 (dk_at dksX6_follow_1 10 rfl rfl)
theorem dX6_follow_34 : decode cX6_follow 34 = .ok (.aload_n 3, 1) := dk_45 (dk_at dksX6_follow_1 11 rfl rfl)
theorem dX6_follow_35 : decode cX6_follow 35 = .ok (.getfield 289, 3) := dk_180 1 33 (dk_at dksX6_follow_1 12 rfl rfl)
theorem dX6_follow_38 : decode cX6_follow 38 = .ok (.iconst 1, 1) := dk_4 (dk_at dksX6_follow_1 15 rfl rfl)
theorem dX6_follow_39 : decode cX6_follow 39 = .ok (.if_icmp .le 9, 3) := dk_164 0 9 (dk_at dksX6_follow_1 16 rfl rfl)
theorem dX6_follow_42 : decode cX6_follow 42 = .ok (.aload_n 0, 1) := dk_42 (dk_at dksX6_follow_1 19 rfl rfl)
theorem dX6_follow_43 : decode cX6_follow 43 = .ok (.iconst 5, 1) := dk_8 (dk_at dksX6_follow_1 20 rfl rfl)
theorem dX6_follow_44 : decode cX6_follow 44 = .ok (.invokevirtual 113, 3) := dk_182 0 113 (dk_at dksX6_follow_1 21 rfl rfl)
theorem dX6_follow_47 : decode cX6_follow 47 = .ok (.ireturn, 1) := dk_172 (dk_at dksX6_follow_2 0 rfl rfl)
theorem dX6_follow_48 : decode cX6_follow 48 = .ok (.aload_n 3, 1) := dk_45 (dk_at dksX6_follow_2 1 rfl rfl)
theorem dX6_follow_49 : decode cX6_follow 49 = .ok (.iload_n 2, 1) := dk_28 (dk_at dksX6_follow_2 2 rfl rfl)
theorem dX6_follow_50 : decode cX6_follow 50 = .ok (.putfield 292, 3) := dk_181 1 36 (dk_at dksX6_follow_2 3 rfl rfl)
theorem dX6_follow_53 : decode cX6_follow 53 = .ok (.aload_n 0, 1) := dk_42 (dk_at dksX6_follow_2 6 rfl rfl)
theorem dX6_follow_54 : decode cX6_follow 54 = .ok (.invokevirtual 117, 3) := dk_182 0 117 (dk_at dksX6_follow_2 7 rfl rfl)
theorem dX6_follow_57 : decode cX6_follow 57 = .ok (.ireturn, 1) := dk_172 (dk_at dksX6_follow_2 10 rfl rfl)
abbrev cX6_isTeam : ByteArray := prog_16_method_36_code
def yX6_isTeam : MethodName := ⟨RX6, "isTeam", "(I)Z"⟩
def dkwX6_isTeam_0 : List UInt8 := [27, 155, 0, 15, 27, 42, 180, 0, 94, 162, 0, 7, 4, 167, 0, 4, 3, 172]
abbrev dktX6_isTeam_0 : List UInt8 := dkwX6_isTeam_0 ++ []
theorem dksX6_isTeam_0 : cX6_isTeam.data.toList.drop 0 = dktX6_isTeam_0 := by decide +kernel
theorem dX6_isTeam_0 : decode cX6_isTeam 0 = .ok (.iload_n 1, 1) := dk_27 (dk_at dksX6_isTeam_0 0 rfl rfl)
theorem dX6_isTeam_1 : decode cX6_isTeam 1 = .ok (.ifCond .lt 15, 3) := dk_155 0 15 (dk_at dksX6_isTeam_0 1 rfl rfl)
theorem dX6_isTeam_4 : decode cX6_isTeam 4 = .ok (.iload_n 1, 1) := dk_27 (dk_at dksX6_isTeam_0 4 rfl rfl)
theorem dX6_isTeam_5 : decode cX6_isTeam 5 = .ok (.aload_n 0, 1) := dk_42 (dk_at dksX6_isTeam_0 5 rfl rfl)
theorem dX6_isTeam_6 : decode cX6_isTeam 6 = .ok (.getfield 94, 3) := dk_180 0 94 (dk_at dksX6_isTeam_0 6 rfl rfl)
theorem dX6_isTeam_9 : decode cX6_isTeam 9 = .ok (.if_icmp .ge 7, 3) := dk_162 0 7 (dk_at dksX6_isTeam_0 9 rfl rfl)
theorem dX6_isTeam_12 : decode cX6_isTeam 12 = .ok (.iconst 1, 1) := dk_4 (dk_at dksX6_isTeam_0 12 rfl rfl)
theorem dX6_isTeam_13 : decode cX6_isTeam 13 = .ok (.goto 4, 3) := dk_167 0 4 (dk_at dksX6_isTeam_0 13 rfl rfl)
theorem dX6_isTeam_16 : decode cX6_isTeam 16 = .ok (.iconst 0, 1) := dk_3 (dk_at dksX6_isTeam_0 16 rfl rfl)
theorem dX6_isTeam_17 : decode cX6_isTeam 17 = .ok (.ireturn, 1) := dk_172 (dk_at dksX6_isTeam_0 17 rfl rfl)
abbrev cX6_gap : ByteArray := prog_16_method_40_code
def yX6_gap : MethodName := ⟨RX6, "gap", "(III)I"⟩
def dkwX6_gap_4 : List UInt8 := [89, 180, 1, 39, 4, 96, 181, 1, 39, 42, 25, 4, 180, 1, 39, 182, 0, 129, 172]
abbrev dktX6_gap_4 : List UInt8 := dkwX6_gap_4 ++ []
def dkwX6_gap_3 : List UInt8 := [180, 1, 42, 25, 4, 180, 1, 39, 28, 79, 25, 4, 180, 1, 45, 25, 4, 180, 1, 39, 29, 79, 25, 4]
abbrev dktX6_gap_3 : List UInt8 := dkwX6_gap_3 ++ dktX6_gap_4
def dkwX6_gap_2 : List UInt8 := [180, 0, 34, 27, 50, 58, 4, 25, 4, 180, 1, 39, 7, 160, 0, 9, 42, 6, 182, 0, 121, 172, 25, 4]
abbrev dktX6_gap_2 : List UInt8 := dkwX6_gap_2 ++ dktX6_gap_3
def dkwX6_gap_1 : List UInt8 := [184, 0, 125, 153, 0, 14, 29, 28, 17, 7, 208, 184, 0, 125, 154, 0, 9, 42, 5, 182, 0, 121, 172, 42]
abbrev dktX6_gap_1 : List UInt8 := dkwX6_gap_1 ++ dktX6_gap_2
def dkwX6_gap_0 : List UInt8 := [42, 3, 181, 0, 1, 42, 27, 182, 1, 30, 154, 0, 9, 42, 4, 182, 0, 121, 172, 28, 3, 17, 7, 208]
abbrev dktX6_gap_0 : List UInt8 := dkwX6_gap_0 ++ dktX6_gap_1
theorem dksX6_gap_0 : cX6_gap.data.toList.drop 0 = dktX6_gap_0 := by decide +kernel
theorem dksX6_gap_1 : cX6_gap.data.toList.drop 24 = dktX6_gap_1 := dk_seg dksX6_gap_0 24 rfl rfl
theorem dksX6_gap_2 : cX6_gap.data.toList.drop 48 = dktX6_gap_2 := dk_seg dksX6_gap_1 24 rfl rfl
theorem dksX6_gap_3 : cX6_gap.data.toList.drop 72 = dktX6_gap_3 := dk_seg dksX6_gap_2 24 rfl rfl
theorem dksX6_gap_4 : cX6_gap.data.toList.drop 96 = dktX6_gap_4 := dk_seg dksX6_gap_3 24 rfl rfl
theorem dX6_gap_0 : decode cX6_gap 0 = .ok (.aload_n 0, 1) := dk_42 (dk_at dksX6_gap_0 0 rfl rfl)
theorem dX6_gap_1 : decode cX6_gap 1 = .ok (.iconst 0, 1) := dk_3 (dk_at dksX6_gap_0 1 rfl rfl)
theorem dX6_gap_2 : decode cX6_gap 2 = .ok (.putfield 1, 3) := dk_181 0 1 (dk_at dksX6_gap_0 2 rfl rfl)
theorem dX6_gap_5 : decode cX6_gap 5 = .ok (.aload_n 0, 1) := dk_42 (dk_at dksX6_gap_0 5 rfl rfl)
theorem dX6_gap_6 : decode cX6_gap 6 = .ok (.iload_n 1, 1) := dk_27 (dk_at dksX6_gap_0 6 rfl rfl)
theorem dX6_gap_7 : decode cX6_gap 7 = .ok (.invokevirtual 286, 3) := dk_182 1 30 (dk_at dksX6_gap_0 7 rfl rfl)
theorem dX6_gap_10 : decode cX6_gap 10 = .ok (.ifCond .ne 9, 3) := dk_154 0 9 (dk_at dksX6_gap_0 10 rfl rfl)
theorem dX6_gap_13 : decode cX6_gap 13 = .ok (.aload_n 0, 1) := dk_42 (dk_at dksX6_gap_0 13 rfl rfl)
theorem dX6_gap_14 : decode cX6_gap 14 = .ok (.iconst 1, 1) := dk_4 (dk_at dksX6_gap_0 14 rfl rfl)
theorem dX6_gap_15 : decode cX6_gap 15 = .ok (.invokevirtual 121, 3) := dk_182 0 121 (dk_at dksX6_gap_0 15 rfl rfl)
theorem dX6_gap_18 : decode cX6_gap 18 = .ok (.ireturn, 1) := dk_172 (dk_at dksX6_gap_0 18 rfl rfl)
theorem dX6_gap_19 : decode cX6_gap 19 = .ok (.iload_n 2, 1) := dk_28 (dk_at dksX6_gap_0 19 rfl rfl)
theorem dX6_gap_20 : decode cX6_gap 20 = .ok (.iconst 0, 1) := dk_3 (dk_at dksX6_gap_0 20 rfl rfl)
theorem dX6_gap_21 : decode cX6_gap 21 = .ok (.sipush 2000, 3) := dk_17 7 208 (dk_at dksX6_gap_0 21 rfl rfl)
theorem dX6_gap_24 : decode cX6_gap 24 = .ok (.invokestatic 125, 3) := dk_184 0 125 (dk_at dksX6_gap_1 0 rfl rfl)
theorem dX6_gap_27 : decode cX6_gap 27 = .ok (.ifCond .eq 14, 3) := dk_153 0 14 (dk_at dksX6_gap_1 3 rfl rfl)
theorem dX6_gap_30 : decode cX6_gap 30 = .ok (.iload_n 3, 1) := dk_29 (dk_at dksX6_gap_1 6 rfl rfl)
theorem dX6_gap_31 : decode cX6_gap 31 = .ok (.iload_n 2, 1) := dk_28 (dk_at dksX6_gap_1 7 rfl rfl)
theorem dX6_gap_32 : decode cX6_gap 32 = .ok (.sipush 2000, 3) := dk_17 7 208 (dk_at dksX6_gap_1 8 rfl rfl)
theorem dX6_gap_35 : decode cX6_gap 35 = .ok (.invokestatic 125, 3) := dk_184 0 125 (dk_at dksX6_gap_1 11 rfl rfl)
theorem dX6_gap_38 : decode cX6_gap 38 = .ok (.ifCond .ne 9, 3) := dk_154 0 9 (dk_at dksX6_gap_1 14 rfl rfl)
theorem dX6_gap_41 : decode cX6_gap 41 = .ok (.aload_n 0, 1) := dk_42 (dk_at dksX6_gap_1 17 rfl rfl)
theorem dX6_gap_42 : decode cX6_gap 42 = .ok (.iconst 2, 1) := dk_5 (dk_at dksX6_gap_1 18 rfl rfl)
theorem dX6_gap_43 : decode cX6_gap 43 = .ok (.invokevirtual 121, 3) := dk_182 0 121 (dk_at dksX6_gap_1 19 rfl rfl)
theorem dX6_gap_46 : decode cX6_gap 46 = .ok (.ireturn, 1) := dk_172 (dk_at dksX6_gap_1 22 rfl rfl)
theorem dX6_gap_47 : decode cX6_gap 47 = .ok (.aload_n 0, 1) := dk_42 (dk_at dksX6_gap_1 23 rfl rfl)
theorem dX6_gap_48 : decode cX6_gap 48 = .ok (.getfield 34, 3) := dk_180 0 34 (dk_at dksX6_gap_2 0 rfl rfl)
theorem dX6_gap_51 : decode cX6_gap 51 = .ok (.iload_n 1, 1) := dk_27 (dk_at dksX6_gap_2 3 rfl rfl)
theorem dX6_gap_52 : decode cX6_gap 52 = .ok (.aaload, 1) := dk_50 (dk_at dksX6_gap_2 4 rfl rfl)
theorem dX6_gap_53 : decode cX6_gap 53 = .ok (.astore 4, 2) := dk_58 4 (dk_at dksX6_gap_2 5 rfl rfl)
theorem dX6_gap_55 : decode cX6_gap 55 = .ok (.aload 4, 2) := dk_25 4 (dk_at dksX6_gap_2 7 rfl rfl)
theorem dX6_gap_57 : decode cX6_gap 57 = .ok (.getfield 295, 3) := dk_180 1 39 (dk_at dksX6_gap_2 9 rfl rfl)
theorem dX6_gap_60 : decode cX6_gap 60 = .ok (.iconst 4, 1) := dk_7 (dk_at dksX6_gap_2 12 rfl rfl)
theorem dX6_gap_61 : decode cX6_gap 61 = .ok (.if_icmp .ne 9, 3) := dk_160 0 9 (dk_at dksX6_gap_2 13 rfl rfl)
theorem dX6_gap_64 : decode cX6_gap 64 = .ok (.aload_n 0, 1) := dk_42 (dk_at dksX6_gap_2 16 rfl rfl)
theorem dX6_gap_65 : decode cX6_gap 65 = .ok (.iconst 3, 1) := dk_6 (dk_at dksX6_gap_2 17 rfl rfl)
theorem dX6_gap_66 : decode cX6_gap 66 = .ok (.invokevirtual 121, 3) := dk_182 0 121 (dk_at dksX6_gap_2 18 rfl rfl)
theorem dX6_gap_69 : decode cX6_gap 69 = .ok (.ireturn, 1) := dk_172 (dk_at dksX6_gap_2 21 rfl rfl)
theorem dX6_gap_70 : decode cX6_gap 70 = .ok (.aload 4, 2) := dk_25 4 (dk_at dksX6_gap_2 22 rfl rfl)
theorem dX6_gap_72 : decode cX6_gap 72 = .ok (.getfield 298, 3) := dk_180 1 42 (dk_at dksX6_gap_3 0 rfl rfl)
theorem dX6_gap_75 : decode cX6_gap 75 = .ok (.aload 4, 2) := dk_25 4 (dk_at dksX6_gap_3 3 rfl rfl)
theorem dX6_gap_77 : decode cX6_gap 77 = .ok (.getfield 295, 3) := dk_180 1 39 (dk_at dksX6_gap_3 5 rfl rfl)
theorem dX6_gap_80 : decode cX6_gap 80 = .ok (.iload_n 2, 1) := dk_28 (dk_at dksX6_gap_3 8 rfl rfl)
theorem dX6_gap_81 : decode cX6_gap 81 = .ok (.iastore, 1) := dk_79 (dk_at dksX6_gap_3 9 rfl rfl)
theorem dX6_gap_82 : decode cX6_gap 82 = .ok (.aload 4, 2) := dk_25 4 (dk_at dksX6_gap_3 10 rfl rfl)
theorem dX6_gap_84 : decode cX6_gap 84 = .ok (.getfield 301, 3) := dk_180 1 45 (dk_at dksX6_gap_3 12 rfl rfl)
theorem dX6_gap_87 : decode cX6_gap 87 = .ok (.aload 4, 2) := dk_25 4 (dk_at dksX6_gap_3 15 rfl rfl)
theorem dX6_gap_89 : decode cX6_gap 89 = .ok (.getfield 295, 3) := dk_180 1 39 (dk_at dksX6_gap_3 17 rfl rfl)
theorem dX6_gap_92 : decode cX6_gap 92 = .ok (.iload_n 3, 1) := dk_29 (dk_at dksX6_gap_3 20 rfl rfl)
theorem dX6_gap_93 : decode cX6_gap 93 = .ok (.iastore, 1) := dk_79 (dk_at dksX6_gap_3 21 rfl rfl)
theorem dX6_gap_94 : decode cX6_gap 94 = .ok (.aload 4, 2) := dk_25 4 (dk_at dksX6_gap_3 22 rfl rfl)
theorem dX6_gap_96 : decode cX6_gap 96 = .ok (.dup, 1) := dk_89 (dk_at dksX6_gap_4 0 rfl rfl)
theorem dX6_gap_97 : decode cX6_gap 97 = .ok (.getfield 295, 3) := dk_180 1 39 (dk_at dksX6_gap_4 1 rfl rfl)
theorem dX6_gap_100 : decode cX6_gap 100 = .ok (.iconst 1, 1) := dk_4 (dk_at dksX6_gap_4 4 rfl rfl)
theorem dX6_gap_101 : decode cX6_gap 101 = .ok (.iadd, 1) := dk_96 (dk_at dksX6_gap_4 5 rfl rfl)
theorem dX6_gap_102 : decode cX6_gap 102 = .ok (.putfield 295, 3) := dk_181 1 39 (dk_at dksX6_gap_4 6 rfl rfl)
theorem dX6_gap_105 : decode cX6_gap 105 = .ok (.aload_n 0, 1) := dk_42 (dk_at dksX6_gap_4 9 rfl rfl)
theorem dX6_gap_106 : decode cX6_gap 106 = .ok (.aload 4, 2) := dk_25 4 (dk_at dksX6_gap_4 10 rfl rfl)
theorem dX6_gap_108 : decode cX6_gap 108 = .ok (.getfield 295, 3) := dk_180 1 39 (dk_at dksX6_gap_4 12 rfl rfl)
theorem dX6_gap_111 : decode cX6_gap 111 = .ok (.invokevirtual 129, 3) := dk_182 0 129 (dk_at dksX6_gap_4 15 rfl rfl)
theorem dX6_gap_114 : decode cX6_gap 114 = .ok (.ireturn, 1) := dk_172 (dk_at dksX6_gap_4 18 rfl rfl)
abbrev cX6_each : ByteArray := prog_16_method_41_code
def yX6_each : MethodName := ⟨RX6, "each", "(I)Z"⟩
def dkwX6_each_1 : List UInt8 := [184, 0, 125, 154, 0, 9, 42, 5, 182, 0, 113, 172, 42, 27, 181, 0, 19, 42, 182, 0, 117, 172]
abbrev dktX6_each_1 : List UInt8 := dkwX6_each_1 ++ []
def dkwX6_each_0 : List UInt8 := [42, 3, 181, 0, 1, 42, 180, 0, 100, 158, 0, 9, 42, 8, 182, 0, 113, 172, 27, 4, 16, 48]
abbrev dktX6_each_0 : List UInt8 := dkwX6_each_0 ++ dktX6_each_1
theorem dksX6_each_0 : cX6_each.data.toList.drop 0 = dktX6_each_0 := by decide +kernel
theorem dksX6_each_1 : cX6_each.data.toList.drop 22 = dktX6_each_1 := dk_seg dksX6_each_0 22 rfl rfl
theorem dX6_each_0 : decode cX6_each 0 = .ok (.aload_n 0, 1) := dk_42 (dk_at dksX6_each_0 0 rfl rfl)
theorem dX6_each_1 : decode cX6_each 1 = .ok (.iconst 0, 1) := dk_3 (dk_at dksX6_each_0 1 rfl rfl)
theorem dX6_each_2 : decode cX6_each 2 = .ok (.putfield 1, 3) := dk_181 0 1 (dk_at dksX6_each_0 2 rfl rfl)
theorem dX6_each_5 : decode cX6_each 5 = .ok (.aload_n 0, 1) := dk_42 (dk_at dksX6_each_0 5 rfl rfl)
theorem dX6_each_6 : decode cX6_each 6 = .ok (.getfield 100, 3) := dk_180 0 100 (dk_at dksX6_each_0 6 rfl rfl)
theorem dX6_each_9 : decode cX6_each 9 = .ok (.ifCond .le 9, 3) := dk_158 0 9 (dk_at dksX6_each_0 9 rfl rfl)
theorem dX6_each_12 : decode cX6_each 12 = .ok (.aload_n 0, 1) := dk_42 (dk_at dksX6_each_0 12 rfl rfl)
theorem dX6_each_13 : decode cX6_each 13 = .ok (.iconst 5, 1) := dk_8 (dk_at dksX6_each_0 13 rfl rfl)
theorem dX6_each_14 : decode cX6_each 14 = .ok (.invokevirtual 113, 3) := dk_182 0 113 (dk_at dksX6_each_0 14 rfl rfl)
theorem dX6_each_17 : decode cX6_each 17 = .ok (.ireturn, 1) := dk_172 (dk_at dksX6_each_0 17 rfl rfl)
theorem dX6_each_18 : decode cX6_each 18 = .ok (.iload_n 1, 1) := dk_27 (dk_at dksX6_each_0 18 rfl rfl)
theorem dX6_each_19 : decode cX6_each 19 = .ok (.iconst 1, 1) := dk_4 (dk_at dksX6_each_0 19 rfl rfl)
theorem dX6_each_20 : decode cX6_each 20 = .ok (.bipush 48, 2) := dk_16 48 (dk_at dksX6_each_0 20 rfl rfl)
theorem dX6_each_22 : decode cX6_each 22 = .ok (.invokestatic 125, 3) := dk_184 0 125 (dk_at dksX6_each_1 0 rfl rfl)
theorem dX6_each_25 : decode cX6_each 25 = .ok (.ifCond .ne 9, 3) := dk_154 0 9 (dk_at dksX6_each_1 3 rfl rfl)
theorem dX6_each_28 : decode cX6_each 28 = .ok (.aload_n 0, 1) := dk_42 (dk_at dksX6_each_1 6 rfl rfl)
theorem dX6_each_29 : decode cX6_each 29 = .ok (.iconst 2, 1) := dk_5 (dk_at dksX6_each_1 7 rfl rfl)
theorem dX6_each_30 : decode cX6_each 30 = .ok (.invokevirtual 113, 3) := dk_182 0 113 (dk_at dksX6_each_1 8 rfl rfl)
theorem dX6_each_33 : decode cX6_each 33 = .ok (.ireturn, 1) := dk_172 (dk_at dksX6_each_1 11 rfl rfl)
theorem dX6_each_34 : decode cX6_each 34 = .ok (.aload_n 0, 1) := dk_42 (dk_at dksX6_each_1 12 rfl rfl)
theorem dX6_each_35 : decode cX6_each 35 = .ok (.iload_n 1, 1) := dk_27 (dk_at dksX6_each_1 13 rfl rfl)
theorem dX6_each_36 : decode cX6_each 36 = .ok (.putfield 19, 3) := dk_181 0 19 (dk_at dksX6_each_1 14 rfl rfl)
theorem dX6_each_39 : decode cX6_each 39 = .ok (.aload_n 0, 1) := dk_42 (dk_at dksX6_each_1 17 rfl rfl)
theorem dX6_each_40 : decode cX6_each 40 = .ok (.invokevirtual 117, 3) := dk_182 0 117 (dk_at dksX6_each_1 18 rfl rfl)
theorem dX6_each_43 : decode cX6_each 43 = .ok (.ireturn, 1) := dk_172 (dk_at dksX6_each_1 21 rfl rfl)
abbrev cX6_run : ByteArray := prog_16_method_49_code
def yX6_run : MethodName := ⟨RX6, "run", "(I)I"⟩
def dkwX6_run_8 : List UInt8 := [96, 181, 0, 100, 132, 2, 1, 167, 255, 99, 42, 28, 182, 0, 129, 172]
abbrev dktX6_run_8 : List UInt8 := dkwX6_run_8 ++ []
def dkwX6_run_7 : List UInt8 := [79, 25, 4, 89, 180, 1, 129, 4, 96, 181, 1, 129, 132, 3, 1, 167, 255, 159, 42, 89, 180, 0, 100, 4]
abbrev dktX6_run_7 : List UInt8 := dkwX6_run_7 ++ dktX6_run_8
def dkwX6_run_6 : List UInt8 := [180, 1, 129, 42, 180, 0, 100, 79, 25, 4, 180, 1, 132, 25, 4, 180, 1, 129, 42, 25, 4, 182, 1, 135]
abbrev dktX6_run_6 : List UInt8 := dkwX6_run_6 ++ dktX6_run_7
def dkwX6_run_5 : List UInt8 := [25, 4, 42, 180, 0, 100, 182, 1, 123, 153, 0, 6, 167, 0, 46, 25, 4, 180, 1, 126, 25, 4]
abbrev dktX6_run_5 : List UInt8 := dkwX6_run_5 ++ dktX6_run_6
def dkwX6_run_4 : List UInt8 := [50, 58, 4, 42, 180, 0, 100, 42, 180, 0, 19, 112, 154, 0, 69, 25, 4, 180, 1, 33, 153, 0, 61]
abbrev dktX6_run_4 : List UInt8 := dkwX6_run_4 ++ dktX6_run_5
def dkwX6_run_3 : List UInt8 := [182, 1, 119, 132, 3, 1, 167, 255, 231, 3, 62, 29, 42, 180, 0, 94, 162, 0, 95, 42, 180, 0, 34, 29]
abbrev dktX6_run_3 : List UInt8 := dkwX6_run_3 ++ dktX6_run_4
def dkwX6_run_2 : List UInt8 := [154, 0, 151, 3, 62, 29, 42, 180, 0, 94, 162, 0, 23, 42, 42, 180, 0, 34, 29, 50, 42, 180, 0, 100]
abbrev dktX6_run_2 : List UInt8 := dkwX6_run_2 ++ dktX6_run_3
def dkwX6_run_1 : List UInt8 := [184, 0, 125, 154, 0, 9, 42, 5, 182, 0, 121, 172, 3, 61, 28, 27, 162, 0, 158, 42, 182, 1, 116]
abbrev dktX6_run_1 : List UInt8 := dkwX6_run_1 ++ dktX6_run_2
def dkwX6_run_0 : List UInt8 := [42, 3, 181, 0, 1, 42, 182, 1, 116, 153, 0, 9, 42, 8, 182, 0, 121, 172, 27, 4, 17, 1, 244]
abbrev dktX6_run_0 : List UInt8 := dkwX6_run_0 ++ dktX6_run_1
theorem dksX6_run_0 : cX6_run.data.toList.drop 0 = dktX6_run_0 := by decide +kernel
theorem dksX6_run_1 : cX6_run.data.toList.drop 23 = dktX6_run_1 := dk_seg dksX6_run_0 23 rfl rfl
theorem dksX6_run_2 : cX6_run.data.toList.drop 46 = dktX6_run_2 := dk_seg dksX6_run_1 23 rfl rfl
theorem dksX6_run_3 : cX6_run.data.toList.drop 70 = dktX6_run_3 := dk_seg dksX6_run_2 24 rfl rfl
theorem dksX6_run_4 : cX6_run.data.toList.drop 94 = dktX6_run_4 := dk_seg dksX6_run_3 24 rfl rfl
theorem dksX6_run_5 : cX6_run.data.toList.drop 117 = dktX6_run_5 := dk_seg dksX6_run_4 23 rfl rfl
theorem dksX6_run_6 : cX6_run.data.toList.drop 139 = dktX6_run_6 := dk_seg dksX6_run_5 22 rfl rfl
theorem dksX6_run_7 : cX6_run.data.toList.drop 163 = dktX6_run_7 := dk_seg dksX6_run_6 24 rfl rfl
theorem dksX6_run_8 : cX6_run.data.toList.drop 187 = dktX6_run_8 := dk_seg dksX6_run_7 24 rfl rfl
theorem dX6_run_0 : decode cX6_run 0 = .ok (.aload_n 0, 1) := dk_42 (dk_at dksX6_run_0 0 rfl rfl)
theorem dX6_run_1 : decode cX6_run 1 = .ok (.iconst 0, 1) := dk_3 (dk_at dksX6_run_0 1 rfl rfl)
theorem dX6_run_2 : decode cX6_run 2 = .ok (.putfield 1, 3) := dk_181 0 1 (dk_at dksX6_run_0 2 rfl rfl)
theorem dX6_run_5 : decode cX6_run 5 = .ok (.aload_n 0, 1) := dk_42 (dk_at dksX6_run_0 5 rfl rfl)
theorem dX6_run_6 : decode cX6_run 6 = .ok (.invokevirtual 372, 3) := dk_182 1 116 (dk_at dksX6_run_0 6 rfl rfl)
theorem dX6_run_9 : decode cX6_run 9 = .ok (.ifCond .eq 9, 3) := dk_153 0 9 (dk_at dksX6_run_0 9 rfl rfl)
theorem dX6_run_12 : decode cX6_run 12 = .ok (.aload_n 0, 1) := dk_42 (dk_at dksX6_run_0 12 rfl rfl)
theorem dX6_run_13 : decode cX6_run 13 = .ok (.iconst 5, 1) := dk_8 (dk_at dksX6_run_0 13 rfl rfl)
theorem dX6_run_14 : decode cX6_run 14 = .ok (.invokevirtual 121, 3) := dk_182 0 121 (dk_at dksX6_run_0 14 rfl rfl)
theorem dX6_run_17 : decode cX6_run 17 = .ok (.ireturn, 1) := dk_172 (dk_at dksX6_run_0 17 rfl rfl)
theorem dX6_run_18 : decode cX6_run 18 = .ok (.iload_n 1, 1) := dk_27 (dk_at dksX6_run_0 18 rfl rfl)
theorem dX6_run_19 : decode cX6_run 19 = .ok (.iconst 1, 1) := dk_4 (dk_at dksX6_run_0 19 rfl rfl)
theorem dX6_run_20 : decode cX6_run 20 = .ok (.sipush 500, 3) := dk_17 1 244 (dk_at dksX6_run_0 20 rfl rfl)
theorem dX6_run_23 : decode cX6_run 23 = .ok (.invokestatic 125, 3) := dk_184 0 125 (dk_at dksX6_run_1 0 rfl rfl)
theorem dX6_run_26 : decode cX6_run 26 = .ok (.ifCond .ne 9, 3) := dk_154 0 9 (dk_at dksX6_run_1 3 rfl rfl)
theorem dX6_run_29 : decode cX6_run 29 = .ok (.aload_n 0, 1) := dk_42 (dk_at dksX6_run_1 6 rfl rfl)
theorem dX6_run_30 : decode cX6_run 30 = .ok (.iconst 2, 1) := dk_5 (dk_at dksX6_run_1 7 rfl rfl)
theorem dX6_run_31 : decode cX6_run 31 = .ok (.invokevirtual 121, 3) := dk_182 0 121 (dk_at dksX6_run_1 8 rfl rfl)
theorem dX6_run_34 : decode cX6_run 34 = .ok (.ireturn, 1) := dk_172 (dk_at dksX6_run_1 11 rfl rfl)
theorem dX6_run_35 : decode cX6_run 35 = .ok (.iconst 0, 1) := dk_3 (dk_at dksX6_run_1 12 rfl rfl)
theorem dX6_run_36 : decode cX6_run 36 = .ok (.istore_n 2, 1) := dk_61 (dk_at dksX6_run_1 13 rfl rfl)
theorem dX6_run_37 : decode cX6_run 37 = .ok (.iload_n 2, 1) := dk_28 (dk_at dksX6_run_1 14 rfl rfl)
theorem dX6_run_38 : decode cX6_run 38 = .ok (.iload_n 1, 1) := dk_27 (dk_at dksX6_run_1 15 rfl rfl)
theorem dX6_run_39 : decode cX6_run 39 = .ok (.if_icmp .ge 158, 3) := dk_162 0 158 (dk_at dksX6_run_1 16 rfl rfl)
theorem dX6_run_42 : decode cX6_run 42 = .ok (.aload_n 0, 1) := dk_42 (dk_at dksX6_run_1 19 rfl rfl)
theorem dX6_run_43 : decode cX6_run 43 = .ok (.invokevirtual 372, 3) := dk_182 1 116 (dk_at dksX6_run_1 20 rfl rfl)
theorem dX6_run_46 : decode cX6_run 46 = .ok (.ifCond .ne 151, 3) := dk_154 0 151 (dk_at dksX6_run_2 0 rfl rfl)
theorem dX6_run_49 : decode cX6_run 49 = .ok (.iconst 0, 1) := dk_3 (dk_at dksX6_run_2 3 rfl rfl)
theorem dX6_run_50 : decode cX6_run 50 = .ok (.istore_n 3, 1) := dk_62 (dk_at dksX6_run_2 4 rfl rfl)
theorem dX6_run_51 : decode cX6_run 51 = .ok (.iload_n 3, 1) := dk_29 (dk_at dksX6_run_2 5 rfl rfl)
theorem dX6_run_52 : decode cX6_run 52 = .ok (.aload_n 0, 1) := dk_42 (dk_at dksX6_run_2 6 rfl rfl)
theorem dX6_run_53 : decode cX6_run 53 = .ok (.getfield 94, 3) := dk_180 0 94 (dk_at dksX6_run_2 7 rfl rfl)
theorem dX6_run_56 : decode cX6_run 56 = .ok (.if_icmp .ge 23, 3) := dk_162 0 23 (dk_at dksX6_run_2 10 rfl rfl)
theorem dX6_run_59 : decode cX6_run 59 = .ok (.aload_n 0, 1) := dk_42 (dk_at dksX6_run_2 13 rfl rfl)
theorem dX6_run_60 : decode cX6_run 60 = .ok (.aload_n 0, 1) := dk_42 (dk_at dksX6_run_2 14 rfl rfl)
theorem dX6_run_61 : decode cX6_run 61 = .ok (.getfield 34, 3) := dk_180 0 34 (dk_at dksX6_run_2 15 rfl rfl)
theorem dX6_run_64 : decode cX6_run 64 = .ok (.iload_n 3, 1) := dk_29 (dk_at dksX6_run_2 18 rfl rfl)
theorem dX6_run_65 : decode cX6_run 65 = .ok (.aaload, 1) := dk_50 (dk_at dksX6_run_2 19 rfl rfl)
theorem dX6_run_66 : decode cX6_run 66 = .ok (.aload_n 0, 1) := dk_42 (dk_at dksX6_run_2 20 rfl rfl)
theorem dX6_run_67 : decode cX6_run 67 = .ok (.getfield 100, 3) := dk_180 0 100 (dk_at dksX6_run_2 21 rfl rfl)
theorem dX6_run_70 : decode cX6_run 70 = .ok (.invokevirtual 375, 3) := dk_182 1 119 (dk_at dksX6_run_3 0 rfl rfl)
theorem dX6_run_73 : decode cX6_run 73 = .ok (.iinc 3 1, 3) := dk_132 3 1 (dk_at dksX6_run_3 3 rfl rfl)
theorem dX6_run_76 : decode cX6_run 76 = .ok (.goto (-25), 3) := dk_167 255 231 (dk_at dksX6_run_3 6 rfl rfl)
theorem dX6_run_79 : decode cX6_run 79 = .ok (.iconst 0, 1) := dk_3 (dk_at dksX6_run_3 9 rfl rfl)
theorem dX6_run_80 : decode cX6_run 80 = .ok (.istore_n 3, 1) := dk_62 (dk_at dksX6_run_3 10 rfl rfl)
theorem dX6_run_81 : decode cX6_run 81 = .ok (.iload_n 3, 1) := dk_29 (dk_at dksX6_run_3 11 rfl rfl)
theorem dX6_run_82 : decode cX6_run 82 = .ok (.aload_n 0, 1) := dk_42 (dk_at dksX6_run_3 12 rfl rfl)
theorem dX6_run_83 : decode cX6_run 83 = .ok (.getfield 94, 3) := dk_180 0 94 (dk_at dksX6_run_3 13 rfl rfl)
theorem dX6_run_86 : decode cX6_run 86 = .ok (.if_icmp .ge 95, 3) := dk_162 0 95 (dk_at dksX6_run_3 16 rfl rfl)
theorem dX6_run_89 : decode cX6_run 89 = .ok (.aload_n 0, 1) := dk_42 (dk_at dksX6_run_3 19 rfl rfl)
theorem dX6_run_90 : decode cX6_run 90 = .ok (.getfield 34, 3) := dk_180 0 34 (dk_at dksX6_run_3 20 rfl rfl)
theorem dX6_run_93 : decode cX6_run 93 = .ok (.iload_n 3, 1) := dk_29 (dk_at dksX6_run_3 23 rfl rfl)
theorem dX6_run_94 : decode cX6_run 94 = .ok (.aaload, 1) := dk_50 (dk_at dksX6_run_4 0 rfl rfl)
theorem dX6_run_95 : decode cX6_run 95 = .ok (.astore 4, 2) := dk_58 4 (dk_at dksX6_run_4 1 rfl rfl)
theorem dX6_run_97 : decode cX6_run 97 = .ok (.aload_n 0, 1) := dk_42 (dk_at dksX6_run_4 3 rfl rfl)
theorem dX6_run_98 : decode cX6_run 98 = .ok (.getfield 100, 3) := dk_180 0 100 (dk_at dksX6_run_4 4 rfl rfl)
theorem dX6_run_101 : decode cX6_run 101 = .ok (.aload_n 0, 1) := dk_42 (dk_at dksX6_run_4 7 rfl rfl)
theorem dX6_run_102 : decode cX6_run 102 = .ok (.getfield 19, 3) := dk_180 0 19 (dk_at dksX6_run_4 8 rfl rfl)
theorem dX6_run_105 : decode cX6_run 105 = .ok (.irem, 1) := dk_112 (dk_at dksX6_run_4 11 rfl rfl)
theorem dX6_run_106 : decode cX6_run 106 = .ok (.ifCond .ne 69, 3) := dk_154 0 69 (dk_at dksX6_run_4 12 rfl rfl)
theorem dX6_run_109 : decode cX6_run 109 = .ok (.aload 4, 2) := dk_25 4 (dk_at dksX6_run_4 15 rfl rfl)
theorem dX6_run_111 : decode cX6_run 111 = .ok (.getfield 289, 3) := dk_180 1 33 (dk_at dksX6_run_4 17 rfl rfl)
theorem dX6_run_114 : decode cX6_run 114 = .ok (.ifCond .eq 61, 3) := dk_153 0 61 (dk_at dksX6_run_4 20 rfl rfl)
theorem dX6_run_117 : decode cX6_run 117 = .ok (.aload 4, 2) := dk_25 4 (dk_at dksX6_run_5 0 rfl rfl)
theorem dX6_run_119 : decode cX6_run 119 = .ok (.aload_n 0, 1) := dk_42 (dk_at dksX6_run_5 2 rfl rfl)
theorem dX6_run_120 : decode cX6_run 120 = .ok (.getfield 100, 3) := dk_180 0 100 (dk_at dksX6_run_5 3 rfl rfl)
theorem dX6_run_123 : decode cX6_run 123 = .ok (.invokevirtual 379, 3) := dk_182 1 123 (dk_at dksX6_run_5 6 rfl rfl)
theorem dX6_run_126 : decode cX6_run 126 = .ok (.ifCond .eq 6, 3) := dk_153 0 6 (dk_at dksX6_run_5 9 rfl rfl)
theorem dX6_run_129 : decode cX6_run 129 = .ok (.goto 46, 3) := dk_167 0 46 (dk_at dksX6_run_5 12 rfl rfl)
theorem dX6_run_132 : decode cX6_run 132 = .ok (.aload 4, 2) := dk_25 4 (dk_at dksX6_run_5 15 rfl rfl)
theorem dX6_run_134 : decode cX6_run 134 = .ok (.getfield 382, 3) := dk_180 1 126 (dk_at dksX6_run_5 17 rfl rfl)
theorem dX6_run_137 : decode cX6_run 137 = .ok (.aload 4, 2) := dk_25 4 (dk_at dksX6_run_5 20 rfl rfl)
theorem dX6_run_139 : decode cX6_run 139 = .ok (.getfield 385, 3) := dk_180 1 129 (dk_at dksX6_run_6 0 rfl rfl)
theorem dX6_run_142 : decode cX6_run 142 = .ok (.aload_n 0, 1) := dk_42 (dk_at dksX6_run_6 3 rfl rfl)
theorem dX6_run_143 : decode cX6_run 143 = .ok (.getfield 100, 3) := dk_180 0 100 (dk_at dksX6_run_6 4 rfl rfl)
theorem dX6_run_146 : decode cX6_run 146 = .ok (.iastore, 1) := dk_79 (dk_at dksX6_run_6 7 rfl rfl)
theorem dX6_run_147 : decode cX6_run 147 = .ok (.aload 4, 2) := dk_25 4 (dk_at dksX6_run_6 8 rfl rfl)
theorem dX6_run_149 : decode cX6_run 149 = .ok (.getfield 388, 3) := dk_180 1 132 (dk_at dksX6_run_6 10 rfl rfl)
theorem dX6_run_152 : decode cX6_run 152 = .ok (.aload 4, 2) := dk_25 4 (dk_at dksX6_run_6 13 rfl rfl)
theorem dX6_run_154 : decode cX6_run 154 = .ok (.getfield 385, 3) := dk_180 1 129 (dk_at dksX6_run_6 15 rfl rfl)
theorem dX6_run_157 : decode cX6_run 157 = .ok (.aload_n 0, 1) := dk_42 (dk_at dksX6_run_6 18 rfl rfl)
theorem dX6_run_158 : decode cX6_run 158 = .ok (.aload 4, 2) := dk_25 4 (dk_at dksX6_run_6 19 rfl rfl)
theorem dX6_run_160 : decode cX6_run 160 = .ok (.invokevirtual 391, 3) := dk_182 1 135 (dk_at dksX6_run_6 21 rfl rfl)
theorem dX6_run_163 : decode cX6_run 163 = .ok (.iastore, 1) := dk_79 (dk_at dksX6_run_7 0 rfl rfl)
theorem dX6_run_164 : decode cX6_run 164 = .ok (.aload 4, 2) := dk_25 4 (dk_at dksX6_run_7 1 rfl rfl)
theorem dX6_run_166 : decode cX6_run 166 = .ok (.dup, 1) := dk_89 (dk_at dksX6_run_7 3 rfl rfl)
theorem dX6_run_167 : decode cX6_run 167 = .ok (.getfield 385, 3) := dk_180 1 129 (dk_at dksX6_run_7 4 rfl rfl)
theorem dX6_run_170 : decode cX6_run 170 = .ok (.iconst 1, 1) := dk_4 (dk_at dksX6_run_7 7 rfl rfl)
theorem dX6_run_171 : decode cX6_run 171 = .ok (.iadd, 1) := dk_96 (dk_at dksX6_run_7 8 rfl rfl)
theorem dX6_run_172 : decode cX6_run 172 = .ok (.putfield 385, 3) := dk_181 1 129 (dk_at dksX6_run_7 9 rfl rfl)
theorem dX6_run_175 : decode cX6_run 175 = .ok (.iinc 3 1, 3) := dk_132 3 1 (dk_at dksX6_run_7 12 rfl rfl)
theorem dX6_run_178 : decode cX6_run 178 = .ok (.goto (-97), 3) := dk_167 255 159 (dk_at dksX6_run_7 15 rfl rfl)
theorem dX6_run_181 : decode cX6_run 181 = .ok (.aload_n 0, 1) := dk_42 (dk_at dksX6_run_7 18 rfl rfl)
theorem dX6_run_182 : decode cX6_run 182 = .ok (.dup, 1) := dk_89 (dk_at dksX6_run_7 19 rfl rfl)
theorem dX6_run_183 : decode cX6_run 183 = .ok (.getfield 100, 3) := dk_180 0 100 (dk_at dksX6_run_7 20 rfl rfl)
theorem dX6_run_186 : decode cX6_run 186 = .ok (.iconst 1, 1) := dk_4 (dk_at dksX6_run_7 23 rfl rfl)
theorem dX6_run_187 : decode cX6_run 187 = .ok (.iadd, 1) := dk_96 (dk_at dksX6_run_8 0 rfl rfl)
theorem dX6_run_188 : decode cX6_run 188 = .ok (.putfield 100, 3) := dk_181 0 100 (dk_at dksX6_run_8 1 rfl rfl)
theorem dX6_run_191 : decode cX6_run 191 = .ok (.iinc 2 1, 3) := dk_132 2 1 (dk_at dksX6_run_8 4 rfl rfl)
theorem dX6_run_194 : decode cX6_run 194 = .ok (.goto (-157), 3) := dk_167 255 99 (dk_at dksX6_run_8 7 rfl rfl)
theorem dX6_run_197 : decode cX6_run 197 = .ok (.aload_n 0, 1) := dk_42 (dk_at dksX6_run_8 10 rfl rfl)
theorem dX6_run_198 : decode cX6_run 198 = .ok (.iload_n 2, 1) := dk_28 (dk_at dksX6_run_8 11 rfl rfl)
theorem dX6_run_199 : decode cX6_run 199 = .ok (.invokevirtual 129, 3) := dk_182 0 129 (dk_at dksX6_run_8 12 rfl rfl)
theorem dX6_run_202 : decode cX6_run 202 = .ok (.ireturn, 1) := dk_172 (dk_at dksX6_run_8 15 rfl rfl)
abbrev cX6_isOver : ByteArray := prog_16_method_48_code
def yX6_isOver : MethodName := ⟨RX6, "isOver", "()Z"⟩
def dkwX6_isOver_2 : List UInt8 := [180, 0, 100, 17, 7, 208, 161, 0, 7, 4, 167, 0, 4, 3, 172]
abbrev dktX6_isOver_2 : List UInt8 := dkwX6_isOver_2 ++ []
def dkwX6_isOver_1 : List UInt8 := [180, 1, 33, 5, 162, 0, 7, 4, 167, 0, 4, 3, 60, 132, 2, 1, 167, 255, 222, 27, 153, 0, 13, 42]
abbrev dktX6_isOver_1 : List UInt8 := dkwX6_isOver_1 ++ dktX6_isOver_2
def dkwX6_isOver_0 : List UInt8 := [3, 60, 3, 61, 28, 42, 180, 0, 94, 162, 0, 32, 27, 154, 0, 16, 42, 180, 0, 34, 28, 50]
abbrev dktX6_isOver_0 : List UInt8 := dkwX6_isOver_0 ++ dktX6_isOver_1
theorem dksX6_isOver_0 : cX6_isOver.data.toList.drop 0 = dktX6_isOver_0 := by decide +kernel
theorem dksX6_isOver_1 : cX6_isOver.data.toList.drop 22 = dktX6_isOver_1 := dk_seg dksX6_isOver_0 22 rfl rfl
theorem dksX6_isOver_2 : cX6_isOver.data.toList.drop 46 = dktX6_isOver_2 := dk_seg dksX6_isOver_1 24 rfl rfl
theorem dX6_isOver_0 : decode cX6_isOver 0 = .ok (.iconst 0, 1) := dk_3 (dk_at dksX6_isOver_0 0 rfl rfl)
theorem dX6_isOver_1 : decode cX6_isOver 1 = .ok (.istore_n 1, 1) := dk_60 (dk_at dksX6_isOver_0 1 rfl rfl)
theorem dX6_isOver_2 : decode cX6_isOver 2 = .ok (.iconst 0, 1) := dk_3 (dk_at dksX6_isOver_0 2 rfl rfl)
theorem dX6_isOver_3 : decode cX6_isOver 3 = .ok (.istore_n 2, 1) := dk_61 (dk_at dksX6_isOver_0 3 rfl rfl)
theorem dX6_isOver_4 : decode cX6_isOver 4 = .ok (.iload_n 2, 1) := dk_28 (dk_at dksX6_isOver_0 4 rfl rfl)
theorem dX6_isOver_5 : decode cX6_isOver 5 = .ok (.aload_n 0, 1) := dk_42 (dk_at dksX6_isOver_0 5 rfl rfl)
theorem dX6_isOver_6 : decode cX6_isOver 6 = .ok (.getfield 94, 3) := dk_180 0 94 (dk_at dksX6_isOver_0 6 rfl rfl)
theorem dX6_isOver_9 : decode cX6_isOver 9 = .ok (.if_icmp .ge 32, 3) := dk_162 0 32 (dk_at dksX6_isOver_0 9 rfl rfl)
theorem dX6_isOver_12 : decode cX6_isOver 12 = .ok (.iload_n 1, 1) := dk_27 (dk_at dksX6_isOver_0 12 rfl rfl)
theorem dX6_isOver_13 : decode cX6_isOver 13 = .ok (.ifCond .ne 16, 3) := dk_154 0 16 (dk_at dksX6_isOver_0 13 rfl rfl)
theorem dX6_isOver_16 : decode cX6_isOver 16 = .ok (.aload_n 0, 1) := dk_42 (dk_at dksX6_isOver_0 16 rfl rfl)
theorem dX6_isOver_17 : decode cX6_isOver 17 = .ok (.getfield 34, 3) := dk_180 0 34 (dk_at dksX6_isOver_0 17 rfl rfl)
theorem dX6_isOver_20 : decode cX6_isOver 20 = .ok (.iload_n 2, 1) := dk_28 (dk_at dksX6_isOver_0 20 rfl rfl)
theorem dX6_isOver_21 : decode cX6_isOver 21 = .ok (.aaload, 1) := dk_50 (dk_at dksX6_isOver_0 21 rfl rfl)
theorem dX6_isOver_22 : decode cX6_isOver 22 = .ok (.getfield 289, 3) := dk_180 1 33 (dk_at dksX6_isOver_1 0 rfl rfl)
theorem dX6_isOver_25 : decode cX6_isOver 25 = .ok (.iconst 2, 1) := dk_5 (dk_at dksX6_isOver_1 3 rfl rfl)
theorem dX6_isOver_26 : decode cX6_isOver 26 = .ok (.if_icmp .ge 7, 3) := dk_162 0 7 (dk_at dksX6_isOver_1 4 rfl rfl)
theorem dX6_isOver_29 : decode cX6_isOver 29 = .ok (.iconst 1, 1) := dk_4 (dk_at dksX6_isOver_1 7 rfl rfl)
theorem dX6_isOver_30 : decode cX6_isOver 30 = .ok (.goto 4, 3) := dk_167 0 4 (dk_at dksX6_isOver_1 8 rfl rfl)
theorem dX6_isOver_33 : decode cX6_isOver 33 = .ok (.iconst 0, 1) := dk_3 (dk_at dksX6_isOver_1 11 rfl rfl)
theorem dX6_isOver_34 : decode cX6_isOver 34 = .ok (.istore_n 1, 1) := dk_60 (dk_at dksX6_isOver_1 12 rfl rfl)
theorem dX6_isOver_35 : decode cX6_isOver 35 = .ok (.iinc 2 1, 3) := dk_132 2 1 (dk_at dksX6_isOver_1 13 rfl rfl)
theorem dX6_isOver_38 : decode cX6_isOver 38 = .ok (.goto (-34), 3) := dk_167 255 222 (dk_at dksX6_isOver_1 16 rfl rfl)
theorem dX6_isOver_41 : decode cX6_isOver 41 = .ok (.iload_n 1, 1) := dk_27 (dk_at dksX6_isOver_1 19 rfl rfl)
theorem dX6_isOver_42 : decode cX6_isOver 42 = .ok (.ifCond .eq 13, 3) := dk_153 0 13 (dk_at dksX6_isOver_1 20 rfl rfl)
theorem dX6_isOver_45 : decode cX6_isOver 45 = .ok (.aload_n 0, 1) := dk_42 (dk_at dksX6_isOver_1 23 rfl rfl)
theorem dX6_isOver_46 : decode cX6_isOver 46 = .ok (.getfield 100, 3) := dk_180 0 100 (dk_at dksX6_isOver_2 0 rfl rfl)
theorem dX6_isOver_49 : decode cX6_isOver 49 = .ok (.sipush 2000, 3) := dk_17 7 208 (dk_at dksX6_isOver_2 3 rfl rfl)
theorem dX6_isOver_52 : decode cX6_isOver 52 = .ok (.if_icmp .lt 7, 3) := dk_161 0 7 (dk_at dksX6_isOver_2 6 rfl rfl)
theorem dX6_isOver_55 : decode cX6_isOver 55 = .ok (.iconst 1, 1) := dk_4 (dk_at dksX6_isOver_2 9 rfl rfl)
theorem dX6_isOver_56 : decode cX6_isOver 56 = .ok (.goto 4, 3) := dk_167 0 4 (dk_at dksX6_isOver_2 10 rfl rfl)
theorem dX6_isOver_59 : decode cX6_isOver 59 = .ok (.iconst 0, 1) := dk_3 (dk_at dksX6_isOver_2 13 rfl rfl)
theorem dX6_isOver_60 : decode cX6_isOver 60 = .ok (.ireturn, 1) := dk_172 (dk_at dksX6_isOver_2 14 rfl rfl)
abbrev cX6_leads : ByteArray := prog_16_method_46_code
def yX6_leads : MethodName := ⟨RX6, "leads", "(LSledHouseModel$Team;I)V"⟩
def dkwX6_leads_12 : List UInt8 := [181, 1, 54, 177]
abbrev dktX6_leads_12 : List UInt8 := dkwX6_leads_12 ++ []
def dkwX6_leads_11 : List UInt8 := [16, 12, 167, 0, 5, 16, 15, 182, 1, 93, 43, 89, 180, 1, 56, 4, 96, 181, 1, 56, 43, 3]
abbrev dktX6_leads_11 : List UInt8 := dkwX6_leads_11 ++ dktX6_leads_12
def dkwX6_leads_10 : List UInt8 := [180, 1, 51, 79, 43, 21, 6, 16, 226, 162, 0, 8, 16, 10, 167, 0, 17, 21, 6, 16, 251, 164, 0, 8]
abbrev dktX6_leads_10 : List UInt8 := dkwX6_leads_10 ++ dktX6_leads_11
def dkwX6_leads_9 : List UInt8 := [164, 0, 28, 43, 182, 1, 61, 54, 7, 43, 180, 1, 96, 21, 7, 5, 79, 43, 180, 1, 99, 21, 7, 43]
abbrev dktX6_leads_9 : List UInt8 := dkwX6_leads_9 ++ dktX6_leads_10
def dkwX6_leads_8 : List UInt8 := [167, 0, 50, 21, 5, 6, 160, 0, 44, 43, 180, 1, 48, 154, 0, 37, 43, 3, 182, 1, 68, 4]
abbrev dktX6_leads_8 : List UInt8 := dkwX6_leads_8 ++ dktX6_leads_9
def dkwX6_leads_7 : List UInt8 := [180, 1, 66, 158, 0, 22, 43, 89, 180, 1, 66, 4, 100, 181, 1, 66, 43, 16, 120, 182, 1, 93]
abbrev dktX6_leads_7 : List UInt8 := dkwX6_leads_7 ++ dktX6_leads_8
def dkwX6_leads_6 : List UInt8 := [46, 54, 6, 21, 5, 154, 0, 12, 42, 43, 28, 21, 6, 182, 1, 89, 177, 21, 5, 5, 160, 0, 29, 43]
abbrev dktX6_leads_6 : List UInt8 := dkwX6_leads_6 ++ dktX6_leads_7
def dkwX6_leads_5 : List UInt8 := [16, 12, 43, 180, 1, 36, 104, 29, 96, 46, 167, 0, 4, 3, 54, 5, 42, 180, 0, 29, 28, 16, 6, 108]
abbrev dktX6_leads_5 : List UInt8 := dkwX6_leads_5 ++ dktX6_leads_6
def dkwX6_leads_4 : List UInt8 := [21, 4, 153, 0, 7, 29, 167, 0, 5, 16, 100, 181, 1, 86, 21, 4, 153, 0, 20, 42, 180, 0, 72]
abbrev dktX6_leads_4 : List UInt8 := dkwX6_leads_4 ++ dktX6_leads_5
def dkwX6_leads_3 : List UInt8 := [167, 255, 222, 29, 42, 180, 0, 69, 43, 180, 1, 36, 46, 162, 0, 7, 4, 167, 0, 4, 3, 54, 4, 43]
abbrev dktX6_leads_3 : List UInt8 := dkwX6_leads_3 ++ dktX6_leads_4
def dkwX6_leads_2 : List UInt8 := [162, 0, 27, 42, 43, 16, 12, 43, 180, 1, 36, 104, 29, 96, 28, 182, 1, 82, 154, 0, 9, 132, 3, 1]
abbrev dktX6_leads_2 : List UInt8 := dkwX6_leads_2 ++ dktX6_leads_3
def dkwX6_leads_1 : List UInt8 := [3, 28, 79, 43, 180, 1, 33, 4, 159, 0, 4, 177, 3, 62, 29, 42, 180, 0, 69, 43, 180, 1, 36, 46]
abbrev dktX6_leads_1 : List UInt8 := dkwX6_leads_1 ++ dktX6_leads_2
def dkwX6_leads_0 : List UInt8 := [43, 180, 1, 33, 154, 0, 23, 43, 180, 1, 77, 28, 160, 0, 15, 43, 4, 181, 1, 33, 43, 180, 1, 79]
abbrev dktX6_leads_0 : List UInt8 := dkwX6_leads_0 ++ dktX6_leads_1
theorem dksX6_leads_0 : cX6_leads.data.toList.drop 0 = dktX6_leads_0 := by decide +kernel
theorem dksX6_leads_1 : cX6_leads.data.toList.drop 24 = dktX6_leads_1 := dk_seg dksX6_leads_0 24 rfl rfl
theorem dksX6_leads_2 : cX6_leads.data.toList.drop 48 = dktX6_leads_2 := dk_seg dksX6_leads_1 24 rfl rfl
theorem dksX6_leads_3 : cX6_leads.data.toList.drop 72 = dktX6_leads_3 := dk_seg dksX6_leads_2 24 rfl rfl
theorem dksX6_leads_4 : cX6_leads.data.toList.drop 96 = dktX6_leads_4 := dk_seg dksX6_leads_3 24 rfl rfl
theorem dksX6_leads_5 : cX6_leads.data.toList.drop 119 = dktX6_leads_5 := dk_seg dksX6_leads_4 23 rfl rfl
theorem dksX6_leads_6 : cX6_leads.data.toList.drop 143 = dktX6_leads_6 := dk_seg dksX6_leads_5 24 rfl rfl
theorem dksX6_leads_7 : cX6_leads.data.toList.drop 167 = dktX6_leads_7 := dk_seg dksX6_leads_6 24 rfl rfl
theorem dksX6_leads_8 : cX6_leads.data.toList.drop 189 = dktX6_leads_8 := dk_seg dksX6_leads_7 22 rfl rfl
theorem dksX6_leads_9 : cX6_leads.data.toList.drop 211 = dktX6_leads_9 := dk_seg dksX6_leads_8 22 rfl rfl
theorem dksX6_leads_10 : cX6_leads.data.toList.drop 235 = dktX6_leads_10 := dk_seg dksX6_leads_9 24 rfl rfl
theorem dksX6_leads_11 : cX6_leads.data.toList.drop 259 = dktX6_leads_11 := dk_seg dksX6_leads_10 24 rfl rfl
theorem dksX6_leads_12 : cX6_leads.data.toList.drop 281 = dktX6_leads_12 := dk_seg dksX6_leads_11 22 rfl rfl
theorem dX6_leads_0 : decode cX6_leads 0 = .ok (.aload_n 1, 1) := dk_43 (dk_at dksX6_leads_0 0 rfl rfl)
theorem dX6_leads_1 : decode cX6_leads 1 = .ok (.getfield 289, 3) := dk_180 1 33 (dk_at dksX6_leads_0 1 rfl rfl)
theorem dX6_leads_4 : decode cX6_leads 4 = .ok (.ifCond .ne 23, 3) := dk_154 0 23 (dk_at dksX6_leads_0 4 rfl rfl)
theorem dX6_leads_7 : decode cX6_leads 7 = .ok (.aload_n 1, 1) := dk_43 (dk_at dksX6_leads_0 7 rfl rfl)
theorem dX6_leads_8 : decode cX6_leads 8 = .ok (.getfield 333, 3) := dk_180 1 77 (dk_at dksX6_leads_0 8 rfl rfl)
theorem dX6_leads_11 : decode cX6_leads 11 = .ok (.iload_n 2, 1) := dk_28 (dk_at dksX6_leads_0 11 rfl rfl)
theorem dX6_leads_12 : decode cX6_leads 12 = .ok (.if_icmp .ne 15, 3) := dk_160 0 15 (dk_at dksX6_leads_0 12 rfl rfl)
theorem dX6_leads_15 : decode cX6_leads 15 = .ok (.aload_n 1, 1) := dk_43 (dk_at dksX6_leads_0 15 rfl rfl)
theorem dX6_leads_16 : decode cX6_leads 16 = .ok (.iconst 1, 1) := dk_4 (dk_at dksX6_leads_0 16 rfl rfl)
theorem dX6_leads_17 : decode cX6_leads 17 = .ok (.putfield 289, 3) := dk_181 1 33 (dk_at dksX6_leads_0 17 rfl rfl)
theorem dX6_leads_20 : decode cX6_leads 20 = .ok (.aload_n 1, 1) := dk_43 (dk_at dksX6_leads_0 20 rfl rfl)
theorem dX6_leads_21 : decode cX6_leads 21 = .ok (.getfield 335, 3) := dk_180 1 79 (dk_at dksX6_leads_0 21 rfl rfl)
theorem dX6_leads_24 : decode cX6_leads 24 = .ok (.iconst 0, 1) := dk_3 (dk_at dksX6_leads_1 0 rfl rfl)
theorem dX6_leads_25 : decode cX6_leads 25 = .ok (.iload_n 2, 1) := dk_28 (dk_at dksX6_leads_1 1 rfl rfl)
theorem dX6_leads_26 : decode cX6_leads 26 = .ok (.iastore, 1) := dk_79 (dk_at dksX6_leads_1 2 rfl rfl)
theorem dX6_leads_27 : decode cX6_leads 27 = .ok (.aload_n 1, 1) := dk_43 (dk_at dksX6_leads_1 3 rfl rfl)
theorem dX6_leads_28 : decode cX6_leads 28 = .ok (.getfield 289, 3) := dk_180 1 33 (dk_at dksX6_leads_1 4 rfl rfl)
theorem dX6_leads_31 : decode cX6_leads 31 = .ok (.iconst 1, 1) := dk_4 (dk_at dksX6_leads_1 7 rfl rfl)
theorem dX6_leads_32 : decode cX6_leads 32 = .ok (.if_icmp .eq 4, 3) := dk_159 0 4 (dk_at dksX6_leads_1 8 rfl rfl)
theorem dX6_leads_35 : decode cX6_leads 35 = .ok (.return_, 1) := dk_177 (dk_at dksX6_leads_1 11 rfl rfl)
theorem dX6_leads_36 : decode cX6_leads 36 = .ok (.iconst 0, 1) := dk_3 (dk_at dksX6_leads_1 12 rfl rfl)
theorem dX6_leads_37 : decode cX6_leads 37 = .ok (.istore_n 3, 1) := dk_62 (dk_at dksX6_leads_1 13 rfl rfl)
theorem dX6_leads_38 : decode cX6_leads 38 = .ok (.iload_n 3, 1) := dk_29 (dk_at dksX6_leads_1 14 rfl rfl)
theorem dX6_leads_39 : decode cX6_leads 39 = .ok (.aload_n 0, 1) := dk_42 (dk_at dksX6_leads_1 15 rfl rfl)
theorem dX6_leads_40 : decode cX6_leads 40 = .ok (.getfield 69, 3) := dk_180 0 69 (dk_at dksX6_leads_1 16 rfl rfl)
theorem dX6_leads_43 : decode cX6_leads 43 = .ok (.aload_n 1, 1) := dk_43 (dk_at dksX6_leads_1 19 rfl rfl)
theorem dX6_leads_44 : decode cX6_leads 44 = .ok (.getfield 292, 3) := dk_180 1 36 (dk_at dksX6_leads_1 20 rfl rfl)
theorem dX6_leads_47 : decode cX6_leads 47 = .ok (.iaload, 1) := dk_46 (dk_at dksX6_leads_1 23 rfl rfl)
theorem dX6_leads_48 : decode cX6_leads 48 = .ok (.if_icmp .ge 27, 3) := dk_162 0 27 (dk_at dksX6_leads_2 0 rfl rfl)
theorem dX6_leads_51 : decode cX6_leads 51 = .ok (.aload_n 0, 1) := dk_42 (dk_at dksX6_leads_2 3 rfl rfl)
theorem dX6_leads_52 : decode cX6_leads 52 = .ok (.aload_n 1, 1) := dk_43 (dk_at dksX6_leads_2 4 rfl rfl)
theorem dX6_leads_53 : decode cX6_leads 53 = .ok (.bipush 12, 2) := dk_16 12 (dk_at dksX6_leads_2 5 rfl rfl)
theorem dX6_leads_55 : decode cX6_leads 55 = .ok (.aload_n 1, 1) := dk_43 (dk_at dksX6_leads_2 7 rfl rfl)
theorem dX6_leads_56 : decode cX6_leads 56 = .ok (.getfield 292, 3) := dk_180 1 36 (dk_at dksX6_leads_2 8 rfl rfl)
theorem dX6_leads_59 : decode cX6_leads 59 = .ok (.imul, 1) := dk_104 (dk_at dksX6_leads_2 11 rfl rfl)
theorem dX6_leads_60 : decode cX6_leads 60 = .ok (.iload_n 3, 1) := dk_29 (dk_at dksX6_leads_2 12 rfl rfl)
theorem dX6_leads_61 : decode cX6_leads 61 = .ok (.iadd, 1) := dk_96 (dk_at dksX6_leads_2 13 rfl rfl)
theorem dX6_leads_62 : decode cX6_leads 62 = .ok (.iload_n 2, 1) := dk_28 (dk_at dksX6_leads_2 14 rfl rfl)
theorem dX6_leads_63 : decode cX6_leads 63 = .ok (.invokevirtual 338, 3) := dk_182 1 82 (dk_at dksX6_leads_2 15 rfl rfl)
theorem dX6_leads_66 : decode cX6_leads 66 = .ok (.ifCond .ne 9, 3) := dk_154 0 9 (dk_at dksX6_leads_2 18 rfl rfl)
theorem dX6_leads_69 : decode cX6_leads 69 = .ok (.iinc 3 1, 3) := dk_132 3 1 (dk_at dksX6_leads_2 21 rfl rfl)
theorem dX6_leads_72 : decode cX6_leads 72 = .ok (.goto (-34), 3) := dk_167 255 222 (dk_at dksX6_leads_3 0 rfl rfl)
theorem dX6_leads_75 : decode cX6_leads 75 = .ok (.iload_n 3, 1) := dk_29 (dk_at dksX6_leads_3 3 rfl rfl)
theorem dX6_leads_76 : decode cX6_leads 76 = .ok (.aload_n 0, 1) := dk_42 (dk_at dksX6_leads_3 4 rfl rfl)
theorem dX6_leads_77 : decode cX6_leads 77 = .ok (.getfield 69, 3) := dk_180 0 69 (dk_at dksX6_leads_3 5 rfl rfl)
theorem dX6_leads_80 : decode cX6_leads 80 = .ok (.aload_n 1, 1) := dk_43 (dk_at dksX6_leads_3 8 rfl rfl)
theorem dX6_leads_81 : decode cX6_leads 81 = .ok (.getfield 292, 3) := dk_180 1 36 (dk_at dksX6_leads_3 9 rfl rfl)
theorem dX6_leads_84 : decode cX6_leads 84 = .ok (.iaload, 1) := dk_46 (dk_at dksX6_leads_3 12 rfl rfl)
theorem dX6_leads_85 : decode cX6_leads 85 = .ok (.if_icmp .ge 7, 3) := dk_162 0 7 (dk_at dksX6_leads_3 13 rfl rfl)
theorem dX6_leads_88 : decode cX6_leads 88 = .ok (.iconst 1, 1) := dk_4 (dk_at dksX6_leads_3 16 rfl rfl)
theorem dX6_leads_89 : decode cX6_leads 89 = .ok (.goto 4, 3) := dk_167 0 4 (dk_at dksX6_leads_3 17 rfl rfl)
theorem dX6_leads_92 : decode cX6_leads 92 = .ok (.iconst 0, 1) := dk_3 (dk_at dksX6_leads_3 20 rfl rfl)
theorem dX6_leads_93 : decode cX6_leads 93 = .ok (.istore 4, 2) := dk_54 4 (dk_at dksX6_leads_3 21 rfl rfl)
theorem dX6_leads_95 : decode cX6_leads 95 = .ok (.aload_n 1, 1) := dk_43 (dk_at dksX6_leads_3 23 rfl rfl)
theorem dX6_leads_96 : decode cX6_leads 96 = .ok (.iload 4, 2) := dk_21 4 (dk_at dksX6_leads_4 0 rfl rfl)
theorem dX6_leads_98 : decode cX6_leads 98 = .ok (.ifCond .eq 7, 3) := dk_153 0 7 (dk_at dksX6_leads_4 2 rfl rfl)
theorem dX6_leads_101 : decode cX6_leads 101 = .ok (.iload_n 3, 1) := dk_29 (dk_at dksX6_leads_4 5 rfl rfl)
theorem dX6_leads_102 : decode cX6_leads 102 = .ok (.goto 5, 3) := dk_167 0 5 (dk_at dksX6_leads_4 6 rfl rfl)
theorem dX6_leads_105 : decode cX6_leads 105 = .ok (.bipush 100, 2) := dk_16 100 (dk_at dksX6_leads_4 9 rfl rfl)
theorem dX6_leads_107 : decode cX6_leads 107 = .ok (.putfield 342, 3) := dk_181 1 86 (dk_at dksX6_leads_4 11 rfl rfl)
theorem dX6_leads_110 : decode cX6_leads 110 = .ok (.iload 4, 2) := dk_21 4 (dk_at dksX6_leads_4 14 rfl rfl)
theorem dX6_leads_112 : decode cX6_leads 112 = .ok (.ifCond .eq 20, 3) := dk_153 0 20 (dk_at dksX6_leads_4 16 rfl rfl)
theorem dX6_leads_115 : decode cX6_leads 115 = .ok (.aload_n 0, 1) := dk_42 (dk_at dksX6_leads_4 19 rfl rfl)
theorem dX6_leads_116 : decode cX6_leads 116 = .ok (.getfield 72, 3) := dk_180 0 72 (dk_at dksX6_leads_4 20 rfl rfl)
theorem dX6_leads_119 : decode cX6_leads 119 = .ok (.bipush 12, 2) := dk_16 12 (dk_at dksX6_leads_5 0 rfl rfl)
theorem dX6_leads_121 : decode cX6_leads 121 = .ok (.aload_n 1, 1) := dk_43 (dk_at dksX6_leads_5 2 rfl rfl)
theorem dX6_leads_122 : decode cX6_leads 122 = .ok (.getfield 292, 3) := dk_180 1 36 (dk_at dksX6_leads_5 3 rfl rfl)
theorem dX6_leads_125 : decode cX6_leads 125 = .ok (.imul, 1) := dk_104 (dk_at dksX6_leads_5 6 rfl rfl)
theorem dX6_leads_126 : decode cX6_leads 126 = .ok (.iload_n 3, 1) := dk_29 (dk_at dksX6_leads_5 7 rfl rfl)
theorem dX6_leads_127 : decode cX6_leads 127 = .ok (.iadd, 1) := dk_96 (dk_at dksX6_leads_5 8 rfl rfl)
theorem dX6_leads_128 : decode cX6_leads 128 = .ok (.iaload, 1) := dk_46 (dk_at dksX6_leads_5 9 rfl rfl)
theorem dX6_leads_129 : decode cX6_leads 129 = .ok (.goto 4, 3) := dk_167 0 4 (dk_at dksX6_leads_5 10 rfl rfl)
theorem dX6_leads_132 : decode cX6_leads 132 = .ok (.iconst 0, 1) := dk_3 (dk_at dksX6_leads_5 13 rfl rfl)
theorem dX6_leads_133 : decode cX6_leads 133 = .ok (.istore 5, 2) := dk_54 5 (dk_at dksX6_leads_5 14 rfl rfl)
theorem dX6_leads_135 : decode cX6_leads 135 = .ok (.aload_n 0, 1) := dk_42 (dk_at dksX6_leads_5 16 rfl rfl)
theorem dX6_leads_136 : decode cX6_leads 136 = .ok (.getfield 29, 3) := dk_180 0 29 (dk_at dksX6_leads_5 17 rfl rfl)
theorem dX6_leads_139 : decode cX6_leads 139 = .ok (.iload_n 2, 1) := dk_28 (dk_at dksX6_leads_5 20 rfl rfl)
theorem dX6_leads_140 : decode cX6_leads 140 = .ok (.bipush 6, 2) := dk_16 6 (dk_at dksX6_leads_5 21 rfl rfl)
theorem dX6_leads_142 : decode cX6_leads 142 = .ok (.idiv, 1) := dk_108 (dk_at dksX6_leads_5 23 rfl rfl)
theorem dX6_leads_143 : decode cX6_leads 143 = .ok (.iaload, 1) := dk_46 (dk_at dksX6_leads_6 0 rfl rfl)
theorem dX6_leads_144 : decode cX6_leads 144 = .ok (.istore 6, 2) := dk_54 6 (dk_at dksX6_leads_6 1 rfl rfl)
theorem dX6_leads_146 : decode cX6_leads 146 = .ok (.iload 5, 2) := dk_21 5 (dk_at dksX6_leads_6 3 rfl rfl)
theorem dX6_leads_148 : decode cX6_leads 148 = .ok (.ifCond .ne 12, 3) := dk_154 0 12 (dk_at dksX6_leads_6 5 rfl rfl)
theorem dX6_leads_151 : decode cX6_leads 151 = .ok (.aload_n 0, 1) := dk_42 (dk_at dksX6_leads_6 8 rfl rfl)
theorem dX6_leads_152 : decode cX6_leads 152 = .ok (.aload_n 1, 1) := dk_43 (dk_at dksX6_leads_6 9 rfl rfl)
theorem dX6_leads_153 : decode cX6_leads 153 = .ok (.iload_n 2, 1) := dk_28 (dk_at dksX6_leads_6 10 rfl rfl)
theorem dX6_leads_154 : decode cX6_leads 154 = .ok (.iload 6, 2) := dk_21 6 (dk_at dksX6_leads_6 11 rfl rfl)
theorem dX6_leads_156 : decode cX6_leads 156 = .ok (.invokevirtual 345, 3) := dk_182 1 89 (dk_at dksX6_leads_6 13 rfl rfl)
theorem dX6_leads_159 : decode cX6_leads 159 = .ok (.return_, 1) := dk_177 (dk_at dksX6_leads_6 16 rfl rfl)
theorem dX6_leads_160 : decode cX6_leads 160 = .ok (.iload 5, 2) := dk_21 5 (dk_at dksX6_leads_6 17 rfl rfl)
theorem dX6_leads_162 : decode cX6_leads 162 = .ok (.iconst 2, 1) := dk_5 (dk_at dksX6_leads_6 19 rfl rfl)
theorem dX6_leads_163 : decode cX6_leads 163 = .ok (.if_icmp .ne 29, 3) := dk_160 0 29 (dk_at dksX6_leads_6 20 rfl rfl)
theorem dX6_leads_166 : decode cX6_leads 166 = .ok (.aload_n 1, 1) := dk_43 (dk_at dksX6_leads_6 23 rfl rfl)
theorem dX6_leads_167 : decode cX6_leads 167 = .ok (.getfield 322, 3) := dk_180 1 66 (dk_at dksX6_leads_7 0 rfl rfl)
theorem dX6_leads_170 : decode cX6_leads 170 = .ok (.ifCond .le 22, 3) := dk_158 0 22 (dk_at dksX6_leads_7 3 rfl rfl)
theorem dX6_leads_173 : decode cX6_leads 173 = .ok (.aload_n 1, 1) := dk_43 (dk_at dksX6_leads_7 6 rfl rfl)
theorem dX6_leads_174 : decode cX6_leads 174 = .ok (.dup, 1) := dk_89 (dk_at dksX6_leads_7 7 rfl rfl)
theorem dX6_leads_175 : decode cX6_leads 175 = .ok (.getfield 322, 3) := dk_180 1 66 (dk_at dksX6_leads_7 8 rfl rfl)
theorem dX6_leads_178 : decode cX6_leads 178 = .ok (.iconst 1, 1) := dk_4 (dk_at dksX6_leads_7 11 rfl rfl)
theorem dX6_leads_179 : decode cX6_leads 179 = .ok (.isub, 1) := dk_100 (dk_at dksX6_leads_7 12 rfl rfl)
theorem dX6_leads_180 : decode cX6_leads 180 = .ok (.putfield 322, 3) := dk_181 1 66 (dk_at dksX6_leads_7 13 rfl rfl)
theorem dX6_leads_183 : decode cX6_leads 183 = .ok (.aload_n 1, 1) := dk_43 (dk_at dksX6_leads_7 16 rfl rfl)
theorem dX6_leads_184 : decode cX6_leads 184 = .ok (.bipush 120, 2) := dk_16 120 (dk_at dksX6_leads_7 17 rfl rfl)
theorem dX6_leads_186 : decode cX6_leads 186 = .ok (.invokevirtual 349, 3) := dk_182 1 93 (dk_at dksX6_leads_7 19 rfl rfl)
theorem dX6_leads_189 : decode cX6_leads 189 = .ok (.goto 50, 3) := dk_167 0 50 (dk_at dksX6_leads_8 0 rfl rfl)
theorem dX6_leads_192 : decode cX6_leads 192 = .ok (.iload 5, 2) := dk_21 5 (dk_at dksX6_leads_8 3 rfl rfl)
theorem dX6_leads_194 : decode cX6_leads 194 = .ok (.iconst 3, 1) := dk_6 (dk_at dksX6_leads_8 5 rfl rfl)
theorem dX6_leads_195 : decode cX6_leads 195 = .ok (.if_icmp .ne 44, 3) := dk_160 0 44 (dk_at dksX6_leads_8 6 rfl rfl)
theorem dX6_leads_198 : decode cX6_leads 198 = .ok (.aload_n 1, 1) := dk_43 (dk_at dksX6_leads_8 9 rfl rfl)
theorem dX6_leads_199 : decode cX6_leads 199 = .ok (.getfield 304, 3) := dk_180 1 48 (dk_at dksX6_leads_8 10 rfl rfl)
theorem dX6_leads_202 : decode cX6_leads 202 = .ok (.ifCond .ne 37, 3) := dk_154 0 37 (dk_at dksX6_leads_8 13 rfl rfl)
theorem dX6_leads_205 : decode cX6_leads 205 = .ok (.aload_n 1, 1) := dk_43 (dk_at dksX6_leads_8 16 rfl rfl)
theorem dX6_leads_206 : decode cX6_leads 206 = .ok (.iconst 0, 1) := dk_3 (dk_at dksX6_leads_8 17 rfl rfl)
theorem dX6_leads_207 : decode cX6_leads 207 = .ok (.invokevirtual 324, 3) := dk_182 1 68 (dk_at dksX6_leads_8 18 rfl rfl)
theorem dX6_leads_210 : decode cX6_leads 210 = .ok (.iconst 1, 1) := dk_4 (dk_at dksX6_leads_8 21 rfl rfl)
theorem dX6_leads_211 : decode cX6_leads 211 = .ok (.if_icmp .le 28, 3) := dk_164 0 28 (dk_at dksX6_leads_9 0 rfl rfl)
theorem dX6_leads_214 : decode cX6_leads 214 = .ok (.aload_n 1, 1) := dk_43 (dk_at dksX6_leads_9 3 rfl rfl)
theorem dX6_leads_215 : decode cX6_leads 215 = .ok (.invokevirtual 317, 3) := dk_182 1 61 (dk_at dksX6_leads_9 4 rfl rfl)
theorem dX6_leads_218 : decode cX6_leads 218 = .ok (.istore 7, 2) := dk_54 7 (dk_at dksX6_leads_9 7 rfl rfl)
theorem dX6_leads_220 : decode cX6_leads 220 = .ok (.aload_n 1, 1) := dk_43 (dk_at dksX6_leads_9 9 rfl rfl)
theorem dX6_leads_221 : decode cX6_leads 221 = .ok (.getfield 352, 3) := dk_180 1 96 (dk_at dksX6_leads_9 10 rfl rfl)
theorem dX6_leads_224 : decode cX6_leads 224 = .ok (.iload 7, 2) := dk_21 7 (dk_at dksX6_leads_9 13 rfl rfl)
theorem dX6_leads_226 : decode cX6_leads 226 = .ok (.iconst 2, 1) := dk_5 (dk_at dksX6_leads_9 15 rfl rfl)
theorem dX6_leads_227 : decode cX6_leads 227 = .ok (.iastore, 1) := dk_79 (dk_at dksX6_leads_9 16 rfl rfl)
theorem dX6_leads_228 : decode cX6_leads 228 = .ok (.aload_n 1, 1) := dk_43 (dk_at dksX6_leads_9 17 rfl rfl)
theorem dX6_leads_229 : decode cX6_leads 229 = .ok (.getfield 355, 3) := dk_180 1 99 (dk_at dksX6_leads_9 18 rfl rfl)
theorem dX6_leads_232 : decode cX6_leads 232 = .ok (.iload 7, 2) := dk_21 7 (dk_at dksX6_leads_9 21 rfl rfl)
theorem dX6_leads_234 : decode cX6_leads 234 = .ok (.aload_n 1, 1) := dk_43 (dk_at dksX6_leads_9 23 rfl rfl)
theorem dX6_leads_235 : decode cX6_leads 235 = .ok (.getfield 307, 3) := dk_180 1 51 (dk_at dksX6_leads_10 0 rfl rfl)
theorem dX6_leads_238 : decode cX6_leads 238 = .ok (.iastore, 1) := dk_79 (dk_at dksX6_leads_10 3 rfl rfl)
theorem dX6_leads_239 : decode cX6_leads 239 = .ok (.aload_n 1, 1) := dk_43 (dk_at dksX6_leads_10 4 rfl rfl)
theorem dX6_leads_240 : decode cX6_leads 240 = .ok (.iload 6, 2) := dk_21 6 (dk_at dksX6_leads_10 5 rfl rfl)
theorem dX6_leads_242 : decode cX6_leads 242 = .ok (.bipush (-30), 2) := dk_16 226 (dk_at dksX6_leads_10 7 rfl rfl)
theorem dX6_leads_244 : decode cX6_leads 244 = .ok (.if_icmp .ge 8, 3) := dk_162 0 8 (dk_at dksX6_leads_10 9 rfl rfl)
theorem dX6_leads_247 : decode cX6_leads 247 = .ok (.bipush 10, 2) := dk_16 10 (dk_at dksX6_leads_10 12 rfl rfl)
theorem dX6_leads_249 : decode cX6_leads 249 = .ok (.goto 17, 3) := dk_167 0 17 (dk_at dksX6_leads_10 14 rfl rfl)
theorem dX6_leads_252 : decode cX6_leads 252 = .ok (.iload 6, 2) := dk_21 6 (dk_at dksX6_leads_10 17 rfl rfl)
theorem dX6_leads_254 : decode cX6_leads 254 = .ok (.bipush (-5), 2) := dk_16 251 (dk_at dksX6_leads_10 19 rfl rfl)
theorem dX6_leads_256 : decode cX6_leads 256 = .ok (.if_icmp .le 8, 3) := dk_164 0 8 (dk_at dksX6_leads_10 21 rfl rfl)
theorem dX6_leads_259 : decode cX6_leads 259 = .ok (.bipush 12, 2) := dk_16 12 (dk_at dksX6_leads_11 0 rfl rfl)
theorem dX6_leads_261 : decode cX6_leads 261 = .ok (.goto 5, 3) := dk_167 0 5 (dk_at dksX6_leads_11 2 rfl rfl)
theorem dX6_leads_264 : decode cX6_leads 264 = .ok (.bipush 15, 2) := dk_16 15 (dk_at dksX6_leads_11 5 rfl rfl)
theorem dX6_leads_266 : decode cX6_leads 266 = .ok (.invokevirtual 349, 3) := dk_182 1 93 (dk_at dksX6_leads_11 7 rfl rfl)
theorem dX6_leads_269 : decode cX6_leads 269 = .ok (.aload_n 1, 1) := dk_43 (dk_at dksX6_leads_11 10 rfl rfl)
theorem dX6_leads_270 : decode cX6_leads 270 = .ok (.dup, 1) := dk_89 (dk_at dksX6_leads_11 11 rfl rfl)
theorem dX6_leads_271 : decode cX6_leads 271 = .ok (.getfield 312, 3) := dk_180 1 56 (dk_at dksX6_leads_11 12 rfl rfl)
theorem dX6_leads_274 : decode cX6_leads 274 = .ok (.iconst 1, 1) := dk_4 (dk_at dksX6_leads_11 15 rfl rfl)
theorem dX6_leads_275 : decode cX6_leads 275 = .ok (.iadd, 1) := dk_96 (dk_at dksX6_leads_11 16 rfl rfl)
theorem dX6_leads_276 : decode cX6_leads 276 = .ok (.putfield 312, 3) := dk_181 1 56 (dk_at dksX6_leads_11 17 rfl rfl)
theorem dX6_leads_279 : decode cX6_leads 279 = .ok (.aload_n 1, 1) := dk_43 (dk_at dksX6_leads_11 20 rfl rfl)
theorem dX6_leads_280 : decode cX6_leads 280 = .ok (.iconst 0, 1) := dk_3 (dk_at dksX6_leads_11 21 rfl rfl)
theorem dX6_leads_281 : decode cX6_leads 281 = .ok (.putfield 310, 3) := dk_181 1 54 (dk_at dksX6_leads_12 0 rfl rfl)
theorem dX6_leads_284 : decode cX6_leads 284 = .ok (.return_, 1) := dk_177 (dk_at dksX6_leads_12 3 rfl rfl)
abbrev cX6_holds : ByteArray := prog_16_method_45_code
def yX6_holds : MethodName := ⟨RX6, "holds", "(LSledHouseModel$Team;II)Z"⟩
def dkwX6_holds_4 : List UInt8 := [172]
abbrev dktX6_holds_4 : List UInt8 := dkwX6_holds_4 ++ []
def dkwX6_holds_3 : List UInt8 := [180, 0, 81, 21, 5, 46, 164, 0, 7, 4, 167, 0, 4, 3, 54, 4, 132, 5, 1, 167, 255, 174, 21, 4]
abbrev dktX6_holds_3 : List UInt8 := dkwX6_holds_3 ++ dktX6_holds_4
def dkwX6_holds_2 : List UInt8 := [21, 5, 51, 153, 0, 18, 21, 6, 42, 180, 0, 81, 21, 5, 46, 162, 0, 22, 167, 0, 15, 21, 6, 42]
abbrev dktX6_holds_2 : List UInt8 := dkwX6_holds_2 ++ dktX6_holds_3
def dkwX6_holds_1 : List UInt8 := [43, 42, 180, 0, 78, 21, 5, 46, 29, 182, 1, 73, 54, 6, 21, 4, 153, 0, 44, 42, 180, 0, 84]
abbrev dktX6_holds_1 : List UInt8 := dkwX6_holds_1 ++ dktX6_holds_2
def dkwX6_holds_0 : List UInt8 := [4, 54, 4, 7, 28, 104, 54, 5, 21, 5, 7, 28, 104, 42, 180, 0, 75, 28, 46, 96, 162, 0, 73, 42]
abbrev dktX6_holds_0 : List UInt8 := dkwX6_holds_0 ++ dktX6_holds_1
theorem dksX6_holds_0 : cX6_holds.data.toList.drop 0 = dktX6_holds_0 := by decide +kernel
theorem dksX6_holds_1 : cX6_holds.data.toList.drop 24 = dktX6_holds_1 := dk_seg dksX6_holds_0 24 rfl rfl
theorem dksX6_holds_2 : cX6_holds.data.toList.drop 47 = dktX6_holds_2 := dk_seg dksX6_holds_1 23 rfl rfl
theorem dksX6_holds_3 : cX6_holds.data.toList.drop 71 = dktX6_holds_3 := dk_seg dksX6_holds_2 24 rfl rfl
theorem dksX6_holds_4 : cX6_holds.data.toList.drop 95 = dktX6_holds_4 := dk_seg dksX6_holds_3 24 rfl rfl
theorem dX6_holds_0 : decode cX6_holds 0 = .ok (.iconst 1, 1) := dk_4 (dk_at dksX6_holds_0 0 rfl rfl)
theorem dX6_holds_1 : decode cX6_holds 1 = .ok (.istore 4, 2) := dk_54 4 (dk_at dksX6_holds_0 1 rfl rfl)
theorem dX6_holds_3 : decode cX6_holds 3 = .ok (.iconst 4, 1) := dk_7 (dk_at dksX6_holds_0 3 rfl rfl)
theorem dX6_holds_4 : decode cX6_holds 4 = .ok (.iload_n 2, 1) := dk_28 (dk_at dksX6_holds_0 4 rfl rfl)
theorem dX6_holds_5 : decode cX6_holds 5 = .ok (.imul, 1) := dk_104 (dk_at dksX6_holds_0 5 rfl rfl)
theorem dX6_holds_6 : decode cX6_holds 6 = .ok (.istore 5, 2) := dk_54 5 (dk_at dksX6_holds_0 6 rfl rfl)
theorem dX6_holds_8 : decode cX6_holds 8 = .ok (.iload 5, 2) := dk_21 5 (dk_at dksX6_holds_0 8 rfl rfl)
theorem dX6_holds_10 : decode cX6_holds 10 = .ok (.iconst 4, 1) := dk_7 (dk_at dksX6_holds_0 10 rfl rfl)
theorem dX6_holds_11 : decode cX6_holds 11 = .ok (.iload_n 2, 1) := dk_28 (dk_at dksX6_holds_0 11 rfl rfl)
theorem dX6_holds_12 : decode cX6_holds 12 = .ok (.imul, 1) := dk_104 (dk_at dksX6_holds_0 12 rfl rfl)
theorem dX6_holds_13 : decode cX6_holds 13 = .ok (.aload_n 0, 1) := dk_42 (dk_at dksX6_holds_0 13 rfl rfl)
theorem dX6_holds_14 : decode cX6_holds 14 = .ok (.getfield 75, 3) := dk_180 0 75 (dk_at dksX6_holds_0 14 rfl rfl)
theorem dX6_holds_17 : decode cX6_holds 17 = .ok (.iload_n 2, 1) := dk_28 (dk_at dksX6_holds_0 17 rfl rfl)
theorem dX6_holds_18 : decode cX6_holds 18 = .ok (.iaload, 1) := dk_46 (dk_at dksX6_holds_0 18 rfl rfl)
theorem dX6_holds_19 : decode cX6_holds 19 = .ok (.iadd, 1) := dk_96 (dk_at dksX6_holds_0 19 rfl rfl)
theorem dX6_holds_20 : decode cX6_holds 20 = .ok (.if_icmp .ge 73, 3) := dk_162 0 73 (dk_at dksX6_holds_0 20 rfl rfl)
theorem dX6_holds_23 : decode cX6_holds 23 = .ok (.aload_n 0, 1) := dk_42 (dk_at dksX6_holds_0 23 rfl rfl)
theorem dX6_holds_24 : decode cX6_holds 24 = .ok (.aload_n 1, 1) := dk_43 (dk_at dksX6_holds_1 0 rfl rfl)
theorem dX6_holds_25 : decode cX6_holds 25 = .ok (.aload_n 0, 1) := dk_42 (dk_at dksX6_holds_1 1 rfl rfl)
theorem dX6_holds_26 : decode cX6_holds 26 = .ok (.getfield 78, 3) := dk_180 0 78 (dk_at dksX6_holds_1 2 rfl rfl)
theorem dX6_holds_29 : decode cX6_holds 29 = .ok (.iload 5, 2) := dk_21 5 (dk_at dksX6_holds_1 5 rfl rfl)
theorem dX6_holds_31 : decode cX6_holds 31 = .ok (.iaload, 1) := dk_46 (dk_at dksX6_holds_1 7 rfl rfl)
theorem dX6_holds_32 : decode cX6_holds 32 = .ok (.iload_n 3, 1) := dk_29 (dk_at dksX6_holds_1 8 rfl rfl)
theorem dX6_holds_33 : decode cX6_holds 33 = .ok (.invokevirtual 329, 3) := dk_182 1 73 (dk_at dksX6_holds_1 9 rfl rfl)
theorem dX6_holds_36 : decode cX6_holds 36 = .ok (.istore 6, 2) := dk_54 6 (dk_at dksX6_holds_1 12 rfl rfl)
theorem dX6_holds_38 : decode cX6_holds 38 = .ok (.iload 4, 2) := dk_21 4 (dk_at dksX6_holds_1 14 rfl rfl)
theorem dX6_holds_40 : decode cX6_holds 40 = .ok (.ifCond .eq 44, 3) := dk_153 0 44 (dk_at dksX6_holds_1 16 rfl rfl)
theorem dX6_holds_43 : decode cX6_holds 43 = .ok (.aload_n 0, 1) := dk_42 (dk_at dksX6_holds_1 19 rfl rfl)
theorem dX6_holds_44 : decode cX6_holds 44 = .ok (.getfield 84, 3) := dk_180 0 84 (dk_at dksX6_holds_1 20 rfl rfl)
theorem dX6_holds_47 : decode cX6_holds 47 = .ok (.iload 5, 2) := dk_21 5 (dk_at dksX6_holds_2 0 rfl rfl)
theorem dX6_holds_49 : decode cX6_holds 49 = .ok (.baload, 1) := dk_51 (dk_at dksX6_holds_2 2 rfl rfl)
theorem dX6_holds_50 : decode cX6_holds 50 = .ok (.ifCond .eq 18, 3) := dk_153 0 18 (dk_at dksX6_holds_2 3 rfl rfl)
theorem dX6_holds_53 : decode cX6_holds 53 = .ok (.iload 6, 2) := dk_21 6 (dk_at dksX6_holds_2 6 rfl rfl)
theorem dX6_holds_55 : decode cX6_holds 55 = .ok (.aload_n 0, 1) := dk_42 (dk_at dksX6_holds_2 8 rfl rfl)
theorem dX6_holds_56 : decode cX6_holds 56 = .ok (.getfield 81, 3) := dk_180 0 81 (dk_at dksX6_holds_2 9 rfl rfl)
theorem dX6_holds_59 : decode cX6_holds 59 = .ok (.iload 5, 2) := dk_21 5 (dk_at dksX6_holds_2 12 rfl rfl)
theorem dX6_holds_61 : decode cX6_holds 61 = .ok (.iaload, 1) := dk_46 (dk_at dksX6_holds_2 14 rfl rfl)
theorem dX6_holds_62 : decode cX6_holds 62 = .ok (.if_icmp .ge 22, 3) := dk_162 0 22 (dk_at dksX6_holds_2 15 rfl rfl)
theorem dX6_holds_65 : decode cX6_holds 65 = .ok (.goto 15, 3) := dk_167 0 15 (dk_at dksX6_holds_2 18 rfl rfl)
theorem dX6_holds_68 : decode cX6_holds 68 = .ok (.iload 6, 2) := dk_21 6 (dk_at dksX6_holds_2 21 rfl rfl)
theorem dX6_holds_70 : decode cX6_holds 70 = .ok (.aload_n 0, 1) := dk_42 (dk_at dksX6_holds_2 23 rfl rfl)
theorem dX6_holds_71 : decode cX6_holds 71 = .ok (.getfield 81, 3) := dk_180 0 81 (dk_at dksX6_holds_3 0 rfl rfl)
theorem dX6_holds_74 : decode cX6_holds 74 = .ok (.iload 5, 2) := dk_21 5 (dk_at dksX6_holds_3 3 rfl rfl)
theorem dX6_holds_76 : decode cX6_holds 76 = .ok (.iaload, 1) := dk_46 (dk_at dksX6_holds_3 5 rfl rfl)
theorem dX6_holds_77 : decode cX6_holds 77 = .ok (.if_icmp .le 7, 3) := dk_164 0 7 (dk_at dksX6_holds_3 6 rfl rfl)
theorem dX6_holds_80 : decode cX6_holds 80 = .ok (.iconst 1, 1) := dk_4 (dk_at dksX6_holds_3 9 rfl rfl)
theorem dX6_holds_81 : decode cX6_holds 81 = .ok (.goto 4, 3) := dk_167 0 4 (dk_at dksX6_holds_3 10 rfl rfl)
theorem dX6_holds_84 : decode cX6_holds 84 = .ok (.iconst 0, 1) := dk_3 (dk_at dksX6_holds_3 13 rfl rfl)
theorem dX6_holds_85 : decode cX6_holds 85 = .ok (.istore 4, 2) := dk_54 4 (dk_at dksX6_holds_3 14 rfl rfl)
theorem dX6_holds_87 : decode cX6_holds 87 = .ok (.iinc 5 1, 3) := dk_132 5 1 (dk_at dksX6_holds_3 16 rfl rfl)
theorem dX6_holds_90 : decode cX6_holds 90 = .ok (.goto (-82), 3) := dk_167 255 174 (dk_at dksX6_holds_3 19 rfl rfl)
theorem dX6_holds_93 : decode cX6_holds 93 = .ok (.iload 4, 2) := dk_21 4 (dk_at dksX6_holds_3 22 rfl rfl)
theorem dX6_holds_95 : decode cX6_holds 95 = .ok (.ireturn, 1) := dk_172 (dk_at dksX6_holds_4 0 rfl rfl)
abbrev cX6_valueOf : ByteArray := prog_16_method_44_code
def yX6_valueOf : MethodName := ⟨RX6, "valueOf", "(LSledHouseModel$Team;II)I"⟩
def dkwX6_valueOf_5 : List UInt8 := [43, 180, 1, 48, 154, 0, 10, 43, 180, 1, 51, 167, 0, 5, 16, 99, 172, 43, 180, 1, 71, 172]
abbrev dktX6_valueOf_5 : List UInt8 := dkwX6_valueOf_5 ++ []
def dkwX6_valueOf_4 : List UInt8 := [172, 42, 180, 0, 22, 43, 180, 1, 51, 46, 43, 180, 1, 48, 100, 172, 29, 16, 6, 108, 16, 24, 112, 172]
abbrev dktX6_valueOf_4 : List UInt8 := dkwX6_valueOf_4 ++ dktX6_valueOf_5
def dkwX6_valueOf_3 : List UInt8 := [172, 42, 180, 0, 29, 29, 16, 6, 108, 46, 16, 100, 96, 172, 43, 180, 1, 66, 172, 43, 3, 182, 1, 68]
abbrev dktX6_valueOf_3 : List UInt8 := dkwX6_valueOf_3 ++ dktX6_valueOf_4
def dkwX6_valueOf_2 : List UInt8 := [43, 180, 1, 54, 172, 43, 180, 1, 56, 172, 43, 180, 1, 58, 43, 182, 1, 61, 46, 172, 43, 182, 1, 64]
abbrev dktX6_valueOf_2 : List UInt8 := dkwX6_valueOf_2 ++ dktX6_valueOf_3
def dkwX6_valueOf_1 : List UInt8 := [170, 0, 0, 0, 0, 0, 144, 0, 0, 0, 0, 0, 0, 0, 9, 0, 0, 0, 55, 0, 0, 0, 60, 0, 0, 0, 65, 0, 0, 0, 75, 0, 0, 0, 80, 0, 0, 0, 93, 0, 0, 0, 98, 0, 0, 0, 104, 0, 0, 0, 119, 0, 0, 0, 127]
abbrev dktX6_valueOf_1 : List UInt8 := dkwX6_valueOf_1 ++ dktX6_valueOf_2
def dkwX6_valueOf_0 : List UInt8 := [28]
abbrev dktX6_valueOf_0 : List UInt8 := dkwX6_valueOf_0 ++ dktX6_valueOf_1
theorem dksX6_valueOf_0 : cX6_valueOf.data.toList.drop 0 = dktX6_valueOf_0 := by decide +kernel
theorem dksX6_valueOf_1 : cX6_valueOf.data.toList.drop 1 = dktX6_valueOf_1 := dk_seg dksX6_valueOf_0 1 rfl rfl
theorem dksX6_valueOf_2 : cX6_valueOf.data.toList.drop 56 = dktX6_valueOf_2 := dk_seg dksX6_valueOf_1 55 rfl rfl
theorem dksX6_valueOf_3 : cX6_valueOf.data.toList.drop 80 = dktX6_valueOf_3 := dk_seg dksX6_valueOf_2 24 rfl rfl
theorem dksX6_valueOf_4 : cX6_valueOf.data.toList.drop 104 = dktX6_valueOf_4 := dk_seg dksX6_valueOf_3 24 rfl rfl
theorem dksX6_valueOf_5 : cX6_valueOf.data.toList.drop 128 = dktX6_valueOf_5 := dk_seg dksX6_valueOf_4 24 rfl rfl
theorem dX6_valueOf_0 : decode cX6_valueOf 0 = .ok (.iload_n 2, 1) := dk_28 (dk_at dksX6_valueOf_0 0 rfl rfl)
theorem dX6_valueOf_1 : decode cX6_valueOf 1 = .ok (.tableswitch 144 0 9 #[55, 60, 65, 75, 80, 93, 98, 104, 119, 127], 55) := by decide +kernel
theorem dX6_valueOf_56 : decode cX6_valueOf 56 = .ok (.aload_n 1, 1) := dk_43 (dk_at dksX6_valueOf_2 0 rfl rfl)
theorem dX6_valueOf_57 : decode cX6_valueOf 57 = .ok (.getfield 310, 3) := dk_180 1 54 (dk_at dksX6_valueOf_2 1 rfl rfl)
theorem dX6_valueOf_60 : decode cX6_valueOf 60 = .ok (.ireturn, 1) := dk_172 (dk_at dksX6_valueOf_2 4 rfl rfl)
theorem dX6_valueOf_61 : decode cX6_valueOf 61 = .ok (.aload_n 1, 1) := dk_43 (dk_at dksX6_valueOf_2 5 rfl rfl)
theorem dX6_valueOf_62 : decode cX6_valueOf 62 = .ok (.getfield 312, 3) := dk_180 1 56 (dk_at dksX6_valueOf_2 6 rfl rfl)
theorem dX6_valueOf_65 : decode cX6_valueOf 65 = .ok (.ireturn, 1) := dk_172 (dk_at dksX6_valueOf_2 9 rfl rfl)
theorem dX6_valueOf_66 : decode cX6_valueOf 66 = .ok (.aload_n 1, 1) := dk_43 (dk_at dksX6_valueOf_2 10 rfl rfl)
theorem dX6_valueOf_67 : decode cX6_valueOf 67 = .ok (.getfield 314, 3) := dk_180 1 58 (dk_at dksX6_valueOf_2 11 rfl rfl)
theorem dX6_valueOf_70 : decode cX6_valueOf 70 = .ok (.aload_n 1, 1) := dk_43 (dk_at dksX6_valueOf_2 14 rfl rfl)
theorem dX6_valueOf_71 : decode cX6_valueOf 71 = .ok (.invokevirtual 317, 3) := dk_182 1 61 (dk_at dksX6_valueOf_2 15 rfl rfl)
theorem dX6_valueOf_74 : decode cX6_valueOf 74 = .ok (.iaload, 1) := dk_46 (dk_at dksX6_valueOf_2 18 rfl rfl)
theorem dX6_valueOf_75 : decode cX6_valueOf 75 = .ok (.ireturn, 1) := dk_172 (dk_at dksX6_valueOf_2 19 rfl rfl)
theorem dX6_valueOf_76 : decode cX6_valueOf 76 = .ok (.aload_n 1, 1) := dk_43 (dk_at dksX6_valueOf_2 20 rfl rfl)
theorem dX6_valueOf_77 : decode cX6_valueOf 77 = .ok (.invokevirtual 320, 3) := dk_182 1 64 (dk_at dksX6_valueOf_2 21 rfl rfl)
theorem dX6_valueOf_80 : decode cX6_valueOf 80 = .ok (.ireturn, 1) := dk_172 (dk_at dksX6_valueOf_3 0 rfl rfl)
theorem dX6_valueOf_81 : decode cX6_valueOf 81 = .ok (.aload_n 0, 1) := dk_42 (dk_at dksX6_valueOf_3 1 rfl rfl)
theorem dX6_valueOf_82 : decode cX6_valueOf 82 = .ok (.getfield 29, 3) := dk_180 0 29 (dk_at dksX6_valueOf_3 2 rfl rfl)
theorem dX6_valueOf_85 : decode cX6_valueOf 85 = .ok (.iload_n 3, 1) := dk_29 (dk_at dksX6_valueOf_3 5 rfl rfl)
theorem dX6_valueOf_86 : decode cX6_valueOf 86 = .ok (.bipush 6, 2) := dk_16 6 (dk_at dksX6_valueOf_3 6 rfl rfl)
theorem dX6_valueOf_88 : decode cX6_valueOf 88 = .ok (.idiv, 1) := dk_108 (dk_at dksX6_valueOf_3 8 rfl rfl)
theorem dX6_valueOf_89 : decode cX6_valueOf 89 = .ok (.iaload, 1) := dk_46 (dk_at dksX6_valueOf_3 9 rfl rfl)
theorem dX6_valueOf_90 : decode cX6_valueOf 90 = .ok (.bipush 100, 2) := dk_16 100 (dk_at dksX6_valueOf_3 10 rfl rfl)
theorem dX6_valueOf_92 : decode cX6_valueOf 92 = .ok (.iadd, 1) := dk_96 (dk_at dksX6_valueOf_3 12 rfl rfl)
theorem dX6_valueOf_93 : decode cX6_valueOf 93 = .ok (.ireturn, 1) := dk_172 (dk_at dksX6_valueOf_3 13 rfl rfl)
theorem dX6_valueOf_94 : decode cX6_valueOf 94 = .ok (.aload_n 1, 1) := dk_43 (dk_at dksX6_valueOf_3 14 rfl rfl)
theorem dX6_valueOf_95 : decode cX6_valueOf 95 = .ok (.getfield 322, 3) := dk_180 1 66 (dk_at dksX6_valueOf_3 15 rfl rfl)
theorem dX6_valueOf_98 : decode cX6_valueOf 98 = .ok (.ireturn, 1) := dk_172 (dk_at dksX6_valueOf_3 18 rfl rfl)
theorem dX6_valueOf_99 : decode cX6_valueOf 99 = .ok (.aload_n 1, 1) := dk_43 (dk_at dksX6_valueOf_3 19 rfl rfl)
theorem dX6_valueOf_100 : decode cX6_valueOf 100 = .ok (.iconst 0, 1) := dk_3 (dk_at dksX6_valueOf_3 20 rfl rfl)
theorem dX6_valueOf_101 : decode cX6_valueOf 101 = .ok (.invokevirtual 324, 3) := dk_182 1 68 (dk_at dksX6_valueOf_3 21 rfl rfl)
theorem dX6_valueOf_104 : decode cX6_valueOf 104 = .ok (.ireturn, 1) := dk_172 (dk_at dksX6_valueOf_4 0 rfl rfl)
theorem dX6_valueOf_105 : decode cX6_valueOf 105 = .ok (.aload_n 0, 1) := dk_42 (dk_at dksX6_valueOf_4 1 rfl rfl)
theorem dX6_valueOf_106 : decode cX6_valueOf 106 = .ok (.getfield 22, 3) := dk_180 0 22 (dk_at dksX6_valueOf_4 2 rfl rfl)
theorem dX6_valueOf_109 : decode cX6_valueOf 109 = .ok (.aload_n 1, 1) := dk_43 (dk_at dksX6_valueOf_4 5 rfl rfl)
theorem dX6_valueOf_110 : decode cX6_valueOf 110 = .ok (.getfield 307, 3) := dk_180 1 51 (dk_at dksX6_valueOf_4 6 rfl rfl)
theorem dX6_valueOf_113 : decode cX6_valueOf 113 = .ok (.iaload, 1) := dk_46 (dk_at dksX6_valueOf_4 9 rfl rfl)
theorem dX6_valueOf_114 : decode cX6_valueOf 114 = .ok (.aload_n 1, 1) := dk_43 (dk_at dksX6_valueOf_4 10 rfl rfl)
theorem dX6_valueOf_115 : decode cX6_valueOf 115 = .ok (.getfield 304, 3) := dk_180 1 48 (dk_at dksX6_valueOf_4 11 rfl rfl)
theorem dX6_valueOf_118 : decode cX6_valueOf 118 = .ok (.isub, 1) := dk_100 (dk_at dksX6_valueOf_4 14 rfl rfl)
theorem dX6_valueOf_119 : decode cX6_valueOf 119 = .ok (.ireturn, 1) := dk_172 (dk_at dksX6_valueOf_4 15 rfl rfl)
theorem dX6_valueOf_120 : decode cX6_valueOf 120 = .ok (.iload_n 3, 1) := dk_29 (dk_at dksX6_valueOf_4 16 rfl rfl)
theorem dX6_valueOf_121 : decode cX6_valueOf 121 = .ok (.bipush 6, 2) := dk_16 6 (dk_at dksX6_valueOf_4 17 rfl rfl)
theorem dX6_valueOf_123 : decode cX6_valueOf 123 = .ok (.idiv, 1) := dk_108 (dk_at dksX6_valueOf_4 19 rfl rfl)
theorem dX6_valueOf_124 : decode cX6_valueOf 124 = .ok (.bipush 24, 2) := dk_16 24 (dk_at dksX6_valueOf_4 20 rfl rfl)
theorem dX6_valueOf_126 : decode cX6_valueOf 126 = .ok (.irem, 1) := dk_112 (dk_at dksX6_valueOf_4 22 rfl rfl)
theorem dX6_valueOf_127 : decode cX6_valueOf 127 = .ok (.ireturn, 1) := dk_172 (dk_at dksX6_valueOf_4 23 rfl rfl)
theorem dX6_valueOf_128 : decode cX6_valueOf 128 = .ok (.aload_n 1, 1) := dk_43 (dk_at dksX6_valueOf_5 0 rfl rfl)
theorem dX6_valueOf_129 : decode cX6_valueOf 129 = .ok (.getfield 304, 3) := dk_180 1 48 (dk_at dksX6_valueOf_5 1 rfl rfl)
theorem dX6_valueOf_132 : decode cX6_valueOf 132 = .ok (.ifCond .ne 10, 3) := dk_154 0 10 (dk_at dksX6_valueOf_5 4 rfl rfl)
theorem dX6_valueOf_135 : decode cX6_valueOf 135 = .ok (.aload_n 1, 1) := dk_43 (dk_at dksX6_valueOf_5 7 rfl rfl)
theorem dX6_valueOf_136 : decode cX6_valueOf 136 = .ok (.getfield 307, 3) := dk_180 1 51 (dk_at dksX6_valueOf_5 8 rfl rfl)
theorem dX6_valueOf_139 : decode cX6_valueOf 139 = .ok (.goto 5, 3) := dk_167 0 5 (dk_at dksX6_valueOf_5 11 rfl rfl)
theorem dX6_valueOf_142 : decode cX6_valueOf 142 = .ok (.bipush 99, 2) := dk_16 99 (dk_at dksX6_valueOf_5 14 rfl rfl)
theorem dX6_valueOf_144 : decode cX6_valueOf 144 = .ok (.ireturn, 1) := dk_172 (dk_at dksX6_valueOf_5 16 rfl rfl)
theorem dX6_valueOf_145 : decode cX6_valueOf 145 = .ok (.aload_n 1, 1) := dk_43 (dk_at dksX6_valueOf_5 17 rfl rfl)
theorem dX6_valueOf_146 : decode cX6_valueOf 146 = .ok (.getfield 327, 3) := dk_180 1 71 (dk_at dksX6_valueOf_5 18 rfl rfl)
theorem dX6_valueOf_149 : decode cX6_valueOf 149 = .ok (.ireturn, 1) := dk_172 (dk_at dksX6_valueOf_5 21 rfl rfl)
abbrev cX6_goes : ByteArray := prog_16_method_47_code
def yX6_goes : MethodName := ⟨RX6, "goes", "(LSledHouseModel$Team;II)V"⟩
def dkwX6_goes_15 : List UInt8 := [181, 1, 71, 43, 180, 1, 51, 42, 180, 0, 91, 160, 0, 8, 43, 5, 181, 1, 33, 177]
abbrev dktX6_goes_15 : List UInt8 := dkwX6_goes_15 ++ []
def dkwX6_goes_14 : List UInt8 := [79, 43, 180, 1, 99, 21, 7, 43, 180, 1, 51, 79, 132, 7, 1, 167, 255, 211, 43, 43, 180, 1, 113]
abbrev dktX6_goes_14 : List UInt8 := dkwX6_goes_14 ++ dktX6_goes_15
def dkwX6_goes_13 : List UInt8 := [162, 0, 42, 43, 180, 1, 96, 21, 7, 46, 4, 159, 0, 6, 167, 0, 22, 43, 180, 1, 96, 21, 7, 5]
abbrev dktX6_goes_13 : List UInt8 := dkwX6_goes_13 ++ dktX6_goes_14
def dkwX6_goes_12 : List UInt8 := [181, 1, 48, 43, 180, 1, 79, 43, 180, 1, 51, 28, 4, 96, 79, 3, 54, 7, 21, 7, 43, 180, 1, 105]
abbrev dktX6_goes_12 : List UInt8 := dkwX6_goes_12 ++ dktX6_goes_13
def dkwX6_goes_11 : List UInt8 := [180, 0, 22, 43, 180, 1, 51, 46, 162, 0, 4, 177, 43, 89, 180, 1, 51, 4, 96, 181, 1, 51, 43, 3]
abbrev dktX6_goes_11 : List UInt8 := dkwX6_goes_11 ++ dktX6_goes_12
def dkwX6_goes_10 : List UInt8 := [180, 1, 71, 96, 108, 54, 6, 43, 89, 180, 1, 48, 21, 6, 96, 181, 1, 48, 43, 180, 1, 48, 42]
abbrev dktX6_goes_10 : List UInt8 := dkwX6_goes_10 ++ dktX6_goes_11
def dkwX6_goes_9 : List UInt8 := [17, 3, 232, 42, 180, 0, 26, 43, 180, 1, 51, 46, 104, 108, 16, 20, 104, 16, 20, 21, 5, 104, 43]
abbrev dktX6_goes_9 : List UInt8 := dkwX6_goes_9 ++ dktX6_goes_10
def dkwX6_goes_8 : List UInt8 := [154, 0, 9, 43, 6, 181, 1, 33, 177, 16, 30, 43, 182, 1, 64, 104, 21, 5, 104, 16, 100, 104]
abbrev dktX6_goes_8 : List UInt8 := dkwX6_goes_8 ++ dktX6_goes_9
def dkwX6_goes_7 : List UInt8 := [180, 1, 113, 16, 25, 43, 4, 182, 1, 68, 104, 96, 181, 1, 71, 43, 3, 182, 1, 68, 54, 5, 21, 5]
abbrev dktX6_goes_7 : List UInt8 := dkwX6_goes_7 ++ dktX6_goes_8
def dkwX6_goes_6 : List UInt8 := [158, 0, 6, 167, 0, 11, 43, 180, 1, 96, 21, 5, 4, 79, 132, 5, 1, 167, 255, 189, 43, 43]
abbrev dktX6_goes_6 : List UInt8 := dkwX6_goes_6 ++ dktX6_goes_7
def dkwX6_goes_5 : List UInt8 := [21, 5, 3, 43, 180, 1, 58, 21, 5, 46, 21, 4, 100, 184, 1, 107, 79, 43, 180, 1, 58, 21, 5, 46]
abbrev dktX6_goes_5 : List UInt8 := dkwX6_goes_5 ++ dktX6_goes_6
def dkwX6_goes_4 : List UInt8 := [180, 1, 105, 162, 0, 64, 43, 180, 1, 96, 21, 5, 46, 153, 0, 6, 167, 0, 45, 43, 180, 1, 58]
abbrev dktX6_goes_4 : List UInt8 := dkwX6_goes_4 ++ dktX6_goes_5
def dkwX6_goes_3 : List UInt8 := [164, 0, 12, 29, 16, 10, 96, 6, 108, 167, 0, 4, 3, 96, 54, 4, 3, 54, 5, 21, 5, 43]
abbrev dktX6_goes_3 : List UInt8 := dkwX6_goes_3 ++ dktX6_goes_4
def dkwX6_goes_2 : List UInt8 := [180, 1, 71, 16, 40, 108, 96, 42, 180, 0, 26, 43, 180, 1, 51, 46, 16, 25, 108, 96, 29, 16, 246]
abbrev dktX6_goes_2 : List UInt8 := dkwX6_goes_2 ++ dktX6_goes_3
def dkwX6_goes_1 : List UInt8 := [43, 180, 1, 51, 28, 79, 43, 89, 180, 1, 54, 4, 96, 181, 1, 54, 43, 3, 181, 1, 56, 16, 6, 43]
abbrev dktX6_goes_1 : List UInt8 := dkwX6_goes_1 ++ dktX6_goes_2
def dkwX6_goes_0 : List UInt8 := [43, 180, 1, 48, 154, 0, 26, 43, 180, 1, 102, 43, 180, 1, 51, 46, 2, 160, 0, 13, 43, 180, 1, 102]
abbrev dktX6_goes_0 : List UInt8 := dkwX6_goes_0 ++ dktX6_goes_1
theorem dksX6_goes_0 : cX6_goes.data.toList.drop 0 = dktX6_goes_0 := by decide +kernel
theorem dksX6_goes_1 : cX6_goes.data.toList.drop 24 = dktX6_goes_1 := dk_seg dksX6_goes_0 24 rfl rfl
theorem dksX6_goes_2 : cX6_goes.data.toList.drop 48 = dktX6_goes_2 := dk_seg dksX6_goes_1 24 rfl rfl
theorem dksX6_goes_3 : cX6_goes.data.toList.drop 71 = dktX6_goes_3 := dk_seg dksX6_goes_2 23 rfl rfl
theorem dksX6_goes_4 : cX6_goes.data.toList.drop 93 = dktX6_goes_4 := dk_seg dksX6_goes_3 22 rfl rfl
theorem dksX6_goes_5 : cX6_goes.data.toList.drop 116 = dktX6_goes_5 := dk_seg dksX6_goes_4 23 rfl rfl
theorem dksX6_goes_6 : cX6_goes.data.toList.drop 140 = dktX6_goes_6 := dk_seg dksX6_goes_5 24 rfl rfl
theorem dksX6_goes_7 : cX6_goes.data.toList.drop 162 = dktX6_goes_7 := dk_seg dksX6_goes_6 22 rfl rfl
theorem dksX6_goes_8 : cX6_goes.data.toList.drop 186 = dktX6_goes_8 := dk_seg dksX6_goes_7 24 rfl rfl
theorem dksX6_goes_9 : cX6_goes.data.toList.drop 208 = dktX6_goes_9 := dk_seg dksX6_goes_8 22 rfl rfl
theorem dksX6_goes_10 : cX6_goes.data.toList.drop 231 = dktX6_goes_10 := dk_seg dksX6_goes_9 23 rfl rfl
theorem dksX6_goes_11 : cX6_goes.data.toList.drop 254 = dktX6_goes_11 := dk_seg dksX6_goes_10 23 rfl rfl
theorem dksX6_goes_12 : cX6_goes.data.toList.drop 278 = dktX6_goes_12 := dk_seg dksX6_goes_11 24 rfl rfl
theorem dksX6_goes_13 : cX6_goes.data.toList.drop 302 = dktX6_goes_13 := dk_seg dksX6_goes_12 24 rfl rfl
theorem dksX6_goes_14 : cX6_goes.data.toList.drop 326 = dktX6_goes_14 := dk_seg dksX6_goes_13 24 rfl rfl
theorem dksX6_goes_15 : cX6_goes.data.toList.drop 349 = dktX6_goes_15 := dk_seg dksX6_goes_14 23 rfl rfl
theorem dX6_goes_0 : decode cX6_goes 0 = .ok (.aload_n 1, 1) := dk_43 (dk_at dksX6_goes_0 0 rfl rfl)
theorem dX6_goes_1 : decode cX6_goes 1 = .ok (.getfield 304, 3) := dk_180 1 48 (dk_at dksX6_goes_0 1 rfl rfl)
theorem dX6_goes_4 : decode cX6_goes 4 = .ok (.ifCond .ne 26, 3) := dk_154 0 26 (dk_at dksX6_goes_0 4 rfl rfl)
theorem dX6_goes_7 : decode cX6_goes 7 = .ok (.aload_n 1, 1) := dk_43 (dk_at dksX6_goes_0 7 rfl rfl)
theorem dX6_goes_8 : decode cX6_goes 8 = .ok (.getfield 358, 3) := dk_180 1 102 (dk_at dksX6_goes_0 8 rfl rfl)
theorem dX6_goes_11 : decode cX6_goes 11 = .ok (.aload_n 1, 1) := dk_43 (dk_at dksX6_goes_0 11 rfl rfl)
theorem dX6_goes_12 : decode cX6_goes 12 = .ok (.getfield 307, 3) := dk_180 1 51 (dk_at dksX6_goes_0 12 rfl rfl)
theorem dX6_goes_15 : decode cX6_goes 15 = .ok (.iaload, 1) := dk_46 (dk_at dksX6_goes_0 15 rfl rfl)
theorem dX6_goes_16 : decode cX6_goes 16 = .ok (.iconst (-1), 1) := dk_2 (dk_at dksX6_goes_0 16 rfl rfl)
theorem dX6_goes_17 : decode cX6_goes 17 = .ok (.if_icmp .ne 13, 3) := dk_160 0 13 (dk_at dksX6_goes_0 17 rfl rfl)
theorem dX6_goes_20 : decode cX6_goes 20 = .ok (.aload_n 1, 1) := dk_43 (dk_at dksX6_goes_0 20 rfl rfl)
theorem dX6_goes_21 : decode cX6_goes 21 = .ok (.getfield 358, 3) := dk_180 1 102 (dk_at dksX6_goes_0 21 rfl rfl)
theorem dX6_goes_24 : decode cX6_goes 24 = .ok (.aload_n 1, 1) := dk_43 (dk_at dksX6_goes_1 0 rfl rfl)
theorem dX6_goes_25 : decode cX6_goes 25 = .ok (.getfield 307, 3) := dk_180 1 51 (dk_at dksX6_goes_1 1 rfl rfl)
theorem dX6_goes_28 : decode cX6_goes 28 = .ok (.iload_n 2, 1) := dk_28 (dk_at dksX6_goes_1 4 rfl rfl)
theorem dX6_goes_29 : decode cX6_goes 29 = .ok (.iastore, 1) := dk_79 (dk_at dksX6_goes_1 5 rfl rfl)
theorem dX6_goes_30 : decode cX6_goes 30 = .ok (.aload_n 1, 1) := dk_43 (dk_at dksX6_goes_1 6 rfl rfl)
theorem dX6_goes_31 : decode cX6_goes 31 = .ok (.dup, 1) := dk_89 (dk_at dksX6_goes_1 7 rfl rfl)
theorem dX6_goes_32 : decode cX6_goes 32 = .ok (.getfield 310, 3) := dk_180 1 54 (dk_at dksX6_goes_1 8 rfl rfl)
theorem dX6_goes_35 : decode cX6_goes 35 = .ok (.iconst 1, 1) := dk_4 (dk_at dksX6_goes_1 11 rfl rfl)
theorem dX6_goes_36 : decode cX6_goes 36 = .ok (.iadd, 1) := dk_96 (dk_at dksX6_goes_1 12 rfl rfl)
theorem dX6_goes_37 : decode cX6_goes 37 = .ok (.putfield 310, 3) := dk_181 1 54 (dk_at dksX6_goes_1 13 rfl rfl)
theorem dX6_goes_40 : decode cX6_goes 40 = .ok (.aload_n 1, 1) := dk_43 (dk_at dksX6_goes_1 16 rfl rfl)
theorem dX6_goes_41 : decode cX6_goes 41 = .ok (.iconst 0, 1) := dk_3 (dk_at dksX6_goes_1 17 rfl rfl)
theorem dX6_goes_42 : decode cX6_goes 42 = .ok (.putfield 312, 3) := dk_181 1 56 (dk_at dksX6_goes_1 18 rfl rfl)
theorem dX6_goes_45 : decode cX6_goes 45 = .ok (.bipush 6, 2) := dk_16 6 (dk_at dksX6_goes_1 21 rfl rfl)
theorem dX6_goes_47 : decode cX6_goes 47 = .ok (.aload_n 1, 1) := dk_43 (dk_at dksX6_goes_1 23 rfl rfl)
theorem dX6_goes_48 : decode cX6_goes 48 = .ok (.getfield 327, 3) := dk_180 1 71 (dk_at dksX6_goes_2 0 rfl rfl)
theorem dX6_goes_51 : decode cX6_goes 51 = .ok (.bipush 40, 2) := dk_16 40 (dk_at dksX6_goes_2 3 rfl rfl)
theorem dX6_goes_53 : decode cX6_goes 53 = .ok (.idiv, 1) := dk_108 (dk_at dksX6_goes_2 5 rfl rfl)
theorem dX6_goes_54 : decode cX6_goes 54 = .ok (.iadd, 1) := dk_96 (dk_at dksX6_goes_2 6 rfl rfl)
theorem dX6_goes_55 : decode cX6_goes 55 = .ok (.aload_n 0, 1) := dk_42 (dk_at dksX6_goes_2 7 rfl rfl)
theorem dX6_goes_56 : decode cX6_goes 56 = .ok (.getfield 26, 3) := dk_180 0 26 (dk_at dksX6_goes_2 8 rfl rfl)
theorem dX6_goes_59 : decode cX6_goes 59 = .ok (.aload_n 1, 1) := dk_43 (dk_at dksX6_goes_2 11 rfl rfl)
theorem dX6_goes_60 : decode cX6_goes 60 = .ok (.getfield 307, 3) := dk_180 1 51 (dk_at dksX6_goes_2 12 rfl rfl)
theorem dX6_goes_63 : decode cX6_goes 63 = .ok (.iaload, 1) := dk_46 (dk_at dksX6_goes_2 15 rfl rfl)
theorem dX6_goes_64 : decode cX6_goes 64 = .ok (.bipush 25, 2) := dk_16 25 (dk_at dksX6_goes_2 16 rfl rfl)
theorem dX6_goes_66 : decode cX6_goes 66 = .ok (.idiv, 1) := dk_108 (dk_at dksX6_goes_2 18 rfl rfl)
theorem dX6_goes_67 : decode cX6_goes 67 = .ok (.iadd, 1) := dk_96 (dk_at dksX6_goes_2 19 rfl rfl)
theorem dX6_goes_68 : decode cX6_goes 68 = .ok (.iload_n 3, 1) := dk_29 (dk_at dksX6_goes_2 20 rfl rfl)
theorem dX6_goes_69 : decode cX6_goes 69 = .ok (.bipush (-10), 2) := dk_16 246 (dk_at dksX6_goes_2 21 rfl rfl)
theorem dX6_goes_71 : decode cX6_goes 71 = .ok (.if_icmp .le 12, 3) := dk_164 0 12 (dk_at dksX6_goes_3 0 rfl rfl)
theorem dX6_goes_74 : decode cX6_goes 74 = .ok (.iload_n 3, 1) := dk_29 (dk_at dksX6_goes_3 3 rfl rfl)
theorem dX6_goes_75 : decode cX6_goes 75 = .ok (.bipush 10, 2) := dk_16 10 (dk_at dksX6_goes_3 4 rfl rfl)
theorem dX6_goes_77 : decode cX6_goes 77 = .ok (.iadd, 1) := dk_96 (dk_at dksX6_goes_3 6 rfl rfl)
theorem dX6_goes_78 : decode cX6_goes 78 = .ok (.iconst 3, 1) := dk_6 (dk_at dksX6_goes_3 7 rfl rfl)
theorem dX6_goes_79 : decode cX6_goes 79 = .ok (.idiv, 1) := dk_108 (dk_at dksX6_goes_3 8 rfl rfl)
theorem dX6_goes_80 : decode cX6_goes 80 = .ok (.goto 4, 3) := dk_167 0 4 (dk_at dksX6_goes_3 9 rfl rfl)
theorem dX6_goes_83 : decode cX6_goes 83 = .ok (.iconst 0, 1) := dk_3 (dk_at dksX6_goes_3 12 rfl rfl)
theorem dX6_goes_84 : decode cX6_goes 84 = .ok (.iadd, 1) := dk_96 (dk_at dksX6_goes_3 13 rfl rfl)
theorem dX6_goes_85 : decode cX6_goes 85 = .ok (.istore 4, 2) := dk_54 4 (dk_at dksX6_goes_3 14 rfl rfl)
theorem dX6_goes_87 : decode cX6_goes 87 = .ok (.iconst 0, 1) := dk_3 (dk_at dksX6_goes_3 16 rfl rfl)
theorem dX6_goes_88 : decode cX6_goes 88 = .ok (.istore 5, 2) := dk_54 5 (dk_at dksX6_goes_3 17 rfl rfl)
theorem dX6_goes_90 : decode cX6_goes 90 = .ok (.iload 5, 2) := dk_21 5 (dk_at dksX6_goes_3 19 rfl rfl)
theorem dX6_goes_92 : decode cX6_goes 92 = .ok (.aload_n 1, 1) := dk_43 (dk_at dksX6_goes_3 21 rfl rfl)
theorem dX6_goes_93 : decode cX6_goes 93 = .ok (.getfield 361, 3) := dk_180 1 105 (dk_at dksX6_goes_4 0 rfl rfl)
theorem dX6_goes_96 : decode cX6_goes 96 = .ok (.if_icmp .ge 64, 3) := dk_162 0 64 (dk_at dksX6_goes_4 3 rfl rfl)
theorem dX6_goes_99 : decode cX6_goes 99 = .ok (.aload_n 1, 1) := dk_43 (dk_at dksX6_goes_4 6 rfl rfl)
theorem dX6_goes_100 : decode cX6_goes 100 = .ok (.getfield 352, 3) := dk_180 1 96 (dk_at dksX6_goes_4 7 rfl rfl)
theorem dX6_goes_103 : decode cX6_goes 103 = .ok (.iload 5, 2) := dk_21 5 (dk_at dksX6_goes_4 10 rfl rfl)
theorem dX6_goes_105 : decode cX6_goes 105 = .ok (.iaload, 1) := dk_46 (dk_at dksX6_goes_4 12 rfl rfl)
theorem dX6_goes_106 : decode cX6_goes 106 = .ok (.ifCond .eq 6, 3) := dk_153 0 6 (dk_at dksX6_goes_4 13 rfl rfl)
theorem dX6_goes_109 : decode cX6_goes 109 = .ok (.goto 45, 3) := dk_167 0 45 (dk_at dksX6_goes_4 16 rfl rfl)
theorem dX6_goes_112 : decode cX6_goes 112 = .ok (.aload_n 1, 1) := dk_43 (dk_at dksX6_goes_4 19 rfl rfl)
theorem dX6_goes_113 : decode cX6_goes 113 = .ok (.getfield 314, 3) := dk_180 1 58 (dk_at dksX6_goes_4 20 rfl rfl)
theorem dX6_goes_116 : decode cX6_goes 116 = .ok (.iload 5, 2) := dk_21 5 (dk_at dksX6_goes_5 0 rfl rfl)
theorem dX6_goes_118 : decode cX6_goes 118 = .ok (.iconst 0, 1) := dk_3 (dk_at dksX6_goes_5 2 rfl rfl)
theorem dX6_goes_119 : decode cX6_goes 119 = .ok (.aload_n 1, 1) := dk_43 (dk_at dksX6_goes_5 3 rfl rfl)
theorem dX6_goes_120 : decode cX6_goes 120 = .ok (.getfield 314, 3) := dk_180 1 58 (dk_at dksX6_goes_5 4 rfl rfl)
theorem dX6_goes_123 : decode cX6_goes 123 = .ok (.iload 5, 2) := dk_21 5 (dk_at dksX6_goes_5 7 rfl rfl)
theorem dX6_goes_125 : decode cX6_goes 125 = .ok (.iaload, 1) := dk_46 (dk_at dksX6_goes_5 9 rfl rfl)
theorem dX6_goes_126 : decode cX6_goes 126 = .ok (.iload 4, 2) := dk_21 4 (dk_at dksX6_goes_5 10 rfl rfl)
theorem dX6_goes_128 : decode cX6_goes 128 = .ok (.isub, 1) := dk_100 (dk_at dksX6_goes_5 12 rfl rfl)
theorem dX6_goes_129 : decode cX6_goes 129 = .ok (.invokestatic 363, 3) := dk_184 1 107 (dk_at dksX6_goes_5 13 rfl rfl)
theorem dX6_goes_132 : decode cX6_goes 132 = .ok (.iastore, 1) := dk_79 (dk_at dksX6_goes_5 16 rfl rfl)
theorem dX6_goes_133 : decode cX6_goes 133 = .ok (.aload_n 1, 1) := dk_43 (dk_at dksX6_goes_5 17 rfl rfl)
theorem dX6_goes_134 : decode cX6_goes 134 = .ok (.getfield 314, 3) := dk_180 1 58 (dk_at dksX6_goes_5 18 rfl rfl)
theorem dX6_goes_137 : decode cX6_goes 137 = .ok (.iload 5, 2) := dk_21 5 (dk_at dksX6_goes_5 21 rfl rfl)
theorem dX6_goes_139 : decode cX6_goes 139 = .ok (.iaload, 1) := dk_46 (dk_at dksX6_goes_5 23 rfl rfl)
theorem dX6_goes_140 : decode cX6_goes 140 = .ok (.ifCond .le 6, 3) := dk_158 0 6 (dk_at dksX6_goes_6 0 rfl rfl)
theorem dX6_goes_143 : decode cX6_goes 143 = .ok (.goto 11, 3) := dk_167 0 11 (dk_at dksX6_goes_6 3 rfl rfl)
theorem dX6_goes_146 : decode cX6_goes 146 = .ok (.aload_n 1, 1) := dk_43 (dk_at dksX6_goes_6 6 rfl rfl)
theorem dX6_goes_147 : decode cX6_goes 147 = .ok (.getfield 352, 3) := dk_180 1 96 (dk_at dksX6_goes_6 7 rfl rfl)
theorem dX6_goes_150 : decode cX6_goes 150 = .ok (.iload 5, 2) := dk_21 5 (dk_at dksX6_goes_6 10 rfl rfl)
theorem dX6_goes_152 : decode cX6_goes 152 = .ok (.iconst 1, 1) := dk_4 (dk_at dksX6_goes_6 12 rfl rfl)
theorem dX6_goes_153 : decode cX6_goes 153 = .ok (.iastore, 1) := dk_79 (dk_at dksX6_goes_6 13 rfl rfl)
theorem dX6_goes_154 : decode cX6_goes 154 = .ok (.iinc 5 1, 3) := dk_132 5 1 (dk_at dksX6_goes_6 14 rfl rfl)
theorem dX6_goes_157 : decode cX6_goes 157 = .ok (.goto (-67), 3) := dk_167 255 189 (dk_at dksX6_goes_6 17 rfl rfl)
theorem dX6_goes_160 : decode cX6_goes 160 = .ok (.aload_n 1, 1) := dk_43 (dk_at dksX6_goes_6 20 rfl rfl)
theorem dX6_goes_161 : decode cX6_goes 161 = .ok (.aload_n 1, 1) := dk_43 (dk_at dksX6_goes_6 21 rfl rfl)
theorem dX6_goes_162 : decode cX6_goes 162 = .ok (.getfield 369, 3) := dk_180 1 113 (dk_at dksX6_goes_7 0 rfl rfl)
theorem dX6_goes_165 : decode cX6_goes 165 = .ok (.bipush 25, 2) := dk_16 25 (dk_at dksX6_goes_7 3 rfl rfl)
theorem dX6_goes_167 : decode cX6_goes 167 = .ok (.aload_n 1, 1) := dk_43 (dk_at dksX6_goes_7 5 rfl rfl)
theorem dX6_goes_168 : decode cX6_goes 168 = .ok (.iconst 1, 1) := dk_4 (dk_at dksX6_goes_7 6 rfl rfl)
theorem dX6_goes_169 : decode cX6_goes 169 = .ok (.invokevirtual 324, 3) := dk_182 1 68 (dk_at dksX6_goes_7 7 rfl rfl)
theorem dX6_goes_172 : decode cX6_goes 172 = .ok (.imul, 1) := dk_104 (dk_at dksX6_goes_7 10 rfl rfl)
theorem dX6_goes_173 : decode cX6_goes 173 = .ok (.iadd, 1) := dk_96 (dk_at dksX6_goes_7 11 rfl rfl)
theorem dX6_goes_174 : decode cX6_goes 174 = .ok (.putfield 327, 3) := dk_181 1 71 (dk_at dksX6_goes_7 12 rfl rfl)
theorem dX6_goes_177 : decode cX6_goes 177 = .ok (.aload_n 1, 1) := dk_43 (dk_at dksX6_goes_7 15 rfl rfl)
theorem dX6_goes_178 : decode cX6_goes 178 = .ok (.iconst 0, 1) := dk_3 (dk_at dksX6_goes_7 16 rfl rfl)
theorem dX6_goes_179 : decode cX6_goes 179 = .ok (.invokevirtual 324, 3) := dk_182 1 68 (dk_at dksX6_goes_7 17 rfl rfl)
theorem dX6_goes_182 : decode cX6_goes 182 = .ok (.istore 5, 2) := dk_54 5 (dk_at dksX6_goes_7 20 rfl rfl)
theorem dX6_goes_184 : decode cX6_goes 184 = .ok (.iload 5, 2) := dk_21 5 (dk_at dksX6_goes_7 22 rfl rfl)
theorem dX6_goes_186 : decode cX6_goes 186 = .ok (.ifCond .ne 9, 3) := dk_154 0 9 (dk_at dksX6_goes_8 0 rfl rfl)
theorem dX6_goes_189 : decode cX6_goes 189 = .ok (.aload_n 1, 1) := dk_43 (dk_at dksX6_goes_8 3 rfl rfl)
theorem dX6_goes_190 : decode cX6_goes 190 = .ok (.iconst 3, 1) := dk_6 (dk_at dksX6_goes_8 4 rfl rfl)
theorem dX6_goes_191 : decode cX6_goes 191 = .ok (.putfield 289, 3) := dk_181 1 33 (dk_at dksX6_goes_8 5 rfl rfl)
theorem dX6_goes_194 : decode cX6_goes 194 = .ok (.return_, 1) := dk_177 (dk_at dksX6_goes_8 8 rfl rfl)
theorem dX6_goes_195 : decode cX6_goes 195 = .ok (.bipush 30, 2) := dk_16 30 (dk_at dksX6_goes_8 9 rfl rfl)
theorem dX6_goes_197 : decode cX6_goes 197 = .ok (.aload_n 1, 1) := dk_43 (dk_at dksX6_goes_8 11 rfl rfl)
theorem dX6_goes_198 : decode cX6_goes 198 = .ok (.invokevirtual 320, 3) := dk_182 1 64 (dk_at dksX6_goes_8 12 rfl rfl)
theorem dX6_goes_201 : decode cX6_goes 201 = .ok (.imul, 1) := dk_104 (dk_at dksX6_goes_8 15 rfl rfl)
theorem dX6_goes_202 : decode cX6_goes 202 = .ok (.iload 5, 2) := dk_21 5 (dk_at dksX6_goes_8 16 rfl rfl)
theorem dX6_goes_204 : decode cX6_goes 204 = .ok (.imul, 1) := dk_104 (dk_at dksX6_goes_8 18 rfl rfl)
theorem dX6_goes_205 : decode cX6_goes 205 = .ok (.bipush 100, 2) := dk_16 100 (dk_at dksX6_goes_8 19 rfl rfl)
theorem dX6_goes_207 : decode cX6_goes 207 = .ok (.imul, 1) := dk_104 (dk_at dksX6_goes_8 21 rfl rfl)
theorem dX6_goes_208 : decode cX6_goes 208 = .ok (.sipush 1000, 3) := dk_17 3 232 (dk_at dksX6_goes_9 0 rfl rfl)
theorem dX6_goes_211 : decode cX6_goes 211 = .ok (.aload_n 0, 1) := dk_42 (dk_at dksX6_goes_9 3 rfl rfl)
theorem dX6_goes_212 : decode cX6_goes 212 = .ok (.getfield 26, 3) := dk_180 0 26 (dk_at dksX6_goes_9 4 rfl rfl)
theorem dX6_goes_215 : decode cX6_goes 215 = .ok (.aload_n 1, 1) := dk_43 (dk_at dksX6_goes_9 7 rfl rfl)
theorem dX6_goes_216 : decode cX6_goes 216 = .ok (.getfield 307, 3) := dk_180 1 51 (dk_at dksX6_goes_9 8 rfl rfl)
theorem dX6_goes_219 : decode cX6_goes 219 = .ok (.iaload, 1) := dk_46 (dk_at dksX6_goes_9 11 rfl rfl)
theorem dX6_goes_220 : decode cX6_goes 220 = .ok (.imul, 1) := dk_104 (dk_at dksX6_goes_9 12 rfl rfl)
theorem dX6_goes_221 : decode cX6_goes 221 = .ok (.idiv, 1) := dk_108 (dk_at dksX6_goes_9 13 rfl rfl)
theorem dX6_goes_222 : decode cX6_goes 222 = .ok (.bipush 20, 2) := dk_16 20 (dk_at dksX6_goes_9 14 rfl rfl)
theorem dX6_goes_224 : decode cX6_goes 224 = .ok (.imul, 1) := dk_104 (dk_at dksX6_goes_9 16 rfl rfl)
theorem dX6_goes_225 : decode cX6_goes 225 = .ok (.bipush 20, 2) := dk_16 20 (dk_at dksX6_goes_9 17 rfl rfl)
theorem dX6_goes_227 : decode cX6_goes 227 = .ok (.iload 5, 2) := dk_21 5 (dk_at dksX6_goes_9 19 rfl rfl)
theorem dX6_goes_229 : decode cX6_goes 229 = .ok (.imul, 1) := dk_104 (dk_at dksX6_goes_9 21 rfl rfl)
theorem dX6_goes_230 : decode cX6_goes 230 = .ok (.aload_n 1, 1) := dk_43 (dk_at dksX6_goes_9 22 rfl rfl)
theorem dX6_goes_231 : decode cX6_goes 231 = .ok (.getfield 327, 3) := dk_180 1 71 (dk_at dksX6_goes_10 0 rfl rfl)
theorem dX6_goes_234 : decode cX6_goes 234 = .ok (.iadd, 1) := dk_96 (dk_at dksX6_goes_10 3 rfl rfl)
theorem dX6_goes_235 : decode cX6_goes 235 = .ok (.idiv, 1) := dk_108 (dk_at dksX6_goes_10 4 rfl rfl)
theorem dX6_goes_236 : decode cX6_goes 236 = .ok (.istore 6, 2) := dk_54 6 (dk_at dksX6_goes_10 5 rfl rfl)
theorem dX6_goes_238 : decode cX6_goes 238 = .ok (.aload_n 1, 1) := dk_43 (dk_at dksX6_goes_10 7 rfl rfl)
theorem dX6_goes_239 : decode cX6_goes 239 = .ok (.dup, 1) := dk_89 (dk_at dksX6_goes_10 8 rfl rfl)
theorem dX6_goes_240 : decode cX6_goes 240 = .ok (.getfield 304, 3) := dk_180 1 48 (dk_at dksX6_goes_10 9 rfl rfl)
theorem dX6_goes_243 : decode cX6_goes 243 = .ok (.iload 6, 2) := dk_21 6 (dk_at dksX6_goes_10 12 rfl rfl)
theorem dX6_goes_245 : decode cX6_goes 245 = .ok (.iadd, 1) := dk_96 (dk_at dksX6_goes_10 14 rfl rfl)
theorem dX6_goes_246 : decode cX6_goes 246 = .ok (.putfield 304, 3) := dk_181 1 48 (dk_at dksX6_goes_10 15 rfl rfl)
theorem dX6_goes_249 : decode cX6_goes 249 = .ok (.aload_n 1, 1) := dk_43 (dk_at dksX6_goes_10 18 rfl rfl)
theorem dX6_goes_250 : decode cX6_goes 250 = .ok (.getfield 304, 3) := dk_180 1 48 (dk_at dksX6_goes_10 19 rfl rfl)
theorem dX6_goes_253 : decode cX6_goes 253 = .ok (.aload_n 0, 1) := dk_42 (dk_at dksX6_goes_10 22 rfl rfl)
theorem dX6_goes_254 : decode cX6_goes 254 = .ok (.getfield 22, 3) := dk_180 0 22 (dk_at dksX6_goes_11 0 rfl rfl)
theorem dX6_goes_257 : decode cX6_goes 257 = .ok (.aload_n 1, 1) := dk_43 (dk_at dksX6_goes_11 3 rfl rfl)
theorem dX6_goes_258 : decode cX6_goes 258 = .ok (.getfield 307, 3) := dk_180 1 51 (dk_at dksX6_goes_11 4 rfl rfl)
theorem dX6_goes_261 : decode cX6_goes 261 = .ok (.iaload, 1) := dk_46 (dk_at dksX6_goes_11 7 rfl rfl)
theorem dX6_goes_262 : decode cX6_goes 262 = .ok (.if_icmp .ge 4, 3) := dk_162 0 4 (dk_at dksX6_goes_11 8 rfl rfl)
theorem dX6_goes_265 : decode cX6_goes 265 = .ok (.return_, 1) := dk_177 (dk_at dksX6_goes_11 11 rfl rfl)
theorem dX6_goes_266 : decode cX6_goes 266 = .ok (.aload_n 1, 1) := dk_43 (dk_at dksX6_goes_11 12 rfl rfl)
theorem dX6_goes_267 : decode cX6_goes 267 = .ok (.dup, 1) := dk_89 (dk_at dksX6_goes_11 13 rfl rfl)
theorem dX6_goes_268 : decode cX6_goes 268 = .ok (.getfield 307, 3) := dk_180 1 51 (dk_at dksX6_goes_11 14 rfl rfl)
theorem dX6_goes_271 : decode cX6_goes 271 = .ok (.iconst 1, 1) := dk_4 (dk_at dksX6_goes_11 17 rfl rfl)
theorem dX6_goes_272 : decode cX6_goes 272 = .ok (.iadd, 1) := dk_96 (dk_at dksX6_goes_11 18 rfl rfl)
theorem dX6_goes_273 : decode cX6_goes 273 = .ok (.putfield 307, 3) := dk_181 1 51 (dk_at dksX6_goes_11 19 rfl rfl)
theorem dX6_goes_276 : decode cX6_goes 276 = .ok (.aload_n 1, 1) := dk_43 (dk_at dksX6_goes_11 22 rfl rfl)
theorem dX6_goes_277 : decode cX6_goes 277 = .ok (.iconst 0, 1) := dk_3 (dk_at dksX6_goes_11 23 rfl rfl)
theorem dX6_goes_278 : decode cX6_goes 278 = .ok (.putfield 304, 3) := dk_181 1 48 (dk_at dksX6_goes_12 0 rfl rfl)
theorem dX6_goes_281 : decode cX6_goes 281 = .ok (.aload_n 1, 1) := dk_43 (dk_at dksX6_goes_12 3 rfl rfl)
theorem dX6_goes_282 : decode cX6_goes 282 = .ok (.getfield 335, 3) := dk_180 1 79 (dk_at dksX6_goes_12 4 rfl rfl)
theorem dX6_goes_285 : decode cX6_goes 285 = .ok (.aload_n 1, 1) := dk_43 (dk_at dksX6_goes_12 7 rfl rfl)
theorem dX6_goes_286 : decode cX6_goes 286 = .ok (.getfield 307, 3) := dk_180 1 51 (dk_at dksX6_goes_12 8 rfl rfl)
theorem dX6_goes_289 : decode cX6_goes 289 = .ok (.iload_n 2, 1) := dk_28 (dk_at dksX6_goes_12 11 rfl rfl)
theorem dX6_goes_290 : decode cX6_goes 290 = .ok (.iconst 1, 1) := dk_4 (dk_at dksX6_goes_12 12 rfl rfl)
theorem dX6_goes_291 : decode cX6_goes 291 = .ok (.iadd, 1) := dk_96 (dk_at dksX6_goes_12 13 rfl rfl)
theorem dX6_goes_292 : decode cX6_goes 292 = .ok (.iastore, 1) := dk_79 (dk_at dksX6_goes_12 14 rfl rfl)
theorem dX6_goes_293 : decode cX6_goes 293 = .ok (.iconst 0, 1) := dk_3 (dk_at dksX6_goes_12 15 rfl rfl)
theorem dX6_goes_294 : decode cX6_goes 294 = .ok (.istore 7, 2) := dk_54 7 (dk_at dksX6_goes_12 16 rfl rfl)
theorem dX6_goes_296 : decode cX6_goes 296 = .ok (.iload 7, 2) := dk_21 7 (dk_at dksX6_goes_12 18 rfl rfl)
theorem dX6_goes_298 : decode cX6_goes 298 = .ok (.aload_n 1, 1) := dk_43 (dk_at dksX6_goes_12 20 rfl rfl)
theorem dX6_goes_299 : decode cX6_goes 299 = .ok (.getfield 361, 3) := dk_180 1 105 (dk_at dksX6_goes_12 21 rfl rfl)
theorem dX6_goes_302 : decode cX6_goes 302 = .ok (.if_icmp .ge 42, 3) := dk_162 0 42 (dk_at dksX6_goes_13 0 rfl rfl)
theorem dX6_goes_305 : decode cX6_goes 305 = .ok (.aload_n 1, 1) := dk_43 (dk_at dksX6_goes_13 3 rfl rfl)
theorem dX6_goes_306 : decode cX6_goes 306 = .ok (.getfield 352, 3) := dk_180 1 96 (dk_at dksX6_goes_13 4 rfl rfl)
theorem dX6_goes_309 : decode cX6_goes 309 = .ok (.iload 7, 2) := dk_21 7 (dk_at dksX6_goes_13 7 rfl rfl)
theorem dX6_goes_311 : decode cX6_goes 311 = .ok (.iaload, 1) := dk_46 (dk_at dksX6_goes_13 9 rfl rfl)
theorem dX6_goes_312 : decode cX6_goes 312 = .ok (.iconst 1, 1) := dk_4 (dk_at dksX6_goes_13 10 rfl rfl)
theorem dX6_goes_313 : decode cX6_goes 313 = .ok (.if_icmp .eq 6, 3) := dk_159 0 6 (dk_at dksX6_goes_13 11 rfl rfl)
theorem dX6_goes_316 : decode cX6_goes 316 = .ok (.goto 22, 3) := dk_167 0 22 (dk_at dksX6_goes_13 14 rfl rfl)
theorem dX6_goes_319 : decode cX6_goes 319 = .ok (.aload_n 1, 1) := dk_43 (dk_at dksX6_goes_13 17 rfl rfl)
theorem dX6_goes_320 : decode cX6_goes 320 = .ok (.getfield 352, 3) := dk_180 1 96 (dk_at dksX6_goes_13 18 rfl rfl)
theorem dX6_goes_323 : decode cX6_goes 323 = .ok (.iload 7, 2) := dk_21 7 (dk_at dksX6_goes_13 21 rfl rfl)
theorem dX6_goes_325 : decode cX6_goes 325 = .ok (.iconst 2, 1) := dk_5 (dk_at dksX6_goes_13 23 rfl rfl)
theorem dX6_goes_326 : decode cX6_goes 326 = .ok (.iastore, 1) := dk_79 (dk_at dksX6_goes_14 0 rfl rfl)
theorem dX6_goes_327 : decode cX6_goes 327 = .ok (.aload_n 1, 1) := dk_43 (dk_at dksX6_goes_14 1 rfl rfl)
theorem dX6_goes_328 : decode cX6_goes 328 = .ok (.getfield 355, 3) := dk_180 1 99 (dk_at dksX6_goes_14 2 rfl rfl)
theorem dX6_goes_331 : decode cX6_goes 331 = .ok (.iload 7, 2) := dk_21 7 (dk_at dksX6_goes_14 5 rfl rfl)
theorem dX6_goes_333 : decode cX6_goes 333 = .ok (.aload_n 1, 1) := dk_43 (dk_at dksX6_goes_14 7 rfl rfl)
theorem dX6_goes_334 : decode cX6_goes 334 = .ok (.getfield 307, 3) := dk_180 1 51 (dk_at dksX6_goes_14 8 rfl rfl)
theorem dX6_goes_337 : decode cX6_goes 337 = .ok (.iastore, 1) := dk_79 (dk_at dksX6_goes_14 11 rfl rfl)
theorem dX6_goes_338 : decode cX6_goes 338 = .ok (.iinc 7 1, 3) := dk_132 7 1 (dk_at dksX6_goes_14 12 rfl rfl)
theorem dX6_goes_341 : decode cX6_goes 341 = .ok (.goto (-45), 3) := dk_167 255 211 (dk_at dksX6_goes_14 15 rfl rfl)
theorem dX6_goes_344 : decode cX6_goes 344 = .ok (.aload_n 1, 1) := dk_43 (dk_at dksX6_goes_14 18 rfl rfl)
theorem dX6_goes_345 : decode cX6_goes 345 = .ok (.aload_n 1, 1) := dk_43 (dk_at dksX6_goes_14 19 rfl rfl)
theorem dX6_goes_346 : decode cX6_goes 346 = .ok (.getfield 369, 3) := dk_180 1 113 (dk_at dksX6_goes_14 20 rfl rfl)
theorem dX6_goes_349 : decode cX6_goes 349 = .ok (.putfield 327, 3) := dk_181 1 71 (dk_at dksX6_goes_15 0 rfl rfl)
theorem dX6_goes_352 : decode cX6_goes 352 = .ok (.aload_n 1, 1) := dk_43 (dk_at dksX6_goes_15 3 rfl rfl)
theorem dX6_goes_353 : decode cX6_goes 353 = .ok (.getfield 307, 3) := dk_180 1 51 (dk_at dksX6_goes_15 4 rfl rfl)
theorem dX6_goes_356 : decode cX6_goes 356 = .ok (.aload_n 0, 1) := dk_42 (dk_at dksX6_goes_15 7 rfl rfl)
theorem dX6_goes_357 : decode cX6_goes 357 = .ok (.getfield 91, 3) := dk_180 0 91 (dk_at dksX6_goes_15 8 rfl rfl)
theorem dX6_goes_360 : decode cX6_goes 360 = .ok (.if_icmp .ne 8, 3) := dk_160 0 8 (dk_at dksX6_goes_15 11 rfl rfl)
theorem dX6_goes_363 : decode cX6_goes 363 = .ok (.aload_n 1, 1) := dk_43 (dk_at dksX6_goes_15 14 rfl rfl)
theorem dX6_goes_364 : decode cX6_goes 364 = .ok (.iconst 2, 1) := dk_5 (dk_at dksX6_goes_15 15 rfl rfl)
theorem dX6_goes_365 : decode cX6_goes 365 = .ok (.putfield 289, 3) := dk_181 1 33 (dk_at dksX6_goes_15 16 rfl rfl)
theorem dX6_goes_368 : decode cX6_goes 368 = .ok (.return_, 1) := dk_177 (dk_at dksX6_goes_15 19 rfl rfl)
abbrev cX6_way : ByteArray := prog_16_method_42_code
def yX6_way : MethodName := ⟨RX6, "way", "(LSledHouseModel$Team;)I"⟩
def dkwX6_way_1 : List UInt8 := [132, 3, 1, 167, 255, 236, 28, 172]
abbrev dktX6_way_1 : List UInt8 := dkwX6_way_1 ++ []
def dkwX6_way_0 : List UInt8 := [43, 180, 1, 48, 61, 3, 62, 29, 43, 180, 1, 51, 162, 0, 18, 28, 42, 180, 0, 22, 29, 46, 96, 61]
abbrev dktX6_way_0 : List UInt8 := dkwX6_way_0 ++ dktX6_way_1
theorem dksX6_way_0 : cX6_way.data.toList.drop 0 = dktX6_way_0 := by decide +kernel
theorem dksX6_way_1 : cX6_way.data.toList.drop 24 = dktX6_way_1 := dk_seg dksX6_way_0 24 rfl rfl
theorem dX6_way_0 : decode cX6_way 0 = .ok (.aload_n 1, 1) := dk_43 (dk_at dksX6_way_0 0 rfl rfl)
theorem dX6_way_1 : decode cX6_way 1 = .ok (.getfield 304, 3) := dk_180 1 48 (dk_at dksX6_way_0 1 rfl rfl)
theorem dX6_way_4 : decode cX6_way 4 = .ok (.istore_n 2, 1) := dk_61 (dk_at dksX6_way_0 4 rfl rfl)
theorem dX6_way_5 : decode cX6_way 5 = .ok (.iconst 0, 1) := dk_3 (dk_at dksX6_way_0 5 rfl rfl)
theorem dX6_way_6 : decode cX6_way 6 = .ok (.istore_n 3, 1) := dk_62 (dk_at dksX6_way_0 6 rfl rfl)
theorem dX6_way_7 : decode cX6_way 7 = .ok (.iload_n 3, 1) := dk_29 (dk_at dksX6_way_0 7 rfl rfl)
theorem dX6_way_8 : decode cX6_way 8 = .ok (.aload_n 1, 1) := dk_43 (dk_at dksX6_way_0 8 rfl rfl)
theorem dX6_way_9 : decode cX6_way 9 = .ok (.getfield 307, 3) := dk_180 1 51 (dk_at dksX6_way_0 9 rfl rfl)
theorem dX6_way_12 : decode cX6_way 12 = .ok (.if_icmp .ge 18, 3) := dk_162 0 18 (dk_at dksX6_way_0 12 rfl rfl)
theorem dX6_way_15 : decode cX6_way 15 = .ok (.iload_n 2, 1) := dk_28 (dk_at dksX6_way_0 15 rfl rfl)
theorem dX6_way_16 : decode cX6_way 16 = .ok (.aload_n 0, 1) := dk_42 (dk_at dksX6_way_0 16 rfl rfl)
theorem dX6_way_17 : decode cX6_way 17 = .ok (.getfield 22, 3) := dk_180 0 22 (dk_at dksX6_way_0 17 rfl rfl)
theorem dX6_way_20 : decode cX6_way 20 = .ok (.iload_n 3, 1) := dk_29 (dk_at dksX6_way_0 20 rfl rfl)
theorem dX6_way_21 : decode cX6_way 21 = .ok (.iaload, 1) := dk_46 (dk_at dksX6_way_0 21 rfl rfl)
theorem dX6_way_22 : decode cX6_way 22 = .ok (.iadd, 1) := dk_96 (dk_at dksX6_way_0 22 rfl rfl)
theorem dX6_way_23 : decode cX6_way 23 = .ok (.istore_n 2, 1) := dk_61 (dk_at dksX6_way_0 23 rfl rfl)
theorem dX6_way_24 : decode cX6_way 24 = .ok (.iinc 3 1, 3) := dk_132 3 1 (dk_at dksX6_way_1 0 rfl rfl)
theorem dX6_way_27 : decode cX6_way 27 = .ok (.goto (-20), 3) := dk_167 255 236 (dk_at dksX6_way_1 3 rfl rfl)
theorem dX6_way_30 : decode cX6_way 30 = .ok (.iload_n 2, 1) := dk_28 (dk_at dksX6_way_1 6 rfl rfl)
theorem dX6_way_31 : decode cX6_way 31 = .ok (.ireturn, 1) := dk_172 (dk_at dksX6_way_1 7 rfl rfl)
abbrev cX6_about : ByteArray := prog_16_method_50_code
def yX6_about : MethodName := ⟨RX6, "about", "(II)I"⟩
def dkwX6_about_5 : List UInt8 := [2, 172]
abbrev dktX6_about_5 : List UInt8 := dkwX6_about_5 ++ []
def dkwX6_about_4 : List UInt8 := [180, 1, 66, 172, 45, 180, 1, 54, 172, 45, 180, 1, 56, 172, 45, 180, 1, 36, 172, 45, 180, 1, 77, 172]
abbrev dktX6_about_4 : List UInt8 := dkwX6_about_4 ++ dktX6_about_5
def dkwX6_about_3 : List UInt8 := [182, 1, 68, 172, 45, 4, 182, 1, 68, 172, 45, 5, 182, 1, 68, 172, 45, 180, 1, 71, 172, 45]
abbrev dktX6_about_3 : List UInt8 := dkwX6_about_3 ++ dktX6_about_4
def dkwX6_about_2 : List UInt8 := [45, 180, 1, 33, 172, 45, 180, 1, 51, 172, 45, 180, 1, 48, 172, 42, 45, 182, 1, 135, 172, 45, 3]
abbrev dktX6_about_2 : List UInt8 := dkwX6_about_2 ++ dktX6_about_3
def dkwX6_about_1 : List UInt8 := [170, 0, 0, 0, 134, 0, 0, 0, 0, 0, 0, 0, 12, 0, 0, 0, 65, 0, 0, 0, 70, 0, 0, 0, 75, 0, 0, 0, 80, 0, 0, 0, 86, 0, 0, 0, 92, 0, 0, 0, 98, 0, 0, 0, 104, 0, 0, 0, 109, 0, 0, 0, 114, 0, 0, 0, 119, 0, 0, 0, 124, 0, 0, 0, 129]
abbrev dktX6_about_1 : List UInt8 := dkwX6_about_1 ++ dktX6_about_2
def dkwX6_about_0 : List UInt8 := [42, 3, 181, 0, 1, 42, 27, 182, 1, 30, 154, 0, 5, 2, 172, 42, 180, 0, 34, 27, 50, 78, 28]
abbrev dktX6_about_0 : List UInt8 := dkwX6_about_0 ++ dktX6_about_1
theorem dksX6_about_0 : cX6_about.data.toList.drop 0 = dktX6_about_0 := by decide +kernel
theorem dksX6_about_1 : cX6_about.data.toList.drop 23 = dktX6_about_1 := dk_seg dksX6_about_0 23 rfl rfl
theorem dksX6_about_2 : cX6_about.data.toList.drop 88 = dktX6_about_2 := dk_seg dksX6_about_1 65 rfl rfl
theorem dksX6_about_3 : cX6_about.data.toList.drop 111 = dktX6_about_3 := dk_seg dksX6_about_2 23 rfl rfl
theorem dksX6_about_4 : cX6_about.data.toList.drop 133 = dktX6_about_4 := dk_seg dksX6_about_3 22 rfl rfl
theorem dksX6_about_5 : cX6_about.data.toList.drop 157 = dktX6_about_5 := dk_seg dksX6_about_4 24 rfl rfl
theorem dX6_about_0 : decode cX6_about 0 = .ok (.aload_n 0, 1) := dk_42 (dk_at dksX6_about_0 0 rfl rfl)
theorem dX6_about_1 : decode cX6_about 1 = .ok (.iconst 0, 1) := dk_3 (dk_at dksX6_about_0 1 rfl rfl)
theorem dX6_about_2 : decode cX6_about 2 = .ok (.putfield 1, 3) := dk_181 0 1 (dk_at dksX6_about_0 2 rfl rfl)
theorem dX6_about_5 : decode cX6_about 5 = .ok (.aload_n 0, 1) := dk_42 (dk_at dksX6_about_0 5 rfl rfl)
theorem dX6_about_6 : decode cX6_about 6 = .ok (.iload_n 1, 1) := dk_27 (dk_at dksX6_about_0 6 rfl rfl)
theorem dX6_about_7 : decode cX6_about 7 = .ok (.invokevirtual 286, 3) := dk_182 1 30 (dk_at dksX6_about_0 7 rfl rfl)
theorem dX6_about_10 : decode cX6_about 10 = .ok (.ifCond .ne 5, 3) := dk_154 0 5 (dk_at dksX6_about_0 10 rfl rfl)
theorem dX6_about_13 : decode cX6_about 13 = .ok (.iconst (-1), 1) := dk_2 (dk_at dksX6_about_0 13 rfl rfl)
theorem dX6_about_14 : decode cX6_about 14 = .ok (.ireturn, 1) := dk_172 (dk_at dksX6_about_0 14 rfl rfl)
theorem dX6_about_15 : decode cX6_about 15 = .ok (.aload_n 0, 1) := dk_42 (dk_at dksX6_about_0 15 rfl rfl)
theorem dX6_about_16 : decode cX6_about 16 = .ok (.getfield 34, 3) := dk_180 0 34 (dk_at dksX6_about_0 16 rfl rfl)
theorem dX6_about_19 : decode cX6_about 19 = .ok (.iload_n 1, 1) := dk_27 (dk_at dksX6_about_0 19 rfl rfl)
theorem dX6_about_20 : decode cX6_about 20 = .ok (.aaload, 1) := dk_50 (dk_at dksX6_about_0 20 rfl rfl)
theorem dX6_about_21 : decode cX6_about 21 = .ok (.astore_n 3, 1) := dk_78 (dk_at dksX6_about_0 21 rfl rfl)
theorem dX6_about_22 : decode cX6_about 22 = .ok (.iload_n 2, 1) := dk_28 (dk_at dksX6_about_0 22 rfl rfl)
theorem dX6_about_23 : decode cX6_about 23 = .ok (.tableswitch 134 0 12 #[65, 70, 75, 80, 86, 92, 98, 104, 109, 114, 119, 124, 129], 65) := by decide +kernel
theorem dX6_about_88 : decode cX6_about 88 = .ok (.aload_n 3, 1) := dk_45 (dk_at dksX6_about_2 0 rfl rfl)
theorem dX6_about_89 : decode cX6_about 89 = .ok (.getfield 289, 3) := dk_180 1 33 (dk_at dksX6_about_2 1 rfl rfl)
theorem dX6_about_92 : decode cX6_about 92 = .ok (.ireturn, 1) := dk_172 (dk_at dksX6_about_2 4 rfl rfl)
theorem dX6_about_93 : decode cX6_about 93 = .ok (.aload_n 3, 1) := dk_45 (dk_at dksX6_about_2 5 rfl rfl)
theorem dX6_about_94 : decode cX6_about 94 = .ok (.getfield 307, 3) := dk_180 1 51 (dk_at dksX6_about_2 6 rfl rfl)
theorem dX6_about_97 : decode cX6_about 97 = .ok (.ireturn, 1) := dk_172 (dk_at dksX6_about_2 9 rfl rfl)
theorem dX6_about_98 : decode cX6_about 98 = .ok (.aload_n 3, 1) := dk_45 (dk_at dksX6_about_2 10 rfl rfl)
theorem dX6_about_99 : decode cX6_about 99 = .ok (.getfield 304, 3) := dk_180 1 48 (dk_at dksX6_about_2 11 rfl rfl)
theorem dX6_about_102 : decode cX6_about 102 = .ok (.ireturn, 1) := dk_172 (dk_at dksX6_about_2 14 rfl rfl)
theorem dX6_about_103 : decode cX6_about 103 = .ok (.aload_n 0, 1) := dk_42 (dk_at dksX6_about_2 15 rfl rfl)
theorem dX6_about_104 : decode cX6_about 104 = .ok (.aload_n 3, 1) := dk_45 (dk_at dksX6_about_2 16 rfl rfl)
theorem dX6_about_105 : decode cX6_about 105 = .ok (.invokevirtual 391, 3) := dk_182 1 135 (dk_at dksX6_about_2 17 rfl rfl)
theorem dX6_about_108 : decode cX6_about 108 = .ok (.ireturn, 1) := dk_172 (dk_at dksX6_about_2 20 rfl rfl)
theorem dX6_about_109 : decode cX6_about 109 = .ok (.aload_n 3, 1) := dk_45 (dk_at dksX6_about_2 21 rfl rfl)
theorem dX6_about_110 : decode cX6_about 110 = .ok (.iconst 0, 1) := dk_3 (dk_at dksX6_about_2 22 rfl rfl)
theorem dX6_about_111 : decode cX6_about 111 = .ok (.invokevirtual 324, 3) := dk_182 1 68 (dk_at dksX6_about_3 0 rfl rfl)
theorem dX6_about_114 : decode cX6_about 114 = .ok (.ireturn, 1) := dk_172 (dk_at dksX6_about_3 3 rfl rfl)
theorem dX6_about_115 : decode cX6_about 115 = .ok (.aload_n 3, 1) := dk_45 (dk_at dksX6_about_3 4 rfl rfl)
theorem dX6_about_116 : decode cX6_about 116 = .ok (.iconst 1, 1) := dk_4 (dk_at dksX6_about_3 5 rfl rfl)
theorem dX6_about_117 : decode cX6_about 117 = .ok (.invokevirtual 324, 3) := dk_182 1 68 (dk_at dksX6_about_3 6 rfl rfl)
theorem dX6_about_120 : decode cX6_about 120 = .ok (.ireturn, 1) := dk_172 (dk_at dksX6_about_3 9 rfl rfl)
theorem dX6_about_121 : decode cX6_about 121 = .ok (.aload_n 3, 1) := dk_45 (dk_at dksX6_about_3 10 rfl rfl)
theorem dX6_about_122 : decode cX6_about 122 = .ok (.iconst 2, 1) := dk_5 (dk_at dksX6_about_3 11 rfl rfl)
theorem dX6_about_123 : decode cX6_about 123 = .ok (.invokevirtual 324, 3) := dk_182 1 68 (dk_at dksX6_about_3 12 rfl rfl)
theorem dX6_about_126 : decode cX6_about 126 = .ok (.ireturn, 1) := dk_172 (dk_at dksX6_about_3 15 rfl rfl)
theorem dX6_about_127 : decode cX6_about 127 = .ok (.aload_n 3, 1) := dk_45 (dk_at dksX6_about_3 16 rfl rfl)
theorem dX6_about_128 : decode cX6_about 128 = .ok (.getfield 327, 3) := dk_180 1 71 (dk_at dksX6_about_3 17 rfl rfl)
theorem dX6_about_131 : decode cX6_about 131 = .ok (.ireturn, 1) := dk_172 (dk_at dksX6_about_3 20 rfl rfl)
theorem dX6_about_132 : decode cX6_about 132 = .ok (.aload_n 3, 1) := dk_45 (dk_at dksX6_about_3 21 rfl rfl)
theorem dX6_about_133 : decode cX6_about 133 = .ok (.getfield 322, 3) := dk_180 1 66 (dk_at dksX6_about_4 0 rfl rfl)
theorem dX6_about_136 : decode cX6_about 136 = .ok (.ireturn, 1) := dk_172 (dk_at dksX6_about_4 3 rfl rfl)
theorem dX6_about_137 : decode cX6_about 137 = .ok (.aload_n 3, 1) := dk_45 (dk_at dksX6_about_4 4 rfl rfl)
theorem dX6_about_138 : decode cX6_about 138 = .ok (.getfield 310, 3) := dk_180 1 54 (dk_at dksX6_about_4 5 rfl rfl)
theorem dX6_about_141 : decode cX6_about 141 = .ok (.ireturn, 1) := dk_172 (dk_at dksX6_about_4 8 rfl rfl)
theorem dX6_about_142 : decode cX6_about 142 = .ok (.aload_n 3, 1) := dk_45 (dk_at dksX6_about_4 9 rfl rfl)
theorem dX6_about_143 : decode cX6_about 143 = .ok (.getfield 312, 3) := dk_180 1 56 (dk_at dksX6_about_4 10 rfl rfl)
theorem dX6_about_146 : decode cX6_about 146 = .ok (.ireturn, 1) := dk_172 (dk_at dksX6_about_4 13 rfl rfl)
theorem dX6_about_147 : decode cX6_about 147 = .ok (.aload_n 3, 1) := dk_45 (dk_at dksX6_about_4 14 rfl rfl)
theorem dX6_about_148 : decode cX6_about 148 = .ok (.getfield 292, 3) := dk_180 1 36 (dk_at dksX6_about_4 15 rfl rfl)
theorem dX6_about_151 : decode cX6_about 151 = .ok (.ireturn, 1) := dk_172 (dk_at dksX6_about_4 18 rfl rfl)
theorem dX6_about_152 : decode cX6_about 152 = .ok (.aload_n 3, 1) := dk_45 (dk_at dksX6_about_4 19 rfl rfl)
theorem dX6_about_153 : decode cX6_about 153 = .ok (.getfield 333, 3) := dk_180 1 77 (dk_at dksX6_about_4 20 rfl rfl)
theorem dX6_about_156 : decode cX6_about 156 = .ok (.ireturn, 1) := dk_172 (dk_at dksX6_about_4 23 rfl rfl)
theorem dX6_about_157 : decode cX6_about 157 = .ok (.iconst (-1), 1) := dk_2 (dk_at dksX6_about_5 0 rfl rfl)
theorem dX6_about_158 : decode cX6_about 158 = .ok (.ireturn, 1) := dk_172 (dk_at dksX6_about_5 1 rfl rfl)
abbrev cX6_dog : ByteArray := prog_16_method_51_code
def yX6_dog : MethodName := ⟨RX6, "dog", "(III)I"⟩
def dkwX6_dog_3 : List UInt8 := [5, 160, 0, 13, 25, 4, 180, 1, 99, 28, 46, 167, 0, 4, 2, 172]
abbrev dktX6_dog_3 : List UInt8 := dkwX6_dog_3 ++ []
def dkwX6_dog_2 : List UInt8 := [180, 1, 58, 28, 46, 167, 0, 34, 29, 4, 160, 0, 13, 25, 4, 180, 1, 96, 28, 46, 167, 0, 19, 29]
abbrev dktX6_dog_2 : List UInt8 := dkwX6_dog_2 ++ dktX6_dog_3
def dkwX6_dog_1 : List UInt8 := [180, 1, 105, 161, 0, 5, 2, 172, 42, 180, 0, 34, 27, 50, 58, 4, 29, 154, 0, 13, 25, 4]
abbrev dktX6_dog_1 : List UInt8 := dkwX6_dog_1 ++ dktX6_dog_2
def dkwX6_dog_0 : List UInt8 := [42, 3, 181, 0, 1, 42, 27, 182, 1, 30, 153, 0, 20, 28, 155, 0, 16, 28, 42, 180, 0, 34, 27, 50]
abbrev dktX6_dog_0 : List UInt8 := dkwX6_dog_0 ++ dktX6_dog_1
theorem dksX6_dog_0 : cX6_dog.data.toList.drop 0 = dktX6_dog_0 := by decide +kernel
theorem dksX6_dog_1 : cX6_dog.data.toList.drop 24 = dktX6_dog_1 := dk_seg dksX6_dog_0 24 rfl rfl
theorem dksX6_dog_2 : cX6_dog.data.toList.drop 46 = dktX6_dog_2 := dk_seg dksX6_dog_1 22 rfl rfl
theorem dksX6_dog_3 : cX6_dog.data.toList.drop 70 = dktX6_dog_3 := dk_seg dksX6_dog_2 24 rfl rfl
theorem dX6_dog_0 : decode cX6_dog 0 = .ok (.aload_n 0, 1) := dk_42 (dk_at dksX6_dog_0 0 rfl rfl)
theorem dX6_dog_1 : decode cX6_dog 1 = .ok (.iconst 0, 1) := dk_3 (dk_at dksX6_dog_0 1 rfl rfl)
theorem dX6_dog_2 : decode cX6_dog 2 = .ok (.putfield 1, 3) := dk_181 0 1 (dk_at dksX6_dog_0 2 rfl rfl)
theorem dX6_dog_5 : decode cX6_dog 5 = .ok (.aload_n 0, 1) := dk_42 (dk_at dksX6_dog_0 5 rfl rfl)
theorem dX6_dog_6 : decode cX6_dog 6 = .ok (.iload_n 1, 1) := dk_27 (dk_at dksX6_dog_0 6 rfl rfl)
theorem dX6_dog_7 : decode cX6_dog 7 = .ok (.invokevirtual 286, 3) := dk_182 1 30 (dk_at dksX6_dog_0 7 rfl rfl)
theorem dX6_dog_10 : decode cX6_dog 10 = .ok (.ifCond .eq 20, 3) := dk_153 0 20 (dk_at dksX6_dog_0 10 rfl rfl)
theorem dX6_dog_13 : decode cX6_dog 13 = .ok (.iload_n 2, 1) := dk_28 (dk_at dksX6_dog_0 13 rfl rfl)
theorem dX6_dog_14 : decode cX6_dog 14 = .ok (.ifCond .lt 16, 3) := dk_155 0 16 (dk_at dksX6_dog_0 14 rfl rfl)
theorem dX6_dog_17 : decode cX6_dog 17 = .ok (.iload_n 2, 1) := dk_28 (dk_at dksX6_dog_0 17 rfl rfl)
theorem dX6_dog_18 : decode cX6_dog 18 = .ok (.aload_n 0, 1) := dk_42 (dk_at dksX6_dog_0 18 rfl rfl)
theorem dX6_dog_19 : decode cX6_dog 19 = .ok (.getfield 34, 3) := dk_180 0 34 (dk_at dksX6_dog_0 19 rfl rfl)
theorem dX6_dog_22 : decode cX6_dog 22 = .ok (.iload_n 1, 1) := dk_27 (dk_at dksX6_dog_0 22 rfl rfl)
theorem dX6_dog_23 : decode cX6_dog 23 = .ok (.aaload, 1) := dk_50 (dk_at dksX6_dog_0 23 rfl rfl)
theorem dX6_dog_24 : decode cX6_dog 24 = .ok (.getfield 361, 3) := dk_180 1 105 (dk_at dksX6_dog_1 0 rfl rfl)
theorem dX6_dog_27 : decode cX6_dog 27 = .ok (.if_icmp .lt 5, 3) := dk_161 0 5 (dk_at dksX6_dog_1 3 rfl rfl)
theorem dX6_dog_30 : decode cX6_dog 30 = .ok (.iconst (-1), 1) := dk_2 (dk_at dksX6_dog_1 6 rfl rfl)
theorem dX6_dog_31 : decode cX6_dog 31 = .ok (.ireturn, 1) := dk_172 (dk_at dksX6_dog_1 7 rfl rfl)
theorem dX6_dog_32 : decode cX6_dog 32 = .ok (.aload_n 0, 1) := dk_42 (dk_at dksX6_dog_1 8 rfl rfl)
theorem dX6_dog_33 : decode cX6_dog 33 = .ok (.getfield 34, 3) := dk_180 0 34 (dk_at dksX6_dog_1 9 rfl rfl)
theorem dX6_dog_36 : decode cX6_dog 36 = .ok (.iload_n 1, 1) := dk_27 (dk_at dksX6_dog_1 12 rfl rfl)
theorem dX6_dog_37 : decode cX6_dog 37 = .ok (.aaload, 1) := dk_50 (dk_at dksX6_dog_1 13 rfl rfl)
theorem dX6_dog_38 : decode cX6_dog 38 = .ok (.astore 4, 2) := dk_58 4 (dk_at dksX6_dog_1 14 rfl rfl)
theorem dX6_dog_40 : decode cX6_dog 40 = .ok (.iload_n 3, 1) := dk_29 (dk_at dksX6_dog_1 16 rfl rfl)
theorem dX6_dog_41 : decode cX6_dog 41 = .ok (.ifCond .ne 13, 3) := dk_154 0 13 (dk_at dksX6_dog_1 17 rfl rfl)
theorem dX6_dog_44 : decode cX6_dog 44 = .ok (.aload 4, 2) := dk_25 4 (dk_at dksX6_dog_1 20 rfl rfl)
theorem dX6_dog_46 : decode cX6_dog 46 = .ok (.getfield 314, 3) := dk_180 1 58 (dk_at dksX6_dog_2 0 rfl rfl)
theorem dX6_dog_49 : decode cX6_dog 49 = .ok (.iload_n 2, 1) := dk_28 (dk_at dksX6_dog_2 3 rfl rfl)
theorem dX6_dog_50 : decode cX6_dog 50 = .ok (.iaload, 1) := dk_46 (dk_at dksX6_dog_2 4 rfl rfl)
theorem dX6_dog_51 : decode cX6_dog 51 = .ok (.goto 34, 3) := dk_167 0 34 (dk_at dksX6_dog_2 5 rfl rfl)
theorem dX6_dog_54 : decode cX6_dog 54 = .ok (.iload_n 3, 1) := dk_29 (dk_at dksX6_dog_2 8 rfl rfl)
theorem dX6_dog_55 : decode cX6_dog 55 = .ok (.iconst 1, 1) := dk_4 (dk_at dksX6_dog_2 9 rfl rfl)
theorem dX6_dog_56 : decode cX6_dog 56 = .ok (.if_icmp .ne 13, 3) := dk_160 0 13 (dk_at dksX6_dog_2 10 rfl rfl)
theorem dX6_dog_59 : decode cX6_dog 59 = .ok (.aload 4, 2) := dk_25 4 (dk_at dksX6_dog_2 13 rfl rfl)
theorem dX6_dog_61 : decode cX6_dog 61 = .ok (.getfield 352, 3) := dk_180 1 96 (dk_at dksX6_dog_2 15 rfl rfl)
theorem dX6_dog_64 : decode cX6_dog 64 = .ok (.iload_n 2, 1) := dk_28 (dk_at dksX6_dog_2 18 rfl rfl)
theorem dX6_dog_65 : decode cX6_dog 65 = .ok (.iaload, 1) := dk_46 (dk_at dksX6_dog_2 19 rfl rfl)
theorem dX6_dog_66 : decode cX6_dog 66 = .ok (.goto 19, 3) := dk_167 0 19 (dk_at dksX6_dog_2 20 rfl rfl)
theorem dX6_dog_69 : decode cX6_dog 69 = .ok (.iload_n 3, 1) := dk_29 (dk_at dksX6_dog_2 23 rfl rfl)
theorem dX6_dog_70 : decode cX6_dog 70 = .ok (.iconst 2, 1) := dk_5 (dk_at dksX6_dog_3 0 rfl rfl)
theorem dX6_dog_71 : decode cX6_dog 71 = .ok (.if_icmp .ne 13, 3) := dk_160 0 13 (dk_at dksX6_dog_3 1 rfl rfl)
theorem dX6_dog_74 : decode cX6_dog 74 = .ok (.aload 4, 2) := dk_25 4 (dk_at dksX6_dog_3 4 rfl rfl)
theorem dX6_dog_76 : decode cX6_dog 76 = .ok (.getfield 355, 3) := dk_180 1 99 (dk_at dksX6_dog_3 6 rfl rfl)
theorem dX6_dog_79 : decode cX6_dog 79 = .ok (.iload_n 2, 1) := dk_28 (dk_at dksX6_dog_3 9 rfl rfl)
theorem dX6_dog_80 : decode cX6_dog 80 = .ok (.iaload, 1) := dk_46 (dk_at dksX6_dog_3 10 rfl rfl)
theorem dX6_dog_81 : decode cX6_dog 81 = .ok (.goto 4, 3) := dk_167 0 4 (dk_at dksX6_dog_3 11 rfl rfl)
theorem dX6_dog_84 : decode cX6_dog 84 = .ok (.iconst (-1), 1) := dk_2 (dk_at dksX6_dog_3 14 rfl rfl)
theorem dX6_dog_85 : decode cX6_dog 85 = .ok (.ireturn, 1) := dk_172 (dk_at dksX6_dog_3 15 rfl rfl)
abbrev cX6_time : ByteArray := prog_16_method_52_code
def yX6_time : MethodName := ⟨RX6, "time", "(IIZ)I"⟩
def dkwX6_time_2 : List UInt8 := [180, 0, 34, 27, 50, 180, 1, 79, 28, 46, 172]
abbrev dktX6_time_2 : List UInt8 := dkwX6_time_2 ++ []
def dkwX6_time_1 : List UInt8 := [164, 0, 5, 2, 172, 29, 153, 0, 17, 42, 180, 0, 34, 27, 50, 180, 1, 102, 28, 46, 167, 0, 14, 42]
abbrev dktX6_time_1 : List UInt8 := dkwX6_time_1 ++ dktX6_time_2
def dkwX6_time_0 : List UInt8 := [42, 3, 181, 0, 1, 42, 27, 182, 1, 30, 153, 0, 15, 28, 155, 0, 11, 28, 42, 180, 0, 91]
abbrev dktX6_time_0 : List UInt8 := dkwX6_time_0 ++ dktX6_time_1
theorem dksX6_time_0 : cX6_time.data.toList.drop 0 = dktX6_time_0 := by decide +kernel
theorem dksX6_time_1 : cX6_time.data.toList.drop 22 = dktX6_time_1 := dk_seg dksX6_time_0 22 rfl rfl
theorem dksX6_time_2 : cX6_time.data.toList.drop 46 = dktX6_time_2 := dk_seg dksX6_time_1 24 rfl rfl
theorem dX6_time_0 : decode cX6_time 0 = .ok (.aload_n 0, 1) := dk_42 (dk_at dksX6_time_0 0 rfl rfl)
theorem dX6_time_1 : decode cX6_time 1 = .ok (.iconst 0, 1) := dk_3 (dk_at dksX6_time_0 1 rfl rfl)
theorem dX6_time_2 : decode cX6_time 2 = .ok (.putfield 1, 3) := dk_181 0 1 (dk_at dksX6_time_0 2 rfl rfl)
theorem dX6_time_5 : decode cX6_time 5 = .ok (.aload_n 0, 1) := dk_42 (dk_at dksX6_time_0 5 rfl rfl)
theorem dX6_time_6 : decode cX6_time 6 = .ok (.iload_n 1, 1) := dk_27 (dk_at dksX6_time_0 6 rfl rfl)
theorem dX6_time_7 : decode cX6_time 7 = .ok (.invokevirtual 286, 3) := dk_182 1 30 (dk_at dksX6_time_0 7 rfl rfl)
theorem dX6_time_10 : decode cX6_time 10 = .ok (.ifCond .eq 15, 3) := dk_153 0 15 (dk_at dksX6_time_0 10 rfl rfl)
theorem dX6_time_13 : decode cX6_time 13 = .ok (.iload_n 2, 1) := dk_28 (dk_at dksX6_time_0 13 rfl rfl)
theorem dX6_time_14 : decode cX6_time 14 = .ok (.ifCond .lt 11, 3) := dk_155 0 11 (dk_at dksX6_time_0 14 rfl rfl)
theorem dX6_time_17 : decode cX6_time 17 = .ok (.iload_n 2, 1) := dk_28 (dk_at dksX6_time_0 17 rfl rfl)
theorem dX6_time_18 : decode cX6_time 18 = .ok (.aload_n 0, 1) := dk_42 (dk_at dksX6_time_0 18 rfl rfl)
theorem dX6_time_19 : decode cX6_time 19 = .ok (.getfield 91, 3) := dk_180 0 91 (dk_at dksX6_time_0 19 rfl rfl)
theorem dX6_time_22 : decode cX6_time 22 = .ok (.if_icmp .le 5, 3) := dk_164 0 5 (dk_at dksX6_time_1 0 rfl rfl)
theorem dX6_time_25 : decode cX6_time 25 = .ok (.iconst (-1), 1) := dk_2 (dk_at dksX6_time_1 3 rfl rfl)
theorem dX6_time_26 : decode cX6_time 26 = .ok (.ireturn, 1) := dk_172 (dk_at dksX6_time_1 4 rfl rfl)
theorem dX6_time_27 : decode cX6_time 27 = .ok (.iload_n 3, 1) := dk_29 (dk_at dksX6_time_1 5 rfl rfl)
theorem dX6_time_28 : decode cX6_time 28 = .ok (.ifCond .eq 17, 3) := dk_153 0 17 (dk_at dksX6_time_1 6 rfl rfl)
theorem dX6_time_31 : decode cX6_time 31 = .ok (.aload_n 0, 1) := dk_42 (dk_at dksX6_time_1 9 rfl rfl)
theorem dX6_time_32 : decode cX6_time 32 = .ok (.getfield 34, 3) := dk_180 0 34 (dk_at dksX6_time_1 10 rfl rfl)
theorem dX6_time_35 : decode cX6_time 35 = .ok (.iload_n 1, 1) := dk_27 (dk_at dksX6_time_1 13 rfl rfl)
theorem dX6_time_36 : decode cX6_time 36 = .ok (.aaload, 1) := dk_50 (dk_at dksX6_time_1 14 rfl rfl)
theorem dX6_time_37 : decode cX6_time 37 = .ok (.getfield 358, 3) := dk_180 1 102 (dk_at dksX6_time_1 15 rfl rfl)
theorem dX6_time_40 : decode cX6_time 40 = .ok (.iload_n 2, 1) := dk_28 (dk_at dksX6_time_1 18 rfl rfl)
theorem dX6_time_41 : decode cX6_time 41 = .ok (.iaload, 1) := dk_46 (dk_at dksX6_time_1 19 rfl rfl)
theorem dX6_time_42 : decode cX6_time 42 = .ok (.goto 14, 3) := dk_167 0 14 (dk_at dksX6_time_1 20 rfl rfl)
theorem dX6_time_45 : decode cX6_time 45 = .ok (.aload_n 0, 1) := dk_42 (dk_at dksX6_time_1 23 rfl rfl)
theorem dX6_time_46 : decode cX6_time 46 = .ok (.getfield 34, 3) := dk_180 0 34 (dk_at dksX6_time_2 0 rfl rfl)
theorem dX6_time_49 : decode cX6_time 49 = .ok (.iload_n 1, 1) := dk_27 (dk_at dksX6_time_2 3 rfl rfl)
theorem dX6_time_50 : decode cX6_time 50 = .ok (.aaload, 1) := dk_50 (dk_at dksX6_time_2 4 rfl rfl)
theorem dX6_time_51 : decode cX6_time 51 = .ok (.getfield 335, 3) := dk_180 1 79 (dk_at dksX6_time_2 5 rfl rfl)
theorem dX6_time_54 : decode cX6_time 54 = .ok (.iload_n 2, 1) := dk_28 (dk_at dksX6_time_2 8 rfl rfl)
theorem dX6_time_55 : decode cX6_time 55 = .ok (.iaload, 1) := dk_46 (dk_at dksX6_time_2 9 rfl rfl)
theorem dX6_time_56 : decode cX6_time 56 = .ok (.ireturn, 1) := dk_172 (dk_at dksX6_time_2 10 rfl rfl)
abbrev cX6_did : ByteArray := prog_16_method_53_code
def yX6_did : MethodName := ⟨RX6, "did", "(I)I"⟩
def dkwX6_did_1 : List UInt8 := [167, 0, 4, 2, 172]
abbrev dktX6_did_1 : List UInt8 := dkwX6_did_1 ++ []
def dkwX6_did_0 : List UInt8 := [42, 3, 181, 0, 1, 42, 27, 182, 1, 30, 153, 0, 15, 42, 180, 0, 34, 27, 50, 180, 1, 86]
abbrev dktX6_did_0 : List UInt8 := dkwX6_did_0 ++ dktX6_did_1
theorem dksX6_did_0 : cX6_did.data.toList.drop 0 = dktX6_did_0 := by decide +kernel
theorem dksX6_did_1 : cX6_did.data.toList.drop 22 = dktX6_did_1 := dk_seg dksX6_did_0 22 rfl rfl
theorem dX6_did_0 : decode cX6_did 0 = .ok (.aload_n 0, 1) := dk_42 (dk_at dksX6_did_0 0 rfl rfl)
theorem dX6_did_1 : decode cX6_did 1 = .ok (.iconst 0, 1) := dk_3 (dk_at dksX6_did_0 1 rfl rfl)
theorem dX6_did_2 : decode cX6_did 2 = .ok (.putfield 1, 3) := dk_181 0 1 (dk_at dksX6_did_0 2 rfl rfl)
theorem dX6_did_5 : decode cX6_did 5 = .ok (.aload_n 0, 1) := dk_42 (dk_at dksX6_did_0 5 rfl rfl)
theorem dX6_did_6 : decode cX6_did 6 = .ok (.iload_n 1, 1) := dk_27 (dk_at dksX6_did_0 6 rfl rfl)
theorem dX6_did_7 : decode cX6_did 7 = .ok (.invokevirtual 286, 3) := dk_182 1 30 (dk_at dksX6_did_0 7 rfl rfl)
theorem dX6_did_10 : decode cX6_did 10 = .ok (.ifCond .eq 15, 3) := dk_153 0 15 (dk_at dksX6_did_0 10 rfl rfl)
theorem dX6_did_13 : decode cX6_did 13 = .ok (.aload_n 0, 1) := dk_42 (dk_at dksX6_did_0 13 rfl rfl)
theorem dX6_did_14 : decode cX6_did 14 = .ok (.getfield 34, 3) := dk_180 0 34 (dk_at dksX6_did_0 14 rfl rfl)
theorem dX6_did_17 : decode cX6_did 17 = .ok (.iload_n 1, 1) := dk_27 (dk_at dksX6_did_0 17 rfl rfl)
theorem dX6_did_18 : decode cX6_did 18 = .ok (.aaload, 1) := dk_50 (dk_at dksX6_did_0 18 rfl rfl)
theorem dX6_did_19 : decode cX6_did 19 = .ok (.getfield 342, 3) := dk_180 1 86 (dk_at dksX6_did_0 19 rfl rfl)
theorem dX6_did_22 : decode cX6_did 22 = .ok (.goto 4, 3) := dk_167 0 4 (dk_at dksX6_did_1 0 rfl rfl)
theorem dX6_did_25 : decode cX6_did 25 = .ok (.iconst (-1), 1) := dk_2 (dk_at dksX6_did_1 3 rfl rfl)
theorem dX6_did_26 : decode cX6_did 26 = .ok (.ireturn, 1) := dk_172 (dk_at dksX6_did_1 4 rfl rfl)
abbrev cX6_result : ByteArray := prog_16_method_57_code
def yX6_result : MethodName := ⟨RX6, "result", "(I)I"⟩
def dkwX6_result_1 : List UInt8 := [160, 0, 16, 42, 42, 180, 0, 34, 27, 50, 182, 1, 149, 167, 0, 4, 2, 172]
abbrev dktX6_result_1 : List UInt8 := dkwX6_result_1 ++ []
def dkwX6_result_0 : List UInt8 := [42, 3, 181, 0, 1, 42, 27, 182, 1, 30, 153, 0, 29, 42, 180, 0, 34, 27, 50, 180, 1, 33, 5]
abbrev dktX6_result_0 : List UInt8 := dkwX6_result_0 ++ dktX6_result_1
theorem dksX6_result_0 : cX6_result.data.toList.drop 0 = dktX6_result_0 := by decide +kernel
theorem dksX6_result_1 : cX6_result.data.toList.drop 23 = dktX6_result_1 := dk_seg dksX6_result_0 23 rfl rfl
theorem dX6_result_0 : decode cX6_result 0 = .ok (.aload_n 0, 1) := dk_42 (dk_at dksX6_result_0 0 rfl rfl)
theorem dX6_result_1 : decode cX6_result 1 = .ok (.iconst 0, 1) := dk_3 (dk_at dksX6_result_0 1 rfl rfl)
theorem dX6_result_2 : decode cX6_result 2 = .ok (.putfield 1, 3) := dk_181 0 1 (dk_at dksX6_result_0 2 rfl rfl)
theorem dX6_result_5 : decode cX6_result 5 = .ok (.aload_n 0, 1) := dk_42 (dk_at dksX6_result_0 5 rfl rfl)
theorem dX6_result_6 : decode cX6_result 6 = .ok (.iload_n 1, 1) := dk_27 (dk_at dksX6_result_0 6 rfl rfl)
theorem dX6_result_7 : decode cX6_result 7 = .ok (.invokevirtual 286, 3) := dk_182 1 30 (dk_at dksX6_result_0 7 rfl rfl)
theorem dX6_result_10 : decode cX6_result 10 = .ok (.ifCond .eq 29, 3) := dk_153 0 29 (dk_at dksX6_result_0 10 rfl rfl)
theorem dX6_result_13 : decode cX6_result 13 = .ok (.aload_n 0, 1) := dk_42 (dk_at dksX6_result_0 13 rfl rfl)
theorem dX6_result_14 : decode cX6_result 14 = .ok (.getfield 34, 3) := dk_180 0 34 (dk_at dksX6_result_0 14 rfl rfl)
theorem dX6_result_17 : decode cX6_result 17 = .ok (.iload_n 1, 1) := dk_27 (dk_at dksX6_result_0 17 rfl rfl)
theorem dX6_result_18 : decode cX6_result 18 = .ok (.aaload, 1) := dk_50 (dk_at dksX6_result_0 18 rfl rfl)
theorem dX6_result_19 : decode cX6_result 19 = .ok (.getfield 289, 3) := dk_180 1 33 (dk_at dksX6_result_0 19 rfl rfl)
theorem dX6_result_22 : decode cX6_result 22 = .ok (.iconst 2, 1) := dk_5 (dk_at dksX6_result_0 22 rfl rfl)
theorem dX6_result_23 : decode cX6_result 23 = .ok (.if_icmp .ne 16, 3) := dk_160 0 16 (dk_at dksX6_result_1 0 rfl rfl)
theorem dX6_result_26 : decode cX6_result 26 = .ok (.aload_n 0, 1) := dk_42 (dk_at dksX6_result_1 3 rfl rfl)
theorem dX6_result_27 : decode cX6_result 27 = .ok (.aload_n 0, 1) := dk_42 (dk_at dksX6_result_1 4 rfl rfl)
theorem dX6_result_28 : decode cX6_result 28 = .ok (.getfield 34, 3) := dk_180 0 34 (dk_at dksX6_result_1 5 rfl rfl)
theorem dX6_result_31 : decode cX6_result 31 = .ok (.iload_n 1, 1) := dk_27 (dk_at dksX6_result_1 8 rfl rfl)
theorem dX6_result_32 : decode cX6_result 32 = .ok (.aaload, 1) := dk_50 (dk_at dksX6_result_1 9 rfl rfl)
theorem dX6_result_33 : decode cX6_result 33 = .ok (.invokevirtual 405, 3) := dk_182 1 149 (dk_at dksX6_result_1 10 rfl rfl)
theorem dX6_result_36 : decode cX6_result 36 = .ok (.goto 4, 3) := dk_167 0 4 (dk_at dksX6_result_1 13 rfl rfl)
theorem dX6_result_39 : decode cX6_result 39 = .ok (.iconst (-1), 1) := dk_2 (dk_at dksX6_result_1 16 rfl rfl)
theorem dX6_result_40 : decode cX6_result 40 = .ok (.ireturn, 1) := dk_172 (dk_at dksX6_result_1 17 rfl rfl)
abbrev cX6_resultOf : ByteArray := prog_16_method_56_code
def yX6_resultOf : MethodName := ⟨RX6, "resultOf", "(LSledHouseModel$Team;)I"⟩
def dkwX6_resultOf_5 : List UInt8 := [180, 1, 77, 100, 28, 21, 4, 104, 96, 29, 21, 5, 104, 96, 172]
abbrev dktX6_resultOf_5 : List UInt8 := dkwX6_resultOf_5 ++ []
def dkwX6_resultOf_4 : List UInt8 := [21, 6, 182, 1, 145, 96, 54, 4, 132, 6, 1, 167, 255, 164, 43, 180, 1, 79, 42, 180, 0, 91, 46, 43]
abbrev dktX6_resultOf_4 : List UInt8 := dkwX6_resultOf_4 ++ dktX6_resultOf_5
def dkwX6_resultOf_3 : List UInt8 := [5, 160, 0, 18, 21, 5, 42, 43, 21, 6, 182, 1, 145, 96, 54, 5, 167, 0, 15, 21, 4, 42, 43]
abbrev dktX6_resultOf_3 : List UInt8 := dkwX6_resultOf_3 ++ dktX6_resultOf_4
def dkwX6_resultOf_2 : List UInt8 := [42, 180, 0, 88, 7, 21, 6, 104, 5, 96, 46, 62, 167, 0, 43, 42, 180, 0, 88, 7, 21, 6, 104, 46]
abbrev dktX6_resultOf_2 : List UInt8 := dkwX6_resultOf_2 ++ dktX6_resultOf_3
def dkwX6_resultOf_1 : List UInt8 := [180, 0, 88, 7, 21, 6, 104, 46, 6, 160, 0, 30, 42, 180, 0, 88, 7, 21, 6, 104, 4, 96, 46, 61]
abbrev dktX6_resultOf_1 : List UInt8 := dkwX6_resultOf_1 ++ dktX6_resultOf_2
def dkwX6_resultOf_0 : List UInt8 := [5, 61, 16, 60, 62, 3, 54, 4, 3, 54, 5, 3, 54, 6, 21, 6, 42, 180, 0, 250, 162, 0, 89, 42]
abbrev dktX6_resultOf_0 : List UInt8 := dkwX6_resultOf_0 ++ dktX6_resultOf_1
theorem dksX6_resultOf_0 : cX6_resultOf.data.toList.drop 0 = dktX6_resultOf_0 := by decide +kernel
theorem dksX6_resultOf_1 : cX6_resultOf.data.toList.drop 24 = dktX6_resultOf_1 := dk_seg dksX6_resultOf_0 24 rfl rfl
theorem dksX6_resultOf_2 : cX6_resultOf.data.toList.drop 48 = dktX6_resultOf_2 := dk_seg dksX6_resultOf_1 24 rfl rfl
theorem dksX6_resultOf_3 : cX6_resultOf.data.toList.drop 72 = dktX6_resultOf_3 := dk_seg dksX6_resultOf_2 24 rfl rfl
theorem dksX6_resultOf_4 : cX6_resultOf.data.toList.drop 95 = dktX6_resultOf_4 := dk_seg dksX6_resultOf_3 23 rfl rfl
theorem dksX6_resultOf_5 : cX6_resultOf.data.toList.drop 119 = dktX6_resultOf_5 := dk_seg dksX6_resultOf_4 24 rfl rfl
theorem dX6_resultOf_0 : decode cX6_resultOf 0 = .ok (.iconst 2, 1) := dk_5 (dk_at dksX6_resultOf_0 0 rfl rfl)
theorem dX6_resultOf_1 : decode cX6_resultOf 1 = .ok (.istore_n 2, 1) := dk_61 (dk_at dksX6_resultOf_0 1 rfl rfl)
theorem dX6_resultOf_2 : decode cX6_resultOf 2 = .ok (.bipush 60, 2) := dk_16 60 (dk_at dksX6_resultOf_0 2 rfl rfl)
theorem dX6_resultOf_4 : decode cX6_resultOf 4 = .ok (.istore_n 3, 1) := dk_62 (dk_at dksX6_resultOf_0 4 rfl rfl)
theorem dX6_resultOf_5 : decode cX6_resultOf 5 = .ok (.iconst 0, 1) := dk_3 (dk_at dksX6_resultOf_0 5 rfl rfl)
theorem dX6_resultOf_6 : decode cX6_resultOf 6 = .ok (.istore 4, 2) := dk_54 4 (dk_at dksX6_resultOf_0 6 rfl rfl)
theorem dX6_resultOf_8 : decode cX6_resultOf 8 = .ok (.iconst 0, 1) := dk_3 (dk_at dksX6_resultOf_0 8 rfl rfl)
theorem dX6_resultOf_9 : decode cX6_resultOf 9 = .ok (.istore 5, 2) := dk_54 5 (dk_at dksX6_resultOf_0 9 rfl rfl)
theorem dX6_resultOf_11 : decode cX6_resultOf 11 = .ok (.iconst 0, 1) := dk_3 (dk_at dksX6_resultOf_0 11 rfl rfl)
theorem dX6_resultOf_12 : decode cX6_resultOf 12 = .ok (.istore 6, 2) := dk_54 6 (dk_at dksX6_resultOf_0 12 rfl rfl)
theorem dX6_resultOf_14 : decode cX6_resultOf 14 = .ok (.iload 6, 2) := dk_21 6 (dk_at dksX6_resultOf_0 14 rfl rfl)
theorem dX6_resultOf_16 : decode cX6_resultOf 16 = .ok (.aload_n 0, 1) := dk_42 (dk_at dksX6_resultOf_0 16 rfl rfl)
theorem dX6_resultOf_17 : decode cX6_resultOf 17 = .ok (.getfield 250, 3) := dk_180 0 250 (dk_at dksX6_resultOf_0 17 rfl rfl)
theorem dX6_resultOf_20 : decode cX6_resultOf 20 = .ok (.if_icmp .ge 89, 3) := dk_162 0 89 (dk_at dksX6_resultOf_0 20 rfl rfl)
theorem dX6_resultOf_23 : decode cX6_resultOf 23 = .ok (.aload_n 0, 1) := dk_42 (dk_at dksX6_resultOf_0 23 rfl rfl)
theorem dX6_resultOf_24 : decode cX6_resultOf 24 = .ok (.getfield 88, 3) := dk_180 0 88 (dk_at dksX6_resultOf_1 0 rfl rfl)
theorem dX6_resultOf_27 : decode cX6_resultOf 27 = .ok (.iconst 4, 1) := dk_7 (dk_at dksX6_resultOf_1 3 rfl rfl)
theorem dX6_resultOf_28 : decode cX6_resultOf 28 = .ok (.iload 6, 2) := dk_21 6 (dk_at dksX6_resultOf_1 4 rfl rfl)
theorem dX6_resultOf_30 : decode cX6_resultOf 30 = .ok (.imul, 1) := dk_104 (dk_at dksX6_resultOf_1 6 rfl rfl)
theorem dX6_resultOf_31 : decode cX6_resultOf 31 = .ok (.iaload, 1) := dk_46 (dk_at dksX6_resultOf_1 7 rfl rfl)
theorem dX6_resultOf_32 : decode cX6_resultOf 32 = .ok (.iconst 3, 1) := dk_6 (dk_at dksX6_resultOf_1 8 rfl rfl)
theorem dX6_resultOf_33 : decode cX6_resultOf 33 = .ok (.if_icmp .ne 30, 3) := dk_160 0 30 (dk_at dksX6_resultOf_1 9 rfl rfl)
theorem dX6_resultOf_36 : decode cX6_resultOf 36 = .ok (.aload_n 0, 1) := dk_42 (dk_at dksX6_resultOf_1 12 rfl rfl)
theorem dX6_resultOf_37 : decode cX6_resultOf 37 = .ok (.getfield 88, 3) := dk_180 0 88 (dk_at dksX6_resultOf_1 13 rfl rfl)
theorem dX6_resultOf_40 : decode cX6_resultOf 40 = .ok (.iconst 4, 1) := dk_7 (dk_at dksX6_resultOf_1 16 rfl rfl)
theorem dX6_resultOf_41 : decode cX6_resultOf 41 = .ok (.iload 6, 2) := dk_21 6 (dk_at dksX6_resultOf_1 17 rfl rfl)
theorem dX6_resultOf_43 : decode cX6_resultOf 43 = .ok (.imul, 1) := dk_104 (dk_at dksX6_resultOf_1 19 rfl rfl)
theorem dX6_resultOf_44 : decode cX6_resultOf 44 = .ok (.iconst 1, 1) := dk_4 (dk_at dksX6_resultOf_1 20 rfl rfl)
theorem dX6_resultOf_45 : decode cX6_resultOf 45 = .ok (.iadd, 1) := dk_96 (dk_at dksX6_resultOf_1 21 rfl rfl)
theorem dX6_resultOf_46 : decode cX6_resultOf 46 = .ok (.iaload, 1) := dk_46 (dk_at dksX6_resultOf_1 22 rfl rfl)
theorem dX6_resultOf_47 : decode cX6_resultOf 47 = .ok (.istore_n 2, 1) := dk_61 (dk_at dksX6_resultOf_1 23 rfl rfl)
theorem dX6_resultOf_48 : decode cX6_resultOf 48 = .ok (.aload_n 0, 1) := dk_42 (dk_at dksX6_resultOf_2 0 rfl rfl)
theorem dX6_resultOf_49 : decode cX6_resultOf 49 = .ok (.getfield 88, 3) := dk_180 0 88 (dk_at dksX6_resultOf_2 1 rfl rfl)
theorem dX6_resultOf_52 : decode cX6_resultOf 52 = .ok (.iconst 4, 1) := dk_7 (dk_at dksX6_resultOf_2 4 rfl rfl)
theorem dX6_resultOf_53 : decode cX6_resultOf 53 = .ok (.iload 6, 2) := dk_21 6 (dk_at dksX6_resultOf_2 5 rfl rfl)
theorem dX6_resultOf_55 : decode cX6_resultOf 55 = .ok (.imul, 1) := dk_104 (dk_at dksX6_resultOf_2 7 rfl rfl)
theorem dX6_resultOf_56 : decode cX6_resultOf 56 = .ok (.iconst 2, 1) := dk_5 (dk_at dksX6_resultOf_2 8 rfl rfl)
theorem dX6_resultOf_57 : decode cX6_resultOf 57 = .ok (.iadd, 1) := dk_96 (dk_at dksX6_resultOf_2 9 rfl rfl)
theorem dX6_resultOf_58 : decode cX6_resultOf 58 = .ok (.iaload, 1) := dk_46 (dk_at dksX6_resultOf_2 10 rfl rfl)
theorem dX6_resultOf_59 : decode cX6_resultOf 59 = .ok (.istore_n 3, 1) := dk_62 (dk_at dksX6_resultOf_2 11 rfl rfl)
theorem dX6_resultOf_60 : decode cX6_resultOf 60 = .ok (.goto 43, 3) := dk_167 0 43 (dk_at dksX6_resultOf_2 12 rfl rfl)
theorem dX6_resultOf_63 : decode cX6_resultOf 63 = .ok (.aload_n 0, 1) := dk_42 (dk_at dksX6_resultOf_2 15 rfl rfl)
theorem dX6_resultOf_64 : decode cX6_resultOf 64 = .ok (.getfield 88, 3) := dk_180 0 88 (dk_at dksX6_resultOf_2 16 rfl rfl)
theorem dX6_resultOf_67 : decode cX6_resultOf 67 = .ok (.iconst 4, 1) := dk_7 (dk_at dksX6_resultOf_2 19 rfl rfl)
theorem dX6_resultOf_68 : decode cX6_resultOf 68 = .ok (.iload 6, 2) := dk_21 6 (dk_at dksX6_resultOf_2 20 rfl rfl)
theorem dX6_resultOf_70 : decode cX6_resultOf 70 = .ok (.imul, 1) := dk_104 (dk_at dksX6_resultOf_2 22 rfl rfl)
theorem dX6_resultOf_71 : decode cX6_resultOf 71 = .ok (.iaload, 1) := dk_46 (dk_at dksX6_resultOf_2 23 rfl rfl)
theorem dX6_resultOf_72 : decode cX6_resultOf 72 = .ok (.iconst 2, 1) := dk_5 (dk_at dksX6_resultOf_3 0 rfl rfl)
theorem dX6_resultOf_73 : decode cX6_resultOf 73 = .ok (.if_icmp .ne 18, 3) := dk_160 0 18 (dk_at dksX6_resultOf_3 1 rfl rfl)
theorem dX6_resultOf_76 : decode cX6_resultOf 76 = .ok (.iload 5, 2) := dk_21 5 (dk_at dksX6_resultOf_3 4 rfl rfl)
theorem dX6_resultOf_78 : decode cX6_resultOf 78 = .ok (.aload_n 0, 1) := dk_42 (dk_at dksX6_resultOf_3 6 rfl rfl)
theorem dX6_resultOf_79 : decode cX6_resultOf 79 = .ok (.aload_n 1, 1) := dk_43 (dk_at dksX6_resultOf_3 7 rfl rfl)
theorem dX6_resultOf_80 : decode cX6_resultOf 80 = .ok (.iload 6, 2) := dk_21 6 (dk_at dksX6_resultOf_3 8 rfl rfl)
theorem dX6_resultOf_82 : decode cX6_resultOf 82 = .ok (.invokevirtual 401, 3) := dk_182 1 145 (dk_at dksX6_resultOf_3 10 rfl rfl)
theorem dX6_resultOf_85 : decode cX6_resultOf 85 = .ok (.iadd, 1) := dk_96 (dk_at dksX6_resultOf_3 13 rfl rfl)
theorem dX6_resultOf_86 : decode cX6_resultOf 86 = .ok (.istore 5, 2) := dk_54 5 (dk_at dksX6_resultOf_3 14 rfl rfl)
theorem dX6_resultOf_88 : decode cX6_resultOf 88 = .ok (.goto 15, 3) := dk_167 0 15 (dk_at dksX6_resultOf_3 16 rfl rfl)
theorem dX6_resultOf_91 : decode cX6_resultOf 91 = .ok (.iload 4, 2) := dk_21 4 (dk_at dksX6_resultOf_3 19 rfl rfl)
theorem dX6_resultOf_93 : decode cX6_resultOf 93 = .ok (.aload_n 0, 1) := dk_42 (dk_at dksX6_resultOf_3 21 rfl rfl)
theorem dX6_resultOf_94 : decode cX6_resultOf 94 = .ok (.aload_n 1, 1) := dk_43 (dk_at dksX6_resultOf_3 22 rfl rfl)
theorem dX6_resultOf_95 : decode cX6_resultOf 95 = .ok (.iload 6, 2) := dk_21 6 (dk_at dksX6_resultOf_4 0 rfl rfl)
theorem dX6_resultOf_97 : decode cX6_resultOf 97 = .ok (.invokevirtual 401, 3) := dk_182 1 145 (dk_at dksX6_resultOf_4 2 rfl rfl)
theorem dX6_resultOf_100 : decode cX6_resultOf 100 = .ok (.iadd, 1) := dk_96 (dk_at dksX6_resultOf_4 5 rfl rfl)
theorem dX6_resultOf_101 : decode cX6_resultOf 101 = .ok (.istore 4, 2) := dk_54 4 (dk_at dksX6_resultOf_4 6 rfl rfl)
theorem dX6_resultOf_103 : decode cX6_resultOf 103 = .ok (.iinc 6 1, 3) := dk_132 6 1 (dk_at dksX6_resultOf_4 8 rfl rfl)
theorem dX6_resultOf_106 : decode cX6_resultOf 106 = .ok (.goto (-92), 3) := dk_167 255 164 (dk_at dksX6_resultOf_4 11 rfl rfl)
theorem dX6_resultOf_109 : decode cX6_resultOf 109 = .ok (.aload_n 1, 1) := dk_43 (dk_at dksX6_resultOf_4 14 rfl rfl)
theorem dX6_resultOf_110 : decode cX6_resultOf 110 = .ok (.getfield 335, 3) := dk_180 1 79 (dk_at dksX6_resultOf_4 15 rfl rfl)
theorem dX6_resultOf_113 : decode cX6_resultOf 113 = .ok (.aload_n 0, 1) := dk_42 (dk_at dksX6_resultOf_4 18 rfl rfl)
theorem dX6_resultOf_114 : decode cX6_resultOf 114 = .ok (.getfield 91, 3) := dk_180 0 91 (dk_at dksX6_resultOf_4 19 rfl rfl)
theorem dX6_resultOf_117 : decode cX6_resultOf 117 = .ok (.iaload, 1) := dk_46 (dk_at dksX6_resultOf_4 22 rfl rfl)
theorem dX6_resultOf_118 : decode cX6_resultOf 118 = .ok (.aload_n 1, 1) := dk_43 (dk_at dksX6_resultOf_4 23 rfl rfl)
theorem dX6_resultOf_119 : decode cX6_resultOf 119 = .ok (.getfield 333, 3) := dk_180 1 77 (dk_at dksX6_resultOf_5 0 rfl rfl)
theorem dX6_resultOf_122 : decode cX6_resultOf 122 = .ok (.isub, 1) := dk_100 (dk_at dksX6_resultOf_5 3 rfl rfl)
theorem dX6_resultOf_123 : decode cX6_resultOf 123 = .ok (.iload_n 2, 1) := dk_28 (dk_at dksX6_resultOf_5 4 rfl rfl)
theorem dX6_resultOf_124 : decode cX6_resultOf 124 = .ok (.iload 4, 2) := dk_21 4 (dk_at dksX6_resultOf_5 5 rfl rfl)
theorem dX6_resultOf_126 : decode cX6_resultOf 126 = .ok (.imul, 1) := dk_104 (dk_at dksX6_resultOf_5 7 rfl rfl)
theorem dX6_resultOf_127 : decode cX6_resultOf 127 = .ok (.iadd, 1) := dk_96 (dk_at dksX6_resultOf_5 8 rfl rfl)
theorem dX6_resultOf_128 : decode cX6_resultOf 128 = .ok (.iload_n 3, 1) := dk_29 (dk_at dksX6_resultOf_5 9 rfl rfl)
theorem dX6_resultOf_129 : decode cX6_resultOf 129 = .ok (.iload 5, 2) := dk_21 5 (dk_at dksX6_resultOf_5 10 rfl rfl)
theorem dX6_resultOf_131 : decode cX6_resultOf 131 = .ok (.imul, 1) := dk_104 (dk_at dksX6_resultOf_5 12 rfl rfl)
theorem dX6_resultOf_132 : decode cX6_resultOf 132 = .ok (.iadd, 1) := dk_96 (dk_at dksX6_resultOf_5 13 rfl rfl)
theorem dX6_resultOf_133 : decode cX6_resultOf 133 = .ok (.ireturn, 1) := dk_172 (dk_at dksX6_resultOf_5 14 rfl rfl)
abbrev cX6_lacksOf : ByteArray := prog_16_method_55_code
def yX6_lacksOf : MethodName := ⟨RX6, "lacksOf", "(LSledHouseModel$Team;I)I"⟩
def dkwX6_lacksOf_7 : List UInt8 := [100, 184, 1, 107, 172, 3, 172]
abbrev dktX6_lacksOf_7 : List UInt8 := dkwX6_lacksOf_7 ++ []
def dkwX6_lacksOf_6 : List UInt8 := [182, 1, 139, 184, 1, 142, 54, 6, 132, 7, 1, 167, 255, 231, 21, 6, 172, 3, 29, 43, 3, 182, 1, 68]
abbrev dktX6_lacksOf_6 : List UInt8 := dkwX6_lacksOf_6 ++ dktX6_lacksOf_7
def dkwX6_lacksOf_5 : List UInt8 := [54, 6, 21, 4, 4, 96, 54, 7, 21, 7, 21, 5, 163, 0, 24, 21, 6, 42, 43, 21, 7, 29]
abbrev dktX6_lacksOf_5 : List UInt8 := dkwX6_lacksOf_5 ++ dktX6_lacksOf_6
def dkwX6_lacksOf_4 : List UInt8 := [21, 5, 163, 0, 12, 21, 5, 42, 180, 0, 91, 164, 0, 5, 3, 172, 42, 43, 21, 4, 29, 182, 1, 139]
abbrev dktX6_lacksOf_4 : List UInt8 := dkwX6_lacksOf_4 ++ dktX6_lacksOf_5
def dkwX6_lacksOf_3 : List UInt8 := [21, 4, 42, 180, 0, 91, 164, 0, 7, 3, 167, 0, 11, 42, 43, 21, 4, 29, 182, 1, 139, 172, 21, 4]
abbrev dktX6_lacksOf_3 : List UInt8 := dkwX6_lacksOf_3 ++ dktX6_lacksOf_4
def dkwX6_lacksOf_2 : List UInt8 := [170, 0, 0, 0, 124, 0, 0, 0, 0, 0, 0, 0, 2, 0, 0, 0, 25, 0, 0, 0, 47, 0, 0, 0, 112]
abbrev dktX6_lacksOf_2 : List UInt8 := dkwX6_lacksOf_2 ++ dktX6_lacksOf_3
def dkwX6_lacksOf_1 : List UInt8 := [180, 0, 88, 7, 28, 104, 6, 96, 46, 54, 5, 42, 180, 0, 88, 7, 28, 104, 46]
abbrev dktX6_lacksOf_1 : List UInt8 := dkwX6_lacksOf_1 ++ dktX6_lacksOf_2
def dkwX6_lacksOf_0 : List UInt8 := [42, 180, 0, 88, 7, 28, 104, 4, 96, 46, 62, 42, 180, 0, 88, 7, 28, 104, 5, 96, 46, 54, 4, 42]
abbrev dktX6_lacksOf_0 : List UInt8 := dkwX6_lacksOf_0 ++ dktX6_lacksOf_1
theorem dksX6_lacksOf_0 : cX6_lacksOf.data.toList.drop 0 = dktX6_lacksOf_0 := by decide +kernel
theorem dksX6_lacksOf_1 : cX6_lacksOf.data.toList.drop 24 = dktX6_lacksOf_1 := dk_seg dksX6_lacksOf_0 24 rfl rfl
theorem dksX6_lacksOf_2 : cX6_lacksOf.data.toList.drop 43 = dktX6_lacksOf_2 := dk_seg dksX6_lacksOf_1 19 rfl rfl
theorem dksX6_lacksOf_3 : cX6_lacksOf.data.toList.drop 68 = dktX6_lacksOf_3 := dk_seg dksX6_lacksOf_2 25 rfl rfl
theorem dksX6_lacksOf_4 : cX6_lacksOf.data.toList.drop 92 = dktX6_lacksOf_4 := dk_seg dksX6_lacksOf_3 24 rfl rfl
theorem dksX6_lacksOf_5 : cX6_lacksOf.data.toList.drop 116 = dktX6_lacksOf_5 := dk_seg dksX6_lacksOf_4 24 rfl rfl
theorem dksX6_lacksOf_6 : cX6_lacksOf.data.toList.drop 138 = dktX6_lacksOf_6 := dk_seg dksX6_lacksOf_5 22 rfl rfl
theorem dksX6_lacksOf_7 : cX6_lacksOf.data.toList.drop 162 = dktX6_lacksOf_7 := dk_seg dksX6_lacksOf_6 24 rfl rfl
theorem dX6_lacksOf_0 : decode cX6_lacksOf 0 = .ok (.aload_n 0, 1) := dk_42 (dk_at dksX6_lacksOf_0 0 rfl rfl)
theorem dX6_lacksOf_1 : decode cX6_lacksOf 1 = .ok (.getfield 88, 3) := dk_180 0 88 (dk_at dksX6_lacksOf_0 1 rfl rfl)
theorem dX6_lacksOf_4 : decode cX6_lacksOf 4 = .ok (.iconst 4, 1) := dk_7 (dk_at dksX6_lacksOf_0 4 rfl rfl)
theorem dX6_lacksOf_5 : decode cX6_lacksOf 5 = .ok (.iload_n 2, 1) := dk_28 (dk_at dksX6_lacksOf_0 5 rfl rfl)
theorem dX6_lacksOf_6 : decode cX6_lacksOf 6 = .ok (.imul, 1) := dk_104 (dk_at dksX6_lacksOf_0 6 rfl rfl)
theorem dX6_lacksOf_7 : decode cX6_lacksOf 7 = .ok (.iconst 1, 1) := dk_4 (dk_at dksX6_lacksOf_0 7 rfl rfl)
theorem dX6_lacksOf_8 : decode cX6_lacksOf 8 = .ok (.iadd, 1) := dk_96 (dk_at dksX6_lacksOf_0 8 rfl rfl)
theorem dX6_lacksOf_9 : decode cX6_lacksOf 9 = .ok (.iaload, 1) := dk_46 (dk_at dksX6_lacksOf_0 9 rfl rfl)
theorem dX6_lacksOf_10 : decode cX6_lacksOf 10 = .ok (.istore_n 3, 1) := dk_62 (dk_at dksX6_lacksOf_0 10 rfl rfl)
theorem dX6_lacksOf_11 : decode cX6_lacksOf 11 = .ok (.aload_n 0, 1) := dk_42 (dk_at dksX6_lacksOf_0 11 rfl rfl)
theorem dX6_lacksOf_12 : decode cX6_lacksOf 12 = .ok (.getfield 88, 3) := dk_180 0 88 (dk_at dksX6_lacksOf_0 12 rfl rfl)
theorem dX6_lacksOf_15 : decode cX6_lacksOf 15 = .ok (.iconst 4, 1) := dk_7 (dk_at dksX6_lacksOf_0 15 rfl rfl)
theorem dX6_lacksOf_16 : decode cX6_lacksOf 16 = .ok (.iload_n 2, 1) := dk_28 (dk_at dksX6_lacksOf_0 16 rfl rfl)
theorem dX6_lacksOf_17 : decode cX6_lacksOf 17 = .ok (.imul, 1) := dk_104 (dk_at dksX6_lacksOf_0 17 rfl rfl)
theorem dX6_lacksOf_18 : decode cX6_lacksOf 18 = .ok (.iconst 2, 1) := dk_5 (dk_at dksX6_lacksOf_0 18 rfl rfl)
theorem dX6_lacksOf_19 : decode cX6_lacksOf 19 = .ok (.iadd, 1) := dk_96 (dk_at dksX6_lacksOf_0 19 rfl rfl)
theorem dX6_lacksOf_20 : decode cX6_lacksOf 20 = .ok (.iaload, 1) := dk_46 (dk_at dksX6_lacksOf_0 20 rfl rfl)
theorem dX6_lacksOf_21 : decode cX6_lacksOf 21 = .ok (.istore 4, 2) := dk_54 4 (dk_at dksX6_lacksOf_0 21 rfl rfl)
theorem dX6_lacksOf_23 : decode cX6_lacksOf 23 = .ok (.aload_n 0, 1) := dk_42 (dk_at dksX6_lacksOf_0 23 rfl rfl)
theorem dX6_lacksOf_24 : decode cX6_lacksOf 24 = .ok (.getfield 88, 3) := dk_180 0 88 (dk_at dksX6_lacksOf_1 0 rfl rfl)
theorem dX6_lacksOf_27 : decode cX6_lacksOf 27 = .ok (.iconst 4, 1) := dk_7 (dk_at dksX6_lacksOf_1 3 rfl rfl)
theorem dX6_lacksOf_28 : decode cX6_lacksOf 28 = .ok (.iload_n 2, 1) := dk_28 (dk_at dksX6_lacksOf_1 4 rfl rfl)
theorem dX6_lacksOf_29 : decode cX6_lacksOf 29 = .ok (.imul, 1) := dk_104 (dk_at dksX6_lacksOf_1 5 rfl rfl)
theorem dX6_lacksOf_30 : decode cX6_lacksOf 30 = .ok (.iconst 3, 1) := dk_6 (dk_at dksX6_lacksOf_1 6 rfl rfl)
theorem dX6_lacksOf_31 : decode cX6_lacksOf 31 = .ok (.iadd, 1) := dk_96 (dk_at dksX6_lacksOf_1 7 rfl rfl)
theorem dX6_lacksOf_32 : decode cX6_lacksOf 32 = .ok (.iaload, 1) := dk_46 (dk_at dksX6_lacksOf_1 8 rfl rfl)
theorem dX6_lacksOf_33 : decode cX6_lacksOf 33 = .ok (.istore 5, 2) := dk_54 5 (dk_at dksX6_lacksOf_1 9 rfl rfl)
theorem dX6_lacksOf_35 : decode cX6_lacksOf 35 = .ok (.aload_n 0, 1) := dk_42 (dk_at dksX6_lacksOf_1 11 rfl rfl)
theorem dX6_lacksOf_36 : decode cX6_lacksOf 36 = .ok (.getfield 88, 3) := dk_180 0 88 (dk_at dksX6_lacksOf_1 12 rfl rfl)
theorem dX6_lacksOf_39 : decode cX6_lacksOf 39 = .ok (.iconst 4, 1) := dk_7 (dk_at dksX6_lacksOf_1 15 rfl rfl)
theorem dX6_lacksOf_40 : decode cX6_lacksOf 40 = .ok (.iload_n 2, 1) := dk_28 (dk_at dksX6_lacksOf_1 16 rfl rfl)
theorem dX6_lacksOf_41 : decode cX6_lacksOf 41 = .ok (.imul, 1) := dk_104 (dk_at dksX6_lacksOf_1 17 rfl rfl)
theorem dX6_lacksOf_42 : decode cX6_lacksOf 42 = .ok (.iaload, 1) := dk_46 (dk_at dksX6_lacksOf_1 18 rfl rfl)
theorem dX6_lacksOf_43 : decode cX6_lacksOf 43 = .ok (.tableswitch 124 0 2 #[25, 47, 112], 25) := by decide +kernel
theorem dX6_lacksOf_68 : decode cX6_lacksOf 68 = .ok (.iload 4, 2) := dk_21 4 (dk_at dksX6_lacksOf_3 0 rfl rfl)
theorem dX6_lacksOf_70 : decode cX6_lacksOf 70 = .ok (.aload_n 0, 1) := dk_42 (dk_at dksX6_lacksOf_3 2 rfl rfl)
theorem dX6_lacksOf_71 : decode cX6_lacksOf 71 = .ok (.getfield 91, 3) := dk_180 0 91 (dk_at dksX6_lacksOf_3 3 rfl rfl)
theorem dX6_lacksOf_74 : decode cX6_lacksOf 74 = .ok (.if_icmp .le 7, 3) := dk_164 0 7 (dk_at dksX6_lacksOf_3 6 rfl rfl)
theorem dX6_lacksOf_77 : decode cX6_lacksOf 77 = .ok (.iconst 0, 1) := dk_3 (dk_at dksX6_lacksOf_3 9 rfl rfl)
theorem dX6_lacksOf_78 : decode cX6_lacksOf 78 = .ok (.goto 11, 3) := dk_167 0 11 (dk_at dksX6_lacksOf_3 10 rfl rfl)
theorem dX6_lacksOf_81 : decode cX6_lacksOf 81 = .ok (.aload_n 0, 1) := dk_42 (dk_at dksX6_lacksOf_3 13 rfl rfl)
theorem dX6_lacksOf_82 : decode cX6_lacksOf 82 = .ok (.aload_n 1, 1) := dk_43 (dk_at dksX6_lacksOf_3 14 rfl rfl)
theorem dX6_lacksOf_83 : decode cX6_lacksOf 83 = .ok (.iload 4, 2) := dk_21 4 (dk_at dksX6_lacksOf_3 15 rfl rfl)
theorem dX6_lacksOf_85 : decode cX6_lacksOf 85 = .ok (.iload_n 3, 1) := dk_29 (dk_at dksX6_lacksOf_3 17 rfl rfl)
theorem dX6_lacksOf_86 : decode cX6_lacksOf 86 = .ok (.invokevirtual 395, 3) := dk_182 1 139 (dk_at dksX6_lacksOf_3 18 rfl rfl)
theorem dX6_lacksOf_89 : decode cX6_lacksOf 89 = .ok (.ireturn, 1) := dk_172 (dk_at dksX6_lacksOf_3 21 rfl rfl)
theorem dX6_lacksOf_90 : decode cX6_lacksOf 90 = .ok (.iload 4, 2) := dk_21 4 (dk_at dksX6_lacksOf_3 22 rfl rfl)
theorem dX6_lacksOf_92 : decode cX6_lacksOf 92 = .ok (.iload 5, 2) := dk_21 5 (dk_at dksX6_lacksOf_4 0 rfl rfl)
theorem dX6_lacksOf_94 : decode cX6_lacksOf 94 = .ok (.if_icmp .gt 12, 3) := dk_163 0 12 (dk_at dksX6_lacksOf_4 2 rfl rfl)
theorem dX6_lacksOf_97 : decode cX6_lacksOf 97 = .ok (.iload 5, 2) := dk_21 5 (dk_at dksX6_lacksOf_4 5 rfl rfl)
theorem dX6_lacksOf_99 : decode cX6_lacksOf 99 = .ok (.aload_n 0, 1) := dk_42 (dk_at dksX6_lacksOf_4 7 rfl rfl)
theorem dX6_lacksOf_100 : decode cX6_lacksOf 100 = .ok (.getfield 91, 3) := dk_180 0 91 (dk_at dksX6_lacksOf_4 8 rfl rfl)
theorem dX6_lacksOf_103 : decode cX6_lacksOf 103 = .ok (.if_icmp .le 5, 3) := dk_164 0 5 (dk_at dksX6_lacksOf_4 11 rfl rfl)
theorem dX6_lacksOf_106 : decode cX6_lacksOf 106 = .ok (.iconst 0, 1) := dk_3 (dk_at dksX6_lacksOf_4 14 rfl rfl)
theorem dX6_lacksOf_107 : decode cX6_lacksOf 107 = .ok (.ireturn, 1) := dk_172 (dk_at dksX6_lacksOf_4 15 rfl rfl)
theorem dX6_lacksOf_108 : decode cX6_lacksOf 108 = .ok (.aload_n 0, 1) := dk_42 (dk_at dksX6_lacksOf_4 16 rfl rfl)
theorem dX6_lacksOf_109 : decode cX6_lacksOf 109 = .ok (.aload_n 1, 1) := dk_43 (dk_at dksX6_lacksOf_4 17 rfl rfl)
theorem dX6_lacksOf_110 : decode cX6_lacksOf 110 = .ok (.iload 4, 2) := dk_21 4 (dk_at dksX6_lacksOf_4 18 rfl rfl)
theorem dX6_lacksOf_112 : decode cX6_lacksOf 112 = .ok (.iload_n 3, 1) := dk_29 (dk_at dksX6_lacksOf_4 20 rfl rfl)
theorem dX6_lacksOf_113 : decode cX6_lacksOf 113 = .ok (.invokevirtual 395, 3) := dk_182 1 139 (dk_at dksX6_lacksOf_4 21 rfl rfl)
theorem dX6_lacksOf_116 : decode cX6_lacksOf 116 = .ok (.istore 6, 2) := dk_54 6 (dk_at dksX6_lacksOf_5 0 rfl rfl)
theorem dX6_lacksOf_118 : decode cX6_lacksOf 118 = .ok (.iload 4, 2) := dk_21 4 (dk_at dksX6_lacksOf_5 2 rfl rfl)
theorem dX6_lacksOf_120 : decode cX6_lacksOf 120 = .ok (.iconst 1, 1) := dk_4 (dk_at dksX6_lacksOf_5 4 rfl rfl)
theorem dX6_lacksOf_121 : decode cX6_lacksOf 121 = .ok (.iadd, 1) := dk_96 (dk_at dksX6_lacksOf_5 5 rfl rfl)
theorem dX6_lacksOf_122 : decode cX6_lacksOf 122 = .ok (.istore 7, 2) := dk_54 7 (dk_at dksX6_lacksOf_5 6 rfl rfl)
theorem dX6_lacksOf_124 : decode cX6_lacksOf 124 = .ok (.iload 7, 2) := dk_21 7 (dk_at dksX6_lacksOf_5 8 rfl rfl)
theorem dX6_lacksOf_126 : decode cX6_lacksOf 126 = .ok (.iload 5, 2) := dk_21 5 (dk_at dksX6_lacksOf_5 10 rfl rfl)
theorem dX6_lacksOf_128 : decode cX6_lacksOf 128 = .ok (.if_icmp .gt 24, 3) := dk_163 0 24 (dk_at dksX6_lacksOf_5 12 rfl rfl)
theorem dX6_lacksOf_131 : decode cX6_lacksOf 131 = .ok (.iload 6, 2) := dk_21 6 (dk_at dksX6_lacksOf_5 15 rfl rfl)
theorem dX6_lacksOf_133 : decode cX6_lacksOf 133 = .ok (.aload_n 0, 1) := dk_42 (dk_at dksX6_lacksOf_5 17 rfl rfl)
theorem dX6_lacksOf_134 : decode cX6_lacksOf 134 = .ok (.aload_n 1, 1) := dk_43 (dk_at dksX6_lacksOf_5 18 rfl rfl)
theorem dX6_lacksOf_135 : decode cX6_lacksOf 135 = .ok (.iload 7, 2) := dk_21 7 (dk_at dksX6_lacksOf_5 19 rfl rfl)
theorem dX6_lacksOf_137 : decode cX6_lacksOf 137 = .ok (.iload_n 3, 1) := dk_29 (dk_at dksX6_lacksOf_5 21 rfl rfl)
theorem dX6_lacksOf_138 : decode cX6_lacksOf 138 = .ok (.invokevirtual 395, 3) := dk_182 1 139 (dk_at dksX6_lacksOf_6 0 rfl rfl)
theorem dX6_lacksOf_141 : decode cX6_lacksOf 141 = .ok (.invokestatic 398, 3) := dk_184 1 142 (dk_at dksX6_lacksOf_6 3 rfl rfl)
theorem dX6_lacksOf_144 : decode cX6_lacksOf 144 = .ok (.istore 6, 2) := dk_54 6 (dk_at dksX6_lacksOf_6 6 rfl rfl)
theorem dX6_lacksOf_146 : decode cX6_lacksOf 146 = .ok (.iinc 7 1, 3) := dk_132 7 1 (dk_at dksX6_lacksOf_6 8 rfl rfl)
theorem dX6_lacksOf_149 : decode cX6_lacksOf 149 = .ok (.goto (-25), 3) := dk_167 255 231 (dk_at dksX6_lacksOf_6 11 rfl rfl)
theorem dX6_lacksOf_152 : decode cX6_lacksOf 152 = .ok (.iload 6, 2) := dk_21 6 (dk_at dksX6_lacksOf_6 14 rfl rfl)
theorem dX6_lacksOf_154 : decode cX6_lacksOf 154 = .ok (.ireturn, 1) := dk_172 (dk_at dksX6_lacksOf_6 16 rfl rfl)
theorem dX6_lacksOf_155 : decode cX6_lacksOf 155 = .ok (.iconst 0, 1) := dk_3 (dk_at dksX6_lacksOf_6 17 rfl rfl)
theorem dX6_lacksOf_156 : decode cX6_lacksOf 156 = .ok (.iload_n 3, 1) := dk_29 (dk_at dksX6_lacksOf_6 18 rfl rfl)
theorem dX6_lacksOf_157 : decode cX6_lacksOf 157 = .ok (.aload_n 1, 1) := dk_43 (dk_at dksX6_lacksOf_6 19 rfl rfl)
theorem dX6_lacksOf_158 : decode cX6_lacksOf 158 = .ok (.iconst 0, 1) := dk_3 (dk_at dksX6_lacksOf_6 20 rfl rfl)
theorem dX6_lacksOf_159 : decode cX6_lacksOf 159 = .ok (.invokevirtual 324, 3) := dk_182 1 68 (dk_at dksX6_lacksOf_6 21 rfl rfl)
theorem dX6_lacksOf_162 : decode cX6_lacksOf 162 = .ok (.isub, 1) := dk_100 (dk_at dksX6_lacksOf_7 0 rfl rfl)
theorem dX6_lacksOf_163 : decode cX6_lacksOf 163 = .ok (.invokestatic 363, 3) := dk_184 1 107 (dk_at dksX6_lacksOf_7 1 rfl rfl)
theorem dX6_lacksOf_166 : decode cX6_lacksOf 166 = .ok (.ireturn, 1) := dk_172 (dk_at dksX6_lacksOf_7 4 rfl rfl)
theorem dX6_lacksOf_167 : decode cX6_lacksOf 167 = .ok (.iconst 0, 1) := dk_3 (dk_at dksX6_lacksOf_7 5 rfl rfl)
theorem dX6_lacksOf_168 : decode cX6_lacksOf 168 = .ok (.ireturn, 1) := dk_172 (dk_at dksX6_lacksOf_7 6 rfl rfl)
abbrev cX6_less : ByteArray := prog_16_method_54_code
def yX6_less : MethodName := ⟨RX6, "less", "(LSledHouseModel$Team;II)I"⟩
def dkwX6_less_1 : List UInt8 := [28, 46, 100, 100, 184, 1, 107, 172]
abbrev dktX6_less_1 : List UInt8 := dkwX6_less_1 ++ []
def dkwX6_less_0 : List UInt8 := [28, 42, 180, 0, 91, 160, 0, 7, 3, 167, 0, 22, 3, 29, 43, 180, 1, 102, 28, 46, 43, 180, 1, 79]
abbrev dktX6_less_0 : List UInt8 := dkwX6_less_0 ++ dktX6_less_1
theorem dksX6_less_0 : cX6_less.data.toList.drop 0 = dktX6_less_0 := by decide +kernel
theorem dksX6_less_1 : cX6_less.data.toList.drop 24 = dktX6_less_1 := dk_seg dksX6_less_0 24 rfl rfl
theorem dX6_less_0 : decode cX6_less 0 = .ok (.iload_n 2, 1) := dk_28 (dk_at dksX6_less_0 0 rfl rfl)
theorem dX6_less_1 : decode cX6_less 1 = .ok (.aload_n 0, 1) := dk_42 (dk_at dksX6_less_0 1 rfl rfl)
theorem dX6_less_2 : decode cX6_less 2 = .ok (.getfield 91, 3) := dk_180 0 91 (dk_at dksX6_less_0 2 rfl rfl)
theorem dX6_less_5 : decode cX6_less 5 = .ok (.if_icmp .ne 7, 3) := dk_160 0 7 (dk_at dksX6_less_0 5 rfl rfl)
theorem dX6_less_8 : decode cX6_less 8 = .ok (.iconst 0, 1) := dk_3 (dk_at dksX6_less_0 8 rfl rfl)
theorem dX6_less_9 : decode cX6_less 9 = .ok (.goto 22, 3) := dk_167 0 22 (dk_at dksX6_less_0 9 rfl rfl)
theorem dX6_less_12 : decode cX6_less 12 = .ok (.iconst 0, 1) := dk_3 (dk_at dksX6_less_0 12 rfl rfl)
theorem dX6_less_13 : decode cX6_less 13 = .ok (.iload_n 3, 1) := dk_29 (dk_at dksX6_less_0 13 rfl rfl)
theorem dX6_less_14 : decode cX6_less 14 = .ok (.aload_n 1, 1) := dk_43 (dk_at dksX6_less_0 14 rfl rfl)
theorem dX6_less_15 : decode cX6_less 15 = .ok (.getfield 358, 3) := dk_180 1 102 (dk_at dksX6_less_0 15 rfl rfl)
theorem dX6_less_18 : decode cX6_less 18 = .ok (.iload_n 2, 1) := dk_28 (dk_at dksX6_less_0 18 rfl rfl)
theorem dX6_less_19 : decode cX6_less 19 = .ok (.iaload, 1) := dk_46 (dk_at dksX6_less_0 19 rfl rfl)
theorem dX6_less_20 : decode cX6_less 20 = .ok (.aload_n 1, 1) := dk_43 (dk_at dksX6_less_0 20 rfl rfl)
theorem dX6_less_21 : decode cX6_less 21 = .ok (.getfield 335, 3) := dk_180 1 79 (dk_at dksX6_less_0 21 rfl rfl)
theorem dX6_less_24 : decode cX6_less 24 = .ok (.iload_n 2, 1) := dk_28 (dk_at dksX6_less_1 0 rfl rfl)
theorem dX6_less_25 : decode cX6_less 25 = .ok (.iaload, 1) := dk_46 (dk_at dksX6_less_1 1 rfl rfl)
theorem dX6_less_26 : decode cX6_less 26 = .ok (.isub, 1) := dk_100 (dk_at dksX6_less_1 2 rfl rfl)
theorem dX6_less_27 : decode cX6_less 27 = .ok (.isub, 1) := dk_100 (dk_at dksX6_less_1 3 rfl rfl)
theorem dX6_less_28 : decode cX6_less 28 = .ok (.invokestatic 363, 3) := dk_184 1 107 (dk_at dksX6_less_1 4 rfl rfl)
theorem dX6_less_31 : decode cX6_less 31 = .ok (.ireturn, 1) := dk_172 (dk_at dksX6_less_1 7 rfl rfl)
abbrev cX6_lacks : ByteArray := prog_16_method_58_code
def yX6_lacks : MethodName := ⟨RX6, "lacks", "(II)I"⟩
def dkwX6_lacks_2 : List UInt8 := [182, 1, 145, 167, 0, 4, 2, 172]
abbrev dktX6_lacks_2 : List UInt8 := dkwX6_lacks_2 ++ []
def dkwX6_lacks_1 : List UInt8 := [160, 0, 29, 28, 155, 0, 25, 28, 42, 180, 0, 250, 162, 0, 17, 42, 42, 180, 0, 34, 27, 50, 28]
abbrev dktX6_lacks_1 : List UInt8 := dkwX6_lacks_1 ++ dktX6_lacks_2
def dkwX6_lacks_0 : List UInt8 := [42, 3, 181, 0, 1, 42, 27, 182, 1, 30, 153, 0, 42, 42, 180, 0, 34, 27, 50, 180, 1, 33, 5]
abbrev dktX6_lacks_0 : List UInt8 := dkwX6_lacks_0 ++ dktX6_lacks_1
theorem dksX6_lacks_0 : cX6_lacks.data.toList.drop 0 = dktX6_lacks_0 := by decide +kernel
theorem dksX6_lacks_1 : cX6_lacks.data.toList.drop 23 = dktX6_lacks_1 := dk_seg dksX6_lacks_0 23 rfl rfl
theorem dksX6_lacks_2 : cX6_lacks.data.toList.drop 46 = dktX6_lacks_2 := dk_seg dksX6_lacks_1 23 rfl rfl
theorem dX6_lacks_0 : decode cX6_lacks 0 = .ok (.aload_n 0, 1) := dk_42 (dk_at dksX6_lacks_0 0 rfl rfl)
theorem dX6_lacks_1 : decode cX6_lacks 1 = .ok (.iconst 0, 1) := dk_3 (dk_at dksX6_lacks_0 1 rfl rfl)
theorem dX6_lacks_2 : decode cX6_lacks 2 = .ok (.putfield 1, 3) := dk_181 0 1 (dk_at dksX6_lacks_0 2 rfl rfl)
theorem dX6_lacks_5 : decode cX6_lacks 5 = .ok (.aload_n 0, 1) := dk_42 (dk_at dksX6_lacks_0 5 rfl rfl)
theorem dX6_lacks_6 : decode cX6_lacks 6 = .ok (.iload_n 1, 1) := dk_27 (dk_at dksX6_lacks_0 6 rfl rfl)
theorem dX6_lacks_7 : decode cX6_lacks 7 = .ok (.invokevirtual 286, 3) := dk_182 1 30 (dk_at dksX6_lacks_0 7 rfl rfl)
theorem dX6_lacks_10 : decode cX6_lacks 10 = .ok (.ifCond .eq 42, 3) := dk_153 0 42 (dk_at dksX6_lacks_0 10 rfl rfl)
theorem dX6_lacks_13 : decode cX6_lacks 13 = .ok (.aload_n 0, 1) := dk_42 (dk_at dksX6_lacks_0 13 rfl rfl)
theorem dX6_lacks_14 : decode cX6_lacks 14 = .ok (.getfield 34, 3) := dk_180 0 34 (dk_at dksX6_lacks_0 14 rfl rfl)
theorem dX6_lacks_17 : decode cX6_lacks 17 = .ok (.iload_n 1, 1) := dk_27 (dk_at dksX6_lacks_0 17 rfl rfl)
theorem dX6_lacks_18 : decode cX6_lacks 18 = .ok (.aaload, 1) := dk_50 (dk_at dksX6_lacks_0 18 rfl rfl)
theorem dX6_lacks_19 : decode cX6_lacks 19 = .ok (.getfield 289, 3) := dk_180 1 33 (dk_at dksX6_lacks_0 19 rfl rfl)
theorem dX6_lacks_22 : decode cX6_lacks 22 = .ok (.iconst 2, 1) := dk_5 (dk_at dksX6_lacks_0 22 rfl rfl)
theorem dX6_lacks_23 : decode cX6_lacks 23 = .ok (.if_icmp .ne 29, 3) := dk_160 0 29 (dk_at dksX6_lacks_1 0 rfl rfl)
theorem dX6_lacks_26 : decode cX6_lacks 26 = .ok (.iload_n 2, 1) := dk_28 (dk_at dksX6_lacks_1 3 rfl rfl)
theorem dX6_lacks_27 : decode cX6_lacks 27 = .ok (.ifCond .lt 25, 3) := dk_155 0 25 (dk_at dksX6_lacks_1 4 rfl rfl)
theorem dX6_lacks_30 : decode cX6_lacks 30 = .ok (.iload_n 2, 1) := dk_28 (dk_at dksX6_lacks_1 7 rfl rfl)
theorem dX6_lacks_31 : decode cX6_lacks 31 = .ok (.aload_n 0, 1) := dk_42 (dk_at dksX6_lacks_1 8 rfl rfl)
theorem dX6_lacks_32 : decode cX6_lacks 32 = .ok (.getfield 250, 3) := dk_180 0 250 (dk_at dksX6_lacks_1 9 rfl rfl)
theorem dX6_lacks_35 : decode cX6_lacks 35 = .ok (.if_icmp .ge 17, 3) := dk_162 0 17 (dk_at dksX6_lacks_1 12 rfl rfl)
theorem dX6_lacks_38 : decode cX6_lacks 38 = .ok (.aload_n 0, 1) := dk_42 (dk_at dksX6_lacks_1 15 rfl rfl)
theorem dX6_lacks_39 : decode cX6_lacks 39 = .ok (.aload_n 0, 1) := dk_42 (dk_at dksX6_lacks_1 16 rfl rfl)
theorem dX6_lacks_40 : decode cX6_lacks 40 = .ok (.getfield 34, 3) := dk_180 0 34 (dk_at dksX6_lacks_1 17 rfl rfl)
theorem dX6_lacks_43 : decode cX6_lacks 43 = .ok (.iload_n 1, 1) := dk_27 (dk_at dksX6_lacks_1 20 rfl rfl)
theorem dX6_lacks_44 : decode cX6_lacks 44 = .ok (.aaload, 1) := dk_50 (dk_at dksX6_lacks_1 21 rfl rfl)
theorem dX6_lacks_45 : decode cX6_lacks 45 = .ok (.iload_n 2, 1) := dk_28 (dk_at dksX6_lacks_1 22 rfl rfl)
theorem dX6_lacks_46 : decode cX6_lacks 46 = .ok (.invokevirtual 401, 3) := dk_182 1 145 (dk_at dksX6_lacks_2 0 rfl rfl)
theorem dX6_lacks_49 : decode cX6_lacks 49 = .ok (.goto 4, 3) := dk_167 0 4 (dk_at dksX6_lacks_2 3 rfl rfl)
theorem dX6_lacks_52 : decode cX6_lacks 52 = .ok (.iconst (-1), 1) := dk_2 (dk_at dksX6_lacks_2 6 rfl rfl)
theorem dX6_lacks_53 : decode cX6_lacks 53 = .ok (.ireturn, 1) := dk_172 (dk_at dksX6_lacks_2 7 rfl rfl)
abbrev cX6_place : ByteArray := prog_16_method_60_code
def yX6_place : MethodName := ⟨RX6, "place", "(I)I"⟩
def dkwX6_place_3 : List UInt8 := [167, 255, 194, 2, 172]
abbrev dktX6_place_3 : List UInt8 := dkwX6_place_3 ++ []
def dkwX6_place_2 : List UInt8 := [167, 0, 4, 3, 96, 62, 132, 4, 1, 167, 255, 220, 29, 27, 160, 0, 5, 28, 172, 132, 2, 1]
abbrev dktX6_place_2 : List UInt8 := dkwX6_place_2 ++ dktX6_place_3
def dkwX6_place_1 : List UInt8 := [180, 0, 94, 162, 0, 33, 29, 21, 4, 28, 159, 0, 17, 42, 21, 4, 28, 182, 1, 152, 153, 0, 7, 4]
abbrev dktX6_place_1 : List UInt8 := dkwX6_place_1 ++ dktX6_place_2
def dkwX6_place_0 : List UInt8 := [42, 3, 181, 0, 1, 3, 61, 28, 42, 180, 0, 94, 162, 0, 60, 3, 62, 3, 54, 4, 21, 4, 42]
abbrev dktX6_place_0 : List UInt8 := dkwX6_place_0 ++ dktX6_place_1
theorem dksX6_place_0 : cX6_place.data.toList.drop 0 = dktX6_place_0 := by decide +kernel
theorem dksX6_place_1 : cX6_place.data.toList.drop 23 = dktX6_place_1 := dk_seg dksX6_place_0 23 rfl rfl
theorem dksX6_place_2 : cX6_place.data.toList.drop 47 = dktX6_place_2 := dk_seg dksX6_place_1 24 rfl rfl
theorem dksX6_place_3 : cX6_place.data.toList.drop 69 = dktX6_place_3 := dk_seg dksX6_place_2 22 rfl rfl
theorem dX6_place_0 : decode cX6_place 0 = .ok (.aload_n 0, 1) := dk_42 (dk_at dksX6_place_0 0 rfl rfl)
theorem dX6_place_1 : decode cX6_place 1 = .ok (.iconst 0, 1) := dk_3 (dk_at dksX6_place_0 1 rfl rfl)
theorem dX6_place_2 : decode cX6_place 2 = .ok (.putfield 1, 3) := dk_181 0 1 (dk_at dksX6_place_0 2 rfl rfl)
theorem dX6_place_5 : decode cX6_place 5 = .ok (.iconst 0, 1) := dk_3 (dk_at dksX6_place_0 5 rfl rfl)
theorem dX6_place_6 : decode cX6_place 6 = .ok (.istore_n 2, 1) := dk_61 (dk_at dksX6_place_0 6 rfl rfl)
theorem dX6_place_7 : decode cX6_place 7 = .ok (.iload_n 2, 1) := dk_28 (dk_at dksX6_place_0 7 rfl rfl)
theorem dX6_place_8 : decode cX6_place 8 = .ok (.aload_n 0, 1) := dk_42 (dk_at dksX6_place_0 8 rfl rfl)
theorem dX6_place_9 : decode cX6_place 9 = .ok (.getfield 94, 3) := dk_180 0 94 (dk_at dksX6_place_0 9 rfl rfl)
theorem dX6_place_12 : decode cX6_place 12 = .ok (.if_icmp .ge 60, 3) := dk_162 0 60 (dk_at dksX6_place_0 12 rfl rfl)
theorem dX6_place_15 : decode cX6_place 15 = .ok (.iconst 0, 1) := dk_3 (dk_at dksX6_place_0 15 rfl rfl)
theorem dX6_place_16 : decode cX6_place 16 = .ok (.istore_n 3, 1) := dk_62 (dk_at dksX6_place_0 16 rfl rfl)
theorem dX6_place_17 : decode cX6_place 17 = .ok (.iconst 0, 1) := dk_3 (dk_at dksX6_place_0 17 rfl rfl)
theorem dX6_place_18 : decode cX6_place 18 = .ok (.istore 4, 2) := dk_54 4 (dk_at dksX6_place_0 18 rfl rfl)
theorem dX6_place_20 : decode cX6_place 20 = .ok (.iload 4, 2) := dk_21 4 (dk_at dksX6_place_0 20 rfl rfl)
theorem dX6_place_22 : decode cX6_place 22 = .ok (.aload_n 0, 1) := dk_42 (dk_at dksX6_place_0 22 rfl rfl)
theorem dX6_place_23 : decode cX6_place 23 = .ok (.getfield 94, 3) := dk_180 0 94 (dk_at dksX6_place_1 0 rfl rfl)
theorem dX6_place_26 : decode cX6_place 26 = .ok (.if_icmp .ge 33, 3) := dk_162 0 33 (dk_at dksX6_place_1 3 rfl rfl)
theorem dX6_place_29 : decode cX6_place 29 = .ok (.iload_n 3, 1) := dk_29 (dk_at dksX6_place_1 6 rfl rfl)
theorem dX6_place_30 : decode cX6_place 30 = .ok (.iload 4, 2) := dk_21 4 (dk_at dksX6_place_1 7 rfl rfl)
theorem dX6_place_32 : decode cX6_place 32 = .ok (.iload_n 2, 1) := dk_28 (dk_at dksX6_place_1 9 rfl rfl)
theorem dX6_place_33 : decode cX6_place 33 = .ok (.if_icmp .eq 17, 3) := dk_159 0 17 (dk_at dksX6_place_1 10 rfl rfl)
theorem dX6_place_36 : decode cX6_place 36 = .ok (.aload_n 0, 1) := dk_42 (dk_at dksX6_place_1 13 rfl rfl)
theorem dX6_place_37 : decode cX6_place 37 = .ok (.iload 4, 2) := dk_21 4 (dk_at dksX6_place_1 14 rfl rfl)
theorem dX6_place_39 : decode cX6_place 39 = .ok (.iload_n 2, 1) := dk_28 (dk_at dksX6_place_1 16 rfl rfl)
theorem dX6_place_40 : decode cX6_place 40 = .ok (.invokevirtual 408, 3) := dk_182 1 152 (dk_at dksX6_place_1 17 rfl rfl)
theorem dX6_place_43 : decode cX6_place 43 = .ok (.ifCond .eq 7, 3) := dk_153 0 7 (dk_at dksX6_place_1 20 rfl rfl)
theorem dX6_place_46 : decode cX6_place 46 = .ok (.iconst 1, 1) := dk_4 (dk_at dksX6_place_1 23 rfl rfl)
theorem dX6_place_47 : decode cX6_place 47 = .ok (.goto 4, 3) := dk_167 0 4 (dk_at dksX6_place_2 0 rfl rfl)
theorem dX6_place_50 : decode cX6_place 50 = .ok (.iconst 0, 1) := dk_3 (dk_at dksX6_place_2 3 rfl rfl)
theorem dX6_place_51 : decode cX6_place 51 = .ok (.iadd, 1) := dk_96 (dk_at dksX6_place_2 4 rfl rfl)
theorem dX6_place_52 : decode cX6_place 52 = .ok (.istore_n 3, 1) := dk_62 (dk_at dksX6_place_2 5 rfl rfl)
theorem dX6_place_53 : decode cX6_place 53 = .ok (.iinc 4 1, 3) := dk_132 4 1 (dk_at dksX6_place_2 6 rfl rfl)
theorem dX6_place_56 : decode cX6_place 56 = .ok (.goto (-36), 3) := dk_167 255 220 (dk_at dksX6_place_2 9 rfl rfl)
theorem dX6_place_59 : decode cX6_place 59 = .ok (.iload_n 3, 1) := dk_29 (dk_at dksX6_place_2 12 rfl rfl)
theorem dX6_place_60 : decode cX6_place 60 = .ok (.iload_n 1, 1) := dk_27 (dk_at dksX6_place_2 13 rfl rfl)
theorem dX6_place_61 : decode cX6_place 61 = .ok (.if_icmp .ne 5, 3) := dk_160 0 5 (dk_at dksX6_place_2 14 rfl rfl)
theorem dX6_place_64 : decode cX6_place 64 = .ok (.iload_n 2, 1) := dk_28 (dk_at dksX6_place_2 17 rfl rfl)
theorem dX6_place_65 : decode cX6_place 65 = .ok (.ireturn, 1) := dk_172 (dk_at dksX6_place_2 18 rfl rfl)
theorem dX6_place_66 : decode cX6_place 66 = .ok (.iinc 2 1, 3) := dk_132 2 1 (dk_at dksX6_place_2 19 rfl rfl)
theorem dX6_place_69 : decode cX6_place 69 = .ok (.goto (-62), 3) := dk_167 255 194 (dk_at dksX6_place_3 0 rfl rfl)
theorem dX6_place_72 : decode cX6_place 72 = .ok (.iconst (-1), 1) := dk_2 (dk_at dksX6_place_3 3 rfl rfl)
theorem dX6_place_73 : decode cX6_place 73 = .ok (.ireturn, 1) := dk_172 (dk_at dksX6_place_3 4 rfl rfl)
abbrev cX6_isAhead : ByteArray := prog_16_method_59_code
def yX6_isAhead : MethodName := ⟨RX6, "isAhead", "(II)Z"⟩
def dkwX6_isAhead_9 : List UInt8 := [3, 172]
abbrev dktX6_isAhead_9 : List UInt8 := dkwX6_isAhead_9 ++ []
def dkwX6_isAhead_8 : List UInt8 := [21, 7, 21, 8, 162, 0, 7, 4, 167, 0, 17, 3, 167, 0, 13, 27, 28, 162, 0, 7, 4, 167, 0, 4]
abbrev dktX6_isAhead_8 : List UInt8 := dkwX6_isAhead_8 ++ dktX6_isAhead_9
def dkwX6_isAhead_7 : List UInt8 := [160, 0, 13, 42, 25, 4, 182, 1, 135, 116, 167, 0, 4, 3, 54, 8, 21, 7, 21, 8, 159, 0, 18]
abbrev dktX6_isAhead_7 : List UInt8 := dkwX6_isAhead_7 ++ dktX6_isAhead_8
def dkwX6_isAhead_6 : List UInt8 := [167, 0, 4, 3, 54, 7, 21, 5, 154, 0, 12, 42, 25, 4, 182, 1, 149, 167, 0, 20, 21, 5, 4]
abbrev dktX6_isAhead_6 : List UInt8 := dkwX6_isAhead_6 ++ dktX6_isAhead_7
def dkwX6_isAhead_5 : List UInt8 := [154, 0, 11, 42, 45, 182, 1, 149, 167, 0, 19, 21, 5, 4, 160, 0, 12, 42, 45, 182, 1, 135, 116]
abbrev dktX6_isAhead_5 : List UInt8 := dkwX6_isAhead_5 ++ dktX6_isAhead_6
def dkwX6_isAhead_4 : List UInt8 := [21, 5, 21, 6, 159, 0, 16, 21, 5, 21, 6, 162, 0, 7, 4, 167, 0, 4, 3, 172, 21, 5]
abbrev dktX6_isAhead_4 : List UInt8 := dkwX6_isAhead_4 ++ dktX6_isAhead_5
def dkwX6_isAhead_3 : List UInt8 := [4, 160, 0, 7, 4, 167, 0, 16, 25, 4, 180, 1, 33, 154, 0, 7, 5, 167, 0, 4, 6, 54, 6]
abbrev dktX6_isAhead_3 : List UInt8 := dkwX6_isAhead_3 ++ dktX6_isAhead_4
def dkwX6_isAhead_2 : List UInt8 := [167, 0, 4, 6, 54, 5, 25, 4, 180, 1, 33, 5, 160, 0, 7, 3, 167, 0, 29, 25, 4, 180, 1, 33]
abbrev dktX6_isAhead_2 : List UInt8 := dkwX6_isAhead_2 ++ dktX6_isAhead_3
def dkwX6_isAhead_1 : List UInt8 := [167, 0, 27, 45, 180, 1, 33, 4, 160, 0, 7, 4, 167, 0, 15, 45, 180, 1, 33, 154, 0, 7, 5]
abbrev dktX6_isAhead_1 : List UInt8 := dkwX6_isAhead_1 ++ dktX6_isAhead_2
def dkwX6_isAhead_0 : List UInt8 := [42, 180, 0, 34, 27, 50, 78, 42, 180, 0, 34, 28, 50, 58, 4, 45, 180, 1, 33, 5, 160, 0, 7, 3]
abbrev dktX6_isAhead_0 : List UInt8 := dkwX6_isAhead_0 ++ dktX6_isAhead_1
theorem dksX6_isAhead_0 : cX6_isAhead.data.toList.drop 0 = dktX6_isAhead_0 := by decide +kernel
theorem dksX6_isAhead_1 : cX6_isAhead.data.toList.drop 24 = dktX6_isAhead_1 := dk_seg dksX6_isAhead_0 24 rfl rfl
theorem dksX6_isAhead_2 : cX6_isAhead.data.toList.drop 47 = dktX6_isAhead_2 := dk_seg dksX6_isAhead_1 23 rfl rfl
theorem dksX6_isAhead_3 : cX6_isAhead.data.toList.drop 71 = dktX6_isAhead_3 := dk_seg dksX6_isAhead_2 24 rfl rfl
theorem dksX6_isAhead_4 : cX6_isAhead.data.toList.drop 94 = dktX6_isAhead_4 := dk_seg dksX6_isAhead_3 23 rfl rfl
theorem dksX6_isAhead_5 : cX6_isAhead.data.toList.drop 116 = dktX6_isAhead_5 := dk_seg dksX6_isAhead_4 22 rfl rfl
theorem dksX6_isAhead_6 : cX6_isAhead.data.toList.drop 139 = dktX6_isAhead_6 := dk_seg dksX6_isAhead_5 23 rfl rfl
theorem dksX6_isAhead_7 : cX6_isAhead.data.toList.drop 162 = dktX6_isAhead_7 := dk_seg dksX6_isAhead_6 23 rfl rfl
theorem dksX6_isAhead_8 : cX6_isAhead.data.toList.drop 185 = dktX6_isAhead_8 := dk_seg dksX6_isAhead_7 23 rfl rfl
theorem dksX6_isAhead_9 : cX6_isAhead.data.toList.drop 209 = dktX6_isAhead_9 := dk_seg dksX6_isAhead_8 24 rfl rfl
theorem dX6_isAhead_0 : decode cX6_isAhead 0 = .ok (.aload_n 0, 1) := dk_42 (dk_at dksX6_isAhead_0 0 rfl rfl)
theorem dX6_isAhead_1 : decode cX6_isAhead 1 = .ok (.getfield 34, 3) := dk_180 0 34 (dk_at dksX6_isAhead_0 1 rfl rfl)
theorem dX6_isAhead_4 : decode cX6_isAhead 4 = .ok (.iload_n 1, 1) := dk_27 (dk_at dksX6_isAhead_0 4 rfl rfl)
theorem dX6_isAhead_5 : decode cX6_isAhead 5 = .ok (.aaload, 1) := dk_50 (dk_at dksX6_isAhead_0 5 rfl rfl)
theorem dX6_isAhead_6 : decode cX6_isAhead 6 = .ok (.astore_n 3, 1) := dk_78 (dk_at dksX6_isAhead_0 6 rfl rfl)
theorem dX6_isAhead_7 : decode cX6_isAhead 7 = .ok (.aload_n 0, 1) := dk_42 (dk_at dksX6_isAhead_0 7 rfl rfl)
theorem dX6_isAhead_8 : decode cX6_isAhead 8 = .ok (.getfield 34, 3) := dk_180 0 34 (dk_at dksX6_isAhead_0 8 rfl rfl)
theorem dX6_isAhead_11 : decode cX6_isAhead 11 = .ok (.iload_n 2, 1) := dk_28 (dk_at dksX6_isAhead_0 11 rfl rfl)
theorem dX6_isAhead_12 : decode cX6_isAhead 12 = .ok (.aaload, 1) := dk_50 (dk_at dksX6_isAhead_0 12 rfl rfl)
theorem dX6_isAhead_13 : decode cX6_isAhead 13 = .ok (.astore 4, 2) := dk_58 4 (dk_at dksX6_isAhead_0 13 rfl rfl)
theorem dX6_isAhead_15 : decode cX6_isAhead 15 = .ok (.aload_n 3, 1) := dk_45 (dk_at dksX6_isAhead_0 15 rfl rfl)
theorem dX6_isAhead_16 : decode cX6_isAhead 16 = .ok (.getfield 289, 3) := dk_180 1 33 (dk_at dksX6_isAhead_0 16 rfl rfl)
theorem dX6_isAhead_19 : decode cX6_isAhead 19 = .ok (.iconst 2, 1) := dk_5 (dk_at dksX6_isAhead_0 19 rfl rfl)
theorem dX6_isAhead_20 : decode cX6_isAhead 20 = .ok (.if_icmp .ne 7, 3) := dk_160 0 7 (dk_at dksX6_isAhead_0 20 rfl rfl)
theorem dX6_isAhead_23 : decode cX6_isAhead 23 = .ok (.iconst 0, 1) := dk_3 (dk_at dksX6_isAhead_0 23 rfl rfl)
theorem dX6_isAhead_24 : decode cX6_isAhead 24 = .ok (.goto 27, 3) := dk_167 0 27 (dk_at dksX6_isAhead_1 0 rfl rfl)
theorem dX6_isAhead_27 : decode cX6_isAhead 27 = .ok (.aload_n 3, 1) := dk_45 (dk_at dksX6_isAhead_1 3 rfl rfl)
theorem dX6_isAhead_28 : decode cX6_isAhead 28 = .ok (.getfield 289, 3) := dk_180 1 33 (dk_at dksX6_isAhead_1 4 rfl rfl)
theorem dX6_isAhead_31 : decode cX6_isAhead 31 = .ok (.iconst 1, 1) := dk_4 (dk_at dksX6_isAhead_1 7 rfl rfl)
theorem dX6_isAhead_32 : decode cX6_isAhead 32 = .ok (.if_icmp .ne 7, 3) := dk_160 0 7 (dk_at dksX6_isAhead_1 8 rfl rfl)
theorem dX6_isAhead_35 : decode cX6_isAhead 35 = .ok (.iconst 1, 1) := dk_4 (dk_at dksX6_isAhead_1 11 rfl rfl)
theorem dX6_isAhead_36 : decode cX6_isAhead 36 = .ok (.goto 15, 3) := dk_167 0 15 (dk_at dksX6_isAhead_1 12 rfl rfl)
theorem dX6_isAhead_39 : decode cX6_isAhead 39 = .ok (.aload_n 3, 1) := dk_45 (dk_at dksX6_isAhead_1 15 rfl rfl)
theorem dX6_isAhead_40 : decode cX6_isAhead 40 = .ok (.getfield 289, 3) := dk_180 1 33 (dk_at dksX6_isAhead_1 16 rfl rfl)
theorem dX6_isAhead_43 : decode cX6_isAhead 43 = .ok (.ifCond .ne 7, 3) := dk_154 0 7 (dk_at dksX6_isAhead_1 19 rfl rfl)
theorem dX6_isAhead_46 : decode cX6_isAhead 46 = .ok (.iconst 2, 1) := dk_5 (dk_at dksX6_isAhead_1 22 rfl rfl)
theorem dX6_isAhead_47 : decode cX6_isAhead 47 = .ok (.goto 4, 3) := dk_167 0 4 (dk_at dksX6_isAhead_2 0 rfl rfl)
theorem dX6_isAhead_50 : decode cX6_isAhead 50 = .ok (.iconst 3, 1) := dk_6 (dk_at dksX6_isAhead_2 3 rfl rfl)
theorem dX6_isAhead_51 : decode cX6_isAhead 51 = .ok (.istore 5, 2) := dk_54 5 (dk_at dksX6_isAhead_2 4 rfl rfl)
theorem dX6_isAhead_53 : decode cX6_isAhead 53 = .ok (.aload 4, 2) := dk_25 4 (dk_at dksX6_isAhead_2 6 rfl rfl)
theorem dX6_isAhead_55 : decode cX6_isAhead 55 = .ok (.getfield 289, 3) := dk_180 1 33 (dk_at dksX6_isAhead_2 8 rfl rfl)
theorem dX6_isAhead_58 : decode cX6_isAhead 58 = .ok (.iconst 2, 1) := dk_5 (dk_at dksX6_isAhead_2 11 rfl rfl)
theorem dX6_isAhead_59 : decode cX6_isAhead 59 = .ok (.if_icmp .ne 7, 3) := dk_160 0 7 (dk_at dksX6_isAhead_2 12 rfl rfl)
theorem dX6_isAhead_62 : decode cX6_isAhead 62 = .ok (.iconst 0, 1) := dk_3 (dk_at dksX6_isAhead_2 15 rfl rfl)
theorem dX6_isAhead_63 : decode cX6_isAhead 63 = .ok (.goto 29, 3) := dk_167 0 29 (dk_at dksX6_isAhead_2 16 rfl rfl)
theorem dX6_isAhead_66 : decode cX6_isAhead 66 = .ok (.aload 4, 2) := dk_25 4 (dk_at dksX6_isAhead_2 19 rfl rfl)
theorem dX6_isAhead_68 : decode cX6_isAhead 68 = .ok (.getfield 289, 3) := dk_180 1 33 (dk_at dksX6_isAhead_2 21 rfl rfl)
theorem dX6_isAhead_71 : decode cX6_isAhead 71 = .ok (.iconst 1, 1) := dk_4 (dk_at dksX6_isAhead_3 0 rfl rfl)
theorem dX6_isAhead_72 : decode cX6_isAhead 72 = .ok (.if_icmp .ne 7, 3) := dk_160 0 7 (dk_at dksX6_isAhead_3 1 rfl rfl)
theorem dX6_isAhead_75 : decode cX6_isAhead 75 = .ok (.iconst 1, 1) := dk_4 (dk_at dksX6_isAhead_3 4 rfl rfl)
theorem dX6_isAhead_76 : decode cX6_isAhead 76 = .ok (.goto 16, 3) := dk_167 0 16 (dk_at dksX6_isAhead_3 5 rfl rfl)
theorem dX6_isAhead_79 : decode cX6_isAhead 79 = .ok (.aload 4, 2) := dk_25 4 (dk_at dksX6_isAhead_3 8 rfl rfl)
theorem dX6_isAhead_81 : decode cX6_isAhead 81 = .ok (.getfield 289, 3) := dk_180 1 33 (dk_at dksX6_isAhead_3 10 rfl rfl)
theorem dX6_isAhead_84 : decode cX6_isAhead 84 = .ok (.ifCond .ne 7, 3) := dk_154 0 7 (dk_at dksX6_isAhead_3 13 rfl rfl)
theorem dX6_isAhead_87 : decode cX6_isAhead 87 = .ok (.iconst 2, 1) := dk_5 (dk_at dksX6_isAhead_3 16 rfl rfl)
theorem dX6_isAhead_88 : decode cX6_isAhead 88 = .ok (.goto 4, 3) := dk_167 0 4 (dk_at dksX6_isAhead_3 17 rfl rfl)
theorem dX6_isAhead_91 : decode cX6_isAhead 91 = .ok (.iconst 3, 1) := dk_6 (dk_at dksX6_isAhead_3 20 rfl rfl)
theorem dX6_isAhead_92 : decode cX6_isAhead 92 = .ok (.istore 6, 2) := dk_54 6 (dk_at dksX6_isAhead_3 21 rfl rfl)
theorem dX6_isAhead_94 : decode cX6_isAhead 94 = .ok (.iload 5, 2) := dk_21 5 (dk_at dksX6_isAhead_4 0 rfl rfl)
theorem dX6_isAhead_96 : decode cX6_isAhead 96 = .ok (.iload 6, 2) := dk_21 6 (dk_at dksX6_isAhead_4 2 rfl rfl)
theorem dX6_isAhead_98 : decode cX6_isAhead 98 = .ok (.if_icmp .eq 16, 3) := dk_159 0 16 (dk_at dksX6_isAhead_4 4 rfl rfl)
theorem dX6_isAhead_101 : decode cX6_isAhead 101 = .ok (.iload 5, 2) := dk_21 5 (dk_at dksX6_isAhead_4 7 rfl rfl)
theorem dX6_isAhead_103 : decode cX6_isAhead 103 = .ok (.iload 6, 2) := dk_21 6 (dk_at dksX6_isAhead_4 9 rfl rfl)
theorem dX6_isAhead_105 : decode cX6_isAhead 105 = .ok (.if_icmp .ge 7, 3) := dk_162 0 7 (dk_at dksX6_isAhead_4 11 rfl rfl)
theorem dX6_isAhead_108 : decode cX6_isAhead 108 = .ok (.iconst 1, 1) := dk_4 (dk_at dksX6_isAhead_4 14 rfl rfl)
theorem dX6_isAhead_109 : decode cX6_isAhead 109 = .ok (.goto 4, 3) := dk_167 0 4 (dk_at dksX6_isAhead_4 15 rfl rfl)
theorem dX6_isAhead_112 : decode cX6_isAhead 112 = .ok (.iconst 0, 1) := dk_3 (dk_at dksX6_isAhead_4 18 rfl rfl)
theorem dX6_isAhead_113 : decode cX6_isAhead 113 = .ok (.ireturn, 1) := dk_172 (dk_at dksX6_isAhead_4 19 rfl rfl)
theorem dX6_isAhead_114 : decode cX6_isAhead 114 = .ok (.iload 5, 2) := dk_21 5 (dk_at dksX6_isAhead_4 20 rfl rfl)
theorem dX6_isAhead_116 : decode cX6_isAhead 116 = .ok (.ifCond .ne 11, 3) := dk_154 0 11 (dk_at dksX6_isAhead_5 0 rfl rfl)
theorem dX6_isAhead_119 : decode cX6_isAhead 119 = .ok (.aload_n 0, 1) := dk_42 (dk_at dksX6_isAhead_5 3 rfl rfl)
theorem dX6_isAhead_120 : decode cX6_isAhead 120 = .ok (.aload_n 3, 1) := dk_45 (dk_at dksX6_isAhead_5 4 rfl rfl)
theorem dX6_isAhead_121 : decode cX6_isAhead 121 = .ok (.invokevirtual 405, 3) := dk_182 1 149 (dk_at dksX6_isAhead_5 5 rfl rfl)
theorem dX6_isAhead_124 : decode cX6_isAhead 124 = .ok (.goto 19, 3) := dk_167 0 19 (dk_at dksX6_isAhead_5 8 rfl rfl)
theorem dX6_isAhead_127 : decode cX6_isAhead 127 = .ok (.iload 5, 2) := dk_21 5 (dk_at dksX6_isAhead_5 11 rfl rfl)
theorem dX6_isAhead_129 : decode cX6_isAhead 129 = .ok (.iconst 1, 1) := dk_4 (dk_at dksX6_isAhead_5 13 rfl rfl)
theorem dX6_isAhead_130 : decode cX6_isAhead 130 = .ok (.if_icmp .ne 12, 3) := dk_160 0 12 (dk_at dksX6_isAhead_5 14 rfl rfl)
theorem dX6_isAhead_133 : decode cX6_isAhead 133 = .ok (.aload_n 0, 1) := dk_42 (dk_at dksX6_isAhead_5 17 rfl rfl)
theorem dX6_isAhead_134 : decode cX6_isAhead 134 = .ok (.aload_n 3, 1) := dk_45 (dk_at dksX6_isAhead_5 18 rfl rfl)
theorem dX6_isAhead_135 : decode cX6_isAhead 135 = .ok (.invokevirtual 391, 3) := dk_182 1 135 (dk_at dksX6_isAhead_5 19 rfl rfl)
theorem dX6_isAhead_138 : decode cX6_isAhead 138 = .ok (.ineg, 1) := dk_116 (dk_at dksX6_isAhead_5 22 rfl rfl)
theorem dX6_isAhead_139 : decode cX6_isAhead 139 = .ok (.goto 4, 3) := dk_167 0 4 (dk_at dksX6_isAhead_6 0 rfl rfl)
theorem dX6_isAhead_142 : decode cX6_isAhead 142 = .ok (.iconst 0, 1) := dk_3 (dk_at dksX6_isAhead_6 3 rfl rfl)
theorem dX6_isAhead_143 : decode cX6_isAhead 143 = .ok (.istore 7, 2) := dk_54 7 (dk_at dksX6_isAhead_6 4 rfl rfl)
theorem dX6_isAhead_145 : decode cX6_isAhead 145 = .ok (.iload 5, 2) := dk_21 5 (dk_at dksX6_isAhead_6 6 rfl rfl)
theorem dX6_isAhead_147 : decode cX6_isAhead 147 = .ok (.ifCond .ne 12, 3) := dk_154 0 12 (dk_at dksX6_isAhead_6 8 rfl rfl)
theorem dX6_isAhead_150 : decode cX6_isAhead 150 = .ok (.aload_n 0, 1) := dk_42 (dk_at dksX6_isAhead_6 11 rfl rfl)
theorem dX6_isAhead_151 : decode cX6_isAhead 151 = .ok (.aload 4, 2) := dk_25 4 (dk_at dksX6_isAhead_6 12 rfl rfl)
theorem dX6_isAhead_153 : decode cX6_isAhead 153 = .ok (.invokevirtual 405, 3) := dk_182 1 149 (dk_at dksX6_isAhead_6 14 rfl rfl)
theorem dX6_isAhead_156 : decode cX6_isAhead 156 = .ok (.goto 20, 3) := dk_167 0 20 (dk_at dksX6_isAhead_6 17 rfl rfl)
theorem dX6_isAhead_159 : decode cX6_isAhead 159 = .ok (.iload 5, 2) := dk_21 5 (dk_at dksX6_isAhead_6 20 rfl rfl)
theorem dX6_isAhead_161 : decode cX6_isAhead 161 = .ok (.iconst 1, 1) := dk_4 (dk_at dksX6_isAhead_6 22 rfl rfl)
theorem dX6_isAhead_162 : decode cX6_isAhead 162 = .ok (.if_icmp .ne 13, 3) := dk_160 0 13 (dk_at dksX6_isAhead_7 0 rfl rfl)
theorem dX6_isAhead_165 : decode cX6_isAhead 165 = .ok (.aload_n 0, 1) := dk_42 (dk_at dksX6_isAhead_7 3 rfl rfl)
theorem dX6_isAhead_166 : decode cX6_isAhead 166 = .ok (.aload 4, 2) := dk_25 4 (dk_at dksX6_isAhead_7 4 rfl rfl)
theorem dX6_isAhead_168 : decode cX6_isAhead 168 = .ok (.invokevirtual 391, 3) := dk_182 1 135 (dk_at dksX6_isAhead_7 6 rfl rfl)
theorem dX6_isAhead_171 : decode cX6_isAhead 171 = .ok (.ineg, 1) := dk_116 (dk_at dksX6_isAhead_7 9 rfl rfl)
theorem dX6_isAhead_172 : decode cX6_isAhead 172 = .ok (.goto 4, 3) := dk_167 0 4 (dk_at dksX6_isAhead_7 10 rfl rfl)
theorem dX6_isAhead_175 : decode cX6_isAhead 175 = .ok (.iconst 0, 1) := dk_3 (dk_at dksX6_isAhead_7 13 rfl rfl)
theorem dX6_isAhead_176 : decode cX6_isAhead 176 = .ok (.istore 8, 2) := dk_54 8 (dk_at dksX6_isAhead_7 14 rfl rfl)
theorem dX6_isAhead_178 : decode cX6_isAhead 178 = .ok (.iload 7, 2) := dk_21 7 (dk_at dksX6_isAhead_7 16 rfl rfl)
theorem dX6_isAhead_180 : decode cX6_isAhead 180 = .ok (.iload 8, 2) := dk_21 8 (dk_at dksX6_isAhead_7 18 rfl rfl)
theorem dX6_isAhead_182 : decode cX6_isAhead 182 = .ok (.if_icmp .eq 18, 3) := dk_159 0 18 (dk_at dksX6_isAhead_7 20 rfl rfl)
theorem dX6_isAhead_185 : decode cX6_isAhead 185 = .ok (.iload 7, 2) := dk_21 7 (dk_at dksX6_isAhead_8 0 rfl rfl)
theorem dX6_isAhead_187 : decode cX6_isAhead 187 = .ok (.iload 8, 2) := dk_21 8 (dk_at dksX6_isAhead_8 2 rfl rfl)
theorem dX6_isAhead_189 : decode cX6_isAhead 189 = .ok (.if_icmp .ge 7, 3) := dk_162 0 7 (dk_at dksX6_isAhead_8 4 rfl rfl)
theorem dX6_isAhead_192 : decode cX6_isAhead 192 = .ok (.iconst 1, 1) := dk_4 (dk_at dksX6_isAhead_8 7 rfl rfl)
theorem dX6_isAhead_193 : decode cX6_isAhead 193 = .ok (.goto 17, 3) := dk_167 0 17 (dk_at dksX6_isAhead_8 8 rfl rfl)
theorem dX6_isAhead_196 : decode cX6_isAhead 196 = .ok (.iconst 0, 1) := dk_3 (dk_at dksX6_isAhead_8 11 rfl rfl)
theorem dX6_isAhead_197 : decode cX6_isAhead 197 = .ok (.goto 13, 3) := dk_167 0 13 (dk_at dksX6_isAhead_8 12 rfl rfl)
theorem dX6_isAhead_200 : decode cX6_isAhead 200 = .ok (.iload_n 1, 1) := dk_27 (dk_at dksX6_isAhead_8 15 rfl rfl)
theorem dX6_isAhead_201 : decode cX6_isAhead 201 = .ok (.iload_n 2, 1) := dk_28 (dk_at dksX6_isAhead_8 16 rfl rfl)
theorem dX6_isAhead_202 : decode cX6_isAhead 202 = .ok (.if_icmp .ge 7, 3) := dk_162 0 7 (dk_at dksX6_isAhead_8 17 rfl rfl)
theorem dX6_isAhead_205 : decode cX6_isAhead 205 = .ok (.iconst 1, 1) := dk_4 (dk_at dksX6_isAhead_8 20 rfl rfl)
theorem dX6_isAhead_206 : decode cX6_isAhead 206 = .ok (.goto 4, 3) := dk_167 0 4 (dk_at dksX6_isAhead_8 21 rfl rfl)
theorem dX6_isAhead_209 : decode cX6_isAhead 209 = .ok (.iconst 0, 1) := dk_3 (dk_at dksX6_isAhead_9 0 rfl rfl)
theorem dX6_isAhead_210 : decode cX6_isAhead 210 = .ok (.ireturn, 1) := dk_172 (dk_at dksX6_isAhead_9 1 rfl rfl)
abbrev cX6_came : ByteArray := prog_16_method_61_code
def yX6_came : MethodName := ⟨RX6, "came", "(II)I"⟩
def dkwX6_came_3 : List UInt8 := [96, 62, 132, 4, 1, 167, 255, 204, 29, 172]
abbrev dktX6_came_3 : List UInt8 := dkwX6_came_3 ++ []
def dkwX6_came_2 : List UInt8 := [159, 0, 23, 42, 180, 0, 34, 21, 4, 50, 180, 1, 79, 27, 46, 28, 163, 0, 7, 4, 167, 0, 4, 3]
abbrev dktX6_came_2 : List UInt8 := dkwX6_came_2 ++ dktX6_came_3
def dkwX6_came_1 : List UInt8 := [21, 4, 42, 180, 0, 94, 162, 0, 49, 29, 42, 180, 0, 34, 21, 4, 50, 180, 1, 79, 27, 46, 2]
abbrev dktX6_came_1 : List UInt8 := dkwX6_came_1 ++ dktX6_came_2
def dkwX6_came_0 : List UInt8 := [42, 3, 181, 0, 1, 27, 155, 0, 11, 27, 42, 180, 0, 91, 164, 0, 5, 2, 172, 3, 62, 3, 54, 4]
abbrev dktX6_came_0 : List UInt8 := dkwX6_came_0 ++ dktX6_came_1
theorem dksX6_came_0 : cX6_came.data.toList.drop 0 = dktX6_came_0 := by decide +kernel
theorem dksX6_came_1 : cX6_came.data.toList.drop 24 = dktX6_came_1 := dk_seg dksX6_came_0 24 rfl rfl
theorem dksX6_came_2 : cX6_came.data.toList.drop 47 = dktX6_came_2 := dk_seg dksX6_came_1 23 rfl rfl
theorem dksX6_came_3 : cX6_came.data.toList.drop 71 = dktX6_came_3 := dk_seg dksX6_came_2 24 rfl rfl
theorem dX6_came_0 : decode cX6_came 0 = .ok (.aload_n 0, 1) := dk_42 (dk_at dksX6_came_0 0 rfl rfl)
theorem dX6_came_1 : decode cX6_came 1 = .ok (.iconst 0, 1) := dk_3 (dk_at dksX6_came_0 1 rfl rfl)
theorem dX6_came_2 : decode cX6_came 2 = .ok (.putfield 1, 3) := dk_181 0 1 (dk_at dksX6_came_0 2 rfl rfl)
theorem dX6_came_5 : decode cX6_came 5 = .ok (.iload_n 1, 1) := dk_27 (dk_at dksX6_came_0 5 rfl rfl)
theorem dX6_came_6 : decode cX6_came 6 = .ok (.ifCond .lt 11, 3) := dk_155 0 11 (dk_at dksX6_came_0 6 rfl rfl)
theorem dX6_came_9 : decode cX6_came 9 = .ok (.iload_n 1, 1) := dk_27 (dk_at dksX6_came_0 9 rfl rfl)
theorem dX6_came_10 : decode cX6_came 10 = .ok (.aload_n 0, 1) := dk_42 (dk_at dksX6_came_0 10 rfl rfl)
theorem dX6_came_11 : decode cX6_came 11 = .ok (.getfield 91, 3) := dk_180 0 91 (dk_at dksX6_came_0 11 rfl rfl)
theorem dX6_came_14 : decode cX6_came 14 = .ok (.if_icmp .le 5, 3) := dk_164 0 5 (dk_at dksX6_came_0 14 rfl rfl)
theorem dX6_came_17 : decode cX6_came 17 = .ok (.iconst (-1), 1) := dk_2 (dk_at dksX6_came_0 17 rfl rfl)
theorem dX6_came_18 : decode cX6_came 18 = .ok (.ireturn, 1) := dk_172 (dk_at dksX6_came_0 18 rfl rfl)
theorem dX6_came_19 : decode cX6_came 19 = .ok (.iconst 0, 1) := dk_3 (dk_at dksX6_came_0 19 rfl rfl)
theorem dX6_came_20 : decode cX6_came 20 = .ok (.istore_n 3, 1) := dk_62 (dk_at dksX6_came_0 20 rfl rfl)
theorem dX6_came_21 : decode cX6_came 21 = .ok (.iconst 0, 1) := dk_3 (dk_at dksX6_came_0 21 rfl rfl)
theorem dX6_came_22 : decode cX6_came 22 = .ok (.istore 4, 2) := dk_54 4 (dk_at dksX6_came_0 22 rfl rfl)
theorem dX6_came_24 : decode cX6_came 24 = .ok (.iload 4, 2) := dk_21 4 (dk_at dksX6_came_1 0 rfl rfl)
theorem dX6_came_26 : decode cX6_came 26 = .ok (.aload_n 0, 1) := dk_42 (dk_at dksX6_came_1 2 rfl rfl)
theorem dX6_came_27 : decode cX6_came 27 = .ok (.getfield 94, 3) := dk_180 0 94 (dk_at dksX6_came_1 3 rfl rfl)
theorem dX6_came_30 : decode cX6_came 30 = .ok (.if_icmp .ge 49, 3) := dk_162 0 49 (dk_at dksX6_came_1 6 rfl rfl)
theorem dX6_came_33 : decode cX6_came 33 = .ok (.iload_n 3, 1) := dk_29 (dk_at dksX6_came_1 9 rfl rfl)
theorem dX6_came_34 : decode cX6_came 34 = .ok (.aload_n 0, 1) := dk_42 (dk_at dksX6_came_1 10 rfl rfl)
theorem dX6_came_35 : decode cX6_came 35 = .ok (.getfield 34, 3) := dk_180 0 34 (dk_at dksX6_came_1 11 rfl rfl)
theorem dX6_came_38 : decode cX6_came 38 = .ok (.iload 4, 2) := dk_21 4 (dk_at dksX6_came_1 14 rfl rfl)
theorem dX6_came_40 : decode cX6_came 40 = .ok (.aaload, 1) := dk_50 (dk_at dksX6_came_1 16 rfl rfl)
theorem dX6_came_41 : decode cX6_came 41 = .ok (.getfield 335, 3) := dk_180 1 79 (dk_at dksX6_came_1 17 rfl rfl)
theorem dX6_came_44 : decode cX6_came 44 = .ok (.iload_n 1, 1) := dk_27 (dk_at dksX6_came_1 20 rfl rfl)
theorem dX6_came_45 : decode cX6_came 45 = .ok (.iaload, 1) := dk_46 (dk_at dksX6_came_1 21 rfl rfl)
theorem dX6_came_46 : decode cX6_came 46 = .ok (.iconst (-1), 1) := dk_2 (dk_at dksX6_came_1 22 rfl rfl)
theorem dX6_came_47 : decode cX6_came 47 = .ok (.if_icmp .eq 23, 3) := dk_159 0 23 (dk_at dksX6_came_2 0 rfl rfl)
theorem dX6_came_50 : decode cX6_came 50 = .ok (.aload_n 0, 1) := dk_42 (dk_at dksX6_came_2 3 rfl rfl)
theorem dX6_came_51 : decode cX6_came 51 = .ok (.getfield 34, 3) := dk_180 0 34 (dk_at dksX6_came_2 4 rfl rfl)
theorem dX6_came_54 : decode cX6_came 54 = .ok (.iload 4, 2) := dk_21 4 (dk_at dksX6_came_2 7 rfl rfl)
theorem dX6_came_56 : decode cX6_came 56 = .ok (.aaload, 1) := dk_50 (dk_at dksX6_came_2 9 rfl rfl)
theorem dX6_came_57 : decode cX6_came 57 = .ok (.getfield 335, 3) := dk_180 1 79 (dk_at dksX6_came_2 10 rfl rfl)
theorem dX6_came_60 : decode cX6_came 60 = .ok (.iload_n 1, 1) := dk_27 (dk_at dksX6_came_2 13 rfl rfl)
theorem dX6_came_61 : decode cX6_came 61 = .ok (.iaload, 1) := dk_46 (dk_at dksX6_came_2 14 rfl rfl)
theorem dX6_came_62 : decode cX6_came 62 = .ok (.iload_n 2, 1) := dk_28 (dk_at dksX6_came_2 15 rfl rfl)
theorem dX6_came_63 : decode cX6_came 63 = .ok (.if_icmp .gt 7, 3) := dk_163 0 7 (dk_at dksX6_came_2 16 rfl rfl)
theorem dX6_came_66 : decode cX6_came 66 = .ok (.iconst 1, 1) := dk_4 (dk_at dksX6_came_2 19 rfl rfl)
theorem dX6_came_67 : decode cX6_came 67 = .ok (.goto 4, 3) := dk_167 0 4 (dk_at dksX6_came_2 20 rfl rfl)
theorem dX6_came_70 : decode cX6_came 70 = .ok (.iconst 0, 1) := dk_3 (dk_at dksX6_came_2 23 rfl rfl)
theorem dX6_came_71 : decode cX6_came 71 = .ok (.iadd, 1) := dk_96 (dk_at dksX6_came_3 0 rfl rfl)
theorem dX6_came_72 : decode cX6_came 72 = .ok (.istore_n 3, 1) := dk_62 (dk_at dksX6_came_3 1 rfl rfl)
theorem dX6_came_73 : decode cX6_came 73 = .ok (.iinc 4 1, 3) := dk_132 4 1 (dk_at dksX6_came_3 2 rfl rfl)
theorem dX6_came_76 : decode cX6_came 76 = .ok (.goto (-52), 3) := dk_167 255 204 (dk_at dksX6_came_3 5 rfl rfl)
theorem dX6_came_79 : decode cX6_came 79 = .ok (.iload_n 3, 1) := dk_29 (dk_at dksX6_came_3 8 rfl rfl)
theorem dX6_came_80 : decode cX6_came 80 = .ok (.ireturn, 1) := dk_172 (dk_at dksX6_came_3 9 rfl rfl)
abbrev cX6_spot : ByteArray := prog_16_method_62_code
def yX6_spot : MethodName := ⟨RX6, "spot", "(IIZ)I"⟩
def dkwX6_spot_9 : List UInt8 := [153, 0, 8, 21, 7, 167, 0, 5, 21, 6, 172]
abbrev dktX6_spot_9 : List UInt8 := dkwX6_spot_9 ++ []
def dkwX6_spot_8 : List UInt8 := [162, 0, 14, 25, 4, 180, 1, 132, 21, 5, 46, 167, 0, 7, 42, 182, 1, 156, 184, 1, 142, 54, 7, 29]
abbrev dktX6_spot_8 : List UInt8 := dkwX6_spot_8 ++ dktX6_spot_9
def dkwX6_spot_7 : List UInt8 := [180, 1, 126, 21, 5, 46, 28, 100, 104, 100, 184, 1, 107, 54, 6, 21, 7, 21, 5, 25, 4, 180, 1, 129]
abbrev dktX6_spot_7 : List UInt8 := dkwX6_spot_7 ++ dktX6_spot_8
def dkwX6_spot_6 : List UInt8 := [21, 5, 25, 4, 180, 1, 129, 162, 0, 32, 21, 6, 25, 4, 180, 1, 132, 21, 5, 46, 16, 60, 25, 4]
abbrev dktX6_spot_6 : List UInt8 := dkwX6_spot_6 ++ dktX6_spot_7
def dkwX6_spot_5 : List UInt8 := [180, 1, 77, 162, 0, 7, 3, 167, 0, 15, 16, 60, 28, 25, 4, 180, 1, 77, 100, 4, 96, 104, 54, 7]
abbrev dktX6_spot_5 : List UInt8 := dkwX6_spot_5 ++ dktX6_spot_6
def dkwX6_spot_4 : List UInt8 := [21, 6, 16, 60, 28, 25, 4, 180, 1, 126, 21, 5, 4, 100, 46, 100, 104, 96, 167, 0, 28, 28, 25, 4]
abbrev dktX6_spot_4 : List UInt8 := dkwX6_spot_4 ++ dktX6_spot_5
def dkwX6_spot_3 : List UInt8 := [158, 0, 16, 25, 4, 180, 1, 132, 21, 5, 4, 100, 46, 167, 0, 4, 3, 54, 6, 21, 5, 158, 0, 24]
abbrev dktX6_spot_3 : List UInt8 := dkwX6_spot_3 ++ dktX6_spot_4
def dkwX6_spot_2 : List UInt8 := [162, 0, 21, 25, 4, 180, 1, 126, 21, 5, 46, 28, 163, 0, 9, 132, 5, 1, 167, 255, 231, 21, 5]
abbrev dktX6_spot_2 : List UInt8 := dkwX6_spot_2 ++ dktX6_spot_3
def dkwX6_spot_1 : List UInt8 := [161, 0, 5, 2, 172, 42, 180, 0, 34, 27, 50, 58, 4, 3, 54, 5, 21, 5, 25, 4, 180, 1, 129]
abbrev dktX6_spot_1 : List UInt8 := dkwX6_spot_1 ++ dktX6_spot_2
def dkwX6_spot_0 : List UInt8 := [42, 3, 181, 0, 1, 42, 27, 182, 1, 30, 153, 0, 15, 28, 155, 0, 11, 28, 42, 180, 0, 100]
abbrev dktX6_spot_0 : List UInt8 := dkwX6_spot_0 ++ dktX6_spot_1
theorem dksX6_spot_0 : cX6_spot.data.toList.drop 0 = dktX6_spot_0 := by decide +kernel
theorem dksX6_spot_1 : cX6_spot.data.toList.drop 22 = dktX6_spot_1 := dk_seg dksX6_spot_0 22 rfl rfl
theorem dksX6_spot_2 : cX6_spot.data.toList.drop 45 = dktX6_spot_2 := dk_seg dksX6_spot_1 23 rfl rfl
theorem dksX6_spot_3 : cX6_spot.data.toList.drop 68 = dktX6_spot_3 := dk_seg dksX6_spot_2 23 rfl rfl
theorem dksX6_spot_4 : cX6_spot.data.toList.drop 92 = dktX6_spot_4 := dk_seg dksX6_spot_3 24 rfl rfl
theorem dksX6_spot_5 : cX6_spot.data.toList.drop 116 = dktX6_spot_5 := dk_seg dksX6_spot_4 24 rfl rfl
theorem dksX6_spot_6 : cX6_spot.data.toList.drop 140 = dktX6_spot_6 := dk_seg dksX6_spot_5 24 rfl rfl
theorem dksX6_spot_7 : cX6_spot.data.toList.drop 164 = dktX6_spot_7 := dk_seg dksX6_spot_6 24 rfl rfl
theorem dksX6_spot_8 : cX6_spot.data.toList.drop 188 = dktX6_spot_8 := dk_seg dksX6_spot_7 24 rfl rfl
theorem dksX6_spot_9 : cX6_spot.data.toList.drop 212 = dktX6_spot_9 := dk_seg dksX6_spot_8 24 rfl rfl
theorem dX6_spot_0 : decode cX6_spot 0 = .ok (.aload_n 0, 1) := dk_42 (dk_at dksX6_spot_0 0 rfl rfl)
theorem dX6_spot_1 : decode cX6_spot 1 = .ok (.iconst 0, 1) := dk_3 (dk_at dksX6_spot_0 1 rfl rfl)
theorem dX6_spot_2 : decode cX6_spot 2 = .ok (.putfield 1, 3) := dk_181 0 1 (dk_at dksX6_spot_0 2 rfl rfl)
theorem dX6_spot_5 : decode cX6_spot 5 = .ok (.aload_n 0, 1) := dk_42 (dk_at dksX6_spot_0 5 rfl rfl)
theorem dX6_spot_6 : decode cX6_spot 6 = .ok (.iload_n 1, 1) := dk_27 (dk_at dksX6_spot_0 6 rfl rfl)
theorem dX6_spot_7 : decode cX6_spot 7 = .ok (.invokevirtual 286, 3) := dk_182 1 30 (dk_at dksX6_spot_0 7 rfl rfl)
theorem dX6_spot_10 : decode cX6_spot 10 = .ok (.ifCond .eq 15, 3) := dk_153 0 15 (dk_at dksX6_spot_0 10 rfl rfl)
theorem dX6_spot_13 : decode cX6_spot 13 = .ok (.iload_n 2, 1) := dk_28 (dk_at dksX6_spot_0 13 rfl rfl)
theorem dX6_spot_14 : decode cX6_spot 14 = .ok (.ifCond .lt 11, 3) := dk_155 0 11 (dk_at dksX6_spot_0 14 rfl rfl)
theorem dX6_spot_17 : decode cX6_spot 17 = .ok (.iload_n 2, 1) := dk_28 (dk_at dksX6_spot_0 17 rfl rfl)
theorem dX6_spot_18 : decode cX6_spot 18 = .ok (.aload_n 0, 1) := dk_42 (dk_at dksX6_spot_0 18 rfl rfl)
theorem dX6_spot_19 : decode cX6_spot 19 = .ok (.getfield 100, 3) := dk_180 0 100 (dk_at dksX6_spot_0 19 rfl rfl)
theorem dX6_spot_22 : decode cX6_spot 22 = .ok (.if_icmp .lt 5, 3) := dk_161 0 5 (dk_at dksX6_spot_1 0 rfl rfl)
theorem dX6_spot_25 : decode cX6_spot 25 = .ok (.iconst (-1), 1) := dk_2 (dk_at dksX6_spot_1 3 rfl rfl)
theorem dX6_spot_26 : decode cX6_spot 26 = .ok (.ireturn, 1) := dk_172 (dk_at dksX6_spot_1 4 rfl rfl)
theorem dX6_spot_27 : decode cX6_spot 27 = .ok (.aload_n 0, 1) := dk_42 (dk_at dksX6_spot_1 5 rfl rfl)
theorem dX6_spot_28 : decode cX6_spot 28 = .ok (.getfield 34, 3) := dk_180 0 34 (dk_at dksX6_spot_1 6 rfl rfl)
theorem dX6_spot_31 : decode cX6_spot 31 = .ok (.iload_n 1, 1) := dk_27 (dk_at dksX6_spot_1 9 rfl rfl)
theorem dX6_spot_32 : decode cX6_spot 32 = .ok (.aaload, 1) := dk_50 (dk_at dksX6_spot_1 10 rfl rfl)
theorem dX6_spot_33 : decode cX6_spot 33 = .ok (.astore 4, 2) := dk_58 4 (dk_at dksX6_spot_1 11 rfl rfl)
theorem dX6_spot_35 : decode cX6_spot 35 = .ok (.iconst 0, 1) := dk_3 (dk_at dksX6_spot_1 13 rfl rfl)
theorem dX6_spot_36 : decode cX6_spot 36 = .ok (.istore 5, 2) := dk_54 5 (dk_at dksX6_spot_1 14 rfl rfl)
theorem dX6_spot_38 : decode cX6_spot 38 = .ok (.iload 5, 2) := dk_21 5 (dk_at dksX6_spot_1 16 rfl rfl)
theorem dX6_spot_40 : decode cX6_spot 40 = .ok (.aload 4, 2) := dk_25 4 (dk_at dksX6_spot_1 18 rfl rfl)
theorem dX6_spot_42 : decode cX6_spot 42 = .ok (.getfield 385, 3) := dk_180 1 129 (dk_at dksX6_spot_1 20 rfl rfl)
theorem dX6_spot_45 : decode cX6_spot 45 = .ok (.if_icmp .ge 21, 3) := dk_162 0 21 (dk_at dksX6_spot_2 0 rfl rfl)
theorem dX6_spot_48 : decode cX6_spot 48 = .ok (.aload 4, 2) := dk_25 4 (dk_at dksX6_spot_2 3 rfl rfl)
theorem dX6_spot_50 : decode cX6_spot 50 = .ok (.getfield 382, 3) := dk_180 1 126 (dk_at dksX6_spot_2 5 rfl rfl)
theorem dX6_spot_53 : decode cX6_spot 53 = .ok (.iload 5, 2) := dk_21 5 (dk_at dksX6_spot_2 8 rfl rfl)
theorem dX6_spot_55 : decode cX6_spot 55 = .ok (.iaload, 1) := dk_46 (dk_at dksX6_spot_2 10 rfl rfl)
theorem dX6_spot_56 : decode cX6_spot 56 = .ok (.iload_n 2, 1) := dk_28 (dk_at dksX6_spot_2 11 rfl rfl)
theorem dX6_spot_57 : decode cX6_spot 57 = .ok (.if_icmp .gt 9, 3) := dk_163 0 9 (dk_at dksX6_spot_2 12 rfl rfl)
theorem dX6_spot_60 : decode cX6_spot 60 = .ok (.iinc 5 1, 3) := dk_132 5 1 (dk_at dksX6_spot_2 15 rfl rfl)
theorem dX6_spot_63 : decode cX6_spot 63 = .ok (.goto (-25), 3) := dk_167 255 231 (dk_at dksX6_spot_2 18 rfl rfl)
theorem dX6_spot_66 : decode cX6_spot 66 = .ok (.iload 5, 2) := dk_21 5 (dk_at dksX6_spot_2 21 rfl rfl)
theorem dX6_spot_68 : decode cX6_spot 68 = .ok (.ifCond .le 16, 3) := dk_158 0 16 (dk_at dksX6_spot_3 0 rfl rfl)
theorem dX6_spot_71 : decode cX6_spot 71 = .ok (.aload 4, 2) := dk_25 4 (dk_at dksX6_spot_3 3 rfl rfl)
theorem dX6_spot_73 : decode cX6_spot 73 = .ok (.getfield 388, 3) := dk_180 1 132 (dk_at dksX6_spot_3 5 rfl rfl)
theorem dX6_spot_76 : decode cX6_spot 76 = .ok (.iload 5, 2) := dk_21 5 (dk_at dksX6_spot_3 8 rfl rfl)
theorem dX6_spot_78 : decode cX6_spot 78 = .ok (.iconst 1, 1) := dk_4 (dk_at dksX6_spot_3 10 rfl rfl)
theorem dX6_spot_79 : decode cX6_spot 79 = .ok (.isub, 1) := dk_100 (dk_at dksX6_spot_3 11 rfl rfl)
theorem dX6_spot_80 : decode cX6_spot 80 = .ok (.iaload, 1) := dk_46 (dk_at dksX6_spot_3 12 rfl rfl)
theorem dX6_spot_81 : decode cX6_spot 81 = .ok (.goto 4, 3) := dk_167 0 4 (dk_at dksX6_spot_3 13 rfl rfl)
theorem dX6_spot_84 : decode cX6_spot 84 = .ok (.iconst 0, 1) := dk_3 (dk_at dksX6_spot_3 16 rfl rfl)
theorem dX6_spot_85 : decode cX6_spot 85 = .ok (.istore 6, 2) := dk_54 6 (dk_at dksX6_spot_3 17 rfl rfl)
theorem dX6_spot_87 : decode cX6_spot 87 = .ok (.iload 5, 2) := dk_21 5 (dk_at dksX6_spot_3 19 rfl rfl)
theorem dX6_spot_89 : decode cX6_spot 89 = .ok (.ifCond .le 24, 3) := dk_158 0 24 (dk_at dksX6_spot_3 21 rfl rfl)
theorem dX6_spot_92 : decode cX6_spot 92 = .ok (.iload 6, 2) := dk_21 6 (dk_at dksX6_spot_4 0 rfl rfl)
theorem dX6_spot_94 : decode cX6_spot 94 = .ok (.bipush 60, 2) := dk_16 60 (dk_at dksX6_spot_4 2 rfl rfl)
theorem dX6_spot_96 : decode cX6_spot 96 = .ok (.iload_n 2, 1) := dk_28 (dk_at dksX6_spot_4 4 rfl rfl)
theorem dX6_spot_97 : decode cX6_spot 97 = .ok (.aload 4, 2) := dk_25 4 (dk_at dksX6_spot_4 5 rfl rfl)
theorem dX6_spot_99 : decode cX6_spot 99 = .ok (.getfield 382, 3) := dk_180 1 126 (dk_at dksX6_spot_4 7 rfl rfl)
theorem dX6_spot_102 : decode cX6_spot 102 = .ok (.iload 5, 2) := dk_21 5 (dk_at dksX6_spot_4 10 rfl rfl)
theorem dX6_spot_104 : decode cX6_spot 104 = .ok (.iconst 1, 1) := dk_4 (dk_at dksX6_spot_4 12 rfl rfl)
theorem dX6_spot_105 : decode cX6_spot 105 = .ok (.isub, 1) := dk_100 (dk_at dksX6_spot_4 13 rfl rfl)
theorem dX6_spot_106 : decode cX6_spot 106 = .ok (.iaload, 1) := dk_46 (dk_at dksX6_spot_4 14 rfl rfl)
theorem dX6_spot_107 : decode cX6_spot 107 = .ok (.isub, 1) := dk_100 (dk_at dksX6_spot_4 15 rfl rfl)
theorem dX6_spot_108 : decode cX6_spot 108 = .ok (.imul, 1) := dk_104 (dk_at dksX6_spot_4 16 rfl rfl)
theorem dX6_spot_109 : decode cX6_spot 109 = .ok (.iadd, 1) := dk_96 (dk_at dksX6_spot_4 17 rfl rfl)
theorem dX6_spot_110 : decode cX6_spot 110 = .ok (.goto 28, 3) := dk_167 0 28 (dk_at dksX6_spot_4 18 rfl rfl)
theorem dX6_spot_113 : decode cX6_spot 113 = .ok (.iload_n 2, 1) := dk_28 (dk_at dksX6_spot_4 21 rfl rfl)
theorem dX6_spot_114 : decode cX6_spot 114 = .ok (.aload 4, 2) := dk_25 4 (dk_at dksX6_spot_4 22 rfl rfl)
theorem dX6_spot_116 : decode cX6_spot 116 = .ok (.getfield 333, 3) := dk_180 1 77 (dk_at dksX6_spot_5 0 rfl rfl)
theorem dX6_spot_119 : decode cX6_spot 119 = .ok (.if_icmp .ge 7, 3) := dk_162 0 7 (dk_at dksX6_spot_5 3 rfl rfl)
theorem dX6_spot_122 : decode cX6_spot 122 = .ok (.iconst 0, 1) := dk_3 (dk_at dksX6_spot_5 6 rfl rfl)
theorem dX6_spot_123 : decode cX6_spot 123 = .ok (.goto 15, 3) := dk_167 0 15 (dk_at dksX6_spot_5 7 rfl rfl)
theorem dX6_spot_126 : decode cX6_spot 126 = .ok (.bipush 60, 2) := dk_16 60 (dk_at dksX6_spot_5 10 rfl rfl)
theorem dX6_spot_128 : decode cX6_spot 128 = .ok (.iload_n 2, 1) := dk_28 (dk_at dksX6_spot_5 12 rfl rfl)
theorem dX6_spot_129 : decode cX6_spot 129 = .ok (.aload 4, 2) := dk_25 4 (dk_at dksX6_spot_5 13 rfl rfl)
theorem dX6_spot_131 : decode cX6_spot 131 = .ok (.getfield 333, 3) := dk_180 1 77 (dk_at dksX6_spot_5 15 rfl rfl)
theorem dX6_spot_134 : decode cX6_spot 134 = .ok (.isub, 1) := dk_100 (dk_at dksX6_spot_5 18 rfl rfl)
theorem dX6_spot_135 : decode cX6_spot 135 = .ok (.iconst 1, 1) := dk_4 (dk_at dksX6_spot_5 19 rfl rfl)
theorem dX6_spot_136 : decode cX6_spot 136 = .ok (.iadd, 1) := dk_96 (dk_at dksX6_spot_5 20 rfl rfl)
theorem dX6_spot_137 : decode cX6_spot 137 = .ok (.imul, 1) := dk_104 (dk_at dksX6_spot_5 21 rfl rfl)
theorem dX6_spot_138 : decode cX6_spot 138 = .ok (.istore 7, 2) := dk_54 7 (dk_at dksX6_spot_5 22 rfl rfl)
theorem dX6_spot_140 : decode cX6_spot 140 = .ok (.iload 5, 2) := dk_21 5 (dk_at dksX6_spot_6 0 rfl rfl)
theorem dX6_spot_142 : decode cX6_spot 142 = .ok (.aload 4, 2) := dk_25 4 (dk_at dksX6_spot_6 2 rfl rfl)
theorem dX6_spot_144 : decode cX6_spot 144 = .ok (.getfield 385, 3) := dk_180 1 129 (dk_at dksX6_spot_6 4 rfl rfl)
theorem dX6_spot_147 : decode cX6_spot 147 = .ok (.if_icmp .ge 32, 3) := dk_162 0 32 (dk_at dksX6_spot_6 7 rfl rfl)
theorem dX6_spot_150 : decode cX6_spot 150 = .ok (.iload 6, 2) := dk_21 6 (dk_at dksX6_spot_6 10 rfl rfl)
theorem dX6_spot_152 : decode cX6_spot 152 = .ok (.aload 4, 2) := dk_25 4 (dk_at dksX6_spot_6 12 rfl rfl)
theorem dX6_spot_154 : decode cX6_spot 154 = .ok (.getfield 388, 3) := dk_180 1 132 (dk_at dksX6_spot_6 14 rfl rfl)
theorem dX6_spot_157 : decode cX6_spot 157 = .ok (.iload 5, 2) := dk_21 5 (dk_at dksX6_spot_6 17 rfl rfl)
theorem dX6_spot_159 : decode cX6_spot 159 = .ok (.iaload, 1) := dk_46 (dk_at dksX6_spot_6 19 rfl rfl)
theorem dX6_spot_160 : decode cX6_spot 160 = .ok (.bipush 60, 2) := dk_16 60 (dk_at dksX6_spot_6 20 rfl rfl)
theorem dX6_spot_162 : decode cX6_spot 162 = .ok (.aload 4, 2) := dk_25 4 (dk_at dksX6_spot_6 22 rfl rfl)
theorem dX6_spot_164 : decode cX6_spot 164 = .ok (.getfield 382, 3) := dk_180 1 126 (dk_at dksX6_spot_7 0 rfl rfl)
theorem dX6_spot_167 : decode cX6_spot 167 = .ok (.iload 5, 2) := dk_21 5 (dk_at dksX6_spot_7 3 rfl rfl)
theorem dX6_spot_169 : decode cX6_spot 169 = .ok (.iaload, 1) := dk_46 (dk_at dksX6_spot_7 5 rfl rfl)
theorem dX6_spot_170 : decode cX6_spot 170 = .ok (.iload_n 2, 1) := dk_28 (dk_at dksX6_spot_7 6 rfl rfl)
theorem dX6_spot_171 : decode cX6_spot 171 = .ok (.isub, 1) := dk_100 (dk_at dksX6_spot_7 7 rfl rfl)
theorem dX6_spot_172 : decode cX6_spot 172 = .ok (.imul, 1) := dk_104 (dk_at dksX6_spot_7 8 rfl rfl)
theorem dX6_spot_173 : decode cX6_spot 173 = .ok (.isub, 1) := dk_100 (dk_at dksX6_spot_7 9 rfl rfl)
theorem dX6_spot_174 : decode cX6_spot 174 = .ok (.invokestatic 363, 3) := dk_184 1 107 (dk_at dksX6_spot_7 10 rfl rfl)
theorem dX6_spot_177 : decode cX6_spot 177 = .ok (.istore 6, 2) := dk_54 6 (dk_at dksX6_spot_7 13 rfl rfl)
theorem dX6_spot_179 : decode cX6_spot 179 = .ok (.iload 7, 2) := dk_21 7 (dk_at dksX6_spot_7 15 rfl rfl)
theorem dX6_spot_181 : decode cX6_spot 181 = .ok (.iload 5, 2) := dk_21 5 (dk_at dksX6_spot_7 17 rfl rfl)
theorem dX6_spot_183 : decode cX6_spot 183 = .ok (.aload 4, 2) := dk_25 4 (dk_at dksX6_spot_7 19 rfl rfl)
theorem dX6_spot_185 : decode cX6_spot 185 = .ok (.getfield 385, 3) := dk_180 1 129 (dk_at dksX6_spot_7 21 rfl rfl)
theorem dX6_spot_188 : decode cX6_spot 188 = .ok (.if_icmp .ge 14, 3) := dk_162 0 14 (dk_at dksX6_spot_8 0 rfl rfl)
theorem dX6_spot_191 : decode cX6_spot 191 = .ok (.aload 4, 2) := dk_25 4 (dk_at dksX6_spot_8 3 rfl rfl)
theorem dX6_spot_193 : decode cX6_spot 193 = .ok (.getfield 388, 3) := dk_180 1 132 (dk_at dksX6_spot_8 5 rfl rfl)
theorem dX6_spot_196 : decode cX6_spot 196 = .ok (.iload 5, 2) := dk_21 5 (dk_at dksX6_spot_8 8 rfl rfl)
theorem dX6_spot_198 : decode cX6_spot 198 = .ok (.iaload, 1) := dk_46 (dk_at dksX6_spot_8 10 rfl rfl)
theorem dX6_spot_199 : decode cX6_spot 199 = .ok (.goto 7, 3) := dk_167 0 7 (dk_at dksX6_spot_8 11 rfl rfl)
theorem dX6_spot_202 : decode cX6_spot 202 = .ok (.aload_n 0, 1) := dk_42 (dk_at dksX6_spot_8 14 rfl rfl)
theorem dX6_spot_203 : decode cX6_spot 203 = .ok (.invokevirtual 412, 3) := dk_182 1 156 (dk_at dksX6_spot_8 15 rfl rfl)
theorem dX6_spot_206 : decode cX6_spot 206 = .ok (.invokestatic 398, 3) := dk_184 1 142 (dk_at dksX6_spot_8 18 rfl rfl)
theorem dX6_spot_209 : decode cX6_spot 209 = .ok (.istore 7, 2) := dk_54 7 (dk_at dksX6_spot_8 21 rfl rfl)
theorem dX6_spot_211 : decode cX6_spot 211 = .ok (.iload_n 3, 1) := dk_29 (dk_at dksX6_spot_8 23 rfl rfl)
theorem dX6_spot_212 : decode cX6_spot 212 = .ok (.ifCond .eq 8, 3) := dk_153 0 8 (dk_at dksX6_spot_9 0 rfl rfl)
theorem dX6_spot_215 : decode cX6_spot 215 = .ok (.iload 7, 2) := dk_21 7 (dk_at dksX6_spot_9 3 rfl rfl)
theorem dX6_spot_217 : decode cX6_spot 217 = .ok (.goto 5, 3) := dk_167 0 5 (dk_at dksX6_spot_9 5 rfl rfl)
theorem dX6_spot_220 : decode cX6_spot 220 = .ok (.iload 6, 2) := dk_21 6 (dk_at dksX6_spot_9 8 rfl rfl)
theorem dX6_spot_222 : decode cX6_spot 222 = .ok (.ireturn, 1) := dk_172 (dk_at dksX6_spot_9 10 rfl rfl)
abbrev cX6_trail : ByteArray := prog_16_method_43_code
def yX6_trail : MethodName := ⟨RX6, "trail", "()I"⟩
def dkwX6_trail_1 : List UInt8 := [167, 255, 236, 27, 172]
abbrev dktX6_trail_1 : List UInt8 := dkwX6_trail_1 ++ []
def dkwX6_trail_0 : List UInt8 := [3, 60, 3, 61, 28, 42, 180, 0, 91, 162, 0, 18, 27, 42, 180, 0, 22, 28, 46, 96, 60, 132, 2, 1]
abbrev dktX6_trail_0 : List UInt8 := dkwX6_trail_0 ++ dktX6_trail_1
theorem dksX6_trail_0 : cX6_trail.data.toList.drop 0 = dktX6_trail_0 := by decide +kernel
theorem dksX6_trail_1 : cX6_trail.data.toList.drop 24 = dktX6_trail_1 := dk_seg dksX6_trail_0 24 rfl rfl
theorem dX6_trail_0 : decode cX6_trail 0 = .ok (.iconst 0, 1) := dk_3 (dk_at dksX6_trail_0 0 rfl rfl)
theorem dX6_trail_1 : decode cX6_trail 1 = .ok (.istore_n 1, 1) := dk_60 (dk_at dksX6_trail_0 1 rfl rfl)
theorem dX6_trail_2 : decode cX6_trail 2 = .ok (.iconst 0, 1) := dk_3 (dk_at dksX6_trail_0 2 rfl rfl)
theorem dX6_trail_3 : decode cX6_trail 3 = .ok (.istore_n 2, 1) := dk_61 (dk_at dksX6_trail_0 3 rfl rfl)
theorem dX6_trail_4 : decode cX6_trail 4 = .ok (.iload_n 2, 1) := dk_28 (dk_at dksX6_trail_0 4 rfl rfl)
theorem dX6_trail_5 : decode cX6_trail 5 = .ok (.aload_n 0, 1) := dk_42 (dk_at dksX6_trail_0 5 rfl rfl)
theorem dX6_trail_6 : decode cX6_trail 6 = .ok (.getfield 91, 3) := dk_180 0 91 (dk_at dksX6_trail_0 6 rfl rfl)
theorem dX6_trail_9 : decode cX6_trail 9 = .ok (.if_icmp .ge 18, 3) := dk_162 0 18 (dk_at dksX6_trail_0 9 rfl rfl)
theorem dX6_trail_12 : decode cX6_trail 12 = .ok (.iload_n 1, 1) := dk_27 (dk_at dksX6_trail_0 12 rfl rfl)
theorem dX6_trail_13 : decode cX6_trail 13 = .ok (.aload_n 0, 1) := dk_42 (dk_at dksX6_trail_0 13 rfl rfl)
theorem dX6_trail_14 : decode cX6_trail 14 = .ok (.getfield 22, 3) := dk_180 0 22 (dk_at dksX6_trail_0 14 rfl rfl)
theorem dX6_trail_17 : decode cX6_trail 17 = .ok (.iload_n 2, 1) := dk_28 (dk_at dksX6_trail_0 17 rfl rfl)
theorem dX6_trail_18 : decode cX6_trail 18 = .ok (.iaload, 1) := dk_46 (dk_at dksX6_trail_0 18 rfl rfl)
theorem dX6_trail_19 : decode cX6_trail 19 = .ok (.iadd, 1) := dk_96 (dk_at dksX6_trail_0 19 rfl rfl)
theorem dX6_trail_20 : decode cX6_trail 20 = .ok (.istore_n 1, 1) := dk_60 (dk_at dksX6_trail_0 20 rfl rfl)
theorem dX6_trail_21 : decode cX6_trail 21 = .ok (.iinc 2 1, 3) := dk_132 2 1 (dk_at dksX6_trail_0 21 rfl rfl)
theorem dX6_trail_24 : decode cX6_trail 24 = .ok (.goto (-20), 3) := dk_167 255 236 (dk_at dksX6_trail_1 0 rfl rfl)
theorem dX6_trail_27 : decode cX6_trail 27 = .ok (.iload_n 1, 1) := dk_27 (dk_at dksX6_trail_1 3 rfl rfl)
theorem dX6_trail_28 : decode cX6_trail 28 = .ok (.ireturn, 1) := dk_172 (dk_at dksX6_trail_1 4 rfl rfl)
abbrev cX6_signs : ByteArray := prog_16_method_63_code
def yX6_signs : MethodName := ⟨RX6, "signs", "(I)I"⟩
def dkwX6_signs_1 : List UInt8 := [167, 0, 4, 2, 172]
abbrev dktX6_signs_1 : List UInt8 := dkwX6_signs_1 ++ []
def dkwX6_signs_0 : List UInt8 := [42, 3, 181, 0, 1, 42, 27, 182, 1, 30, 153, 0, 15, 42, 180, 0, 34, 27, 50, 180, 1, 129]
abbrev dktX6_signs_0 : List UInt8 := dkwX6_signs_0 ++ dktX6_signs_1
theorem dksX6_signs_0 : cX6_signs.data.toList.drop 0 = dktX6_signs_0 := by decide +kernel
theorem dksX6_signs_1 : cX6_signs.data.toList.drop 22 = dktX6_signs_1 := dk_seg dksX6_signs_0 22 rfl rfl
theorem dX6_signs_0 : decode cX6_signs 0 = .ok (.aload_n 0, 1) := dk_42 (dk_at dksX6_signs_0 0 rfl rfl)
theorem dX6_signs_1 : decode cX6_signs 1 = .ok (.iconst 0, 1) := dk_3 (dk_at dksX6_signs_0 1 rfl rfl)
theorem dX6_signs_2 : decode cX6_signs 2 = .ok (.putfield 1, 3) := dk_181 0 1 (dk_at dksX6_signs_0 2 rfl rfl)
theorem dX6_signs_5 : decode cX6_signs 5 = .ok (.aload_n 0, 1) := dk_42 (dk_at dksX6_signs_0 5 rfl rfl)
theorem dX6_signs_6 : decode cX6_signs 6 = .ok (.iload_n 1, 1) := dk_27 (dk_at dksX6_signs_0 6 rfl rfl)
theorem dX6_signs_7 : decode cX6_signs 7 = .ok (.invokevirtual 286, 3) := dk_182 1 30 (dk_at dksX6_signs_0 7 rfl rfl)
theorem dX6_signs_10 : decode cX6_signs 10 = .ok (.ifCond .eq 15, 3) := dk_153 0 15 (dk_at dksX6_signs_0 10 rfl rfl)
theorem dX6_signs_13 : decode cX6_signs 13 = .ok (.aload_n 0, 1) := dk_42 (dk_at dksX6_signs_0 13 rfl rfl)
theorem dX6_signs_14 : decode cX6_signs 14 = .ok (.getfield 34, 3) := dk_180 0 34 (dk_at dksX6_signs_0 14 rfl rfl)
theorem dX6_signs_17 : decode cX6_signs 17 = .ok (.iload_n 1, 1) := dk_27 (dk_at dksX6_signs_0 17 rfl rfl)
theorem dX6_signs_18 : decode cX6_signs 18 = .ok (.aaload, 1) := dk_50 (dk_at dksX6_signs_0 18 rfl rfl)
theorem dX6_signs_19 : decode cX6_signs 19 = .ok (.getfield 385, 3) := dk_180 1 129 (dk_at dksX6_signs_0 19 rfl rfl)
theorem dX6_signs_22 : decode cX6_signs 22 = .ok (.goto 4, 3) := dk_167 0 4 (dk_at dksX6_signs_1 0 rfl rfl)
theorem dX6_signs_25 : decode cX6_signs 25 = .ok (.iconst (-1), 1) := dk_2 (dk_at dksX6_signs_1 3 rfl rfl)
theorem dX6_signs_26 : decode cX6_signs 26 = .ok (.ireturn, 1) := dk_172 (dk_at dksX6_signs_1 4 rfl rfl)
abbrev cX6_replay : ByteArray := prog_16_method_64_code
def yX6_replay : MethodName := ⟨RX6, "replay", "(III)I"⟩
def dkwX6_replay_7 : List UInt8 := [182, 0, 129, 172]
abbrev dktX6_replay_7 : List UInt8 := dkwX6_replay_7 ++ []
def dkwX6_replay_6 : List UInt8 := [42, 180, 0, 54, 180, 1, 33, 167, 0, 15, 42, 180, 0, 54, 180, 1, 79, 42, 180, 0, 91, 46]
abbrev dktX6_replay_6 : List UInt8 := dkwX6_replay_6 ++ dktX6_replay_7
def dkwX6_replay_5 : List UInt8 := [167, 0, 46, 29, 4, 160, 0, 14, 42, 180, 0, 54, 3, 182, 1, 68, 167, 0, 30, 29, 5, 160, 0, 13]
abbrev dktX6_replay_5 : List UInt8 := dkwX6_replay_5 ++ dktX6_replay_6
def dkwX6_replay_4 : List UInt8 := [21, 5, 182, 1, 119, 132, 5, 1, 167, 255, 234, 42, 29, 154, 0, 14, 42, 42, 180, 0, 54, 182, 1, 135]
abbrev dktX6_replay_4 : List UInt8 := dkwX6_replay_4 ++ dktX6_replay_5
def dkwX6_replay_3 : List UInt8 := [180, 1, 77, 28, 182, 1, 26, 3, 54, 5, 21, 5, 42, 180, 0, 100, 162, 0, 19, 42, 42, 180, 0, 54]
abbrev dktX6_replay_3 : List UInt8 := dkwX6_replay_3 ++ dktX6_replay_4
def dkwX6_replay_2 : List UInt8 := [50, 58, 4, 42, 180, 0, 54, 25, 4, 180, 1, 105, 25, 4, 180, 1, 113, 25, 4, 180, 1, 159, 25, 4]
abbrev dktX6_replay_2 : List UInt8 := dkwX6_replay_2 ++ dktX6_replay_3
def dkwX6_replay_1 : List UInt8 := [182, 0, 121, 172, 29, 3, 6, 184, 0, 125, 154, 0, 9, 42, 5, 182, 0, 121, 172, 42, 180, 0, 34, 27]
abbrev dktX6_replay_1 : List UInt8 := dkwX6_replay_1 ++ dktX6_replay_2
def dkwX6_replay_0 : List UInt8 := [42, 3, 181, 0, 1, 42, 27, 182, 1, 30, 153, 0, 11, 42, 28, 182, 1, 23, 154, 0, 9, 42, 4]
abbrev dktX6_replay_0 : List UInt8 := dkwX6_replay_0 ++ dktX6_replay_1
theorem dksX6_replay_0 : cX6_replay.data.toList.drop 0 = dktX6_replay_0 := by decide +kernel
theorem dksX6_replay_1 : cX6_replay.data.toList.drop 23 = dktX6_replay_1 := dk_seg dksX6_replay_0 23 rfl rfl
theorem dksX6_replay_2 : cX6_replay.data.toList.drop 47 = dktX6_replay_2 := dk_seg dksX6_replay_1 24 rfl rfl
theorem dksX6_replay_3 : cX6_replay.data.toList.drop 71 = dktX6_replay_3 := dk_seg dksX6_replay_2 24 rfl rfl
theorem dksX6_replay_4 : cX6_replay.data.toList.drop 95 = dktX6_replay_4 := dk_seg dksX6_replay_3 24 rfl rfl
theorem dksX6_replay_5 : cX6_replay.data.toList.drop 119 = dktX6_replay_5 := dk_seg dksX6_replay_4 24 rfl rfl
theorem dksX6_replay_6 : cX6_replay.data.toList.drop 143 = dktX6_replay_6 := dk_seg dksX6_replay_5 24 rfl rfl
theorem dksX6_replay_7 : cX6_replay.data.toList.drop 165 = dktX6_replay_7 := dk_seg dksX6_replay_6 22 rfl rfl
theorem dX6_replay_0 : decode cX6_replay 0 = .ok (.aload_n 0, 1) := dk_42 (dk_at dksX6_replay_0 0 rfl rfl)
theorem dX6_replay_1 : decode cX6_replay 1 = .ok (.iconst 0, 1) := dk_3 (dk_at dksX6_replay_0 1 rfl rfl)
theorem dX6_replay_2 : decode cX6_replay 2 = .ok (.putfield 1, 3) := dk_181 0 1 (dk_at dksX6_replay_0 2 rfl rfl)
theorem dX6_replay_5 : decode cX6_replay 5 = .ok (.aload_n 0, 1) := dk_42 (dk_at dksX6_replay_0 5 rfl rfl)
theorem dX6_replay_6 : decode cX6_replay 6 = .ok (.iload_n 1, 1) := dk_27 (dk_at dksX6_replay_0 6 rfl rfl)
theorem dX6_replay_7 : decode cX6_replay 7 = .ok (.invokevirtual 286, 3) := dk_182 1 30 (dk_at dksX6_replay_0 7 rfl rfl)
theorem dX6_replay_10 : decode cX6_replay 10 = .ok (.ifCond .eq 11, 3) := dk_153 0 11 (dk_at dksX6_replay_0 10 rfl rfl)
theorem dX6_replay_13 : decode cX6_replay 13 = .ok (.aload_n 0, 1) := dk_42 (dk_at dksX6_replay_0 13 rfl rfl)
theorem dX6_replay_14 : decode cX6_replay 14 = .ok (.iload_n 2, 1) := dk_28 (dk_at dksX6_replay_0 14 rfl rfl)
theorem dX6_replay_15 : decode cX6_replay 15 = .ok (.invokevirtual 279, 3) := dk_182 1 23 (dk_at dksX6_replay_0 15 rfl rfl)
theorem dX6_replay_18 : decode cX6_replay 18 = .ok (.ifCond .ne 9, 3) := dk_154 0 9 (dk_at dksX6_replay_0 18 rfl rfl)
theorem dX6_replay_21 : decode cX6_replay 21 = .ok (.aload_n 0, 1) := dk_42 (dk_at dksX6_replay_0 21 rfl rfl)
theorem dX6_replay_22 : decode cX6_replay 22 = .ok (.iconst 1, 1) := dk_4 (dk_at dksX6_replay_0 22 rfl rfl)
theorem dX6_replay_23 : decode cX6_replay 23 = .ok (.invokevirtual 121, 3) := dk_182 0 121 (dk_at dksX6_replay_1 0 rfl rfl)
theorem dX6_replay_26 : decode cX6_replay 26 = .ok (.ireturn, 1) := dk_172 (dk_at dksX6_replay_1 3 rfl rfl)
theorem dX6_replay_27 : decode cX6_replay 27 = .ok (.iload_n 3, 1) := dk_29 (dk_at dksX6_replay_1 4 rfl rfl)
theorem dX6_replay_28 : decode cX6_replay 28 = .ok (.iconst 0, 1) := dk_3 (dk_at dksX6_replay_1 5 rfl rfl)
theorem dX6_replay_29 : decode cX6_replay 29 = .ok (.iconst 3, 1) := dk_6 (dk_at dksX6_replay_1 6 rfl rfl)
theorem dX6_replay_30 : decode cX6_replay 30 = .ok (.invokestatic 125, 3) := dk_184 0 125 (dk_at dksX6_replay_1 7 rfl rfl)
theorem dX6_replay_33 : decode cX6_replay 33 = .ok (.ifCond .ne 9, 3) := dk_154 0 9 (dk_at dksX6_replay_1 10 rfl rfl)
theorem dX6_replay_36 : decode cX6_replay 36 = .ok (.aload_n 0, 1) := dk_42 (dk_at dksX6_replay_1 13 rfl rfl)
theorem dX6_replay_37 : decode cX6_replay 37 = .ok (.iconst 2, 1) := dk_5 (dk_at dksX6_replay_1 14 rfl rfl)
theorem dX6_replay_38 : decode cX6_replay 38 = .ok (.invokevirtual 121, 3) := dk_182 0 121 (dk_at dksX6_replay_1 15 rfl rfl)
theorem dX6_replay_41 : decode cX6_replay 41 = .ok (.ireturn, 1) := dk_172 (dk_at dksX6_replay_1 18 rfl rfl)
theorem dX6_replay_42 : decode cX6_replay 42 = .ok (.aload_n 0, 1) := dk_42 (dk_at dksX6_replay_1 19 rfl rfl)
theorem dX6_replay_43 : decode cX6_replay 43 = .ok (.getfield 34, 3) := dk_180 0 34 (dk_at dksX6_replay_1 20 rfl rfl)
theorem dX6_replay_46 : decode cX6_replay 46 = .ok (.iload_n 1, 1) := dk_27 (dk_at dksX6_replay_1 23 rfl rfl)
theorem dX6_replay_47 : decode cX6_replay 47 = .ok (.aaload, 1) := dk_50 (dk_at dksX6_replay_2 0 rfl rfl)
theorem dX6_replay_48 : decode cX6_replay 48 = .ok (.astore 4, 2) := dk_58 4 (dk_at dksX6_replay_2 1 rfl rfl)
theorem dX6_replay_50 : decode cX6_replay 50 = .ok (.aload_n 0, 1) := dk_42 (dk_at dksX6_replay_2 3 rfl rfl)
theorem dX6_replay_51 : decode cX6_replay 51 = .ok (.getfield 54, 3) := dk_180 0 54 (dk_at dksX6_replay_2 4 rfl rfl)
theorem dX6_replay_54 : decode cX6_replay 54 = .ok (.aload 4, 2) := dk_25 4 (dk_at dksX6_replay_2 7 rfl rfl)
theorem dX6_replay_56 : decode cX6_replay 56 = .ok (.getfield 361, 3) := dk_180 1 105 (dk_at dksX6_replay_2 9 rfl rfl)
theorem dX6_replay_59 : decode cX6_replay 59 = .ok (.aload 4, 2) := dk_25 4 (dk_at dksX6_replay_2 12 rfl rfl)
theorem dX6_replay_61 : decode cX6_replay 61 = .ok (.getfield 369, 3) := dk_180 1 113 (dk_at dksX6_replay_2 14 rfl rfl)
theorem dX6_replay_64 : decode cX6_replay 64 = .ok (.aload 4, 2) := dk_25 4 (dk_at dksX6_replay_2 17 rfl rfl)
theorem dX6_replay_66 : decode cX6_replay 66 = .ok (.getfield 415, 3) := dk_180 1 159 (dk_at dksX6_replay_2 19 rfl rfl)
theorem dX6_replay_69 : decode cX6_replay 69 = .ok (.aload 4, 2) := dk_25 4 (dk_at dksX6_replay_2 22 rfl rfl)
theorem dX6_replay_71 : decode cX6_replay 71 = .ok (.getfield 333, 3) := dk_180 1 77 (dk_at dksX6_replay_3 0 rfl rfl)
theorem dX6_replay_74 : decode cX6_replay 74 = .ok (.iload_n 2, 1) := dk_28 (dk_at dksX6_replay_3 3 rfl rfl)
theorem dX6_replay_75 : decode cX6_replay 75 = .ok (.invokevirtual 282, 3) := dk_182 1 26 (dk_at dksX6_replay_3 4 rfl rfl)
theorem dX6_replay_78 : decode cX6_replay 78 = .ok (.iconst 0, 1) := dk_3 (dk_at dksX6_replay_3 7 rfl rfl)
theorem dX6_replay_79 : decode cX6_replay 79 = .ok (.istore 5, 2) := dk_54 5 (dk_at dksX6_replay_3 8 rfl rfl)
theorem dX6_replay_81 : decode cX6_replay 81 = .ok (.iload 5, 2) := dk_21 5 (dk_at dksX6_replay_3 10 rfl rfl)
theorem dX6_replay_83 : decode cX6_replay 83 = .ok (.aload_n 0, 1) := dk_42 (dk_at dksX6_replay_3 12 rfl rfl)
theorem dX6_replay_84 : decode cX6_replay 84 = .ok (.getfield 100, 3) := dk_180 0 100 (dk_at dksX6_replay_3 13 rfl rfl)
theorem dX6_replay_87 : decode cX6_replay 87 = .ok (.if_icmp .ge 19, 3) := dk_162 0 19 (dk_at dksX6_replay_3 16 rfl rfl)
theorem dX6_replay_90 : decode cX6_replay 90 = .ok (.aload_n 0, 1) := dk_42 (dk_at dksX6_replay_3 19 rfl rfl)
theorem dX6_replay_91 : decode cX6_replay 91 = .ok (.aload_n 0, 1) := dk_42 (dk_at dksX6_replay_3 20 rfl rfl)
theorem dX6_replay_92 : decode cX6_replay 92 = .ok (.getfield 54, 3) := dk_180 0 54 (dk_at dksX6_replay_3 21 rfl rfl)
theorem dX6_replay_95 : decode cX6_replay 95 = .ok (.iload 5, 2) := dk_21 5 (dk_at dksX6_replay_4 0 rfl rfl)
theorem dX6_replay_97 : decode cX6_replay 97 = .ok (.invokevirtual 375, 3) := dk_182 1 119 (dk_at dksX6_replay_4 2 rfl rfl)
theorem dX6_replay_100 : decode cX6_replay 100 = .ok (.iinc 5 1, 3) := dk_132 5 1 (dk_at dksX6_replay_4 5 rfl rfl)
theorem dX6_replay_103 : decode cX6_replay 103 = .ok (.goto (-22), 3) := dk_167 255 234 (dk_at dksX6_replay_4 8 rfl rfl)
theorem dX6_replay_106 : decode cX6_replay 106 = .ok (.aload_n 0, 1) := dk_42 (dk_at dksX6_replay_4 11 rfl rfl)
theorem dX6_replay_107 : decode cX6_replay 107 = .ok (.iload_n 3, 1) := dk_29 (dk_at dksX6_replay_4 12 rfl rfl)
theorem dX6_replay_108 : decode cX6_replay 108 = .ok (.ifCond .ne 14, 3) := dk_154 0 14 (dk_at dksX6_replay_4 13 rfl rfl)
theorem dX6_replay_111 : decode cX6_replay 111 = .ok (.aload_n 0, 1) := dk_42 (dk_at dksX6_replay_4 16 rfl rfl)
theorem dX6_replay_112 : decode cX6_replay 112 = .ok (.aload_n 0, 1) := dk_42 (dk_at dksX6_replay_4 17 rfl rfl)
theorem dX6_replay_113 : decode cX6_replay 113 = .ok (.getfield 54, 3) := dk_180 0 54 (dk_at dksX6_replay_4 18 rfl rfl)
theorem dX6_replay_116 : decode cX6_replay 116 = .ok (.invokevirtual 391, 3) := dk_182 1 135 (dk_at dksX6_replay_4 21 rfl rfl)
theorem dX6_replay_119 : decode cX6_replay 119 = .ok (.goto 46, 3) := dk_167 0 46 (dk_at dksX6_replay_5 0 rfl rfl)
theorem dX6_replay_122 : decode cX6_replay 122 = .ok (.iload_n 3, 1) := dk_29 (dk_at dksX6_replay_5 3 rfl rfl)
theorem dX6_replay_123 : decode cX6_replay 123 = .ok (.iconst 1, 1) := dk_4 (dk_at dksX6_replay_5 4 rfl rfl)
theorem dX6_replay_124 : decode cX6_replay 124 = .ok (.if_icmp .ne 14, 3) := dk_160 0 14 (dk_at dksX6_replay_5 5 rfl rfl)
theorem dX6_replay_127 : decode cX6_replay 127 = .ok (.aload_n 0, 1) := dk_42 (dk_at dksX6_replay_5 8 rfl rfl)
theorem dX6_replay_128 : decode cX6_replay 128 = .ok (.getfield 54, 3) := dk_180 0 54 (dk_at dksX6_replay_5 9 rfl rfl)
theorem dX6_replay_131 : decode cX6_replay 131 = .ok (.iconst 0, 1) := dk_3 (dk_at dksX6_replay_5 12 rfl rfl)
theorem dX6_replay_132 : decode cX6_replay 132 = .ok (.invokevirtual 324, 3) := dk_182 1 68 (dk_at dksX6_replay_5 13 rfl rfl)
theorem dX6_replay_135 : decode cX6_replay 135 = .ok (.goto 30, 3) := dk_167 0 30 (dk_at dksX6_replay_5 16 rfl rfl)
theorem dX6_replay_138 : decode cX6_replay 138 = .ok (.iload_n 3, 1) := dk_29 (dk_at dksX6_replay_5 19 rfl rfl)
theorem dX6_replay_139 : decode cX6_replay 139 = .ok (.iconst 2, 1) := dk_5 (dk_at dksX6_replay_5 20 rfl rfl)
theorem dX6_replay_140 : decode cX6_replay 140 = .ok (.if_icmp .ne 13, 3) := dk_160 0 13 (dk_at dksX6_replay_5 21 rfl rfl)
theorem dX6_replay_143 : decode cX6_replay 143 = .ok (.aload_n 0, 1) := dk_42 (dk_at dksX6_replay_6 0 rfl rfl)
theorem dX6_replay_144 : decode cX6_replay 144 = .ok (.getfield 54, 3) := dk_180 0 54 (dk_at dksX6_replay_6 1 rfl rfl)
theorem dX6_replay_147 : decode cX6_replay 147 = .ok (.getfield 289, 3) := dk_180 1 33 (dk_at dksX6_replay_6 4 rfl rfl)
theorem dX6_replay_150 : decode cX6_replay 150 = .ok (.goto 15, 3) := dk_167 0 15 (dk_at dksX6_replay_6 7 rfl rfl)
theorem dX6_replay_153 : decode cX6_replay 153 = .ok (.aload_n 0, 1) := dk_42 (dk_at dksX6_replay_6 10 rfl rfl)
theorem dX6_replay_154 : decode cX6_replay 154 = .ok (.getfield 54, 3) := dk_180 0 54 (dk_at dksX6_replay_6 11 rfl rfl)
theorem dX6_replay_157 : decode cX6_replay 157 = .ok (.getfield 335, 3) := dk_180 1 79 (dk_at dksX6_replay_6 14 rfl rfl)
theorem dX6_replay_160 : decode cX6_replay 160 = .ok (.aload_n 0, 1) := dk_42 (dk_at dksX6_replay_6 17 rfl rfl)
theorem dX6_replay_161 : decode cX6_replay 161 = .ok (.getfield 91, 3) := dk_180 0 91 (dk_at dksX6_replay_6 18 rfl rfl)
theorem dX6_replay_164 : decode cX6_replay 164 = .ok (.iaload, 1) := dk_46 (dk_at dksX6_replay_6 21 rfl rfl)
theorem dX6_replay_165 : decode cX6_replay 165 = .ok (.invokevirtual 129, 3) := dk_182 0 129 (dk_at dksX6_replay_7 0 rfl rfl)
theorem dX6_replay_168 : decode cX6_replay 168 = .ok (.ireturn, 1) := dk_172 (dk_at dksX6_replay_7 3 rfl rfl)
abbrev cX6_count : ByteArray := prog_16_method_65_code
def yX6_count : MethodName := ⟨RX6, "count", "(I)I"⟩
def dkwX6_count_3 : List UInt8 := [172, 42, 182, 1, 156, 172, 42, 180, 0, 221, 172, 2, 172]
abbrev dktX6_count_3 : List UInt8 := dkwX6_count_3 ++ []
def dkwX6_count_2 : List UInt8 := [42, 180, 0, 91, 172, 42, 180, 0, 94, 172, 42, 180, 0, 227, 172, 42, 180, 0, 250, 172, 42, 180, 0, 100]
abbrev dktX6_count_2 : List UInt8 := dkwX6_count_2 ++ dktX6_count_3
def dkwX6_count_1 : List UInt8 := [170, 0, 0, 0, 0, 77, 0, 0, 0, 0, 0, 0, 0, 6, 0, 0, 0, 42, 0, 0, 0, 47, 0, 0, 0, 52, 0, 0, 0, 57, 0, 0, 0, 62, 0, 0, 0, 67, 0, 0, 0, 72]
abbrev dktX6_count_1 : List UInt8 := dkwX6_count_1 ++ dktX6_count_2
def dkwX6_count_0 : List UInt8 := [42, 3, 181, 0, 1, 27]
abbrev dktX6_count_0 : List UInt8 := dkwX6_count_0 ++ dktX6_count_1
theorem dksX6_count_0 : cX6_count.data.toList.drop 0 = dktX6_count_0 := by decide +kernel
theorem dksX6_count_1 : cX6_count.data.toList.drop 6 = dktX6_count_1 := dk_seg dksX6_count_0 6 rfl rfl
theorem dksX6_count_2 : cX6_count.data.toList.drop 48 = dktX6_count_2 := dk_seg dksX6_count_1 42 rfl rfl
theorem dksX6_count_3 : cX6_count.data.toList.drop 72 = dktX6_count_3 := dk_seg dksX6_count_2 24 rfl rfl
theorem dX6_count_0 : decode cX6_count 0 = .ok (.aload_n 0, 1) := dk_42 (dk_at dksX6_count_0 0 rfl rfl)
theorem dX6_count_1 : decode cX6_count 1 = .ok (.iconst 0, 1) := dk_3 (dk_at dksX6_count_0 1 rfl rfl)
theorem dX6_count_2 : decode cX6_count 2 = .ok (.putfield 1, 3) := dk_181 0 1 (dk_at dksX6_count_0 2 rfl rfl)
theorem dX6_count_5 : decode cX6_count 5 = .ok (.iload_n 1, 1) := dk_27 (dk_at dksX6_count_0 5 rfl rfl)
theorem dX6_count_6 : decode cX6_count 6 = .ok (.tableswitch 77 0 6 #[42, 47, 52, 57, 62, 67, 72], 42) := by decide +kernel
theorem dX6_count_48 : decode cX6_count 48 = .ok (.aload_n 0, 1) := dk_42 (dk_at dksX6_count_2 0 rfl rfl)
theorem dX6_count_49 : decode cX6_count 49 = .ok (.getfield 91, 3) := dk_180 0 91 (dk_at dksX6_count_2 1 rfl rfl)
theorem dX6_count_52 : decode cX6_count 52 = .ok (.ireturn, 1) := dk_172 (dk_at dksX6_count_2 4 rfl rfl)
theorem dX6_count_53 : decode cX6_count 53 = .ok (.aload_n 0, 1) := dk_42 (dk_at dksX6_count_2 5 rfl rfl)
theorem dX6_count_54 : decode cX6_count 54 = .ok (.getfield 94, 3) := dk_180 0 94 (dk_at dksX6_count_2 6 rfl rfl)
theorem dX6_count_57 : decode cX6_count 57 = .ok (.ireturn, 1) := dk_172 (dk_at dksX6_count_2 9 rfl rfl)
theorem dX6_count_58 : decode cX6_count 58 = .ok (.aload_n 0, 1) := dk_42 (dk_at dksX6_count_2 10 rfl rfl)
theorem dX6_count_59 : decode cX6_count 59 = .ok (.getfield 227, 3) := dk_180 0 227 (dk_at dksX6_count_2 11 rfl rfl)
theorem dX6_count_62 : decode cX6_count 62 = .ok (.ireturn, 1) := dk_172 (dk_at dksX6_count_2 14 rfl rfl)
theorem dX6_count_63 : decode cX6_count 63 = .ok (.aload_n 0, 1) := dk_42 (dk_at dksX6_count_2 15 rfl rfl)
theorem dX6_count_64 : decode cX6_count 64 = .ok (.getfield 250, 3) := dk_180 0 250 (dk_at dksX6_count_2 16 rfl rfl)
theorem dX6_count_67 : decode cX6_count 67 = .ok (.ireturn, 1) := dk_172 (dk_at dksX6_count_2 19 rfl rfl)
theorem dX6_count_68 : decode cX6_count 68 = .ok (.aload_n 0, 1) := dk_42 (dk_at dksX6_count_2 20 rfl rfl)
theorem dX6_count_69 : decode cX6_count 69 = .ok (.getfield 100, 3) := dk_180 0 100 (dk_at dksX6_count_2 21 rfl rfl)
theorem dX6_count_72 : decode cX6_count 72 = .ok (.ireturn, 1) := dk_172 (dk_at dksX6_count_3 0 rfl rfl)
theorem dX6_count_73 : decode cX6_count 73 = .ok (.aload_n 0, 1) := dk_42 (dk_at dksX6_count_3 1 rfl rfl)
theorem dX6_count_74 : decode cX6_count 74 = .ok (.invokevirtual 412, 3) := dk_182 1 156 (dk_at dksX6_count_3 2 rfl rfl)
theorem dX6_count_77 : decode cX6_count 77 = .ok (.ireturn, 1) := dk_172 (dk_at dksX6_count_3 5 rfl rfl)
theorem dX6_count_78 : decode cX6_count 78 = .ok (.aload_n 0, 1) := dk_42 (dk_at dksX6_count_3 6 rfl rfl)
theorem dX6_count_79 : decode cX6_count 79 = .ok (.getfield 221, 3) := dk_180 0 221 (dk_at dksX6_count_3 7 rfl rfl)
theorem dX6_count_82 : decode cX6_count 82 = .ok (.ireturn, 1) := dk_172 (dk_at dksX6_count_3 10 rfl rfl)
theorem dX6_count_83 : decode cX6_count 83 = .ok (.iconst (-1), 1) := dk_2 (dk_at dksX6_count_3 11 rfl rfl)
theorem dX6_count_84 : decode cX6_count 84 = .ok (.ireturn, 1) := dk_172 (dk_at dksX6_count_3 12 rfl rfl)
abbrev cX6_trouble : ByteArray := prog_16_method_66_code
def yX6_trouble : MethodName := ⟨RX6, "trouble", "()I"⟩
def dkwX6_trouble_0 : List UInt8 := [42, 3, 181, 0, 1, 42, 180, 0, 7, 172]
abbrev dktX6_trouble_0 : List UInt8 := dkwX6_trouble_0 ++ []
theorem dksX6_trouble_0 : cX6_trouble.data.toList.drop 0 = dktX6_trouble_0 := by decide +kernel
theorem dX6_trouble_0 : decode cX6_trouble 0 = .ok (.aload_n 0, 1) := dk_42 (dk_at dksX6_trouble_0 0 rfl rfl)
theorem dX6_trouble_1 : decode cX6_trouble 1 = .ok (.iconst 0, 1) := dk_3 (dk_at dksX6_trouble_0 1 rfl rfl)
theorem dX6_trouble_2 : decode cX6_trouble 2 = .ok (.putfield 1, 3) := dk_181 0 1 (dk_at dksX6_trouble_0 2 rfl rfl)
theorem dX6_trouble_5 : decode cX6_trouble 5 = .ok (.aload_n 0, 1) := dk_42 (dk_at dksX6_trouble_0 5 rfl rfl)
theorem dX6_trouble_6 : decode cX6_trouble 6 = .ok (.getfield 7, 3) := dk_180 0 7 (dk_at dksX6_trouble_0 6 rfl rfl)
theorem dX6_trouble_9 : decode cX6_trouble 9 = .ok (.ireturn, 1) := dk_172 (dk_at dksX6_trouble_0 9 rfl rfl)
theorem q61 : (Jvm.Cond.initialized "SledHouseModel") ∈ lw_all := lw_g (lw_at lw_m1 10 rfl) rfl
theorem q1121 : (Jvm.Cond.instantiable "SledHouseModel" (40 : Nat)) ∈ lw_all := lw_g (lw_at lw_m5 110 rfl) rfl
theorem q1123 : (Jvm.Cond.instanceMethod ({ cls := "SledHouseModel", name := "<init>", desc := "()V" } : Jvm.MethodName)) ∈ lw_all := lw_g (lw_at lw_m5 112 rfl) rfl
theorem q1124 : (Jvm.Cond.code ({ cls := "SledHouseModel", name := "<init>", desc := "()V" } : Jvm.MethodName) prog_16_method_7_code (2 : Nat) (Option.none : Option Jvm.ClassFile.FieldType)) ∈ lw_all := lw_g (lw_at lw_m5 113 rfl) rfl
theorem q1125 : (Jvm.Cond.methodLink "SledHouseModel" (13 : Nat) ({ cls := "java/lang/Object", name := "<init>", desc := "()V" } : Jvm.MethodName)) ∈ lw_all := lw_g (lw_at lw_m5 114 rfl) rfl
theorem q1126 : (Jvm.Cond.classLink "SledHouseModel" (32 : Nat) "SledHouseModel$Team") ∈ lw_all := lw_g (lw_at lw_m5 115 rfl) rfl
theorem q1129 : (Jvm.Cond.methodLinkNest "SledHouseModel" (53 : Nat) ({ cls := "SledHouseModel$Team", name := "<init>", desc := "()V" } : Jvm.MethodName) "SledHouseModel") ∈ lw_tbl := lw_at lw_m5 118 rfl
theorem q1134 : (Jvm.Cond.fieldLinkNest "SledHouseModel" (361 : Nat) "SledHouseModel$Team" "dogs" "I" "SledHouseModel") ∈ lw_tbl := lw_at lw_m5 123 rfl
theorem q1136 : (Jvm.Cond.fieldLinkNest "SledHouseModel" (327 : Nat) "SledHouseModel$Team" "load" "I" "SledHouseModel") ∈ lw_tbl := lw_at lw_m5 125 rfl
theorem q1138 : (Jvm.Cond.fieldLinkNest "SledHouseModel" (322 : Nat) "SledHouseModel$Team" "meals" "I" "SledHouseModel") ∈ lw_tbl := lw_at lw_m5 127 rfl
theorem q1140 : (Jvm.Cond.fieldLinkNest "SledHouseModel" (333 : Nat) "SledHouseModel$Team" "start" "I" "SledHouseModel") ∈ lw_tbl := lw_at lw_m5 129 rfl
theorem q1142 : (Jvm.Cond.fieldLinkNest "SledHouseModel" (292 : Nat) "SledHouseModel$Team" "plan" "I" "SledHouseModel") ∈ lw_tbl := lw_at lw_m5 131 rfl
theorem q1144 : (Jvm.Cond.fieldLinkNest "SledHouseModel" (289 : Nat) "SledHouseModel$Team" "status" "I" "SledHouseModel") ∈ lw_tbl := lw_at lw_m5 133 rfl
theorem q1146 : (Jvm.Cond.fieldLinkNest "SledHouseModel" (307 : Nat) "SledHouseModel$Team" "leg" "I" "SledHouseModel") ∈ lw_tbl := lw_at lw_m5 135 rfl
theorem q1148 : (Jvm.Cond.fieldLinkNest "SledHouseModel" (304 : Nat) "SledHouseModel$Team" "far" "I" "SledHouseModel") ∈ lw_tbl := lw_at lw_m5 137 rfl
theorem q1150 : (Jvm.Cond.fieldLinkNest "SledHouseModel" (310 : Nat) "SledHouseModel$Team" "run" "I" "SledHouseModel") ∈ lw_tbl := lw_at lw_m5 139 rfl
theorem q1152 : (Jvm.Cond.fieldLinkNest "SledHouseModel" (312 : Nat) "SledHouseModel$Team" "rest" "I" "SledHouseModel") ∈ lw_tbl := lw_at lw_m5 141 rfl
theorem q1154 : (Jvm.Cond.fieldLinkNest "SledHouseModel" (342 : Nat) "SledHouseModel$Team" "did" "I" "SledHouseModel") ∈ lw_tbl := lw_at lw_m5 143 rfl
theorem q1156 : (Jvm.Cond.fieldLinkNest "SledHouseModel" (385 : Nat) "SledHouseModel$Team" "signs" "I" "SledHouseModel") ∈ lw_tbl := lw_at lw_m5 145 rfl
theorem q1158 : (Jvm.Cond.fieldLinkNest "SledHouseModel" (295 : Nat) "SledHouseModel$Team" "gaps" "I" "SledHouseModel") ∈ lw_tbl := lw_at lw_m5 147 rfl
theorem q1160 : (Jvm.Cond.fieldLinkNest "SledHouseModel" (369 : Nat) "SledHouseModel$Team" "ownLoad" "I" "SledHouseModel") ∈ lw_tbl := lw_at lw_m5 149 rfl
theorem q1162 : (Jvm.Cond.fieldLinkNest "SledHouseModel" (415 : Nat) "SledHouseModel$Team" "ownMeals" "I" "SledHouseModel") ∈ lw_tbl := lw_at lw_m5 151 rfl
theorem q1164 : (Jvm.Cond.fieldLinkNest "SledHouseModel" (314 : Nat) "SledHouseModel$Team" "strength" "[I" "SledHouseModel") ∈ lw_tbl := lw_at lw_m5 153 rfl
theorem q1166 : (Jvm.Cond.fieldLinkNest "SledHouseModel" (352 : Nat) "SledHouseModel$Team" "state" "[I" "SledHouseModel") ∈ lw_tbl := lw_at lw_m5 155 rfl
theorem q1168 : (Jvm.Cond.fieldLinkNest "SledHouseModel" (355 : Nat) "SledHouseModel$Team" "leftAt" "[I" "SledHouseModel") ∈ lw_tbl := lw_at lw_m5 157 rfl
theorem q1170 : (Jvm.Cond.fieldLinkNest "SledHouseModel" (335 : Nat) "SledHouseModel$Team" "came" "[I" "SledHouseModel") ∈ lw_tbl := lw_at lw_m5 159 rfl
theorem q1172 : (Jvm.Cond.fieldLinkNest "SledHouseModel" (358 : Nat) "SledHouseModel$Team" "went" "[I" "SledHouseModel") ∈ lw_tbl := lw_at lw_m5 161 rfl
theorem q1174 : (Jvm.Cond.fieldLinkNest "SledHouseModel" (382 : Nat) "SledHouseModel$Team" "signStep" "[I" "SledHouseModel") ∈ lw_tbl := lw_at lw_m5 163 rfl
theorem q1176 : (Jvm.Cond.fieldLinkNest "SledHouseModel" (388 : Nat) "SledHouseModel$Team" "signWay" "[I" "SledHouseModel") ∈ lw_tbl := lw_at lw_m5 165 rfl
theorem q1178 : (Jvm.Cond.fieldLinkNest "SledHouseModel" (298 : Nat) "SledHouseModel$Team" "gapFrom" "[I" "SledHouseModel") ∈ lw_tbl := lw_at lw_m5 167 rfl
theorem q1180 : (Jvm.Cond.fieldLinkNest "SledHouseModel" (301 : Nat) "SledHouseModel$Team" "gapTo" "[I" "SledHouseModel") ∈ lw_tbl := lw_at lw_m5 169 rfl
theorem q1230 : (Jvm.Cond.classLink "SledHouseModel" (58 : Nat) "SledHouseModel$Stop") ∈ lw_all := lw_g (lw_at lw_m5 219 rfl) rfl
theorem q1239 : (Jvm.Cond.methodLink "SledHouseModel" (60 : Nat) ({ cls := "SledHouseModel$Stop", name := "<init>", desc := "()V" } : Jvm.MethodName)) ∈ lw_all := lw_g (lw_at lw_m5 228 rfl) rfl
theorem q1243 : (Jvm.Cond.fieldLinkNest "SledHouseModel" (132 : Nat) "SledHouseModel$Stop" "kind" "I" "SledHouseModel") ∈ lw_tbl := lw_at lw_m5 232 rfl
theorem q1244 : (Jvm.Cond.fieldLinkNest "SledHouseModel" (138 : Nat) "SledHouseModel$Stop" "place" "I" "SledHouseModel") ∈ lw_tbl := lw_at lw_m5 233 rfl
theorem q1251 : (Jvm.Cond.fieldLink "SledHouseModel" (1 : Nat) "SledHouseModel" "thrown" "I") ∈ lw_all := lw_g (lw_at lw_m6 0 rfl) rfl
theorem q1252 : (Jvm.Cond.fieldLink "SledHouseModel" (7 : Nat) "SledHouseModel" "trouble" "I") ∈ lw_all := lw_g (lw_at lw_m6 1 rfl) rfl
theorem q1253 : (Jvm.Cond.fieldLink "SledHouseModel" (10 : Nat) "SledHouseModel" "where" "I") ∈ lw_all := lw_g (lw_at lw_m6 2 rfl) rfl
theorem q1254 : (Jvm.Cond.fieldLink "SledHouseModel" (224 : Nat) "SledHouseModel" "fault" "I") ∈ lw_all := lw_g (lw_at lw_m6 3 rfl) rfl
theorem q1255 : (Jvm.Cond.fieldLink "SledHouseModel" (91 : Nat) "SledHouseModel" "legs" "I") ∈ lw_all := lw_g (lw_at lw_m6 4 rfl) rfl
theorem q1256 : (Jvm.Cond.fieldLink "SledHouseModel" (94 : Nat) "SledHouseModel" "teams" "I") ∈ lw_all := lw_g (lw_at lw_m6 5 rfl) rfl
theorem q1257 : (Jvm.Cond.fieldLink "SledHouseModel" (100 : Nat) "SledHouseModel" "steps" "I") ∈ lw_all := lw_g (lw_at lw_m6 6 rfl) rfl
theorem q1258 : (Jvm.Cond.fieldLink "SledHouseModel" (19 : Nat) "SledHouseModel" "each" "I") ∈ lw_all := lw_g (lw_at lw_m6 7 rfl) rfl
theorem q1259 : (Jvm.Cond.fieldLink "SledHouseModel" (22 : Nat) "SledHouseModel" "length" "[I") ∈ lw_all := lw_g (lw_at lw_m6 8 rfl) rfl
theorem q1260 : (Jvm.Cond.fieldLink "SledHouseModel" (26 : Nat) "SledHouseModel" "hardness" "[I") ∈ lw_all := lw_g (lw_at lw_m6 9 rfl) rfl
theorem q1261 : (Jvm.Cond.fieldLink "SledHouseModel" (29 : Nat) "SledHouseModel" "cold" "[I") ∈ lw_all := lw_g (lw_at lw_m6 10 rfl) rfl
theorem q1262 : (Jvm.Cond.fieldLink "SledHouseModel" (34 : Nat) "SledHouseModel" "team" "[LSledHouseModel$Team;") ∈ lw_all := lw_g (lw_at lw_m6 11 rfl) rfl
theorem q1263 : (Jvm.Cond.fieldLink "SledHouseModel" (38 : Nat) "SledHouseModel" "keptLegs" "I") ∈ lw_all := lw_g (lw_at lw_m6 12 rfl) rfl
theorem q1264 : (Jvm.Cond.fieldLink "SledHouseModel" (97 : Nat) "SledHouseModel" "keptTeams" "I") ∈ lw_all := lw_g (lw_at lw_m6 13 rfl) rfl
theorem q1265 : (Jvm.Cond.fieldLink "SledHouseModel" (103 : Nat) "SledHouseModel" "keptSteps" "I") ∈ lw_all := lw_g (lw_at lw_m6 14 rfl) rfl
theorem q1266 : (Jvm.Cond.fieldLink "SledHouseModel" (106 : Nat) "SledHouseModel" "keptEach" "I") ∈ lw_all := lw_g (lw_at lw_m6 15 rfl) rfl
theorem q1267 : (Jvm.Cond.fieldLink "SledHouseModel" (41 : Nat) "SledHouseModel" "keptLength" "[I") ∈ lw_all := lw_g (lw_at lw_m6 16 rfl) rfl
theorem q1268 : (Jvm.Cond.fieldLink "SledHouseModel" (44 : Nat) "SledHouseModel" "keptHardness" "[I") ∈ lw_all := lw_g (lw_at lw_m6 17 rfl) rfl
theorem q1269 : (Jvm.Cond.fieldLink "SledHouseModel" (47 : Nat) "SledHouseModel" "keptCold" "[I") ∈ lw_all := lw_g (lw_at lw_m6 18 rfl) rfl
theorem q1270 : (Jvm.Cond.fieldLink "SledHouseModel" (50 : Nat) "SledHouseModel" "keptTeam" "[LSledHouseModel$Team;") ∈ lw_all := lw_g (lw_at lw_m6 19 rfl) rfl
theorem q1271 : (Jvm.Cond.fieldLink "SledHouseModel" (54 : Nat) "SledHouseModel" "other" "LSledHouseModel$Team;") ∈ lw_all := lw_g (lw_at lw_m6 20 rfl) rfl
theorem q1272 : (Jvm.Cond.fieldLink "SledHouseModel" (61 : Nat) "SledHouseModel" "stop" "LSledHouseModel$Stop;") ∈ lw_all := lw_g (lw_at lw_m6 21 rfl) rfl
theorem q1273 : (Jvm.Cond.fieldLink "SledHouseModel" (65 : Nat) "SledHouseModel" "tape" "[B") ∈ lw_all := lw_g (lw_at lw_m6 22 rfl) rfl
theorem q1274 : (Jvm.Cond.fieldLink "SledHouseModel" (221 : Nat) "SledHouseModel" "taped" "I") ∈ lw_all := lw_g (lw_at lw_m6 23 rfl) rfl
theorem q1275 : (Jvm.Cond.fieldLink "SledHouseModel" (139 : Nat) "SledHouseModel" "size" "I") ∈ lw_all := lw_g (lw_at lw_m6 24 rfl) rfl
theorem q1276 : (Jvm.Cond.fieldLink "SledHouseModel" (153 : Nat) "SledHouseModel" "at" "I") ∈ lw_all := lw_g (lw_at lw_m6 25 rfl) rfl
theorem q1277 : (Jvm.Cond.fieldLink "SledHouseModel" (159 : Nat) "SledHouseModel" "sort" "I") ∈ lw_all := lw_g (lw_at lw_m6 26 rfl) rfl
theorem q1278 : (Jvm.Cond.fieldLink "SledHouseModel" (135 : Nat) "SledHouseModel" "place" "I") ∈ lw_all := lw_g (lw_at lw_m6 27 rfl) rfl
theorem q1279 : (Jvm.Cond.fieldLink "SledHouseModel" (162 : Nat) "SledHouseModel" "sign" "I") ∈ lw_all := lw_g (lw_at lw_m6 28 rfl) rfl
theorem q1280 : (Jvm.Cond.fieldLink "SledHouseModel" (175 : Nat) "SledHouseModel" "number" "I") ∈ lw_all := lw_g (lw_at lw_m6 29 rfl) rfl
theorem q1281 : (Jvm.Cond.fieldLink "SledHouseModel" (168 : Nat) "SledHouseModel" "word" "J") ∈ lw_all := lw_g (lw_at lw_m6 30 rfl) rfl
theorem q1282 : (Jvm.Cond.fieldLink "SledHouseModel" (227 : Nat) "SledHouseModel" "plans" "I") ∈ lw_all := lw_g (lw_at lw_m6 31 rfl) rfl
theorem q1283 : (Jvm.Cond.fieldLink "SledHouseModel" (69 : Nat) "SledHouseModel" "rules" "[I") ∈ lw_all := lw_g (lw_at lw_m6 32 rfl) rfl
theorem q1284 : (Jvm.Cond.fieldLink "SledHouseModel" (72 : Nat) "SledHouseModel" "act" "[I") ∈ lw_all := lw_g (lw_at lw_m6 33 rfl) rfl
theorem q1285 : (Jvm.Cond.fieldLink "SledHouseModel" (75 : Nat) "SledHouseModel" "tests" "[I") ∈ lw_all := lw_g (lw_at lw_m6 34 rfl) rfl
theorem q1286 : (Jvm.Cond.fieldLink "SledHouseModel" (78 : Nat) "SledHouseModel" "testName" "[I") ∈ lw_all := lw_g (lw_at lw_m6 35 rfl) rfl
theorem q1287 : (Jvm.Cond.fieldLink "SledHouseModel" (81 : Nat) "SledHouseModel" "testNumber" "[I") ∈ lw_all := lw_g (lw_at lw_m6 36 rfl) rfl
theorem q1288 : (Jvm.Cond.fieldLink "SledHouseModel" (84 : Nat) "SledHouseModel" "testLess" "[Z") ∈ lw_all := lw_g (lw_at lw_m6 37 rfl) rfl
theorem q1289 : (Jvm.Cond.fieldLink "SledHouseModel" (250 : Nat) "SledHouseModel" "laws" "I") ∈ lw_all := lw_g (lw_at lw_m6 38 rfl) rfl
theorem q1290 : (Jvm.Cond.fieldLink "SledHouseModel" (88 : Nat) "SledHouseModel" "law" "[I") ∈ lw_all := lw_g (lw_at lw_m6 39 rfl) rfl
theorem q1291 : (Jvm.Cond.lays "SledHouseModel" "SledHouseModel" "thrown" "I") ∈ lw_all := lw_g (lw_at lw_m6 40 rfl) rfl
theorem q1292 : (Jvm.Cond.soleField "SledHouseModel" "thrown") ∈ lw_all := lw_g (lw_at lw_m6 41 rfl) rfl
theorem q1293 : (Jvm.Cond.lays "SledHouseModel" "SledHouseModel" "trouble" "I") ∈ lw_all := lw_g (lw_at lw_m6 42 rfl) rfl
theorem q1294 : (Jvm.Cond.soleField "SledHouseModel" "trouble") ∈ lw_all := lw_g (lw_at lw_m6 43 rfl) rfl
theorem q1295 : (Jvm.Cond.lays "SledHouseModel" "SledHouseModel" "where" "I") ∈ lw_all := lw_g (lw_at lw_m6 44 rfl) rfl
theorem q1296 : (Jvm.Cond.soleField "SledHouseModel" "where") ∈ lw_all := lw_g (lw_at lw_m6 45 rfl) rfl
theorem q1297 : (Jvm.Cond.lays "SledHouseModel" "SledHouseModel" "fault" "I") ∈ lw_all := lw_g (lw_at lw_m6 46 rfl) rfl
theorem q1298 : (Jvm.Cond.soleField "SledHouseModel" "fault") ∈ lw_all := lw_g (lw_at lw_m6 47 rfl) rfl
theorem q1299 : (Jvm.Cond.lays "SledHouseModel" "SledHouseModel" "legs" "I") ∈ lw_all := lw_g (lw_at lw_m6 48 rfl) rfl
theorem q1300 : (Jvm.Cond.soleField "SledHouseModel" "legs") ∈ lw_all := lw_g (lw_at lw_m6 49 rfl) rfl
theorem q1301 : (Jvm.Cond.lays "SledHouseModel" "SledHouseModel" "teams" "I") ∈ lw_all := lw_g (lw_at lw_m6 50 rfl) rfl
theorem q1302 : (Jvm.Cond.soleField "SledHouseModel" "teams") ∈ lw_all := lw_g (lw_at lw_m6 51 rfl) rfl
theorem q1303 : (Jvm.Cond.lays "SledHouseModel" "SledHouseModel" "steps" "I") ∈ lw_all := lw_g (lw_at lw_m6 52 rfl) rfl
theorem q1304 : (Jvm.Cond.soleField "SledHouseModel" "steps") ∈ lw_all := lw_g (lw_at lw_m6 53 rfl) rfl
theorem q1305 : (Jvm.Cond.lays "SledHouseModel" "SledHouseModel" "each" "I") ∈ lw_all := lw_g (lw_at lw_m6 54 rfl) rfl
theorem q1306 : (Jvm.Cond.soleField "SledHouseModel" "each") ∈ lw_all := lw_g (lw_at lw_m6 55 rfl) rfl
theorem q1307 : (Jvm.Cond.laysFinal "SledHouseModel" "SledHouseModel" "length" "[I") ∈ lw_all := lw_g (lw_at lw_m6 56 rfl) rfl
theorem q1308 : (Jvm.Cond.soleField "SledHouseModel" "length") ∈ lw_all := lw_g (lw_at lw_m6 57 rfl) rfl
theorem q1309 : (Jvm.Cond.laysFinal "SledHouseModel" "SledHouseModel" "hardness" "[I") ∈ lw_all := lw_g (lw_at lw_m6 58 rfl) rfl
theorem q1310 : (Jvm.Cond.soleField "SledHouseModel" "hardness") ∈ lw_all := lw_g (lw_at lw_m6 59 rfl) rfl
theorem q1311 : (Jvm.Cond.laysFinal "SledHouseModel" "SledHouseModel" "cold" "[I") ∈ lw_all := lw_g (lw_at lw_m6 60 rfl) rfl
theorem q1312 : (Jvm.Cond.soleField "SledHouseModel" "cold") ∈ lw_all := lw_g (lw_at lw_m6 61 rfl) rfl
theorem q1313 : (Jvm.Cond.laysFinal "SledHouseModel" "SledHouseModel" "team" "[LSledHouseModel$Team;") ∈ lw_all := lw_g (lw_at lw_m6 62 rfl) rfl
theorem q1314 : (Jvm.Cond.soleField "SledHouseModel" "team") ∈ lw_all := lw_g (lw_at lw_m6 63 rfl) rfl
theorem q1315 : (Jvm.Cond.lays "SledHouseModel" "SledHouseModel" "keptLegs" "I") ∈ lw_all := lw_g (lw_at lw_m6 64 rfl) rfl
theorem q1316 : (Jvm.Cond.soleField "SledHouseModel" "keptLegs") ∈ lw_all := lw_g (lw_at lw_m6 65 rfl) rfl
theorem q1317 : (Jvm.Cond.lays "SledHouseModel" "SledHouseModel" "keptTeams" "I") ∈ lw_all := lw_g (lw_at lw_m6 66 rfl) rfl
theorem q1318 : (Jvm.Cond.soleField "SledHouseModel" "keptTeams") ∈ lw_all := lw_g (lw_at lw_m6 67 rfl) rfl
theorem q1319 : (Jvm.Cond.lays "SledHouseModel" "SledHouseModel" "keptSteps" "I") ∈ lw_all := lw_g (lw_at lw_m6 68 rfl) rfl
theorem q1320 : (Jvm.Cond.soleField "SledHouseModel" "keptSteps") ∈ lw_all := lw_g (lw_at lw_m6 69 rfl) rfl
theorem q1321 : (Jvm.Cond.lays "SledHouseModel" "SledHouseModel" "keptEach" "I") ∈ lw_all := lw_g (lw_at lw_m6 70 rfl) rfl
theorem q1322 : (Jvm.Cond.soleField "SledHouseModel" "keptEach") ∈ lw_all := lw_g (lw_at lw_m6 71 rfl) rfl
theorem q1323 : (Jvm.Cond.laysFinal "SledHouseModel" "SledHouseModel" "keptLength" "[I") ∈ lw_all := lw_g (lw_at lw_m6 72 rfl) rfl
theorem q1324 : (Jvm.Cond.soleField "SledHouseModel" "keptLength") ∈ lw_all := lw_g (lw_at lw_m6 73 rfl) rfl
theorem q1325 : (Jvm.Cond.laysFinal "SledHouseModel" "SledHouseModel" "keptHardness" "[I") ∈ lw_all := lw_g (lw_at lw_m6 74 rfl) rfl
theorem q1326 : (Jvm.Cond.soleField "SledHouseModel" "keptHardness") ∈ lw_all := lw_g (lw_at lw_m6 75 rfl) rfl
theorem q1327 : (Jvm.Cond.laysFinal "SledHouseModel" "SledHouseModel" "keptCold" "[I") ∈ lw_all := lw_g (lw_at lw_m6 76 rfl) rfl
theorem q1328 : (Jvm.Cond.soleField "SledHouseModel" "keptCold") ∈ lw_all := lw_g (lw_at lw_m6 77 rfl) rfl
theorem q1329 : (Jvm.Cond.laysFinal "SledHouseModel" "SledHouseModel" "keptTeam" "[LSledHouseModel$Team;") ∈ lw_all := lw_g (lw_at lw_m6 78 rfl) rfl
theorem q1330 : (Jvm.Cond.soleField "SledHouseModel" "keptTeam") ∈ lw_all := lw_g (lw_at lw_m6 79 rfl) rfl
theorem q1331 : (Jvm.Cond.laysFinal "SledHouseModel" "SledHouseModel" "other" "LSledHouseModel$Team;") ∈ lw_all := lw_g (lw_at lw_m6 80 rfl) rfl
theorem q1332 : (Jvm.Cond.soleField "SledHouseModel" "other") ∈ lw_all := lw_g (lw_at lw_m6 81 rfl) rfl
theorem q1333 : (Jvm.Cond.laysFinal "SledHouseModel" "SledHouseModel" "stop" "LSledHouseModel$Stop;") ∈ lw_all := lw_g (lw_at lw_m6 82 rfl) rfl
theorem q1334 : (Jvm.Cond.soleField "SledHouseModel" "stop") ∈ lw_all := lw_g (lw_at lw_m6 83 rfl) rfl
theorem q1335 : (Jvm.Cond.laysFinal "SledHouseModel" "SledHouseModel" "tape" "[B") ∈ lw_all := lw_g (lw_at lw_m6 84 rfl) rfl
theorem q1336 : (Jvm.Cond.soleField "SledHouseModel" "tape") ∈ lw_all := lw_g (lw_at lw_m6 85 rfl) rfl
theorem q1337 : (Jvm.Cond.lays "SledHouseModel" "SledHouseModel" "taped" "I") ∈ lw_all := lw_g (lw_at lw_m6 86 rfl) rfl
theorem q1338 : (Jvm.Cond.soleField "SledHouseModel" "taped") ∈ lw_all := lw_g (lw_at lw_m6 87 rfl) rfl
theorem q1339 : (Jvm.Cond.lays "SledHouseModel" "SledHouseModel" "size" "I") ∈ lw_all := lw_g (lw_at lw_m6 88 rfl) rfl
theorem q1340 : (Jvm.Cond.soleField "SledHouseModel" "size") ∈ lw_all := lw_g (lw_at lw_m6 89 rfl) rfl
theorem q1341 : (Jvm.Cond.lays "SledHouseModel" "SledHouseModel" "at" "I") ∈ lw_all := lw_g (lw_at lw_m6 90 rfl) rfl
theorem q1342 : (Jvm.Cond.soleField "SledHouseModel" "at") ∈ lw_all := lw_g (lw_at lw_m6 91 rfl) rfl
theorem q1343 : (Jvm.Cond.lays "SledHouseModel" "SledHouseModel" "sort" "I") ∈ lw_all := lw_g (lw_at lw_m6 92 rfl) rfl
theorem q1344 : (Jvm.Cond.soleField "SledHouseModel" "sort") ∈ lw_all := lw_g (lw_at lw_m6 93 rfl) rfl
theorem q1345 : (Jvm.Cond.lays "SledHouseModel" "SledHouseModel" "place" "I") ∈ lw_all := lw_g (lw_at lw_m6 94 rfl) rfl
theorem q1346 : (Jvm.Cond.soleField "SledHouseModel" "place") ∈ lw_all := lw_g (lw_at lw_m6 95 rfl) rfl
theorem q1347 : (Jvm.Cond.lays "SledHouseModel" "SledHouseModel" "sign" "I") ∈ lw_all := lw_g (lw_at lw_m6 96 rfl) rfl
theorem q1348 : (Jvm.Cond.soleField "SledHouseModel" "sign") ∈ lw_all := lw_g (lw_at lw_m6 97 rfl) rfl
theorem q1349 : (Jvm.Cond.lays "SledHouseModel" "SledHouseModel" "number" "I") ∈ lw_all := lw_g (lw_at lw_m6 98 rfl) rfl
theorem q1350 : (Jvm.Cond.soleField "SledHouseModel" "number") ∈ lw_all := lw_g (lw_at lw_m6 99 rfl) rfl
theorem q1351 : (Jvm.Cond.lays "SledHouseModel" "SledHouseModel" "word" "J") ∈ lw_all := lw_g (lw_at lw_m6 100 rfl) rfl
theorem q1352 : (Jvm.Cond.soleField "SledHouseModel" "word") ∈ lw_all := lw_g (lw_at lw_m6 101 rfl) rfl
theorem q1353 : (Jvm.Cond.lays "SledHouseModel" "SledHouseModel" "plans" "I") ∈ lw_all := lw_g (lw_at lw_m6 102 rfl) rfl
theorem q1354 : (Jvm.Cond.soleField "SledHouseModel" "plans") ∈ lw_all := lw_g (lw_at lw_m6 103 rfl) rfl
theorem q1355 : (Jvm.Cond.laysFinal "SledHouseModel" "SledHouseModel" "rules" "[I") ∈ lw_all := lw_g (lw_at lw_m6 104 rfl) rfl
theorem q1356 : (Jvm.Cond.soleField "SledHouseModel" "rules") ∈ lw_all := lw_g (lw_at lw_m6 105 rfl) rfl
theorem q1357 : (Jvm.Cond.laysFinal "SledHouseModel" "SledHouseModel" "act" "[I") ∈ lw_all := lw_g (lw_at lw_m6 106 rfl) rfl
theorem q1358 : (Jvm.Cond.soleField "SledHouseModel" "act") ∈ lw_all := lw_g (lw_at lw_m6 107 rfl) rfl
theorem q1359 : (Jvm.Cond.laysFinal "SledHouseModel" "SledHouseModel" "tests" "[I") ∈ lw_all := lw_g (lw_at lw_m6 108 rfl) rfl
theorem q1360 : (Jvm.Cond.soleField "SledHouseModel" "tests") ∈ lw_all := lw_g (lw_at lw_m6 109 rfl) rfl
theorem q1361 : (Jvm.Cond.laysFinal "SledHouseModel" "SledHouseModel" "testName" "[I") ∈ lw_all := lw_g (lw_at lw_m6 110 rfl) rfl
theorem q1362 : (Jvm.Cond.soleField "SledHouseModel" "testName") ∈ lw_all := lw_g (lw_at lw_m6 111 rfl) rfl
theorem q1363 : (Jvm.Cond.laysFinal "SledHouseModel" "SledHouseModel" "testNumber" "[I") ∈ lw_all := lw_g (lw_at lw_m6 112 rfl) rfl
theorem q1364 : (Jvm.Cond.soleField "SledHouseModel" "testNumber") ∈ lw_all := lw_g (lw_at lw_m6 113 rfl) rfl
theorem q1365 : (Jvm.Cond.laysFinal "SledHouseModel" "SledHouseModel" "testLess" "[Z") ∈ lw_all := lw_g (lw_at lw_m6 114 rfl) rfl
theorem q1366 : (Jvm.Cond.soleField "SledHouseModel" "testLess") ∈ lw_all := lw_g (lw_at lw_m6 115 rfl) rfl
theorem q1367 : (Jvm.Cond.lays "SledHouseModel" "SledHouseModel" "laws" "I") ∈ lw_all := lw_g (lw_at lw_m6 116 rfl) rfl
theorem q1368 : (Jvm.Cond.soleField "SledHouseModel" "laws") ∈ lw_all := lw_g (lw_at lw_m6 117 rfl) rfl
theorem q1369 : (Jvm.Cond.laysFinal "SledHouseModel" "SledHouseModel" "law" "[I") ∈ lw_all := lw_g (lw_at lw_m6 118 rfl) rfl
theorem q1370 : (Jvm.Cond.soleField "SledHouseModel" "law") ∈ lw_all := lw_g (lw_at lw_m6 119 rfl) rfl
theorem q1371 : (Jvm.Cond.superclass "SledHouseModel" "java/lang/Object") ∈ lw_all := lw_g (lw_at lw_m6 120 rfl) rfl
theorem q1374 : (Jvm.Cond.instanceMethod ({ cls := "SledHouseModel", name := "keep", desc := "()Z" } : Jvm.MethodName)) ∈ lw_all := lw_g (lw_at lw_m6 123 rfl) rfl
theorem q1375 : (Jvm.Cond.selects "SledHouseModel" ({ cls := "SledHouseModel", name := "keep", desc := "()Z" } : Jvm.MethodName) ({ cls := "SledHouseModel", name := "keep", desc := "()Z" } : Jvm.MethodName)) ∈ lw_all := lw_g (lw_at lw_m6 124 rfl) rfl
theorem q1376 : (Jvm.Cond.code ({ cls := "SledHouseModel", name := "keep", desc := "()Z" } : Jvm.MethodName) prog_16_method_8_code (2 : Nat) (Option.some Jvm.ClassFile.FieldType.boolean)) ∈ lw_all := lw_g (lw_at lw_m6 125 rfl) rfl
theorem q1377 : (Jvm.Cond.methodLink "SledHouseModel" (109 : Nat) ({ cls := "SledHouseModel$Team", name := "become", desc := "(LSledHouseModel$Team;)V" } : Jvm.MethodName)) ∈ lw_all := lw_g (lw_at lw_m6 126 rfl) rfl
theorem q1386 : (Jvm.Cond.instanceMethod ({ cls := "SledHouseModel", name := "back", desc := "()Z" } : Jvm.MethodName)) ∈ lw_all := lw_g (lw_at lw_m6 135 rfl) rfl
theorem q1387 : (Jvm.Cond.selects "SledHouseModel" ({ cls := "SledHouseModel", name := "back", desc := "()Z" } : Jvm.MethodName) ({ cls := "SledHouseModel", name := "back", desc := "()Z" } : Jvm.MethodName)) ∈ lw_all := lw_g (lw_at lw_m6 136 rfl) rfl
theorem q1388 : (Jvm.Cond.code ({ cls := "SledHouseModel", name := "back", desc := "()Z" } : Jvm.MethodName) prog_16_method_9_code (2 : Nat) (Option.some Jvm.ClassFile.FieldType.boolean)) ∈ lw_all := lw_g (lw_at lw_m6 137 rfl) rfl
theorem q1389 : (Jvm.Cond.methodLink "SledHouseModel" (113 : Nat) ({ cls := "SledHouseModel", name := "denied", desc := "(I)Z" } : Jvm.MethodName)) ∈ lw_all := lw_g (lw_at lw_m6 138 rfl) rfl
theorem q1390 : (Jvm.Cond.privateMethod ({ cls := "SledHouseModel", name := "denied", desc := "(I)Z" } : Jvm.MethodName)) ∈ lw_tbl := lw_at lw_m6 139 rfl
theorem q1391 : (Jvm.Cond.instanceMethod ({ cls := "SledHouseModel", name := "denied", desc := "(I)Z" } : Jvm.MethodName)) ∈ lw_all := lw_g (lw_at lw_m6 140 rfl) rfl
theorem q1392 : (Jvm.Cond.code ({ cls := "SledHouseModel", name := "denied", desc := "(I)Z" } : Jvm.MethodName) prog_16_method_4_code (2 : Nat) (Option.some Jvm.ClassFile.FieldType.boolean)) ∈ lw_all := lw_g (lw_at lw_m6 141 rfl) rfl
theorem q1393 : (Jvm.Cond.methodLink "SledHouseModel" (117 : Nat) ({ cls := "SledHouseModel", name := "granted", desc := "()Z" } : Jvm.MethodName)) ∈ lw_all := lw_g (lw_at lw_m6 142 rfl) rfl
theorem q1394 : (Jvm.Cond.privateMethod ({ cls := "SledHouseModel", name := "granted", desc := "()Z" } : Jvm.MethodName)) ∈ lw_tbl := lw_at lw_m6 143 rfl
theorem q1395 : (Jvm.Cond.instanceMethod ({ cls := "SledHouseModel", name := "granted", desc := "()Z" } : Jvm.MethodName)) ∈ lw_all := lw_g (lw_at lw_m6 144 rfl) rfl
theorem q1396 : (Jvm.Cond.code ({ cls := "SledHouseModel", name := "granted", desc := "()Z" } : Jvm.MethodName) prog_16_method_5_code (1 : Nat) (Option.some Jvm.ClassFile.FieldType.boolean)) ∈ lw_all := lw_g (lw_at lw_m6 145 rfl) rfl
theorem q1398 : (Jvm.Cond.instanceMethod ({ cls := "SledHouseModel", name := "leg", desc := "(II)I" } : Jvm.MethodName)) ∈ lw_all := lw_g (lw_at lw_m6 147 rfl) rfl
theorem q1399 : (Jvm.Cond.selects "SledHouseModel" ({ cls := "SledHouseModel", name := "leg", desc := "(II)I" } : Jvm.MethodName) ({ cls := "SledHouseModel", name := "leg", desc := "(II)I" } : Jvm.MethodName)) ∈ lw_all := lw_g (lw_at lw_m6 148 rfl) rfl
theorem q1400 : (Jvm.Cond.code ({ cls := "SledHouseModel", name := "leg", desc := "(II)I" } : Jvm.MethodName) prog_16_method_10_code (3 : Nat) (Option.some Jvm.ClassFile.FieldType.int)) ∈ lw_all := lw_g (lw_at lw_m6 149 rfl) rfl
theorem q1401 : (Jvm.Cond.methodLink "SledHouseModel" (121 : Nat) ({ cls := "SledHouseModel", name := "refused", desc := "(I)I" } : Jvm.MethodName)) ∈ lw_all := lw_g (lw_at lw_m6 150 rfl) rfl
theorem q1402 : (Jvm.Cond.privateMethod ({ cls := "SledHouseModel", name := "refused", desc := "(I)I" } : Jvm.MethodName)) ∈ lw_tbl := lw_at lw_m6 151 rfl
theorem q1403 : (Jvm.Cond.instanceMethod ({ cls := "SledHouseModel", name := "refused", desc := "(I)I" } : Jvm.MethodName)) ∈ lw_all := lw_g (lw_at lw_m6 152 rfl) rfl
theorem q1404 : (Jvm.Cond.code ({ cls := "SledHouseModel", name := "refused", desc := "(I)I" } : Jvm.MethodName) prog_16_method_2_code (2 : Nat) (Option.some Jvm.ClassFile.FieldType.int)) ∈ lw_all := lw_g (lw_at lw_m6 153 rfl) rfl
theorem q1405 : (Jvm.Cond.methodLink "SledHouseModel" (125 : Nat) ({ cls := "SledHouseModel", name := "in", desc := "(III)Z" } : Jvm.MethodName)) ∈ lw_all := lw_g (lw_at lw_m6 154 rfl) rfl
theorem q1406 : (Jvm.Cond.static ({ cls := "SledHouseModel", name := "in", desc := "(III)Z" } : Jvm.MethodName)) ∈ lw_all := lw_g (lw_at lw_m6 155 rfl) rfl
theorem q1407 : (Jvm.Cond.code ({ cls := "SledHouseModel", name := "in", desc := "(III)Z" } : Jvm.MethodName) prog_16_method_6_code (3 : Nat) (Option.some Jvm.ClassFile.FieldType.boolean)) ∈ lw_all := lw_g (lw_at lw_m6 156 rfl) rfl
theorem q1408 : (Jvm.Cond.methodLink "SledHouseModel" (129 : Nat) ({ cls := "SledHouseModel", name := "done", desc := "(I)I" } : Jvm.MethodName)) ∈ lw_all := lw_g (lw_at lw_m6 157 rfl) rfl
theorem q1409 : (Jvm.Cond.privateMethod ({ cls := "SledHouseModel", name := "done", desc := "(I)I" } : Jvm.MethodName)) ∈ lw_tbl := lw_at lw_m6 158 rfl
theorem q1410 : (Jvm.Cond.instanceMethod ({ cls := "SledHouseModel", name := "done", desc := "(I)I" } : Jvm.MethodName)) ∈ lw_all := lw_g (lw_at lw_m6 159 rfl) rfl
theorem q1411 : (Jvm.Cond.code ({ cls := "SledHouseModel", name := "done", desc := "(I)I" } : Jvm.MethodName) prog_16_method_3_code (2 : Nat) (Option.some Jvm.ClassFile.FieldType.int)) ∈ lw_all := lw_g (lw_at lw_m6 160 rfl) rfl
theorem q1413 : (Jvm.Cond.instanceMethod ({ cls := "SledHouseModel", name := "cold", desc := "(III)Z" } : Jvm.MethodName)) ∈ lw_all := lw_g (lw_at lw_m6 162 rfl) rfl
theorem q1414 : (Jvm.Cond.selects "SledHouseModel" ({ cls := "SledHouseModel", name := "cold", desc := "(III)Z" } : Jvm.MethodName) ({ cls := "SledHouseModel", name := "cold", desc := "(III)Z" } : Jvm.MethodName)) ∈ lw_all := lw_g (lw_at lw_m6 163 rfl) rfl
theorem q1415 : (Jvm.Cond.code ({ cls := "SledHouseModel", name := "cold", desc := "(III)Z" } : Jvm.MethodName) prog_16_method_11_code (5 : Nat) (Option.some Jvm.ClassFile.FieldType.boolean)) ∈ lw_all := lw_g (lw_at lw_m6 164 rfl) rfl
theorem q1417 : (Jvm.Cond.instanceMethod ({ cls := "SledHouseModel", name := "feed", desc := "(IIIII)I" } : Jvm.MethodName)) ∈ lw_all := lw_g (lw_at lw_m6 166 rfl) rfl
theorem q1418 : (Jvm.Cond.selects "SledHouseModel" ({ cls := "SledHouseModel", name := "feed", desc := "(IIIII)I" } : Jvm.MethodName) ({ cls := "SledHouseModel", name := "feed", desc := "(IIIII)I" } : Jvm.MethodName)) ∈ lw_all := lw_g (lw_at lw_m6 167 rfl) rfl
theorem q1419 : (Jvm.Cond.code ({ cls := "SledHouseModel", name := "feed", desc := "(IIIII)I" } : Jvm.MethodName) prog_16_method_28_code (8 : Nat) (Option.some Jvm.ClassFile.FieldType.int)) ∈ lw_all := lw_g (lw_at lw_m6 168 rfl) rfl
theorem q1421 : (Jvm.Cond.instanceMethod ({ cls := "SledHouseModel", name := "plan", desc := "(I)I" } : Jvm.MethodName)) ∈ lw_all := lw_g (lw_at lw_m6 170 rfl) rfl
theorem q1422 : (Jvm.Cond.selects "SledHouseModel" ({ cls := "SledHouseModel", name := "plan", desc := "(I)I" } : Jvm.MethodName) ({ cls := "SledHouseModel", name := "plan", desc := "(I)I" } : Jvm.MethodName)) ∈ lw_all := lw_g (lw_at lw_m6 171 rfl) rfl
theorem q1423 : (Jvm.Cond.codeWith ({ cls := "SledHouseModel", name := "plan", desc := "(I)I" } : Jvm.MethodName) prog_16_method_30_code (3 : Nat) (Option.some Jvm.ClassFile.FieldType.int) [((28 : Nat), (32 : Nat), (35 : Nat), (58 : Nat))]) ∈ lw_all := lw_g (lw_at lw_m6 172 rfl) rfl
theorem q1424 : (Jvm.Cond.methodLink "SledHouseModel" (266 : Nat) ({ cls := "SledHouseModel", name := "start", desc := "(I)V" } : Jvm.MethodName)) ∈ lw_all := lw_g (lw_at lw_m6 173 rfl) rfl
theorem q1425 : (Jvm.Cond.privateMethod ({ cls := "SledHouseModel", name := "start", desc := "(I)V" } : Jvm.MethodName)) ∈ lw_tbl := lw_at lw_m6 174 rfl
theorem q1426 : (Jvm.Cond.instanceMethod ({ cls := "SledHouseModel", name := "start", desc := "(I)V" } : Jvm.MethodName)) ∈ lw_all := lw_g (lw_at lw_m6 175 rfl) rfl
theorem q1427 : (Jvm.Cond.code ({ cls := "SledHouseModel", name := "start", desc := "(I)V" } : Jvm.MethodName) prog_16_method_24_code (2 : Nat) (Option.none : Option Jvm.ClassFile.FieldType)) ∈ lw_all := lw_g (lw_at lw_m6 176 rfl) rfl
theorem q1428 : (Jvm.Cond.methodLink "SledHouseModel" (189 : Nat) ({ cls := "SledHouseModel", name := "next", desc := "()V" } : Jvm.MethodName)) ∈ lw_all := lw_g (lw_at lw_m6 177 rfl) rfl
theorem q1429 : (Jvm.Cond.privateMethod ({ cls := "SledHouseModel", name := "next", desc := "()V" } : Jvm.MethodName)) ∈ lw_tbl := lw_at lw_m6 178 rfl
theorem q1430 : (Jvm.Cond.instanceMethod ({ cls := "SledHouseModel", name := "next", desc := "()V" } : Jvm.MethodName)) ∈ lw_all := lw_g (lw_at lw_m6 179 rfl) rfl
theorem q1431 : (Jvm.Cond.code ({ cls := "SledHouseModel", name := "next", desc := "()V" } : Jvm.MethodName) prog_16_method_17_code (3 : Nat) (Option.none : Option Jvm.ClassFile.FieldType)) ∈ lw_all := lw_g (lw_at lw_m6 180 rfl) rfl
theorem q1432 : (Jvm.Cond.methodLink "SledHouseModel" (156 : Nat) ({ cls := "SledHouseModel", name := "byteAt", desc := "(I)I" } : Jvm.MethodName)) ∈ lw_all := lw_g (lw_at lw_m6 181 rfl) rfl
theorem q1433 : (Jvm.Cond.privateMethod ({ cls := "SledHouseModel", name := "byteAt", desc := "(I)I" } : Jvm.MethodName)) ∈ lw_tbl := lw_at lw_m6 182 rfl
theorem q1434 : (Jvm.Cond.instanceMethod ({ cls := "SledHouseModel", name := "byteAt", desc := "(I)I" } : Jvm.MethodName)) ∈ lw_all := lw_g (lw_at lw_m6 183 rfl) rfl
theorem q1435 : (Jvm.Cond.code ({ cls := "SledHouseModel", name := "byteAt", desc := "(I)I" } : Jvm.MethodName) prog_16_method_13_code (2 : Nat) (Option.some Jvm.ClassFile.FieldType.int)) ∈ lw_all := lw_g (lw_at lw_m6 184 rfl) rfl
theorem q1436 : (Jvm.Cond.methodLink "SledHouseModel" (165 : Nat) ({ cls := "SledHouseModel", name := "isLetter", desc := "(I)Z" } : Jvm.MethodName)) ∈ lw_all := lw_g (lw_at lw_m6 185 rfl) rfl
theorem q1437 : (Jvm.Cond.static ({ cls := "SledHouseModel", name := "isLetter", desc := "(I)Z" } : Jvm.MethodName)) ∈ lw_all := lw_g (lw_at lw_m6 186 rfl) rfl
theorem q1438 : (Jvm.Cond.code ({ cls := "SledHouseModel", name := "isLetter", desc := "(I)Z" } : Jvm.MethodName) prog_16_method_14_code (1 : Nat) (Option.some Jvm.ClassFile.FieldType.boolean)) ∈ lw_all := lw_g (lw_at lw_m6 187 rfl) rfl
theorem q1439 : (Jvm.Cond.constantLong "SledHouseModel" (147 : Nat) (32 : Int64)) ∈ lw_all := lw_g (lw_at lw_m6 188 rfl) rfl
theorem q1440 : (Jvm.Cond.methodLink "SledHouseModel" (172 : Nat) ({ cls := "SledHouseModel", name := "isDigit", desc := "(I)Z" } : Jvm.MethodName)) ∈ lw_all := lw_g (lw_at lw_m6 189 rfl) rfl
theorem q1441 : (Jvm.Cond.static ({ cls := "SledHouseModel", name := "isDigit", desc := "(I)Z" } : Jvm.MethodName)) ∈ lw_all := lw_g (lw_at lw_m6 190 rfl) rfl
theorem q1442 : (Jvm.Cond.code ({ cls := "SledHouseModel", name := "isDigit", desc := "(I)Z" } : Jvm.MethodName) prog_16_method_15_code (1 : Nat) (Option.some Jvm.ClassFile.FieldType.boolean)) ∈ lw_all := lw_g (lw_at lw_m6 191 rfl) rfl
theorem q1443 : (Jvm.Cond.methodLink "SledHouseModel" (269 : Nat) ({ cls := "SledHouseModel", name := "readPlan", desc := "()V" } : Jvm.MethodName)) ∈ lw_all := lw_g (lw_at lw_m6 192 rfl) rfl
theorem q1444 : (Jvm.Cond.privateMethod ({ cls := "SledHouseModel", name := "readPlan", desc := "()V" } : Jvm.MethodName)) ∈ lw_tbl := lw_at lw_m6 193 rfl
theorem q1445 : (Jvm.Cond.instanceMethod ({ cls := "SledHouseModel", name := "readPlan", desc := "()V" } : Jvm.MethodName)) ∈ lw_all := lw_g (lw_at lw_m6 194 rfl) rfl
theorem q1446 : (Jvm.Cond.code ({ cls := "SledHouseModel", name := "readPlan", desc := "()V" } : Jvm.MethodName) prog_16_method_25_code (6 : Nat) (Option.none : Option Jvm.ClassFile.FieldType)) ∈ lw_all := lw_g (lw_at lw_m6 195 rfl) rfl
theorem q1447 : (Jvm.Cond.stringRef "SledHouseModel" (230 : Nat) "when") ∈ lw_tbl := lw_at lw_m6 196 rfl
theorem q1448 : (Jvm.Cond.methodLink "SledHouseModel" (182 : Nat) ({ cls := "SledHouseModel", name := "isWord", desc := "(Ljava/lang/String;)Z" } : Jvm.MethodName)) ∈ lw_all := lw_g (lw_at lw_m6 197 rfl) rfl
theorem q1449 : (Jvm.Cond.privateMethod ({ cls := "SledHouseModel", name := "isWord", desc := "(Ljava/lang/String;)Z" } : Jvm.MethodName)) ∈ lw_tbl := lw_at lw_m6 198 rfl
theorem q1450 : (Jvm.Cond.instanceMethod ({ cls := "SledHouseModel", name := "isWord", desc := "(Ljava/lang/String;)Z" } : Jvm.MethodName)) ∈ lw_all := lw_g (lw_at lw_m6 199 rfl) rfl
theorem q1451 : (Jvm.Cond.code ({ cls := "SledHouseModel", name := "isWord", desc := "(Ljava/lang/String;)Z" } : Jvm.MethodName) prog_16_method_18_code (2 : Nat) (Option.some Jvm.ClassFile.FieldType.boolean)) ∈ lw_all := lw_g (lw_at lw_m6 200 rfl) rfl
theorem q1452 : (Jvm.Cond.methodLink "SledHouseModel" (178 : Nat) ({ cls := "SledHouseModel", name := "wordOf", desc := "(Ljava/lang/String;)J" } : Jvm.MethodName)) ∈ lw_all := lw_g (lw_at lw_m6 201 rfl) rfl
theorem q1453 : (Jvm.Cond.static ({ cls := "SledHouseModel", name := "wordOf", desc := "(Ljava/lang/String;)J" } : Jvm.MethodName)) ∈ lw_all := lw_g (lw_at lw_m6 202 rfl) rfl
theorem q1454 : (Jvm.Cond.code ({ cls := "SledHouseModel", name := "wordOf", desc := "(Ljava/lang/String;)J" } : Jvm.MethodName) prog_16_method_16_code (4 : Nat) (Option.some Jvm.ClassFile.FieldType.long)) ∈ lw_all := lw_g (lw_at lw_m6 203 rfl) rfl
theorem q1455 : (Jvm.Cond.methodLink "SledHouseModel" (142 : Nat) ({ cls := "java/lang/String", name := "length", desc := "()I" } : Jvm.MethodName)) ∈ lw_all := lw_g (lw_at lw_m6 204 rfl) rfl
theorem q1463 : (Jvm.Cond.methodLink "SledHouseModel" (149 : Nat) ({ cls := "java/lang/String", name := "charAt", desc := "(I)C" } : Jvm.MethodName)) ∈ lw_all := lw_g (lw_at lw_m6 212 rfl) rfl
theorem q1483 : (Jvm.Cond.methodLink "SledHouseModel" (232 : Nat) ({ cls := "SledHouseModel", name := "actHere", desc := "()I" } : Jvm.MethodName)) ∈ lw_all := lw_g (lw_at lw_m6 232 rfl) rfl
theorem q1484 : (Jvm.Cond.privateMethod ({ cls := "SledHouseModel", name := "actHere", desc := "()I" } : Jvm.MethodName)) ∈ lw_tbl := lw_at lw_m6 233 rfl
theorem q1485 : (Jvm.Cond.instanceMethod ({ cls := "SledHouseModel", name := "actHere", desc := "()I" } : Jvm.MethodName)) ∈ lw_all := lw_g (lw_at lw_m6 234 rfl) rfl
theorem q1486 : (Jvm.Cond.code ({ cls := "SledHouseModel", name := "actHere", desc := "()I" } : Jvm.MethodName) prog_16_method_22_code (1 : Nat) (Option.some Jvm.ClassFile.FieldType.int)) ∈ lw_all := lw_g (lw_at lw_m6 235 rfl) rfl
theorem q1487 : (Jvm.Cond.stringRef "SledHouseModel" (192 : Nat) "go") ∈ lw_tbl := lw_at lw_m6 236 rfl
theorem q1488 : (Jvm.Cond.stringRef "SledHouseModel" (194 : Nat) "stay") ∈ lw_tbl := lw_at lw_m6 237 rfl
theorem q1489 : (Jvm.Cond.stringRef "SledHouseModel" (196 : Nat) "feed") ∈ lw_tbl := lw_at lw_m6 238 rfl
theorem q1490 : (Jvm.Cond.stringRef "SledHouseModel" (198 : Nat) "leave") ∈ lw_tbl := lw_at lw_m6 239 rfl
theorem q1491 : (Jvm.Cond.methodLink "SledHouseModel" (186 : Nat) ({ cls := "SledHouseModel", name := "stop", desc := "(I)LSledHouseModel$Stop;" } : Jvm.MethodName)) ∈ lw_all := lw_g (lw_at lw_m7 0 rfl) rfl
theorem q1492 : (Jvm.Cond.privateMethod ({ cls := "SledHouseModel", name := "stop", desc := "(I)LSledHouseModel$Stop;" } : Jvm.MethodName)) ∈ lw_tbl := lw_at lw_m7 1 rfl
theorem q1493 : (Jvm.Cond.instanceMethod ({ cls := "SledHouseModel", name := "stop", desc := "(I)LSledHouseModel$Stop;" } : Jvm.MethodName)) ∈ lw_all := lw_g (lw_at lw_m7 2 rfl) rfl
theorem q1494 : (Jvm.Cond.code ({ cls := "SledHouseModel", name := "stop", desc := "(I)LSledHouseModel$Stop;" } : Jvm.MethodName) prog_16_method_12_code (2 : Nat) (Option.some (Jvm.ClassFile.FieldType.object "SledHouseModel$Stop"))) ∈ lw_all := lw_g (lw_at lw_m7 3 rfl) rfl
theorem q1495 : (Jvm.Cond.methodLink "SledHouseModel" (235 : Nat) ({ cls := "SledHouseModel", name := "readTest", desc := "(I)V" } : Jvm.MethodName)) ∈ lw_all := lw_g (lw_at lw_m7 4 rfl) rfl
theorem q1496 : (Jvm.Cond.privateMethod ({ cls := "SledHouseModel", name := "readTest", desc := "(I)V" } : Jvm.MethodName)) ∈ lw_tbl := lw_at lw_m7 5 rfl
theorem q1497 : (Jvm.Cond.instanceMethod ({ cls := "SledHouseModel", name := "readTest", desc := "(I)V" } : Jvm.MethodName)) ∈ lw_all := lw_g (lw_at lw_m7 6 rfl) rfl
theorem q1498 : (Jvm.Cond.code ({ cls := "SledHouseModel", name := "readTest", desc := "(I)V" } : Jvm.MethodName) prog_16_method_26_code (4 : Nat) (Option.none : Option Jvm.ClassFile.FieldType)) ∈ lw_all := lw_g (lw_at lw_m7 7 rfl) rfl
theorem q1499 : (Jvm.Cond.stringRef "SledHouseModel" (239 : Nat) "and") ∈ lw_tbl := lw_at lw_m7 8 rfl
theorem q1500 : (Jvm.Cond.methodLink "SledHouseModel" (244 : Nat) ({ cls := "SledHouseModel", name := "nameHere", desc := "()I" } : Jvm.MethodName)) ∈ lw_all := lw_g (lw_at lw_m7 9 rfl) rfl
theorem q1501 : (Jvm.Cond.privateMethod ({ cls := "SledHouseModel", name := "nameHere", desc := "()I" } : Jvm.MethodName)) ∈ lw_tbl := lw_at lw_m7 10 rfl
theorem q1502 : (Jvm.Cond.instanceMethod ({ cls := "SledHouseModel", name := "nameHere", desc := "()I" } : Jvm.MethodName)) ∈ lw_all := lw_g (lw_at lw_m7 11 rfl) rfl
theorem q1503 : (Jvm.Cond.code ({ cls := "SledHouseModel", name := "nameHere", desc := "()I" } : Jvm.MethodName) prog_16_method_23_code (2 : Nat) (Option.some Jvm.ClassFile.FieldType.int)) ∈ lw_all := lw_g (lw_at lw_m7 12 rfl) rfl
theorem q1504 : (Jvm.Cond.stringRef "SledHouseModel" (200 : Nat) "run") ∈ lw_tbl := lw_at lw_m7 13 rfl
theorem q1505 : (Jvm.Cond.stringRef "SledHouseModel" (202 : Nat) "rest") ∈ lw_tbl := lw_at lw_m7 14 rfl
theorem q1506 : (Jvm.Cond.stringRef "SledHouseModel" (204 : Nat) "weak") ∈ lw_tbl := lw_at lw_m7 15 rfl
theorem q1507 : (Jvm.Cond.stringRef "SledHouseModel" (206 : Nat) "mean") ∈ lw_tbl := lw_at lw_m7 16 rfl
theorem q1508 : (Jvm.Cond.stringRef "SledHouseModel" (208 : Nat) "cold") ∈ lw_tbl := lw_at lw_m7 17 rfl
theorem q1509 : (Jvm.Cond.stringRef "SledHouseModel" (209 : Nat) "meals") ∈ lw_tbl := lw_at lw_m7 18 rfl
theorem q1510 : (Jvm.Cond.stringRef "SledHouseModel" (211 : Nat) "dogs") ∈ lw_tbl := lw_at lw_m7 19 rfl
theorem q1511 : (Jvm.Cond.stringRef "SledHouseModel" (213 : Nat) "left") ∈ lw_tbl := lw_at lw_m7 20 rfl
theorem q1512 : (Jvm.Cond.stringRef "SledHouseModel" (215 : Nat) "hour") ∈ lw_tbl := lw_at lw_m7 21 rfl
theorem q1513 : (Jvm.Cond.stringRef "SledHouseModel" (217 : Nat) "post") ∈ lw_tbl := lw_at lw_m7 22 rfl
theorem q1514 : (Jvm.Cond.stringRef "SledHouseModel" (219 : Nat) "load") ∈ lw_tbl := lw_at lw_m7 23 rfl
theorem q1515 : (Jvm.Cond.methodLink "SledHouseModel" (241 : Nat) ({ cls := "SledHouseModel", name := "is", desc := "(I)Z" } : Jvm.MethodName)) ∈ lw_all := lw_g (lw_at lw_m7 24 rfl) rfl
theorem q1516 : (Jvm.Cond.privateMethod ({ cls := "SledHouseModel", name := "is", desc := "(I)Z" } : Jvm.MethodName)) ∈ lw_tbl := lw_at lw_m7 25 rfl
theorem q1517 : (Jvm.Cond.instanceMethod ({ cls := "SledHouseModel", name := "is", desc := "(I)Z" } : Jvm.MethodName)) ∈ lw_all := lw_g (lw_at lw_m7 26 rfl) rfl
theorem q1518 : (Jvm.Cond.code ({ cls := "SledHouseModel", name := "is", desc := "(I)Z" } : Jvm.MethodName) prog_16_method_19_code (2 : Nat) (Option.some Jvm.ClassFile.FieldType.boolean)) ∈ lw_all := lw_g (lw_at lw_m7 27 rfl) rfl
theorem q1519 : (Jvm.Cond.methodLink "SledHouseModel" (247 : Nat) ({ cls := "SledHouseModel", name := "needNumber", desc := "()I" } : Jvm.MethodName)) ∈ lw_all := lw_g (lw_at lw_m7 28 rfl) rfl
theorem q1520 : (Jvm.Cond.privateMethod ({ cls := "SledHouseModel", name := "needNumber", desc := "()I" } : Jvm.MethodName)) ∈ lw_tbl := lw_at lw_m7 29 rfl
theorem q1521 : (Jvm.Cond.instanceMethod ({ cls := "SledHouseModel", name := "needNumber", desc := "()I" } : Jvm.MethodName)) ∈ lw_all := lw_g (lw_at lw_m7 30 rfl) rfl
theorem q1522 : (Jvm.Cond.code ({ cls := "SledHouseModel", name := "needNumber", desc := "()I" } : Jvm.MethodName) prog_16_method_21_code (2 : Nat) (Option.some Jvm.ClassFile.FieldType.int)) ∈ lw_all := lw_g (lw_at lw_m7 31 rfl) rfl
theorem q1523 : (Jvm.Cond.methodLink "SledHouseModel" (272 : Nat) ({ cls := "SledHouseModel", name := "wrong", desc := "(LSledHouseModel$Stop;)I" } : Jvm.MethodName)) ∈ lw_all := lw_g (lw_at lw_m7 32 rfl) rfl
theorem q1524 : (Jvm.Cond.privateMethod ({ cls := "SledHouseModel", name := "wrong", desc := "(LSledHouseModel$Stop;)I" } : Jvm.MethodName)) ∈ lw_tbl := lw_at lw_m7 33 rfl
theorem q1525 : (Jvm.Cond.instanceMethod ({ cls := "SledHouseModel", name := "wrong", desc := "(LSledHouseModel$Stop;)I" } : Jvm.MethodName)) ∈ lw_all := lw_g (lw_at lw_m7 34 rfl) rfl
theorem q1526 : (Jvm.Cond.code ({ cls := "SledHouseModel", name := "wrong", desc := "(LSledHouseModel$Stop;)I" } : Jvm.MethodName) prog_16_method_29_code (2 : Nat) (Option.some Jvm.ClassFile.FieldType.int)) ∈ lw_all := lw_g (lw_at lw_m7 35 rfl) rfl
theorem q1528 : (Jvm.Cond.instanceMethod ({ cls := "SledHouseModel", name := "laws", desc := "(I)I" } : Jvm.MethodName)) ∈ lw_all := lw_g (lw_at lw_m7 37 rfl) rfl
theorem q1529 : (Jvm.Cond.selects "SledHouseModel" ({ cls := "SledHouseModel", name := "laws", desc := "(I)I" } : Jvm.MethodName) ({ cls := "SledHouseModel", name := "laws", desc := "(I)I" } : Jvm.MethodName)) ∈ lw_all := lw_g (lw_at lw_m7 38 rfl) rfl
theorem q1530 : (Jvm.Cond.codeWith ({ cls := "SledHouseModel", name := "laws", desc := "(I)I" } : Jvm.MethodName) prog_16_method_31_code (4 : Nat) (Option.some Jvm.ClassFile.FieldType.int) [((28 : Nat), (33 : Nat), (36 : Nat), (58 : Nat))]) ∈ lw_all := lw_g (lw_at lw_m7 39 rfl) rfl
theorem q1531 : (Jvm.Cond.methodLink "SledHouseModel" (276 : Nat) ({ cls := "SledHouseModel", name := "readLaws", desc := "()I" } : Jvm.MethodName)) ∈ lw_all := lw_g (lw_at lw_m7 40 rfl) rfl
theorem q1532 : (Jvm.Cond.privateMethod ({ cls := "SledHouseModel", name := "readLaws", desc := "()I" } : Jvm.MethodName)) ∈ lw_tbl := lw_at lw_m7 41 rfl
theorem q1533 : (Jvm.Cond.instanceMethod ({ cls := "SledHouseModel", name := "readLaws", desc := "()I" } : Jvm.MethodName)) ∈ lw_all := lw_g (lw_at lw_m7 42 rfl) rfl
theorem q1534 : (Jvm.Cond.code ({ cls := "SledHouseModel", name := "readLaws", desc := "()I" } : Jvm.MethodName) prog_16_method_27_code (7 : Nat) (Option.some Jvm.ClassFile.FieldType.int)) ∈ lw_all := lw_g (lw_at lw_m7 43 rfl) rfl
theorem q1535 : (Jvm.Cond.stringRef "SledHouseModel" (253 : Nat) "fine") ∈ lw_tbl := lw_at lw_m7 44 rfl
theorem q1536 : (Jvm.Cond.stringRef "SledHouseModel" (255 : Nat) "for") ∈ lw_tbl := lw_at lw_m7 45 rfl
theorem q1537 : (Jvm.Cond.methodLink "SledHouseModel" (257 : Nat) ({ cls := "SledHouseModel", name := "needWord", desc := "(Ljava/lang/String;)V" } : Jvm.MethodName)) ∈ lw_all := lw_g (lw_at lw_m7 46 rfl) rfl
theorem q1538 : (Jvm.Cond.privateMethod ({ cls := "SledHouseModel", name := "needWord", desc := "(Ljava/lang/String;)V" } : Jvm.MethodName)) ∈ lw_tbl := lw_at lw_m7 47 rfl
theorem q1539 : (Jvm.Cond.instanceMethod ({ cls := "SledHouseModel", name := "needWord", desc := "(Ljava/lang/String;)V" } : Jvm.MethodName)) ∈ lw_all := lw_g (lw_at lw_m7 48 rfl) rfl
theorem q1540 : (Jvm.Cond.code ({ cls := "SledHouseModel", name := "needWord", desc := "(Ljava/lang/String;)V" } : Jvm.MethodName) prog_16_method_20_code (2 : Nat) (Option.none : Option Jvm.ClassFile.FieldType)) ∈ lw_all := lw_g (lw_at lw_m7 49 rfl) rfl
theorem q1541 : (Jvm.Cond.stringRef "SledHouseModel" (261 : Nat) "at") ∈ lw_tbl := lw_at lw_m7 50 rfl
theorem q1542 : (Jvm.Cond.stringRef "SledHouseModel" (262 : Nat) "from") ∈ lw_tbl := lw_at lw_m7 51 rfl
theorem q1543 : (Jvm.Cond.stringRef "SledHouseModel" (264 : Nat) "to") ∈ lw_tbl := lw_at lw_m7 52 rfl
theorem q1545 : (Jvm.Cond.instanceMethod ({ cls := "SledHouseModel", name := "fault", desc := "()I" } : Jvm.MethodName)) ∈ lw_all := lw_g (lw_at lw_m7 54 rfl) rfl
theorem q1546 : (Jvm.Cond.selects "SledHouseModel" ({ cls := "SledHouseModel", name := "fault", desc := "()I" } : Jvm.MethodName) ({ cls := "SledHouseModel", name := "fault", desc := "()I" } : Jvm.MethodName)) ∈ lw_all := lw_g (lw_at lw_m7 55 rfl) rfl
theorem q1547 : (Jvm.Cond.code ({ cls := "SledHouseModel", name := "fault", desc := "()I" } : Jvm.MethodName) prog_16_method_32_code (1 : Nat) (Option.some Jvm.ClassFile.FieldType.int)) ∈ lw_all := lw_g (lw_at lw_m7 56 rfl) rfl
theorem q1549 : (Jvm.Cond.instanceMethod ({ cls := "SledHouseModel", name := "where", desc := "()I" } : Jvm.MethodName)) ∈ lw_all := lw_g (lw_at lw_m7 58 rfl) rfl
theorem q1550 : (Jvm.Cond.selects "SledHouseModel" ({ cls := "SledHouseModel", name := "where", desc := "()I" } : Jvm.MethodName) ({ cls := "SledHouseModel", name := "where", desc := "()I" } : Jvm.MethodName)) ∈ lw_all := lw_g (lw_at lw_m7 59 rfl) rfl
theorem q1551 : (Jvm.Cond.code ({ cls := "SledHouseModel", name := "where", desc := "()I" } : Jvm.MethodName) prog_16_method_33_code (1 : Nat) (Option.some Jvm.ClassFile.FieldType.int)) ∈ lw_all := lw_g (lw_at lw_m7 60 rfl) rfl
theorem q1553 : (Jvm.Cond.instanceMethod ({ cls := "SledHouseModel", name := "law", desc := "(II)I" } : Jvm.MethodName)) ∈ lw_all := lw_g (lw_at lw_m7 62 rfl) rfl
theorem q1554 : (Jvm.Cond.selects "SledHouseModel" ({ cls := "SledHouseModel", name := "law", desc := "(II)I" } : Jvm.MethodName) ({ cls := "SledHouseModel", name := "law", desc := "(II)I" } : Jvm.MethodName)) ∈ lw_all := lw_g (lw_at lw_m7 63 rfl) rfl
theorem q1555 : (Jvm.Cond.code ({ cls := "SledHouseModel", name := "law", desc := "(II)I" } : Jvm.MethodName) prog_16_method_34_code (3 : Nat) (Option.some Jvm.ClassFile.FieldType.int)) ∈ lw_all := lw_g (lw_at lw_m7 64 rfl) rfl
theorem q1557 : (Jvm.Cond.instanceMethod ({ cls := "SledHouseModel", name := "planned", desc := "(II)I" } : Jvm.MethodName)) ∈ lw_all := lw_g (lw_at lw_m7 66 rfl) rfl
theorem q1558 : (Jvm.Cond.selects "SledHouseModel" ({ cls := "SledHouseModel", name := "planned", desc := "(II)I" } : Jvm.MethodName) ({ cls := "SledHouseModel", name := "planned", desc := "(II)I" } : Jvm.MethodName)) ∈ lw_all := lw_g (lw_at lw_m7 67 rfl) rfl
theorem q1559 : (Jvm.Cond.code ({ cls := "SledHouseModel", name := "planned", desc := "(II)I" } : Jvm.MethodName) prog_16_method_35_code (5 : Nat) (Option.some Jvm.ClassFile.FieldType.int)) ∈ lw_all := lw_g (lw_at lw_m7 68 rfl) rfl
theorem q1561 : (Jvm.Cond.instanceMethod ({ cls := "SledHouseModel", name := "team", desc := "(IIIII)I" } : Jvm.MethodName)) ∈ lw_all := lw_g (lw_at lw_m7 70 rfl) rfl
theorem q1562 : (Jvm.Cond.selects "SledHouseModel" ({ cls := "SledHouseModel", name := "team", desc := "(IIIII)I" } : Jvm.MethodName) ({ cls := "SledHouseModel", name := "team", desc := "(IIIII)I" } : Jvm.MethodName)) ∈ lw_all := lw_g (lw_at lw_m7 71 rfl) rfl
theorem q1563 : (Jvm.Cond.code ({ cls := "SledHouseModel", name := "team", desc := "(IIIII)I" } : Jvm.MethodName) prog_16_method_38_code (6 : Nat) (Option.some Jvm.ClassFile.FieldType.int)) ∈ lw_all := lw_g (lw_at lw_m7 72 rfl) rfl
theorem q1564 : (Jvm.Cond.methodLink "SledHouseModel" (279 : Nat) ({ cls := "SledHouseModel", name := "isPlan", desc := "(I)Z" } : Jvm.MethodName)) ∈ lw_all := lw_g (lw_at lw_m7 73 rfl) rfl
theorem q1565 : (Jvm.Cond.privateMethod ({ cls := "SledHouseModel", name := "isPlan", desc := "(I)Z" } : Jvm.MethodName)) ∈ lw_tbl := lw_at lw_m7 74 rfl
theorem q1566 : (Jvm.Cond.instanceMethod ({ cls := "SledHouseModel", name := "isPlan", desc := "(I)Z" } : Jvm.MethodName)) ∈ lw_all := lw_g (lw_at lw_m7 75 rfl) rfl
theorem q1567 : (Jvm.Cond.code ({ cls := "SledHouseModel", name := "isPlan", desc := "(I)Z" } : Jvm.MethodName) prog_16_method_37_code (2 : Nat) (Option.some Jvm.ClassFile.FieldType.boolean)) ∈ lw_all := lw_g (lw_at lw_m7 76 rfl) rfl
theorem q1568 : (Jvm.Cond.methodLink "SledHouseModel" (282 : Nat) ({ cls := "SledHouseModel$Team", name := "begin", desc := "(IIIII)V" } : Jvm.MethodName)) ∈ lw_all := lw_g (lw_at lw_m7 77 rfl) rfl
theorem q1570 : (Jvm.Cond.instanceMethod ({ cls := "SledHouseModel", name := "follow", desc := "(II)Z" } : Jvm.MethodName)) ∈ lw_all := lw_g (lw_at lw_m7 79 rfl) rfl
theorem q1571 : (Jvm.Cond.selects "SledHouseModel" ({ cls := "SledHouseModel", name := "follow", desc := "(II)Z" } : Jvm.MethodName) ({ cls := "SledHouseModel", name := "follow", desc := "(II)Z" } : Jvm.MethodName)) ∈ lw_all := lw_g (lw_at lw_m7 80 rfl) rfl
theorem q1572 : (Jvm.Cond.code ({ cls := "SledHouseModel", name := "follow", desc := "(II)Z" } : Jvm.MethodName) prog_16_method_39_code (4 : Nat) (Option.some Jvm.ClassFile.FieldType.boolean)) ∈ lw_all := lw_g (lw_at lw_m7 81 rfl) rfl
theorem q1573 : (Jvm.Cond.methodLink "SledHouseModel" (286 : Nat) ({ cls := "SledHouseModel", name := "isTeam", desc := "(I)Z" } : Jvm.MethodName)) ∈ lw_all := lw_g (lw_at lw_m7 82 rfl) rfl
theorem q1574 : (Jvm.Cond.privateMethod ({ cls := "SledHouseModel", name := "isTeam", desc := "(I)Z" } : Jvm.MethodName)) ∈ lw_tbl := lw_at lw_m7 83 rfl
theorem q1575 : (Jvm.Cond.instanceMethod ({ cls := "SledHouseModel", name := "isTeam", desc := "(I)Z" } : Jvm.MethodName)) ∈ lw_all := lw_g (lw_at lw_m7 84 rfl) rfl
theorem q1576 : (Jvm.Cond.code ({ cls := "SledHouseModel", name := "isTeam", desc := "(I)Z" } : Jvm.MethodName) prog_16_method_36_code (2 : Nat) (Option.some Jvm.ClassFile.FieldType.boolean)) ∈ lw_all := lw_g (lw_at lw_m7 85 rfl) rfl
theorem q1578 : (Jvm.Cond.instanceMethod ({ cls := "SledHouseModel", name := "gap", desc := "(III)I" } : Jvm.MethodName)) ∈ lw_all := lw_g (lw_at lw_m7 87 rfl) rfl
theorem q1579 : (Jvm.Cond.selects "SledHouseModel" ({ cls := "SledHouseModel", name := "gap", desc := "(III)I" } : Jvm.MethodName) ({ cls := "SledHouseModel", name := "gap", desc := "(III)I" } : Jvm.MethodName)) ∈ lw_all := lw_g (lw_at lw_m7 88 rfl) rfl
theorem q1580 : (Jvm.Cond.code ({ cls := "SledHouseModel", name := "gap", desc := "(III)I" } : Jvm.MethodName) prog_16_method_40_code (5 : Nat) (Option.some Jvm.ClassFile.FieldType.int)) ∈ lw_all := lw_g (lw_at lw_m7 89 rfl) rfl
theorem q1582 : (Jvm.Cond.instanceMethod ({ cls := "SledHouseModel", name := "each", desc := "(I)Z" } : Jvm.MethodName)) ∈ lw_all := lw_g (lw_at lw_m7 91 rfl) rfl
theorem q1583 : (Jvm.Cond.selects "SledHouseModel" ({ cls := "SledHouseModel", name := "each", desc := "(I)Z" } : Jvm.MethodName) ({ cls := "SledHouseModel", name := "each", desc := "(I)Z" } : Jvm.MethodName)) ∈ lw_all := lw_g (lw_at lw_m7 92 rfl) rfl
theorem q1584 : (Jvm.Cond.code ({ cls := "SledHouseModel", name := "each", desc := "(I)Z" } : Jvm.MethodName) prog_16_method_41_code (2 : Nat) (Option.some Jvm.ClassFile.FieldType.boolean)) ∈ lw_all := lw_g (lw_at lw_m7 93 rfl) rfl
theorem q1586 : (Jvm.Cond.instanceMethod ({ cls := "SledHouseModel", name := "run", desc := "(I)I" } : Jvm.MethodName)) ∈ lw_all := lw_g (lw_at lw_m7 95 rfl) rfl
theorem q1587 : (Jvm.Cond.selects "SledHouseModel" ({ cls := "SledHouseModel", name := "run", desc := "(I)I" } : Jvm.MethodName) ({ cls := "SledHouseModel", name := "run", desc := "(I)I" } : Jvm.MethodName)) ∈ lw_all := lw_g (lw_at lw_m7 96 rfl) rfl
theorem q1588 : (Jvm.Cond.code ({ cls := "SledHouseModel", name := "run", desc := "(I)I" } : Jvm.MethodName) prog_16_method_49_code (5 : Nat) (Option.some Jvm.ClassFile.FieldType.int)) ∈ lw_all := lw_g (lw_at lw_m7 97 rfl) rfl
theorem q1589 : (Jvm.Cond.methodLink "SledHouseModel" (372 : Nat) ({ cls := "SledHouseModel", name := "isOver", desc := "()Z" } : Jvm.MethodName)) ∈ lw_all := lw_g (lw_at lw_m7 98 rfl) rfl
theorem q1590 : (Jvm.Cond.privateMethod ({ cls := "SledHouseModel", name := "isOver", desc := "()Z" } : Jvm.MethodName)) ∈ lw_tbl := lw_at lw_m7 99 rfl
theorem q1591 : (Jvm.Cond.instanceMethod ({ cls := "SledHouseModel", name := "isOver", desc := "()Z" } : Jvm.MethodName)) ∈ lw_all := lw_g (lw_at lw_m7 100 rfl) rfl
theorem q1592 : (Jvm.Cond.code ({ cls := "SledHouseModel", name := "isOver", desc := "()Z" } : Jvm.MethodName) prog_16_method_48_code (3 : Nat) (Option.some Jvm.ClassFile.FieldType.boolean)) ∈ lw_all := lw_g (lw_at lw_m7 101 rfl) rfl
theorem q1593 : (Jvm.Cond.methodLink "SledHouseModel" (375 : Nat) ({ cls := "SledHouseModel", name := "leads", desc := "(LSledHouseModel$Team;I)V" } : Jvm.MethodName)) ∈ lw_all := lw_g (lw_at lw_m7 102 rfl) rfl
theorem q1594 : (Jvm.Cond.privateMethod ({ cls := "SledHouseModel", name := "leads", desc := "(LSledHouseModel$Team;I)V" } : Jvm.MethodName)) ∈ lw_tbl := lw_at lw_m7 103 rfl
theorem q1595 : (Jvm.Cond.instanceMethod ({ cls := "SledHouseModel", name := "leads", desc := "(LSledHouseModel$Team;I)V" } : Jvm.MethodName)) ∈ lw_all := lw_g (lw_at lw_m7 104 rfl) rfl
theorem q1596 : (Jvm.Cond.code ({ cls := "SledHouseModel", name := "leads", desc := "(LSledHouseModel$Team;I)V" } : Jvm.MethodName) prog_16_method_46_code (8 : Nat) (Option.none : Option Jvm.ClassFile.FieldType)) ∈ lw_all := lw_g (lw_at lw_m7 105 rfl) rfl
theorem q1597 : (Jvm.Cond.methodLink "SledHouseModel" (338 : Nat) ({ cls := "SledHouseModel", name := "holds", desc := "(LSledHouseModel$Team;II)Z" } : Jvm.MethodName)) ∈ lw_all := lw_g (lw_at lw_m7 106 rfl) rfl
theorem q1598 : (Jvm.Cond.privateMethod ({ cls := "SledHouseModel", name := "holds", desc := "(LSledHouseModel$Team;II)Z" } : Jvm.MethodName)) ∈ lw_tbl := lw_at lw_m7 107 rfl
theorem q1599 : (Jvm.Cond.instanceMethod ({ cls := "SledHouseModel", name := "holds", desc := "(LSledHouseModel$Team;II)Z" } : Jvm.MethodName)) ∈ lw_all := lw_g (lw_at lw_m7 108 rfl) rfl
theorem q1600 : (Jvm.Cond.code ({ cls := "SledHouseModel", name := "holds", desc := "(LSledHouseModel$Team;II)Z" } : Jvm.MethodName) prog_16_method_45_code (7 : Nat) (Option.some Jvm.ClassFile.FieldType.boolean)) ∈ lw_all := lw_g (lw_at lw_m7 109 rfl) rfl
theorem q1601 : (Jvm.Cond.methodLink "SledHouseModel" (329 : Nat) ({ cls := "SledHouseModel", name := "valueOf", desc := "(LSledHouseModel$Team;II)I" } : Jvm.MethodName)) ∈ lw_all := lw_g (lw_at lw_m7 110 rfl) rfl
theorem q1602 : (Jvm.Cond.privateMethod ({ cls := "SledHouseModel", name := "valueOf", desc := "(LSledHouseModel$Team;II)I" } : Jvm.MethodName)) ∈ lw_tbl := lw_at lw_m7 111 rfl
theorem q1603 : (Jvm.Cond.instanceMethod ({ cls := "SledHouseModel", name := "valueOf", desc := "(LSledHouseModel$Team;II)I" } : Jvm.MethodName)) ∈ lw_all := lw_g (lw_at lw_m7 112 rfl) rfl
theorem q1604 : (Jvm.Cond.code ({ cls := "SledHouseModel", name := "valueOf", desc := "(LSledHouseModel$Team;II)I" } : Jvm.MethodName) prog_16_method_44_code (4 : Nat) (Option.some Jvm.ClassFile.FieldType.int)) ∈ lw_all := lw_g (lw_at lw_m7 113 rfl) rfl
theorem q1605 : (Jvm.Cond.methodLink "SledHouseModel" (317 : Nat) ({ cls := "SledHouseModel$Team", name := "weakest", desc := "()I" } : Jvm.MethodName)) ∈ lw_all := lw_g (lw_at lw_m7 114 rfl) rfl
theorem q1609 : (Jvm.Cond.methodLink "SledHouseModel" (320 : Nat) ({ cls := "SledHouseModel$Team", name := "mean", desc := "()I" } : Jvm.MethodName)) ∈ lw_all := lw_g (lw_at lw_m7 118 rfl) rfl
theorem q1617 : (Jvm.Cond.methodLink "SledHouseModel" (324 : Nat) ({ cls := "SledHouseModel$Team", name := "of", desc := "(I)I" } : Jvm.MethodName)) ∈ lw_all := lw_g (lw_at lw_m7 126 rfl) rfl
theorem q1618 : (Jvm.Cond.methodLink "SledHouseModel" (345 : Nat) ({ cls := "SledHouseModel", name := "goes", desc := "(LSledHouseModel$Team;II)V" } : Jvm.MethodName)) ∈ lw_all := lw_g (lw_at lw_m7 127 rfl) rfl
theorem q1619 : (Jvm.Cond.privateMethod ({ cls := "SledHouseModel", name := "goes", desc := "(LSledHouseModel$Team;II)V" } : Jvm.MethodName)) ∈ lw_tbl := lw_at lw_m7 128 rfl
theorem q1620 : (Jvm.Cond.instanceMethod ({ cls := "SledHouseModel", name := "goes", desc := "(LSledHouseModel$Team;II)V" } : Jvm.MethodName)) ∈ lw_all := lw_g (lw_at lw_m7 129 rfl) rfl
theorem q1621 : (Jvm.Cond.code ({ cls := "SledHouseModel", name := "goes", desc := "(LSledHouseModel$Team;II)V" } : Jvm.MethodName) prog_16_method_47_code (8 : Nat) (Option.none : Option Jvm.ClassFile.FieldType)) ∈ lw_all := lw_g (lw_at lw_m7 130 rfl) rfl
theorem q1622 : (Jvm.Cond.methodLink "SledHouseModel" (363 : Nat) ({ cls := "java/lang/Math", name := "max", desc := "(II)I" } : Jvm.MethodName)) ∈ lw_all := lw_g (lw_at lw_m7 131 rfl) rfl
theorem q1623 : (Jvm.Cond.methodLink "SledHouseModel" (349 : Nat) ({ cls := "SledHouseModel$Team", name := "gain", desc := "(I)V" } : Jvm.MethodName)) ∈ lw_all := lw_g (lw_at lw_m7 132 rfl) rfl
theorem q1628 : (Jvm.Cond.methodLink "SledHouseModel" (379 : Nat) ({ cls := "SledHouseModel$Team", name := "inGap", desc := "(I)Z" } : Jvm.MethodName)) ∈ lw_all := lw_g (lw_at lw_m7 137 rfl) rfl
theorem q1632 : (Jvm.Cond.methodLink "SledHouseModel" (391 : Nat) ({ cls := "SledHouseModel", name := "way", desc := "(LSledHouseModel$Team;)I" } : Jvm.MethodName)) ∈ lw_all := lw_g (lw_at lw_m7 141 rfl) rfl
theorem q1633 : (Jvm.Cond.privateMethod ({ cls := "SledHouseModel", name := "way", desc := "(LSledHouseModel$Team;)I" } : Jvm.MethodName)) ∈ lw_tbl := lw_at lw_m7 142 rfl
theorem q1634 : (Jvm.Cond.instanceMethod ({ cls := "SledHouseModel", name := "way", desc := "(LSledHouseModel$Team;)I" } : Jvm.MethodName)) ∈ lw_all := lw_g (lw_at lw_m7 143 rfl) rfl
theorem q1635 : (Jvm.Cond.code ({ cls := "SledHouseModel", name := "way", desc := "(LSledHouseModel$Team;)I" } : Jvm.MethodName) prog_16_method_42_code (4 : Nat) (Option.some Jvm.ClassFile.FieldType.int)) ∈ lw_all := lw_g (lw_at lw_m7 144 rfl) rfl
theorem q1637 : (Jvm.Cond.instanceMethod ({ cls := "SledHouseModel", name := "about", desc := "(II)I" } : Jvm.MethodName)) ∈ lw_all := lw_g (lw_at lw_m7 146 rfl) rfl
theorem q1638 : (Jvm.Cond.selects "SledHouseModel" ({ cls := "SledHouseModel", name := "about", desc := "(II)I" } : Jvm.MethodName) ({ cls := "SledHouseModel", name := "about", desc := "(II)I" } : Jvm.MethodName)) ∈ lw_all := lw_g (lw_at lw_m7 147 rfl) rfl
theorem q1639 : (Jvm.Cond.code ({ cls := "SledHouseModel", name := "about", desc := "(II)I" } : Jvm.MethodName) prog_16_method_50_code (4 : Nat) (Option.some Jvm.ClassFile.FieldType.int)) ∈ lw_all := lw_g (lw_at lw_m7 148 rfl) rfl
theorem q1641 : (Jvm.Cond.instanceMethod ({ cls := "SledHouseModel", name := "dog", desc := "(III)I" } : Jvm.MethodName)) ∈ lw_all := lw_g (lw_at lw_m7 150 rfl) rfl
theorem q1642 : (Jvm.Cond.selects "SledHouseModel" ({ cls := "SledHouseModel", name := "dog", desc := "(III)I" } : Jvm.MethodName) ({ cls := "SledHouseModel", name := "dog", desc := "(III)I" } : Jvm.MethodName)) ∈ lw_all := lw_g (lw_at lw_m7 151 rfl) rfl
theorem q1643 : (Jvm.Cond.code ({ cls := "SledHouseModel", name := "dog", desc := "(III)I" } : Jvm.MethodName) prog_16_method_51_code (5 : Nat) (Option.some Jvm.ClassFile.FieldType.int)) ∈ lw_all := lw_g (lw_at lw_m7 152 rfl) rfl
theorem q1645 : (Jvm.Cond.instanceMethod ({ cls := "SledHouseModel", name := "time", desc := "(IIZ)I" } : Jvm.MethodName)) ∈ lw_all := lw_g (lw_at lw_m7 154 rfl) rfl
theorem q1646 : (Jvm.Cond.selects "SledHouseModel" ({ cls := "SledHouseModel", name := "time", desc := "(IIZ)I" } : Jvm.MethodName) ({ cls := "SledHouseModel", name := "time", desc := "(IIZ)I" } : Jvm.MethodName)) ∈ lw_all := lw_g (lw_at lw_m7 155 rfl) rfl
theorem q1647 : (Jvm.Cond.code ({ cls := "SledHouseModel", name := "time", desc := "(IIZ)I" } : Jvm.MethodName) prog_16_method_52_code (4 : Nat) (Option.some Jvm.ClassFile.FieldType.int)) ∈ lw_all := lw_g (lw_at lw_m7 156 rfl) rfl
theorem q1649 : (Jvm.Cond.instanceMethod ({ cls := "SledHouseModel", name := "did", desc := "(I)I" } : Jvm.MethodName)) ∈ lw_all := lw_g (lw_at lw_m7 158 rfl) rfl
theorem q1650 : (Jvm.Cond.selects "SledHouseModel" ({ cls := "SledHouseModel", name := "did", desc := "(I)I" } : Jvm.MethodName) ({ cls := "SledHouseModel", name := "did", desc := "(I)I" } : Jvm.MethodName)) ∈ lw_all := lw_g (lw_at lw_m7 159 rfl) rfl
theorem q1651 : (Jvm.Cond.code ({ cls := "SledHouseModel", name := "did", desc := "(I)I" } : Jvm.MethodName) prog_16_method_53_code (2 : Nat) (Option.some Jvm.ClassFile.FieldType.int)) ∈ lw_all := lw_g (lw_at lw_m7 160 rfl) rfl
theorem q1653 : (Jvm.Cond.instanceMethod ({ cls := "SledHouseModel", name := "result", desc := "(I)I" } : Jvm.MethodName)) ∈ lw_all := lw_g (lw_at lw_m7 162 rfl) rfl
theorem q1654 : (Jvm.Cond.selects "SledHouseModel" ({ cls := "SledHouseModel", name := "result", desc := "(I)I" } : Jvm.MethodName) ({ cls := "SledHouseModel", name := "result", desc := "(I)I" } : Jvm.MethodName)) ∈ lw_all := lw_g (lw_at lw_m7 163 rfl) rfl
theorem q1655 : (Jvm.Cond.code ({ cls := "SledHouseModel", name := "result", desc := "(I)I" } : Jvm.MethodName) prog_16_method_57_code (2 : Nat) (Option.some Jvm.ClassFile.FieldType.int)) ∈ lw_all := lw_g (lw_at lw_m7 164 rfl) rfl
theorem q1656 : (Jvm.Cond.methodLink "SledHouseModel" (405 : Nat) ({ cls := "SledHouseModel", name := "resultOf", desc := "(LSledHouseModel$Team;)I" } : Jvm.MethodName)) ∈ lw_all := lw_g (lw_at lw_m7 165 rfl) rfl
theorem q1657 : (Jvm.Cond.privateMethod ({ cls := "SledHouseModel", name := "resultOf", desc := "(LSledHouseModel$Team;)I" } : Jvm.MethodName)) ∈ lw_tbl := lw_at lw_m7 166 rfl
theorem q1658 : (Jvm.Cond.instanceMethod ({ cls := "SledHouseModel", name := "resultOf", desc := "(LSledHouseModel$Team;)I" } : Jvm.MethodName)) ∈ lw_all := lw_g (lw_at lw_m7 167 rfl) rfl
theorem q1659 : (Jvm.Cond.code ({ cls := "SledHouseModel", name := "resultOf", desc := "(LSledHouseModel$Team;)I" } : Jvm.MethodName) prog_16_method_56_code (7 : Nat) (Option.some Jvm.ClassFile.FieldType.int)) ∈ lw_all := lw_g (lw_at lw_m7 168 rfl) rfl
theorem q1660 : (Jvm.Cond.methodLink "SledHouseModel" (401 : Nat) ({ cls := "SledHouseModel", name := "lacksOf", desc := "(LSledHouseModel$Team;I)I" } : Jvm.MethodName)) ∈ lw_all := lw_g (lw_at lw_m7 169 rfl) rfl
theorem q1661 : (Jvm.Cond.privateMethod ({ cls := "SledHouseModel", name := "lacksOf", desc := "(LSledHouseModel$Team;I)I" } : Jvm.MethodName)) ∈ lw_tbl := lw_at lw_m7 170 rfl
theorem q1662 : (Jvm.Cond.instanceMethod ({ cls := "SledHouseModel", name := "lacksOf", desc := "(LSledHouseModel$Team;I)I" } : Jvm.MethodName)) ∈ lw_all := lw_g (lw_at lw_m7 171 rfl) rfl
theorem q1663 : (Jvm.Cond.code ({ cls := "SledHouseModel", name := "lacksOf", desc := "(LSledHouseModel$Team;I)I" } : Jvm.MethodName) prog_16_method_55_code (8 : Nat) (Option.some Jvm.ClassFile.FieldType.int)) ∈ lw_all := lw_g (lw_at lw_m7 172 rfl) rfl
theorem q1664 : (Jvm.Cond.methodLink "SledHouseModel" (395 : Nat) ({ cls := "SledHouseModel", name := "less", desc := "(LSledHouseModel$Team;II)I" } : Jvm.MethodName)) ∈ lw_all := lw_g (lw_at lw_m7 173 rfl) rfl
theorem q1665 : (Jvm.Cond.privateMethod ({ cls := "SledHouseModel", name := "less", desc := "(LSledHouseModel$Team;II)I" } : Jvm.MethodName)) ∈ lw_tbl := lw_at lw_m7 174 rfl
theorem q1666 : (Jvm.Cond.instanceMethod ({ cls := "SledHouseModel", name := "less", desc := "(LSledHouseModel$Team;II)I" } : Jvm.MethodName)) ∈ lw_all := lw_g (lw_at lw_m7 175 rfl) rfl
theorem q1667 : (Jvm.Cond.code ({ cls := "SledHouseModel", name := "less", desc := "(LSledHouseModel$Team;II)I" } : Jvm.MethodName) prog_16_method_54_code (4 : Nat) (Option.some Jvm.ClassFile.FieldType.int)) ∈ lw_all := lw_g (lw_at lw_m7 176 rfl) rfl
theorem q1668 : (Jvm.Cond.methodLink "SledHouseModel" (398 : Nat) ({ cls := "java/lang/Math", name := "min", desc := "(II)I" } : Jvm.MethodName)) ∈ lw_all := lw_g (lw_at lw_m7 177 rfl) rfl
theorem q1670 : (Jvm.Cond.instanceMethod ({ cls := "SledHouseModel", name := "lacks", desc := "(II)I" } : Jvm.MethodName)) ∈ lw_all := lw_g (lw_at lw_m7 179 rfl) rfl
theorem q1671 : (Jvm.Cond.selects "SledHouseModel" ({ cls := "SledHouseModel", name := "lacks", desc := "(II)I" } : Jvm.MethodName) ({ cls := "SledHouseModel", name := "lacks", desc := "(II)I" } : Jvm.MethodName)) ∈ lw_all := lw_g (lw_at lw_m7 180 rfl) rfl
theorem q1672 : (Jvm.Cond.code ({ cls := "SledHouseModel", name := "lacks", desc := "(II)I" } : Jvm.MethodName) prog_16_method_58_code (3 : Nat) (Option.some Jvm.ClassFile.FieldType.int)) ∈ lw_all := lw_g (lw_at lw_m7 181 rfl) rfl
theorem q1674 : (Jvm.Cond.instanceMethod ({ cls := "SledHouseModel", name := "place", desc := "(I)I" } : Jvm.MethodName)) ∈ lw_all := lw_g (lw_at lw_m7 183 rfl) rfl
theorem q1675 : (Jvm.Cond.selects "SledHouseModel" ({ cls := "SledHouseModel", name := "place", desc := "(I)I" } : Jvm.MethodName) ({ cls := "SledHouseModel", name := "place", desc := "(I)I" } : Jvm.MethodName)) ∈ lw_all := lw_g (lw_at lw_m7 184 rfl) rfl
theorem q1676 : (Jvm.Cond.code ({ cls := "SledHouseModel", name := "place", desc := "(I)I" } : Jvm.MethodName) prog_16_method_60_code (5 : Nat) (Option.some Jvm.ClassFile.FieldType.int)) ∈ lw_all := lw_g (lw_at lw_m7 185 rfl) rfl
theorem q1677 : (Jvm.Cond.methodLink "SledHouseModel" (408 : Nat) ({ cls := "SledHouseModel", name := "isAhead", desc := "(II)Z" } : Jvm.MethodName)) ∈ lw_all := lw_g (lw_at lw_m7 186 rfl) rfl
theorem q1678 : (Jvm.Cond.privateMethod ({ cls := "SledHouseModel", name := "isAhead", desc := "(II)Z" } : Jvm.MethodName)) ∈ lw_tbl := lw_at lw_m7 187 rfl
theorem q1679 : (Jvm.Cond.instanceMethod ({ cls := "SledHouseModel", name := "isAhead", desc := "(II)Z" } : Jvm.MethodName)) ∈ lw_all := lw_g (lw_at lw_m7 188 rfl) rfl
theorem q1680 : (Jvm.Cond.code ({ cls := "SledHouseModel", name := "isAhead", desc := "(II)Z" } : Jvm.MethodName) prog_16_method_59_code (9 : Nat) (Option.some Jvm.ClassFile.FieldType.boolean)) ∈ lw_all := lw_g (lw_at lw_m7 189 rfl) rfl
theorem q1682 : (Jvm.Cond.instanceMethod ({ cls := "SledHouseModel", name := "came", desc := "(II)I" } : Jvm.MethodName)) ∈ lw_all := lw_g (lw_at lw_m7 191 rfl) rfl
theorem q1683 : (Jvm.Cond.selects "SledHouseModel" ({ cls := "SledHouseModel", name := "came", desc := "(II)I" } : Jvm.MethodName) ({ cls := "SledHouseModel", name := "came", desc := "(II)I" } : Jvm.MethodName)) ∈ lw_all := lw_g (lw_at lw_m7 192 rfl) rfl
theorem q1684 : (Jvm.Cond.code ({ cls := "SledHouseModel", name := "came", desc := "(II)I" } : Jvm.MethodName) prog_16_method_61_code (5 : Nat) (Option.some Jvm.ClassFile.FieldType.int)) ∈ lw_all := lw_g (lw_at lw_m7 193 rfl) rfl
theorem q1686 : (Jvm.Cond.instanceMethod ({ cls := "SledHouseModel", name := "spot", desc := "(IIZ)I" } : Jvm.MethodName)) ∈ lw_all := lw_g (lw_at lw_m7 195 rfl) rfl
theorem q1687 : (Jvm.Cond.selects "SledHouseModel" ({ cls := "SledHouseModel", name := "spot", desc := "(IIZ)I" } : Jvm.MethodName) ({ cls := "SledHouseModel", name := "spot", desc := "(IIZ)I" } : Jvm.MethodName)) ∈ lw_all := lw_g (lw_at lw_m7 196 rfl) rfl
theorem q1688 : (Jvm.Cond.code ({ cls := "SledHouseModel", name := "spot", desc := "(IIZ)I" } : Jvm.MethodName) prog_16_method_62_code (8 : Nat) (Option.some Jvm.ClassFile.FieldType.int)) ∈ lw_all := lw_g (lw_at lw_m7 197 rfl) rfl
theorem q1689 : (Jvm.Cond.methodLink "SledHouseModel" (412 : Nat) ({ cls := "SledHouseModel", name := "trail", desc := "()I" } : Jvm.MethodName)) ∈ lw_all := lw_g (lw_at lw_m7 198 rfl) rfl
theorem q1690 : (Jvm.Cond.privateMethod ({ cls := "SledHouseModel", name := "trail", desc := "()I" } : Jvm.MethodName)) ∈ lw_tbl := lw_at lw_m7 199 rfl
theorem q1691 : (Jvm.Cond.instanceMethod ({ cls := "SledHouseModel", name := "trail", desc := "()I" } : Jvm.MethodName)) ∈ lw_all := lw_g (lw_at lw_m7 200 rfl) rfl
theorem q1692 : (Jvm.Cond.code ({ cls := "SledHouseModel", name := "trail", desc := "()I" } : Jvm.MethodName) prog_16_method_43_code (3 : Nat) (Option.some Jvm.ClassFile.FieldType.int)) ∈ lw_all := lw_g (lw_at lw_m7 201 rfl) rfl
theorem q1694 : (Jvm.Cond.instanceMethod ({ cls := "SledHouseModel", name := "signs", desc := "(I)I" } : Jvm.MethodName)) ∈ lw_all := lw_g (lw_at lw_m7 203 rfl) rfl
theorem q1695 : (Jvm.Cond.selects "SledHouseModel" ({ cls := "SledHouseModel", name := "signs", desc := "(I)I" } : Jvm.MethodName) ({ cls := "SledHouseModel", name := "signs", desc := "(I)I" } : Jvm.MethodName)) ∈ lw_all := lw_g (lw_at lw_m7 204 rfl) rfl
theorem q1696 : (Jvm.Cond.code ({ cls := "SledHouseModel", name := "signs", desc := "(I)I" } : Jvm.MethodName) prog_16_method_63_code (2 : Nat) (Option.some Jvm.ClassFile.FieldType.int)) ∈ lw_all := lw_g (lw_at lw_m7 205 rfl) rfl
theorem q1698 : (Jvm.Cond.instanceMethod ({ cls := "SledHouseModel", name := "replay", desc := "(III)I" } : Jvm.MethodName)) ∈ lw_all := lw_g (lw_at lw_m7 207 rfl) rfl
theorem q1699 : (Jvm.Cond.selects "SledHouseModel" ({ cls := "SledHouseModel", name := "replay", desc := "(III)I" } : Jvm.MethodName) ({ cls := "SledHouseModel", name := "replay", desc := "(III)I" } : Jvm.MethodName)) ∈ lw_all := lw_g (lw_at lw_m7 208 rfl) rfl
theorem q1700 : (Jvm.Cond.code ({ cls := "SledHouseModel", name := "replay", desc := "(III)I" } : Jvm.MethodName) prog_16_method_64_code (6 : Nat) (Option.some Jvm.ClassFile.FieldType.int)) ∈ lw_all := lw_g (lw_at lw_m7 209 rfl) rfl
theorem q1702 : (Jvm.Cond.instanceMethod ({ cls := "SledHouseModel", name := "count", desc := "(I)I" } : Jvm.MethodName)) ∈ lw_all := lw_g (lw_at lw_m7 211 rfl) rfl
theorem q1703 : (Jvm.Cond.selects "SledHouseModel" ({ cls := "SledHouseModel", name := "count", desc := "(I)I" } : Jvm.MethodName) ({ cls := "SledHouseModel", name := "count", desc := "(I)I" } : Jvm.MethodName)) ∈ lw_all := lw_g (lw_at lw_m7 212 rfl) rfl
theorem q1704 : (Jvm.Cond.code ({ cls := "SledHouseModel", name := "count", desc := "(I)I" } : Jvm.MethodName) prog_16_method_65_code (2 : Nat) (Option.some Jvm.ClassFile.FieldType.int)) ∈ lw_all := lw_g (lw_at lw_m7 213 rfl) rfl
theorem q1706 : (Jvm.Cond.instanceMethod ({ cls := "SledHouseModel", name := "trouble", desc := "()I" } : Jvm.MethodName)) ∈ lw_all := lw_g (lw_at lw_m7 215 rfl) rfl
theorem q1707 : (Jvm.Cond.selects "SledHouseModel" ({ cls := "SledHouseModel", name := "trouble", desc := "()I" } : Jvm.MethodName) ({ cls := "SledHouseModel", name := "trouble", desc := "()I" } : Jvm.MethodName)) ∈ lw_all := lw_g (lw_at lw_m7 216 rfl) rfl
theorem q1708 : (Jvm.Cond.code ({ cls := "SledHouseModel", name := "trouble", desc := "()I" } : Jvm.MethodName) prog_16_method_66_code (1 : Nat) (Option.some Jvm.ClassFile.FieldType.int)) ∈ lw_all := lw_g (lw_at lw_m7 217 rfl) rfl
theorem in_X6 : ∀ w ∈ wsX60, w ∈ lw_all := lw_in wsX60 [1291, 1293, 1295, 1297, 1299, 1301, 1303, 1305, 1307, 1309, 1311, 1313, 1315, 1317, 1319, 1321, 1323, 1325, 1327, 1329, 1331, 1333, 1335, 1337, 1339, 1341, 1343, 1345, 1347, 1349, 1351, 1353, 1355, 1357, 1359, 1361, 1363, 1365, 1367, 1369] (by decide +kernel) (by decide +kernel)

