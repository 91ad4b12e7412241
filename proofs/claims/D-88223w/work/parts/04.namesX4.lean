/-! SledHouse$World -/
set_option maxRecDepth 100000
def RX3 : String := "SledHouse$World"
def TX3 : u_T := fun k => match k with
  | 0 => ("SledHouse$World", "lengthOf", "[I", true)
  | 1 => ("SledHouse$World", "hardnessOf", "[I", true)
  | 2 => ("SledHouse$World", "cold", "[I", true)
  | 3 => ("SledHouse$World", "teams", "[LSledHouse$Team;", true)
  | 4 => ("SledHouse$World", "legMany", "I", false)
  | 5 => ("SledHouse$World", "teamMany", "I", false)
  | 6 => ("SledHouse$World", "steps", "I", false)
  | _ => ("SledHouse$World", "each", "I", false)
def tyX3 : Nat → FieldType := fun k => match k with
  | 0 => .array .int
  | 1 => .array .int
  | 2 => .array .int
  | 3 => .array (.object "SledHouse$Team")
  | 4 => .int
  | 5 => .int
  | 6 => .int
  | _ => .int
abbrev wsX30 : List Cond := u_ws RX3 TX3 8
theorem nmX3 : ∀ a, a < 8 → ∀ b, b < 8 → a ≠ b → (TX3 a).2.1 ≠ (TX3 b).2.1 := by decide +kernel
theorem tyX3_ok : ∀ k, k < 8 → parseFieldDescriptor (TX3 k).2.2.1 = some (tyX3 k) := by decide +kernel
abbrev cX3_init : ByteArray := prog_14_method_1_code
def yX3_init : MethodName := ⟨RX3, "<init>", "()V"⟩
def dkwX3_init_4 : List UInt8 := [177]
abbrev dktX3_init_4 : List UInt8 := dkwX3_init_4 ++ []
def dkwX3_init_3 : List UInt8 := [16, 6, 162, 0, 22, 42, 180, 0, 23, 27, 187, 0, 21, 89, 183, 0, 31, 83, 132, 1, 1, 167, 255, 234]
abbrev dktX3_init_3 : List UInt8 := dkwX3_init_3 ++ dktX3_init_4
def dkwX3_init_2 : List UInt8 := [17, 1, 78, 162, 0, 17, 42, 180, 0, 18, 27, 16, 236, 79, 132, 1, 1, 167, 255, 238, 3, 60, 27]
abbrev dktX3_init_2 : List UInt8 := dkwX3_init_2 ++ dktX3_init_3
def dkwX3_init_1 : List UInt8 := [188, 10, 181, 0, 18, 42, 16, 6, 189, 0, 21, 181, 0, 23, 42, 16, 6, 181, 0, 27, 3, 60, 27]
abbrev dktX3_init_1 : List UInt8 := dkwX3_init_1 ++ dktX3_init_2
def dkwX3_init_0 : List UInt8 := [42, 183, 0, 3, 42, 16, 12, 188, 10, 181, 0, 9, 42, 16, 12, 188, 10, 181, 0, 15, 42, 17, 1, 78]
abbrev dktX3_init_0 : List UInt8 := dkwX3_init_0 ++ dktX3_init_1
theorem dksX3_init_0 : cX3_init.data.toList.drop 0 = dktX3_init_0 := by decide +kernel
theorem dksX3_init_1 : cX3_init.data.toList.drop 24 = dktX3_init_1 := dk_seg dksX3_init_0 24 rfl rfl
theorem dksX3_init_2 : cX3_init.data.toList.drop 47 = dktX3_init_2 := dk_seg dksX3_init_1 23 rfl rfl
theorem dksX3_init_3 : cX3_init.data.toList.drop 70 = dktX3_init_3 := dk_seg dksX3_init_2 23 rfl rfl
theorem dksX3_init_4 : cX3_init.data.toList.drop 94 = dktX3_init_4 := dk_seg dksX3_init_3 24 rfl rfl
theorem dX3_init_0 : decode cX3_init 0 = .ok (.aload_n 0, 1) := dk_42 (dk_at dksX3_init_0 0 rfl rfl)
theorem dX3_init_1 : decode cX3_init 1 = .ok (.invokespecial 3, 3) := dk_183 0 3 (dk_at dksX3_init_0 1 rfl rfl)
theorem dX3_init_4 : decode cX3_init 4 = .ok (.aload_n 0, 1) := dk_42 (dk_at dksX3_init_0 4 rfl rfl)
theorem dX3_init_5 : decode cX3_init 5 = .ok (.bipush 12, 2) := dk_16 12 (dk_at dksX3_init_0 5 rfl rfl)
theorem dX3_init_7 : decode cX3_init 7 = .ok (.newarray .int, 2) := dk_188_10 (dk_at dksX3_init_0 7 rfl rfl)
theorem dX3_init_9 : decode cX3_init 9 = .ok (.putfield 9, 3) := dk_181 0 9 (dk_at dksX3_init_0 9 rfl rfl)
theorem dX3_init_12 : decode cX3_init 12 = .ok (.aload_n 0, 1) := dk_42 (dk_at dksX3_init_0 12 rfl rfl)
theorem dX3_init_13 : decode cX3_init 13 = .ok (.bipush 12, 2) := dk_16 12 (dk_at dksX3_init_0 13 rfl rfl)
theorem dX3_init_15 : decode cX3_init 15 = .ok (.newarray .int, 2) := dk_188_10 (dk_at dksX3_init_0 15 rfl rfl)
theorem dX3_init_17 : decode cX3_init 17 = .ok (.putfield 15, 3) := dk_181 0 15 (dk_at dksX3_init_0 17 rfl rfl)
theorem dX3_init_20 : decode cX3_init 20 = .ok (.aload_n 0, 1) := dk_42 (dk_at dksX3_init_0 20 rfl rfl)
theorem dX3_init_21 : decode cX3_init 21 = .ok (.sipush 334, 3) := dk_17 1 78 (dk_at dksX3_init_0 21 rfl rfl)
theorem dX3_init_24 : decode cX3_init 24 = .ok (.newarray .int, 2) := dk_188_10 (dk_at dksX3_init_1 0 rfl rfl)
theorem dX3_init_26 : decode cX3_init 26 = .ok (.putfield 18, 3) := dk_181 0 18 (dk_at dksX3_init_1 2 rfl rfl)
theorem dX3_init_29 : decode cX3_init 29 = .ok (.aload_n 0, 1) := dk_42 (dk_at dksX3_init_1 5 rfl rfl)
theorem dX3_init_30 : decode cX3_init 30 = .ok (.bipush 6, 2) := dk_16 6 (dk_at dksX3_init_1 6 rfl rfl)
theorem dX3_init_32 : decode cX3_init 32 = .ok (.anewarray 21, 3) := dk_189 0 21 (dk_at dksX3_init_1 8 rfl rfl)
theorem dX3_init_35 : decode cX3_init 35 = .ok (.putfield 23, 3) := dk_181 0 23 (dk_at dksX3_init_1 11 rfl rfl)
theorem dX3_init_38 : decode cX3_init 38 = .ok (.aload_n 0, 1) := dk_42 (dk_at dksX3_init_1 14 rfl rfl)
theorem dX3_init_39 : decode cX3_init 39 = .ok (.bipush 6, 2) := dk_16 6 (dk_at dksX3_init_1 15 rfl rfl)
theorem dX3_init_41 : decode cX3_init 41 = .ok (.putfield 27, 3) := dk_181 0 27 (dk_at dksX3_init_1 17 rfl rfl)
theorem dX3_init_44 : decode cX3_init 44 = .ok (.iconst 0, 1) := dk_3 (dk_at dksX3_init_1 20 rfl rfl)
theorem dX3_init_45 : decode cX3_init 45 = .ok (.istore_n 1, 1) := dk_60 (dk_at dksX3_init_1 21 rfl rfl)
theorem dX3_init_46 : decode cX3_init 46 = .ok (.iload_n 1, 1) := dk_27 (dk_at dksX3_init_1 22 rfl rfl)
theorem dX3_init_47 : decode cX3_init 47 = .ok (.sipush 334, 3) := dk_17 1 78 (dk_at dksX3_init_2 0 rfl rfl)
theorem dX3_init_50 : decode cX3_init 50 = .ok (.if_icmp .ge 17, 3) := dk_162 0 17 (dk_at dksX3_init_2 3 rfl rfl)
theorem dX3_init_53 : decode cX3_init 53 = .ok (.aload_n 0, 1) := dk_42 (dk_at dksX3_init_2 6 rfl rfl)
theorem dX3_init_54 : decode cX3_init 54 = .ok (.getfield 18, 3) := dk_180 0 18 (dk_at dksX3_init_2 7 rfl rfl)
theorem dX3_init_57 : decode cX3_init 57 = .ok (.iload_n 1, 1) := dk_27 (dk_at dksX3_init_2 10 rfl rfl)
theorem dX3_init_58 : decode cX3_init 58 = .ok (.bipush (-20), 2) := dk_16 236 (dk_at dksX3_init_2 11 rfl rfl)
theorem dX3_init_60 : decode cX3_init 60 = .ok (.iastore, 1) := dk_79 (dk_at dksX3_init_2 13 rfl rfl)
theorem dX3_init_61 : decode cX3_init 61 = .ok (.iinc 1 1, 3) := dk_132 1 1 (dk_at dksX3_init_2 14 rfl rfl)
theorem dX3_init_64 : decode cX3_init 64 = .ok (.goto (-18), 3) := dk_167 255 238 (dk_at dksX3_init_2 17 rfl rfl)
theorem dX3_init_67 : decode cX3_init 67 = .ok (.iconst 0, 1) := dk_3 (dk_at dksX3_init_2 20 rfl rfl)
theorem dX3_init_68 : decode cX3_init 68 = .ok (.istore_n 1, 1) := dk_60 (dk_at dksX3_init_2 21 rfl rfl)
theorem dX3_init_69 : decode cX3_init 69 = .ok (.iload_n 1, 1) := dk_27 (dk_at dksX3_init_2 22 rfl rfl)
theorem dX3_init_70 : decode cX3_init 70 = .ok (.bipush 6, 2) := dk_16 6 (dk_at dksX3_init_3 0 rfl rfl)
theorem dX3_init_72 : decode cX3_init 72 = .ok (.if_icmp .ge 22, 3) := dk_162 0 22 (dk_at dksX3_init_3 2 rfl rfl)
theorem dX3_init_75 : decode cX3_init 75 = .ok (.aload_n 0, 1) := dk_42 (dk_at dksX3_init_3 5 rfl rfl)
theorem dX3_init_76 : decode cX3_init 76 = .ok (.getfield 23, 3) := dk_180 0 23 (dk_at dksX3_init_3 6 rfl rfl)
theorem dX3_init_79 : decode cX3_init 79 = .ok (.iload_n 1, 1) := dk_27 (dk_at dksX3_init_3 9 rfl rfl)
theorem dX3_init_80 : decode cX3_init 80 = .ok (.new 21, 3) := dk_187 0 21 (dk_at dksX3_init_3 10 rfl rfl)
theorem dX3_init_83 : decode cX3_init 83 = .ok (.dup, 1) := dk_89 (dk_at dksX3_init_3 13 rfl rfl)
theorem dX3_init_84 : decode cX3_init 84 = .ok (.invokespecial 31, 3) := dk_183 0 31 (dk_at dksX3_init_3 14 rfl rfl)
theorem dX3_init_87 : decode cX3_init 87 = .ok (.aastore, 1) := dk_83 (dk_at dksX3_init_3 17 rfl rfl)
theorem dX3_init_88 : decode cX3_init 88 = .ok (.iinc 1 1, 3) := dk_132 1 1 (dk_at dksX3_init_3 18 rfl rfl)
theorem dX3_init_91 : decode cX3_init 91 = .ok (.goto (-22), 3) := dk_167 255 234 (dk_at dksX3_init_3 21 rfl rfl)
theorem dX3_init_94 : decode cX3_init 94 = .ok (.return_, 1) := dk_177 (dk_at dksX3_init_4 0 rfl rfl)
abbrev cX3_goesOn : ByteArray := prog_14_method_4_code
def yX3_goesOn : MethodName := ⟨RX3, "goesOn", "()Z"⟩
def dkwX3_goesOn_2 : List UInt8 := [180, 0, 44, 17, 7, 208, 162, 0, 7, 4, 167, 0, 4, 3, 172]
abbrev dktX3_goesOn_2 : List UInt8 := dkwX3_goesOn_2 ++ []
def dkwX3_goesOn_1 : List UInt8 := [180, 0, 51, 5, 162, 0, 7, 4, 167, 0, 4, 3, 60, 132, 2, 1, 167, 255, 222, 27, 153, 0, 17, 42]
abbrev dktX3_goesOn_1 : List UInt8 := dkwX3_goesOn_1 ++ dktX3_goesOn_2
def dkwX3_goesOn_0 : List UInt8 := [3, 60, 3, 61, 28, 42, 180, 0, 41, 162, 0, 32, 27, 154, 0, 28, 42, 180, 0, 23, 28, 50]
abbrev dktX3_goesOn_0 : List UInt8 := dkwX3_goesOn_0 ++ dktX3_goesOn_1
theorem dksX3_goesOn_0 : cX3_goesOn.data.toList.drop 0 = dktX3_goesOn_0 := by decide +kernel
theorem dksX3_goesOn_1 : cX3_goesOn.data.toList.drop 22 = dktX3_goesOn_1 := dk_seg dksX3_goesOn_0 22 rfl rfl
theorem dksX3_goesOn_2 : cX3_goesOn.data.toList.drop 46 = dktX3_goesOn_2 := dk_seg dksX3_goesOn_1 24 rfl rfl
theorem dX3_goesOn_0 : decode cX3_goesOn 0 = .ok (.iconst 0, 1) := dk_3 (dk_at dksX3_goesOn_0 0 rfl rfl)
theorem dX3_goesOn_1 : decode cX3_goesOn 1 = .ok (.istore_n 1, 1) := dk_60 (dk_at dksX3_goesOn_0 1 rfl rfl)
theorem dX3_goesOn_2 : decode cX3_goesOn 2 = .ok (.iconst 0, 1) := dk_3 (dk_at dksX3_goesOn_0 2 rfl rfl)
theorem dX3_goesOn_3 : decode cX3_goesOn 3 = .ok (.istore_n 2, 1) := dk_61 (dk_at dksX3_goesOn_0 3 rfl rfl)
theorem dX3_goesOn_4 : decode cX3_goesOn 4 = .ok (.iload_n 2, 1) := dk_28 (dk_at dksX3_goesOn_0 4 rfl rfl)
theorem dX3_goesOn_5 : decode cX3_goesOn 5 = .ok (.aload_n 0, 1) := dk_42 (dk_at dksX3_goesOn_0 5 rfl rfl)
theorem dX3_goesOn_6 : decode cX3_goesOn 6 = .ok (.getfield 41, 3) := dk_180 0 41 (dk_at dksX3_goesOn_0 6 rfl rfl)
theorem dX3_goesOn_9 : decode cX3_goesOn 9 = .ok (.if_icmp .ge 32, 3) := dk_162 0 32 (dk_at dksX3_goesOn_0 9 rfl rfl)
theorem dX3_goesOn_12 : decode cX3_goesOn 12 = .ok (.iload_n 1, 1) := dk_27 (dk_at dksX3_goesOn_0 12 rfl rfl)
theorem dX3_goesOn_13 : decode cX3_goesOn 13 = .ok (.ifCond .ne 28, 3) := dk_154 0 28 (dk_at dksX3_goesOn_0 13 rfl rfl)
theorem dX3_goesOn_16 : decode cX3_goesOn 16 = .ok (.aload_n 0, 1) := dk_42 (dk_at dksX3_goesOn_0 16 rfl rfl)
theorem dX3_goesOn_17 : decode cX3_goesOn 17 = .ok (.getfield 23, 3) := dk_180 0 23 (dk_at dksX3_goesOn_0 17 rfl rfl)
theorem dX3_goesOn_20 : decode cX3_goesOn 20 = .ok (.iload_n 2, 1) := dk_28 (dk_at dksX3_goesOn_0 20 rfl rfl)
theorem dX3_goesOn_21 : decode cX3_goesOn 21 = .ok (.aaload, 1) := dk_50 (dk_at dksX3_goesOn_0 21 rfl rfl)
theorem dX3_goesOn_22 : decode cX3_goesOn 22 = .ok (.getfield 51, 3) := dk_180 0 51 (dk_at dksX3_goesOn_1 0 rfl rfl)
theorem dX3_goesOn_25 : decode cX3_goesOn 25 = .ok (.iconst 2, 1) := dk_5 (dk_at dksX3_goesOn_1 3 rfl rfl)
theorem dX3_goesOn_26 : decode cX3_goesOn 26 = .ok (.if_icmp .ge 7, 3) := dk_162 0 7 (dk_at dksX3_goesOn_1 4 rfl rfl)
theorem dX3_goesOn_29 : decode cX3_goesOn 29 = .ok (.iconst 1, 1) := dk_4 (dk_at dksX3_goesOn_1 7 rfl rfl)
theorem dX3_goesOn_30 : decode cX3_goesOn 30 = .ok (.goto 4, 3) := dk_167 0 4 (dk_at dksX3_goesOn_1 8 rfl rfl)
theorem dX3_goesOn_33 : decode cX3_goesOn 33 = .ok (.iconst 0, 1) := dk_3 (dk_at dksX3_goesOn_1 11 rfl rfl)
theorem dX3_goesOn_34 : decode cX3_goesOn 34 = .ok (.istore_n 1, 1) := dk_60 (dk_at dksX3_goesOn_1 12 rfl rfl)
theorem dX3_goesOn_35 : decode cX3_goesOn 35 = .ok (.iinc 2 1, 3) := dk_132 2 1 (dk_at dksX3_goesOn_1 13 rfl rfl)
theorem dX3_goesOn_38 : decode cX3_goesOn 38 = .ok (.goto (-34), 3) := dk_167 255 222 (dk_at dksX3_goesOn_1 16 rfl rfl)
theorem dX3_goesOn_41 : decode cX3_goesOn 41 = .ok (.iload_n 1, 1) := dk_27 (dk_at dksX3_goesOn_1 19 rfl rfl)
theorem dX3_goesOn_42 : decode cX3_goesOn 42 = .ok (.ifCond .eq 17, 3) := dk_153 0 17 (dk_at dksX3_goesOn_1 20 rfl rfl)
theorem dX3_goesOn_45 : decode cX3_goesOn 45 = .ok (.aload_n 0, 1) := dk_42 (dk_at dksX3_goesOn_1 23 rfl rfl)
theorem dX3_goesOn_46 : decode cX3_goesOn 46 = .ok (.getfield 44, 3) := dk_180 0 44 (dk_at dksX3_goesOn_2 0 rfl rfl)
theorem dX3_goesOn_49 : decode cX3_goesOn 49 = .ok (.sipush 2000, 3) := dk_17 7 208 (dk_at dksX3_goesOn_2 3 rfl rfl)
theorem dX3_goesOn_52 : decode cX3_goesOn 52 = .ok (.if_icmp .ge 7, 3) := dk_162 0 7 (dk_at dksX3_goesOn_2 6 rfl rfl)
theorem dX3_goesOn_55 : decode cX3_goesOn 55 = .ok (.iconst 1, 1) := dk_4 (dk_at dksX3_goesOn_2 9 rfl rfl)
theorem dX3_goesOn_56 : decode cX3_goesOn 56 = .ok (.goto 4, 3) := dk_167 0 4 (dk_at dksX3_goesOn_2 10 rfl rfl)
theorem dX3_goesOn_59 : decode cX3_goesOn 59 = .ok (.iconst 0, 1) := dk_3 (dk_at dksX3_goesOn_2 13 rfl rfl)
theorem dX3_goesOn_60 : decode cX3_goesOn 60 = .ok (.ireturn, 1) := dk_172 (dk_at dksX3_goesOn_2 14 rfl rfl)
abbrev cX3_trail : ByteArray := prog_14_method_3_code
def yX3_trail : MethodName := ⟨RX3, "trail", "()I"⟩
def dkwX3_trail_1 : List UInt8 := [167, 255, 236, 27, 172]
abbrev dktX3_trail_1 : List UInt8 := dkwX3_trail_1 ++ []
def dkwX3_trail_0 : List UInt8 := [3, 60, 3, 61, 28, 42, 180, 0, 38, 162, 0, 18, 27, 42, 180, 0, 9, 28, 46, 96, 60, 132, 2, 1]
abbrev dktX3_trail_0 : List UInt8 := dkwX3_trail_0 ++ dktX3_trail_1
theorem dksX3_trail_0 : cX3_trail.data.toList.drop 0 = dktX3_trail_0 := by decide +kernel
theorem dksX3_trail_1 : cX3_trail.data.toList.drop 24 = dktX3_trail_1 := dk_seg dksX3_trail_0 24 rfl rfl
theorem dX3_trail_0 : decode cX3_trail 0 = .ok (.iconst 0, 1) := dk_3 (dk_at dksX3_trail_0 0 rfl rfl)
theorem dX3_trail_1 : decode cX3_trail 1 = .ok (.istore_n 1, 1) := dk_60 (dk_at dksX3_trail_0 1 rfl rfl)
theorem dX3_trail_2 : decode cX3_trail 2 = .ok (.iconst 0, 1) := dk_3 (dk_at dksX3_trail_0 2 rfl rfl)
theorem dX3_trail_3 : decode cX3_trail 3 = .ok (.istore_n 2, 1) := dk_61 (dk_at dksX3_trail_0 3 rfl rfl)
theorem dX3_trail_4 : decode cX3_trail 4 = .ok (.iload_n 2, 1) := dk_28 (dk_at dksX3_trail_0 4 rfl rfl)
theorem dX3_trail_5 : decode cX3_trail 5 = .ok (.aload_n 0, 1) := dk_42 (dk_at dksX3_trail_0 5 rfl rfl)
theorem dX3_trail_6 : decode cX3_trail 6 = .ok (.getfield 38, 3) := dk_180 0 38 (dk_at dksX3_trail_0 6 rfl rfl)
theorem dX3_trail_9 : decode cX3_trail 9 = .ok (.if_icmp .ge 18, 3) := dk_162 0 18 (dk_at dksX3_trail_0 9 rfl rfl)
theorem dX3_trail_12 : decode cX3_trail 12 = .ok (.iload_n 1, 1) := dk_27 (dk_at dksX3_trail_0 12 rfl rfl)
theorem dX3_trail_13 : decode cX3_trail 13 = .ok (.aload_n 0, 1) := dk_42 (dk_at dksX3_trail_0 13 rfl rfl)
theorem dX3_trail_14 : decode cX3_trail 14 = .ok (.getfield 9, 3) := dk_180 0 9 (dk_at dksX3_trail_0 14 rfl rfl)
theorem dX3_trail_17 : decode cX3_trail 17 = .ok (.iload_n 2, 1) := dk_28 (dk_at dksX3_trail_0 17 rfl rfl)
theorem dX3_trail_18 : decode cX3_trail 18 = .ok (.iaload, 1) := dk_46 (dk_at dksX3_trail_0 18 rfl rfl)
theorem dX3_trail_19 : decode cX3_trail 19 = .ok (.iadd, 1) := dk_96 (dk_at dksX3_trail_0 19 rfl rfl)
theorem dX3_trail_20 : decode cX3_trail 20 = .ok (.istore_n 1, 1) := dk_60 (dk_at dksX3_trail_0 20 rfl rfl)
theorem dX3_trail_21 : decode cX3_trail 21 = .ok (.iinc 2 1, 3) := dk_132 2 1 (dk_at dksX3_trail_0 21 rfl rfl)
theorem dX3_trail_24 : decode cX3_trail 24 = .ok (.goto (-20), 3) := dk_167 255 236 (dk_at dksX3_trail_1 0 rfl rfl)
theorem dX3_trail_27 : decode cX3_trail 27 = .ok (.iload_n 1, 1) := dk_27 (dk_at dksX3_trail_1 3 rfl rfl)
theorem dX3_trail_28 : decode cX3_trail 28 = .ok (.ireturn, 1) := dk_172 (dk_at dksX3_trail_1 4 rfl rfl)
abbrev cX3_become : ByteArray := prog_14_method_2_code
def yX3_become : MethodName := ⟨RX3, "become", "(LSledHouse$World;)V"⟩
def dkwX3_become_4 : List UInt8 := [180, 0, 23, 28, 50, 182, 0, 47, 132, 2, 1, 167, 255, 230, 177]
abbrev dktX3_become_4 : List UInt8 := dkwX3_become_4 ++ []
def dkwX3_become_3 : List UInt8 := [180, 0, 27, 181, 0, 27, 3, 61, 28, 42, 180, 0, 41, 162, 0, 24, 42, 180, 0, 23, 28, 50, 43]
abbrev dktX3_become_3 : List UInt8 := dkwX3_become_3 ++ dktX3_become_4
def dkwX3_become_2 : List UInt8 := [180, 0, 38, 181, 0, 38, 42, 43, 180, 0, 41, 181, 0, 41, 42, 43, 180, 0, 44, 181, 0, 44, 42, 43]
abbrev dktX3_become_2 : List UInt8 := dkwX3_become_2 ++ dktX3_become_3
def dkwX3_become_1 : List UInt8 := [3, 16, 12, 184, 0, 32, 43, 180, 0, 18, 3, 42, 180, 0, 18, 3, 17, 1, 78, 184, 0, 32, 42, 43]
abbrev dktX3_become_1 : List UInt8 := dkwX3_become_1 ++ dktX3_become_2
def dkwX3_become_0 : List UInt8 := [43, 180, 0, 9, 3, 42, 180, 0, 9, 3, 16, 12, 184, 0, 32, 43, 180, 0, 15, 3, 42, 180, 0, 15]
abbrev dktX3_become_0 : List UInt8 := dkwX3_become_0 ++ dktX3_become_1
theorem dksX3_become_0 : cX3_become.data.toList.drop 0 = dktX3_become_0 := by decide +kernel
theorem dksX3_become_1 : cX3_become.data.toList.drop 24 = dktX3_become_1 := dk_seg dksX3_become_0 24 rfl rfl
theorem dksX3_become_2 : cX3_become.data.toList.drop 48 = dktX3_become_2 := dk_seg dksX3_become_1 24 rfl rfl
theorem dksX3_become_3 : cX3_become.data.toList.drop 72 = dktX3_become_3 := dk_seg dksX3_become_2 24 rfl rfl
theorem dksX3_become_4 : cX3_become.data.toList.drop 95 = dktX3_become_4 := dk_seg dksX3_become_3 23 rfl rfl
theorem dX3_become_0 : decode cX3_become 0 = .ok (.aload_n 1, 1) := dk_43 (dk_at dksX3_become_0 0 rfl rfl)
theorem dX3_become_1 : decode cX3_become 1 = .ok (.getfield 9, 3) := dk_180 0 9 (dk_at dksX3_become_0 1 rfl rfl)
theorem dX3_become_4 : decode cX3_become 4 = .ok (.iconst 0, 1) := dk_3 (dk_at dksX3_become_0 4 rfl rfl)
theorem dX3_become_5 : decode cX3_become 5 = .ok (.aload_n 0, 1) := dk_42 (dk_at dksX3_become_0 5 rfl rfl)
theorem dX3_become_6 : decode cX3_become 6 = .ok (.getfield 9, 3) := dk_180 0 9 (dk_at dksX3_become_0 6 rfl rfl)
theorem dX3_become_9 : decode cX3_become 9 = .ok (.iconst 0, 1) := dk_3 (dk_at dksX3_become_0 9 rfl rfl)
theorem dX3_become_10 : decode cX3_become 10 = .ok (.bipush 12, 2) := dk_16 12 (dk_at dksX3_become_0 10 rfl rfl)
theorem dX3_become_12 : decode cX3_become 12 = .ok (.invokestatic 32, 3) := dk_184 0 32 (dk_at dksX3_become_0 12 rfl rfl)
theorem dX3_become_15 : decode cX3_become 15 = .ok (.aload_n 1, 1) := dk_43 (dk_at dksX3_become_0 15 rfl rfl)
theorem dX3_become_16 : decode cX3_become 16 = .ok (.getfield 15, 3) := dk_180 0 15 (dk_at dksX3_become_0 16 rfl rfl)
theorem dX3_become_19 : decode cX3_become 19 = .ok (.iconst 0, 1) := dk_3 (dk_at dksX3_become_0 19 rfl rfl)
theorem dX3_become_20 : decode cX3_become 20 = .ok (.aload_n 0, 1) := dk_42 (dk_at dksX3_become_0 20 rfl rfl)
theorem dX3_become_21 : decode cX3_become 21 = .ok (.getfield 15, 3) := dk_180 0 15 (dk_at dksX3_become_0 21 rfl rfl)
theorem dX3_become_24 : decode cX3_become 24 = .ok (.iconst 0, 1) := dk_3 (dk_at dksX3_become_1 0 rfl rfl)
theorem dX3_become_25 : decode cX3_become 25 = .ok (.bipush 12, 2) := dk_16 12 (dk_at dksX3_become_1 1 rfl rfl)
theorem dX3_become_27 : decode cX3_become 27 = .ok (.invokestatic 32, 3) := dk_184 0 32 (dk_at dksX3_become_1 3 rfl rfl)
theorem dX3_become_30 : decode cX3_become 30 = .ok (.aload_n 1, 1) := dk_43 (dk_at dksX3_become_1 6 rfl rfl)
theorem dX3_become_31 : decode cX3_become 31 = .ok (.getfield 18, 3) := dk_180 0 18 (dk_at dksX3_become_1 7 rfl rfl)
theorem dX3_become_34 : decode cX3_become 34 = .ok (.iconst 0, 1) := dk_3 (dk_at dksX3_become_1 10 rfl rfl)
theorem dX3_become_35 : decode cX3_become 35 = .ok (.aload_n 0, 1) := dk_42 (dk_at dksX3_become_1 11 rfl rfl)
theorem dX3_become_36 : decode cX3_become 36 = .ok (.getfield 18, 3) := dk_180 0 18 (dk_at dksX3_become_1 12 rfl rfl)
theorem dX3_become_39 : decode cX3_become 39 = .ok (.iconst 0, 1) := dk_3 (dk_at dksX3_become_1 15 rfl rfl)
theorem dX3_become_40 : decode cX3_become 40 = .ok (.sipush 334, 3) := dk_17 1 78 (dk_at dksX3_become_1 16 rfl rfl)
theorem dX3_become_43 : decode cX3_become 43 = .ok (.invokestatic 32, 3) := dk_184 0 32 (dk_at dksX3_become_1 19 rfl rfl)
theorem dX3_become_46 : decode cX3_become 46 = .ok (.aload_n 0, 1) := dk_42 (dk_at dksX3_become_1 22 rfl rfl)
theorem dX3_become_47 : decode cX3_become 47 = .ok (.aload_n 1, 1) := dk_43 (dk_at dksX3_become_1 23 rfl rfl)
theorem dX3_become_48 : decode cX3_become 48 = .ok (.getfield 38, 3) := dk_180 0 38 (dk_at dksX3_become_2 0 rfl rfl)
theorem dX3_become_51 : decode cX3_become 51 = .ok (.putfield 38, 3) := dk_181 0 38 (dk_at dksX3_become_2 3 rfl rfl)
theorem dX3_become_54 : decode cX3_become 54 = .ok (.aload_n 0, 1) := dk_42 (dk_at dksX3_become_2 6 rfl rfl)
theorem dX3_become_55 : decode cX3_become 55 = .ok (.aload_n 1, 1) := dk_43 (dk_at dksX3_become_2 7 rfl rfl)
theorem dX3_become_56 : decode cX3_become 56 = .ok (.getfield 41, 3) := dk_180 0 41 (dk_at dksX3_become_2 8 rfl rfl)
theorem dX3_become_59 : decode cX3_become 59 = .ok (.putfield 41, 3) := dk_181 0 41 (dk_at dksX3_become_2 11 rfl rfl)
theorem dX3_become_62 : decode cX3_become 62 = .ok (.aload_n 0, 1) := dk_42 (dk_at dksX3_become_2 14 rfl rfl)
theorem dX3_become_63 : decode cX3_become 63 = .ok (.aload_n 1, 1) := dk_43 (dk_at dksX3_become_2 15 rfl rfl)
theorem dX3_become_64 : decode cX3_become 64 = .ok (.getfield 44, 3) := dk_180 0 44 (dk_at dksX3_become_2 16 rfl rfl)
theorem dX3_become_67 : decode cX3_become 67 = .ok (.putfield 44, 3) := dk_181 0 44 (dk_at dksX3_become_2 19 rfl rfl)
theorem dX3_become_70 : decode cX3_become 70 = .ok (.aload_n 0, 1) := dk_42 (dk_at dksX3_become_2 22 rfl rfl)
theorem dX3_become_71 : decode cX3_become 71 = .ok (.aload_n 1, 1) := dk_43 (dk_at dksX3_become_2 23 rfl rfl)
theorem dX3_become_72 : decode cX3_become 72 = .ok (.getfield 27, 3) := dk_180 0 27 (dk_at dksX3_become_3 0 rfl rfl)
theorem dX3_become_75 : decode cX3_become 75 = .ok (.putfield 27, 3) := dk_181 0 27 (dk_at dksX3_become_3 3 rfl rfl)
theorem dX3_become_78 : decode cX3_become 78 = .ok (.iconst 0, 1) := dk_3 (dk_at dksX3_become_3 6 rfl rfl)
theorem dX3_become_79 : decode cX3_become 79 = .ok (.istore_n 2, 1) := dk_61 (dk_at dksX3_become_3 7 rfl rfl)
theorem dX3_become_80 : decode cX3_become 80 = .ok (.iload_n 2, 1) := dk_28 (dk_at dksX3_become_3 8 rfl rfl)
theorem dX3_become_81 : decode cX3_become 81 = .ok (.aload_n 0, 1) := dk_42 (dk_at dksX3_become_3 9 rfl rfl)
theorem dX3_become_82 : decode cX3_become 82 = .ok (.getfield 41, 3) := dk_180 0 41 (dk_at dksX3_become_3 10 rfl rfl)
theorem dX3_become_85 : decode cX3_become 85 = .ok (.if_icmp .ge 24, 3) := dk_162 0 24 (dk_at dksX3_become_3 13 rfl rfl)
theorem dX3_become_88 : decode cX3_become 88 = .ok (.aload_n 0, 1) := dk_42 (dk_at dksX3_become_3 16 rfl rfl)
theorem dX3_become_89 : decode cX3_become 89 = .ok (.getfield 23, 3) := dk_180 0 23 (dk_at dksX3_become_3 17 rfl rfl)
theorem dX3_become_92 : decode cX3_become 92 = .ok (.iload_n 2, 1) := dk_28 (dk_at dksX3_become_3 20 rfl rfl)
theorem dX3_become_93 : decode cX3_become 93 = .ok (.aaload, 1) := dk_50 (dk_at dksX3_become_3 21 rfl rfl)
theorem dX3_become_94 : decode cX3_become 94 = .ok (.aload_n 1, 1) := dk_43 (dk_at dksX3_become_3 22 rfl rfl)
theorem dX3_become_95 : decode cX3_become 95 = .ok (.getfield 23, 3) := dk_180 0 23 (dk_at dksX3_become_4 0 rfl rfl)
theorem dX3_become_98 : decode cX3_become 98 = .ok (.iload_n 2, 1) := dk_28 (dk_at dksX3_become_4 3 rfl rfl)
theorem dX3_become_99 : decode cX3_become 99 = .ok (.aaload, 1) := dk_50 (dk_at dksX3_become_4 4 rfl rfl)
theorem dX3_become_100 : decode cX3_become 100 = .ok (.invokevirtual 47, 3) := dk_182 0 47 (dk_at dksX3_become_4 5 rfl rfl)
theorem dX3_become_103 : decode cX3_become 103 = .ok (.iinc 2 1, 3) := dk_132 2 1 (dk_at dksX3_become_4 8 rfl rfl)
theorem dX3_become_106 : decode cX3_become 106 = .ok (.goto (-26), 3) := dk_167 255 230 (dk_at dksX3_become_4 11 rfl rfl)
theorem dX3_become_109 : decode cX3_become 109 = .ok (.return_, 1) := dk_177 (dk_at dksX3_become_4 14 rfl rfl)
theorem q58 : (Jvm.Cond.initialized "SledHouse$World") ∈ lw_all := lw_g (lw_at lw_m1 7 rfl) rfl
theorem q205 : (Jvm.Cond.instantiable "SledHouse$World" (8 : Nat)) ∈ lw_all := lw_g (lw_at lw_m1 154 rfl) rfl
theorem q207 : (Jvm.Cond.instanceMethod ({ cls := "SledHouse$World", name := "<init>", desc := "()V" } : Jvm.MethodName)) ∈ lw_all := lw_g (lw_at lw_m1 156 rfl) rfl
theorem q208 : (Jvm.Cond.code ({ cls := "SledHouse$World", name := "<init>", desc := "()V" } : Jvm.MethodName) prog_14_method_1_code (2 : Nat) (Option.none : Option Jvm.ClassFile.FieldType)) ∈ lw_all := lw_g (lw_at lw_m1 157 rfl) rfl
theorem q209 : (Jvm.Cond.methodLink "SledHouse$World" (3 : Nat) ({ cls := "java/lang/Object", name := "<init>", desc := "()V" } : Jvm.MethodName)) ∈ lw_all := lw_g (lw_at lw_m1 158 rfl) rfl
theorem q210 : (Jvm.Cond.classLink "SledHouse$World" (21 : Nat) "SledHouse$Team") ∈ lw_all := lw_g (lw_at lw_m1 159 rfl) rfl
theorem q213 : (Jvm.Cond.methodLink "SledHouse$World" (31 : Nat) ({ cls := "SledHouse$Team", name := "<init>", desc := "()V" } : Jvm.MethodName)) ∈ lw_all := lw_g (lw_at lw_m1 162 rfl) rfl
theorem q253 : (Jvm.Cond.fieldLink "SledHouse$World" (51 : Nat) "SledHouse$Team" "state" "I") ∈ lw_all := lw_g (lw_at lw_m1 202 rfl) rfl
theorem q324 : (Jvm.Cond.fieldLink "SledHouse$World" (9 : Nat) "SledHouse$World" "lengthOf" "[I") ∈ lw_all := lw_g (lw_at lw_m2 33 rfl) rfl
theorem q327 : (Jvm.Cond.fieldLink "SledHouse$World" (15 : Nat) "SledHouse$World" "hardnessOf" "[I") ∈ lw_all := lw_g (lw_at lw_m2 36 rfl) rfl
theorem q330 : (Jvm.Cond.fieldLink "SledHouse$World" (18 : Nat) "SledHouse$World" "cold" "[I") ∈ lw_all := lw_g (lw_at lw_m2 39 rfl) rfl
theorem q333 : (Jvm.Cond.fieldLink "SledHouse$World" (23 : Nat) "SledHouse$World" "teams" "[LSledHouse$Team;") ∈ lw_all := lw_g (lw_at lw_m2 42 rfl) rfl
theorem q335 : (Jvm.Cond.fieldLink "SledHouse$World" (38 : Nat) "SledHouse$World" "legMany" "I") ∈ lw_all := lw_g (lw_at lw_m2 44 rfl) rfl
theorem q339 : (Jvm.Cond.fieldLink "SledHouse$World" (41 : Nat) "SledHouse$World" "teamMany" "I") ∈ lw_all := lw_g (lw_at lw_m2 48 rfl) rfl
theorem q341 : (Jvm.Cond.fieldLink "SledHouse$World" (44 : Nat) "SledHouse$World" "steps" "I") ∈ lw_all := lw_g (lw_at lw_m2 50 rfl) rfl
theorem q343 : (Jvm.Cond.fieldLink "SledHouse$World" (27 : Nat) "SledHouse$World" "each" "I") ∈ lw_all := lw_g (lw_at lw_m2 52 rfl) rfl
theorem q346 : (Jvm.Cond.laysFinal "SledHouse$World" "SledHouse$World" "lengthOf" "[I") ∈ lw_all := lw_g (lw_at lw_m2 55 rfl) rfl
theorem q347 : (Jvm.Cond.soleField "SledHouse$World" "lengthOf") ∈ lw_all := lw_g (lw_at lw_m2 56 rfl) rfl
theorem q348 : (Jvm.Cond.laysFinal "SledHouse$World" "SledHouse$World" "hardnessOf" "[I") ∈ lw_all := lw_g (lw_at lw_m2 57 rfl) rfl
theorem q349 : (Jvm.Cond.soleField "SledHouse$World" "hardnessOf") ∈ lw_all := lw_g (lw_at lw_m2 58 rfl) rfl
theorem q350 : (Jvm.Cond.laysFinal "SledHouse$World" "SledHouse$World" "cold" "[I") ∈ lw_all := lw_g (lw_at lw_m2 59 rfl) rfl
theorem q351 : (Jvm.Cond.soleField "SledHouse$World" "cold") ∈ lw_all := lw_g (lw_at lw_m2 60 rfl) rfl
theorem q352 : (Jvm.Cond.laysFinal "SledHouse$World" "SledHouse$World" "teams" "[LSledHouse$Team;") ∈ lw_all := lw_g (lw_at lw_m2 61 rfl) rfl
theorem q353 : (Jvm.Cond.soleField "SledHouse$World" "teams") ∈ lw_all := lw_g (lw_at lw_m2 62 rfl) rfl
theorem q354 : (Jvm.Cond.lays "SledHouse$World" "SledHouse$World" "legMany" "I") ∈ lw_all := lw_g (lw_at lw_m2 63 rfl) rfl
theorem q355 : (Jvm.Cond.soleField "SledHouse$World" "legMany") ∈ lw_all := lw_g (lw_at lw_m2 64 rfl) rfl
theorem q356 : (Jvm.Cond.lays "SledHouse$World" "SledHouse$World" "teamMany" "I") ∈ lw_all := lw_g (lw_at lw_m2 65 rfl) rfl
theorem q357 : (Jvm.Cond.soleField "SledHouse$World" "teamMany") ∈ lw_all := lw_g (lw_at lw_m2 66 rfl) rfl
theorem q358 : (Jvm.Cond.lays "SledHouse$World" "SledHouse$World" "steps" "I") ∈ lw_all := lw_g (lw_at lw_m2 67 rfl) rfl
theorem q359 : (Jvm.Cond.soleField "SledHouse$World" "steps") ∈ lw_all := lw_g (lw_at lw_m2 68 rfl) rfl
theorem q360 : (Jvm.Cond.lays "SledHouse$World" "SledHouse$World" "each" "I") ∈ lw_all := lw_g (lw_at lw_m2 69 rfl) rfl
theorem q361 : (Jvm.Cond.soleField "SledHouse$World" "each") ∈ lw_all := lw_g (lw_at lw_m2 70 rfl) rfl
theorem q362 : (Jvm.Cond.superclass "SledHouse$World" "java/lang/Object") ∈ lw_all := lw_g (lw_at lw_m2 71 rfl) rfl
theorem q880 : (Jvm.Cond.instanceMethod ({ cls := "SledHouse$World", name := "goesOn", desc := "()Z" } : Jvm.MethodName)) ∈ lw_all := lw_g (lw_at lw_m4 109 rfl) rfl
theorem q881 : (Jvm.Cond.selects "SledHouse$World" ({ cls := "SledHouse$World", name := "goesOn", desc := "()Z" } : Jvm.MethodName) ({ cls := "SledHouse$World", name := "goesOn", desc := "()Z" } : Jvm.MethodName)) ∈ lw_all := lw_g (lw_at lw_m4 110 rfl) rfl
theorem q882 : (Jvm.Cond.code ({ cls := "SledHouse$World", name := "goesOn", desc := "()Z" } : Jvm.MethodName) prog_14_method_4_code (3 : Nat) (Option.some Jvm.ClassFile.FieldType.boolean)) ∈ lw_all := lw_g (lw_at lw_m4 111 rfl) rfl
theorem q1063 : (Jvm.Cond.instanceMethod ({ cls := "SledHouse$World", name := "trail", desc := "()I" } : Jvm.MethodName)) ∈ lw_all := lw_g (lw_at lw_m5 52 rfl) rfl
theorem q1064 : (Jvm.Cond.selects "SledHouse$World" ({ cls := "SledHouse$World", name := "trail", desc := "()I" } : Jvm.MethodName) ({ cls := "SledHouse$World", name := "trail", desc := "()I" } : Jvm.MethodName)) ∈ lw_all := lw_g (lw_at lw_m5 53 rfl) rfl
theorem q1065 : (Jvm.Cond.code ({ cls := "SledHouse$World", name := "trail", desc := "()I" } : Jvm.MethodName) prog_14_method_3_code (3 : Nat) (Option.some Jvm.ClassFile.FieldType.int)) ∈ lw_all := lw_g (lw_at lw_m5 54 rfl) rfl
theorem q1082 : (Jvm.Cond.instanceMethod ({ cls := "SledHouse$World", name := "become", desc := "(LSledHouse$World;)V" } : Jvm.MethodName)) ∈ lw_all := lw_g (lw_at lw_m5 71 rfl) rfl
theorem q1083 : (Jvm.Cond.selects "SledHouse$World" ({ cls := "SledHouse$World", name := "become", desc := "(LSledHouse$World;)V" } : Jvm.MethodName) ({ cls := "SledHouse$World", name := "become", desc := "(LSledHouse$World;)V" } : Jvm.MethodName)) ∈ lw_all := lw_g (lw_at lw_m5 72 rfl) rfl
theorem q1084 : (Jvm.Cond.code ({ cls := "SledHouse$World", name := "become", desc := "(LSledHouse$World;)V" } : Jvm.MethodName) prog_14_method_2_code (3 : Nat) (Option.none : Option Jvm.ClassFile.FieldType)) ∈ lw_all := lw_g (lw_at lw_m5 73 rfl) rfl
theorem q1085 : (Jvm.Cond.methodLink "SledHouse$World" (32 : Nat) ({ cls := "java/lang/System", name := "arraycopy", desc := "(Ljava/lang/Object;ILjava/lang/Object;II)V" } : Jvm.MethodName)) ∈ lw_all := lw_g (lw_at lw_m5 74 rfl) rfl
theorem q1086 : (Jvm.Cond.methodLink "SledHouse$World" (47 : Nat) ({ cls := "SledHouse$Team", name := "become", desc := "(LSledHouse$Team;)V" } : Jvm.MethodName)) ∈ lw_all := lw_g (lw_at lw_m5 75 rfl) rfl
theorem in_X3 : ∀ w ∈ wsX30, w ∈ lw_all := lw_in wsX30 [346, 348, 350, 352, 354, 356, 358, 360] (by decide +kernel) (by decide +kernel)

/-! SledHouse$Team -/
set_option maxRecDepth 100000
def RX4 : String := "SledHouse$Team"
def TX4 : u_T := fun k => match k with
  | 0 => ("SledHouse$Team", "dogs", "[LSledHouse$Dog;", true)
  | 1 => ("SledHouse$Team", "many", "I", false)
  | 2 => ("SledHouse$Team", "ownLoad", "I", false)
  | 3 => ("SledHouse$Team", "ownMeals", "I", false)
  | 4 => ("SledHouse$Team", "start", "I", false)
  | 5 => ("SledHouse$Team", "plan", "I", false)
  | 6 => ("SledHouse$Team", "state", "I", false)
  | 7 => ("SledHouse$Team", "leg", "I", false)
  | 8 => ("SledHouse$Team", "lengths", "I", false)
  | 9 => ("SledHouse$Team", "meals", "I", false)
  | 10 => ("SledHouse$Team", "run", "I", false)
  | 11 => ("SledHouse$Team", "rest", "I", false)
  | 12 => ("SledHouse$Team", "did", "I", false)
  | 13 => ("SledHouse$Team", "in", "[I", true)
  | 14 => ("SledHouse$Team", "away", "[I", true)
  | 15 => ("SledHouse$Team", "signs", "[I", true)
  | 16 => ("SledHouse$Team", "signMany", "I", false)
  | 17 => ("SledHouse$Team", "gapFrom", "[I", true)
  | 18 => ("SledHouse$Team", "gapTo", "[I", true)
  | _ => ("SledHouse$Team", "gaps", "I", false)
def tyX4 : Nat → FieldType := fun k => match k with
  | 0 => .array (.object "SledHouse$Dog")
  | 1 => .int
  | 2 => .int
  | 3 => .int
  | 4 => .int
  | 5 => .int
  | 6 => .int
  | 7 => .int
  | 8 => .int
  | 9 => .int
  | 10 => .int
  | 11 => .int
  | 12 => .int
  | 13 => .array .int
  | 14 => .array .int
  | 15 => .array .int
  | 16 => .int
  | 17 => .array .int
  | 18 => .array .int
  | _ => .int
abbrev wsX40 : List Cond := u_ws RX4 TX4 20
set_option maxRecDepth 100000 in
theorem nmX4 : ∀ a, a < 20 → ∀ b, b < 20 → a ≠ b → (TX4 a).2.1 ≠ (TX4 b).2.1 := by decide +kernel
set_option maxRecDepth 100000 in
theorem tyX4_ok : ∀ k, k < 20 → parseFieldDescriptor (TX4 k).2.2.1 = some (tyX4 k) := by decide +kernel
abbrev cX4_init : ByteArray := prog_12_method_1_code
def yX4_init : MethodName := ⟨RX4, "<init>", "()V"⟩
def dkwX4_init_3 : List UInt8 := [183, 0, 33, 83, 132, 1, 1, 167, 255, 234, 177]
abbrev dktX4_init_3 : List UInt8 := dkwX4_init_3 ++ []
def dkwX4_init_2 : List UInt8 := [188, 10, 181, 0, 30, 3, 60, 27, 16, 16, 162, 0, 22, 42, 180, 0, 11, 27, 187, 0, 9, 89]
abbrev dktX4_init_2 : List UInt8 := dkwX4_init_2 ++ dktX4_init_3
def dkwX4_init_1 : List UInt8 := [188, 10, 181, 0, 21, 42, 17, 7, 208, 188, 10, 181, 0, 24, 42, 7, 188, 10, 181, 0, 27, 42, 7]
abbrev dktX4_init_1 : List UInt8 := dkwX4_init_1 ++ dktX4_init_2
def dkwX4_init_0 : List UInt8 := [42, 183, 0, 3, 42, 16, 16, 189, 0, 9, 181, 0, 11, 42, 16, 13, 188, 10, 181, 0, 17, 42, 16, 13]
abbrev dktX4_init_0 : List UInt8 := dkwX4_init_0 ++ dktX4_init_1
theorem dksX4_init_0 : cX4_init.data.toList.drop 0 = dktX4_init_0 := by decide +kernel
theorem dksX4_init_1 : cX4_init.data.toList.drop 24 = dktX4_init_1 := dk_seg dksX4_init_0 24 rfl rfl
theorem dksX4_init_2 : cX4_init.data.toList.drop 47 = dktX4_init_2 := dk_seg dksX4_init_1 23 rfl rfl
theorem dksX4_init_3 : cX4_init.data.toList.drop 69 = dktX4_init_3 := dk_seg dksX4_init_2 22 rfl rfl
theorem dX4_init_0 : decode cX4_init 0 = .ok (.aload_n 0, 1) := dk_42 (dk_at dksX4_init_0 0 rfl rfl)
theorem dX4_init_1 : decode cX4_init 1 = .ok (.invokespecial 3, 3) := dk_183 0 3 (dk_at dksX4_init_0 1 rfl rfl)
theorem dX4_init_4 : decode cX4_init 4 = .ok (.aload_n 0, 1) := dk_42 (dk_at dksX4_init_0 4 rfl rfl)
theorem dX4_init_5 : decode cX4_init 5 = .ok (.bipush 16, 2) := dk_16 16 (dk_at dksX4_init_0 5 rfl rfl)
theorem dX4_init_7 : decode cX4_init 7 = .ok (.anewarray 9, 3) := dk_189 0 9 (dk_at dksX4_init_0 7 rfl rfl)
theorem dX4_init_10 : decode cX4_init 10 = .ok (.putfield 11, 3) := dk_181 0 11 (dk_at dksX4_init_0 10 rfl rfl)
theorem dX4_init_13 : decode cX4_init 13 = .ok (.aload_n 0, 1) := dk_42 (dk_at dksX4_init_0 13 rfl rfl)
theorem dX4_init_14 : decode cX4_init 14 = .ok (.bipush 13, 2) := dk_16 13 (dk_at dksX4_init_0 14 rfl rfl)
theorem dX4_init_16 : decode cX4_init 16 = .ok (.newarray .int, 2) := dk_188_10 (dk_at dksX4_init_0 16 rfl rfl)
theorem dX4_init_18 : decode cX4_init 18 = .ok (.putfield 17, 3) := dk_181 0 17 (dk_at dksX4_init_0 18 rfl rfl)
theorem dX4_init_21 : decode cX4_init 21 = .ok (.aload_n 0, 1) := dk_42 (dk_at dksX4_init_0 21 rfl rfl)
theorem dX4_init_22 : decode cX4_init 22 = .ok (.bipush 13, 2) := dk_16 13 (dk_at dksX4_init_0 22 rfl rfl)
theorem dX4_init_24 : decode cX4_init 24 = .ok (.newarray .int, 2) := dk_188_10 (dk_at dksX4_init_1 0 rfl rfl)
theorem dX4_init_26 : decode cX4_init 26 = .ok (.putfield 21, 3) := dk_181 0 21 (dk_at dksX4_init_1 2 rfl rfl)
theorem dX4_init_29 : decode cX4_init 29 = .ok (.aload_n 0, 1) := dk_42 (dk_at dksX4_init_1 5 rfl rfl)
theorem dX4_init_30 : decode cX4_init 30 = .ok (.sipush 2000, 3) := dk_17 7 208 (dk_at dksX4_init_1 6 rfl rfl)
theorem dX4_init_33 : decode cX4_init 33 = .ok (.newarray .int, 2) := dk_188_10 (dk_at dksX4_init_1 9 rfl rfl)
theorem dX4_init_35 : decode cX4_init 35 = .ok (.putfield 24, 3) := dk_181 0 24 (dk_at dksX4_init_1 11 rfl rfl)
theorem dX4_init_38 : decode cX4_init 38 = .ok (.aload_n 0, 1) := dk_42 (dk_at dksX4_init_1 14 rfl rfl)
theorem dX4_init_39 : decode cX4_init 39 = .ok (.iconst 4, 1) := dk_7 (dk_at dksX4_init_1 15 rfl rfl)
theorem dX4_init_40 : decode cX4_init 40 = .ok (.newarray .int, 2) := dk_188_10 (dk_at dksX4_init_1 16 rfl rfl)
theorem dX4_init_42 : decode cX4_init 42 = .ok (.putfield 27, 3) := dk_181 0 27 (dk_at dksX4_init_1 18 rfl rfl)
theorem dX4_init_45 : decode cX4_init 45 = .ok (.aload_n 0, 1) := dk_42 (dk_at dksX4_init_1 21 rfl rfl)
theorem dX4_init_46 : decode cX4_init 46 = .ok (.iconst 4, 1) := dk_7 (dk_at dksX4_init_1 22 rfl rfl)
theorem dX4_init_47 : decode cX4_init 47 = .ok (.newarray .int, 2) := dk_188_10 (dk_at dksX4_init_2 0 rfl rfl)
theorem dX4_init_49 : decode cX4_init 49 = .ok (.putfield 30, 3) := dk_181 0 30 (dk_at dksX4_init_2 2 rfl rfl)
theorem dX4_init_52 : decode cX4_init 52 = .ok (.iconst 0, 1) := dk_3 (dk_at dksX4_init_2 5 rfl rfl)
theorem dX4_init_53 : decode cX4_init 53 = .ok (.istore_n 1, 1) := dk_60 (dk_at dksX4_init_2 6 rfl rfl)
theorem dX4_init_54 : decode cX4_init 54 = .ok (.iload_n 1, 1) := dk_27 (dk_at dksX4_init_2 7 rfl rfl)
theorem dX4_init_55 : decode cX4_init 55 = .ok (.bipush 16, 2) := dk_16 16 (dk_at dksX4_init_2 8 rfl rfl)
theorem dX4_init_57 : decode cX4_init 57 = .ok (.if_icmp .ge 22, 3) := dk_162 0 22 (dk_at dksX4_init_2 10 rfl rfl)
theorem dX4_init_60 : decode cX4_init 60 = .ok (.aload_n 0, 1) := dk_42 (dk_at dksX4_init_2 13 rfl rfl)
theorem dX4_init_61 : decode cX4_init 61 = .ok (.getfield 11, 3) := dk_180 0 11 (dk_at dksX4_init_2 14 rfl rfl)
theorem dX4_init_64 : decode cX4_init 64 = .ok (.iload_n 1, 1) := dk_27 (dk_at dksX4_init_2 17 rfl rfl)
theorem dX4_init_65 : decode cX4_init 65 = .ok (.new 9, 3) := dk_187 0 9 (dk_at dksX4_init_2 18 rfl rfl)
theorem dX4_init_68 : decode cX4_init 68 = .ok (.dup, 1) := dk_89 (dk_at dksX4_init_2 21 rfl rfl)
theorem dX4_init_69 : decode cX4_init 69 = .ok (.invokespecial 33, 3) := dk_183 0 33 (dk_at dksX4_init_3 0 rfl rfl)
theorem dX4_init_72 : decode cX4_init 72 = .ok (.aastore, 1) := dk_83 (dk_at dksX4_init_3 3 rfl rfl)
theorem dX4_init_73 : decode cX4_init 73 = .ok (.iinc 1 1, 3) := dk_132 1 1 (dk_at dksX4_init_3 4 rfl rfl)
theorem dX4_init_76 : decode cX4_init 76 = .ok (.goto (-22), 3) := dk_167 255 234 (dk_at dksX4_init_3 7 rfl rfl)
theorem dX4_init_79 : decode cX4_init 79 = .ok (.return_, 1) := dk_177 (dk_at dksX4_init_3 10 rfl rfl)
abbrev cX4_enter : ByteArray := prog_12_method_2_code
def yX4_enter : MethodName := ⟨RX4, "enter", "(IIIII)V"⟩
def dkwX4_enter_2 : List UInt8 := [42, 180, 0, 24, 21, 6, 2, 79, 132, 6, 1, 167, 255, 237, 42, 182, 0, 56, 177]
abbrev dktX4_enter_2 : List UInt8 := dkwX4_enter_2 ++ []
def dkwX4_enter_1 : List UInt8 := [181, 0, 47, 42, 3, 181, 0, 50, 42, 3, 181, 0, 53, 3, 54, 6, 21, 6, 17, 7, 208, 162, 0, 17]
abbrev dktX4_enter_1 : List UInt8 := dkwX4_enter_1 ++ dktX4_enter_2
def dkwX4_enter_0 : List UInt8 := [42, 27, 181, 0, 34, 42, 28, 181, 0, 38, 42, 29, 181, 0, 41, 42, 21, 4, 181, 0, 44, 42, 21, 5]
abbrev dktX4_enter_0 : List UInt8 := dkwX4_enter_0 ++ dktX4_enter_1
theorem dksX4_enter_0 : cX4_enter.data.toList.drop 0 = dktX4_enter_0 := by decide +kernel
theorem dksX4_enter_1 : cX4_enter.data.toList.drop 24 = dktX4_enter_1 := dk_seg dksX4_enter_0 24 rfl rfl
theorem dksX4_enter_2 : cX4_enter.data.toList.drop 48 = dktX4_enter_2 := dk_seg dksX4_enter_1 24 rfl rfl
theorem dX4_enter_0 : decode cX4_enter 0 = .ok (.aload_n 0, 1) := dk_42 (dk_at dksX4_enter_0 0 rfl rfl)
theorem dX4_enter_1 : decode cX4_enter 1 = .ok (.iload_n 1, 1) := dk_27 (dk_at dksX4_enter_0 1 rfl rfl)
theorem dX4_enter_2 : decode cX4_enter 2 = .ok (.putfield 34, 3) := dk_181 0 34 (dk_at dksX4_enter_0 2 rfl rfl)
theorem dX4_enter_5 : decode cX4_enter 5 = .ok (.aload_n 0, 1) := dk_42 (dk_at dksX4_enter_0 5 rfl rfl)
theorem dX4_enter_6 : decode cX4_enter 6 = .ok (.iload_n 2, 1) := dk_28 (dk_at dksX4_enter_0 6 rfl rfl)
theorem dX4_enter_7 : decode cX4_enter 7 = .ok (.putfield 38, 3) := dk_181 0 38 (dk_at dksX4_enter_0 7 rfl rfl)
theorem dX4_enter_10 : decode cX4_enter 10 = .ok (.aload_n 0, 1) := dk_42 (dk_at dksX4_enter_0 10 rfl rfl)
theorem dX4_enter_11 : decode cX4_enter 11 = .ok (.iload_n 3, 1) := dk_29 (dk_at dksX4_enter_0 11 rfl rfl)
theorem dX4_enter_12 : decode cX4_enter 12 = .ok (.putfield 41, 3) := dk_181 0 41 (dk_at dksX4_enter_0 12 rfl rfl)
theorem dX4_enter_15 : decode cX4_enter 15 = .ok (.aload_n 0, 1) := dk_42 (dk_at dksX4_enter_0 15 rfl rfl)
theorem dX4_enter_16 : decode cX4_enter 16 = .ok (.iload 4, 2) := dk_21 4 (dk_at dksX4_enter_0 16 rfl rfl)
theorem dX4_enter_18 : decode cX4_enter 18 = .ok (.putfield 44, 3) := dk_181 0 44 (dk_at dksX4_enter_0 18 rfl rfl)
theorem dX4_enter_21 : decode cX4_enter 21 = .ok (.aload_n 0, 1) := dk_42 (dk_at dksX4_enter_0 21 rfl rfl)
theorem dX4_enter_22 : decode cX4_enter 22 = .ok (.iload 5, 2) := dk_21 5 (dk_at dksX4_enter_0 22 rfl rfl)
theorem dX4_enter_24 : decode cX4_enter 24 = .ok (.putfield 47, 3) := dk_181 0 47 (dk_at dksX4_enter_1 0 rfl rfl)
theorem dX4_enter_27 : decode cX4_enter 27 = .ok (.aload_n 0, 1) := dk_42 (dk_at dksX4_enter_1 3 rfl rfl)
theorem dX4_enter_28 : decode cX4_enter 28 = .ok (.iconst 0, 1) := dk_3 (dk_at dksX4_enter_1 4 rfl rfl)
theorem dX4_enter_29 : decode cX4_enter 29 = .ok (.putfield 50, 3) := dk_181 0 50 (dk_at dksX4_enter_1 5 rfl rfl)
theorem dX4_enter_32 : decode cX4_enter 32 = .ok (.aload_n 0, 1) := dk_42 (dk_at dksX4_enter_1 8 rfl rfl)
theorem dX4_enter_33 : decode cX4_enter 33 = .ok (.iconst 0, 1) := dk_3 (dk_at dksX4_enter_1 9 rfl rfl)
theorem dX4_enter_34 : decode cX4_enter 34 = .ok (.putfield 53, 3) := dk_181 0 53 (dk_at dksX4_enter_1 10 rfl rfl)
theorem dX4_enter_37 : decode cX4_enter 37 = .ok (.iconst 0, 1) := dk_3 (dk_at dksX4_enter_1 13 rfl rfl)
theorem dX4_enter_38 : decode cX4_enter 38 = .ok (.istore 6, 2) := dk_54 6 (dk_at dksX4_enter_1 14 rfl rfl)
theorem dX4_enter_40 : decode cX4_enter 40 = .ok (.iload 6, 2) := dk_21 6 (dk_at dksX4_enter_1 16 rfl rfl)
theorem dX4_enter_42 : decode cX4_enter 42 = .ok (.sipush 2000, 3) := dk_17 7 208 (dk_at dksX4_enter_1 18 rfl rfl)
theorem dX4_enter_45 : decode cX4_enter 45 = .ok (.if_icmp .ge 17, 3) := dk_162 0 17 (dk_at dksX4_enter_1 21 rfl rfl)
theorem dX4_enter_48 : decode cX4_enter 48 = .ok (.aload_n 0, 1) := dk_42 (dk_at dksX4_enter_2 0 rfl rfl)
theorem dX4_enter_49 : decode cX4_enter 49 = .ok (.getfield 24, 3) := dk_180 0 24 (dk_at dksX4_enter_2 1 rfl rfl)
theorem dX4_enter_52 : decode cX4_enter 52 = .ok (.iload 6, 2) := dk_21 6 (dk_at dksX4_enter_2 4 rfl rfl)
theorem dX4_enter_54 : decode cX4_enter 54 = .ok (.iconst (-1), 1) := dk_2 (dk_at dksX4_enter_2 6 rfl rfl)
theorem dX4_enter_55 : decode cX4_enter 55 = .ok (.iastore, 1) := dk_79 (dk_at dksX4_enter_2 7 rfl rfl)
theorem dX4_enter_56 : decode cX4_enter 56 = .ok (.iinc 6 1, 3) := dk_132 6 1 (dk_at dksX4_enter_2 8 rfl rfl)
theorem dX4_enter_59 : decode cX4_enter 59 = .ok (.goto (-19), 3) := dk_167 255 237 (dk_at dksX4_enter_2 11 rfl rfl)
theorem dX4_enter_62 : decode cX4_enter 62 = .ok (.aload_n 0, 1) := dk_42 (dk_at dksX4_enter_2 14 rfl rfl)
theorem dX4_enter_63 : decode cX4_enter 63 = .ok (.invokevirtual 56, 3) := dk_182 0 56 (dk_at dksX4_enter_2 15 rfl rfl)
theorem dX4_enter_66 : decode cX4_enter 66 = .ok (.return_, 1) := dk_177 (dk_at dksX4_enter_2 18 rfl rfl)
abbrev cX4_begin : ByteArray := prog_12_method_3_code
def yX4_begin : MethodName := ⟨RX4, "begin", "()V"⟩
def dkwX4_begin_3 : List UInt8 := [163, 0, 23, 42, 180, 0, 17, 27, 2, 79, 42, 180, 0, 21, 27, 2, 79, 132, 1, 1, 167, 255, 233, 177]
abbrev dktX4_begin_3 : List UInt8 := dkwX4_begin_3 ++ []
def dkwX4_begin_2 : List UInt8 := [181, 0, 69, 42, 3, 181, 0, 72, 42, 3, 181, 0, 75, 42, 2, 181, 0, 78, 3, 60, 27, 16, 12]
abbrev dktX4_begin_2 : List UInt8 := dkwX4_begin_2 ++ dktX4_begin_3
def dkwX4_begin_1 : List UInt8 := [167, 255, 236, 42, 3, 181, 0, 60, 42, 3, 181, 0, 63, 42, 3, 181, 0, 66, 42, 42, 180, 0, 41]
abbrev dktX4_begin_1 : List UInt8 := dkwX4_begin_1 ++ dktX4_begin_2
def dkwX4_begin_0 : List UInt8 := [3, 60, 27, 42, 180, 0, 34, 162, 0, 18, 42, 180, 0, 11, 27, 50, 182, 0, 59, 132, 1, 1]
abbrev dktX4_begin_0 : List UInt8 := dkwX4_begin_0 ++ dktX4_begin_1
theorem dksX4_begin_0 : cX4_begin.data.toList.drop 0 = dktX4_begin_0 := by decide +kernel
theorem dksX4_begin_1 : cX4_begin.data.toList.drop 22 = dktX4_begin_1 := dk_seg dksX4_begin_0 22 rfl rfl
theorem dksX4_begin_2 : cX4_begin.data.toList.drop 45 = dktX4_begin_2 := dk_seg dksX4_begin_1 23 rfl rfl
theorem dksX4_begin_3 : cX4_begin.data.toList.drop 68 = dktX4_begin_3 := dk_seg dksX4_begin_2 23 rfl rfl
theorem dX4_begin_0 : decode cX4_begin 0 = .ok (.iconst 0, 1) := dk_3 (dk_at dksX4_begin_0 0 rfl rfl)
theorem dX4_begin_1 : decode cX4_begin 1 = .ok (.istore_n 1, 1) := dk_60 (dk_at dksX4_begin_0 1 rfl rfl)
theorem dX4_begin_2 : decode cX4_begin 2 = .ok (.iload_n 1, 1) := dk_27 (dk_at dksX4_begin_0 2 rfl rfl)
theorem dX4_begin_3 : decode cX4_begin 3 = .ok (.aload_n 0, 1) := dk_42 (dk_at dksX4_begin_0 3 rfl rfl)
theorem dX4_begin_4 : decode cX4_begin 4 = .ok (.getfield 34, 3) := dk_180 0 34 (dk_at dksX4_begin_0 4 rfl rfl)
theorem dX4_begin_7 : decode cX4_begin 7 = .ok (.if_icmp .ge 18, 3) := dk_162 0 18 (dk_at dksX4_begin_0 7 rfl rfl)
theorem dX4_begin_10 : decode cX4_begin 10 = .ok (.aload_n 0, 1) := dk_42 (dk_at dksX4_begin_0 10 rfl rfl)
theorem dX4_begin_11 : decode cX4_begin 11 = .ok (.getfield 11, 3) := dk_180 0 11 (dk_at dksX4_begin_0 11 rfl rfl)
theorem dX4_begin_14 : decode cX4_begin 14 = .ok (.iload_n 1, 1) := dk_27 (dk_at dksX4_begin_0 14 rfl rfl)
theorem dX4_begin_15 : decode cX4_begin 15 = .ok (.aaload, 1) := dk_50 (dk_at dksX4_begin_0 15 rfl rfl)
theorem dX4_begin_16 : decode cX4_begin 16 = .ok (.invokevirtual 59, 3) := dk_182 0 59 (dk_at dksX4_begin_0 16 rfl rfl)
theorem dX4_begin_19 : decode cX4_begin 19 = .ok (.iinc 1 1, 3) := dk_132 1 1 (dk_at dksX4_begin_0 19 rfl rfl)
theorem dX4_begin_22 : decode cX4_begin 22 = .ok (.goto (-20), 3) := dk_167 255 236 (dk_at dksX4_begin_1 0 rfl rfl)
theorem dX4_begin_25 : decode cX4_begin 25 = .ok (.aload_n 0, 1) := dk_42 (dk_at dksX4_begin_1 3 rfl rfl)
theorem dX4_begin_26 : decode cX4_begin 26 = .ok (.iconst 0, 1) := dk_3 (dk_at dksX4_begin_1 4 rfl rfl)
theorem dX4_begin_27 : decode cX4_begin 27 = .ok (.putfield 60, 3) := dk_181 0 60 (dk_at dksX4_begin_1 5 rfl rfl)
theorem dX4_begin_30 : decode cX4_begin 30 = .ok (.aload_n 0, 1) := dk_42 (dk_at dksX4_begin_1 8 rfl rfl)
theorem dX4_begin_31 : decode cX4_begin 31 = .ok (.iconst 0, 1) := dk_3 (dk_at dksX4_begin_1 9 rfl rfl)
theorem dX4_begin_32 : decode cX4_begin 32 = .ok (.putfield 63, 3) := dk_181 0 63 (dk_at dksX4_begin_1 10 rfl rfl)
theorem dX4_begin_35 : decode cX4_begin 35 = .ok (.aload_n 0, 1) := dk_42 (dk_at dksX4_begin_1 13 rfl rfl)
theorem dX4_begin_36 : decode cX4_begin 36 = .ok (.iconst 0, 1) := dk_3 (dk_at dksX4_begin_1 14 rfl rfl)
theorem dX4_begin_37 : decode cX4_begin 37 = .ok (.putfield 66, 3) := dk_181 0 66 (dk_at dksX4_begin_1 15 rfl rfl)
theorem dX4_begin_40 : decode cX4_begin 40 = .ok (.aload_n 0, 1) := dk_42 (dk_at dksX4_begin_1 18 rfl rfl)
theorem dX4_begin_41 : decode cX4_begin 41 = .ok (.aload_n 0, 1) := dk_42 (dk_at dksX4_begin_1 19 rfl rfl)
theorem dX4_begin_42 : decode cX4_begin 42 = .ok (.getfield 41, 3) := dk_180 0 41 (dk_at dksX4_begin_1 20 rfl rfl)
theorem dX4_begin_45 : decode cX4_begin 45 = .ok (.putfield 69, 3) := dk_181 0 69 (dk_at dksX4_begin_2 0 rfl rfl)
theorem dX4_begin_48 : decode cX4_begin 48 = .ok (.aload_n 0, 1) := dk_42 (dk_at dksX4_begin_2 3 rfl rfl)
theorem dX4_begin_49 : decode cX4_begin 49 = .ok (.iconst 0, 1) := dk_3 (dk_at dksX4_begin_2 4 rfl rfl)
theorem dX4_begin_50 : decode cX4_begin 50 = .ok (.putfield 72, 3) := dk_181 0 72 (dk_at dksX4_begin_2 5 rfl rfl)
theorem dX4_begin_53 : decode cX4_begin 53 = .ok (.aload_n 0, 1) := dk_42 (dk_at dksX4_begin_2 8 rfl rfl)
theorem dX4_begin_54 : decode cX4_begin 54 = .ok (.iconst 0, 1) := dk_3 (dk_at dksX4_begin_2 9 rfl rfl)
theorem dX4_begin_55 : decode cX4_begin 55 = .ok (.putfield 75, 3) := dk_181 0 75 (dk_at dksX4_begin_2 10 rfl rfl)
theorem dX4_begin_58 : decode cX4_begin 58 = .ok (.aload_n 0, 1) := dk_42 (dk_at dksX4_begin_2 13 rfl rfl)
theorem dX4_begin_59 : decode cX4_begin 59 = .ok (.iconst (-1), 1) := dk_2 (dk_at dksX4_begin_2 14 rfl rfl)
theorem dX4_begin_60 : decode cX4_begin 60 = .ok (.putfield 78, 3) := dk_181 0 78 (dk_at dksX4_begin_2 15 rfl rfl)
theorem dX4_begin_63 : decode cX4_begin 63 = .ok (.iconst 0, 1) := dk_3 (dk_at dksX4_begin_2 18 rfl rfl)
theorem dX4_begin_64 : decode cX4_begin 64 = .ok (.istore_n 1, 1) := dk_60 (dk_at dksX4_begin_2 19 rfl rfl)
theorem dX4_begin_65 : decode cX4_begin 65 = .ok (.iload_n 1, 1) := dk_27 (dk_at dksX4_begin_2 20 rfl rfl)
theorem dX4_begin_66 : decode cX4_begin 66 = .ok (.bipush 12, 2) := dk_16 12 (dk_at dksX4_begin_2 21 rfl rfl)
theorem dX4_begin_68 : decode cX4_begin 68 = .ok (.if_icmp .gt 23, 3) := dk_163 0 23 (dk_at dksX4_begin_3 0 rfl rfl)
theorem dX4_begin_71 : decode cX4_begin 71 = .ok (.aload_n 0, 1) := dk_42 (dk_at dksX4_begin_3 3 rfl rfl)
theorem dX4_begin_72 : decode cX4_begin 72 = .ok (.getfield 17, 3) := dk_180 0 17 (dk_at dksX4_begin_3 4 rfl rfl)
theorem dX4_begin_75 : decode cX4_begin 75 = .ok (.iload_n 1, 1) := dk_27 (dk_at dksX4_begin_3 7 rfl rfl)
theorem dX4_begin_76 : decode cX4_begin 76 = .ok (.iconst (-1), 1) := dk_2 (dk_at dksX4_begin_3 8 rfl rfl)
theorem dX4_begin_77 : decode cX4_begin 77 = .ok (.iastore, 1) := dk_79 (dk_at dksX4_begin_3 9 rfl rfl)
theorem dX4_begin_78 : decode cX4_begin 78 = .ok (.aload_n 0, 1) := dk_42 (dk_at dksX4_begin_3 10 rfl rfl)
theorem dX4_begin_79 : decode cX4_begin 79 = .ok (.getfield 21, 3) := dk_180 0 21 (dk_at dksX4_begin_3 11 rfl rfl)
theorem dX4_begin_82 : decode cX4_begin 82 = .ok (.iload_n 1, 1) := dk_27 (dk_at dksX4_begin_3 14 rfl rfl)
theorem dX4_begin_83 : decode cX4_begin 83 = .ok (.iconst (-1), 1) := dk_2 (dk_at dksX4_begin_3 15 rfl rfl)
theorem dX4_begin_84 : decode cX4_begin 84 = .ok (.iastore, 1) := dk_79 (dk_at dksX4_begin_3 16 rfl rfl)
theorem dX4_begin_85 : decode cX4_begin 85 = .ok (.iinc 1 1, 3) := dk_132 1 1 (dk_at dksX4_begin_3 17 rfl rfl)
theorem dX4_begin_88 : decode cX4_begin 88 = .ok (.goto (-23), 3) := dk_167 255 233 (dk_at dksX4_begin_3 20 rfl rfl)
theorem dX4_begin_91 : decode cX4_begin 91 = .ok (.return_, 1) := dk_177 (dk_at dksX4_begin_3 23 rfl rfl)
abbrev cX4_step : ByteArray := prog_12_method_12_code
def yX4_step : MethodName := ⟨RX4, "step", "(LSledHouse$Plan;LSledHouse$World;I)V"⟩
def dkwX4_step_4 : List UInt8 := [167, 0, 11, 42, 21, 5, 44, 29, 182, 0, 144, 177]
abbrev dktX4_step_4 : List UInt8 := dkwX4_step_4 ++ []
def dkwX4_step_3 : List UInt8 := [43, 180, 0, 131, 21, 4, 50, 180, 0, 135, 54, 5, 21, 5, 154, 0, 12, 42, 44, 29, 182, 0, 140]
abbrev dktX4_step_3 : List UInt8 := dkwX4_step_3 ++ dktX4_step_4
def dkwX4_step_2 : List UInt8 := [2, 160, 0, 8, 16, 100, 167, 0, 5, 21, 4, 181, 0, 78, 21, 4, 2, 160, 0, 7, 3, 167, 0, 13]
abbrev dktX4_step_2 : List UInt8 := dkwX4_step_2 ++ dktX4_step_3
def dkwX4_step_1 : List UInt8 := [3, 29, 79, 42, 180, 0, 60, 4, 159, 0, 4, 177, 43, 42, 44, 29, 182, 0, 125, 54, 4, 42, 21, 4]
abbrev dktX4_step_1 : List UInt8 := dkwX4_step_1 ++ dktX4_step_2
def dkwX4_step_0 : List UInt8 := [42, 180, 0, 60, 154, 0, 23, 42, 180, 0, 44, 29, 160, 0, 15, 42, 4, 181, 0, 60, 42, 180, 0, 17]
abbrev dktX4_step_0 : List UInt8 := dkwX4_step_0 ++ dktX4_step_1
theorem dksX4_step_0 : cX4_step.data.toList.drop 0 = dktX4_step_0 := by decide +kernel
theorem dksX4_step_1 : cX4_step.data.toList.drop 24 = dktX4_step_1 := dk_seg dksX4_step_0 24 rfl rfl
theorem dksX4_step_2 : cX4_step.data.toList.drop 48 = dktX4_step_2 := dk_seg dksX4_step_1 24 rfl rfl
theorem dksX4_step_3 : cX4_step.data.toList.drop 72 = dktX4_step_3 := dk_seg dksX4_step_2 24 rfl rfl
theorem dksX4_step_4 : cX4_step.data.toList.drop 95 = dktX4_step_4 := dk_seg dksX4_step_3 23 rfl rfl
theorem dX4_step_0 : decode cX4_step 0 = .ok (.aload_n 0, 1) := dk_42 (dk_at dksX4_step_0 0 rfl rfl)
theorem dX4_step_1 : decode cX4_step 1 = .ok (.getfield 60, 3) := dk_180 0 60 (dk_at dksX4_step_0 1 rfl rfl)
theorem dX4_step_4 : decode cX4_step 4 = .ok (.ifCond .ne 23, 3) := dk_154 0 23 (dk_at dksX4_step_0 4 rfl rfl)
theorem dX4_step_7 : decode cX4_step 7 = .ok (.aload_n 0, 1) := dk_42 (dk_at dksX4_step_0 7 rfl rfl)
theorem dX4_step_8 : decode cX4_step 8 = .ok (.getfield 44, 3) := dk_180 0 44 (dk_at dksX4_step_0 8 rfl rfl)
theorem dX4_step_11 : decode cX4_step 11 = .ok (.iload_n 3, 1) := dk_29 (dk_at dksX4_step_0 11 rfl rfl)
theorem dX4_step_12 : decode cX4_step 12 = .ok (.if_icmp .ne 15, 3) := dk_160 0 15 (dk_at dksX4_step_0 12 rfl rfl)
theorem dX4_step_15 : decode cX4_step 15 = .ok (.aload_n 0, 1) := dk_42 (dk_at dksX4_step_0 15 rfl rfl)
theorem dX4_step_16 : decode cX4_step 16 = .ok (.iconst 1, 1) := dk_4 (dk_at dksX4_step_0 16 rfl rfl)
theorem dX4_step_17 : decode cX4_step 17 = .ok (.putfield 60, 3) := dk_181 0 60 (dk_at dksX4_step_0 17 rfl rfl)
theorem dX4_step_20 : decode cX4_step 20 = .ok (.aload_n 0, 1) := dk_42 (dk_at dksX4_step_0 20 rfl rfl)
theorem dX4_step_21 : decode cX4_step 21 = .ok (.getfield 17, 3) := dk_180 0 17 (dk_at dksX4_step_0 21 rfl rfl)
theorem dX4_step_24 : decode cX4_step 24 = .ok (.iconst 0, 1) := dk_3 (dk_at dksX4_step_1 0 rfl rfl)
theorem dX4_step_25 : decode cX4_step 25 = .ok (.iload_n 3, 1) := dk_29 (dk_at dksX4_step_1 1 rfl rfl)
theorem dX4_step_26 : decode cX4_step 26 = .ok (.iastore, 1) := dk_79 (dk_at dksX4_step_1 2 rfl rfl)
theorem dX4_step_27 : decode cX4_step 27 = .ok (.aload_n 0, 1) := dk_42 (dk_at dksX4_step_1 3 rfl rfl)
theorem dX4_step_28 : decode cX4_step 28 = .ok (.getfield 60, 3) := dk_180 0 60 (dk_at dksX4_step_1 4 rfl rfl)
theorem dX4_step_31 : decode cX4_step 31 = .ok (.iconst 1, 1) := dk_4 (dk_at dksX4_step_1 7 rfl rfl)
theorem dX4_step_32 : decode cX4_step 32 = .ok (.if_icmp .eq 4, 3) := dk_159 0 4 (dk_at dksX4_step_1 8 rfl rfl)
theorem dX4_step_35 : decode cX4_step 35 = .ok (.return_, 1) := dk_177 (dk_at dksX4_step_1 11 rfl rfl)
theorem dX4_step_36 : decode cX4_step 36 = .ok (.aload_n 1, 1) := dk_43 (dk_at dksX4_step_1 12 rfl rfl)
theorem dX4_step_37 : decode cX4_step 37 = .ok (.aload_n 0, 1) := dk_42 (dk_at dksX4_step_1 13 rfl rfl)
theorem dX4_step_38 : decode cX4_step 38 = .ok (.aload_n 2, 1) := dk_44 (dk_at dksX4_step_1 14 rfl rfl)
theorem dX4_step_39 : decode cX4_step 39 = .ok (.iload_n 3, 1) := dk_29 (dk_at dksX4_step_1 15 rfl rfl)
theorem dX4_step_40 : decode cX4_step 40 = .ok (.invokevirtual 125, 3) := dk_182 0 125 (dk_at dksX4_step_1 16 rfl rfl)
theorem dX4_step_43 : decode cX4_step 43 = .ok (.istore 4, 2) := dk_54 4 (dk_at dksX4_step_1 19 rfl rfl)
theorem dX4_step_45 : decode cX4_step 45 = .ok (.aload_n 0, 1) := dk_42 (dk_at dksX4_step_1 21 rfl rfl)
theorem dX4_step_46 : decode cX4_step 46 = .ok (.iload 4, 2) := dk_21 4 (dk_at dksX4_step_1 22 rfl rfl)
theorem dX4_step_48 : decode cX4_step 48 = .ok (.iconst (-1), 1) := dk_2 (dk_at dksX4_step_2 0 rfl rfl)
theorem dX4_step_49 : decode cX4_step 49 = .ok (.if_icmp .ne 8, 3) := dk_160 0 8 (dk_at dksX4_step_2 1 rfl rfl)
theorem dX4_step_52 : decode cX4_step 52 = .ok (.bipush 100, 2) := dk_16 100 (dk_at dksX4_step_2 4 rfl rfl)
theorem dX4_step_54 : decode cX4_step 54 = .ok (.goto 5, 3) := dk_167 0 5 (dk_at dksX4_step_2 6 rfl rfl)
theorem dX4_step_57 : decode cX4_step 57 = .ok (.iload 4, 2) := dk_21 4 (dk_at dksX4_step_2 9 rfl rfl)
theorem dX4_step_59 : decode cX4_step 59 = .ok (.putfield 78, 3) := dk_181 0 78 (dk_at dksX4_step_2 11 rfl rfl)
theorem dX4_step_62 : decode cX4_step 62 = .ok (.iload 4, 2) := dk_21 4 (dk_at dksX4_step_2 14 rfl rfl)
theorem dX4_step_64 : decode cX4_step 64 = .ok (.iconst (-1), 1) := dk_2 (dk_at dksX4_step_2 16 rfl rfl)
theorem dX4_step_65 : decode cX4_step 65 = .ok (.if_icmp .ne 7, 3) := dk_160 0 7 (dk_at dksX4_step_2 17 rfl rfl)
theorem dX4_step_68 : decode cX4_step 68 = .ok (.iconst 0, 1) := dk_3 (dk_at dksX4_step_2 20 rfl rfl)
theorem dX4_step_69 : decode cX4_step 69 = .ok (.goto 13, 3) := dk_167 0 13 (dk_at dksX4_step_2 21 rfl rfl)
theorem dX4_step_72 : decode cX4_step 72 = .ok (.aload_n 1, 1) := dk_43 (dk_at dksX4_step_3 0 rfl rfl)
theorem dX4_step_73 : decode cX4_step 73 = .ok (.getfield 131, 3) := dk_180 0 131 (dk_at dksX4_step_3 1 rfl rfl)
theorem dX4_step_76 : decode cX4_step 76 = .ok (.iload 4, 2) := dk_21 4 (dk_at dksX4_step_3 4 rfl rfl)
theorem dX4_step_78 : decode cX4_step 78 = .ok (.aaload, 1) := dk_50 (dk_at dksX4_step_3 6 rfl rfl)
theorem dX4_step_79 : decode cX4_step 79 = .ok (.getfield 135, 3) := dk_180 0 135 (dk_at dksX4_step_3 7 rfl rfl)
theorem dX4_step_82 : decode cX4_step 82 = .ok (.istore 5, 2) := dk_54 5 (dk_at dksX4_step_3 10 rfl rfl)
theorem dX4_step_84 : decode cX4_step 84 = .ok (.iload 5, 2) := dk_21 5 (dk_at dksX4_step_3 12 rfl rfl)
theorem dX4_step_86 : decode cX4_step 86 = .ok (.ifCond .ne 12, 3) := dk_154 0 12 (dk_at dksX4_step_3 14 rfl rfl)
theorem dX4_step_89 : decode cX4_step 89 = .ok (.aload_n 0, 1) := dk_42 (dk_at dksX4_step_3 17 rfl rfl)
theorem dX4_step_90 : decode cX4_step 90 = .ok (.aload_n 2, 1) := dk_44 (dk_at dksX4_step_3 18 rfl rfl)
theorem dX4_step_91 : decode cX4_step 91 = .ok (.iload_n 3, 1) := dk_29 (dk_at dksX4_step_3 19 rfl rfl)
theorem dX4_step_92 : decode cX4_step 92 = .ok (.invokevirtual 140, 3) := dk_182 0 140 (dk_at dksX4_step_3 20 rfl rfl)
theorem dX4_step_95 : decode cX4_step 95 = .ok (.goto 11, 3) := dk_167 0 11 (dk_at dksX4_step_4 0 rfl rfl)
theorem dX4_step_98 : decode cX4_step 98 = .ok (.aload_n 0, 1) := dk_42 (dk_at dksX4_step_4 3 rfl rfl)
theorem dX4_step_99 : decode cX4_step 99 = .ok (.iload 5, 2) := dk_21 5 (dk_at dksX4_step_4 4 rfl rfl)
theorem dX4_step_101 : decode cX4_step 101 = .ok (.aload_n 2, 1) := dk_44 (dk_at dksX4_step_4 6 rfl rfl)
theorem dX4_step_102 : decode cX4_step 102 = .ok (.iload_n 3, 1) := dk_29 (dk_at dksX4_step_4 7 rfl rfl)
theorem dX4_step_103 : decode cX4_step 103 = .ok (.invokevirtual 144, 3) := dk_182 0 144 (dk_at dksX4_step_4 8 rfl rfl)
theorem dX4_step_106 : decode cX4_step 106 = .ok (.return_, 1) := dk_177 (dk_at dksX4_step_4 11 rfl rfl)
abbrev cX4_told : ByteArray := prog_12_method_11_code
def yX4_told : MethodName := ⟨RX4, "told", "(ILSledHouse$World;I)I"⟩
def dkwX4_told_5 : List UInt8 := [180, 0, 66, 154, 0, 10, 42, 180, 0, 63, 167, 0, 5, 16, 99, 172, 42, 182, 0, 122, 172]
abbrev dktX4_told_5 : List UInt8 := dkwX4_told_5 ++ []
def dkwX4_told_4 : List UInt8 := [180, 0, 107, 42, 180, 0, 63, 46, 42, 180, 0, 66, 100, 172, 29, 16, 6, 108, 16, 24, 112, 172, 42]
abbrev dktX4_told_4 : List UInt8 := dkwX4_told_4 ++ dktX4_told_5
def dkwX4_told_3 : List UInt8 := [180, 0, 119, 29, 16, 6, 108, 46, 16, 100, 96, 172, 42, 180, 0, 69, 172, 42, 182, 0, 103, 172, 44]
abbrev dktX4_told_3 : List UInt8 := dkwX4_told_3 ++ dktX4_told_4
def dkwX4_told_2 : List UInt8 := [42, 180, 0, 72, 172, 42, 180, 0, 75, 172, 42, 182, 0, 112, 180, 0, 100, 172, 42, 182, 0, 116, 172, 44]
abbrev dktX4_told_2 : List UInt8 := dkwX4_told_2 ++ dktX4_told_3
def dkwX4_told_1 : List UInt8 := [170, 0, 0, 0, 0, 0, 141, 0, 0, 0, 0, 0, 0, 0, 9, 0, 0, 0, 55, 0, 0, 0, 60, 0, 0, 0, 65, 0, 0, 0, 73, 0, 0, 0, 78, 0, 0, 0, 91, 0, 0, 0, 96, 0, 0, 0, 101, 0, 0, 0, 116, 0, 0, 0, 124]
abbrev dktX4_told_1 : List UInt8 := dkwX4_told_1 ++ dktX4_told_2
def dkwX4_told_0 : List UInt8 := [27]
abbrev dktX4_told_0 : List UInt8 := dkwX4_told_0 ++ dktX4_told_1
theorem dksX4_told_0 : cX4_told.data.toList.drop 0 = dktX4_told_0 := by decide +kernel
theorem dksX4_told_1 : cX4_told.data.toList.drop 1 = dktX4_told_1 := dk_seg dksX4_told_0 1 rfl rfl
theorem dksX4_told_2 : cX4_told.data.toList.drop 56 = dktX4_told_2 := dk_seg dksX4_told_1 55 rfl rfl
theorem dksX4_told_3 : cX4_told.data.toList.drop 80 = dktX4_told_3 := dk_seg dksX4_told_2 24 rfl rfl
theorem dksX4_told_4 : cX4_told.data.toList.drop 103 = dktX4_told_4 := dk_seg dksX4_told_3 23 rfl rfl
theorem dksX4_told_5 : cX4_told.data.toList.drop 126 = dktX4_told_5 := dk_seg dksX4_told_4 23 rfl rfl
theorem dX4_told_0 : decode cX4_told 0 = .ok (.iload_n 1, 1) := dk_27 (dk_at dksX4_told_0 0 rfl rfl)
theorem dX4_told_1 : decode cX4_told 1 = .ok (.tableswitch 141 0 9 #[55, 60, 65, 73, 78, 91, 96, 101, 116, 124], 55) := by decide +kernel
theorem dX4_told_56 : decode cX4_told 56 = .ok (.aload_n 0, 1) := dk_42 (dk_at dksX4_told_2 0 rfl rfl)
theorem dX4_told_57 : decode cX4_told 57 = .ok (.getfield 72, 3) := dk_180 0 72 (dk_at dksX4_told_2 1 rfl rfl)
theorem dX4_told_60 : decode cX4_told 60 = .ok (.ireturn, 1) := dk_172 (dk_at dksX4_told_2 4 rfl rfl)
theorem dX4_told_61 : decode cX4_told 61 = .ok (.aload_n 0, 1) := dk_42 (dk_at dksX4_told_2 5 rfl rfl)
theorem dX4_told_62 : decode cX4_told 62 = .ok (.getfield 75, 3) := dk_180 0 75 (dk_at dksX4_told_2 6 rfl rfl)
theorem dX4_told_65 : decode cX4_told 65 = .ok (.ireturn, 1) := dk_172 (dk_at dksX4_told_2 9 rfl rfl)
theorem dX4_told_66 : decode cX4_told 66 = .ok (.aload_n 0, 1) := dk_42 (dk_at dksX4_told_2 10 rfl rfl)
theorem dX4_told_67 : decode cX4_told 67 = .ok (.invokevirtual 112, 3) := dk_182 0 112 (dk_at dksX4_told_2 11 rfl rfl)
theorem dX4_told_70 : decode cX4_told 70 = .ok (.getfield 100, 3) := dk_180 0 100 (dk_at dksX4_told_2 14 rfl rfl)
theorem dX4_told_73 : decode cX4_told 73 = .ok (.ireturn, 1) := dk_172 (dk_at dksX4_told_2 17 rfl rfl)
theorem dX4_told_74 : decode cX4_told 74 = .ok (.aload_n 0, 1) := dk_42 (dk_at dksX4_told_2 18 rfl rfl)
theorem dX4_told_75 : decode cX4_told 75 = .ok (.invokevirtual 116, 3) := dk_182 0 116 (dk_at dksX4_told_2 19 rfl rfl)
theorem dX4_told_78 : decode cX4_told 78 = .ok (.ireturn, 1) := dk_172 (dk_at dksX4_told_2 22 rfl rfl)
theorem dX4_told_79 : decode cX4_told 79 = .ok (.aload_n 2, 1) := dk_44 (dk_at dksX4_told_2 23 rfl rfl)
theorem dX4_told_80 : decode cX4_told 80 = .ok (.getfield 119, 3) := dk_180 0 119 (dk_at dksX4_told_3 0 rfl rfl)
theorem dX4_told_83 : decode cX4_told 83 = .ok (.iload_n 3, 1) := dk_29 (dk_at dksX4_told_3 3 rfl rfl)
theorem dX4_told_84 : decode cX4_told 84 = .ok (.bipush 6, 2) := dk_16 6 (dk_at dksX4_told_3 4 rfl rfl)
theorem dX4_told_86 : decode cX4_told 86 = .ok (.idiv, 1) := dk_108 (dk_at dksX4_told_3 6 rfl rfl)
theorem dX4_told_87 : decode cX4_told 87 = .ok (.iaload, 1) := dk_46 (dk_at dksX4_told_3 7 rfl rfl)
theorem dX4_told_88 : decode cX4_told 88 = .ok (.bipush 100, 2) := dk_16 100 (dk_at dksX4_told_3 8 rfl rfl)
theorem dX4_told_90 : decode cX4_told 90 = .ok (.iadd, 1) := dk_96 (dk_at dksX4_told_3 10 rfl rfl)
theorem dX4_told_91 : decode cX4_told 91 = .ok (.ireturn, 1) := dk_172 (dk_at dksX4_told_3 11 rfl rfl)
theorem dX4_told_92 : decode cX4_told 92 = .ok (.aload_n 0, 1) := dk_42 (dk_at dksX4_told_3 12 rfl rfl)
theorem dX4_told_93 : decode cX4_told 93 = .ok (.getfield 69, 3) := dk_180 0 69 (dk_at dksX4_told_3 13 rfl rfl)
theorem dX4_told_96 : decode cX4_told 96 = .ok (.ireturn, 1) := dk_172 (dk_at dksX4_told_3 16 rfl rfl)
theorem dX4_told_97 : decode cX4_told 97 = .ok (.aload_n 0, 1) := dk_42 (dk_at dksX4_told_3 17 rfl rfl)
theorem dX4_told_98 : decode cX4_told 98 = .ok (.invokevirtual 103, 3) := dk_182 0 103 (dk_at dksX4_told_3 18 rfl rfl)
theorem dX4_told_101 : decode cX4_told 101 = .ok (.ireturn, 1) := dk_172 (dk_at dksX4_told_3 21 rfl rfl)
theorem dX4_told_102 : decode cX4_told 102 = .ok (.aload_n 2, 1) := dk_44 (dk_at dksX4_told_3 22 rfl rfl)
theorem dX4_told_103 : decode cX4_told 103 = .ok (.getfield 107, 3) := dk_180 0 107 (dk_at dksX4_told_4 0 rfl rfl)
theorem dX4_told_106 : decode cX4_told 106 = .ok (.aload_n 0, 1) := dk_42 (dk_at dksX4_told_4 3 rfl rfl)
theorem dX4_told_107 : decode cX4_told 107 = .ok (.getfield 63, 3) := dk_180 0 63 (dk_at dksX4_told_4 4 rfl rfl)
theorem dX4_told_110 : decode cX4_told 110 = .ok (.iaload, 1) := dk_46 (dk_at dksX4_told_4 7 rfl rfl)
theorem dX4_told_111 : decode cX4_told 111 = .ok (.aload_n 0, 1) := dk_42 (dk_at dksX4_told_4 8 rfl rfl)
theorem dX4_told_112 : decode cX4_told 112 = .ok (.getfield 66, 3) := dk_180 0 66 (dk_at dksX4_told_4 9 rfl rfl)
theorem dX4_told_115 : decode cX4_told 115 = .ok (.isub, 1) := dk_100 (dk_at dksX4_told_4 12 rfl rfl)
theorem dX4_told_116 : decode cX4_told 116 = .ok (.ireturn, 1) := dk_172 (dk_at dksX4_told_4 13 rfl rfl)
theorem dX4_told_117 : decode cX4_told 117 = .ok (.iload_n 3, 1) := dk_29 (dk_at dksX4_told_4 14 rfl rfl)
theorem dX4_told_118 : decode cX4_told 118 = .ok (.bipush 6, 2) := dk_16 6 (dk_at dksX4_told_4 15 rfl rfl)
theorem dX4_told_120 : decode cX4_told 120 = .ok (.idiv, 1) := dk_108 (dk_at dksX4_told_4 17 rfl rfl)
theorem dX4_told_121 : decode cX4_told 121 = .ok (.bipush 24, 2) := dk_16 24 (dk_at dksX4_told_4 18 rfl rfl)
theorem dX4_told_123 : decode cX4_told 123 = .ok (.irem, 1) := dk_112 (dk_at dksX4_told_4 20 rfl rfl)
theorem dX4_told_124 : decode cX4_told 124 = .ok (.ireturn, 1) := dk_172 (dk_at dksX4_told_4 21 rfl rfl)
theorem dX4_told_125 : decode cX4_told 125 = .ok (.aload_n 0, 1) := dk_42 (dk_at dksX4_told_4 22 rfl rfl)
theorem dX4_told_126 : decode cX4_told 126 = .ok (.getfield 66, 3) := dk_180 0 66 (dk_at dksX4_told_5 0 rfl rfl)
theorem dX4_told_129 : decode cX4_told 129 = .ok (.ifCond .ne 10, 3) := dk_154 0 10 (dk_at dksX4_told_5 3 rfl rfl)
theorem dX4_told_132 : decode cX4_told 132 = .ok (.aload_n 0, 1) := dk_42 (dk_at dksX4_told_5 6 rfl rfl)
theorem dX4_told_133 : decode cX4_told 133 = .ok (.getfield 63, 3) := dk_180 0 63 (dk_at dksX4_told_5 7 rfl rfl)
theorem dX4_told_136 : decode cX4_told 136 = .ok (.goto 5, 3) := dk_167 0 5 (dk_at dksX4_told_5 10 rfl rfl)
theorem dX4_told_139 : decode cX4_told 139 = .ok (.bipush 99, 2) := dk_16 99 (dk_at dksX4_told_5 13 rfl rfl)
theorem dX4_told_141 : decode cX4_told 141 = .ok (.ireturn, 1) := dk_172 (dk_at dksX4_told_5 15 rfl rfl)
theorem dX4_told_142 : decode cX4_told 142 = .ok (.aload_n 0, 1) := dk_42 (dk_at dksX4_told_5 16 rfl rfl)
theorem dX4_told_143 : decode cX4_told 143 = .ok (.invokevirtual 122, 3) := dk_182 0 122 (dk_at dksX4_told_5 17 rfl rfl)
theorem dX4_told_146 : decode cX4_told 146 = .ok (.ireturn, 1) := dk_172 (dk_at dksX4_told_5 20 rfl rfl)
abbrev cX4_weakest : ByteArray := prog_12_method_9_code
def yX4_weakest : MethodName := ⟨RX4, "weakest", "()LSledHouse$Dog;"⟩
def dkwX4_weakest_2 : List UInt8 := [28, 50, 76, 132, 2, 1, 167, 255, 206, 43, 176]
abbrev dktX4_weakest_2 : List UInt8 := dkwX4_weakest_2 ++ []
def dkwX4_weakest_1 : List UInt8 := [43, 198, 0, 19, 42, 180, 0, 11, 28, 50, 180, 0, 100, 43, 180, 0, 100, 162, 0, 10, 42, 180, 0, 11]
abbrev dktX4_weakest_1 : List UInt8 := dkwX4_weakest_1 ++ dktX4_weakest_2
def dkwX4_weakest_0 : List UInt8 := [1, 76, 3, 61, 28, 42, 180, 0, 34, 162, 0, 48, 42, 180, 0, 11, 28, 50, 180, 0, 95, 154, 0, 30]
abbrev dktX4_weakest_0 : List UInt8 := dkwX4_weakest_0 ++ dktX4_weakest_1
theorem dksX4_weakest_0 : cX4_weakest.data.toList.drop 0 = dktX4_weakest_0 := by decide +kernel
theorem dksX4_weakest_1 : cX4_weakest.data.toList.drop 24 = dktX4_weakest_1 := dk_seg dksX4_weakest_0 24 rfl rfl
theorem dksX4_weakest_2 : cX4_weakest.data.toList.drop 48 = dktX4_weakest_2 := dk_seg dksX4_weakest_1 24 rfl rfl
theorem dX4_weakest_0 : decode cX4_weakest 0 = .ok (.aconst_null, 1) := dk_1 (dk_at dksX4_weakest_0 0 rfl rfl)
theorem dX4_weakest_1 : decode cX4_weakest 1 = .ok (.astore_n 1, 1) := dk_76 (dk_at dksX4_weakest_0 1 rfl rfl)
theorem dX4_weakest_2 : decode cX4_weakest 2 = .ok (.iconst 0, 1) := dk_3 (dk_at dksX4_weakest_0 2 rfl rfl)
theorem dX4_weakest_3 : decode cX4_weakest 3 = .ok (.istore_n 2, 1) := dk_61 (dk_at dksX4_weakest_0 3 rfl rfl)
theorem dX4_weakest_4 : decode cX4_weakest 4 = .ok (.iload_n 2, 1) := dk_28 (dk_at dksX4_weakest_0 4 rfl rfl)
theorem dX4_weakest_5 : decode cX4_weakest 5 = .ok (.aload_n 0, 1) := dk_42 (dk_at dksX4_weakest_0 5 rfl rfl)
theorem dX4_weakest_6 : decode cX4_weakest 6 = .ok (.getfield 34, 3) := dk_180 0 34 (dk_at dksX4_weakest_0 6 rfl rfl)
theorem dX4_weakest_9 : decode cX4_weakest 9 = .ok (.if_icmp .ge 48, 3) := dk_162 0 48 (dk_at dksX4_weakest_0 9 rfl rfl)
theorem dX4_weakest_12 : decode cX4_weakest 12 = .ok (.aload_n 0, 1) := dk_42 (dk_at dksX4_weakest_0 12 rfl rfl)
theorem dX4_weakest_13 : decode cX4_weakest 13 = .ok (.getfield 11, 3) := dk_180 0 11 (dk_at dksX4_weakest_0 13 rfl rfl)
theorem dX4_weakest_16 : decode cX4_weakest 16 = .ok (.iload_n 2, 1) := dk_28 (dk_at dksX4_weakest_0 16 rfl rfl)
theorem dX4_weakest_17 : decode cX4_weakest 17 = .ok (.aaload, 1) := dk_50 (dk_at dksX4_weakest_0 17 rfl rfl)
theorem dX4_weakest_18 : decode cX4_weakest 18 = .ok (.getfield 95, 3) := dk_180 0 95 (dk_at dksX4_weakest_0 18 rfl rfl)
theorem dX4_weakest_21 : decode cX4_weakest 21 = .ok (.ifCond .ne 30, 3) := dk_154 0 30 (dk_at dksX4_weakest_0 21 rfl rfl)
theorem dX4_weakest_24 : decode cX4_weakest 24 = .ok (.aload_n 1, 1) := dk_43 (dk_at dksX4_weakest_1 0 rfl rfl)
theorem dX4_weakest_25 : decode cX4_weakest 25 = .ok (.ifnull 19, 3) := dk_198 0 19 (dk_at dksX4_weakest_1 1 rfl rfl)
theorem dX4_weakest_28 : decode cX4_weakest 28 = .ok (.aload_n 0, 1) := dk_42 (dk_at dksX4_weakest_1 4 rfl rfl)
theorem dX4_weakest_29 : decode cX4_weakest 29 = .ok (.getfield 11, 3) := dk_180 0 11 (dk_at dksX4_weakest_1 5 rfl rfl)
theorem dX4_weakest_32 : decode cX4_weakest 32 = .ok (.iload_n 2, 1) := dk_28 (dk_at dksX4_weakest_1 8 rfl rfl)
theorem dX4_weakest_33 : decode cX4_weakest 33 = .ok (.aaload, 1) := dk_50 (dk_at dksX4_weakest_1 9 rfl rfl)
theorem dX4_weakest_34 : decode cX4_weakest 34 = .ok (.getfield 100, 3) := dk_180 0 100 (dk_at dksX4_weakest_1 10 rfl rfl)
theorem dX4_weakest_37 : decode cX4_weakest 37 = .ok (.aload_n 1, 1) := dk_43 (dk_at dksX4_weakest_1 13 rfl rfl)
theorem dX4_weakest_38 : decode cX4_weakest 38 = .ok (.getfield 100, 3) := dk_180 0 100 (dk_at dksX4_weakest_1 14 rfl rfl)
theorem dX4_weakest_41 : decode cX4_weakest 41 = .ok (.if_icmp .ge 10, 3) := dk_162 0 10 (dk_at dksX4_weakest_1 17 rfl rfl)
theorem dX4_weakest_44 : decode cX4_weakest 44 = .ok (.aload_n 0, 1) := dk_42 (dk_at dksX4_weakest_1 20 rfl rfl)
theorem dX4_weakest_45 : decode cX4_weakest 45 = .ok (.getfield 11, 3) := dk_180 0 11 (dk_at dksX4_weakest_1 21 rfl rfl)
theorem dX4_weakest_48 : decode cX4_weakest 48 = .ok (.iload_n 2, 1) := dk_28 (dk_at dksX4_weakest_2 0 rfl rfl)
theorem dX4_weakest_49 : decode cX4_weakest 49 = .ok (.aaload, 1) := dk_50 (dk_at dksX4_weakest_2 1 rfl rfl)
theorem dX4_weakest_50 : decode cX4_weakest 50 = .ok (.astore_n 1, 1) := dk_76 (dk_at dksX4_weakest_2 2 rfl rfl)
theorem dX4_weakest_51 : decode cX4_weakest 51 = .ok (.iinc 2 1, 3) := dk_132 2 1 (dk_at dksX4_weakest_2 3 rfl rfl)
theorem dX4_weakest_54 : decode cX4_weakest 54 = .ok (.goto (-50), 3) := dk_167 255 206 (dk_at dksX4_weakest_2 6 rfl rfl)
theorem dX4_weakest_57 : decode cX4_weakest 57 = .ok (.aload_n 1, 1) := dk_43 (dk_at dksX4_weakest_2 9 rfl rfl)
theorem dX4_weakest_58 : decode cX4_weakest 58 = .ok (.areturn, 1) := dk_176 (dk_at dksX4_weakest_2 10 rfl rfl)
abbrev cX4_mean : ByteArray := prog_12_method_8_code
def yX4_mean : MethodName := ⟨RX4, "mean", "()I"⟩
def dkwX4_mean_2 : List UInt8 := [154, 0, 7, 3, 167, 0, 6, 27, 28, 108, 172]
abbrev dktX4_mean_2 : List UInt8 := dkwX4_mean_2 ++ []
def dkwX4_mean_1 : List UInt8 := [27, 42, 180, 0, 11, 28, 50, 180, 0, 100, 96, 60, 132, 2, 1, 167, 255, 221, 42, 182, 0, 103, 61, 28]
abbrev dktX4_mean_1 : List UInt8 := dkwX4_mean_1 ++ dktX4_mean_2
def dkwX4_mean_0 : List UInt8 := [3, 60, 3, 61, 28, 42, 180, 0, 34, 162, 0, 33, 42, 180, 0, 11, 28, 50, 180, 0, 95, 154, 0, 15]
abbrev dktX4_mean_0 : List UInt8 := dkwX4_mean_0 ++ dktX4_mean_1
theorem dksX4_mean_0 : cX4_mean.data.toList.drop 0 = dktX4_mean_0 := by decide +kernel
theorem dksX4_mean_1 : cX4_mean.data.toList.drop 24 = dktX4_mean_1 := dk_seg dksX4_mean_0 24 rfl rfl
theorem dksX4_mean_2 : cX4_mean.data.toList.drop 48 = dktX4_mean_2 := dk_seg dksX4_mean_1 24 rfl rfl
theorem dX4_mean_0 : decode cX4_mean 0 = .ok (.iconst 0, 1) := dk_3 (dk_at dksX4_mean_0 0 rfl rfl)
theorem dX4_mean_1 : decode cX4_mean 1 = .ok (.istore_n 1, 1) := dk_60 (dk_at dksX4_mean_0 1 rfl rfl)
theorem dX4_mean_2 : decode cX4_mean 2 = .ok (.iconst 0, 1) := dk_3 (dk_at dksX4_mean_0 2 rfl rfl)
theorem dX4_mean_3 : decode cX4_mean 3 = .ok (.istore_n 2, 1) := dk_61 (dk_at dksX4_mean_0 3 rfl rfl)
theorem dX4_mean_4 : decode cX4_mean 4 = .ok (.iload_n 2, 1) := dk_28 (dk_at dksX4_mean_0 4 rfl rfl)
theorem dX4_mean_5 : decode cX4_mean 5 = .ok (.aload_n 0, 1) := dk_42 (dk_at dksX4_mean_0 5 rfl rfl)
theorem dX4_mean_6 : decode cX4_mean 6 = .ok (.getfield 34, 3) := dk_180 0 34 (dk_at dksX4_mean_0 6 rfl rfl)
theorem dX4_mean_9 : decode cX4_mean 9 = .ok (.if_icmp .ge 33, 3) := dk_162 0 33 (dk_at dksX4_mean_0 9 rfl rfl)
theorem dX4_mean_12 : decode cX4_mean 12 = .ok (.aload_n 0, 1) := dk_42 (dk_at dksX4_mean_0 12 rfl rfl)
theorem dX4_mean_13 : decode cX4_mean 13 = .ok (.getfield 11, 3) := dk_180 0 11 (dk_at dksX4_mean_0 13 rfl rfl)
theorem dX4_mean_16 : decode cX4_mean 16 = .ok (.iload_n 2, 1) := dk_28 (dk_at dksX4_mean_0 16 rfl rfl)
theorem dX4_mean_17 : decode cX4_mean 17 = .ok (.aaload, 1) := dk_50 (dk_at dksX4_mean_0 17 rfl rfl)
theorem dX4_mean_18 : decode cX4_mean 18 = .ok (.getfield 95, 3) := dk_180 0 95 (dk_at dksX4_mean_0 18 rfl rfl)
theorem dX4_mean_21 : decode cX4_mean 21 = .ok (.ifCond .ne 15, 3) := dk_154 0 15 (dk_at dksX4_mean_0 21 rfl rfl)
theorem dX4_mean_24 : decode cX4_mean 24 = .ok (.iload_n 1, 1) := dk_27 (dk_at dksX4_mean_1 0 rfl rfl)
theorem dX4_mean_25 : decode cX4_mean 25 = .ok (.aload_n 0, 1) := dk_42 (dk_at dksX4_mean_1 1 rfl rfl)
theorem dX4_mean_26 : decode cX4_mean 26 = .ok (.getfield 11, 3) := dk_180 0 11 (dk_at dksX4_mean_1 2 rfl rfl)
theorem dX4_mean_29 : decode cX4_mean 29 = .ok (.iload_n 2, 1) := dk_28 (dk_at dksX4_mean_1 5 rfl rfl)
theorem dX4_mean_30 : decode cX4_mean 30 = .ok (.aaload, 1) := dk_50 (dk_at dksX4_mean_1 6 rfl rfl)
theorem dX4_mean_31 : decode cX4_mean 31 = .ok (.getfield 100, 3) := dk_180 0 100 (dk_at dksX4_mean_1 7 rfl rfl)
theorem dX4_mean_34 : decode cX4_mean 34 = .ok (.iadd, 1) := dk_96 (dk_at dksX4_mean_1 10 rfl rfl)
theorem dX4_mean_35 : decode cX4_mean 35 = .ok (.istore_n 1, 1) := dk_60 (dk_at dksX4_mean_1 11 rfl rfl)
theorem dX4_mean_36 : decode cX4_mean 36 = .ok (.iinc 2 1, 3) := dk_132 2 1 (dk_at dksX4_mean_1 12 rfl rfl)
theorem dX4_mean_39 : decode cX4_mean 39 = .ok (.goto (-35), 3) := dk_167 255 221 (dk_at dksX4_mean_1 15 rfl rfl)
theorem dX4_mean_42 : decode cX4_mean 42 = .ok (.aload_n 0, 1) := dk_42 (dk_at dksX4_mean_1 18 rfl rfl)
theorem dX4_mean_43 : decode cX4_mean 43 = .ok (.invokevirtual 103, 3) := dk_182 0 103 (dk_at dksX4_mean_1 19 rfl rfl)
theorem dX4_mean_46 : decode cX4_mean 46 = .ok (.istore_n 2, 1) := dk_61 (dk_at dksX4_mean_1 22 rfl rfl)
theorem dX4_mean_47 : decode cX4_mean 47 = .ok (.iload_n 2, 1) := dk_28 (dk_at dksX4_mean_1 23 rfl rfl)
theorem dX4_mean_48 : decode cX4_mean 48 = .ok (.ifCond .ne 7, 3) := dk_154 0 7 (dk_at dksX4_mean_2 0 rfl rfl)
theorem dX4_mean_51 : decode cX4_mean 51 = .ok (.iconst 0, 1) := dk_3 (dk_at dksX4_mean_2 3 rfl rfl)
theorem dX4_mean_52 : decode cX4_mean 52 = .ok (.goto 6, 3) := dk_167 0 6 (dk_at dksX4_mean_2 4 rfl rfl)
theorem dX4_mean_55 : decode cX4_mean 55 = .ok (.iload_n 1, 1) := dk_27 (dk_at dksX4_mean_2 7 rfl rfl)
theorem dX4_mean_56 : decode cX4_mean 56 = .ok (.iload_n 2, 1) := dk_28 (dk_at dksX4_mean_2 8 rfl rfl)
theorem dX4_mean_57 : decode cX4_mean 57 = .ok (.idiv, 1) := dk_108 (dk_at dksX4_mean_2 9 rfl rfl)
theorem dX4_mean_58 : decode cX4_mean 58 = .ok (.ireturn, 1) := dk_172 (dk_at dksX4_mean_2 10 rfl rfl)
abbrev cX4_pulling : ByteArray := prog_12_method_6_code
def yX4_pulling : MethodName := ⟨RX4, "pulling", "()I"⟩
def dkwX4_pulling_0 : List UInt8 := [42, 3, 182, 0, 96, 172]
abbrev dktX4_pulling_0 : List UInt8 := dkwX4_pulling_0 ++ []
theorem dksX4_pulling_0 : cX4_pulling.data.toList.drop 0 = dktX4_pulling_0 := by decide +kernel
theorem dX4_pulling_0 : decode cX4_pulling 0 = .ok (.aload_n 0, 1) := dk_42 (dk_at dksX4_pulling_0 0 rfl rfl)
theorem dX4_pulling_1 : decode cX4_pulling 1 = .ok (.iconst 0, 1) := dk_3 (dk_at dksX4_pulling_0 1 rfl rfl)
theorem dX4_pulling_2 : decode cX4_pulling 2 = .ok (.invokevirtual 96, 3) := dk_182 0 96 (dk_at dksX4_pulling_0 2 rfl rfl)
theorem dX4_pulling_5 : decode cX4_pulling 5 = .ok (.ireturn, 1) := dk_172 (dk_at dksX4_pulling_0 5 rfl rfl)
abbrev cX4_inState : ByteArray := prog_12_method_5_code
def yX4_inState : MethodName := ⟨RX4, "inState", "(I)I"⟩
def dkwX4_inState_1 : List UInt8 := [160, 0, 7, 4, 167, 0, 4, 3, 96, 61, 132, 3, 1, 167, 255, 224, 28, 172]
abbrev dktX4_inState_1 : List UInt8 := dkwX4_inState_1 ++ []
def dkwX4_inState_0 : List UInt8 := [3, 61, 3, 62, 29, 42, 180, 0, 34, 162, 0, 30, 28, 42, 180, 0, 11, 29, 50, 180, 0, 95, 27]
abbrev dktX4_inState_0 : List UInt8 := dkwX4_inState_0 ++ dktX4_inState_1
theorem dksX4_inState_0 : cX4_inState.data.toList.drop 0 = dktX4_inState_0 := by decide +kernel
theorem dksX4_inState_1 : cX4_inState.data.toList.drop 23 = dktX4_inState_1 := dk_seg dksX4_inState_0 23 rfl rfl
theorem dX4_inState_0 : decode cX4_inState 0 = .ok (.iconst 0, 1) := dk_3 (dk_at dksX4_inState_0 0 rfl rfl)
theorem dX4_inState_1 : decode cX4_inState 1 = .ok (.istore_n 2, 1) := dk_61 (dk_at dksX4_inState_0 1 rfl rfl)
theorem dX4_inState_2 : decode cX4_inState 2 = .ok (.iconst 0, 1) := dk_3 (dk_at dksX4_inState_0 2 rfl rfl)
theorem dX4_inState_3 : decode cX4_inState 3 = .ok (.istore_n 3, 1) := dk_62 (dk_at dksX4_inState_0 3 rfl rfl)
theorem dX4_inState_4 : decode cX4_inState 4 = .ok (.iload_n 3, 1) := dk_29 (dk_at dksX4_inState_0 4 rfl rfl)
theorem dX4_inState_5 : decode cX4_inState 5 = .ok (.aload_n 0, 1) := dk_42 (dk_at dksX4_inState_0 5 rfl rfl)
theorem dX4_inState_6 : decode cX4_inState 6 = .ok (.getfield 34, 3) := dk_180 0 34 (dk_at dksX4_inState_0 6 rfl rfl)
theorem dX4_inState_9 : decode cX4_inState 9 = .ok (.if_icmp .ge 30, 3) := dk_162 0 30 (dk_at dksX4_inState_0 9 rfl rfl)
theorem dX4_inState_12 : decode cX4_inState 12 = .ok (.iload_n 2, 1) := dk_28 (dk_at dksX4_inState_0 12 rfl rfl)
theorem dX4_inState_13 : decode cX4_inState 13 = .ok (.aload_n 0, 1) := dk_42 (dk_at dksX4_inState_0 13 rfl rfl)
theorem dX4_inState_14 : decode cX4_inState 14 = .ok (.getfield 11, 3) := dk_180 0 11 (dk_at dksX4_inState_0 14 rfl rfl)
theorem dX4_inState_17 : decode cX4_inState 17 = .ok (.iload_n 3, 1) := dk_29 (dk_at dksX4_inState_0 17 rfl rfl)
theorem dX4_inState_18 : decode cX4_inState 18 = .ok (.aaload, 1) := dk_50 (dk_at dksX4_inState_0 18 rfl rfl)
theorem dX4_inState_19 : decode cX4_inState 19 = .ok (.getfield 95, 3) := dk_180 0 95 (dk_at dksX4_inState_0 19 rfl rfl)
theorem dX4_inState_22 : decode cX4_inState 22 = .ok (.iload_n 1, 1) := dk_27 (dk_at dksX4_inState_0 22 rfl rfl)
theorem dX4_inState_23 : decode cX4_inState 23 = .ok (.if_icmp .ne 7, 3) := dk_160 0 7 (dk_at dksX4_inState_1 0 rfl rfl)
theorem dX4_inState_26 : decode cX4_inState 26 = .ok (.iconst 1, 1) := dk_4 (dk_at dksX4_inState_1 3 rfl rfl)
theorem dX4_inState_27 : decode cX4_inState 27 = .ok (.goto 4, 3) := dk_167 0 4 (dk_at dksX4_inState_1 4 rfl rfl)
theorem dX4_inState_30 : decode cX4_inState 30 = .ok (.iconst 0, 1) := dk_3 (dk_at dksX4_inState_1 7 rfl rfl)
theorem dX4_inState_31 : decode cX4_inState 31 = .ok (.iadd, 1) := dk_96 (dk_at dksX4_inState_1 8 rfl rfl)
theorem dX4_inState_32 : decode cX4_inState 32 = .ok (.istore_n 2, 1) := dk_61 (dk_at dksX4_inState_1 9 rfl rfl)
theorem dX4_inState_33 : decode cX4_inState 33 = .ok (.iinc 3 1, 3) := dk_132 3 1 (dk_at dksX4_inState_1 10 rfl rfl)
theorem dX4_inState_36 : decode cX4_inState 36 = .ok (.goto (-32), 3) := dk_167 255 224 (dk_at dksX4_inState_1 13 rfl rfl)
theorem dX4_inState_39 : decode cX4_inState 39 = .ok (.iload_n 2, 1) := dk_28 (dk_at dksX4_inState_1 16 rfl rfl)
theorem dX4_inState_40 : decode cX4_inState 40 = .ok (.ireturn, 1) := dk_172 (dk_at dksX4_inState_1 17 rfl rfl)
abbrev cX4_load : ByteArray := prog_12_method_7_code
def yX4_load : MethodName := ⟨RX4, "load", "()I"⟩
def dkwX4_load_0 : List UInt8 := [42, 180, 0, 38, 16, 25, 42, 4, 182, 0, 96, 104, 96, 172]
abbrev dktX4_load_0 : List UInt8 := dkwX4_load_0 ++ []
theorem dksX4_load_0 : cX4_load.data.toList.drop 0 = dktX4_load_0 := by decide +kernel
theorem dX4_load_0 : decode cX4_load 0 = .ok (.aload_n 0, 1) := dk_42 (dk_at dksX4_load_0 0 rfl rfl)
theorem dX4_load_1 : decode cX4_load 1 = .ok (.getfield 38, 3) := dk_180 0 38 (dk_at dksX4_load_0 1 rfl rfl)
theorem dX4_load_4 : decode cX4_load 4 = .ok (.bipush 25, 2) := dk_16 25 (dk_at dksX4_load_0 4 rfl rfl)
theorem dX4_load_6 : decode cX4_load 6 = .ok (.aload_n 0, 1) := dk_42 (dk_at dksX4_load_0 6 rfl rfl)
theorem dX4_load_7 : decode cX4_load 7 = .ok (.iconst 1, 1) := dk_4 (dk_at dksX4_load_0 7 rfl rfl)
theorem dX4_load_8 : decode cX4_load 8 = .ok (.invokevirtual 96, 3) := dk_182 0 96 (dk_at dksX4_load_0 8 rfl rfl)
theorem dX4_load_11 : decode cX4_load 11 = .ok (.imul, 1) := dk_104 (dk_at dksX4_load_0 11 rfl rfl)
theorem dX4_load_12 : decode cX4_load 12 = .ok (.iadd, 1) := dk_96 (dk_at dksX4_load_0 12 rfl rfl)
theorem dX4_load_13 : decode cX4_load 13 = .ok (.ireturn, 1) := dk_172 (dk_at dksX4_load_0 13 rfl rfl)
abbrev cX4_go : ByteArray := prog_12_method_15_code
def yX4_go : MethodName := ⟨RX4, "go", "(LSledHouse$World;I)V"⟩
def dkwX4_go_11 : List UInt8 := [177]
abbrev dktX4_go_11 : List UInt8 := dkwX4_go_11 ++ []
def dkwX4_go_10 : List UInt8 := [42, 180, 0, 66, 43, 180, 0, 107, 42, 180, 0, 63, 46, 161, 0, 11, 42, 43, 28, 4, 96, 182, 0, 165]
abbrev dktX4_go_10 : List UInt8 := dkwX4_go_10 ++ dktX4_go_11
def dkwX4_go_9 : List UInt8 := [180, 0, 63, 46, 104, 108, 16, 20, 104, 16, 20, 21, 5, 104, 42, 182, 0, 122, 96, 108, 96, 181, 0, 66]
abbrev dktX4_go_9 : List UInt8 := dkwX4_go_9 ++ dktX4_go_10
def dkwX4_go_8 : List UInt8 := [180, 0, 66, 16, 30, 42, 182, 0, 116, 104, 21, 5, 104, 16, 100, 104, 17, 3, 232, 43, 180, 0, 156, 42]
abbrev dktX4_go_8 : List UInt8 := dkwX4_go_8 ++ dktX4_go_9
def dkwX4_go_7 : List UInt8 := [167, 255, 193, 42, 182, 0, 103, 54, 5, 21, 5, 154, 0, 9, 42, 6, 181, 0, 60, 177, 42, 89]
abbrev dktX4_go_7 : List UInt8 := dkwX4_go_7 ++ dktX4_go_8
def dkwX4_go_6 : List UInt8 := [184, 0, 159, 181, 0, 100, 25, 6, 180, 0, 100, 154, 0, 9, 25, 6, 4, 181, 0, 95, 132, 5, 1]
abbrev dktX4_go_6 : List UInt8 := dkwX4_go_6 ++ dktX4_go_7
def dkwX4_go_5 : List UInt8 := [25, 6, 180, 0, 95, 153, 0, 6, 167, 0, 34, 25, 6, 3, 25, 6, 180, 0, 100, 21, 4, 100]
abbrev dktX4_go_5 : List UInt8 := dkwX4_go_5 ++ dktX4_go_6
def dkwX4_go_4 : List UInt8 := [96, 54, 4, 3, 54, 5, 21, 5, 42, 180, 0, 34, 162, 0, 60, 42, 180, 0, 11, 21, 5, 50, 58, 6]
abbrev dktX4_go_4 : List UInt8 := dkwX4_go_4 ++ dktX4_go_5
def dkwX4_go_3 : List UInt8 := [180, 0, 63, 46, 16, 25, 108, 96, 29, 16, 246, 164, 0, 12, 29, 16, 10, 96, 6, 108, 167, 0, 4, 3]
abbrev dktX4_go_3 : List UInt8 := dkwX4_go_3 ++ dktX4_go_4
def dkwX4_go_2 : List UInt8 := [180, 0, 119, 28, 16, 6, 108, 46, 62, 16, 6, 42, 182, 0, 122, 16, 40, 108, 96, 43, 180, 0, 156, 42]
abbrev dktX4_go_2 : List UInt8 := dkwX4_go_2 ++ dktX4_go_3
def dkwX4_go_1 : List UInt8 := [42, 180, 0, 63, 28, 79, 42, 89, 180, 0, 72, 4, 96, 181, 0, 72, 42, 3, 181, 0, 75, 43]
abbrev dktX4_go_1 : List UInt8 := dkwX4_go_1 ++ dktX4_go_2
def dkwX4_go_0 : List UInt8 := [42, 180, 0, 66, 154, 0, 26, 42, 180, 0, 21, 42, 180, 0, 63, 46, 2, 160, 0, 13, 42, 180, 0, 21]
abbrev dktX4_go_0 : List UInt8 := dkwX4_go_0 ++ dktX4_go_1
theorem dksX4_go_0 : cX4_go.data.toList.drop 0 = dktX4_go_0 := by decide +kernel
theorem dksX4_go_1 : cX4_go.data.toList.drop 24 = dktX4_go_1 := dk_seg dksX4_go_0 24 rfl rfl
theorem dksX4_go_2 : cX4_go.data.toList.drop 46 = dktX4_go_2 := dk_seg dksX4_go_1 22 rfl rfl
theorem dksX4_go_3 : cX4_go.data.toList.drop 70 = dktX4_go_3 := dk_seg dksX4_go_2 24 rfl rfl
theorem dksX4_go_4 : cX4_go.data.toList.drop 94 = dktX4_go_4 := dk_seg dksX4_go_3 24 rfl rfl
theorem dksX4_go_5 : cX4_go.data.toList.drop 118 = dktX4_go_5 := dk_seg dksX4_go_4 24 rfl rfl
theorem dksX4_go_6 : cX4_go.data.toList.drop 140 = dktX4_go_6 := dk_seg dksX4_go_5 22 rfl rfl
theorem dksX4_go_7 : cX4_go.data.toList.drop 163 = dktX4_go_7 := dk_seg dksX4_go_6 23 rfl rfl
theorem dksX4_go_8 : cX4_go.data.toList.drop 185 = dktX4_go_8 := dk_seg dksX4_go_7 22 rfl rfl
theorem dksX4_go_9 : cX4_go.data.toList.drop 209 = dktX4_go_9 := dk_seg dksX4_go_8 24 rfl rfl
theorem dksX4_go_10 : cX4_go.data.toList.drop 233 = dktX4_go_10 := dk_seg dksX4_go_9 24 rfl rfl
theorem dksX4_go_11 : cX4_go.data.toList.drop 257 = dktX4_go_11 := dk_seg dksX4_go_10 24 rfl rfl
theorem dX4_go_0 : decode cX4_go 0 = .ok (.aload_n 0, 1) := dk_42 (dk_at dksX4_go_0 0 rfl rfl)
theorem dX4_go_1 : decode cX4_go 1 = .ok (.getfield 66, 3) := dk_180 0 66 (dk_at dksX4_go_0 1 rfl rfl)
theorem dX4_go_4 : decode cX4_go 4 = .ok (.ifCond .ne 26, 3) := dk_154 0 26 (dk_at dksX4_go_0 4 rfl rfl)
theorem dX4_go_7 : decode cX4_go 7 = .ok (.aload_n 0, 1) := dk_42 (dk_at dksX4_go_0 7 rfl rfl)
theorem dX4_go_8 : decode cX4_go 8 = .ok (.getfield 21, 3) := dk_180 0 21 (dk_at dksX4_go_0 8 rfl rfl)
theorem dX4_go_11 : decode cX4_go 11 = .ok (.aload_n 0, 1) := dk_42 (dk_at dksX4_go_0 11 rfl rfl)
theorem dX4_go_12 : decode cX4_go 12 = .ok (.getfield 63, 3) := dk_180 0 63 (dk_at dksX4_go_0 12 rfl rfl)
theorem dX4_go_15 : decode cX4_go 15 = .ok (.iaload, 1) := dk_46 (dk_at dksX4_go_0 15 rfl rfl)
theorem dX4_go_16 : decode cX4_go 16 = .ok (.iconst (-1), 1) := dk_2 (dk_at dksX4_go_0 16 rfl rfl)
theorem dX4_go_17 : decode cX4_go 17 = .ok (.if_icmp .ne 13, 3) := dk_160 0 13 (dk_at dksX4_go_0 17 rfl rfl)
theorem dX4_go_20 : decode cX4_go 20 = .ok (.aload_n 0, 1) := dk_42 (dk_at dksX4_go_0 20 rfl rfl)
theorem dX4_go_21 : decode cX4_go 21 = .ok (.getfield 21, 3) := dk_180 0 21 (dk_at dksX4_go_0 21 rfl rfl)
theorem dX4_go_24 : decode cX4_go 24 = .ok (.aload_n 0, 1) := dk_42 (dk_at dksX4_go_1 0 rfl rfl)
theorem dX4_go_25 : decode cX4_go 25 = .ok (.getfield 63, 3) := dk_180 0 63 (dk_at dksX4_go_1 1 rfl rfl)
theorem dX4_go_28 : decode cX4_go 28 = .ok (.iload_n 2, 1) := dk_28 (dk_at dksX4_go_1 4 rfl rfl)
theorem dX4_go_29 : decode cX4_go 29 = .ok (.iastore, 1) := dk_79 (dk_at dksX4_go_1 5 rfl rfl)
theorem dX4_go_30 : decode cX4_go 30 = .ok (.aload_n 0, 1) := dk_42 (dk_at dksX4_go_1 6 rfl rfl)
theorem dX4_go_31 : decode cX4_go 31 = .ok (.dup, 1) := dk_89 (dk_at dksX4_go_1 7 rfl rfl)
theorem dX4_go_32 : decode cX4_go 32 = .ok (.getfield 72, 3) := dk_180 0 72 (dk_at dksX4_go_1 8 rfl rfl)
theorem dX4_go_35 : decode cX4_go 35 = .ok (.iconst 1, 1) := dk_4 (dk_at dksX4_go_1 11 rfl rfl)
theorem dX4_go_36 : decode cX4_go 36 = .ok (.iadd, 1) := dk_96 (dk_at dksX4_go_1 12 rfl rfl)
theorem dX4_go_37 : decode cX4_go 37 = .ok (.putfield 72, 3) := dk_181 0 72 (dk_at dksX4_go_1 13 rfl rfl)
theorem dX4_go_40 : decode cX4_go 40 = .ok (.aload_n 0, 1) := dk_42 (dk_at dksX4_go_1 16 rfl rfl)
theorem dX4_go_41 : decode cX4_go 41 = .ok (.iconst 0, 1) := dk_3 (dk_at dksX4_go_1 17 rfl rfl)
theorem dX4_go_42 : decode cX4_go 42 = .ok (.putfield 75, 3) := dk_181 0 75 (dk_at dksX4_go_1 18 rfl rfl)
theorem dX4_go_45 : decode cX4_go 45 = .ok (.aload_n 1, 1) := dk_43 (dk_at dksX4_go_1 21 rfl rfl)
theorem dX4_go_46 : decode cX4_go 46 = .ok (.getfield 119, 3) := dk_180 0 119 (dk_at dksX4_go_2 0 rfl rfl)
theorem dX4_go_49 : decode cX4_go 49 = .ok (.iload_n 2, 1) := dk_28 (dk_at dksX4_go_2 3 rfl rfl)
theorem dX4_go_50 : decode cX4_go 50 = .ok (.bipush 6, 2) := dk_16 6 (dk_at dksX4_go_2 4 rfl rfl)
theorem dX4_go_52 : decode cX4_go 52 = .ok (.idiv, 1) := dk_108 (dk_at dksX4_go_2 6 rfl rfl)
theorem dX4_go_53 : decode cX4_go 53 = .ok (.iaload, 1) := dk_46 (dk_at dksX4_go_2 7 rfl rfl)
theorem dX4_go_54 : decode cX4_go 54 = .ok (.istore_n 3, 1) := dk_62 (dk_at dksX4_go_2 8 rfl rfl)
theorem dX4_go_55 : decode cX4_go 55 = .ok (.bipush 6, 2) := dk_16 6 (dk_at dksX4_go_2 9 rfl rfl)
theorem dX4_go_57 : decode cX4_go 57 = .ok (.aload_n 0, 1) := dk_42 (dk_at dksX4_go_2 11 rfl rfl)
theorem dX4_go_58 : decode cX4_go 58 = .ok (.invokevirtual 122, 3) := dk_182 0 122 (dk_at dksX4_go_2 12 rfl rfl)
theorem dX4_go_61 : decode cX4_go 61 = .ok (.bipush 40, 2) := dk_16 40 (dk_at dksX4_go_2 15 rfl rfl)
theorem dX4_go_63 : decode cX4_go 63 = .ok (.idiv, 1) := dk_108 (dk_at dksX4_go_2 17 rfl rfl)
theorem dX4_go_64 : decode cX4_go 64 = .ok (.iadd, 1) := dk_96 (dk_at dksX4_go_2 18 rfl rfl)
theorem dX4_go_65 : decode cX4_go 65 = .ok (.aload_n 1, 1) := dk_43 (dk_at dksX4_go_2 19 rfl rfl)
theorem dX4_go_66 : decode cX4_go 66 = .ok (.getfield 156, 3) := dk_180 0 156 (dk_at dksX4_go_2 20 rfl rfl)
theorem dX4_go_69 : decode cX4_go 69 = .ok (.aload_n 0, 1) := dk_42 (dk_at dksX4_go_2 23 rfl rfl)
theorem dX4_go_70 : decode cX4_go 70 = .ok (.getfield 63, 3) := dk_180 0 63 (dk_at dksX4_go_3 0 rfl rfl)
theorem dX4_go_73 : decode cX4_go 73 = .ok (.iaload, 1) := dk_46 (dk_at dksX4_go_3 3 rfl rfl)
theorem dX4_go_74 : decode cX4_go 74 = .ok (.bipush 25, 2) := dk_16 25 (dk_at dksX4_go_3 4 rfl rfl)
theorem dX4_go_76 : decode cX4_go 76 = .ok (.idiv, 1) := dk_108 (dk_at dksX4_go_3 6 rfl rfl)
theorem dX4_go_77 : decode cX4_go 77 = .ok (.iadd, 1) := dk_96 (dk_at dksX4_go_3 7 rfl rfl)
theorem dX4_go_78 : decode cX4_go 78 = .ok (.iload_n 3, 1) := dk_29 (dk_at dksX4_go_3 8 rfl rfl)
theorem dX4_go_79 : decode cX4_go 79 = .ok (.bipush (-10), 2) := dk_16 246 (dk_at dksX4_go_3 9 rfl rfl)
theorem dX4_go_81 : decode cX4_go 81 = .ok (.if_icmp .le 12, 3) := dk_164 0 12 (dk_at dksX4_go_3 11 rfl rfl)
theorem dX4_go_84 : decode cX4_go 84 = .ok (.iload_n 3, 1) := dk_29 (dk_at dksX4_go_3 14 rfl rfl)
theorem dX4_go_85 : decode cX4_go 85 = .ok (.bipush 10, 2) := dk_16 10 (dk_at dksX4_go_3 15 rfl rfl)
theorem dX4_go_87 : decode cX4_go 87 = .ok (.iadd, 1) := dk_96 (dk_at dksX4_go_3 17 rfl rfl)
theorem dX4_go_88 : decode cX4_go 88 = .ok (.iconst 3, 1) := dk_6 (dk_at dksX4_go_3 18 rfl rfl)
theorem dX4_go_89 : decode cX4_go 89 = .ok (.idiv, 1) := dk_108 (dk_at dksX4_go_3 19 rfl rfl)
theorem dX4_go_90 : decode cX4_go 90 = .ok (.goto 4, 3) := dk_167 0 4 (dk_at dksX4_go_3 20 rfl rfl)
theorem dX4_go_93 : decode cX4_go 93 = .ok (.iconst 0, 1) := dk_3 (dk_at dksX4_go_3 23 rfl rfl)
theorem dX4_go_94 : decode cX4_go 94 = .ok (.iadd, 1) := dk_96 (dk_at dksX4_go_4 0 rfl rfl)
theorem dX4_go_95 : decode cX4_go 95 = .ok (.istore 4, 2) := dk_54 4 (dk_at dksX4_go_4 1 rfl rfl)
theorem dX4_go_97 : decode cX4_go 97 = .ok (.iconst 0, 1) := dk_3 (dk_at dksX4_go_4 3 rfl rfl)
theorem dX4_go_98 : decode cX4_go 98 = .ok (.istore 5, 2) := dk_54 5 (dk_at dksX4_go_4 4 rfl rfl)
theorem dX4_go_100 : decode cX4_go 100 = .ok (.iload 5, 2) := dk_21 5 (dk_at dksX4_go_4 6 rfl rfl)
theorem dX4_go_102 : decode cX4_go 102 = .ok (.aload_n 0, 1) := dk_42 (dk_at dksX4_go_4 8 rfl rfl)
theorem dX4_go_103 : decode cX4_go 103 = .ok (.getfield 34, 3) := dk_180 0 34 (dk_at dksX4_go_4 9 rfl rfl)
theorem dX4_go_106 : decode cX4_go 106 = .ok (.if_icmp .ge 60, 3) := dk_162 0 60 (dk_at dksX4_go_4 12 rfl rfl)
theorem dX4_go_109 : decode cX4_go 109 = .ok (.aload_n 0, 1) := dk_42 (dk_at dksX4_go_4 15 rfl rfl)
theorem dX4_go_110 : decode cX4_go 110 = .ok (.getfield 11, 3) := dk_180 0 11 (dk_at dksX4_go_4 16 rfl rfl)
theorem dX4_go_113 : decode cX4_go 113 = .ok (.iload 5, 2) := dk_21 5 (dk_at dksX4_go_4 19 rfl rfl)
theorem dX4_go_115 : decode cX4_go 115 = .ok (.aaload, 1) := dk_50 (dk_at dksX4_go_4 21 rfl rfl)
theorem dX4_go_116 : decode cX4_go 116 = .ok (.astore 6, 2) := dk_58 6 (dk_at dksX4_go_4 22 rfl rfl)
theorem dX4_go_118 : decode cX4_go 118 = .ok (.aload 6, 2) := dk_25 6 (dk_at dksX4_go_5 0 rfl rfl)
theorem dX4_go_120 : decode cX4_go 120 = .ok (.getfield 95, 3) := dk_180 0 95 (dk_at dksX4_go_5 2 rfl rfl)
theorem dX4_go_123 : decode cX4_go 123 = .ok (.ifCond .eq 6, 3) := dk_153 0 6 (dk_at dksX4_go_5 5 rfl rfl)
theorem dX4_go_126 : decode cX4_go 126 = .ok (.goto 34, 3) := dk_167 0 34 (dk_at dksX4_go_5 8 rfl rfl)
theorem dX4_go_129 : decode cX4_go 129 = .ok (.aload 6, 2) := dk_25 6 (dk_at dksX4_go_5 11 rfl rfl)
theorem dX4_go_131 : decode cX4_go 131 = .ok (.iconst 0, 1) := dk_3 (dk_at dksX4_go_5 13 rfl rfl)
theorem dX4_go_132 : decode cX4_go 132 = .ok (.aload 6, 2) := dk_25 6 (dk_at dksX4_go_5 14 rfl rfl)
theorem dX4_go_134 : decode cX4_go 134 = .ok (.getfield 100, 3) := dk_180 0 100 (dk_at dksX4_go_5 16 rfl rfl)
theorem dX4_go_137 : decode cX4_go 137 = .ok (.iload 4, 2) := dk_21 4 (dk_at dksX4_go_5 19 rfl rfl)
theorem dX4_go_139 : decode cX4_go 139 = .ok (.isub, 1) := dk_100 (dk_at dksX4_go_5 21 rfl rfl)
theorem dX4_go_140 : decode cX4_go 140 = .ok (.invokestatic 159, 3) := dk_184 0 159 (dk_at dksX4_go_6 0 rfl rfl)
theorem dX4_go_143 : decode cX4_go 143 = .ok (.putfield 100, 3) := dk_181 0 100 (dk_at dksX4_go_6 3 rfl rfl)
theorem dX4_go_146 : decode cX4_go 146 = .ok (.aload 6, 2) := dk_25 6 (dk_at dksX4_go_6 6 rfl rfl)
theorem dX4_go_148 : decode cX4_go 148 = .ok (.getfield 100, 3) := dk_180 0 100 (dk_at dksX4_go_6 8 rfl rfl)
theorem dX4_go_151 : decode cX4_go 151 = .ok (.ifCond .ne 9, 3) := dk_154 0 9 (dk_at dksX4_go_6 11 rfl rfl)
theorem dX4_go_154 : decode cX4_go 154 = .ok (.aload 6, 2) := dk_25 6 (dk_at dksX4_go_6 14 rfl rfl)
theorem dX4_go_156 : decode cX4_go 156 = .ok (.iconst 1, 1) := dk_4 (dk_at dksX4_go_6 16 rfl rfl)
theorem dX4_go_157 : decode cX4_go 157 = .ok (.putfield 95, 3) := dk_181 0 95 (dk_at dksX4_go_6 17 rfl rfl)
theorem dX4_go_160 : decode cX4_go 160 = .ok (.iinc 5 1, 3) := dk_132 5 1 (dk_at dksX4_go_6 20 rfl rfl)
theorem dX4_go_163 : decode cX4_go 163 = .ok (.goto (-63), 3) := dk_167 255 193 (dk_at dksX4_go_7 0 rfl rfl)
theorem dX4_go_166 : decode cX4_go 166 = .ok (.aload_n 0, 1) := dk_42 (dk_at dksX4_go_7 3 rfl rfl)
theorem dX4_go_167 : decode cX4_go 167 = .ok (.invokevirtual 103, 3) := dk_182 0 103 (dk_at dksX4_go_7 4 rfl rfl)
theorem dX4_go_170 : decode cX4_go 170 = .ok (.istore 5, 2) := dk_54 5 (dk_at dksX4_go_7 7 rfl rfl)
theorem dX4_go_172 : decode cX4_go 172 = .ok (.iload 5, 2) := dk_21 5 (dk_at dksX4_go_7 9 rfl rfl)
theorem dX4_go_174 : decode cX4_go 174 = .ok (.ifCond .ne 9, 3) := dk_154 0 9 (dk_at dksX4_go_7 11 rfl rfl)
theorem dX4_go_177 : decode cX4_go 177 = .ok (.aload_n 0, 1) := dk_42 (dk_at dksX4_go_7 14 rfl rfl)
theorem dX4_go_178 : decode cX4_go 178 = .ok (.iconst 3, 1) := dk_6 (dk_at dksX4_go_7 15 rfl rfl)
theorem dX4_go_179 : decode cX4_go 179 = .ok (.putfield 60, 3) := dk_181 0 60 (dk_at dksX4_go_7 16 rfl rfl)
theorem dX4_go_182 : decode cX4_go 182 = .ok (.return_, 1) := dk_177 (dk_at dksX4_go_7 19 rfl rfl)
theorem dX4_go_183 : decode cX4_go 183 = .ok (.aload_n 0, 1) := dk_42 (dk_at dksX4_go_7 20 rfl rfl)
theorem dX4_go_184 : decode cX4_go 184 = .ok (.dup, 1) := dk_89 (dk_at dksX4_go_7 21 rfl rfl)
theorem dX4_go_185 : decode cX4_go 185 = .ok (.getfield 66, 3) := dk_180 0 66 (dk_at dksX4_go_8 0 rfl rfl)
theorem dX4_go_188 : decode cX4_go 188 = .ok (.bipush 30, 2) := dk_16 30 (dk_at dksX4_go_8 3 rfl rfl)
theorem dX4_go_190 : decode cX4_go 190 = .ok (.aload_n 0, 1) := dk_42 (dk_at dksX4_go_8 5 rfl rfl)
theorem dX4_go_191 : decode cX4_go 191 = .ok (.invokevirtual 116, 3) := dk_182 0 116 (dk_at dksX4_go_8 6 rfl rfl)
theorem dX4_go_194 : decode cX4_go 194 = .ok (.imul, 1) := dk_104 (dk_at dksX4_go_8 9 rfl rfl)
theorem dX4_go_195 : decode cX4_go 195 = .ok (.iload 5, 2) := dk_21 5 (dk_at dksX4_go_8 10 rfl rfl)
theorem dX4_go_197 : decode cX4_go 197 = .ok (.imul, 1) := dk_104 (dk_at dksX4_go_8 12 rfl rfl)
theorem dX4_go_198 : decode cX4_go 198 = .ok (.bipush 100, 2) := dk_16 100 (dk_at dksX4_go_8 13 rfl rfl)
theorem dX4_go_200 : decode cX4_go 200 = .ok (.imul, 1) := dk_104 (dk_at dksX4_go_8 15 rfl rfl)
theorem dX4_go_201 : decode cX4_go 201 = .ok (.sipush 1000, 3) := dk_17 3 232 (dk_at dksX4_go_8 16 rfl rfl)
theorem dX4_go_204 : decode cX4_go 204 = .ok (.aload_n 1, 1) := dk_43 (dk_at dksX4_go_8 19 rfl rfl)
theorem dX4_go_205 : decode cX4_go 205 = .ok (.getfield 156, 3) := dk_180 0 156 (dk_at dksX4_go_8 20 rfl rfl)
theorem dX4_go_208 : decode cX4_go 208 = .ok (.aload_n 0, 1) := dk_42 (dk_at dksX4_go_8 23 rfl rfl)
theorem dX4_go_209 : decode cX4_go 209 = .ok (.getfield 63, 3) := dk_180 0 63 (dk_at dksX4_go_9 0 rfl rfl)
theorem dX4_go_212 : decode cX4_go 212 = .ok (.iaload, 1) := dk_46 (dk_at dksX4_go_9 3 rfl rfl)
theorem dX4_go_213 : decode cX4_go 213 = .ok (.imul, 1) := dk_104 (dk_at dksX4_go_9 4 rfl rfl)
theorem dX4_go_214 : decode cX4_go 214 = .ok (.idiv, 1) := dk_108 (dk_at dksX4_go_9 5 rfl rfl)
theorem dX4_go_215 : decode cX4_go 215 = .ok (.bipush 20, 2) := dk_16 20 (dk_at dksX4_go_9 6 rfl rfl)
theorem dX4_go_217 : decode cX4_go 217 = .ok (.imul, 1) := dk_104 (dk_at dksX4_go_9 8 rfl rfl)
theorem dX4_go_218 : decode cX4_go 218 = .ok (.bipush 20, 2) := dk_16 20 (dk_at dksX4_go_9 9 rfl rfl)
theorem dX4_go_220 : decode cX4_go 220 = .ok (.iload 5, 2) := dk_21 5 (dk_at dksX4_go_9 11 rfl rfl)
theorem dX4_go_222 : decode cX4_go 222 = .ok (.imul, 1) := dk_104 (dk_at dksX4_go_9 13 rfl rfl)
theorem dX4_go_223 : decode cX4_go 223 = .ok (.aload_n 0, 1) := dk_42 (dk_at dksX4_go_9 14 rfl rfl)
theorem dX4_go_224 : decode cX4_go 224 = .ok (.invokevirtual 122, 3) := dk_182 0 122 (dk_at dksX4_go_9 15 rfl rfl)
theorem dX4_go_227 : decode cX4_go 227 = .ok (.iadd, 1) := dk_96 (dk_at dksX4_go_9 18 rfl rfl)
theorem dX4_go_228 : decode cX4_go 228 = .ok (.idiv, 1) := dk_108 (dk_at dksX4_go_9 19 rfl rfl)
theorem dX4_go_229 : decode cX4_go 229 = .ok (.iadd, 1) := dk_96 (dk_at dksX4_go_9 20 rfl rfl)
theorem dX4_go_230 : decode cX4_go 230 = .ok (.putfield 66, 3) := dk_181 0 66 (dk_at dksX4_go_9 21 rfl rfl)
theorem dX4_go_233 : decode cX4_go 233 = .ok (.aload_n 0, 1) := dk_42 (dk_at dksX4_go_10 0 rfl rfl)
theorem dX4_go_234 : decode cX4_go 234 = .ok (.getfield 66, 3) := dk_180 0 66 (dk_at dksX4_go_10 1 rfl rfl)
theorem dX4_go_237 : decode cX4_go 237 = .ok (.aload_n 1, 1) := dk_43 (dk_at dksX4_go_10 4 rfl rfl)
theorem dX4_go_238 : decode cX4_go 238 = .ok (.getfield 107, 3) := dk_180 0 107 (dk_at dksX4_go_10 5 rfl rfl)
theorem dX4_go_241 : decode cX4_go 241 = .ok (.aload_n 0, 1) := dk_42 (dk_at dksX4_go_10 8 rfl rfl)
theorem dX4_go_242 : decode cX4_go 242 = .ok (.getfield 63, 3) := dk_180 0 63 (dk_at dksX4_go_10 9 rfl rfl)
theorem dX4_go_245 : decode cX4_go 245 = .ok (.iaload, 1) := dk_46 (dk_at dksX4_go_10 12 rfl rfl)
theorem dX4_go_246 : decode cX4_go 246 = .ok (.if_icmp .lt 11, 3) := dk_161 0 11 (dk_at dksX4_go_10 13 rfl rfl)
theorem dX4_go_249 : decode cX4_go 249 = .ok (.aload_n 0, 1) := dk_42 (dk_at dksX4_go_10 16 rfl rfl)
theorem dX4_go_250 : decode cX4_go 250 = .ok (.aload_n 1, 1) := dk_43 (dk_at dksX4_go_10 17 rfl rfl)
theorem dX4_go_251 : decode cX4_go 251 = .ok (.iload_n 2, 1) := dk_28 (dk_at dksX4_go_10 18 rfl rfl)
theorem dX4_go_252 : decode cX4_go 252 = .ok (.iconst 1, 1) := dk_4 (dk_at dksX4_go_10 19 rfl rfl)
theorem dX4_go_253 : decode cX4_go 253 = .ok (.iadd, 1) := dk_96 (dk_at dksX4_go_10 20 rfl rfl)
theorem dX4_go_254 : decode cX4_go 254 = .ok (.invokevirtual 165, 3) := dk_182 0 165 (dk_at dksX4_go_10 21 rfl rfl)
theorem dX4_go_257 : decode cX4_go 257 = .ok (.return_, 1) := dk_177 (dk_at dksX4_go_11 0 rfl rfl)
abbrev cX4_comes : ByteArray := prog_12_method_16_code
def yX4_comes : MethodName := ⟨RX4, "comes", "(LSledHouse$World;I)V"⟩
def dkwX4_comes_3 : List UInt8 := [180, 0, 168, 160, 0, 8, 42, 5, 181, 0, 60, 177]
abbrev dktX4_comes_3 : List UInt8 := dkwX4_comes_3 ++ []
def dkwX4_comes_2 : List UInt8 := [42, 180, 0, 11, 29, 50, 42, 180, 0, 63, 182, 0, 152, 132, 3, 1, 167, 255, 219, 42, 180, 0, 63, 43]
abbrev dktX4_comes_2 : List UInt8 := dkwX4_comes_2 ++ dktX4_comes_3
def dkwX4_comes_1 : List UInt8 := [79, 3, 62, 29, 42, 180, 0, 34, 162, 0, 35, 42, 180, 0, 11, 29, 50, 180, 0, 95, 4, 160, 0, 16]
abbrev dktX4_comes_1 : List UInt8 := dkwX4_comes_1 ++ dktX4_comes_2
def dkwX4_comes_0 : List UInt8 := [42, 89, 180, 0, 63, 4, 96, 181, 0, 63, 42, 3, 181, 0, 66, 42, 180, 0, 17, 42, 180, 0, 63, 28]
abbrev dktX4_comes_0 : List UInt8 := dkwX4_comes_0 ++ dktX4_comes_1
theorem dksX4_comes_0 : cX4_comes.data.toList.drop 0 = dktX4_comes_0 := by decide +kernel
theorem dksX4_comes_1 : cX4_comes.data.toList.drop 24 = dktX4_comes_1 := dk_seg dksX4_comes_0 24 rfl rfl
theorem dksX4_comes_2 : cX4_comes.data.toList.drop 48 = dktX4_comes_2 := dk_seg dksX4_comes_1 24 rfl rfl
theorem dksX4_comes_3 : cX4_comes.data.toList.drop 72 = dktX4_comes_3 := dk_seg dksX4_comes_2 24 rfl rfl
theorem dX4_comes_0 : decode cX4_comes 0 = .ok (.aload_n 0, 1) := dk_42 (dk_at dksX4_comes_0 0 rfl rfl)
theorem dX4_comes_1 : decode cX4_comes 1 = .ok (.dup, 1) := dk_89 (dk_at dksX4_comes_0 1 rfl rfl)
theorem dX4_comes_2 : decode cX4_comes 2 = .ok (.getfield 63, 3) := dk_180 0 63 (dk_at dksX4_comes_0 2 rfl rfl)
theorem dX4_comes_5 : decode cX4_comes 5 = .ok (.iconst 1, 1) := dk_4 (dk_at dksX4_comes_0 5 rfl rfl)
theorem dX4_comes_6 : decode cX4_comes 6 = .ok (.iadd, 1) := dk_96 (dk_at dksX4_comes_0 6 rfl rfl)
theorem dX4_comes_7 : decode cX4_comes 7 = .ok (.putfield 63, 3) := dk_181 0 63 (dk_at dksX4_comes_0 7 rfl rfl)
theorem dX4_comes_10 : decode cX4_comes 10 = .ok (.aload_n 0, 1) := dk_42 (dk_at dksX4_comes_0 10 rfl rfl)
theorem dX4_comes_11 : decode cX4_comes 11 = .ok (.iconst 0, 1) := dk_3 (dk_at dksX4_comes_0 11 rfl rfl)
theorem dX4_comes_12 : decode cX4_comes 12 = .ok (.putfield 66, 3) := dk_181 0 66 (dk_at dksX4_comes_0 12 rfl rfl)
theorem dX4_comes_15 : decode cX4_comes 15 = .ok (.aload_n 0, 1) := dk_42 (dk_at dksX4_comes_0 15 rfl rfl)
theorem dX4_comes_16 : decode cX4_comes 16 = .ok (.getfield 17, 3) := dk_180 0 17 (dk_at dksX4_comes_0 16 rfl rfl)
theorem dX4_comes_19 : decode cX4_comes 19 = .ok (.aload_n 0, 1) := dk_42 (dk_at dksX4_comes_0 19 rfl rfl)
theorem dX4_comes_20 : decode cX4_comes 20 = .ok (.getfield 63, 3) := dk_180 0 63 (dk_at dksX4_comes_0 20 rfl rfl)
theorem dX4_comes_23 : decode cX4_comes 23 = .ok (.iload_n 2, 1) := dk_28 (dk_at dksX4_comes_0 23 rfl rfl)
theorem dX4_comes_24 : decode cX4_comes 24 = .ok (.iastore, 1) := dk_79 (dk_at dksX4_comes_1 0 rfl rfl)
theorem dX4_comes_25 : decode cX4_comes 25 = .ok (.iconst 0, 1) := dk_3 (dk_at dksX4_comes_1 1 rfl rfl)
theorem dX4_comes_26 : decode cX4_comes 26 = .ok (.istore_n 3, 1) := dk_62 (dk_at dksX4_comes_1 2 rfl rfl)
theorem dX4_comes_27 : decode cX4_comes 27 = .ok (.iload_n 3, 1) := dk_29 (dk_at dksX4_comes_1 3 rfl rfl)
theorem dX4_comes_28 : decode cX4_comes 28 = .ok (.aload_n 0, 1) := dk_42 (dk_at dksX4_comes_1 4 rfl rfl)
theorem dX4_comes_29 : decode cX4_comes 29 = .ok (.getfield 34, 3) := dk_180 0 34 (dk_at dksX4_comes_1 5 rfl rfl)
theorem dX4_comes_32 : decode cX4_comes 32 = .ok (.if_icmp .ge 35, 3) := dk_162 0 35 (dk_at dksX4_comes_1 8 rfl rfl)
theorem dX4_comes_35 : decode cX4_comes 35 = .ok (.aload_n 0, 1) := dk_42 (dk_at dksX4_comes_1 11 rfl rfl)
theorem dX4_comes_36 : decode cX4_comes 36 = .ok (.getfield 11, 3) := dk_180 0 11 (dk_at dksX4_comes_1 12 rfl rfl)
theorem dX4_comes_39 : decode cX4_comes 39 = .ok (.iload_n 3, 1) := dk_29 (dk_at dksX4_comes_1 15 rfl rfl)
theorem dX4_comes_40 : decode cX4_comes 40 = .ok (.aaload, 1) := dk_50 (dk_at dksX4_comes_1 16 rfl rfl)
theorem dX4_comes_41 : decode cX4_comes 41 = .ok (.getfield 95, 3) := dk_180 0 95 (dk_at dksX4_comes_1 17 rfl rfl)
theorem dX4_comes_44 : decode cX4_comes 44 = .ok (.iconst 1, 1) := dk_4 (dk_at dksX4_comes_1 20 rfl rfl)
theorem dX4_comes_45 : decode cX4_comes 45 = .ok (.if_icmp .ne 16, 3) := dk_160 0 16 (dk_at dksX4_comes_1 21 rfl rfl)
theorem dX4_comes_48 : decode cX4_comes 48 = .ok (.aload_n 0, 1) := dk_42 (dk_at dksX4_comes_2 0 rfl rfl)
theorem dX4_comes_49 : decode cX4_comes 49 = .ok (.getfield 11, 3) := dk_180 0 11 (dk_at dksX4_comes_2 1 rfl rfl)
theorem dX4_comes_52 : decode cX4_comes 52 = .ok (.iload_n 3, 1) := dk_29 (dk_at dksX4_comes_2 4 rfl rfl)
theorem dX4_comes_53 : decode cX4_comes 53 = .ok (.aaload, 1) := dk_50 (dk_at dksX4_comes_2 5 rfl rfl)
theorem dX4_comes_54 : decode cX4_comes 54 = .ok (.aload_n 0, 1) := dk_42 (dk_at dksX4_comes_2 6 rfl rfl)
theorem dX4_comes_55 : decode cX4_comes 55 = .ok (.getfield 63, 3) := dk_180 0 63 (dk_at dksX4_comes_2 7 rfl rfl)
theorem dX4_comes_58 : decode cX4_comes 58 = .ok (.invokevirtual 152, 3) := dk_182 0 152 (dk_at dksX4_comes_2 10 rfl rfl)
theorem dX4_comes_61 : decode cX4_comes 61 = .ok (.iinc 3 1, 3) := dk_132 3 1 (dk_at dksX4_comes_2 13 rfl rfl)
theorem dX4_comes_64 : decode cX4_comes 64 = .ok (.goto (-37), 3) := dk_167 255 219 (dk_at dksX4_comes_2 16 rfl rfl)
theorem dX4_comes_67 : decode cX4_comes 67 = .ok (.aload_n 0, 1) := dk_42 (dk_at dksX4_comes_2 19 rfl rfl)
theorem dX4_comes_68 : decode cX4_comes 68 = .ok (.getfield 63, 3) := dk_180 0 63 (dk_at dksX4_comes_2 20 rfl rfl)
theorem dX4_comes_71 : decode cX4_comes 71 = .ok (.aload_n 1, 1) := dk_43 (dk_at dksX4_comes_2 23 rfl rfl)
theorem dX4_comes_72 : decode cX4_comes 72 = .ok (.getfield 168, 3) := dk_180 0 168 (dk_at dksX4_comes_3 0 rfl rfl)
theorem dX4_comes_75 : decode cX4_comes 75 = .ok (.if_icmp .ne 8, 3) := dk_160 0 8 (dk_at dksX4_comes_3 3 rfl rfl)
theorem dX4_comes_78 : decode cX4_comes 78 = .ok (.aload_n 0, 1) := dk_42 (dk_at dksX4_comes_3 6 rfl rfl)
theorem dX4_comes_79 : decode cX4_comes 79 = .ok (.iconst 2, 1) := dk_5 (dk_at dksX4_comes_3 7 rfl rfl)
theorem dX4_comes_80 : decode cX4_comes 80 = .ok (.putfield 60, 3) := dk_181 0 60 (dk_at dksX4_comes_3 8 rfl rfl)
theorem dX4_comes_83 : decode cX4_comes 83 = .ok (.return_, 1) := dk_177 (dk_at dksX4_comes_3 11 rfl rfl)
abbrev cX4_rests : ByteArray := prog_12_method_13_code
def yX4_rests : MethodName := ⟨RX4, "rests", "(ILSledHouse$World;I)V"⟩
def dkwX4_rests_4 : List UInt8 := [167, 0, 5, 16, 15, 182, 0, 148, 42, 89, 180, 0, 75, 4, 96, 181, 0, 75, 42, 3, 181, 0, 72, 177]
abbrev dktX4_rests_4 : List UInt8 := dkwX4_rests_4 ++ []
def dkwX4_rests_3 : List UInt8 := [54, 4, 42, 21, 4, 16, 226, 162, 0, 8, 16, 10, 167, 0, 17, 21, 4, 16, 251, 164, 0, 8, 16, 12]
abbrev dktX4_rests_3 : List UInt8 := dkwX4_rests_3 ++ dktX4_rests_4
def dkwX4_rests_2 : List UInt8 := [164, 0, 14, 42, 182, 0, 112, 42, 180, 0, 63, 182, 0, 152, 44, 180, 0, 119, 29, 16, 6, 108, 46]
abbrev dktX4_rests_2 : List UInt8 := dkwX4_rests_2 ++ dktX4_rests_3
def dkwX4_rests_1 : List UInt8 := [16, 120, 182, 0, 148, 27, 6, 160, 0, 29, 42, 180, 0, 66, 154, 0, 22, 42, 182, 0, 103, 4]
abbrev dktX4_rests_1 : List UInt8 := dkwX4_rests_1 ++ dktX4_rests_2
def dkwX4_rests_0 : List UInt8 := [27, 5, 160, 0, 26, 42, 180, 0, 69, 158, 0, 19, 42, 89, 180, 0, 69, 4, 100, 181, 0, 69, 42]
abbrev dktX4_rests_0 : List UInt8 := dkwX4_rests_0 ++ dktX4_rests_1
theorem dksX4_rests_0 : cX4_rests.data.toList.drop 0 = dktX4_rests_0 := by decide +kernel
theorem dksX4_rests_1 : cX4_rests.data.toList.drop 23 = dktX4_rests_1 := dk_seg dksX4_rests_0 23 rfl rfl
theorem dksX4_rests_2 : cX4_rests.data.toList.drop 45 = dktX4_rests_2 := dk_seg dksX4_rests_1 22 rfl rfl
theorem dksX4_rests_3 : cX4_rests.data.toList.drop 68 = dktX4_rests_3 := dk_seg dksX4_rests_2 23 rfl rfl
theorem dksX4_rests_4 : cX4_rests.data.toList.drop 92 = dktX4_rests_4 := dk_seg dksX4_rests_3 24 rfl rfl
theorem dX4_rests_0 : decode cX4_rests 0 = .ok (.iload_n 1, 1) := dk_27 (dk_at dksX4_rests_0 0 rfl rfl)
theorem dX4_rests_1 : decode cX4_rests 1 = .ok (.iconst 2, 1) := dk_5 (dk_at dksX4_rests_0 1 rfl rfl)
theorem dX4_rests_2 : decode cX4_rests 2 = .ok (.if_icmp .ne 26, 3) := dk_160 0 26 (dk_at dksX4_rests_0 2 rfl rfl)
theorem dX4_rests_5 : decode cX4_rests 5 = .ok (.aload_n 0, 1) := dk_42 (dk_at dksX4_rests_0 5 rfl rfl)
theorem dX4_rests_6 : decode cX4_rests 6 = .ok (.getfield 69, 3) := dk_180 0 69 (dk_at dksX4_rests_0 6 rfl rfl)
theorem dX4_rests_9 : decode cX4_rests 9 = .ok (.ifCond .le 19, 3) := dk_158 0 19 (dk_at dksX4_rests_0 9 rfl rfl)
theorem dX4_rests_12 : decode cX4_rests 12 = .ok (.aload_n 0, 1) := dk_42 (dk_at dksX4_rests_0 12 rfl rfl)
theorem dX4_rests_13 : decode cX4_rests 13 = .ok (.dup, 1) := dk_89 (dk_at dksX4_rests_0 13 rfl rfl)
theorem dX4_rests_14 : decode cX4_rests 14 = .ok (.getfield 69, 3) := dk_180 0 69 (dk_at dksX4_rests_0 14 rfl rfl)
theorem dX4_rests_17 : decode cX4_rests 17 = .ok (.iconst 1, 1) := dk_4 (dk_at dksX4_rests_0 17 rfl rfl)
theorem dX4_rests_18 : decode cX4_rests 18 = .ok (.isub, 1) := dk_100 (dk_at dksX4_rests_0 18 rfl rfl)
theorem dX4_rests_19 : decode cX4_rests 19 = .ok (.putfield 69, 3) := dk_181 0 69 (dk_at dksX4_rests_0 19 rfl rfl)
theorem dX4_rests_22 : decode cX4_rests 22 = .ok (.aload_n 0, 1) := dk_42 (dk_at dksX4_rests_0 22 rfl rfl)
theorem dX4_rests_23 : decode cX4_rests 23 = .ok (.bipush 120, 2) := dk_16 120 (dk_at dksX4_rests_1 0 rfl rfl)
theorem dX4_rests_25 : decode cX4_rests 25 = .ok (.invokevirtual 148, 3) := dk_182 0 148 (dk_at dksX4_rests_1 2 rfl rfl)
theorem dX4_rests_28 : decode cX4_rests 28 = .ok (.iload_n 1, 1) := dk_27 (dk_at dksX4_rests_1 5 rfl rfl)
theorem dX4_rests_29 : decode cX4_rests 29 = .ok (.iconst 3, 1) := dk_6 (dk_at dksX4_rests_1 6 rfl rfl)
theorem dX4_rests_30 : decode cX4_rests 30 = .ok (.if_icmp .ne 29, 3) := dk_160 0 29 (dk_at dksX4_rests_1 7 rfl rfl)
theorem dX4_rests_33 : decode cX4_rests 33 = .ok (.aload_n 0, 1) := dk_42 (dk_at dksX4_rests_1 10 rfl rfl)
theorem dX4_rests_34 : decode cX4_rests 34 = .ok (.getfield 66, 3) := dk_180 0 66 (dk_at dksX4_rests_1 11 rfl rfl)
theorem dX4_rests_37 : decode cX4_rests 37 = .ok (.ifCond .ne 22, 3) := dk_154 0 22 (dk_at dksX4_rests_1 14 rfl rfl)
theorem dX4_rests_40 : decode cX4_rests 40 = .ok (.aload_n 0, 1) := dk_42 (dk_at dksX4_rests_1 17 rfl rfl)
theorem dX4_rests_41 : decode cX4_rests 41 = .ok (.invokevirtual 103, 3) := dk_182 0 103 (dk_at dksX4_rests_1 18 rfl rfl)
theorem dX4_rests_44 : decode cX4_rests 44 = .ok (.iconst 1, 1) := dk_4 (dk_at dksX4_rests_1 21 rfl rfl)
theorem dX4_rests_45 : decode cX4_rests 45 = .ok (.if_icmp .le 14, 3) := dk_164 0 14 (dk_at dksX4_rests_2 0 rfl rfl)
theorem dX4_rests_48 : decode cX4_rests 48 = .ok (.aload_n 0, 1) := dk_42 (dk_at dksX4_rests_2 3 rfl rfl)
theorem dX4_rests_49 : decode cX4_rests 49 = .ok (.invokevirtual 112, 3) := dk_182 0 112 (dk_at dksX4_rests_2 4 rfl rfl)
theorem dX4_rests_52 : decode cX4_rests 52 = .ok (.aload_n 0, 1) := dk_42 (dk_at dksX4_rests_2 7 rfl rfl)
theorem dX4_rests_53 : decode cX4_rests 53 = .ok (.getfield 63, 3) := dk_180 0 63 (dk_at dksX4_rests_2 8 rfl rfl)
theorem dX4_rests_56 : decode cX4_rests 56 = .ok (.invokevirtual 152, 3) := dk_182 0 152 (dk_at dksX4_rests_2 11 rfl rfl)
theorem dX4_rests_59 : decode cX4_rests 59 = .ok (.aload_n 2, 1) := dk_44 (dk_at dksX4_rests_2 14 rfl rfl)
theorem dX4_rests_60 : decode cX4_rests 60 = .ok (.getfield 119, 3) := dk_180 0 119 (dk_at dksX4_rests_2 15 rfl rfl)
theorem dX4_rests_63 : decode cX4_rests 63 = .ok (.iload_n 3, 1) := dk_29 (dk_at dksX4_rests_2 18 rfl rfl)
theorem dX4_rests_64 : decode cX4_rests 64 = .ok (.bipush 6, 2) := dk_16 6 (dk_at dksX4_rests_2 19 rfl rfl)
theorem dX4_rests_66 : decode cX4_rests 66 = .ok (.idiv, 1) := dk_108 (dk_at dksX4_rests_2 21 rfl rfl)
theorem dX4_rests_67 : decode cX4_rests 67 = .ok (.iaload, 1) := dk_46 (dk_at dksX4_rests_2 22 rfl rfl)
theorem dX4_rests_68 : decode cX4_rests 68 = .ok (.istore 4, 2) := dk_54 4 (dk_at dksX4_rests_3 0 rfl rfl)
theorem dX4_rests_70 : decode cX4_rests 70 = .ok (.aload_n 0, 1) := dk_42 (dk_at dksX4_rests_3 2 rfl rfl)
theorem dX4_rests_71 : decode cX4_rests 71 = .ok (.iload 4, 2) := dk_21 4 (dk_at dksX4_rests_3 3 rfl rfl)
theorem dX4_rests_73 : decode cX4_rests 73 = .ok (.bipush (-30), 2) := dk_16 226 (dk_at dksX4_rests_3 5 rfl rfl)
theorem dX4_rests_75 : decode cX4_rests 75 = .ok (.if_icmp .ge 8, 3) := dk_162 0 8 (dk_at dksX4_rests_3 7 rfl rfl)
theorem dX4_rests_78 : decode cX4_rests 78 = .ok (.bipush 10, 2) := dk_16 10 (dk_at dksX4_rests_3 10 rfl rfl)
theorem dX4_rests_80 : decode cX4_rests 80 = .ok (.goto 17, 3) := dk_167 0 17 (dk_at dksX4_rests_3 12 rfl rfl)
theorem dX4_rests_83 : decode cX4_rests 83 = .ok (.iload 4, 2) := dk_21 4 (dk_at dksX4_rests_3 15 rfl rfl)
theorem dX4_rests_85 : decode cX4_rests 85 = .ok (.bipush (-5), 2) := dk_16 251 (dk_at dksX4_rests_3 17 rfl rfl)
theorem dX4_rests_87 : decode cX4_rests 87 = .ok (.if_icmp .le 8, 3) := dk_164 0 8 (dk_at dksX4_rests_3 19 rfl rfl)
theorem dX4_rests_90 : decode cX4_rests 90 = .ok (.bipush 12, 2) := dk_16 12 (dk_at dksX4_rests_3 22 rfl rfl)
theorem dX4_rests_92 : decode cX4_rests 92 = .ok (.goto 5, 3) := dk_167 0 5 (dk_at dksX4_rests_4 0 rfl rfl)
theorem dX4_rests_95 : decode cX4_rests 95 = .ok (.bipush 15, 2) := dk_16 15 (dk_at dksX4_rests_4 3 rfl rfl)
theorem dX4_rests_97 : decode cX4_rests 97 = .ok (.invokevirtual 148, 3) := dk_182 0 148 (dk_at dksX4_rests_4 5 rfl rfl)
theorem dX4_rests_100 : decode cX4_rests 100 = .ok (.aload_n 0, 1) := dk_42 (dk_at dksX4_rests_4 8 rfl rfl)
theorem dX4_rests_101 : decode cX4_rests 101 = .ok (.dup, 1) := dk_89 (dk_at dksX4_rests_4 9 rfl rfl)
theorem dX4_rests_102 : decode cX4_rests 102 = .ok (.getfield 75, 3) := dk_180 0 75 (dk_at dksX4_rests_4 10 rfl rfl)
theorem dX4_rests_105 : decode cX4_rests 105 = .ok (.iconst 1, 1) := dk_4 (dk_at dksX4_rests_4 13 rfl rfl)
theorem dX4_rests_106 : decode cX4_rests 106 = .ok (.iadd, 1) := dk_96 (dk_at dksX4_rests_4 14 rfl rfl)
theorem dX4_rests_107 : decode cX4_rests 107 = .ok (.putfield 75, 3) := dk_181 0 75 (dk_at dksX4_rests_4 15 rfl rfl)
theorem dX4_rests_110 : decode cX4_rests 110 = .ok (.aload_n 0, 1) := dk_42 (dk_at dksX4_rests_4 18 rfl rfl)
theorem dX4_rests_111 : decode cX4_rests 111 = .ok (.iconst 0, 1) := dk_3 (dk_at dksX4_rests_4 19 rfl rfl)
theorem dX4_rests_112 : decode cX4_rests 112 = .ok (.putfield 72, 3) := dk_181 0 72 (dk_at dksX4_rests_4 20 rfl rfl)
theorem dX4_rests_115 : decode cX4_rests 115 = .ok (.return_, 1) := dk_177 (dk_at dksX4_rests_4 23 rfl rfl)
abbrev cX4_gain : ByteArray := prog_12_method_14_code
def yX4_gain : MethodName := ⟨RX4, "gain", "(I)V"⟩
def dkwX4_gain_1 : List UInt8 := [180, 0, 11, 28, 50, 27, 182, 0, 155, 132, 2, 1, 167, 255, 223, 177]
abbrev dktX4_gain_1 : List UInt8 := dkwX4_gain_1 ++ []
def dkwX4_gain_0 : List UInt8 := [3, 61, 28, 42, 180, 0, 34, 162, 0, 31, 42, 180, 0, 11, 28, 50, 180, 0, 95, 154, 0, 13, 42]
abbrev dktX4_gain_0 : List UInt8 := dkwX4_gain_0 ++ dktX4_gain_1
theorem dksX4_gain_0 : cX4_gain.data.toList.drop 0 = dktX4_gain_0 := by decide +kernel
theorem dksX4_gain_1 : cX4_gain.data.toList.drop 23 = dktX4_gain_1 := dk_seg dksX4_gain_0 23 rfl rfl
theorem dX4_gain_0 : decode cX4_gain 0 = .ok (.iconst 0, 1) := dk_3 (dk_at dksX4_gain_0 0 rfl rfl)
theorem dX4_gain_1 : decode cX4_gain 1 = .ok (.istore_n 2, 1) := dk_61 (dk_at dksX4_gain_0 1 rfl rfl)
theorem dX4_gain_2 : decode cX4_gain 2 = .ok (.iload_n 2, 1) := dk_28 (dk_at dksX4_gain_0 2 rfl rfl)
theorem dX4_gain_3 : decode cX4_gain 3 = .ok (.aload_n 0, 1) := dk_42 (dk_at dksX4_gain_0 3 rfl rfl)
theorem dX4_gain_4 : decode cX4_gain 4 = .ok (.getfield 34, 3) := dk_180 0 34 (dk_at dksX4_gain_0 4 rfl rfl)
theorem dX4_gain_7 : decode cX4_gain 7 = .ok (.if_icmp .ge 31, 3) := dk_162 0 31 (dk_at dksX4_gain_0 7 rfl rfl)
theorem dX4_gain_10 : decode cX4_gain 10 = .ok (.aload_n 0, 1) := dk_42 (dk_at dksX4_gain_0 10 rfl rfl)
theorem dX4_gain_11 : decode cX4_gain 11 = .ok (.getfield 11, 3) := dk_180 0 11 (dk_at dksX4_gain_0 11 rfl rfl)
theorem dX4_gain_14 : decode cX4_gain 14 = .ok (.iload_n 2, 1) := dk_28 (dk_at dksX4_gain_0 14 rfl rfl)
theorem dX4_gain_15 : decode cX4_gain 15 = .ok (.aaload, 1) := dk_50 (dk_at dksX4_gain_0 15 rfl rfl)
theorem dX4_gain_16 : decode cX4_gain 16 = .ok (.getfield 95, 3) := dk_180 0 95 (dk_at dksX4_gain_0 16 rfl rfl)
theorem dX4_gain_19 : decode cX4_gain 19 = .ok (.ifCond .ne 13, 3) := dk_154 0 13 (dk_at dksX4_gain_0 19 rfl rfl)
theorem dX4_gain_22 : decode cX4_gain 22 = .ok (.aload_n 0, 1) := dk_42 (dk_at dksX4_gain_0 22 rfl rfl)
theorem dX4_gain_23 : decode cX4_gain 23 = .ok (.getfield 11, 3) := dk_180 0 11 (dk_at dksX4_gain_1 0 rfl rfl)
theorem dX4_gain_26 : decode cX4_gain 26 = .ok (.iload_n 2, 1) := dk_28 (dk_at dksX4_gain_1 3 rfl rfl)
theorem dX4_gain_27 : decode cX4_gain 27 = .ok (.aaload, 1) := dk_50 (dk_at dksX4_gain_1 4 rfl rfl)
theorem dX4_gain_28 : decode cX4_gain 28 = .ok (.iload_n 1, 1) := dk_27 (dk_at dksX4_gain_1 5 rfl rfl)
theorem dX4_gain_29 : decode cX4_gain 29 = .ok (.invokevirtual 155, 3) := dk_182 0 155 (dk_at dksX4_gain_1 6 rfl rfl)
theorem dX4_gain_32 : decode cX4_gain 32 = .ok (.iinc 2 1, 3) := dk_132 2 1 (dk_at dksX4_gain_1 9 rfl rfl)
theorem dX4_gain_35 : decode cX4_gain 35 = .ok (.goto (-33), 3) := dk_167 255 223 (dk_at dksX4_gain_1 12 rfl rfl)
theorem dX4_gain_38 : decode cX4_gain 38 = .ok (.return_, 1) := dk_177 (dk_at dksX4_gain_1 15 rfl rfl)
abbrev cX4_sign : ByteArray := prog_12_method_18_code
def yX4_sign : MethodName := ⟨RX4, "sign", "(LSledHouse$World;I)V"⟩
def dkwX4_sign_1 : List UInt8 := [177, 42, 180, 0, 24, 28, 42, 43, 182, 0, 178, 79, 42, 89, 180, 0, 53, 4, 96, 181, 0, 53, 177]
abbrev dktX4_sign_1 : List UInt8 := dkwX4_sign_1 ++ []
def dkwX4_sign_0 : List UInt8 := [42, 180, 0, 60, 153, 0, 20, 28, 43, 180, 0, 171, 112, 154, 0, 11, 42, 28, 182, 0, 174, 153, 0, 4]
abbrev dktX4_sign_0 : List UInt8 := dkwX4_sign_0 ++ dktX4_sign_1
theorem dksX4_sign_0 : cX4_sign.data.toList.drop 0 = dktX4_sign_0 := by decide +kernel
theorem dksX4_sign_1 : cX4_sign.data.toList.drop 24 = dktX4_sign_1 := dk_seg dksX4_sign_0 24 rfl rfl
theorem dX4_sign_0 : decode cX4_sign 0 = .ok (.aload_n 0, 1) := dk_42 (dk_at dksX4_sign_0 0 rfl rfl)
theorem dX4_sign_1 : decode cX4_sign 1 = .ok (.getfield 60, 3) := dk_180 0 60 (dk_at dksX4_sign_0 1 rfl rfl)
theorem dX4_sign_4 : decode cX4_sign 4 = .ok (.ifCond .eq 20, 3) := dk_153 0 20 (dk_at dksX4_sign_0 4 rfl rfl)
theorem dX4_sign_7 : decode cX4_sign 7 = .ok (.iload_n 2, 1) := dk_28 (dk_at dksX4_sign_0 7 rfl rfl)
theorem dX4_sign_8 : decode cX4_sign 8 = .ok (.aload_n 1, 1) := dk_43 (dk_at dksX4_sign_0 8 rfl rfl)
theorem dX4_sign_9 : decode cX4_sign 9 = .ok (.getfield 171, 3) := dk_180 0 171 (dk_at dksX4_sign_0 9 rfl rfl)
theorem dX4_sign_12 : decode cX4_sign 12 = .ok (.irem, 1) := dk_112 (dk_at dksX4_sign_0 12 rfl rfl)
theorem dX4_sign_13 : decode cX4_sign 13 = .ok (.ifCond .ne 11, 3) := dk_154 0 11 (dk_at dksX4_sign_0 13 rfl rfl)
theorem dX4_sign_16 : decode cX4_sign 16 = .ok (.aload_n 0, 1) := dk_42 (dk_at dksX4_sign_0 16 rfl rfl)
theorem dX4_sign_17 : decode cX4_sign 17 = .ok (.iload_n 2, 1) := dk_28 (dk_at dksX4_sign_0 17 rfl rfl)
theorem dX4_sign_18 : decode cX4_sign 18 = .ok (.invokevirtual 174, 3) := dk_182 0 174 (dk_at dksX4_sign_0 18 rfl rfl)
theorem dX4_sign_21 : decode cX4_sign 21 = .ok (.ifCond .eq 4, 3) := dk_153 0 4 (dk_at dksX4_sign_0 21 rfl rfl)
theorem dX4_sign_24 : decode cX4_sign 24 = .ok (.return_, 1) := dk_177 (dk_at dksX4_sign_1 0 rfl rfl)
theorem dX4_sign_25 : decode cX4_sign 25 = .ok (.aload_n 0, 1) := dk_42 (dk_at dksX4_sign_1 1 rfl rfl)
theorem dX4_sign_26 : decode cX4_sign 26 = .ok (.getfield 24, 3) := dk_180 0 24 (dk_at dksX4_sign_1 2 rfl rfl)
theorem dX4_sign_29 : decode cX4_sign 29 = .ok (.iload_n 2, 1) := dk_28 (dk_at dksX4_sign_1 5 rfl rfl)
theorem dX4_sign_30 : decode cX4_sign 30 = .ok (.aload_n 0, 1) := dk_42 (dk_at dksX4_sign_1 6 rfl rfl)
theorem dX4_sign_31 : decode cX4_sign 31 = .ok (.aload_n 1, 1) := dk_43 (dk_at dksX4_sign_1 7 rfl rfl)
theorem dX4_sign_32 : decode cX4_sign 32 = .ok (.invokevirtual 178, 3) := dk_182 0 178 (dk_at dksX4_sign_1 8 rfl rfl)
theorem dX4_sign_35 : decode cX4_sign 35 = .ok (.iastore, 1) := dk_79 (dk_at dksX4_sign_1 11 rfl rfl)
theorem dX4_sign_36 : decode cX4_sign 36 = .ok (.aload_n 0, 1) := dk_42 (dk_at dksX4_sign_1 12 rfl rfl)
theorem dX4_sign_37 : decode cX4_sign 37 = .ok (.dup, 1) := dk_89 (dk_at dksX4_sign_1 13 rfl rfl)
theorem dX4_sign_38 : decode cX4_sign 38 = .ok (.getfield 53, 3) := dk_180 0 53 (dk_at dksX4_sign_1 14 rfl rfl)
theorem dX4_sign_41 : decode cX4_sign 41 = .ok (.iconst 1, 1) := dk_4 (dk_at dksX4_sign_1 17 rfl rfl)
theorem dX4_sign_42 : decode cX4_sign 42 = .ok (.iadd, 1) := dk_96 (dk_at dksX4_sign_1 18 rfl rfl)
theorem dX4_sign_43 : decode cX4_sign 43 = .ok (.putfield 53, 3) := dk_181 0 53 (dk_at dksX4_sign_1 19 rfl rfl)
theorem dX4_sign_46 : decode cX4_sign 46 = .ok (.return_, 1) := dk_177 (dk_at dksX4_sign_1 22 rfl rfl)
abbrev cX4_isQuiet : ByteArray := prog_12_method_17_code
def yX4_isQuiet : MethodName := ⟨RX4, "isQuiet", "(I)Z"⟩
def dkwX4_isQuiet_2 : List UInt8 := [167, 255, 215, 28, 172]
abbrev dktX4_isQuiet_2 : List UInt8 := dkwX4_isQuiet_2 ++ []
def dkwX4_isQuiet_1 : List UInt8 := [161, 0, 17, 27, 42, 180, 0, 30, 29, 46, 163, 0, 7, 4, 167, 0, 4, 3, 61, 132, 3, 1]
abbrev dktX4_isQuiet_1 : List UInt8 := dkwX4_isQuiet_1 ++ dktX4_isQuiet_2
def dkwX4_isQuiet_0 : List UInt8 := [3, 61, 3, 62, 29, 42, 180, 0, 50, 162, 0, 39, 28, 154, 0, 35, 27, 42, 180, 0, 27, 29, 46]
abbrev dktX4_isQuiet_0 : List UInt8 := dkwX4_isQuiet_0 ++ dktX4_isQuiet_1
theorem dksX4_isQuiet_0 : cX4_isQuiet.data.toList.drop 0 = dktX4_isQuiet_0 := by decide +kernel
theorem dksX4_isQuiet_1 : cX4_isQuiet.data.toList.drop 23 = dktX4_isQuiet_1 := dk_seg dksX4_isQuiet_0 23 rfl rfl
theorem dksX4_isQuiet_2 : cX4_isQuiet.data.toList.drop 45 = dktX4_isQuiet_2 := dk_seg dksX4_isQuiet_1 22 rfl rfl
theorem dX4_isQuiet_0 : decode cX4_isQuiet 0 = .ok (.iconst 0, 1) := dk_3 (dk_at dksX4_isQuiet_0 0 rfl rfl)
theorem dX4_isQuiet_1 : decode cX4_isQuiet 1 = .ok (.istore_n 2, 1) := dk_61 (dk_at dksX4_isQuiet_0 1 rfl rfl)
theorem dX4_isQuiet_2 : decode cX4_isQuiet 2 = .ok (.iconst 0, 1) := dk_3 (dk_at dksX4_isQuiet_0 2 rfl rfl)
theorem dX4_isQuiet_3 : decode cX4_isQuiet 3 = .ok (.istore_n 3, 1) := dk_62 (dk_at dksX4_isQuiet_0 3 rfl rfl)
theorem dX4_isQuiet_4 : decode cX4_isQuiet 4 = .ok (.iload_n 3, 1) := dk_29 (dk_at dksX4_isQuiet_0 4 rfl rfl)
theorem dX4_isQuiet_5 : decode cX4_isQuiet 5 = .ok (.aload_n 0, 1) := dk_42 (dk_at dksX4_isQuiet_0 5 rfl rfl)
theorem dX4_isQuiet_6 : decode cX4_isQuiet 6 = .ok (.getfield 50, 3) := dk_180 0 50 (dk_at dksX4_isQuiet_0 6 rfl rfl)
theorem dX4_isQuiet_9 : decode cX4_isQuiet 9 = .ok (.if_icmp .ge 39, 3) := dk_162 0 39 (dk_at dksX4_isQuiet_0 9 rfl rfl)
theorem dX4_isQuiet_12 : decode cX4_isQuiet 12 = .ok (.iload_n 2, 1) := dk_28 (dk_at dksX4_isQuiet_0 12 rfl rfl)
theorem dX4_isQuiet_13 : decode cX4_isQuiet 13 = .ok (.ifCond .ne 35, 3) := dk_154 0 35 (dk_at dksX4_isQuiet_0 13 rfl rfl)
theorem dX4_isQuiet_16 : decode cX4_isQuiet 16 = .ok (.iload_n 1, 1) := dk_27 (dk_at dksX4_isQuiet_0 16 rfl rfl)
theorem dX4_isQuiet_17 : decode cX4_isQuiet 17 = .ok (.aload_n 0, 1) := dk_42 (dk_at dksX4_isQuiet_0 17 rfl rfl)
theorem dX4_isQuiet_18 : decode cX4_isQuiet 18 = .ok (.getfield 27, 3) := dk_180 0 27 (dk_at dksX4_isQuiet_0 18 rfl rfl)
theorem dX4_isQuiet_21 : decode cX4_isQuiet 21 = .ok (.iload_n 3, 1) := dk_29 (dk_at dksX4_isQuiet_0 21 rfl rfl)
theorem dX4_isQuiet_22 : decode cX4_isQuiet 22 = .ok (.iaload, 1) := dk_46 (dk_at dksX4_isQuiet_0 22 rfl rfl)
theorem dX4_isQuiet_23 : decode cX4_isQuiet 23 = .ok (.if_icmp .lt 17, 3) := dk_161 0 17 (dk_at dksX4_isQuiet_1 0 rfl rfl)
theorem dX4_isQuiet_26 : decode cX4_isQuiet 26 = .ok (.iload_n 1, 1) := dk_27 (dk_at dksX4_isQuiet_1 3 rfl rfl)
theorem dX4_isQuiet_27 : decode cX4_isQuiet 27 = .ok (.aload_n 0, 1) := dk_42 (dk_at dksX4_isQuiet_1 4 rfl rfl)
theorem dX4_isQuiet_28 : decode cX4_isQuiet 28 = .ok (.getfield 30, 3) := dk_180 0 30 (dk_at dksX4_isQuiet_1 5 rfl rfl)
theorem dX4_isQuiet_31 : decode cX4_isQuiet 31 = .ok (.iload_n 3, 1) := dk_29 (dk_at dksX4_isQuiet_1 8 rfl rfl)
theorem dX4_isQuiet_32 : decode cX4_isQuiet 32 = .ok (.iaload, 1) := dk_46 (dk_at dksX4_isQuiet_1 9 rfl rfl)
theorem dX4_isQuiet_33 : decode cX4_isQuiet 33 = .ok (.if_icmp .gt 7, 3) := dk_163 0 7 (dk_at dksX4_isQuiet_1 10 rfl rfl)
theorem dX4_isQuiet_36 : decode cX4_isQuiet 36 = .ok (.iconst 1, 1) := dk_4 (dk_at dksX4_isQuiet_1 13 rfl rfl)
theorem dX4_isQuiet_37 : decode cX4_isQuiet 37 = .ok (.goto 4, 3) := dk_167 0 4 (dk_at dksX4_isQuiet_1 14 rfl rfl)
theorem dX4_isQuiet_40 : decode cX4_isQuiet 40 = .ok (.iconst 0, 1) := dk_3 (dk_at dksX4_isQuiet_1 17 rfl rfl)
theorem dX4_isQuiet_41 : decode cX4_isQuiet 41 = .ok (.istore_n 2, 1) := dk_61 (dk_at dksX4_isQuiet_1 18 rfl rfl)
theorem dX4_isQuiet_42 : decode cX4_isQuiet 42 = .ok (.iinc 3 1, 3) := dk_132 3 1 (dk_at dksX4_isQuiet_1 19 rfl rfl)
theorem dX4_isQuiet_45 : decode cX4_isQuiet 45 = .ok (.goto (-41), 3) := dk_167 255 215 (dk_at dksX4_isQuiet_2 0 rfl rfl)
theorem dX4_isQuiet_48 : decode cX4_isQuiet 48 = .ok (.iload_n 2, 1) := dk_28 (dk_at dksX4_isQuiet_2 3 rfl rfl)
theorem dX4_isQuiet_49 : decode cX4_isQuiet 49 = .ok (.ireturn, 1) := dk_172 (dk_at dksX4_isQuiet_2 4 rfl rfl)
abbrev cX4_way : ByteArray := prog_12_method_10_code
def yX4_way : MethodName := ⟨RX4, "way", "(LSledHouse$World;)I"⟩
def dkwX4_way_1 : List UInt8 := [132, 3, 1, 167, 255, 236, 28, 172]
abbrev dktX4_way_1 : List UInt8 := dkwX4_way_1 ++ []
def dkwX4_way_0 : List UInt8 := [42, 180, 0, 66, 61, 3, 62, 29, 42, 180, 0, 63, 162, 0, 18, 28, 43, 180, 0, 107, 29, 46, 96, 61]
abbrev dktX4_way_0 : List UInt8 := dkwX4_way_0 ++ dktX4_way_1
theorem dksX4_way_0 : cX4_way.data.toList.drop 0 = dktX4_way_0 := by decide +kernel
theorem dksX4_way_1 : cX4_way.data.toList.drop 24 = dktX4_way_1 := dk_seg dksX4_way_0 24 rfl rfl
theorem dX4_way_0 : decode cX4_way 0 = .ok (.aload_n 0, 1) := dk_42 (dk_at dksX4_way_0 0 rfl rfl)
theorem dX4_way_1 : decode cX4_way 1 = .ok (.getfield 66, 3) := dk_180 0 66 (dk_at dksX4_way_0 1 rfl rfl)
theorem dX4_way_4 : decode cX4_way 4 = .ok (.istore_n 2, 1) := dk_61 (dk_at dksX4_way_0 4 rfl rfl)
theorem dX4_way_5 : decode cX4_way 5 = .ok (.iconst 0, 1) := dk_3 (dk_at dksX4_way_0 5 rfl rfl)
theorem dX4_way_6 : decode cX4_way 6 = .ok (.istore_n 3, 1) := dk_62 (dk_at dksX4_way_0 6 rfl rfl)
theorem dX4_way_7 : decode cX4_way 7 = .ok (.iload_n 3, 1) := dk_29 (dk_at dksX4_way_0 7 rfl rfl)
theorem dX4_way_8 : decode cX4_way 8 = .ok (.aload_n 0, 1) := dk_42 (dk_at dksX4_way_0 8 rfl rfl)
theorem dX4_way_9 : decode cX4_way 9 = .ok (.getfield 63, 3) := dk_180 0 63 (dk_at dksX4_way_0 9 rfl rfl)
theorem dX4_way_12 : decode cX4_way 12 = .ok (.if_icmp .ge 18, 3) := dk_162 0 18 (dk_at dksX4_way_0 12 rfl rfl)
theorem dX4_way_15 : decode cX4_way 15 = .ok (.iload_n 2, 1) := dk_28 (dk_at dksX4_way_0 15 rfl rfl)
theorem dX4_way_16 : decode cX4_way 16 = .ok (.aload_n 1, 1) := dk_43 (dk_at dksX4_way_0 16 rfl rfl)
theorem dX4_way_17 : decode cX4_way 17 = .ok (.getfield 107, 3) := dk_180 0 107 (dk_at dksX4_way_0 17 rfl rfl)
theorem dX4_way_20 : decode cX4_way 20 = .ok (.iload_n 3, 1) := dk_29 (dk_at dksX4_way_0 20 rfl rfl)
theorem dX4_way_21 : decode cX4_way 21 = .ok (.iaload, 1) := dk_46 (dk_at dksX4_way_0 21 rfl rfl)
theorem dX4_way_22 : decode cX4_way 22 = .ok (.iadd, 1) := dk_96 (dk_at dksX4_way_0 22 rfl rfl)
theorem dX4_way_23 : decode cX4_way 23 = .ok (.istore_n 2, 1) := dk_61 (dk_at dksX4_way_0 23 rfl rfl)
theorem dX4_way_24 : decode cX4_way 24 = .ok (.iinc 3 1, 3) := dk_132 3 1 (dk_at dksX4_way_1 0 rfl rfl)
theorem dX4_way_27 : decode cX4_way 27 = .ok (.goto (-20), 3) := dk_167 255 236 (dk_at dksX4_way_1 3 rfl rfl)
theorem dX4_way_30 : decode cX4_way 30 = .ok (.iload_n 2, 1) := dk_28 (dk_at dksX4_way_1 6 rfl rfl)
theorem dX4_way_31 : decode cX4_way 31 = .ok (.ireturn, 1) := dk_172 (dk_at dksX4_way_1 7 rfl rfl)
abbrev cX4_become : ByteArray := prog_12_method_4_code
def yX4_become : MethodName := ⟨RX4, "become", "(LSledHouse$Team;)V"⟩
def dkwX4_become_8 : List UInt8 := [180, 0, 30, 3, 42, 180, 0, 30, 3, 7, 184, 0, 89, 42, 43, 180, 0, 50, 181, 0, 50, 177]
abbrev dktX4_become_8 : List UInt8 := dkwX4_become_8 ++ []
def dkwX4_become_7 : List UInt8 := [43, 180, 0, 53, 181, 0, 53, 43, 180, 0, 27, 3, 42, 180, 0, 27, 3, 7, 184, 0, 89, 43]
abbrev dktX4_become_7 : List UInt8 := dkwX4_become_7 ++ dktX4_become_8
def dkwX4_become_6 : List UInt8 := [180, 0, 21, 190, 184, 0, 89, 43, 180, 0, 24, 3, 42, 180, 0, 24, 3, 17, 7, 208, 184, 0, 89, 42]
abbrev dktX4_become_6 : List UInt8 := dkwX4_become_6 ++ dktX4_become_7
def dkwX4_become_5 : List UInt8 := [42, 180, 0, 17, 3, 42, 180, 0, 17, 190, 184, 0, 89, 43, 180, 0, 21, 3, 42, 180, 0, 21, 3, 42]
abbrev dktX4_become_5 : List UInt8 := dkwX4_become_5 ++ dktX4_become_6
def dkwX4_become_4 : List UInt8 := [181, 0, 72, 42, 43, 180, 0, 75, 181, 0, 75, 42, 43, 180, 0, 78, 181, 0, 78, 43, 180, 0, 17, 3]
abbrev dktX4_become_4 : List UInt8 := dkwX4_become_4 ++ dktX4_become_5
def dkwX4_become_3 : List UInt8 := [181, 0, 63, 42, 43, 180, 0, 66, 181, 0, 66, 42, 43, 180, 0, 69, 181, 0, 69, 42, 43, 180, 0, 72]
abbrev dktX4_become_3 : List UInt8 := dkwX4_become_3 ++ dktX4_become_4
def dkwX4_become_2 : List UInt8 := [182, 0, 85, 132, 2, 1, 167, 255, 230, 42, 43, 180, 0, 60, 181, 0, 60, 42, 43, 180, 0, 63]
abbrev dktX4_become_2 : List UInt8 := dkwX4_become_2 ++ dktX4_become_3
def dkwX4_become_1 : List UInt8 := [3, 61, 28, 42, 180, 0, 34, 162, 0, 24, 42, 180, 0, 11, 28, 50, 43, 180, 0, 11, 28, 50]
abbrev dktX4_become_1 : List UInt8 := dkwX4_become_1 ++ dktX4_become_2
def dkwX4_become_0 : List UInt8 := [42, 43, 180, 0, 34, 43, 180, 0, 38, 43, 180, 0, 41, 43, 180, 0, 44, 43, 180, 0, 47, 182, 0, 81]
abbrev dktX4_become_0 : List UInt8 := dkwX4_become_0 ++ dktX4_become_1
theorem dksX4_become_0 : cX4_become.data.toList.drop 0 = dktX4_become_0 := by decide +kernel
theorem dksX4_become_1 : cX4_become.data.toList.drop 24 = dktX4_become_1 := dk_seg dksX4_become_0 24 rfl rfl
theorem dksX4_become_2 : cX4_become.data.toList.drop 46 = dktX4_become_2 := dk_seg dksX4_become_1 22 rfl rfl
theorem dksX4_become_3 : cX4_become.data.toList.drop 68 = dktX4_become_3 := dk_seg dksX4_become_2 22 rfl rfl
theorem dksX4_become_4 : cX4_become.data.toList.drop 92 = dktX4_become_4 := dk_seg dksX4_become_3 24 rfl rfl
theorem dksX4_become_5 : cX4_become.data.toList.drop 116 = dktX4_become_5 := dk_seg dksX4_become_4 24 rfl rfl
theorem dksX4_become_6 : cX4_become.data.toList.drop 140 = dktX4_become_6 := dk_seg dksX4_become_5 24 rfl rfl
theorem dksX4_become_7 : cX4_become.data.toList.drop 164 = dktX4_become_7 := dk_seg dksX4_become_6 24 rfl rfl
theorem dksX4_become_8 : cX4_become.data.toList.drop 186 = dktX4_become_8 := dk_seg dksX4_become_7 22 rfl rfl
theorem dX4_become_0 : decode cX4_become 0 = .ok (.aload_n 0, 1) := dk_42 (dk_at dksX4_become_0 0 rfl rfl)
theorem dX4_become_1 : decode cX4_become 1 = .ok (.aload_n 1, 1) := dk_43 (dk_at dksX4_become_0 1 rfl rfl)
theorem dX4_become_2 : decode cX4_become 2 = .ok (.getfield 34, 3) := dk_180 0 34 (dk_at dksX4_become_0 2 rfl rfl)
theorem dX4_become_5 : decode cX4_become 5 = .ok (.aload_n 1, 1) := dk_43 (dk_at dksX4_become_0 5 rfl rfl)
theorem dX4_become_6 : decode cX4_become 6 = .ok (.getfield 38, 3) := dk_180 0 38 (dk_at dksX4_become_0 6 rfl rfl)
theorem dX4_become_9 : decode cX4_become 9 = .ok (.aload_n 1, 1) := dk_43 (dk_at dksX4_become_0 9 rfl rfl)
theorem dX4_become_10 : decode cX4_become 10 = .ok (.getfield 41, 3) := dk_180 0 41 (dk_at dksX4_become_0 10 rfl rfl)
theorem dX4_become_13 : decode cX4_become 13 = .ok (.aload_n 1, 1) := dk_43 (dk_at dksX4_become_0 13 rfl rfl)
theorem dX4_become_14 : decode cX4_become 14 = .ok (.getfield 44, 3) := dk_180 0 44 (dk_at dksX4_become_0 14 rfl rfl)
theorem dX4_become_17 : decode cX4_become 17 = .ok (.aload_n 1, 1) := dk_43 (dk_at dksX4_become_0 17 rfl rfl)
theorem dX4_become_18 : decode cX4_become 18 = .ok (.getfield 47, 3) := dk_180 0 47 (dk_at dksX4_become_0 18 rfl rfl)
theorem dX4_become_21 : decode cX4_become 21 = .ok (.invokevirtual 81, 3) := dk_182 0 81 (dk_at dksX4_become_0 21 rfl rfl)
theorem dX4_become_24 : decode cX4_become 24 = .ok (.iconst 0, 1) := dk_3 (dk_at dksX4_become_1 0 rfl rfl)
theorem dX4_become_25 : decode cX4_become 25 = .ok (.istore_n 2, 1) := dk_61 (dk_at dksX4_become_1 1 rfl rfl)
theorem dX4_become_26 : decode cX4_become 26 = .ok (.iload_n 2, 1) := dk_28 (dk_at dksX4_become_1 2 rfl rfl)
theorem dX4_become_27 : decode cX4_become 27 = .ok (.aload_n 0, 1) := dk_42 (dk_at dksX4_become_1 3 rfl rfl)
theorem dX4_become_28 : decode cX4_become 28 = .ok (.getfield 34, 3) := dk_180 0 34 (dk_at dksX4_become_1 4 rfl rfl)
theorem dX4_become_31 : decode cX4_become 31 = .ok (.if_icmp .ge 24, 3) := dk_162 0 24 (dk_at dksX4_become_1 7 rfl rfl)
theorem dX4_become_34 : decode cX4_become 34 = .ok (.aload_n 0, 1) := dk_42 (dk_at dksX4_become_1 10 rfl rfl)
theorem dX4_become_35 : decode cX4_become 35 = .ok (.getfield 11, 3) := dk_180 0 11 (dk_at dksX4_become_1 11 rfl rfl)
theorem dX4_become_38 : decode cX4_become 38 = .ok (.iload_n 2, 1) := dk_28 (dk_at dksX4_become_1 14 rfl rfl)
theorem dX4_become_39 : decode cX4_become 39 = .ok (.aaload, 1) := dk_50 (dk_at dksX4_become_1 15 rfl rfl)
theorem dX4_become_40 : decode cX4_become 40 = .ok (.aload_n 1, 1) := dk_43 (dk_at dksX4_become_1 16 rfl rfl)
theorem dX4_become_41 : decode cX4_become 41 = .ok (.getfield 11, 3) := dk_180 0 11 (dk_at dksX4_become_1 17 rfl rfl)
theorem dX4_become_44 : decode cX4_become 44 = .ok (.iload_n 2, 1) := dk_28 (dk_at dksX4_become_1 20 rfl rfl)
theorem dX4_become_45 : decode cX4_become 45 = .ok (.aaload, 1) := dk_50 (dk_at dksX4_become_1 21 rfl rfl)
theorem dX4_become_46 : decode cX4_become 46 = .ok (.invokevirtual 85, 3) := dk_182 0 85 (dk_at dksX4_become_2 0 rfl rfl)
theorem dX4_become_49 : decode cX4_become 49 = .ok (.iinc 2 1, 3) := dk_132 2 1 (dk_at dksX4_become_2 3 rfl rfl)
theorem dX4_become_52 : decode cX4_become 52 = .ok (.goto (-26), 3) := dk_167 255 230 (dk_at dksX4_become_2 6 rfl rfl)
theorem dX4_become_55 : decode cX4_become 55 = .ok (.aload_n 0, 1) := dk_42 (dk_at dksX4_become_2 9 rfl rfl)
theorem dX4_become_56 : decode cX4_become 56 = .ok (.aload_n 1, 1) := dk_43 (dk_at dksX4_become_2 10 rfl rfl)
theorem dX4_become_57 : decode cX4_become 57 = .ok (.getfield 60, 3) := dk_180 0 60 (dk_at dksX4_become_2 11 rfl rfl)
theorem dX4_become_60 : decode cX4_become 60 = .ok (.putfield 60, 3) := dk_181 0 60 (dk_at dksX4_become_2 14 rfl rfl)
theorem dX4_become_63 : decode cX4_become 63 = .ok (.aload_n 0, 1) := dk_42 (dk_at dksX4_become_2 17 rfl rfl)
theorem dX4_become_64 : decode cX4_become 64 = .ok (.aload_n 1, 1) := dk_43 (dk_at dksX4_become_2 18 rfl rfl)
theorem dX4_become_65 : decode cX4_become 65 = .ok (.getfield 63, 3) := dk_180 0 63 (dk_at dksX4_become_2 19 rfl rfl)
theorem dX4_become_68 : decode cX4_become 68 = .ok (.putfield 63, 3) := dk_181 0 63 (dk_at dksX4_become_3 0 rfl rfl)
theorem dX4_become_71 : decode cX4_become 71 = .ok (.aload_n 0, 1) := dk_42 (dk_at dksX4_become_3 3 rfl rfl)
theorem dX4_become_72 : decode cX4_become 72 = .ok (.aload_n 1, 1) := dk_43 (dk_at dksX4_become_3 4 rfl rfl)
theorem dX4_become_73 : decode cX4_become 73 = .ok (.getfield 66, 3) := dk_180 0 66 (dk_at dksX4_become_3 5 rfl rfl)
theorem dX4_become_76 : decode cX4_become 76 = .ok (.putfield 66, 3) := dk_181 0 66 (dk_at dksX4_become_3 8 rfl rfl)
theorem dX4_become_79 : decode cX4_become 79 = .ok (.aload_n 0, 1) := dk_42 (dk_at dksX4_become_3 11 rfl rfl)
theorem dX4_become_80 : decode cX4_become 80 = .ok (.aload_n 1, 1) := dk_43 (dk_at dksX4_become_3 12 rfl rfl)
theorem dX4_become_81 : decode cX4_become 81 = .ok (.getfield 69, 3) := dk_180 0 69 (dk_at dksX4_become_3 13 rfl rfl)
theorem dX4_become_84 : decode cX4_become 84 = .ok (.putfield 69, 3) := dk_181 0 69 (dk_at dksX4_become_3 16 rfl rfl)
theorem dX4_become_87 : decode cX4_become 87 = .ok (.aload_n 0, 1) := dk_42 (dk_at dksX4_become_3 19 rfl rfl)
theorem dX4_become_88 : decode cX4_become 88 = .ok (.aload_n 1, 1) := dk_43 (dk_at dksX4_become_3 20 rfl rfl)
theorem dX4_become_89 : decode cX4_become 89 = .ok (.getfield 72, 3) := dk_180 0 72 (dk_at dksX4_become_3 21 rfl rfl)
theorem dX4_become_92 : decode cX4_become 92 = .ok (.putfield 72, 3) := dk_181 0 72 (dk_at dksX4_become_4 0 rfl rfl)
theorem dX4_become_95 : decode cX4_become 95 = .ok (.aload_n 0, 1) := dk_42 (dk_at dksX4_become_4 3 rfl rfl)
theorem dX4_become_96 : decode cX4_become 96 = .ok (.aload_n 1, 1) := dk_43 (dk_at dksX4_become_4 4 rfl rfl)
theorem dX4_become_97 : decode cX4_become 97 = .ok (.getfield 75, 3) := dk_180 0 75 (dk_at dksX4_become_4 5 rfl rfl)
theorem dX4_become_100 : decode cX4_become 100 = .ok (.putfield 75, 3) := dk_181 0 75 (dk_at dksX4_become_4 8 rfl rfl)
theorem dX4_become_103 : decode cX4_become 103 = .ok (.aload_n 0, 1) := dk_42 (dk_at dksX4_become_4 11 rfl rfl)
theorem dX4_become_104 : decode cX4_become 104 = .ok (.aload_n 1, 1) := dk_43 (dk_at dksX4_become_4 12 rfl rfl)
theorem dX4_become_105 : decode cX4_become 105 = .ok (.getfield 78, 3) := dk_180 0 78 (dk_at dksX4_become_4 13 rfl rfl)
theorem dX4_become_108 : decode cX4_become 108 = .ok (.putfield 78, 3) := dk_181 0 78 (dk_at dksX4_become_4 16 rfl rfl)
theorem dX4_become_111 : decode cX4_become 111 = .ok (.aload_n 1, 1) := dk_43 (dk_at dksX4_become_4 19 rfl rfl)
theorem dX4_become_112 : decode cX4_become 112 = .ok (.getfield 17, 3) := dk_180 0 17 (dk_at dksX4_become_4 20 rfl rfl)
theorem dX4_become_115 : decode cX4_become 115 = .ok (.iconst 0, 1) := dk_3 (dk_at dksX4_become_4 23 rfl rfl)
theorem dX4_become_116 : decode cX4_become 116 = .ok (.aload_n 0, 1) := dk_42 (dk_at dksX4_become_5 0 rfl rfl)
theorem dX4_become_117 : decode cX4_become 117 = .ok (.getfield 17, 3) := dk_180 0 17 (dk_at dksX4_become_5 1 rfl rfl)
theorem dX4_become_120 : decode cX4_become 120 = .ok (.iconst 0, 1) := dk_3 (dk_at dksX4_become_5 4 rfl rfl)
theorem dX4_become_121 : decode cX4_become 121 = .ok (.aload_n 0, 1) := dk_42 (dk_at dksX4_become_5 5 rfl rfl)
theorem dX4_become_122 : decode cX4_become 122 = .ok (.getfield 17, 3) := dk_180 0 17 (dk_at dksX4_become_5 6 rfl rfl)
theorem dX4_become_125 : decode cX4_become 125 = .ok (.arraylength, 1) := dk_190 (dk_at dksX4_become_5 9 rfl rfl)
theorem dX4_become_126 : decode cX4_become 126 = .ok (.invokestatic 89, 3) := dk_184 0 89 (dk_at dksX4_become_5 10 rfl rfl)
theorem dX4_become_129 : decode cX4_become 129 = .ok (.aload_n 1, 1) := dk_43 (dk_at dksX4_become_5 13 rfl rfl)
theorem dX4_become_130 : decode cX4_become 130 = .ok (.getfield 21, 3) := dk_180 0 21 (dk_at dksX4_become_5 14 rfl rfl)
theorem dX4_become_133 : decode cX4_become 133 = .ok (.iconst 0, 1) := dk_3 (dk_at dksX4_become_5 17 rfl rfl)
theorem dX4_become_134 : decode cX4_become 134 = .ok (.aload_n 0, 1) := dk_42 (dk_at dksX4_become_5 18 rfl rfl)
theorem dX4_become_135 : decode cX4_become 135 = .ok (.getfield 21, 3) := dk_180 0 21 (dk_at dksX4_become_5 19 rfl rfl)
theorem dX4_become_138 : decode cX4_become 138 = .ok (.iconst 0, 1) := dk_3 (dk_at dksX4_become_5 22 rfl rfl)
theorem dX4_become_139 : decode cX4_become 139 = .ok (.aload_n 0, 1) := dk_42 (dk_at dksX4_become_5 23 rfl rfl)
theorem dX4_become_140 : decode cX4_become 140 = .ok (.getfield 21, 3) := dk_180 0 21 (dk_at dksX4_become_6 0 rfl rfl)
theorem dX4_become_143 : decode cX4_become 143 = .ok (.arraylength, 1) := dk_190 (dk_at dksX4_become_6 3 rfl rfl)
theorem dX4_become_144 : decode cX4_become 144 = .ok (.invokestatic 89, 3) := dk_184 0 89 (dk_at dksX4_become_6 4 rfl rfl)
theorem dX4_become_147 : decode cX4_become 147 = .ok (.aload_n 1, 1) := dk_43 (dk_at dksX4_become_6 7 rfl rfl)
theorem dX4_become_148 : decode cX4_become 148 = .ok (.getfield 24, 3) := dk_180 0 24 (dk_at dksX4_become_6 8 rfl rfl)
theorem dX4_become_151 : decode cX4_become 151 = .ok (.iconst 0, 1) := dk_3 (dk_at dksX4_become_6 11 rfl rfl)
theorem dX4_become_152 : decode cX4_become 152 = .ok (.aload_n 0, 1) := dk_42 (dk_at dksX4_become_6 12 rfl rfl)
theorem dX4_become_153 : decode cX4_become 153 = .ok (.getfield 24, 3) := dk_180 0 24 (dk_at dksX4_become_6 13 rfl rfl)
theorem dX4_become_156 : decode cX4_become 156 = .ok (.iconst 0, 1) := dk_3 (dk_at dksX4_become_6 16 rfl rfl)
theorem dX4_become_157 : decode cX4_become 157 = .ok (.sipush 2000, 3) := dk_17 7 208 (dk_at dksX4_become_6 17 rfl rfl)
theorem dX4_become_160 : decode cX4_become 160 = .ok (.invokestatic 89, 3) := dk_184 0 89 (dk_at dksX4_become_6 20 rfl rfl)
theorem dX4_become_163 : decode cX4_become 163 = .ok (.aload_n 0, 1) := dk_42 (dk_at dksX4_become_6 23 rfl rfl)
theorem dX4_become_164 : decode cX4_become 164 = .ok (.aload_n 1, 1) := dk_43 (dk_at dksX4_become_7 0 rfl rfl)
theorem dX4_become_165 : decode cX4_become 165 = .ok (.getfield 53, 3) := dk_180 0 53 (dk_at dksX4_become_7 1 rfl rfl)
theorem dX4_become_168 : decode cX4_become 168 = .ok (.putfield 53, 3) := dk_181 0 53 (dk_at dksX4_become_7 4 rfl rfl)
theorem dX4_become_171 : decode cX4_become 171 = .ok (.aload_n 1, 1) := dk_43 (dk_at dksX4_become_7 7 rfl rfl)
theorem dX4_become_172 : decode cX4_become 172 = .ok (.getfield 27, 3) := dk_180 0 27 (dk_at dksX4_become_7 8 rfl rfl)
theorem dX4_become_175 : decode cX4_become 175 = .ok (.iconst 0, 1) := dk_3 (dk_at dksX4_become_7 11 rfl rfl)
theorem dX4_become_176 : decode cX4_become 176 = .ok (.aload_n 0, 1) := dk_42 (dk_at dksX4_become_7 12 rfl rfl)
theorem dX4_become_177 : decode cX4_become 177 = .ok (.getfield 27, 3) := dk_180 0 27 (dk_at dksX4_become_7 13 rfl rfl)
theorem dX4_become_180 : decode cX4_become 180 = .ok (.iconst 0, 1) := dk_3 (dk_at dksX4_become_7 16 rfl rfl)
theorem dX4_become_181 : decode cX4_become 181 = .ok (.iconst 4, 1) := dk_7 (dk_at dksX4_become_7 17 rfl rfl)
theorem dX4_become_182 : decode cX4_become 182 = .ok (.invokestatic 89, 3) := dk_184 0 89 (dk_at dksX4_become_7 18 rfl rfl)
theorem dX4_become_185 : decode cX4_become 185 = .ok (.aload_n 1, 1) := dk_43 (dk_at dksX4_become_7 21 rfl rfl)
theorem dX4_become_186 : decode cX4_become 186 = .ok (.getfield 30, 3) := dk_180 0 30 (dk_at dksX4_become_8 0 rfl rfl)
theorem dX4_become_189 : decode cX4_become 189 = .ok (.iconst 0, 1) := dk_3 (dk_at dksX4_become_8 3 rfl rfl)
theorem dX4_become_190 : decode cX4_become 190 = .ok (.aload_n 0, 1) := dk_42 (dk_at dksX4_become_8 4 rfl rfl)
theorem dX4_become_191 : decode cX4_become 191 = .ok (.getfield 30, 3) := dk_180 0 30 (dk_at dksX4_become_8 5 rfl rfl)
theorem dX4_become_194 : decode cX4_become 194 = .ok (.iconst 0, 1) := dk_3 (dk_at dksX4_become_8 8 rfl rfl)
theorem dX4_become_195 : decode cX4_become 195 = .ok (.iconst 4, 1) := dk_7 (dk_at dksX4_become_8 9 rfl rfl)
theorem dX4_become_196 : decode cX4_become 196 = .ok (.invokestatic 89, 3) := dk_184 0 89 (dk_at dksX4_become_8 10 rfl rfl)
theorem dX4_become_199 : decode cX4_become 199 = .ok (.aload_n 0, 1) := dk_42 (dk_at dksX4_become_8 13 rfl rfl)
theorem dX4_become_200 : decode cX4_become 200 = .ok (.aload_n 1, 1) := dk_43 (dk_at dksX4_become_8 14 rfl rfl)
theorem dX4_become_201 : decode cX4_become 201 = .ok (.getfield 50, 3) := dk_180 0 50 (dk_at dksX4_become_8 15 rfl rfl)
theorem dX4_become_204 : decode cX4_become 204 = .ok (.putfield 50, 3) := dk_181 0 50 (dk_at dksX4_become_8 18 rfl rfl)
theorem dX4_become_207 : decode cX4_become 207 = .ok (.return_, 1) := dk_177 (dk_at dksX4_become_8 21 rfl rfl)
theorem q59 : (Jvm.Cond.initialized "SledHouse$Team") ∈ lw_all := lw_g (lw_at lw_m1 8 rfl) rfl
theorem q212 : (Jvm.Cond.instantiable "SledHouse$Team" (20 : Nat)) ∈ lw_all := lw_g (lw_at lw_m1 161 rfl) rfl
theorem q214 : (Jvm.Cond.instanceMethod ({ cls := "SledHouse$Team", name := "<init>", desc := "()V" } : Jvm.MethodName)) ∈ lw_all := lw_g (lw_at lw_m1 163 rfl) rfl
theorem q215 : (Jvm.Cond.code ({ cls := "SledHouse$Team", name := "<init>", desc := "()V" } : Jvm.MethodName) prog_12_method_1_code (2 : Nat) (Option.none : Option Jvm.ClassFile.FieldType)) ∈ lw_all := lw_g (lw_at lw_m1 164 rfl) rfl
theorem q216 : (Jvm.Cond.methodLink "SledHouse$Team" (3 : Nat) ({ cls := "java/lang/Object", name := "<init>", desc := "()V" } : Jvm.MethodName)) ∈ lw_all := lw_g (lw_at lw_m1 165 rfl) rfl
theorem q217 : (Jvm.Cond.classLink "SledHouse$Team" (9 : Nat) "SledHouse$Dog") ∈ lw_all := lw_g (lw_at lw_m1 166 rfl) rfl
theorem q220 : (Jvm.Cond.methodLinkNest "SledHouse$Team" (33 : Nat) ({ cls := "SledHouse$Dog", name := "<init>", desc := "()V" } : Jvm.MethodName) "SledHouse") ∈ lw_tbl := lw_at lw_m1 169 rfl
theorem q225 : (Jvm.Cond.fieldLink "SledHouse$Team" (100 : Nat) "SledHouse$Dog" "strength" "I") ∈ lw_all := lw_g (lw_at lw_m1 174 rfl) rfl
theorem q228 : (Jvm.Cond.fieldLink "SledHouse$Team" (95 : Nat) "SledHouse$Dog" "state" "I") ∈ lw_all := lw_g (lw_at lw_m1 177 rfl) rfl
theorem q240 : (Jvm.Cond.fieldLink "SledHouse$Team" (11 : Nat) "SledHouse$Team" "dogs" "[LSledHouse$Dog;") ∈ lw_all := lw_g (lw_at lw_m1 189 rfl) rfl
theorem q242 : (Jvm.Cond.fieldLink "SledHouse$Team" (34 : Nat) "SledHouse$Team" "many" "I") ∈ lw_all := lw_g (lw_at lw_m1 191 rfl) rfl
theorem q244 : (Jvm.Cond.fieldLink "SledHouse$Team" (38 : Nat) "SledHouse$Team" "ownLoad" "I") ∈ lw_all := lw_g (lw_at lw_m1 193 rfl) rfl
theorem q246 : (Jvm.Cond.fieldLink "SledHouse$Team" (41 : Nat) "SledHouse$Team" "ownMeals" "I") ∈ lw_all := lw_g (lw_at lw_m1 195 rfl) rfl
theorem q248 : (Jvm.Cond.fieldLink "SledHouse$Team" (44 : Nat) "SledHouse$Team" "start" "I") ∈ lw_all := lw_g (lw_at lw_m1 197 rfl) rfl
theorem q250 : (Jvm.Cond.fieldLink "SledHouse$Team" (47 : Nat) "SledHouse$Team" "plan" "I") ∈ lw_all := lw_g (lw_at lw_m1 199 rfl) rfl
theorem q252 : (Jvm.Cond.fieldLink "SledHouse$Team" (60 : Nat) "SledHouse$Team" "state" "I") ∈ lw_all := lw_g (lw_at lw_m1 201 rfl) rfl
theorem q255 : (Jvm.Cond.fieldLink "SledHouse$Team" (63 : Nat) "SledHouse$Team" "leg" "I") ∈ lw_all := lw_g (lw_at lw_m1 204 rfl) rfl
theorem q257 : (Jvm.Cond.fieldLink "SledHouse$Team" (66 : Nat) "SledHouse$Team" "lengths" "I") ∈ lw_all := lw_g (lw_at lw_m1 206 rfl) rfl
theorem q259 : (Jvm.Cond.fieldLink "SledHouse$Team" (69 : Nat) "SledHouse$Team" "meals" "I") ∈ lw_all := lw_g (lw_at lw_m1 208 rfl) rfl
theorem q261 : (Jvm.Cond.fieldLink "SledHouse$Team" (72 : Nat) "SledHouse$Team" "run" "I") ∈ lw_all := lw_g (lw_at lw_m1 210 rfl) rfl
theorem q263 : (Jvm.Cond.fieldLink "SledHouse$Team" (75 : Nat) "SledHouse$Team" "rest" "I") ∈ lw_all := lw_g (lw_at lw_m1 212 rfl) rfl
theorem q265 : (Jvm.Cond.fieldLink "SledHouse$Team" (78 : Nat) "SledHouse$Team" "did" "I") ∈ lw_all := lw_g (lw_at lw_m1 214 rfl) rfl
theorem q267 : (Jvm.Cond.fieldLink "SledHouse$Team" (17 : Nat) "SledHouse$Team" "in" "[I") ∈ lw_all := lw_g (lw_at lw_m1 216 rfl) rfl
theorem q270 : (Jvm.Cond.fieldLink "SledHouse$Team" (21 : Nat) "SledHouse$Team" "away" "[I") ∈ lw_all := lw_g (lw_at lw_m1 219 rfl) rfl
theorem q273 : (Jvm.Cond.fieldLink "SledHouse$Team" (24 : Nat) "SledHouse$Team" "signs" "[I") ∈ lw_all := lw_g (lw_at lw_m1 222 rfl) rfl
theorem q275 : (Jvm.Cond.fieldLink "SledHouse$Team" (53 : Nat) "SledHouse$Team" "signMany" "I") ∈ lw_all := lw_g (lw_at lw_m1 224 rfl) rfl
theorem q277 : (Jvm.Cond.fieldLink "SledHouse$Team" (27 : Nat) "SledHouse$Team" "gapFrom" "[I") ∈ lw_all := lw_g (lw_at lw_m1 226 rfl) rfl
theorem q279 : (Jvm.Cond.fieldLink "SledHouse$Team" (30 : Nat) "SledHouse$Team" "gapTo" "[I") ∈ lw_all := lw_g (lw_at lw_m1 228 rfl) rfl
theorem q281 : (Jvm.Cond.fieldLink "SledHouse$Team" (50 : Nat) "SledHouse$Team" "gaps" "I") ∈ lw_all := lw_g (lw_at lw_m1 230 rfl) rfl
theorem q283 : (Jvm.Cond.laysFinal "SledHouse$Team" "SledHouse$Team" "dogs" "[LSledHouse$Dog;") ∈ lw_all := lw_g (lw_at lw_m1 232 rfl) rfl
theorem q284 : (Jvm.Cond.soleField "SledHouse$Team" "dogs") ∈ lw_all := lw_g (lw_at lw_m1 233 rfl) rfl
theorem q285 : (Jvm.Cond.lays "SledHouse$Team" "SledHouse$Team" "many" "I") ∈ lw_all := lw_g (lw_at lw_m1 234 rfl) rfl
theorem q286 : (Jvm.Cond.soleField "SledHouse$Team" "many") ∈ lw_all := lw_g (lw_at lw_m1 235 rfl) rfl
theorem q287 : (Jvm.Cond.lays "SledHouse$Team" "SledHouse$Team" "ownLoad" "I") ∈ lw_all := lw_g (lw_at lw_m1 236 rfl) rfl
theorem q288 : (Jvm.Cond.soleField "SledHouse$Team" "ownLoad") ∈ lw_all := lw_g (lw_at lw_m1 237 rfl) rfl
theorem q289 : (Jvm.Cond.lays "SledHouse$Team" "SledHouse$Team" "ownMeals" "I") ∈ lw_all := lw_g (lw_at lw_m1 238 rfl) rfl
theorem q290 : (Jvm.Cond.soleField "SledHouse$Team" "ownMeals") ∈ lw_all := lw_g (lw_at lw_m1 239 rfl) rfl
theorem q291 : (Jvm.Cond.lays "SledHouse$Team" "SledHouse$Team" "start" "I") ∈ lw_all := lw_g (lw_at lw_m2 0 rfl) rfl
theorem q292 : (Jvm.Cond.soleField "SledHouse$Team" "start") ∈ lw_all := lw_g (lw_at lw_m2 1 rfl) rfl
theorem q293 : (Jvm.Cond.lays "SledHouse$Team" "SledHouse$Team" "plan" "I") ∈ lw_all := lw_g (lw_at lw_m2 2 rfl) rfl
theorem q294 : (Jvm.Cond.soleField "SledHouse$Team" "plan") ∈ lw_all := lw_g (lw_at lw_m2 3 rfl) rfl
theorem q295 : (Jvm.Cond.lays "SledHouse$Team" "SledHouse$Team" "state" "I") ∈ lw_all := lw_g (lw_at lw_m2 4 rfl) rfl
theorem q296 : (Jvm.Cond.soleField "SledHouse$Team" "state") ∈ lw_all := lw_g (lw_at lw_m2 5 rfl) rfl
theorem q297 : (Jvm.Cond.lays "SledHouse$Team" "SledHouse$Team" "leg" "I") ∈ lw_all := lw_g (lw_at lw_m2 6 rfl) rfl
theorem q298 : (Jvm.Cond.soleField "SledHouse$Team" "leg") ∈ lw_all := lw_g (lw_at lw_m2 7 rfl) rfl
theorem q299 : (Jvm.Cond.lays "SledHouse$Team" "SledHouse$Team" "lengths" "I") ∈ lw_all := lw_g (lw_at lw_m2 8 rfl) rfl
theorem q300 : (Jvm.Cond.soleField "SledHouse$Team" "lengths") ∈ lw_all := lw_g (lw_at lw_m2 9 rfl) rfl
theorem q301 : (Jvm.Cond.lays "SledHouse$Team" "SledHouse$Team" "meals" "I") ∈ lw_all := lw_g (lw_at lw_m2 10 rfl) rfl
theorem q302 : (Jvm.Cond.soleField "SledHouse$Team" "meals") ∈ lw_all := lw_g (lw_at lw_m2 11 rfl) rfl
theorem q303 : (Jvm.Cond.lays "SledHouse$Team" "SledHouse$Team" "run" "I") ∈ lw_all := lw_g (lw_at lw_m2 12 rfl) rfl
theorem q304 : (Jvm.Cond.soleField "SledHouse$Team" "run") ∈ lw_all := lw_g (lw_at lw_m2 13 rfl) rfl
theorem q305 : (Jvm.Cond.lays "SledHouse$Team" "SledHouse$Team" "rest" "I") ∈ lw_all := lw_g (lw_at lw_m2 14 rfl) rfl
theorem q306 : (Jvm.Cond.soleField "SledHouse$Team" "rest") ∈ lw_all := lw_g (lw_at lw_m2 15 rfl) rfl
theorem q307 : (Jvm.Cond.lays "SledHouse$Team" "SledHouse$Team" "did" "I") ∈ lw_all := lw_g (lw_at lw_m2 16 rfl) rfl
theorem q308 : (Jvm.Cond.soleField "SledHouse$Team" "did") ∈ lw_all := lw_g (lw_at lw_m2 17 rfl) rfl
theorem q309 : (Jvm.Cond.laysFinal "SledHouse$Team" "SledHouse$Team" "in" "[I") ∈ lw_all := lw_g (lw_at lw_m2 18 rfl) rfl
theorem q310 : (Jvm.Cond.soleField "SledHouse$Team" "in") ∈ lw_all := lw_g (lw_at lw_m2 19 rfl) rfl
theorem q311 : (Jvm.Cond.laysFinal "SledHouse$Team" "SledHouse$Team" "away" "[I") ∈ lw_all := lw_g (lw_at lw_m2 20 rfl) rfl
theorem q312 : (Jvm.Cond.soleField "SledHouse$Team" "away") ∈ lw_all := lw_g (lw_at lw_m2 21 rfl) rfl
theorem q313 : (Jvm.Cond.laysFinal "SledHouse$Team" "SledHouse$Team" "signs" "[I") ∈ lw_all := lw_g (lw_at lw_m2 22 rfl) rfl
theorem q314 : (Jvm.Cond.soleField "SledHouse$Team" "signs") ∈ lw_all := lw_g (lw_at lw_m2 23 rfl) rfl
theorem q315 : (Jvm.Cond.lays "SledHouse$Team" "SledHouse$Team" "signMany" "I") ∈ lw_all := lw_g (lw_at lw_m2 24 rfl) rfl
theorem q316 : (Jvm.Cond.soleField "SledHouse$Team" "signMany") ∈ lw_all := lw_g (lw_at lw_m2 25 rfl) rfl
theorem q317 : (Jvm.Cond.laysFinal "SledHouse$Team" "SledHouse$Team" "gapFrom" "[I") ∈ lw_all := lw_g (lw_at lw_m2 26 rfl) rfl
theorem q318 : (Jvm.Cond.soleField "SledHouse$Team" "gapFrom") ∈ lw_all := lw_g (lw_at lw_m2 27 rfl) rfl
theorem q319 : (Jvm.Cond.laysFinal "SledHouse$Team" "SledHouse$Team" "gapTo" "[I") ∈ lw_all := lw_g (lw_at lw_m2 28 rfl) rfl
theorem q320 : (Jvm.Cond.soleField "SledHouse$Team" "gapTo") ∈ lw_all := lw_g (lw_at lw_m2 29 rfl) rfl
theorem q321 : (Jvm.Cond.lays "SledHouse$Team" "SledHouse$Team" "gaps" "I") ∈ lw_all := lw_g (lw_at lw_m2 30 rfl) rfl
theorem q322 : (Jvm.Cond.soleField "SledHouse$Team" "gaps") ∈ lw_all := lw_g (lw_at lw_m2 31 rfl) rfl
theorem q323 : (Jvm.Cond.superclass "SledHouse$Team" "java/lang/Object") ∈ lw_all := lw_g (lw_at lw_m2 32 rfl) rfl
theorem q325 : (Jvm.Cond.fieldLink "SledHouse$Team" (107 : Nat) "SledHouse$World" "lengthOf" "[I") ∈ lw_all := lw_g (lw_at lw_m2 34 rfl) rfl
theorem q329 : (Jvm.Cond.fieldLink "SledHouse$Team" (156 : Nat) "SledHouse$World" "hardnessOf" "[I") ∈ lw_all := lw_g (lw_at lw_m2 38 rfl) rfl
theorem q332 : (Jvm.Cond.fieldLink "SledHouse$Team" (119 : Nat) "SledHouse$World" "cold" "[I") ∈ lw_all := lw_g (lw_at lw_m2 41 rfl) rfl
theorem q338 : (Jvm.Cond.fieldLink "SledHouse$Team" (168 : Nat) "SledHouse$World" "legMany" "I") ∈ lw_all := lw_g (lw_at lw_m2 47 rfl) rfl
theorem q344 : (Jvm.Cond.fieldLink "SledHouse$Team" (171 : Nat) "SledHouse$World" "each" "I") ∈ lw_all := lw_g (lw_at lw_m2 53 rfl) rfl
theorem q568 : (Jvm.Cond.fieldLinkNest "SledHouse$Team" (131 : Nat) "SledHouse$Plan" "rules" "[LSledHouse$Rule;" "SledHouse") ∈ lw_tbl := lw_at lw_m3 37 rfl
theorem q674 : (Jvm.Cond.fieldLinkNest "SledHouse$Team" (135 : Nat) "SledHouse$Rule" "act" "I" "SledHouse") ∈ lw_tbl := lw_at lw_m3 143 rfl
theorem q848 : (Jvm.Cond.instanceMethod ({ cls := "SledHouse$Team", name := "enter", desc := "(IIIII)V" } : Jvm.MethodName)) ∈ lw_all := lw_g (lw_at lw_m4 77 rfl) rfl
theorem q849 : (Jvm.Cond.selects "SledHouse$Team" ({ cls := "SledHouse$Team", name := "enter", desc := "(IIIII)V" } : Jvm.MethodName) ({ cls := "SledHouse$Team", name := "enter", desc := "(IIIII)V" } : Jvm.MethodName)) ∈ lw_all := lw_g (lw_at lw_m4 78 rfl) rfl
theorem q850 : (Jvm.Cond.code ({ cls := "SledHouse$Team", name := "enter", desc := "(IIIII)V" } : Jvm.MethodName) prog_12_method_2_code (7 : Nat) (Option.none : Option Jvm.ClassFile.FieldType)) ∈ lw_all := lw_g (lw_at lw_m4 79 rfl) rfl
theorem q851 : (Jvm.Cond.methodLink "SledHouse$Team" (56 : Nat) ({ cls := "SledHouse$Team", name := "begin", desc := "()V" } : Jvm.MethodName)) ∈ lw_all := lw_g (lw_at lw_m4 80 rfl) rfl
theorem q852 : (Jvm.Cond.instanceMethod ({ cls := "SledHouse$Team", name := "begin", desc := "()V" } : Jvm.MethodName)) ∈ lw_all := lw_g (lw_at lw_m4 81 rfl) rfl
theorem q853 : (Jvm.Cond.selects "SledHouse$Team" ({ cls := "SledHouse$Team", name := "begin", desc := "()V" } : Jvm.MethodName) ({ cls := "SledHouse$Team", name := "begin", desc := "()V" } : Jvm.MethodName)) ∈ lw_all := lw_g (lw_at lw_m4 82 rfl) rfl
theorem q854 : (Jvm.Cond.code ({ cls := "SledHouse$Team", name := "begin", desc := "()V" } : Jvm.MethodName) prog_12_method_3_code (2 : Nat) (Option.none : Option Jvm.ClassFile.FieldType)) ∈ lw_all := lw_g (lw_at lw_m4 83 rfl) rfl
theorem q855 : (Jvm.Cond.methodLink "SledHouse$Team" (59 : Nat) ({ cls := "SledHouse$Dog", name := "begin", desc := "()V" } : Jvm.MethodName)) ∈ lw_all := lw_g (lw_at lw_m4 84 rfl) rfl
theorem q884 : (Jvm.Cond.instanceMethod ({ cls := "SledHouse$Team", name := "step", desc := "(LSledHouse$Plan;LSledHouse$World;I)V" } : Jvm.MethodName)) ∈ lw_all := lw_g (lw_at lw_m4 113 rfl) rfl
theorem q885 : (Jvm.Cond.selects "SledHouse$Team" ({ cls := "SledHouse$Team", name := "step", desc := "(LSledHouse$Plan;LSledHouse$World;I)V" } : Jvm.MethodName) ({ cls := "SledHouse$Team", name := "step", desc := "(LSledHouse$Plan;LSledHouse$World;I)V" } : Jvm.MethodName)) ∈ lw_all := lw_g (lw_at lw_m4 114 rfl) rfl
theorem q886 : (Jvm.Cond.code ({ cls := "SledHouse$Team", name := "step", desc := "(LSledHouse$Plan;LSledHouse$World;I)V" } : Jvm.MethodName) prog_12_method_12_code (6 : Nat) (Option.none : Option Jvm.ClassFile.FieldType)) ∈ lw_all := lw_g (lw_at lw_m4 115 rfl) rfl
theorem q887 : (Jvm.Cond.methodLink "SledHouse$Team" (125 : Nat) ({ cls := "SledHouse$Plan", name := "rule", desc := "(LSledHouse$Team;LSledHouse$World;I)I" } : Jvm.MethodName)) ∈ lw_all := lw_g (lw_at lw_m4 116 rfl) rfl
theorem q900 : (Jvm.Cond.instanceMethod ({ cls := "SledHouse$Team", name := "told", desc := "(ILSledHouse$World;I)I" } : Jvm.MethodName)) ∈ lw_all := lw_g (lw_at lw_m4 129 rfl) rfl
theorem q901 : (Jvm.Cond.selects "SledHouse$Team" ({ cls := "SledHouse$Team", name := "told", desc := "(ILSledHouse$World;I)I" } : Jvm.MethodName) ({ cls := "SledHouse$Team", name := "told", desc := "(ILSledHouse$World;I)I" } : Jvm.MethodName)) ∈ lw_all := lw_g (lw_at lw_m4 130 rfl) rfl
theorem q902 : (Jvm.Cond.code ({ cls := "SledHouse$Team", name := "told", desc := "(ILSledHouse$World;I)I" } : Jvm.MethodName) prog_12_method_11_code (4 : Nat) (Option.some Jvm.ClassFile.FieldType.int)) ∈ lw_all := lw_g (lw_at lw_m4 131 rfl) rfl
theorem q903 : (Jvm.Cond.methodLink "SledHouse$Team" (112 : Nat) ({ cls := "SledHouse$Team", name := "weakest", desc := "()LSledHouse$Dog;" } : Jvm.MethodName)) ∈ lw_all := lw_g (lw_at lw_m4 132 rfl) rfl
theorem q904 : (Jvm.Cond.privateMethod ({ cls := "SledHouse$Team", name := "weakest", desc := "()LSledHouse$Dog;" } : Jvm.MethodName)) ∈ lw_tbl := lw_at lw_m4 133 rfl
theorem q905 : (Jvm.Cond.instanceMethod ({ cls := "SledHouse$Team", name := "weakest", desc := "()LSledHouse$Dog;" } : Jvm.MethodName)) ∈ lw_all := lw_g (lw_at lw_m4 134 rfl) rfl
theorem q906 : (Jvm.Cond.code ({ cls := "SledHouse$Team", name := "weakest", desc := "()LSledHouse$Dog;" } : Jvm.MethodName) prog_12_method_9_code (3 : Nat) (Option.some (Jvm.ClassFile.FieldType.object "SledHouse$Dog"))) ∈ lw_all := lw_g (lw_at lw_m4 135 rfl) rfl
theorem q907 : (Jvm.Cond.methodLink "SledHouse$Team" (116 : Nat) ({ cls := "SledHouse$Team", name := "mean", desc := "()I" } : Jvm.MethodName)) ∈ lw_all := lw_g (lw_at lw_m4 136 rfl) rfl
theorem q908 : (Jvm.Cond.privateMethod ({ cls := "SledHouse$Team", name := "mean", desc := "()I" } : Jvm.MethodName)) ∈ lw_tbl := lw_at lw_m4 137 rfl
theorem q909 : (Jvm.Cond.instanceMethod ({ cls := "SledHouse$Team", name := "mean", desc := "()I" } : Jvm.MethodName)) ∈ lw_all := lw_g (lw_at lw_m4 138 rfl) rfl
theorem q910 : (Jvm.Cond.code ({ cls := "SledHouse$Team", name := "mean", desc := "()I" } : Jvm.MethodName) prog_12_method_8_code (3 : Nat) (Option.some Jvm.ClassFile.FieldType.int)) ∈ lw_all := lw_g (lw_at lw_m4 139 rfl) rfl
theorem q911 : (Jvm.Cond.methodLink "SledHouse$Team" (103 : Nat) ({ cls := "SledHouse$Team", name := "pulling", desc := "()I" } : Jvm.MethodName)) ∈ lw_all := lw_g (lw_at lw_m4 140 rfl) rfl
theorem q912 : (Jvm.Cond.instanceMethod ({ cls := "SledHouse$Team", name := "pulling", desc := "()I" } : Jvm.MethodName)) ∈ lw_all := lw_g (lw_at lw_m4 141 rfl) rfl
theorem q913 : (Jvm.Cond.selects "SledHouse$Team" ({ cls := "SledHouse$Team", name := "pulling", desc := "()I" } : Jvm.MethodName) ({ cls := "SledHouse$Team", name := "pulling", desc := "()I" } : Jvm.MethodName)) ∈ lw_all := lw_g (lw_at lw_m4 142 rfl) rfl
theorem q914 : (Jvm.Cond.code ({ cls := "SledHouse$Team", name := "pulling", desc := "()I" } : Jvm.MethodName) prog_12_method_6_code (1 : Nat) (Option.some Jvm.ClassFile.FieldType.int)) ∈ lw_all := lw_g (lw_at lw_m4 143 rfl) rfl
theorem q915 : (Jvm.Cond.methodLink "SledHouse$Team" (96 : Nat) ({ cls := "SledHouse$Team", name := "inState", desc := "(I)I" } : Jvm.MethodName)) ∈ lw_all := lw_g (lw_at lw_m4 144 rfl) rfl
theorem q916 : (Jvm.Cond.privateMethod ({ cls := "SledHouse$Team", name := "inState", desc := "(I)I" } : Jvm.MethodName)) ∈ lw_tbl := lw_at lw_m4 145 rfl
theorem q917 : (Jvm.Cond.instanceMethod ({ cls := "SledHouse$Team", name := "inState", desc := "(I)I" } : Jvm.MethodName)) ∈ lw_all := lw_g (lw_at lw_m4 146 rfl) rfl
theorem q918 : (Jvm.Cond.code ({ cls := "SledHouse$Team", name := "inState", desc := "(I)I" } : Jvm.MethodName) prog_12_method_5_code (4 : Nat) (Option.some Jvm.ClassFile.FieldType.int)) ∈ lw_all := lw_g (lw_at lw_m4 147 rfl) rfl
theorem q919 : (Jvm.Cond.methodLink "SledHouse$Team" (122 : Nat) ({ cls := "SledHouse$Team", name := "load", desc := "()I" } : Jvm.MethodName)) ∈ lw_all := lw_g (lw_at lw_m4 148 rfl) rfl
theorem q920 : (Jvm.Cond.instanceMethod ({ cls := "SledHouse$Team", name := "load", desc := "()I" } : Jvm.MethodName)) ∈ lw_all := lw_g (lw_at lw_m4 149 rfl) rfl
theorem q921 : (Jvm.Cond.selects "SledHouse$Team" ({ cls := "SledHouse$Team", name := "load", desc := "()I" } : Jvm.MethodName) ({ cls := "SledHouse$Team", name := "load", desc := "()I" } : Jvm.MethodName)) ∈ lw_all := lw_g (lw_at lw_m4 150 rfl) rfl
theorem q922 : (Jvm.Cond.code ({ cls := "SledHouse$Team", name := "load", desc := "()I" } : Jvm.MethodName) prog_12_method_7_code (1 : Nat) (Option.some Jvm.ClassFile.FieldType.int)) ∈ lw_all := lw_g (lw_at lw_m4 151 rfl) rfl
theorem q923 : (Jvm.Cond.methodLink "SledHouse$Team" (140 : Nat) ({ cls := "SledHouse$Team", name := "go", desc := "(LSledHouse$World;I)V" } : Jvm.MethodName)) ∈ lw_all := lw_g (lw_at lw_m4 152 rfl) rfl
theorem q924 : (Jvm.Cond.privateMethod ({ cls := "SledHouse$Team", name := "go", desc := "(LSledHouse$World;I)V" } : Jvm.MethodName)) ∈ lw_tbl := lw_at lw_m4 153 rfl
theorem q925 : (Jvm.Cond.instanceMethod ({ cls := "SledHouse$Team", name := "go", desc := "(LSledHouse$World;I)V" } : Jvm.MethodName)) ∈ lw_all := lw_g (lw_at lw_m4 154 rfl) rfl
theorem q926 : (Jvm.Cond.code ({ cls := "SledHouse$Team", name := "go", desc := "(LSledHouse$World;I)V" } : Jvm.MethodName) prog_12_method_15_code (7 : Nat) (Option.none : Option Jvm.ClassFile.FieldType)) ∈ lw_all := lw_g (lw_at lw_m4 155 rfl) rfl
theorem q927 : (Jvm.Cond.methodLink "SledHouse$Team" (159 : Nat) ({ cls := "java/lang/Math", name := "max", desc := "(II)I" } : Jvm.MethodName)) ∈ lw_all := lw_g (lw_at lw_m4 156 rfl) rfl
theorem q930 : (Jvm.Cond.methodLink "SledHouse$Team" (165 : Nat) ({ cls := "SledHouse$Team", name := "comes", desc := "(LSledHouse$World;I)V" } : Jvm.MethodName)) ∈ lw_all := lw_g (lw_at lw_m4 159 rfl) rfl
theorem q931 : (Jvm.Cond.privateMethod ({ cls := "SledHouse$Team", name := "comes", desc := "(LSledHouse$World;I)V" } : Jvm.MethodName)) ∈ lw_tbl := lw_at lw_m4 160 rfl
theorem q932 : (Jvm.Cond.instanceMethod ({ cls := "SledHouse$Team", name := "comes", desc := "(LSledHouse$World;I)V" } : Jvm.MethodName)) ∈ lw_all := lw_g (lw_at lw_m4 161 rfl) rfl
theorem q933 : (Jvm.Cond.code ({ cls := "SledHouse$Team", name := "comes", desc := "(LSledHouse$World;I)V" } : Jvm.MethodName) prog_12_method_16_code (4 : Nat) (Option.none : Option Jvm.ClassFile.FieldType)) ∈ lw_all := lw_g (lw_at lw_m4 162 rfl) rfl
theorem q934 : (Jvm.Cond.methodLink "SledHouse$Team" (152 : Nat) ({ cls := "SledHouse$Dog", name := "leave", desc := "(I)V" } : Jvm.MethodName)) ∈ lw_all := lw_g (lw_at lw_m4 163 rfl) rfl
theorem q938 : (Jvm.Cond.methodLink "SledHouse$Team" (144 : Nat) ({ cls := "SledHouse$Team", name := "rests", desc := "(ILSledHouse$World;I)V" } : Jvm.MethodName)) ∈ lw_all := lw_g (lw_at lw_m4 167 rfl) rfl
theorem q939 : (Jvm.Cond.privateMethod ({ cls := "SledHouse$Team", name := "rests", desc := "(ILSledHouse$World;I)V" } : Jvm.MethodName)) ∈ lw_tbl := lw_at lw_m4 168 rfl
theorem q940 : (Jvm.Cond.instanceMethod ({ cls := "SledHouse$Team", name := "rests", desc := "(ILSledHouse$World;I)V" } : Jvm.MethodName)) ∈ lw_all := lw_g (lw_at lw_m4 169 rfl) rfl
theorem q941 : (Jvm.Cond.code ({ cls := "SledHouse$Team", name := "rests", desc := "(ILSledHouse$World;I)V" } : Jvm.MethodName) prog_12_method_13_code (5 : Nat) (Option.none : Option Jvm.ClassFile.FieldType)) ∈ lw_all := lw_g (lw_at lw_m4 170 rfl) rfl
theorem q942 : (Jvm.Cond.methodLink "SledHouse$Team" (148 : Nat) ({ cls := "SledHouse$Team", name := "gain", desc := "(I)V" } : Jvm.MethodName)) ∈ lw_all := lw_g (lw_at lw_m4 171 rfl) rfl
theorem q943 : (Jvm.Cond.privateMethod ({ cls := "SledHouse$Team", name := "gain", desc := "(I)V" } : Jvm.MethodName)) ∈ lw_tbl := lw_at lw_m4 172 rfl
theorem q944 : (Jvm.Cond.instanceMethod ({ cls := "SledHouse$Team", name := "gain", desc := "(I)V" } : Jvm.MethodName)) ∈ lw_all := lw_g (lw_at lw_m4 173 rfl) rfl
theorem q945 : (Jvm.Cond.code ({ cls := "SledHouse$Team", name := "gain", desc := "(I)V" } : Jvm.MethodName) prog_12_method_14_code (3 : Nat) (Option.none : Option Jvm.ClassFile.FieldType)) ∈ lw_all := lw_g (lw_at lw_m4 174 rfl) rfl
theorem q946 : (Jvm.Cond.methodLink "SledHouse$Team" (155 : Nat) ({ cls := "SledHouse$Dog", name := "gain", desc := "(I)V" } : Jvm.MethodName)) ∈ lw_all := lw_g (lw_at lw_m4 175 rfl) rfl
theorem q954 : (Jvm.Cond.instanceMethod ({ cls := "SledHouse$Team", name := "sign", desc := "(LSledHouse$World;I)V" } : Jvm.MethodName)) ∈ lw_all := lw_g (lw_at lw_m4 183 rfl) rfl
theorem q955 : (Jvm.Cond.selects "SledHouse$Team" ({ cls := "SledHouse$Team", name := "sign", desc := "(LSledHouse$World;I)V" } : Jvm.MethodName) ({ cls := "SledHouse$Team", name := "sign", desc := "(LSledHouse$World;I)V" } : Jvm.MethodName)) ∈ lw_all := lw_g (lw_at lw_m4 184 rfl) rfl
theorem q956 : (Jvm.Cond.code ({ cls := "SledHouse$Team", name := "sign", desc := "(LSledHouse$World;I)V" } : Jvm.MethodName) prog_12_method_18_code (3 : Nat) (Option.none : Option Jvm.ClassFile.FieldType)) ∈ lw_all := lw_g (lw_at lw_m4 185 rfl) rfl
theorem q957 : (Jvm.Cond.methodLink "SledHouse$Team" (174 : Nat) ({ cls := "SledHouse$Team", name := "isQuiet", desc := "(I)Z" } : Jvm.MethodName)) ∈ lw_all := lw_g (lw_at lw_m4 186 rfl) rfl
theorem q958 : (Jvm.Cond.privateMethod ({ cls := "SledHouse$Team", name := "isQuiet", desc := "(I)Z" } : Jvm.MethodName)) ∈ lw_tbl := lw_at lw_m4 187 rfl
theorem q959 : (Jvm.Cond.instanceMethod ({ cls := "SledHouse$Team", name := "isQuiet", desc := "(I)Z" } : Jvm.MethodName)) ∈ lw_all := lw_g (lw_at lw_m4 188 rfl) rfl
theorem q960 : (Jvm.Cond.code ({ cls := "SledHouse$Team", name := "isQuiet", desc := "(I)Z" } : Jvm.MethodName) prog_12_method_17_code (4 : Nat) (Option.some Jvm.ClassFile.FieldType.boolean)) ∈ lw_all := lw_g (lw_at lw_m4 189 rfl) rfl
theorem q961 : (Jvm.Cond.methodLink "SledHouse$Team" (178 : Nat) ({ cls := "SledHouse$Team", name := "way", desc := "(LSledHouse$World;)I" } : Jvm.MethodName)) ∈ lw_all := lw_g (lw_at lw_m4 190 rfl) rfl
theorem q962 : (Jvm.Cond.instanceMethod ({ cls := "SledHouse$Team", name := "way", desc := "(LSledHouse$World;)I" } : Jvm.MethodName)) ∈ lw_all := lw_g (lw_at lw_m4 191 rfl) rfl
theorem q963 : (Jvm.Cond.selects "SledHouse$Team" ({ cls := "SledHouse$Team", name := "way", desc := "(LSledHouse$World;)I" } : Jvm.MethodName) ({ cls := "SledHouse$Team", name := "way", desc := "(LSledHouse$World;)I" } : Jvm.MethodName)) ∈ lw_all := lw_g (lw_at lw_m4 192 rfl) rfl
theorem q964 : (Jvm.Cond.code ({ cls := "SledHouse$Team", name := "way", desc := "(LSledHouse$World;)I" } : Jvm.MethodName) prog_12_method_10_code (4 : Nat) (Option.some Jvm.ClassFile.FieldType.int)) ∈ lw_all := lw_g (lw_at lw_m4 193 rfl) rfl
theorem q1087 : (Jvm.Cond.instanceMethod ({ cls := "SledHouse$Team", name := "become", desc := "(LSledHouse$Team;)V" } : Jvm.MethodName)) ∈ lw_all := lw_g (lw_at lw_m5 76 rfl) rfl
theorem q1088 : (Jvm.Cond.selects "SledHouse$Team" ({ cls := "SledHouse$Team", name := "become", desc := "(LSledHouse$Team;)V" } : Jvm.MethodName) ({ cls := "SledHouse$Team", name := "become", desc := "(LSledHouse$Team;)V" } : Jvm.MethodName)) ∈ lw_all := lw_g (lw_at lw_m5 77 rfl) rfl
theorem q1089 : (Jvm.Cond.code ({ cls := "SledHouse$Team", name := "become", desc := "(LSledHouse$Team;)V" } : Jvm.MethodName) prog_12_method_4_code (3 : Nat) (Option.none : Option Jvm.ClassFile.FieldType)) ∈ lw_all := lw_g (lw_at lw_m5 78 rfl) rfl
theorem q1090 : (Jvm.Cond.methodLink "SledHouse$Team" (81 : Nat) ({ cls := "SledHouse$Team", name := "enter", desc := "(IIIII)V" } : Jvm.MethodName)) ∈ lw_all := lw_g (lw_at lw_m5 79 rfl) rfl
theorem q1091 : (Jvm.Cond.methodLink "SledHouse$Team" (85 : Nat) ({ cls := "SledHouse$Dog", name := "become", desc := "(LSledHouse$Dog;)V" } : Jvm.MethodName)) ∈ lw_all := lw_g (lw_at lw_m5 80 rfl) rfl
theorem q1095 : (Jvm.Cond.methodLink "SledHouse$Team" (89 : Nat) ({ cls := "java/lang/System", name := "arraycopy", desc := "(Ljava/lang/Object;ILjava/lang/Object;II)V" } : Jvm.MethodName)) ∈ lw_all := lw_g (lw_at lw_m5 84 rfl) rfl
theorem in_X4 : ∀ w ∈ wsX40, w ∈ lw_all := lw_in wsX40 [283, 285, 287, 289, 291, 293, 295, 297, 299, 301, 303, 305, 307, 309, 311, 313, 315, 317, 319, 321] (by decide +kernel) (by decide +kernel)

/-! SledHouse$Dog -/
set_option maxRecDepth 100000
def RX5 : String := "SledHouse$Dog"
def TX5 : u_T := fun k => match k with
  | 0 => ("SledHouse$Dog", "strength", "I", false)
  | 1 => ("SledHouse$Dog", "state", "I", false)
  | _ => ("SledHouse$Dog", "where", "I", false)
def tyX5 : Nat → FieldType := fun k => match k with
  | 0 => .int
  | 1 => .int
  | _ => .int
abbrev wsX50 : List Cond := u_ws RX5 TX5 3
theorem nmX5 : ∀ a, a < 3 → ∀ b, b < 3 → a ≠ b → (TX5 a).2.1 ≠ (TX5 b).2.1 := by decide +kernel
theorem tyX5_ok : ∀ k, k < 3 → parseFieldDescriptor (TX5 k).2.2.1 = some (tyX5 k) := by decide +kernel
abbrev cX5_init : ByteArray := prog_2_method_1_code
def yX5_init : MethodName := ⟨RX5, "<init>", "()V"⟩
theorem dX5_init_0 : decode cX5_init 0 = .ok (.aload_n 0, 1) := by decide +kernel
theorem dX5_init_1 : decode cX5_init 1 = .ok (.invokespecial 3, 3) := by decide +kernel
theorem dX5_init_4 : decode cX5_init 4 = .ok (.return_, 1) := by decide +kernel
abbrev cX5_begin : ByteArray := prog_2_method_2_code
def yX5_begin : MethodName := ⟨RX5, "begin", "()V"⟩
def dkwX5_begin_0 : List UInt8 := [42, 17, 3, 232, 181, 0, 9, 42, 3, 181, 0, 15, 42, 2, 181, 0, 18, 177]
abbrev dktX5_begin_0 : List UInt8 := dkwX5_begin_0 ++ []
theorem dksX5_begin_0 : cX5_begin.data.toList.drop 0 = dktX5_begin_0 := by decide +kernel
theorem dX5_begin_0 : decode cX5_begin 0 = .ok (.aload_n 0, 1) := dk_42 (dk_at dksX5_begin_0 0 rfl rfl)
theorem dX5_begin_1 : decode cX5_begin 1 = .ok (.sipush 1000, 3) := dk_17 3 232 (dk_at dksX5_begin_0 1 rfl rfl)
theorem dX5_begin_4 : decode cX5_begin 4 = .ok (.putfield 9, 3) := dk_181 0 9 (dk_at dksX5_begin_0 4 rfl rfl)
theorem dX5_begin_7 : decode cX5_begin 7 = .ok (.aload_n 0, 1) := dk_42 (dk_at dksX5_begin_0 7 rfl rfl)
theorem dX5_begin_8 : decode cX5_begin 8 = .ok (.iconst 0, 1) := dk_3 (dk_at dksX5_begin_0 8 rfl rfl)
theorem dX5_begin_9 : decode cX5_begin 9 = .ok (.putfield 15, 3) := dk_181 0 15 (dk_at dksX5_begin_0 9 rfl rfl)
theorem dX5_begin_12 : decode cX5_begin 12 = .ok (.aload_n 0, 1) := dk_42 (dk_at dksX5_begin_0 12 rfl rfl)
theorem dX5_begin_13 : decode cX5_begin 13 = .ok (.iconst (-1), 1) := dk_2 (dk_at dksX5_begin_0 13 rfl rfl)
theorem dX5_begin_14 : decode cX5_begin 14 = .ok (.putfield 18, 3) := dk_181 0 18 (dk_at dksX5_begin_0 14 rfl rfl)
theorem dX5_begin_17 : decode cX5_begin 17 = .ok (.return_, 1) := dk_177 (dk_at dksX5_begin_0 17 rfl rfl)
abbrev cX5_leave : ByteArray := prog_2_method_5_code
def yX5_leave : MethodName := ⟨RX5, "leave", "(I)V"⟩
def dkwX5_leave_0 : List UInt8 := [42, 5, 181, 0, 15, 42, 27, 181, 0, 18, 177]
abbrev dktX5_leave_0 : List UInt8 := dkwX5_leave_0 ++ []
theorem dksX5_leave_0 : cX5_leave.data.toList.drop 0 = dktX5_leave_0 := by decide +kernel
theorem dX5_leave_0 : decode cX5_leave 0 = .ok (.aload_n 0, 1) := dk_42 (dk_at dksX5_leave_0 0 rfl rfl)
theorem dX5_leave_1 : decode cX5_leave 1 = .ok (.iconst 2, 1) := dk_5 (dk_at dksX5_leave_0 1 rfl rfl)
theorem dX5_leave_2 : decode cX5_leave 2 = .ok (.putfield 15, 3) := dk_181 0 15 (dk_at dksX5_leave_0 2 rfl rfl)
theorem dX5_leave_5 : decode cX5_leave 5 = .ok (.aload_n 0, 1) := dk_42 (dk_at dksX5_leave_0 5 rfl rfl)
theorem dX5_leave_6 : decode cX5_leave 6 = .ok (.iload_n 1, 1) := dk_27 (dk_at dksX5_leave_0 6 rfl rfl)
theorem dX5_leave_7 : decode cX5_leave 7 = .ok (.putfield 18, 3) := dk_181 0 18 (dk_at dksX5_leave_0 7 rfl rfl)
theorem dX5_leave_10 : decode cX5_leave 10 = .ok (.return_, 1) := dk_177 (dk_at dksX5_leave_0 10 rfl rfl)
abbrev cX5_gain : ByteArray := prog_2_method_4_code
def yX5_gain : MethodName := ⟨RX5, "gain", "(I)V"⟩
def dkwX5_gain_0 : List UInt8 := [42, 17, 3, 232, 42, 180, 0, 9, 27, 96, 184, 0, 21, 181, 0, 9, 177]
abbrev dktX5_gain_0 : List UInt8 := dkwX5_gain_0 ++ []
theorem dksX5_gain_0 : cX5_gain.data.toList.drop 0 = dktX5_gain_0 := by decide +kernel
theorem dX5_gain_0 : decode cX5_gain 0 = .ok (.aload_n 0, 1) := dk_42 (dk_at dksX5_gain_0 0 rfl rfl)
theorem dX5_gain_1 : decode cX5_gain 1 = .ok (.sipush 1000, 3) := dk_17 3 232 (dk_at dksX5_gain_0 1 rfl rfl)
theorem dX5_gain_4 : decode cX5_gain 4 = .ok (.aload_n 0, 1) := dk_42 (dk_at dksX5_gain_0 4 rfl rfl)
theorem dX5_gain_5 : decode cX5_gain 5 = .ok (.getfield 9, 3) := dk_180 0 9 (dk_at dksX5_gain_0 5 rfl rfl)
theorem dX5_gain_8 : decode cX5_gain 8 = .ok (.iload_n 1, 1) := dk_27 (dk_at dksX5_gain_0 8 rfl rfl)
theorem dX5_gain_9 : decode cX5_gain 9 = .ok (.iadd, 1) := dk_96 (dk_at dksX5_gain_0 9 rfl rfl)
theorem dX5_gain_10 : decode cX5_gain 10 = .ok (.invokestatic 21, 3) := dk_184 0 21 (dk_at dksX5_gain_0 10 rfl rfl)
theorem dX5_gain_13 : decode cX5_gain 13 = .ok (.putfield 9, 3) := dk_181 0 9 (dk_at dksX5_gain_0 13 rfl rfl)
theorem dX5_gain_16 : decode cX5_gain 16 = .ok (.return_, 1) := dk_177 (dk_at dksX5_gain_0 16 rfl rfl)
abbrev cX5_become : ByteArray := prog_2_method_3_code
def yX5_become : MethodName := ⟨RX5, "become", "(LSledHouse$Dog;)V"⟩
def dkwX5_become_1 : List UInt8 := [177]
abbrev dktX5_become_1 : List UInt8 := dkwX5_become_1 ++ []
def dkwX5_become_0 : List UInt8 := [42, 43, 180, 0, 9, 181, 0, 9, 42, 43, 180, 0, 15, 181, 0, 15, 42, 43, 180, 0, 18, 181, 0, 18]
abbrev dktX5_become_0 : List UInt8 := dkwX5_become_0 ++ dktX5_become_1
theorem dksX5_become_0 : cX5_become.data.toList.drop 0 = dktX5_become_0 := by decide +kernel
theorem dksX5_become_1 : cX5_become.data.toList.drop 24 = dktX5_become_1 := dk_seg dksX5_become_0 24 rfl rfl
theorem dX5_become_0 : decode cX5_become 0 = .ok (.aload_n 0, 1) := dk_42 (dk_at dksX5_become_0 0 rfl rfl)
theorem dX5_become_1 : decode cX5_become 1 = .ok (.aload_n 1, 1) := dk_43 (dk_at dksX5_become_0 1 rfl rfl)
theorem dX5_become_2 : decode cX5_become 2 = .ok (.getfield 9, 3) := dk_180 0 9 (dk_at dksX5_become_0 2 rfl rfl)
theorem dX5_become_5 : decode cX5_become 5 = .ok (.putfield 9, 3) := dk_181 0 9 (dk_at dksX5_become_0 5 rfl rfl)
theorem dX5_become_8 : decode cX5_become 8 = .ok (.aload_n 0, 1) := dk_42 (dk_at dksX5_become_0 8 rfl rfl)
theorem dX5_become_9 : decode cX5_become 9 = .ok (.aload_n 1, 1) := dk_43 (dk_at dksX5_become_0 9 rfl rfl)
theorem dX5_become_10 : decode cX5_become 10 = .ok (.getfield 15, 3) := dk_180 0 15 (dk_at dksX5_become_0 10 rfl rfl)
theorem dX5_become_13 : decode cX5_become 13 = .ok (.putfield 15, 3) := dk_181 0 15 (dk_at dksX5_become_0 13 rfl rfl)
theorem dX5_become_16 : decode cX5_become 16 = .ok (.aload_n 0, 1) := dk_42 (dk_at dksX5_become_0 16 rfl rfl)
theorem dX5_become_17 : decode cX5_become 17 = .ok (.aload_n 1, 1) := dk_43 (dk_at dksX5_become_0 17 rfl rfl)
theorem dX5_become_18 : decode cX5_become 18 = .ok (.getfield 18, 3) := dk_180 0 18 (dk_at dksX5_become_0 18 rfl rfl)
theorem dX5_become_21 : decode cX5_become 21 = .ok (.putfield 18, 3) := dk_181 0 18 (dk_at dksX5_become_0 21 rfl rfl)
theorem dX5_become_24 : decode cX5_become 24 = .ok (.return_, 1) := dk_177 (dk_at dksX5_become_1 0 rfl rfl)
theorem q60 : (Jvm.Cond.initialized "SledHouse$Dog") ∈ lw_all := lw_g (lw_at lw_m1 9 rfl) rfl
theorem q219 : (Jvm.Cond.instantiable "SledHouse$Dog" (3 : Nat)) ∈ lw_all := lw_g (lw_at lw_m1 168 rfl) rfl
theorem q221 : (Jvm.Cond.instanceMethod ({ cls := "SledHouse$Dog", name := "<init>", desc := "()V" } : Jvm.MethodName)) ∈ lw_all := lw_g (lw_at lw_m1 170 rfl) rfl
theorem q222 : (Jvm.Cond.code ({ cls := "SledHouse$Dog", name := "<init>", desc := "()V" } : Jvm.MethodName) prog_2_method_1_code (1 : Nat) (Option.none : Option Jvm.ClassFile.FieldType)) ∈ lw_all := lw_g (lw_at lw_m1 171 rfl) rfl
theorem q223 : (Jvm.Cond.methodLink "SledHouse$Dog" (3 : Nat) ({ cls := "java/lang/Object", name := "<init>", desc := "()V" } : Jvm.MethodName)) ∈ lw_all := lw_g (lw_at lw_m1 172 rfl) rfl
theorem q224 : (Jvm.Cond.fieldLink "SledHouse$Dog" (9 : Nat) "SledHouse$Dog" "strength" "I") ∈ lw_all := lw_g (lw_at lw_m1 173 rfl) rfl
theorem q227 : (Jvm.Cond.fieldLink "SledHouse$Dog" (15 : Nat) "SledHouse$Dog" "state" "I") ∈ lw_all := lw_g (lw_at lw_m1 176 rfl) rfl
theorem q230 : (Jvm.Cond.fieldLink "SledHouse$Dog" (18 : Nat) "SledHouse$Dog" "where" "I") ∈ lw_all := lw_g (lw_at lw_m1 179 rfl) rfl
theorem q232 : (Jvm.Cond.lays "SledHouse$Dog" "SledHouse$Dog" "strength" "I") ∈ lw_all := lw_g (lw_at lw_m1 181 rfl) rfl
theorem q233 : (Jvm.Cond.soleField "SledHouse$Dog" "strength") ∈ lw_all := lw_g (lw_at lw_m1 182 rfl) rfl
theorem q234 : (Jvm.Cond.lays "SledHouse$Dog" "SledHouse$Dog" "state" "I") ∈ lw_all := lw_g (lw_at lw_m1 183 rfl) rfl
theorem q235 : (Jvm.Cond.soleField "SledHouse$Dog" "state") ∈ lw_all := lw_g (lw_at lw_m1 184 rfl) rfl
theorem q236 : (Jvm.Cond.lays "SledHouse$Dog" "SledHouse$Dog" "where" "I") ∈ lw_all := lw_g (lw_at lw_m1 185 rfl) rfl
theorem q237 : (Jvm.Cond.soleField "SledHouse$Dog" "where") ∈ lw_all := lw_g (lw_at lw_m1 186 rfl) rfl
theorem q238 : (Jvm.Cond.superclass "SledHouse$Dog" "java/lang/Object") ∈ lw_all := lw_g (lw_at lw_m1 187 rfl) rfl
theorem q856 : (Jvm.Cond.instanceMethod ({ cls := "SledHouse$Dog", name := "begin", desc := "()V" } : Jvm.MethodName)) ∈ lw_all := lw_g (lw_at lw_m4 85 rfl) rfl
theorem q857 : (Jvm.Cond.selects "SledHouse$Dog" ({ cls := "SledHouse$Dog", name := "begin", desc := "()V" } : Jvm.MethodName) ({ cls := "SledHouse$Dog", name := "begin", desc := "()V" } : Jvm.MethodName)) ∈ lw_all := lw_g (lw_at lw_m4 86 rfl) rfl
theorem q858 : (Jvm.Cond.code ({ cls := "SledHouse$Dog", name := "begin", desc := "()V" } : Jvm.MethodName) prog_2_method_2_code (1 : Nat) (Option.none : Option Jvm.ClassFile.FieldType)) ∈ lw_all := lw_g (lw_at lw_m4 87 rfl) rfl
theorem q935 : (Jvm.Cond.instanceMethod ({ cls := "SledHouse$Dog", name := "leave", desc := "(I)V" } : Jvm.MethodName)) ∈ lw_all := lw_g (lw_at lw_m4 164 rfl) rfl
theorem q936 : (Jvm.Cond.selects "SledHouse$Dog" ({ cls := "SledHouse$Dog", name := "leave", desc := "(I)V" } : Jvm.MethodName) ({ cls := "SledHouse$Dog", name := "leave", desc := "(I)V" } : Jvm.MethodName)) ∈ lw_all := lw_g (lw_at lw_m4 165 rfl) rfl
theorem q937 : (Jvm.Cond.code ({ cls := "SledHouse$Dog", name := "leave", desc := "(I)V" } : Jvm.MethodName) prog_2_method_5_code (2 : Nat) (Option.none : Option Jvm.ClassFile.FieldType)) ∈ lw_all := lw_g (lw_at lw_m4 166 rfl) rfl
theorem q947 : (Jvm.Cond.instanceMethod ({ cls := "SledHouse$Dog", name := "gain", desc := "(I)V" } : Jvm.MethodName)) ∈ lw_all := lw_g (lw_at lw_m4 176 rfl) rfl
theorem q948 : (Jvm.Cond.selects "SledHouse$Dog" ({ cls := "SledHouse$Dog", name := "gain", desc := "(I)V" } : Jvm.MethodName) ({ cls := "SledHouse$Dog", name := "gain", desc := "(I)V" } : Jvm.MethodName)) ∈ lw_all := lw_g (lw_at lw_m4 177 rfl) rfl
theorem q949 : (Jvm.Cond.code ({ cls := "SledHouse$Dog", name := "gain", desc := "(I)V" } : Jvm.MethodName) prog_2_method_4_code (2 : Nat) (Option.none : Option Jvm.ClassFile.FieldType)) ∈ lw_all := lw_g (lw_at lw_m4 178 rfl) rfl
theorem q950 : (Jvm.Cond.methodLink "SledHouse$Dog" (21 : Nat) ({ cls := "java/lang/Math", name := "min", desc := "(II)I" } : Jvm.MethodName)) ∈ lw_all := lw_g (lw_at lw_m4 179 rfl) rfl
theorem q1092 : (Jvm.Cond.instanceMethod ({ cls := "SledHouse$Dog", name := "become", desc := "(LSledHouse$Dog;)V" } : Jvm.MethodName)) ∈ lw_all := lw_g (lw_at lw_m5 81 rfl) rfl
theorem q1093 : (Jvm.Cond.selects "SledHouse$Dog" ({ cls := "SledHouse$Dog", name := "become", desc := "(LSledHouse$Dog;)V" } : Jvm.MethodName) ({ cls := "SledHouse$Dog", name := "become", desc := "(LSledHouse$Dog;)V" } : Jvm.MethodName)) ∈ lw_all := lw_g (lw_at lw_m5 82 rfl) rfl
theorem q1094 : (Jvm.Cond.code ({ cls := "SledHouse$Dog", name := "become", desc := "(LSledHouse$Dog;)V" } : Jvm.MethodName) prog_2_method_3_code (2 : Nat) (Option.none : Option Jvm.ClassFile.FieldType)) ∈ lw_all := lw_g (lw_at lw_m5 83 rfl) rfl
theorem in_X5 : ∀ w ∈ wsX50, w ∈ lw_all := lw_in wsX50 [232, 234, 236] (by decide +kernel) (by decide +kernel)

