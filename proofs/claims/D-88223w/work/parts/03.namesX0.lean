/-! SledHouse -/
set_option maxRecDepth 100000
def RX0 : String := "SledHouse"
def TX0 : u_T := fun k => match k with
  | 0 => ("SledHouse", "tape", "[B", true)
  | 1 => ("SledHouse", "taped", "I", false)
  | 2 => ("SledHouse", "reader", "LSledHouse$Reader;", true)
  | 3 => ("SledHouse", "now", "LSledHouse$World;", true)
  | 4 => ("SledHouse", "kept", "LSledHouse$World;", true)
  | 5 => ("SledHouse", "alone", "LSledHouse$Team;", true)
  | 6 => ("SledHouse", "hasKept", "Z", false)
  | 7 => ("SledHouse", "plans", "[LSledHouse$Plan;", true)
  | 8 => ("SledHouse", "laws", "[LSledHouse$Law;", true)
  | 9 => ("SledHouse", "fresh", "[LSledHouse$Law;", true)
  | 10 => ("SledHouse", "planMany", "I", false)
  | 11 => ("SledHouse", "lawMany", "I", false)
  | 12 => ("SledHouse", "refused", "LSledHouse$Refused;", true)
  | 13 => ("SledHouse", "trouble", "I", false)
  | 14 => ("SledHouse", "fault", "I", false)
  | _ => ("SledHouse", "where", "I", false)
def tyX0 : Nat → FieldType := fun k => match k with
  | 0 => .array .byte
  | 1 => .int
  | 2 => .object "SledHouse$Reader"
  | 3 => .object "SledHouse$World"
  | 4 => .object "SledHouse$World"
  | 5 => .object "SledHouse$Team"
  | 6 => .boolean
  | 7 => .array (.object "SledHouse$Plan")
  | 8 => .array (.object "SledHouse$Law")
  | 9 => .array (.object "SledHouse$Law")
  | 10 => .int
  | 11 => .int
  | 12 => .object "SledHouse$Refused"
  | 13 => .int
  | 14 => .int
  | _ => .int
abbrev wsX00 : List Cond := u_ws RX0 TX0 16
set_option maxRecDepth 100000 in
theorem nmX0 : ∀ a, a < 16 → ∀ b, b < 16 → a ≠ b → (TX0 a).2.1 ≠ (TX0 b).2.1 := by decide +kernel
set_option maxRecDepth 100000 in
theorem tyX0_ok : ∀ k, k < 16 → parseFieldDescriptor (TX0 k).2.2.1 = some (tyX0 k) := by decide +kernel
abbrev cX0_init : ByteArray := prog_1_method_4_code
def yX0_init : MethodName := ⟨RX0, "<init>", "()V"⟩
def dkwX0_init_4 : List UInt8 := [187, 0, 133, 89, 183, 0, 135, 181, 0, 136, 42, 2, 181, 0, 140, 177]
abbrev dktX0_init_4 : List UInt8 := dkwX0_init_4 ++ []
def dkwX0_init_3 : List UInt8 := [181, 0, 120, 42, 16, 10, 189, 0, 124, 181, 0, 126, 42, 16, 10, 189, 0, 124, 181, 0, 130, 42]
abbrev dktX0_init_3 : List UInt8 := dkwX0_init_3 ++ dktX0_init_4
def dkwX0_init_2 : List UInt8 := [183, 0, 103, 181, 0, 108, 42, 187, 0, 111, 89, 183, 0, 113, 181, 0, 114, 42, 16, 8, 189, 0, 118]
abbrev dktX0_init_2 : List UInt8 := dkwX0_init_2 ++ dktX0_init_3
def dkwX0_init_1 : List UInt8 := [183, 0, 94, 181, 0, 97, 42, 187, 0, 101, 89, 183, 0, 103, 181, 0, 104, 42, 187, 0, 101, 89]
abbrev dktX0_init_1 : List UInt8 := dkwX0_init_1 ++ dktX0_init_2
def dkwX0_init_0 : List UInt8 := [42, 183, 0, 85, 42, 17, 1, 144, 188, 8, 181, 0, 90, 42, 187, 0, 44, 89, 42, 180, 0, 90]
abbrev dktX0_init_0 : List UInt8 := dkwX0_init_0 ++ dktX0_init_1
theorem dksX0_init_0 : cX0_init.data.toList.drop 0 = dktX0_init_0 := by decide +kernel
theorem dksX0_init_1 : cX0_init.data.toList.drop 22 = dktX0_init_1 := dk_seg dksX0_init_0 22 rfl rfl
theorem dksX0_init_2 : cX0_init.data.toList.drop 44 = dktX0_init_2 := dk_seg dksX0_init_1 22 rfl rfl
theorem dksX0_init_3 : cX0_init.data.toList.drop 67 = dktX0_init_3 := dk_seg dksX0_init_2 23 rfl rfl
theorem dksX0_init_4 : cX0_init.data.toList.drop 89 = dktX0_init_4 := dk_seg dksX0_init_3 22 rfl rfl
theorem dX0_init_0 : decode cX0_init 0 = .ok (.aload_n 0, 1) := dk_42 (dk_at dksX0_init_0 0 rfl rfl)
theorem dX0_init_1 : decode cX0_init 1 = .ok (.invokespecial 85, 3) := dk_183 0 85 (dk_at dksX0_init_0 1 rfl rfl)
theorem dX0_init_4 : decode cX0_init 4 = .ok (.aload_n 0, 1) := dk_42 (dk_at dksX0_init_0 4 rfl rfl)
theorem dX0_init_5 : decode cX0_init 5 = .ok (.sipush 400, 3) := dk_17 1 144 (dk_at dksX0_init_0 5 rfl rfl)
theorem dX0_init_8 : decode cX0_init 8 = .ok (.newarray .byte, 2) := dk_188_8 (dk_at dksX0_init_0 8 rfl rfl)
theorem dX0_init_10 : decode cX0_init 10 = .ok (.putfield 90, 3) := dk_181 0 90 (dk_at dksX0_init_0 10 rfl rfl)
theorem dX0_init_13 : decode cX0_init 13 = .ok (.aload_n 0, 1) := dk_42 (dk_at dksX0_init_0 13 rfl rfl)
theorem dX0_init_14 : decode cX0_init 14 = .ok (.new 44, 3) := dk_187 0 44 (dk_at dksX0_init_0 14 rfl rfl)
theorem dX0_init_17 : decode cX0_init 17 = .ok (.dup, 1) := dk_89 (dk_at dksX0_init_0 17 rfl rfl)
theorem dX0_init_18 : decode cX0_init 18 = .ok (.aload_n 0, 1) := dk_42 (dk_at dksX0_init_0 18 rfl rfl)
theorem dX0_init_19 : decode cX0_init 19 = .ok (.getfield 90, 3) := dk_180 0 90 (dk_at dksX0_init_0 19 rfl rfl)
theorem dX0_init_22 : decode cX0_init 22 = .ok (.invokespecial 94, 3) := dk_183 0 94 (dk_at dksX0_init_1 0 rfl rfl)
theorem dX0_init_25 : decode cX0_init 25 = .ok (.putfield 97, 3) := dk_181 0 97 (dk_at dksX0_init_1 3 rfl rfl)
theorem dX0_init_28 : decode cX0_init 28 = .ok (.aload_n 0, 1) := dk_42 (dk_at dksX0_init_1 6 rfl rfl)
theorem dX0_init_29 : decode cX0_init 29 = .ok (.new 101, 3) := dk_187 0 101 (dk_at dksX0_init_1 7 rfl rfl)
theorem dX0_init_32 : decode cX0_init 32 = .ok (.dup, 1) := dk_89 (dk_at dksX0_init_1 10 rfl rfl)
theorem dX0_init_33 : decode cX0_init 33 = .ok (.invokespecial 103, 3) := dk_183 0 103 (dk_at dksX0_init_1 11 rfl rfl)
theorem dX0_init_36 : decode cX0_init 36 = .ok (.putfield 104, 3) := dk_181 0 104 (dk_at dksX0_init_1 14 rfl rfl)
theorem dX0_init_39 : decode cX0_init 39 = .ok (.aload_n 0, 1) := dk_42 (dk_at dksX0_init_1 17 rfl rfl)
theorem dX0_init_40 : decode cX0_init 40 = .ok (.new 101, 3) := dk_187 0 101 (dk_at dksX0_init_1 18 rfl rfl)
theorem dX0_init_43 : decode cX0_init 43 = .ok (.dup, 1) := dk_89 (dk_at dksX0_init_1 21 rfl rfl)
theorem dX0_init_44 : decode cX0_init 44 = .ok (.invokespecial 103, 3) := dk_183 0 103 (dk_at dksX0_init_2 0 rfl rfl)
theorem dX0_init_47 : decode cX0_init 47 = .ok (.putfield 108, 3) := dk_181 0 108 (dk_at dksX0_init_2 3 rfl rfl)
theorem dX0_init_50 : decode cX0_init 50 = .ok (.aload_n 0, 1) := dk_42 (dk_at dksX0_init_2 6 rfl rfl)
theorem dX0_init_51 : decode cX0_init 51 = .ok (.new 111, 3) := dk_187 0 111 (dk_at dksX0_init_2 7 rfl rfl)
theorem dX0_init_54 : decode cX0_init 54 = .ok (.dup, 1) := dk_89 (dk_at dksX0_init_2 10 rfl rfl)
theorem dX0_init_55 : decode cX0_init 55 = .ok (.invokespecial 113, 3) := dk_183 0 113 (dk_at dksX0_init_2 11 rfl rfl)
theorem dX0_init_58 : decode cX0_init 58 = .ok (.putfield 114, 3) := dk_181 0 114 (dk_at dksX0_init_2 14 rfl rfl)
theorem dX0_init_61 : decode cX0_init 61 = .ok (.aload_n 0, 1) := dk_42 (dk_at dksX0_init_2 17 rfl rfl)
theorem dX0_init_62 : decode cX0_init 62 = .ok (.bipush 8, 2) := dk_16 8 (dk_at dksX0_init_2 18 rfl rfl)
theorem dX0_init_64 : decode cX0_init 64 = .ok (.anewarray 118, 3) := dk_189 0 118 (dk_at dksX0_init_2 20 rfl rfl)
theorem dX0_init_67 : decode cX0_init 67 = .ok (.putfield 120, 3) := dk_181 0 120 (dk_at dksX0_init_3 0 rfl rfl)
theorem dX0_init_70 : decode cX0_init 70 = .ok (.aload_n 0, 1) := dk_42 (dk_at dksX0_init_3 3 rfl rfl)
theorem dX0_init_71 : decode cX0_init 71 = .ok (.bipush 10, 2) := dk_16 10 (dk_at dksX0_init_3 4 rfl rfl)
theorem dX0_init_73 : decode cX0_init 73 = .ok (.anewarray 124, 3) := dk_189 0 124 (dk_at dksX0_init_3 6 rfl rfl)
theorem dX0_init_76 : decode cX0_init 76 = .ok (.putfield 126, 3) := dk_181 0 126 (dk_at dksX0_init_3 9 rfl rfl)
theorem dX0_init_79 : decode cX0_init 79 = .ok (.aload_n 0, 1) := dk_42 (dk_at dksX0_init_3 12 rfl rfl)
theorem dX0_init_80 : decode cX0_init 80 = .ok (.bipush 10, 2) := dk_16 10 (dk_at dksX0_init_3 13 rfl rfl)
theorem dX0_init_82 : decode cX0_init 82 = .ok (.anewarray 124, 3) := dk_189 0 124 (dk_at dksX0_init_3 15 rfl rfl)
theorem dX0_init_85 : decode cX0_init 85 = .ok (.putfield 130, 3) := dk_181 0 130 (dk_at dksX0_init_3 18 rfl rfl)
theorem dX0_init_88 : decode cX0_init 88 = .ok (.aload_n 0, 1) := dk_42 (dk_at dksX0_init_3 21 rfl rfl)
theorem dX0_init_89 : decode cX0_init 89 = .ok (.new 133, 3) := dk_187 0 133 (dk_at dksX0_init_4 0 rfl rfl)
theorem dX0_init_92 : decode cX0_init 92 = .ok (.dup, 1) := dk_89 (dk_at dksX0_init_4 3 rfl rfl)
theorem dX0_init_93 : decode cX0_init 93 = .ok (.invokespecial 135, 3) := dk_183 0 135 (dk_at dksX0_init_4 4 rfl rfl)
theorem dX0_init_96 : decode cX0_init 96 = .ok (.putfield 136, 3) := dk_181 0 136 (dk_at dksX0_init_4 7 rfl rfl)
theorem dX0_init_99 : decode cX0_init 99 = .ok (.aload_n 0, 1) := dk_42 (dk_at dksX0_init_4 10 rfl rfl)
theorem dX0_init_100 : decode cX0_init 100 = .ok (.iconst (-1), 1) := dk_2 (dk_at dksX0_init_4 11 rfl rfl)
theorem dX0_init_101 : decode cX0_init 101 = .ok (.putfield 140, 3) := dk_181 0 140 (dk_at dksX0_init_4 12 rfl rfl)
theorem dX0_init_104 : decode cX0_init 104 = .ok (.return_, 1) := dk_177 (dk_at dksX0_init_4 15 rfl rfl)
abbrev cX0_leg : ByteArray := prog_1_method_10_code
def yX0_leg : MethodName := ⟨RX0, "leg", "(II)I"⟩
def dkwX0_leg_6 : List UInt8 := [180, 0, 104, 180, 0, 173, 172]
abbrev dktX0_leg_6 : List UInt8 := dkwX0_leg_6 ++ []
def dkwX0_leg_5 : List UInt8 := [180, 0, 104, 180, 0, 173, 28, 79, 42, 180, 0, 104, 89, 180, 0, 173, 4, 96, 181, 0, 173, 42]
abbrev dktX0_leg_5 : List UInt8 := dkwX0_leg_5 ++ dktX0_leg_6
def dkwX0_leg_4 : List UInt8 := [180, 0, 104, 180, 0, 180, 42, 180, 0, 104, 180, 0, 173, 27, 79, 42, 180, 0, 104, 180, 0, 184, 42]
abbrev dktX0_leg_4 : List UInt8 := dkwX0_leg_4 ++ dktX0_leg_5
def dkwX0_leg_3 : List UInt8 := [162, 0, 7, 4, 167, 0, 4, 3, 6, 182, 0, 170, 167, 0, 10, 78, 42, 45, 182, 0, 176, 172, 42]
abbrev dktX0_leg_3 : List UInt8 := dkwX0_leg_3 ++ dktX0_leg_4
def dkwX0_leg_2 : List UInt8 := [153, 0, 7, 4, 167, 0, 4, 3, 5, 182, 0, 170, 42, 42, 180, 0, 104, 180, 0, 173, 16, 12]
abbrev dktX0_leg_2 : List UInt8 := dkwX0_leg_2 ++ dktX0_leg_3
def dkwX0_leg_1 : List UInt8 := [42, 27, 16, 10, 17, 7, 208, 184, 0, 160, 153, 0, 19, 28, 16, 50, 17, 0, 200, 184, 0, 160]
abbrev dktX0_leg_1 : List UInt8 := dkwX0_leg_1 ++ dktX0_leg_2
def dkwX0_leg_0 : List UInt8 := [42, 182, 0, 164, 42, 42, 180, 0, 104, 180, 0, 167, 154, 0, 7, 4, 167, 0, 4, 3, 8, 182, 0, 170]
abbrev dktX0_leg_0 : List UInt8 := dkwX0_leg_0 ++ dktX0_leg_1
theorem dksX0_leg_0 : cX0_leg.data.toList.drop 0 = dktX0_leg_0 := by decide +kernel
theorem dksX0_leg_1 : cX0_leg.data.toList.drop 24 = dktX0_leg_1 := dk_seg dksX0_leg_0 24 rfl rfl
theorem dksX0_leg_2 : cX0_leg.data.toList.drop 46 = dktX0_leg_2 := dk_seg dksX0_leg_1 22 rfl rfl
theorem dksX0_leg_3 : cX0_leg.data.toList.drop 68 = dktX0_leg_3 := dk_seg dksX0_leg_2 22 rfl rfl
theorem dksX0_leg_4 : cX0_leg.data.toList.drop 91 = dktX0_leg_4 := dk_seg dksX0_leg_3 23 rfl rfl
theorem dksX0_leg_5 : cX0_leg.data.toList.drop 114 = dktX0_leg_5 := dk_seg dksX0_leg_4 23 rfl rfl
theorem dksX0_leg_6 : cX0_leg.data.toList.drop 136 = dktX0_leg_6 := dk_seg dksX0_leg_5 22 rfl rfl
theorem dX0_leg_0 : decode cX0_leg 0 = .ok (.aload_n 0, 1) := dk_42 (dk_at dksX0_leg_0 0 rfl rfl)
theorem dX0_leg_1 : decode cX0_leg 1 = .ok (.invokevirtual 164, 3) := dk_182 0 164 (dk_at dksX0_leg_0 1 rfl rfl)
theorem dX0_leg_4 : decode cX0_leg 4 = .ok (.aload_n 0, 1) := dk_42 (dk_at dksX0_leg_0 4 rfl rfl)
theorem dX0_leg_5 : decode cX0_leg 5 = .ok (.aload_n 0, 1) := dk_42 (dk_at dksX0_leg_0 5 rfl rfl)
theorem dX0_leg_6 : decode cX0_leg 6 = .ok (.getfield 104, 3) := dk_180 0 104 (dk_at dksX0_leg_0 6 rfl rfl)
theorem dX0_leg_9 : decode cX0_leg 9 = .ok (.getfield 167, 3) := dk_180 0 167 (dk_at dksX0_leg_0 9 rfl rfl)
theorem dX0_leg_12 : decode cX0_leg 12 = .ok (.ifCond .ne 7, 3) := dk_154 0 7 (dk_at dksX0_leg_0 12 rfl rfl)
theorem dX0_leg_15 : decode cX0_leg 15 = .ok (.iconst 1, 1) := dk_4 (dk_at dksX0_leg_0 15 rfl rfl)
theorem dX0_leg_16 : decode cX0_leg 16 = .ok (.goto 4, 3) := dk_167 0 4 (dk_at dksX0_leg_0 16 rfl rfl)
theorem dX0_leg_19 : decode cX0_leg 19 = .ok (.iconst 0, 1) := dk_3 (dk_at dksX0_leg_0 19 rfl rfl)
theorem dX0_leg_20 : decode cX0_leg 20 = .ok (.iconst 5, 1) := dk_8 (dk_at dksX0_leg_0 20 rfl rfl)
theorem dX0_leg_21 : decode cX0_leg 21 = .ok (.invokevirtual 170, 3) := dk_182 0 170 (dk_at dksX0_leg_0 21 rfl rfl)
theorem dX0_leg_24 : decode cX0_leg 24 = .ok (.aload_n 0, 1) := dk_42 (dk_at dksX0_leg_1 0 rfl rfl)
theorem dX0_leg_25 : decode cX0_leg 25 = .ok (.iload_n 1, 1) := dk_27 (dk_at dksX0_leg_1 1 rfl rfl)
theorem dX0_leg_26 : decode cX0_leg 26 = .ok (.bipush 10, 2) := dk_16 10 (dk_at dksX0_leg_1 2 rfl rfl)
theorem dX0_leg_28 : decode cX0_leg 28 = .ok (.sipush 2000, 3) := dk_17 7 208 (dk_at dksX0_leg_1 4 rfl rfl)
theorem dX0_leg_31 : decode cX0_leg 31 = .ok (.invokestatic 160, 3) := dk_184 0 160 (dk_at dksX0_leg_1 7 rfl rfl)
theorem dX0_leg_34 : decode cX0_leg 34 = .ok (.ifCond .eq 19, 3) := dk_153 0 19 (dk_at dksX0_leg_1 10 rfl rfl)
theorem dX0_leg_37 : decode cX0_leg 37 = .ok (.iload_n 2, 1) := dk_28 (dk_at dksX0_leg_1 13 rfl rfl)
theorem dX0_leg_38 : decode cX0_leg 38 = .ok (.bipush 50, 2) := dk_16 50 (dk_at dksX0_leg_1 14 rfl rfl)
theorem dX0_leg_40 : decode cX0_leg 40 = .ok (.sipush 200, 3) := dk_17 0 200 (dk_at dksX0_leg_1 16 rfl rfl)
theorem dX0_leg_43 : decode cX0_leg 43 = .ok (.invokestatic 160, 3) := dk_184 0 160 (dk_at dksX0_leg_1 19 rfl rfl)
theorem dX0_leg_46 : decode cX0_leg 46 = .ok (.ifCond .eq 7, 3) := dk_153 0 7 (dk_at dksX0_leg_2 0 rfl rfl)
theorem dX0_leg_49 : decode cX0_leg 49 = .ok (.iconst 1, 1) := dk_4 (dk_at dksX0_leg_2 3 rfl rfl)
theorem dX0_leg_50 : decode cX0_leg 50 = .ok (.goto 4, 3) := dk_167 0 4 (dk_at dksX0_leg_2 4 rfl rfl)
theorem dX0_leg_53 : decode cX0_leg 53 = .ok (.iconst 0, 1) := dk_3 (dk_at dksX0_leg_2 7 rfl rfl)
theorem dX0_leg_54 : decode cX0_leg 54 = .ok (.iconst 2, 1) := dk_5 (dk_at dksX0_leg_2 8 rfl rfl)
theorem dX0_leg_55 : decode cX0_leg 55 = .ok (.invokevirtual 170, 3) := dk_182 0 170 (dk_at dksX0_leg_2 9 rfl rfl)
theorem dX0_leg_58 : decode cX0_leg 58 = .ok (.aload_n 0, 1) := dk_42 (dk_at dksX0_leg_2 12 rfl rfl)
theorem dX0_leg_59 : decode cX0_leg 59 = .ok (.aload_n 0, 1) := dk_42 (dk_at dksX0_leg_2 13 rfl rfl)
theorem dX0_leg_60 : decode cX0_leg 60 = .ok (.getfield 104, 3) := dk_180 0 104 (dk_at dksX0_leg_2 14 rfl rfl)
theorem dX0_leg_63 : decode cX0_leg 63 = .ok (.getfield 173, 3) := dk_180 0 173 (dk_at dksX0_leg_2 17 rfl rfl)
theorem dX0_leg_66 : decode cX0_leg 66 = .ok (.bipush 12, 2) := dk_16 12 (dk_at dksX0_leg_2 20 rfl rfl)
theorem dX0_leg_68 : decode cX0_leg 68 = .ok (.if_icmp .ge 7, 3) := dk_162 0 7 (dk_at dksX0_leg_3 0 rfl rfl)
theorem dX0_leg_71 : decode cX0_leg 71 = .ok (.iconst 1, 1) := dk_4 (dk_at dksX0_leg_3 3 rfl rfl)
theorem dX0_leg_72 : decode cX0_leg 72 = .ok (.goto 4, 3) := dk_167 0 4 (dk_at dksX0_leg_3 4 rfl rfl)
theorem dX0_leg_75 : decode cX0_leg 75 = .ok (.iconst 0, 1) := dk_3 (dk_at dksX0_leg_3 7 rfl rfl)
theorem dX0_leg_76 : decode cX0_leg 76 = .ok (.iconst 3, 1) := dk_6 (dk_at dksX0_leg_3 8 rfl rfl)
theorem dX0_leg_77 : decode cX0_leg 77 = .ok (.invokevirtual 170, 3) := dk_182 0 170 (dk_at dksX0_leg_3 9 rfl rfl)
theorem dX0_leg_80 : decode cX0_leg 80 = .ok (.goto 10, 3) := dk_167 0 10 (dk_at dksX0_leg_3 12 rfl rfl)
theorem dX0_leg_83 : decode cX0_leg 83 = .ok (.astore_n 3, 1) := dk_78 (dk_at dksX0_leg_3 15 rfl rfl)
theorem dX0_leg_84 : decode cX0_leg 84 = .ok (.aload_n 0, 1) := dk_42 (dk_at dksX0_leg_3 16 rfl rfl)
theorem dX0_leg_85 : decode cX0_leg 85 = .ok (.aload_n 3, 1) := dk_45 (dk_at dksX0_leg_3 17 rfl rfl)
theorem dX0_leg_86 : decode cX0_leg 86 = .ok (.invokevirtual 176, 3) := dk_182 0 176 (dk_at dksX0_leg_3 18 rfl rfl)
theorem dX0_leg_89 : decode cX0_leg 89 = .ok (.ireturn, 1) := dk_172 (dk_at dksX0_leg_3 21 rfl rfl)
theorem dX0_leg_90 : decode cX0_leg 90 = .ok (.aload_n 0, 1) := dk_42 (dk_at dksX0_leg_3 22 rfl rfl)
theorem dX0_leg_91 : decode cX0_leg 91 = .ok (.getfield 104, 3) := dk_180 0 104 (dk_at dksX0_leg_4 0 rfl rfl)
theorem dX0_leg_94 : decode cX0_leg 94 = .ok (.getfield 180, 3) := dk_180 0 180 (dk_at dksX0_leg_4 3 rfl rfl)
theorem dX0_leg_97 : decode cX0_leg 97 = .ok (.aload_n 0, 1) := dk_42 (dk_at dksX0_leg_4 6 rfl rfl)
theorem dX0_leg_98 : decode cX0_leg 98 = .ok (.getfield 104, 3) := dk_180 0 104 (dk_at dksX0_leg_4 7 rfl rfl)
theorem dX0_leg_101 : decode cX0_leg 101 = .ok (.getfield 173, 3) := dk_180 0 173 (dk_at dksX0_leg_4 10 rfl rfl)
theorem dX0_leg_104 : decode cX0_leg 104 = .ok (.iload_n 1, 1) := dk_27 (dk_at dksX0_leg_4 13 rfl rfl)
theorem dX0_leg_105 : decode cX0_leg 105 = .ok (.iastore, 1) := dk_79 (dk_at dksX0_leg_4 14 rfl rfl)
theorem dX0_leg_106 : decode cX0_leg 106 = .ok (.aload_n 0, 1) := dk_42 (dk_at dksX0_leg_4 15 rfl rfl)
theorem dX0_leg_107 : decode cX0_leg 107 = .ok (.getfield 104, 3) := dk_180 0 104 (dk_at dksX0_leg_4 16 rfl rfl)
theorem dX0_leg_110 : decode cX0_leg 110 = .ok (.getfield 184, 3) := dk_180 0 184 (dk_at dksX0_leg_4 19 rfl rfl)
theorem dX0_leg_113 : decode cX0_leg 113 = .ok (.aload_n 0, 1) := dk_42 (dk_at dksX0_leg_4 22 rfl rfl)
theorem dX0_leg_114 : decode cX0_leg 114 = .ok (.getfield 104, 3) := dk_180 0 104 (dk_at dksX0_leg_5 0 rfl rfl)
theorem dX0_leg_117 : decode cX0_leg 117 = .ok (.getfield 173, 3) := dk_180 0 173 (dk_at dksX0_leg_5 3 rfl rfl)
theorem dX0_leg_120 : decode cX0_leg 120 = .ok (.iload_n 2, 1) := dk_28 (dk_at dksX0_leg_5 6 rfl rfl)
theorem dX0_leg_121 : decode cX0_leg 121 = .ok (.iastore, 1) := dk_79 (dk_at dksX0_leg_5 7 rfl rfl)
theorem dX0_leg_122 : decode cX0_leg 122 = .ok (.aload_n 0, 1) := dk_42 (dk_at dksX0_leg_5 8 rfl rfl)
theorem dX0_leg_123 : decode cX0_leg 123 = .ok (.getfield 104, 3) := dk_180 0 104 (dk_at dksX0_leg_5 9 rfl rfl)
theorem dX0_leg_126 : decode cX0_leg 126 = .ok (.dup, 1) := dk_89 (dk_at dksX0_leg_5 12 rfl rfl)
theorem dX0_leg_127 : decode cX0_leg 127 = .ok (.getfield 173, 3) := dk_180 0 173 (dk_at dksX0_leg_5 13 rfl rfl)
theorem dX0_leg_130 : decode cX0_leg 130 = .ok (.iconst 1, 1) := dk_4 (dk_at dksX0_leg_5 16 rfl rfl)
theorem dX0_leg_131 : decode cX0_leg 131 = .ok (.iadd, 1) := dk_96 (dk_at dksX0_leg_5 17 rfl rfl)
theorem dX0_leg_132 : decode cX0_leg 132 = .ok (.putfield 173, 3) := dk_181 0 173 (dk_at dksX0_leg_5 18 rfl rfl)
theorem dX0_leg_135 : decode cX0_leg 135 = .ok (.aload_n 0, 1) := dk_42 (dk_at dksX0_leg_5 21 rfl rfl)
theorem dX0_leg_136 : decode cX0_leg 136 = .ok (.getfield 104, 3) := dk_180 0 104 (dk_at dksX0_leg_6 0 rfl rfl)
theorem dX0_leg_139 : decode cX0_leg 139 = .ok (.getfield 173, 3) := dk_180 0 173 (dk_at dksX0_leg_6 3 rfl rfl)
theorem dX0_leg_142 : decode cX0_leg 142 = .ok (.ireturn, 1) := dk_172 (dk_at dksX0_leg_6 6 rfl rfl)
abbrev cX0_begins : ByteArray := prog_1_method_5_code
def yX0_begins : MethodName := ⟨RX0, "begins", "()V"⟩
def dkwX0_begins_0 : List UInt8 := [42, 3, 181, 0, 144, 42, 2, 181, 0, 140, 177]
abbrev dktX0_begins_0 : List UInt8 := dkwX0_begins_0 ++ []
theorem dksX0_begins_0 : cX0_begins.data.toList.drop 0 = dktX0_begins_0 := by decide +kernel
theorem dX0_begins_0 : decode cX0_begins 0 = .ok (.aload_n 0, 1) := dk_42 (dk_at dksX0_begins_0 0 rfl rfl)
theorem dX0_begins_1 : decode cX0_begins 1 = .ok (.iconst 0, 1) := dk_3 (dk_at dksX0_begins_0 1 rfl rfl)
theorem dX0_begins_2 : decode cX0_begins 2 = .ok (.putfield 144, 3) := dk_181 0 144 (dk_at dksX0_begins_0 2 rfl rfl)
theorem dX0_begins_5 : decode cX0_begins 5 = .ok (.aload_n 0, 1) := dk_42 (dk_at dksX0_begins_0 5 rfl rfl)
theorem dX0_begins_6 : decode cX0_begins 6 = .ok (.iconst (-1), 1) := dk_2 (dk_at dksX0_begins_0 6 rfl rfl)
theorem dX0_begins_7 : decode cX0_begins 7 = .ok (.putfield 140, 3) := dk_181 0 140 (dk_at dksX0_begins_0 7 rfl rfl)
theorem dX0_begins_10 : decode cX0_begins 10 = .ok (.return_, 1) := dk_177 (dk_at dksX0_begins_0 10 rfl rfl)
abbrev cX0_must : ByteArray := prog_1_method_6_code
def yX0_must : MethodName := ⟨RX0, "must", "(ZI)V"⟩
def dkwX0_must_0 : List UInt8 := [27, 154, 0, 12, 42, 180, 0, 136, 28, 182, 0, 147, 191, 177]
abbrev dktX0_must_0 : List UInt8 := dkwX0_must_0 ++ []
theorem dksX0_must_0 : cX0_must.data.toList.drop 0 = dktX0_must_0 := by decide +kernel
theorem dX0_must_0 : decode cX0_must 0 = .ok (.iload_n 1, 1) := dk_27 (dk_at dksX0_must_0 0 rfl rfl)
theorem dX0_must_1 : decode cX0_must 1 = .ok (.ifCond .ne 12, 3) := dk_154 0 12 (dk_at dksX0_must_0 1 rfl rfl)
theorem dX0_must_4 : decode cX0_must 4 = .ok (.aload_n 0, 1) := dk_42 (dk_at dksX0_must_0 4 rfl rfl)
theorem dX0_must_5 : decode cX0_must 5 = .ok (.getfield 136, 3) := dk_180 0 136 (dk_at dksX0_must_0 5 rfl rfl)
theorem dX0_must_8 : decode cX0_must 8 = .ok (.iload_n 2, 1) := dk_28 (dk_at dksX0_must_0 8 rfl rfl)
theorem dX0_must_9 : decode cX0_must 9 = .ok (.invokevirtual 147, 3) := dk_182 0 147 (dk_at dksX0_must_0 9 rfl rfl)
theorem dX0_must_12 : decode cX0_must 12 = .ok (.athrow, 1) := dk_191 (dk_at dksX0_must_0 12 rfl rfl)
theorem dX0_must_13 : decode cX0_must 13 = .ok (.return_, 1) := dk_177 (dk_at dksX0_must_0 13 rfl rfl)
abbrev cX0_in : ByteArray := prog_1_method_8_code
def yX0_in : MethodName := ⟨RX0, "in", "(III)Z"⟩
def dkwX0_in_0 : List UInt8 := [26, 27, 161, 0, 12, 26, 28, 163, 0, 7, 4, 167, 0, 4, 3, 172]
abbrev dktX0_in_0 : List UInt8 := dkwX0_in_0 ++ []
theorem dksX0_in_0 : cX0_in.data.toList.drop 0 = dktX0_in_0 := by decide +kernel
theorem dX0_in_0 : decode cX0_in 0 = .ok (.iload_n 0, 1) := dk_26 (dk_at dksX0_in_0 0 rfl rfl)
theorem dX0_in_1 : decode cX0_in 1 = .ok (.iload_n 1, 1) := dk_27 (dk_at dksX0_in_0 1 rfl rfl)
theorem dX0_in_2 : decode cX0_in 2 = .ok (.if_icmp .lt 12, 3) := dk_161 0 12 (dk_at dksX0_in_0 2 rfl rfl)
theorem dX0_in_5 : decode cX0_in 5 = .ok (.iload_n 0, 1) := dk_26 (dk_at dksX0_in_0 5 rfl rfl)
theorem dX0_in_6 : decode cX0_in 6 = .ok (.iload_n 2, 1) := dk_28 (dk_at dksX0_in_0 6 rfl rfl)
theorem dX0_in_7 : decode cX0_in 7 = .ok (.if_icmp .gt 7, 3) := dk_163 0 7 (dk_at dksX0_in_0 7 rfl rfl)
theorem dX0_in_10 : decode cX0_in 10 = .ok (.iconst 1, 1) := dk_4 (dk_at dksX0_in_0 10 rfl rfl)
theorem dX0_in_11 : decode cX0_in 11 = .ok (.goto 4, 3) := dk_167 0 4 (dk_at dksX0_in_0 11 rfl rfl)
theorem dX0_in_14 : decode cX0_in 14 = .ok (.iconst 0, 1) := dk_3 (dk_at dksX0_in_0 14 rfl rfl)
theorem dX0_in_15 : decode cX0_in 15 = .ok (.ireturn, 1) := dk_172 (dk_at dksX0_in_0 15 rfl rfl)
abbrev cX0_refuses : ByteArray := prog_1_method_7_code
def yX0_refuses : MethodName := ⟨RX0, "refuses", "(LSledHouse$Refused;)I"⟩
def dkwX0_refuses_0 : List UInt8 := [42, 43, 180, 0, 151, 181, 0, 144, 42, 43, 180, 0, 154, 181, 0, 140, 2, 172]
abbrev dktX0_refuses_0 : List UInt8 := dkwX0_refuses_0 ++ []
theorem dksX0_refuses_0 : cX0_refuses.data.toList.drop 0 = dktX0_refuses_0 := by decide +kernel
theorem dX0_refuses_0 : decode cX0_refuses 0 = .ok (.aload_n 0, 1) := dk_42 (dk_at dksX0_refuses_0 0 rfl rfl)
theorem dX0_refuses_1 : decode cX0_refuses 1 = .ok (.aload_n 1, 1) := dk_43 (dk_at dksX0_refuses_0 1 rfl rfl)
theorem dX0_refuses_2 : decode cX0_refuses 2 = .ok (.getfield 151, 3) := dk_180 0 151 (dk_at dksX0_refuses_0 2 rfl rfl)
theorem dX0_refuses_5 : decode cX0_refuses 5 = .ok (.putfield 144, 3) := dk_181 0 144 (dk_at dksX0_refuses_0 5 rfl rfl)
theorem dX0_refuses_8 : decode cX0_refuses 8 = .ok (.aload_n 0, 1) := dk_42 (dk_at dksX0_refuses_0 8 rfl rfl)
theorem dX0_refuses_9 : decode cX0_refuses 9 = .ok (.aload_n 1, 1) := dk_43 (dk_at dksX0_refuses_0 9 rfl rfl)
theorem dX0_refuses_10 : decode cX0_refuses 10 = .ok (.getfield 154, 3) := dk_180 0 154 (dk_at dksX0_refuses_0 10 rfl rfl)
theorem dX0_refuses_13 : decode cX0_refuses 13 = .ok (.putfield 140, 3) := dk_181 0 140 (dk_at dksX0_refuses_0 13 rfl rfl)
theorem dX0_refuses_16 : decode cX0_refuses 16 = .ok (.iconst (-1), 1) := dk_2 (dk_at dksX0_refuses_0 16 rfl rfl)
theorem dX0_refuses_17 : decode cX0_refuses 17 = .ok (.ireturn, 1) := dk_172 (dk_at dksX0_refuses_0 17 rfl rfl)
abbrev cX0_cold : ByteArray := prog_1_method_11_code
def yX0_cold : MethodName := ⟨RX0, "cold", "(III)Z"⟩
def dkwX0_cold_3 : List UInt8 := [180, 0, 104, 180, 0, 187, 21, 4, 29, 79, 132, 4, 1, 167, 255, 221, 4, 172]
abbrev dktX0_cold_3 : List UInt8 := dkwX0_cold_3 ++ []
def dkwX0_cold_2 : List UInt8 := [21, 4, 28, 163, 0, 35, 16, 6, 21, 4, 104, 42, 180, 0, 104, 180, 0, 167, 161, 0, 14, 42]
abbrev dktX0_cold_2 : List UInt8 := dkwX0_cold_2 ++ dktX0_cold_3
def dkwX0_cold_1 : List UInt8 := [153, 0, 14, 29, 16, 206, 16, 20, 184, 0, 160, 154, 0, 10, 42, 5, 181, 0, 144, 3, 172, 27, 54, 4]
abbrev dktX0_cold_1 : List UInt8 := dkwX0_cold_1 ++ dktX0_cold_2
def dkwX0_cold_0 : List UInt8 := [42, 182, 0, 164, 27, 3, 17, 1, 77, 184, 0, 160, 153, 0, 25, 28, 27, 17, 1, 77, 184, 0, 160]
abbrev dktX0_cold_0 : List UInt8 := dkwX0_cold_0 ++ dktX0_cold_1
theorem dksX0_cold_0 : cX0_cold.data.toList.drop 0 = dktX0_cold_0 := by decide +kernel
theorem dksX0_cold_1 : cX0_cold.data.toList.drop 23 = dktX0_cold_1 := dk_seg dksX0_cold_0 23 rfl rfl
theorem dksX0_cold_2 : cX0_cold.data.toList.drop 47 = dktX0_cold_2 := dk_seg dksX0_cold_1 24 rfl rfl
theorem dksX0_cold_3 : cX0_cold.data.toList.drop 69 = dktX0_cold_3 := dk_seg dksX0_cold_2 22 rfl rfl
theorem dX0_cold_0 : decode cX0_cold 0 = .ok (.aload_n 0, 1) := dk_42 (dk_at dksX0_cold_0 0 rfl rfl)
theorem dX0_cold_1 : decode cX0_cold 1 = .ok (.invokevirtual 164, 3) := dk_182 0 164 (dk_at dksX0_cold_0 1 rfl rfl)
theorem dX0_cold_4 : decode cX0_cold 4 = .ok (.iload_n 1, 1) := dk_27 (dk_at dksX0_cold_0 4 rfl rfl)
theorem dX0_cold_5 : decode cX0_cold 5 = .ok (.iconst 0, 1) := dk_3 (dk_at dksX0_cold_0 5 rfl rfl)
theorem dX0_cold_6 : decode cX0_cold 6 = .ok (.sipush 333, 3) := dk_17 1 77 (dk_at dksX0_cold_0 6 rfl rfl)
theorem dX0_cold_9 : decode cX0_cold 9 = .ok (.invokestatic 160, 3) := dk_184 0 160 (dk_at dksX0_cold_0 9 rfl rfl)
theorem dX0_cold_12 : decode cX0_cold 12 = .ok (.ifCond .eq 25, 3) := dk_153 0 25 (dk_at dksX0_cold_0 12 rfl rfl)
theorem dX0_cold_15 : decode cX0_cold 15 = .ok (.iload_n 2, 1) := dk_28 (dk_at dksX0_cold_0 15 rfl rfl)
theorem dX0_cold_16 : decode cX0_cold 16 = .ok (.iload_n 1, 1) := dk_27 (dk_at dksX0_cold_0 16 rfl rfl)
theorem dX0_cold_17 : decode cX0_cold 17 = .ok (.sipush 333, 3) := dk_17 1 77 (dk_at dksX0_cold_0 17 rfl rfl)
theorem dX0_cold_20 : decode cX0_cold 20 = .ok (.invokestatic 160, 3) := dk_184 0 160 (dk_at dksX0_cold_0 20 rfl rfl)
theorem dX0_cold_23 : decode cX0_cold 23 = .ok (.ifCond .eq 14, 3) := dk_153 0 14 (dk_at dksX0_cold_1 0 rfl rfl)
theorem dX0_cold_26 : decode cX0_cold 26 = .ok (.iload_n 3, 1) := dk_29 (dk_at dksX0_cold_1 3 rfl rfl)
theorem dX0_cold_27 : decode cX0_cold 27 = .ok (.bipush (-50), 2) := dk_16 206 (dk_at dksX0_cold_1 4 rfl rfl)
theorem dX0_cold_29 : decode cX0_cold 29 = .ok (.bipush 20, 2) := dk_16 20 (dk_at dksX0_cold_1 6 rfl rfl)
theorem dX0_cold_31 : decode cX0_cold 31 = .ok (.invokestatic 160, 3) := dk_184 0 160 (dk_at dksX0_cold_1 8 rfl rfl)
theorem dX0_cold_34 : decode cX0_cold 34 = .ok (.ifCond .ne 10, 3) := dk_154 0 10 (dk_at dksX0_cold_1 11 rfl rfl)
theorem dX0_cold_37 : decode cX0_cold 37 = .ok (.aload_n 0, 1) := dk_42 (dk_at dksX0_cold_1 14 rfl rfl)
theorem dX0_cold_38 : decode cX0_cold 38 = .ok (.iconst 2, 1) := dk_5 (dk_at dksX0_cold_1 15 rfl rfl)
theorem dX0_cold_39 : decode cX0_cold 39 = .ok (.putfield 144, 3) := dk_181 0 144 (dk_at dksX0_cold_1 16 rfl rfl)
theorem dX0_cold_42 : decode cX0_cold 42 = .ok (.iconst 0, 1) := dk_3 (dk_at dksX0_cold_1 19 rfl rfl)
theorem dX0_cold_43 : decode cX0_cold 43 = .ok (.ireturn, 1) := dk_172 (dk_at dksX0_cold_1 20 rfl rfl)
theorem dX0_cold_44 : decode cX0_cold 44 = .ok (.iload_n 1, 1) := dk_27 (dk_at dksX0_cold_1 21 rfl rfl)
theorem dX0_cold_45 : decode cX0_cold 45 = .ok (.istore 4, 2) := dk_54 4 (dk_at dksX0_cold_1 22 rfl rfl)
theorem dX0_cold_47 : decode cX0_cold 47 = .ok (.iload 4, 2) := dk_21 4 (dk_at dksX0_cold_2 0 rfl rfl)
theorem dX0_cold_49 : decode cX0_cold 49 = .ok (.iload_n 2, 1) := dk_28 (dk_at dksX0_cold_2 2 rfl rfl)
theorem dX0_cold_50 : decode cX0_cold 50 = .ok (.if_icmp .gt 35, 3) := dk_163 0 35 (dk_at dksX0_cold_2 3 rfl rfl)
theorem dX0_cold_53 : decode cX0_cold 53 = .ok (.bipush 6, 2) := dk_16 6 (dk_at dksX0_cold_2 6 rfl rfl)
theorem dX0_cold_55 : decode cX0_cold 55 = .ok (.iload 4, 2) := dk_21 4 (dk_at dksX0_cold_2 8 rfl rfl)
theorem dX0_cold_57 : decode cX0_cold 57 = .ok (.imul, 1) := dk_104 (dk_at dksX0_cold_2 10 rfl rfl)
theorem dX0_cold_58 : decode cX0_cold 58 = .ok (.aload_n 0, 1) := dk_42 (dk_at dksX0_cold_2 11 rfl rfl)
theorem dX0_cold_59 : decode cX0_cold 59 = .ok (.getfield 104, 3) := dk_180 0 104 (dk_at dksX0_cold_2 12 rfl rfl)
theorem dX0_cold_62 : decode cX0_cold 62 = .ok (.getfield 167, 3) := dk_180 0 167 (dk_at dksX0_cold_2 15 rfl rfl)
theorem dX0_cold_65 : decode cX0_cold 65 = .ok (.if_icmp .lt 14, 3) := dk_161 0 14 (dk_at dksX0_cold_2 18 rfl rfl)
theorem dX0_cold_68 : decode cX0_cold 68 = .ok (.aload_n 0, 1) := dk_42 (dk_at dksX0_cold_2 21 rfl rfl)
theorem dX0_cold_69 : decode cX0_cold 69 = .ok (.getfield 104, 3) := dk_180 0 104 (dk_at dksX0_cold_3 0 rfl rfl)
theorem dX0_cold_72 : decode cX0_cold 72 = .ok (.getfield 187, 3) := dk_180 0 187 (dk_at dksX0_cold_3 3 rfl rfl)
theorem dX0_cold_75 : decode cX0_cold 75 = .ok (.iload 4, 2) := dk_21 4 (dk_at dksX0_cold_3 6 rfl rfl)
theorem dX0_cold_77 : decode cX0_cold 77 = .ok (.iload_n 3, 1) := dk_29 (dk_at dksX0_cold_3 8 rfl rfl)
theorem dX0_cold_78 : decode cX0_cold 78 = .ok (.iastore, 1) := dk_79 (dk_at dksX0_cold_3 9 rfl rfl)
theorem dX0_cold_79 : decode cX0_cold 79 = .ok (.iinc 4 1, 3) := dk_132 4 1 (dk_at dksX0_cold_3 10 rfl rfl)
theorem dX0_cold_82 : decode cX0_cold 82 = .ok (.goto (-35), 3) := dk_167 255 221 (dk_at dksX0_cold_3 13 rfl rfl)
theorem dX0_cold_85 : decode cX0_cold 85 = .ok (.iconst 1, 1) := dk_4 (dk_at dksX0_cold_3 16 rfl rfl)
theorem dX0_cold_86 : decode cX0_cold 86 = .ok (.ireturn, 1) := dk_172 (dk_at dksX0_cold_3 17 rfl rfl)
abbrev cX0_feed : ByteArray := prog_1_method_12_code
def yX0_feed : MethodName := ⟨RX0, "feed", "(IIIII)I"⟩
def dkwX0_feed_2 : List UInt8 := [172]
abbrev dktX0_feed_2 : List UInt8 := dkwX0_feed_2 ++ []
def dkwX0_feed_1 : List UInt8 := [182, 0, 192, 42, 29, 182, 0, 192, 42, 21, 4, 182, 0, 192, 42, 21, 5, 182, 0, 192, 42, 180, 0, 189]
abbrev dktX0_feed_1 : List UInt8 := dkwX0_feed_1 ++ dktX0_feed_2
def dkwX0_feed_0 : List UInt8 := [42, 180, 0, 189, 16, 20, 96, 17, 1, 144, 164, 0, 5, 2, 172, 42, 27, 182, 0, 192, 42, 28]
abbrev dktX0_feed_0 : List UInt8 := dkwX0_feed_0 ++ dktX0_feed_1
theorem dksX0_feed_0 : cX0_feed.data.toList.drop 0 = dktX0_feed_0 := by decide +kernel
theorem dksX0_feed_1 : cX0_feed.data.toList.drop 22 = dktX0_feed_1 := dk_seg dksX0_feed_0 22 rfl rfl
theorem dksX0_feed_2 : cX0_feed.data.toList.drop 46 = dktX0_feed_2 := dk_seg dksX0_feed_1 24 rfl rfl
theorem dX0_feed_0 : decode cX0_feed 0 = .ok (.aload_n 0, 1) := dk_42 (dk_at dksX0_feed_0 0 rfl rfl)
theorem dX0_feed_1 : decode cX0_feed 1 = .ok (.getfield 189, 3) := dk_180 0 189 (dk_at dksX0_feed_0 1 rfl rfl)
theorem dX0_feed_4 : decode cX0_feed 4 = .ok (.bipush 20, 2) := dk_16 20 (dk_at dksX0_feed_0 4 rfl rfl)
theorem dX0_feed_6 : decode cX0_feed 6 = .ok (.iadd, 1) := dk_96 (dk_at dksX0_feed_0 6 rfl rfl)
theorem dX0_feed_7 : decode cX0_feed 7 = .ok (.sipush 400, 3) := dk_17 1 144 (dk_at dksX0_feed_0 7 rfl rfl)
theorem dX0_feed_10 : decode cX0_feed 10 = .ok (.if_icmp .le 5, 3) := dk_164 0 5 (dk_at dksX0_feed_0 10 rfl rfl)
theorem dX0_feed_13 : decode cX0_feed 13 = .ok (.iconst (-1), 1) := dk_2 (dk_at dksX0_feed_0 13 rfl rfl)
theorem dX0_feed_14 : decode cX0_feed 14 = .ok (.ireturn, 1) := dk_172 (dk_at dksX0_feed_0 14 rfl rfl)
theorem dX0_feed_15 : decode cX0_feed 15 = .ok (.aload_n 0, 1) := dk_42 (dk_at dksX0_feed_0 15 rfl rfl)
theorem dX0_feed_16 : decode cX0_feed 16 = .ok (.iload_n 1, 1) := dk_27 (dk_at dksX0_feed_0 16 rfl rfl)
theorem dX0_feed_17 : decode cX0_feed 17 = .ok (.invokevirtual 192, 3) := dk_182 0 192 (dk_at dksX0_feed_0 17 rfl rfl)
theorem dX0_feed_20 : decode cX0_feed 20 = .ok (.aload_n 0, 1) := dk_42 (dk_at dksX0_feed_0 20 rfl rfl)
theorem dX0_feed_21 : decode cX0_feed 21 = .ok (.iload_n 2, 1) := dk_28 (dk_at dksX0_feed_0 21 rfl rfl)
theorem dX0_feed_22 : decode cX0_feed 22 = .ok (.invokevirtual 192, 3) := dk_182 0 192 (dk_at dksX0_feed_1 0 rfl rfl)
theorem dX0_feed_25 : decode cX0_feed 25 = .ok (.aload_n 0, 1) := dk_42 (dk_at dksX0_feed_1 3 rfl rfl)
theorem dX0_feed_26 : decode cX0_feed 26 = .ok (.iload_n 3, 1) := dk_29 (dk_at dksX0_feed_1 4 rfl rfl)
theorem dX0_feed_27 : decode cX0_feed 27 = .ok (.invokevirtual 192, 3) := dk_182 0 192 (dk_at dksX0_feed_1 5 rfl rfl)
theorem dX0_feed_30 : decode cX0_feed 30 = .ok (.aload_n 0, 1) := dk_42 (dk_at dksX0_feed_1 8 rfl rfl)
theorem dX0_feed_31 : decode cX0_feed 31 = .ok (.iload 4, 2) := dk_21 4 (dk_at dksX0_feed_1 9 rfl rfl)
theorem dX0_feed_33 : decode cX0_feed 33 = .ok (.invokevirtual 192, 3) := dk_182 0 192 (dk_at dksX0_feed_1 11 rfl rfl)
theorem dX0_feed_36 : decode cX0_feed 36 = .ok (.aload_n 0, 1) := dk_42 (dk_at dksX0_feed_1 14 rfl rfl)
theorem dX0_feed_37 : decode cX0_feed 37 = .ok (.iload 5, 2) := dk_21 5 (dk_at dksX0_feed_1 15 rfl rfl)
theorem dX0_feed_39 : decode cX0_feed 39 = .ok (.invokevirtual 192, 3) := dk_182 0 192 (dk_at dksX0_feed_1 17 rfl rfl)
theorem dX0_feed_42 : decode cX0_feed 42 = .ok (.aload_n 0, 1) := dk_42 (dk_at dksX0_feed_1 20 rfl rfl)
theorem dX0_feed_43 : decode cX0_feed 43 = .ok (.getfield 189, 3) := dk_180 0 189 (dk_at dksX0_feed_1 21 rfl rfl)
theorem dX0_feed_46 : decode cX0_feed 46 = .ok (.ireturn, 1) := dk_172 (dk_at dksX0_feed_2 0 rfl rfl)
abbrev cX0_word : ByteArray := prog_1_method_13_code
def yX0_word : MethodName := ⟨RX0, "word", "(I)V"⟩
def dkwX0_word_1 : List UInt8 := [180, 0, 189, 4, 96, 181, 0, 189, 132, 2, 248, 167, 255, 226, 177]
abbrev dktX0_word_1 : List UInt8 := dkwX0_word_1 ++ []
def dkwX0_word_0 : List UInt8 := [16, 24, 61, 28, 155, 0, 32, 42, 180, 0, 90, 42, 180, 0, 189, 27, 28, 122, 145, 84, 42, 89]
abbrev dktX0_word_0 : List UInt8 := dkwX0_word_0 ++ dktX0_word_1
theorem dksX0_word_0 : cX0_word.data.toList.drop 0 = dktX0_word_0 := by decide +kernel
theorem dksX0_word_1 : cX0_word.data.toList.drop 22 = dktX0_word_1 := dk_seg dksX0_word_0 22 rfl rfl
theorem dX0_word_0 : decode cX0_word 0 = .ok (.bipush 24, 2) := dk_16 24 (dk_at dksX0_word_0 0 rfl rfl)
theorem dX0_word_2 : decode cX0_word 2 = .ok (.istore_n 2, 1) := dk_61 (dk_at dksX0_word_0 2 rfl rfl)
theorem dX0_word_3 : decode cX0_word 3 = .ok (.iload_n 2, 1) := dk_28 (dk_at dksX0_word_0 3 rfl rfl)
theorem dX0_word_4 : decode cX0_word 4 = .ok (.ifCond .lt 32, 3) := dk_155 0 32 (dk_at dksX0_word_0 4 rfl rfl)
theorem dX0_word_7 : decode cX0_word 7 = .ok (.aload_n 0, 1) := dk_42 (dk_at dksX0_word_0 7 rfl rfl)
theorem dX0_word_8 : decode cX0_word 8 = .ok (.getfield 90, 3) := dk_180 0 90 (dk_at dksX0_word_0 8 rfl rfl)
theorem dX0_word_11 : decode cX0_word 11 = .ok (.aload_n 0, 1) := dk_42 (dk_at dksX0_word_0 11 rfl rfl)
theorem dX0_word_12 : decode cX0_word 12 = .ok (.getfield 189, 3) := dk_180 0 189 (dk_at dksX0_word_0 12 rfl rfl)
theorem dX0_word_15 : decode cX0_word 15 = .ok (.iload_n 1, 1) := dk_27 (dk_at dksX0_word_0 15 rfl rfl)
theorem dX0_word_16 : decode cX0_word 16 = .ok (.iload_n 2, 1) := dk_28 (dk_at dksX0_word_0 16 rfl rfl)
theorem dX0_word_17 : decode cX0_word 17 = .ok (.ishr, 1) := dk_122 (dk_at dksX0_word_0 17 rfl rfl)
theorem dX0_word_18 : decode cX0_word 18 = .ok (.i2b, 1) := dk_145 (dk_at dksX0_word_0 18 rfl rfl)
theorem dX0_word_19 : decode cX0_word 19 = .ok (.bastore, 1) := dk_84 (dk_at dksX0_word_0 19 rfl rfl)
theorem dX0_word_20 : decode cX0_word 20 = .ok (.aload_n 0, 1) := dk_42 (dk_at dksX0_word_0 20 rfl rfl)
theorem dX0_word_21 : decode cX0_word 21 = .ok (.dup, 1) := dk_89 (dk_at dksX0_word_0 21 rfl rfl)
theorem dX0_word_22 : decode cX0_word 22 = .ok (.getfield 189, 3) := dk_180 0 189 (dk_at dksX0_word_1 0 rfl rfl)
theorem dX0_word_25 : decode cX0_word 25 = .ok (.iconst 1, 1) := dk_4 (dk_at dksX0_word_1 3 rfl rfl)
theorem dX0_word_26 : decode cX0_word 26 = .ok (.iadd, 1) := dk_96 (dk_at dksX0_word_1 4 rfl rfl)
theorem dX0_word_27 : decode cX0_word 27 = .ok (.putfield 189, 3) := dk_181 0 189 (dk_at dksX0_word_1 5 rfl rfl)
theorem dX0_word_30 : decode cX0_word 30 = .ok (.iinc 2 (-8), 3) := dk_132 2 248 (dk_at dksX0_word_1 8 rfl rfl)
theorem dX0_word_33 : decode cX0_word 33 = .ok (.goto (-30), 3) := dk_167 255 226 (dk_at dksX0_word_1 11 rfl rfl)
theorem dX0_word_36 : decode cX0_word 36 = .ok (.return_, 1) := dk_177 (dk_at dksX0_word_1 14 rfl rfl)
abbrev cX0_plan : ByteArray := prog_1_method_15_code
def yX0_plan : MethodName := ⟨RX0, "plan", "(I)I"⟩
def dkwX0_plan_3 : List UInt8 := [180, 0, 209, 44, 83, 42, 89, 180, 0, 209, 4, 96, 181, 0, 209, 42, 180, 0, 209, 4, 100, 172]
abbrev dktX0_plan_3 : List UInt8 := dkwX0_plan_3 ++ []
def dkwX0_plan_2 : List UInt8 := [167, 0, 18, 78, 42, 45, 180, 0, 212, 181, 0, 195, 42, 45, 182, 0, 176, 172, 42, 180, 0, 120, 42]
abbrev dktX0_plan_2 : List UInt8 := dkwX0_plan_2 ++ dktX0_plan_3
def dkwX0_plan_1 : List UInt8 := [182, 0, 205, 42, 42, 180, 0, 209, 16, 8, 162, 0, 7, 4, 167, 0, 4, 3, 6, 182, 0, 170]
abbrev dktX0_plan_1 : List UInt8 := dkwX0_plan_1 ++ dktX0_plan_2
def dkwX0_plan_0 : List UInt8 := [42, 27, 182, 0, 201, 154, 0, 5, 2, 172, 187, 0, 118, 89, 183, 0, 204, 77, 44, 42, 180, 0, 97]
abbrev dktX0_plan_0 : List UInt8 := dkwX0_plan_0 ++ dktX0_plan_1
theorem dksX0_plan_0 : cX0_plan.data.toList.drop 0 = dktX0_plan_0 := by decide +kernel
theorem dksX0_plan_1 : cX0_plan.data.toList.drop 23 = dktX0_plan_1 := dk_seg dksX0_plan_0 23 rfl rfl
theorem dksX0_plan_2 : cX0_plan.data.toList.drop 45 = dktX0_plan_2 := dk_seg dksX0_plan_1 22 rfl rfl
theorem dksX0_plan_3 : cX0_plan.data.toList.drop 68 = dktX0_plan_3 := dk_seg dksX0_plan_2 23 rfl rfl
theorem dX0_plan_0 : decode cX0_plan 0 = .ok (.aload_n 0, 1) := dk_42 (dk_at dksX0_plan_0 0 rfl rfl)
theorem dX0_plan_1 : decode cX0_plan 1 = .ok (.iload_n 1, 1) := dk_27 (dk_at dksX0_plan_0 1 rfl rfl)
theorem dX0_plan_2 : decode cX0_plan 2 = .ok (.invokevirtual 201, 3) := dk_182 0 201 (dk_at dksX0_plan_0 2 rfl rfl)
theorem dX0_plan_5 : decode cX0_plan 5 = .ok (.ifCond .ne 5, 3) := dk_154 0 5 (dk_at dksX0_plan_0 5 rfl rfl)
theorem dX0_plan_8 : decode cX0_plan 8 = .ok (.iconst (-1), 1) := dk_2 (dk_at dksX0_plan_0 8 rfl rfl)
theorem dX0_plan_9 : decode cX0_plan 9 = .ok (.ireturn, 1) := dk_172 (dk_at dksX0_plan_0 9 rfl rfl)
theorem dX0_plan_10 : decode cX0_plan 10 = .ok (.new 118, 3) := dk_187 0 118 (dk_at dksX0_plan_0 10 rfl rfl)
theorem dX0_plan_13 : decode cX0_plan 13 = .ok (.dup, 1) := dk_89 (dk_at dksX0_plan_0 13 rfl rfl)
theorem dX0_plan_14 : decode cX0_plan 14 = .ok (.invokespecial 204, 3) := dk_183 0 204 (dk_at dksX0_plan_0 14 rfl rfl)
theorem dX0_plan_17 : decode cX0_plan 17 = .ok (.astore_n 2, 1) := dk_77 (dk_at dksX0_plan_0 17 rfl rfl)
theorem dX0_plan_18 : decode cX0_plan 18 = .ok (.aload_n 2, 1) := dk_44 (dk_at dksX0_plan_0 18 rfl rfl)
theorem dX0_plan_19 : decode cX0_plan 19 = .ok (.aload_n 0, 1) := dk_42 (dk_at dksX0_plan_0 19 rfl rfl)
theorem dX0_plan_20 : decode cX0_plan 20 = .ok (.getfield 97, 3) := dk_180 0 97 (dk_at dksX0_plan_0 20 rfl rfl)
theorem dX0_plan_23 : decode cX0_plan 23 = .ok (.invokevirtual 205, 3) := dk_182 0 205 (dk_at dksX0_plan_1 0 rfl rfl)
theorem dX0_plan_26 : decode cX0_plan 26 = .ok (.aload_n 0, 1) := dk_42 (dk_at dksX0_plan_1 3 rfl rfl)
theorem dX0_plan_27 : decode cX0_plan 27 = .ok (.aload_n 0, 1) := dk_42 (dk_at dksX0_plan_1 4 rfl rfl)
theorem dX0_plan_28 : decode cX0_plan 28 = .ok (.getfield 209, 3) := dk_180 0 209 (dk_at dksX0_plan_1 5 rfl rfl)
theorem dX0_plan_31 : decode cX0_plan 31 = .ok (.bipush 8, 2) := dk_16 8 (dk_at dksX0_plan_1 8 rfl rfl)
theorem dX0_plan_33 : decode cX0_plan 33 = .ok (.if_icmp .ge 7, 3) := dk_162 0 7 (dk_at dksX0_plan_1 10 rfl rfl)
theorem dX0_plan_36 : decode cX0_plan 36 = .ok (.iconst 1, 1) := dk_4 (dk_at dksX0_plan_1 13 rfl rfl)
theorem dX0_plan_37 : decode cX0_plan 37 = .ok (.goto 4, 3) := dk_167 0 4 (dk_at dksX0_plan_1 14 rfl rfl)
theorem dX0_plan_40 : decode cX0_plan 40 = .ok (.iconst 0, 1) := dk_3 (dk_at dksX0_plan_1 17 rfl rfl)
theorem dX0_plan_41 : decode cX0_plan 41 = .ok (.iconst 3, 1) := dk_6 (dk_at dksX0_plan_1 18 rfl rfl)
theorem dX0_plan_42 : decode cX0_plan 42 = .ok (.invokevirtual 170, 3) := dk_182 0 170 (dk_at dksX0_plan_1 19 rfl rfl)
theorem dX0_plan_45 : decode cX0_plan 45 = .ok (.goto 18, 3) := dk_167 0 18 (dk_at dksX0_plan_2 0 rfl rfl)
theorem dX0_plan_48 : decode cX0_plan 48 = .ok (.astore_n 3, 1) := dk_78 (dk_at dksX0_plan_2 3 rfl rfl)
theorem dX0_plan_49 : decode cX0_plan 49 = .ok (.aload_n 0, 1) := dk_42 (dk_at dksX0_plan_2 4 rfl rfl)
theorem dX0_plan_50 : decode cX0_plan 50 = .ok (.aload_n 3, 1) := dk_45 (dk_at dksX0_plan_2 5 rfl rfl)
theorem dX0_plan_51 : decode cX0_plan 51 = .ok (.getfield 212, 3) := dk_180 0 212 (dk_at dksX0_plan_2 6 rfl rfl)
theorem dX0_plan_54 : decode cX0_plan 54 = .ok (.putfield 195, 3) := dk_181 0 195 (dk_at dksX0_plan_2 9 rfl rfl)
theorem dX0_plan_57 : decode cX0_plan 57 = .ok (.aload_n 0, 1) := dk_42 (dk_at dksX0_plan_2 12 rfl rfl)
theorem dX0_plan_58 : decode cX0_plan 58 = .ok (.aload_n 3, 1) := dk_45 (dk_at dksX0_plan_2 13 rfl rfl)
theorem dX0_plan_59 : decode cX0_plan 59 = .ok (.invokevirtual 176, 3) := dk_182 0 176 (dk_at dksX0_plan_2 14 rfl rfl)
theorem dX0_plan_62 : decode cX0_plan 62 = .ok (.ireturn, 1) := dk_172 (dk_at dksX0_plan_2 17 rfl rfl)
theorem dX0_plan_63 : decode cX0_plan 63 = .ok (.aload_n 0, 1) := dk_42 (dk_at dksX0_plan_2 18 rfl rfl)
theorem dX0_plan_64 : decode cX0_plan 64 = .ok (.getfield 120, 3) := dk_180 0 120 (dk_at dksX0_plan_2 19 rfl rfl)
theorem dX0_plan_67 : decode cX0_plan 67 = .ok (.aload_n 0, 1) := dk_42 (dk_at dksX0_plan_2 22 rfl rfl)
theorem dX0_plan_68 : decode cX0_plan 68 = .ok (.getfield 209, 3) := dk_180 0 209 (dk_at dksX0_plan_3 0 rfl rfl)
theorem dX0_plan_71 : decode cX0_plan 71 = .ok (.aload_n 2, 1) := dk_44 (dk_at dksX0_plan_3 3 rfl rfl)
theorem dX0_plan_72 : decode cX0_plan 72 = .ok (.aastore, 1) := dk_83 (dk_at dksX0_plan_3 4 rfl rfl)
theorem dX0_plan_73 : decode cX0_plan 73 = .ok (.aload_n 0, 1) := dk_42 (dk_at dksX0_plan_3 5 rfl rfl)
theorem dX0_plan_74 : decode cX0_plan 74 = .ok (.dup, 1) := dk_89 (dk_at dksX0_plan_3 6 rfl rfl)
theorem dX0_plan_75 : decode cX0_plan 75 = .ok (.getfield 209, 3) := dk_180 0 209 (dk_at dksX0_plan_3 7 rfl rfl)
theorem dX0_plan_78 : decode cX0_plan 78 = .ok (.iconst 1, 1) := dk_4 (dk_at dksX0_plan_3 10 rfl rfl)
theorem dX0_plan_79 : decode cX0_plan 79 = .ok (.iadd, 1) := dk_96 (dk_at dksX0_plan_3 11 rfl rfl)
theorem dX0_plan_80 : decode cX0_plan 80 = .ok (.putfield 209, 3) := dk_181 0 209 (dk_at dksX0_plan_3 12 rfl rfl)
theorem dX0_plan_83 : decode cX0_plan 83 = .ok (.aload_n 0, 1) := dk_42 (dk_at dksX0_plan_3 15 rfl rfl)
theorem dX0_plan_84 : decode cX0_plan 84 = .ok (.getfield 209, 3) := dk_180 0 209 (dk_at dksX0_plan_3 16 rfl rfl)
theorem dX0_plan_87 : decode cX0_plan 87 = .ok (.iconst 1, 1) := dk_4 (dk_at dksX0_plan_3 19 rfl rfl)
theorem dX0_plan_88 : decode cX0_plan 88 = .ok (.isub, 1) := dk_100 (dk_at dksX0_plan_3 20 rfl rfl)
theorem dX0_plan_89 : decode cX0_plan 89 = .ok (.ireturn, 1) := dk_172 (dk_at dksX0_plan_3 21 rfl rfl)
abbrev cX0_takes : ByteArray := prog_1_method_14_code
def yX0_takes : MethodName := ⟨RX0, "takes", "(I)Z"⟩
def dkwX0_takes_1 : List UInt8 := [3, 181, 0, 189, 42, 3, 181, 0, 195, 42, 180, 0, 97, 27, 182, 0, 198, 4, 172]
abbrev dktX0_takes_1 : List UInt8 := dkwX0_takes_1 ++ []
def dkwX0_takes_0 : List UInt8 := [42, 182, 0, 164, 27, 3, 42, 180, 0, 189, 184, 0, 160, 154, 0, 10, 42, 5, 181, 0, 144, 3, 172, 42]
abbrev dktX0_takes_0 : List UInt8 := dkwX0_takes_0 ++ dktX0_takes_1
theorem dksX0_takes_0 : cX0_takes.data.toList.drop 0 = dktX0_takes_0 := by decide +kernel
theorem dksX0_takes_1 : cX0_takes.data.toList.drop 24 = dktX0_takes_1 := dk_seg dksX0_takes_0 24 rfl rfl
theorem dX0_takes_0 : decode cX0_takes 0 = .ok (.aload_n 0, 1) := dk_42 (dk_at dksX0_takes_0 0 rfl rfl)
theorem dX0_takes_1 : decode cX0_takes 1 = .ok (.invokevirtual 164, 3) := dk_182 0 164 (dk_at dksX0_takes_0 1 rfl rfl)
theorem dX0_takes_4 : decode cX0_takes 4 = .ok (.iload_n 1, 1) := dk_27 (dk_at dksX0_takes_0 4 rfl rfl)
theorem dX0_takes_5 : decode cX0_takes 5 = .ok (.iconst 0, 1) := dk_3 (dk_at dksX0_takes_0 5 rfl rfl)
theorem dX0_takes_6 : decode cX0_takes 6 = .ok (.aload_n 0, 1) := dk_42 (dk_at dksX0_takes_0 6 rfl rfl)
theorem dX0_takes_7 : decode cX0_takes 7 = .ok (.getfield 189, 3) := dk_180 0 189 (dk_at dksX0_takes_0 7 rfl rfl)
theorem dX0_takes_10 : decode cX0_takes 10 = .ok (.invokestatic 160, 3) := dk_184 0 160 (dk_at dksX0_takes_0 10 rfl rfl)
theorem dX0_takes_13 : decode cX0_takes 13 = .ok (.ifCond .ne 10, 3) := dk_154 0 10 (dk_at dksX0_takes_0 13 rfl rfl)
theorem dX0_takes_16 : decode cX0_takes 16 = .ok (.aload_n 0, 1) := dk_42 (dk_at dksX0_takes_0 16 rfl rfl)
theorem dX0_takes_17 : decode cX0_takes 17 = .ok (.iconst 2, 1) := dk_5 (dk_at dksX0_takes_0 17 rfl rfl)
theorem dX0_takes_18 : decode cX0_takes 18 = .ok (.putfield 144, 3) := dk_181 0 144 (dk_at dksX0_takes_0 18 rfl rfl)
theorem dX0_takes_21 : decode cX0_takes 21 = .ok (.iconst 0, 1) := dk_3 (dk_at dksX0_takes_0 21 rfl rfl)
theorem dX0_takes_22 : decode cX0_takes 22 = .ok (.ireturn, 1) := dk_172 (dk_at dksX0_takes_0 22 rfl rfl)
theorem dX0_takes_23 : decode cX0_takes 23 = .ok (.aload_n 0, 1) := dk_42 (dk_at dksX0_takes_0 23 rfl rfl)
theorem dX0_takes_24 : decode cX0_takes 24 = .ok (.iconst 0, 1) := dk_3 (dk_at dksX0_takes_1 0 rfl rfl)
theorem dX0_takes_25 : decode cX0_takes 25 = .ok (.putfield 189, 3) := dk_181 0 189 (dk_at dksX0_takes_1 1 rfl rfl)
theorem dX0_takes_28 : decode cX0_takes 28 = .ok (.aload_n 0, 1) := dk_42 (dk_at dksX0_takes_1 4 rfl rfl)
theorem dX0_takes_29 : decode cX0_takes 29 = .ok (.iconst 0, 1) := dk_3 (dk_at dksX0_takes_1 5 rfl rfl)
theorem dX0_takes_30 : decode cX0_takes 30 = .ok (.putfield 195, 3) := dk_181 0 195 (dk_at dksX0_takes_1 6 rfl rfl)
theorem dX0_takes_33 : decode cX0_takes 33 = .ok (.aload_n 0, 1) := dk_42 (dk_at dksX0_takes_1 9 rfl rfl)
theorem dX0_takes_34 : decode cX0_takes 34 = .ok (.getfield 97, 3) := dk_180 0 97 (dk_at dksX0_takes_1 10 rfl rfl)
theorem dX0_takes_37 : decode cX0_takes 37 = .ok (.iload_n 1, 1) := dk_27 (dk_at dksX0_takes_1 13 rfl rfl)
theorem dX0_takes_38 : decode cX0_takes 38 = .ok (.invokevirtual 198, 3) := dk_182 0 198 (dk_at dksX0_takes_1 14 rfl rfl)
theorem dX0_takes_41 : decode cX0_takes 41 = .ok (.iconst 1, 1) := dk_4 (dk_at dksX0_takes_1 17 rfl rfl)
theorem dX0_takes_42 : decode cX0_takes 42 = .ok (.ireturn, 1) := dk_172 (dk_at dksX0_takes_1 18 rfl rfl)
abbrev cX0_actOf : ByteArray := prog_1_method_1_code
def yX0_actOf : MethodName := ⟨RX0, "actOf", "(Ljava/lang/String;)I"⟩
def dkwX0_actOf_6 : List UInt8 := [3, 172, 4, 172, 5, 172, 6, 172, 2, 172]
abbrev dktX0_actOf_6 : List UInt8 := dkwX0_actOf_6 ++ []
def dkwX0_actOf_5 : List UInt8 := [170, 0, 0, 0, 0, 38, 0, 0, 0, 0, 0, 0, 0, 3, 0, 0, 0, 30, 0, 0, 0, 32, 0, 0, 0, 34, 0, 0, 0, 36]
abbrev dktX0_actOf_5 : List UInt8 := dkwX0_actOf_5 ++ dktX0_actOf_6
def dkwX0_actOf_4 : List UInt8 := [153, 0, 5, 6, 61, 28]
abbrev dktX0_actOf_4 : List UInt8 := dkwX0_actOf_4 ++ dktX0_actOf_5
def dkwX0_actOf_3 : List UInt8 := [61, 167, 0, 28, 43, 18, 15, 182, 0, 9, 153, 0, 19, 5, 61, 167, 0, 14, 43, 18, 17, 182, 0, 9]
abbrev dktX0_actOf_3 : List UInt8 := dkwX0_actOf_3 ++ dktX0_actOf_4
def dkwX0_actOf_2 : List UInt8 := [43, 18, 7, 182, 0, 9, 153, 0, 47, 3, 61, 167, 0, 42, 43, 18, 13, 182, 0, 9, 153, 0, 33, 4]
abbrev dktX0_actOf_2 : List UInt8 := dkwX0_actOf_2 ++ dktX0_actOf_3
def dkwX0_actOf_1 : List UInt8 := [171, 0, 0, 0, 0, 0, 0, 97, 0, 0, 0, 4, 0, 0, 12, 232, 0, 0, 0, 44, 0, 47, 229, 158, 0, 0, 0, 72, 0, 54, 6, 89, 0, 0, 0, 58, 6, 33, 78, 183, 0, 0, 0, 86]
abbrev dktX0_actOf_1 : List UInt8 := dkwX0_actOf_1 ++ dktX0_actOf_2
def dkwX0_actOf_0 : List UInt8 := [42, 76, 2, 61, 43, 182, 0, 1]
abbrev dktX0_actOf_0 : List UInt8 := dkwX0_actOf_0 ++ dktX0_actOf_1
theorem dksX0_actOf_0 : cX0_actOf.data.toList.drop 0 = dktX0_actOf_0 := by decide +kernel
theorem dksX0_actOf_1 : cX0_actOf.data.toList.drop 8 = dktX0_actOf_1 := dk_seg dksX0_actOf_0 8 rfl rfl
theorem dksX0_actOf_2 : cX0_actOf.data.toList.drop 52 = dktX0_actOf_2 := dk_seg dksX0_actOf_1 44 rfl rfl
theorem dksX0_actOf_3 : cX0_actOf.data.toList.drop 76 = dktX0_actOf_3 := dk_seg dksX0_actOf_2 24 rfl rfl
theorem dksX0_actOf_4 : cX0_actOf.data.toList.drop 100 = dktX0_actOf_4 := dk_seg dksX0_actOf_3 24 rfl rfl
theorem dksX0_actOf_5 : cX0_actOf.data.toList.drop 106 = dktX0_actOf_5 := dk_seg dksX0_actOf_4 6 rfl rfl
theorem dksX0_actOf_6 : cX0_actOf.data.toList.drop 136 = dktX0_actOf_6 := dk_seg dksX0_actOf_5 30 rfl rfl
theorem dX0_actOf_0 : decode cX0_actOf 0 = .ok (.aload_n 0, 1) := dk_42 (dk_at dksX0_actOf_0 0 rfl rfl)
theorem dX0_actOf_1 : decode cX0_actOf 1 = .ok (.astore_n 1, 1) := dk_76 (dk_at dksX0_actOf_0 1 rfl rfl)
theorem dX0_actOf_2 : decode cX0_actOf 2 = .ok (.iconst (-1), 1) := dk_2 (dk_at dksX0_actOf_0 2 rfl rfl)
theorem dX0_actOf_3 : decode cX0_actOf 3 = .ok (.istore_n 2, 1) := dk_61 (dk_at dksX0_actOf_0 3 rfl rfl)
theorem dX0_actOf_4 : decode cX0_actOf 4 = .ok (.aload_n 1, 1) := dk_43 (dk_at dksX0_actOf_0 4 rfl rfl)
theorem dX0_actOf_5 : decode cX0_actOf 5 = .ok (.invokevirtual 1, 3) := dk_182 0 1 (dk_at dksX0_actOf_0 5 rfl rfl)
theorem dX0_actOf_8 : decode cX0_actOf 8 = .ok (.lookupswitch 97 #[(3304, 44), (3138974, 72), (3540569, 58), (102846135, 86)], 44) := by decide +kernel
theorem dX0_actOf_52 : decode cX0_actOf 52 = .ok (.aload_n 1, 1) := dk_43 (dk_at dksX0_actOf_2 0 rfl rfl)
theorem dX0_actOf_53 : decode cX0_actOf 53 = .ok (.ldc 7, 2) := dk_18 7 (dk_at dksX0_actOf_2 1 rfl rfl)
theorem dX0_actOf_55 : decode cX0_actOf 55 = .ok (.invokevirtual 9, 3) := dk_182 0 9 (dk_at dksX0_actOf_2 3 rfl rfl)
theorem dX0_actOf_58 : decode cX0_actOf 58 = .ok (.ifCond .eq 47, 3) := dk_153 0 47 (dk_at dksX0_actOf_2 6 rfl rfl)
theorem dX0_actOf_61 : decode cX0_actOf 61 = .ok (.iconst 0, 1) := dk_3 (dk_at dksX0_actOf_2 9 rfl rfl)
theorem dX0_actOf_62 : decode cX0_actOf 62 = .ok (.istore_n 2, 1) := dk_61 (dk_at dksX0_actOf_2 10 rfl rfl)
theorem dX0_actOf_63 : decode cX0_actOf 63 = .ok (.goto 42, 3) := dk_167 0 42 (dk_at dksX0_actOf_2 11 rfl rfl)
theorem dX0_actOf_66 : decode cX0_actOf 66 = .ok (.aload_n 1, 1) := dk_43 (dk_at dksX0_actOf_2 14 rfl rfl)
theorem dX0_actOf_67 : decode cX0_actOf 67 = .ok (.ldc 13, 2) := dk_18 13 (dk_at dksX0_actOf_2 15 rfl rfl)
theorem dX0_actOf_69 : decode cX0_actOf 69 = .ok (.invokevirtual 9, 3) := dk_182 0 9 (dk_at dksX0_actOf_2 17 rfl rfl)
theorem dX0_actOf_72 : decode cX0_actOf 72 = .ok (.ifCond .eq 33, 3) := dk_153 0 33 (dk_at dksX0_actOf_2 20 rfl rfl)
theorem dX0_actOf_75 : decode cX0_actOf 75 = .ok (.iconst 1, 1) := dk_4 (dk_at dksX0_actOf_2 23 rfl rfl)
theorem dX0_actOf_76 : decode cX0_actOf 76 = .ok (.istore_n 2, 1) := dk_61 (dk_at dksX0_actOf_3 0 rfl rfl)
theorem dX0_actOf_77 : decode cX0_actOf 77 = .ok (.goto 28, 3) := dk_167 0 28 (dk_at dksX0_actOf_3 1 rfl rfl)
theorem dX0_actOf_80 : decode cX0_actOf 80 = .ok (.aload_n 1, 1) := dk_43 (dk_at dksX0_actOf_3 4 rfl rfl)
theorem dX0_actOf_81 : decode cX0_actOf 81 = .ok (.ldc 15, 2) := dk_18 15 (dk_at dksX0_actOf_3 5 rfl rfl)
theorem dX0_actOf_83 : decode cX0_actOf 83 = .ok (.invokevirtual 9, 3) := dk_182 0 9 (dk_at dksX0_actOf_3 7 rfl rfl)
theorem dX0_actOf_86 : decode cX0_actOf 86 = .ok (.ifCond .eq 19, 3) := dk_153 0 19 (dk_at dksX0_actOf_3 10 rfl rfl)
theorem dX0_actOf_89 : decode cX0_actOf 89 = .ok (.iconst 2, 1) := dk_5 (dk_at dksX0_actOf_3 13 rfl rfl)
theorem dX0_actOf_90 : decode cX0_actOf 90 = .ok (.istore_n 2, 1) := dk_61 (dk_at dksX0_actOf_3 14 rfl rfl)
theorem dX0_actOf_91 : decode cX0_actOf 91 = .ok (.goto 14, 3) := dk_167 0 14 (dk_at dksX0_actOf_3 15 rfl rfl)
theorem dX0_actOf_94 : decode cX0_actOf 94 = .ok (.aload_n 1, 1) := dk_43 (dk_at dksX0_actOf_3 18 rfl rfl)
theorem dX0_actOf_95 : decode cX0_actOf 95 = .ok (.ldc 17, 2) := dk_18 17 (dk_at dksX0_actOf_3 19 rfl rfl)
theorem dX0_actOf_97 : decode cX0_actOf 97 = .ok (.invokevirtual 9, 3) := dk_182 0 9 (dk_at dksX0_actOf_3 21 rfl rfl)
theorem dX0_actOf_100 : decode cX0_actOf 100 = .ok (.ifCond .eq 5, 3) := dk_153 0 5 (dk_at dksX0_actOf_4 0 rfl rfl)
theorem dX0_actOf_103 : decode cX0_actOf 103 = .ok (.iconst 3, 1) := dk_6 (dk_at dksX0_actOf_4 3 rfl rfl)
theorem dX0_actOf_104 : decode cX0_actOf 104 = .ok (.istore_n 2, 1) := dk_61 (dk_at dksX0_actOf_4 4 rfl rfl)
theorem dX0_actOf_105 : decode cX0_actOf 105 = .ok (.iload_n 2, 1) := dk_28 (dk_at dksX0_actOf_4 5 rfl rfl)
theorem dX0_actOf_106 : decode cX0_actOf 106 = .ok (.tableswitch 38 0 3 #[30, 32, 34, 36], 30) := by decide +kernel
theorem dX0_actOf_136 : decode cX0_actOf 136 = .ok (.iconst 0, 1) := dk_3 (dk_at dksX0_actOf_6 0 rfl rfl)
theorem dX0_actOf_137 : decode cX0_actOf 137 = .ok (.ireturn, 1) := dk_172 (dk_at dksX0_actOf_6 1 rfl rfl)
theorem dX0_actOf_138 : decode cX0_actOf 138 = .ok (.iconst 1, 1) := dk_4 (dk_at dksX0_actOf_6 2 rfl rfl)
theorem dX0_actOf_139 : decode cX0_actOf 139 = .ok (.ireturn, 1) := dk_172 (dk_at dksX0_actOf_6 3 rfl rfl)
theorem dX0_actOf_140 : decode cX0_actOf 140 = .ok (.iconst 2, 1) := dk_5 (dk_at dksX0_actOf_6 4 rfl rfl)
theorem dX0_actOf_141 : decode cX0_actOf 141 = .ok (.ireturn, 1) := dk_172 (dk_at dksX0_actOf_6 5 rfl rfl)
theorem dX0_actOf_142 : decode cX0_actOf 142 = .ok (.iconst 3, 1) := dk_6 (dk_at dksX0_actOf_6 6 rfl rfl)
theorem dX0_actOf_143 : decode cX0_actOf 143 = .ok (.ireturn, 1) := dk_172 (dk_at dksX0_actOf_6 7 rfl rfl)
theorem dX0_actOf_144 : decode cX0_actOf 144 = .ok (.iconst (-1), 1) := dk_2 (dk_at dksX0_actOf_6 8 rfl rfl)
theorem dX0_actOf_145 : decode cX0_actOf 145 = .ok (.ireturn, 1) := dk_172 (dk_at dksX0_actOf_6 9 rfl rfl)
abbrev cX0_nameOf : ByteArray := prog_1_method_2_code
def yX0_nameOf : MethodName := ⟨RX0, "nameOf", "(Ljava/lang/String;)I"⟩
def dkwX0_nameOf_11 : List UInt8 := [16, 10, 172, 2, 172]
abbrev dktX0_nameOf_11 : List UInt8 := dkwX0_nameOf_11 ++ []
def dkwX0_nameOf_10 : List UInt8 := [3, 172, 4, 172, 5, 172, 6, 172, 7, 172, 8, 172, 16, 6, 172, 16, 7, 172, 16, 8, 172, 16, 9, 172]
abbrev dktX0_nameOf_10 : List UInt8 := dkwX0_nameOf_10 ++ dktX0_nameOf_11
def dkwX0_nameOf_9 : List UInt8 := [170, 0, 0, 0, 0, 0, 86, 0, 0, 0, 0, 0, 0, 0, 10, 0, 0, 0, 59, 0, 0, 0, 61, 0, 0, 0, 63, 0, 0, 0, 65, 0, 0, 0, 67, 0, 0, 0, 69, 0, 0, 0, 71, 0, 0, 0, 74, 0, 0, 0, 77, 0, 0, 0, 80, 0, 0, 0, 83]
abbrev dktX0_nameOf_9 : List UInt8 := dkwX0_nameOf_9 ++ dktX0_nameOf_10
def dkwX0_nameOf_8 : List UInt8 := [167, 0, 15, 43, 18, 41, 182, 0, 9, 153, 0, 6, 16, 10, 61, 28]
abbrev dktX0_nameOf_8 : List UInt8 := dkwX0_nameOf_8 ++ dktX0_nameOf_9
def dkwX0_nameOf_7 : List UInt8 := [182, 0, 9, 153, 0, 36, 16, 8, 61, 167, 0, 30, 43, 18, 39, 182, 0, 9, 153, 0, 21, 16, 9, 61]
abbrev dktX0_nameOf_7 : List UInt8 := dkwX0_nameOf_7 ++ dktX0_nameOf_8
def dkwX0_nameOf_6 : List UInt8 := [61, 167, 0, 60, 43, 18, 35, 182, 0, 9, 153, 0, 51, 16, 7, 61, 167, 0, 45, 43, 18, 37]
abbrev dktX0_nameOf_6 : List UInt8 := dkwX0_nameOf_6 ++ dktX0_nameOf_7
def dkwX0_nameOf_5 : List UInt8 := [18, 31, 182, 0, 9, 153, 0, 80, 8, 61, 167, 0, 75, 43, 18, 33, 182, 0, 9, 153, 0, 66, 16, 6]
abbrev dktX0_nameOf_5 : List UInt8 := dkwX0_nameOf_5 ++ dktX0_nameOf_6
def dkwX0_nameOf_4 : List UInt8 := [153, 0, 108, 6, 61, 167, 0, 103, 43, 18, 29, 182, 0, 9, 153, 0, 94, 7, 61, 167, 0, 89, 43]
abbrev dktX0_nameOf_4 : List UInt8 := dkwX0_nameOf_4 ++ dktX0_nameOf_5
def dkwX0_nameOf_3 : List UInt8 := [61, 167, 0, 131, 43, 18, 25, 182, 0, 9, 153, 0, 122, 5, 61, 167, 0, 117, 43, 18, 27, 182, 0, 9]
abbrev dktX0_nameOf_3 : List UInt8 := dkwX0_nameOf_3 ++ dktX0_nameOf_4
def dkwX0_nameOf_2 : List UInt8 := [43, 18, 21, 182, 0, 9, 153, 0, 150, 3, 61, 167, 0, 145, 43, 18, 23, 182, 0, 9, 153, 0, 136, 4]
abbrev dktX0_nameOf_2 : List UInt8 := dkwX0_nameOf_2 ++ dktX0_nameOf_3
def dkwX0_nameOf_1 : List UInt8 := [171, 0, 0, 0, 0, 0, 1, 0, 0, 0, 0, 11, 0, 1, 186, 139, 0, 0, 0, 100, 0, 46, 174, 228, 0, 0, 0, 156, 0, 47, 34, 183, 0, 0, 0, 184, 0, 48, 245, 228, 0, 0, 0, 214, 0, 50, 160, 7, 0, 0, 0, 199, 0, 50, 196, 230, 0, 0, 0, 244, 0, 51, 19, 197, 0, 0, 0, 142, 0, 52, 152, 160, 0, 0, 0, 229, 0, 53, 91, 212, 0, 0, 0, 114, 0, 55, 159, 120, 0, 0, 0, 128, 6, 47, 101, 16, 0, 0, 0, 170]
abbrev dktX0_nameOf_1 : List UInt8 := dkwX0_nameOf_1 ++ dktX0_nameOf_2
def dkwX0_nameOf_0 : List UInt8 := [42, 76, 2, 61, 43, 182, 0, 1]
abbrev dktX0_nameOf_0 : List UInt8 := dkwX0_nameOf_0 ++ dktX0_nameOf_1
theorem dksX0_nameOf_0 : cX0_nameOf.data.toList.drop 0 = dktX0_nameOf_0 := by decide +kernel
theorem dksX0_nameOf_1 : cX0_nameOf.data.toList.drop 8 = dktX0_nameOf_1 := dk_seg dksX0_nameOf_0 8 rfl rfl
theorem dksX0_nameOf_2 : cX0_nameOf.data.toList.drop 108 = dktX0_nameOf_2 := dk_seg dksX0_nameOf_1 100 rfl rfl
theorem dksX0_nameOf_3 : cX0_nameOf.data.toList.drop 132 = dktX0_nameOf_3 := dk_seg dksX0_nameOf_2 24 rfl rfl
theorem dksX0_nameOf_4 : cX0_nameOf.data.toList.drop 156 = dktX0_nameOf_4 := dk_seg dksX0_nameOf_3 24 rfl rfl
theorem dksX0_nameOf_5 : cX0_nameOf.data.toList.drop 179 = dktX0_nameOf_5 := dk_seg dksX0_nameOf_4 23 rfl rfl
theorem dksX0_nameOf_6 : cX0_nameOf.data.toList.drop 203 = dktX0_nameOf_6 := dk_seg dksX0_nameOf_5 24 rfl rfl
theorem dksX0_nameOf_7 : cX0_nameOf.data.toList.drop 225 = dktX0_nameOf_7 := dk_seg dksX0_nameOf_6 22 rfl rfl
theorem dksX0_nameOf_8 : cX0_nameOf.data.toList.drop 249 = dktX0_nameOf_8 := dk_seg dksX0_nameOf_7 24 rfl rfl
theorem dksX0_nameOf_9 : cX0_nameOf.data.toList.drop 265 = dktX0_nameOf_9 := dk_seg dksX0_nameOf_8 16 rfl rfl
theorem dksX0_nameOf_10 : cX0_nameOf.data.toList.drop 324 = dktX0_nameOf_10 := dk_seg dksX0_nameOf_9 59 rfl rfl
theorem dksX0_nameOf_11 : cX0_nameOf.data.toList.drop 348 = dktX0_nameOf_11 := dk_seg dksX0_nameOf_10 24 rfl rfl
theorem dX0_nameOf_0 : decode cX0_nameOf 0 = .ok (.aload_n 0, 1) := dk_42 (dk_at dksX0_nameOf_0 0 rfl rfl)
theorem dX0_nameOf_1 : decode cX0_nameOf 1 = .ok (.astore_n 1, 1) := dk_76 (dk_at dksX0_nameOf_0 1 rfl rfl)
theorem dX0_nameOf_2 : decode cX0_nameOf 2 = .ok (.iconst (-1), 1) := dk_2 (dk_at dksX0_nameOf_0 2 rfl rfl)
theorem dX0_nameOf_3 : decode cX0_nameOf 3 = .ok (.istore_n 2, 1) := dk_61 (dk_at dksX0_nameOf_0 3 rfl rfl)
theorem dX0_nameOf_4 : decode cX0_nameOf 4 = .ok (.aload_n 1, 1) := dk_43 (dk_at dksX0_nameOf_0 4 rfl rfl)
theorem dX0_nameOf_5 : decode cX0_nameOf 5 = .ok (.invokevirtual 1, 3) := dk_182 0 1 (dk_at dksX0_nameOf_0 5 rfl rfl)
theorem dX0_nameOf_8 : decode cX0_nameOf 8 = .ok (.lookupswitch 256 #[(113291, 100), (3059428, 156), (3089079, 184), (3208676, 214), (3317767, 199), (3327206, 244), (3347397, 142), (3446944, 229), (3496916, 114), (3645304, 128), (103769360, 170)], 100) := by decide +kernel
theorem dX0_nameOf_108 : decode cX0_nameOf 108 = .ok (.aload_n 1, 1) := dk_43 (dk_at dksX0_nameOf_2 0 rfl rfl)
theorem dX0_nameOf_109 : decode cX0_nameOf 109 = .ok (.ldc 21, 2) := dk_18 21 (dk_at dksX0_nameOf_2 1 rfl rfl)
theorem dX0_nameOf_111 : decode cX0_nameOf 111 = .ok (.invokevirtual 9, 3) := dk_182 0 9 (dk_at dksX0_nameOf_2 3 rfl rfl)
theorem dX0_nameOf_114 : decode cX0_nameOf 114 = .ok (.ifCond .eq 150, 3) := dk_153 0 150 (dk_at dksX0_nameOf_2 6 rfl rfl)
theorem dX0_nameOf_117 : decode cX0_nameOf 117 = .ok (.iconst 0, 1) := dk_3 (dk_at dksX0_nameOf_2 9 rfl rfl)
theorem dX0_nameOf_118 : decode cX0_nameOf 118 = .ok (.istore_n 2, 1) := dk_61 (dk_at dksX0_nameOf_2 10 rfl rfl)
theorem dX0_nameOf_119 : decode cX0_nameOf 119 = .ok (.goto 145, 3) := dk_167 0 145 (dk_at dksX0_nameOf_2 11 rfl rfl)
theorem dX0_nameOf_122 : decode cX0_nameOf 122 = .ok (.aload_n 1, 1) := dk_43 (dk_at dksX0_nameOf_2 14 rfl rfl)
theorem dX0_nameOf_123 : decode cX0_nameOf 123 = .ok (.ldc 23, 2) := dk_18 23 (dk_at dksX0_nameOf_2 15 rfl rfl)
theorem dX0_nameOf_125 : decode cX0_nameOf 125 = .ok (.invokevirtual 9, 3) := dk_182 0 9 (dk_at dksX0_nameOf_2 17 rfl rfl)
theorem dX0_nameOf_128 : decode cX0_nameOf 128 = .ok (.ifCond .eq 136, 3) := dk_153 0 136 (dk_at dksX0_nameOf_2 20 rfl rfl)
theorem dX0_nameOf_131 : decode cX0_nameOf 131 = .ok (.iconst 1, 1) := dk_4 (dk_at dksX0_nameOf_2 23 rfl rfl)
theorem dX0_nameOf_132 : decode cX0_nameOf 132 = .ok (.istore_n 2, 1) := dk_61 (dk_at dksX0_nameOf_3 0 rfl rfl)
theorem dX0_nameOf_133 : decode cX0_nameOf 133 = .ok (.goto 131, 3) := dk_167 0 131 (dk_at dksX0_nameOf_3 1 rfl rfl)
theorem dX0_nameOf_136 : decode cX0_nameOf 136 = .ok (.aload_n 1, 1) := dk_43 (dk_at dksX0_nameOf_3 4 rfl rfl)
theorem dX0_nameOf_137 : decode cX0_nameOf 137 = .ok (.ldc 25, 2) := dk_18 25 (dk_at dksX0_nameOf_3 5 rfl rfl)
theorem dX0_nameOf_139 : decode cX0_nameOf 139 = .ok (.invokevirtual 9, 3) := dk_182 0 9 (dk_at dksX0_nameOf_3 7 rfl rfl)
theorem dX0_nameOf_142 : decode cX0_nameOf 142 = .ok (.ifCond .eq 122, 3) := dk_153 0 122 (dk_at dksX0_nameOf_3 10 rfl rfl)
theorem dX0_nameOf_145 : decode cX0_nameOf 145 = .ok (.iconst 2, 1) := dk_5 (dk_at dksX0_nameOf_3 13 rfl rfl)
theorem dX0_nameOf_146 : decode cX0_nameOf 146 = .ok (.istore_n 2, 1) := dk_61 (dk_at dksX0_nameOf_3 14 rfl rfl)
theorem dX0_nameOf_147 : decode cX0_nameOf 147 = .ok (.goto 117, 3) := dk_167 0 117 (dk_at dksX0_nameOf_3 15 rfl rfl)
theorem dX0_nameOf_150 : decode cX0_nameOf 150 = .ok (.aload_n 1, 1) := dk_43 (dk_at dksX0_nameOf_3 18 rfl rfl)
theorem dX0_nameOf_151 : decode cX0_nameOf 151 = .ok (.ldc 27, 2) := dk_18 27 (dk_at dksX0_nameOf_3 19 rfl rfl)
theorem dX0_nameOf_153 : decode cX0_nameOf 153 = .ok (.invokevirtual 9, 3) := dk_182 0 9 (dk_at dksX0_nameOf_3 21 rfl rfl)
theorem dX0_nameOf_156 : decode cX0_nameOf 156 = .ok (.ifCond .eq 108, 3) := dk_153 0 108 (dk_at dksX0_nameOf_4 0 rfl rfl)
theorem dX0_nameOf_159 : decode cX0_nameOf 159 = .ok (.iconst 3, 1) := dk_6 (dk_at dksX0_nameOf_4 3 rfl rfl)
theorem dX0_nameOf_160 : decode cX0_nameOf 160 = .ok (.istore_n 2, 1) := dk_61 (dk_at dksX0_nameOf_4 4 rfl rfl)
theorem dX0_nameOf_161 : decode cX0_nameOf 161 = .ok (.goto 103, 3) := dk_167 0 103 (dk_at dksX0_nameOf_4 5 rfl rfl)
theorem dX0_nameOf_164 : decode cX0_nameOf 164 = .ok (.aload_n 1, 1) := dk_43 (dk_at dksX0_nameOf_4 8 rfl rfl)
theorem dX0_nameOf_165 : decode cX0_nameOf 165 = .ok (.ldc 29, 2) := dk_18 29 (dk_at dksX0_nameOf_4 9 rfl rfl)
theorem dX0_nameOf_167 : decode cX0_nameOf 167 = .ok (.invokevirtual 9, 3) := dk_182 0 9 (dk_at dksX0_nameOf_4 11 rfl rfl)
theorem dX0_nameOf_170 : decode cX0_nameOf 170 = .ok (.ifCond .eq 94, 3) := dk_153 0 94 (dk_at dksX0_nameOf_4 14 rfl rfl)
theorem dX0_nameOf_173 : decode cX0_nameOf 173 = .ok (.iconst 4, 1) := dk_7 (dk_at dksX0_nameOf_4 17 rfl rfl)
theorem dX0_nameOf_174 : decode cX0_nameOf 174 = .ok (.istore_n 2, 1) := dk_61 (dk_at dksX0_nameOf_4 18 rfl rfl)
theorem dX0_nameOf_175 : decode cX0_nameOf 175 = .ok (.goto 89, 3) := dk_167 0 89 (dk_at dksX0_nameOf_4 19 rfl rfl)
theorem dX0_nameOf_178 : decode cX0_nameOf 178 = .ok (.aload_n 1, 1) := dk_43 (dk_at dksX0_nameOf_4 22 rfl rfl)
theorem dX0_nameOf_179 : decode cX0_nameOf 179 = .ok (.ldc 31, 2) := dk_18 31 (dk_at dksX0_nameOf_5 0 rfl rfl)
theorem dX0_nameOf_181 : decode cX0_nameOf 181 = .ok (.invokevirtual 9, 3) := dk_182 0 9 (dk_at dksX0_nameOf_5 2 rfl rfl)
theorem dX0_nameOf_184 : decode cX0_nameOf 184 = .ok (.ifCond .eq 80, 3) := dk_153 0 80 (dk_at dksX0_nameOf_5 5 rfl rfl)
theorem dX0_nameOf_187 : decode cX0_nameOf 187 = .ok (.iconst 5, 1) := dk_8 (dk_at dksX0_nameOf_5 8 rfl rfl)
theorem dX0_nameOf_188 : decode cX0_nameOf 188 = .ok (.istore_n 2, 1) := dk_61 (dk_at dksX0_nameOf_5 9 rfl rfl)
theorem dX0_nameOf_189 : decode cX0_nameOf 189 = .ok (.goto 75, 3) := dk_167 0 75 (dk_at dksX0_nameOf_5 10 rfl rfl)
theorem dX0_nameOf_192 : decode cX0_nameOf 192 = .ok (.aload_n 1, 1) := dk_43 (dk_at dksX0_nameOf_5 13 rfl rfl)
theorem dX0_nameOf_193 : decode cX0_nameOf 193 = .ok (.ldc 33, 2) := dk_18 33 (dk_at dksX0_nameOf_5 14 rfl rfl)
theorem dX0_nameOf_195 : decode cX0_nameOf 195 = .ok (.invokevirtual 9, 3) := dk_182 0 9 (dk_at dksX0_nameOf_5 16 rfl rfl)
theorem dX0_nameOf_198 : decode cX0_nameOf 198 = .ok (.ifCond .eq 66, 3) := dk_153 0 66 (dk_at dksX0_nameOf_5 19 rfl rfl)
theorem dX0_nameOf_201 : decode cX0_nameOf 201 = .ok (.bipush 6, 2) := dk_16 6 (dk_at dksX0_nameOf_5 22 rfl rfl)
theorem dX0_nameOf_203 : decode cX0_nameOf 203 = .ok (.istore_n 2, 1) := dk_61 (dk_at dksX0_nameOf_6 0 rfl rfl)
theorem dX0_nameOf_204 : decode cX0_nameOf 204 = .ok (.goto 60, 3) := dk_167 0 60 (dk_at dksX0_nameOf_6 1 rfl rfl)
theorem dX0_nameOf_207 : decode cX0_nameOf 207 = .ok (.aload_n 1, 1) := dk_43 (dk_at dksX0_nameOf_6 4 rfl rfl)
theorem dX0_nameOf_208 : decode cX0_nameOf 208 = .ok (.ldc 35, 2) := dk_18 35 (dk_at dksX0_nameOf_6 5 rfl rfl)
theorem dX0_nameOf_210 : decode cX0_nameOf 210 = .ok (.invokevirtual 9, 3) := dk_182 0 9 (dk_at dksX0_nameOf_6 7 rfl rfl)
theorem dX0_nameOf_213 : decode cX0_nameOf 213 = .ok (.ifCond .eq 51, 3) := dk_153 0 51 (dk_at dksX0_nameOf_6 10 rfl rfl)
theorem dX0_nameOf_216 : decode cX0_nameOf 216 = .ok (.bipush 7, 2) := dk_16 7 (dk_at dksX0_nameOf_6 13 rfl rfl)
theorem dX0_nameOf_218 : decode cX0_nameOf 218 = .ok (.istore_n 2, 1) := dk_61 (dk_at dksX0_nameOf_6 15 rfl rfl)
theorem dX0_nameOf_219 : decode cX0_nameOf 219 = .ok (.goto 45, 3) := dk_167 0 45 (dk_at dksX0_nameOf_6 16 rfl rfl)
theorem dX0_nameOf_222 : decode cX0_nameOf 222 = .ok (.aload_n 1, 1) := dk_43 (dk_at dksX0_nameOf_6 19 rfl rfl)
theorem dX0_nameOf_223 : decode cX0_nameOf 223 = .ok (.ldc 37, 2) := dk_18 37 (dk_at dksX0_nameOf_6 20 rfl rfl)
theorem dX0_nameOf_225 : decode cX0_nameOf 225 = .ok (.invokevirtual 9, 3) := dk_182 0 9 (dk_at dksX0_nameOf_7 0 rfl rfl)
theorem dX0_nameOf_228 : decode cX0_nameOf 228 = .ok (.ifCond .eq 36, 3) := dk_153 0 36 (dk_at dksX0_nameOf_7 3 rfl rfl)
theorem dX0_nameOf_231 : decode cX0_nameOf 231 = .ok (.bipush 8, 2) := dk_16 8 (dk_at dksX0_nameOf_7 6 rfl rfl)
theorem dX0_nameOf_233 : decode cX0_nameOf 233 = .ok (.istore_n 2, 1) := dk_61 (dk_at dksX0_nameOf_7 8 rfl rfl)
theorem dX0_nameOf_234 : decode cX0_nameOf 234 = .ok (.goto 30, 3) := dk_167 0 30 (dk_at dksX0_nameOf_7 9 rfl rfl)
theorem dX0_nameOf_237 : decode cX0_nameOf 237 = .ok (.aload_n 1, 1) := dk_43 (dk_at dksX0_nameOf_7 12 rfl rfl)
theorem dX0_nameOf_238 : decode cX0_nameOf 238 = .ok (.ldc 39, 2) := dk_18 39 (dk_at dksX0_nameOf_7 13 rfl rfl)
theorem dX0_nameOf_240 : decode cX0_nameOf 240 = .ok (.invokevirtual 9, 3) := dk_182 0 9 (dk_at dksX0_nameOf_7 15 rfl rfl)
theorem dX0_nameOf_243 : decode cX0_nameOf 243 = .ok (.ifCond .eq 21, 3) := dk_153 0 21 (dk_at dksX0_nameOf_7 18 rfl rfl)
theorem dX0_nameOf_246 : decode cX0_nameOf 246 = .ok (.bipush 9, 2) := dk_16 9 (dk_at dksX0_nameOf_7 21 rfl rfl)
theorem dX0_nameOf_248 : decode cX0_nameOf 248 = .ok (.istore_n 2, 1) := dk_61 (dk_at dksX0_nameOf_7 23 rfl rfl)
theorem dX0_nameOf_249 : decode cX0_nameOf 249 = .ok (.goto 15, 3) := dk_167 0 15 (dk_at dksX0_nameOf_8 0 rfl rfl)
theorem dX0_nameOf_252 : decode cX0_nameOf 252 = .ok (.aload_n 1, 1) := dk_43 (dk_at dksX0_nameOf_8 3 rfl rfl)
theorem dX0_nameOf_253 : decode cX0_nameOf 253 = .ok (.ldc 41, 2) := dk_18 41 (dk_at dksX0_nameOf_8 4 rfl rfl)
theorem dX0_nameOf_255 : decode cX0_nameOf 255 = .ok (.invokevirtual 9, 3) := dk_182 0 9 (dk_at dksX0_nameOf_8 6 rfl rfl)
theorem dX0_nameOf_258 : decode cX0_nameOf 258 = .ok (.ifCond .eq 6, 3) := dk_153 0 6 (dk_at dksX0_nameOf_8 9 rfl rfl)
theorem dX0_nameOf_261 : decode cX0_nameOf 261 = .ok (.bipush 10, 2) := dk_16 10 (dk_at dksX0_nameOf_8 12 rfl rfl)
theorem dX0_nameOf_263 : decode cX0_nameOf 263 = .ok (.istore_n 2, 1) := dk_61 (dk_at dksX0_nameOf_8 14 rfl rfl)
theorem dX0_nameOf_264 : decode cX0_nameOf 264 = .ok (.iload_n 2, 1) := dk_28 (dk_at dksX0_nameOf_8 15 rfl rfl)
theorem dX0_nameOf_265 : decode cX0_nameOf 265 = .ok (.tableswitch 86 0 10 #[59, 61, 63, 65, 67, 69, 71, 74, 77, 80, 83], 59) := by decide +kernel
theorem dX0_nameOf_324 : decode cX0_nameOf 324 = .ok (.iconst 0, 1) := dk_3 (dk_at dksX0_nameOf_10 0 rfl rfl)
theorem dX0_nameOf_325 : decode cX0_nameOf 325 = .ok (.ireturn, 1) := dk_172 (dk_at dksX0_nameOf_10 1 rfl rfl)
theorem dX0_nameOf_326 : decode cX0_nameOf 326 = .ok (.iconst 1, 1) := dk_4 (dk_at dksX0_nameOf_10 2 rfl rfl)
theorem dX0_nameOf_327 : decode cX0_nameOf 327 = .ok (.ireturn, 1) := dk_172 (dk_at dksX0_nameOf_10 3 rfl rfl)
theorem dX0_nameOf_328 : decode cX0_nameOf 328 = .ok (.iconst 2, 1) := dk_5 (dk_at dksX0_nameOf_10 4 rfl rfl)
theorem dX0_nameOf_329 : decode cX0_nameOf 329 = .ok (.ireturn, 1) := dk_172 (dk_at dksX0_nameOf_10 5 rfl rfl)
theorem dX0_nameOf_330 : decode cX0_nameOf 330 = .ok (.iconst 3, 1) := dk_6 (dk_at dksX0_nameOf_10 6 rfl rfl)
theorem dX0_nameOf_331 : decode cX0_nameOf 331 = .ok (.ireturn, 1) := dk_172 (dk_at dksX0_nameOf_10 7 rfl rfl)
theorem dX0_nameOf_332 : decode cX0_nameOf 332 = .ok (.iconst 4, 1) := dk_7 (dk_at dksX0_nameOf_10 8 rfl rfl)
theorem dX0_nameOf_333 : decode cX0_nameOf 333 = .ok (.ireturn, 1) := dk_172 (dk_at dksX0_nameOf_10 9 rfl rfl)
theorem dX0_nameOf_334 : decode cX0_nameOf 334 = .ok (.iconst 5, 1) := dk_8 (dk_at dksX0_nameOf_10 10 rfl rfl)
theorem dX0_nameOf_335 : decode cX0_nameOf 335 = .ok (.ireturn, 1) := dk_172 (dk_at dksX0_nameOf_10 11 rfl rfl)
theorem dX0_nameOf_336 : decode cX0_nameOf 336 = .ok (.bipush 6, 2) := dk_16 6 (dk_at dksX0_nameOf_10 12 rfl rfl)
theorem dX0_nameOf_338 : decode cX0_nameOf 338 = .ok (.ireturn, 1) := dk_172 (dk_at dksX0_nameOf_10 14 rfl rfl)
theorem dX0_nameOf_339 : decode cX0_nameOf 339 = .ok (.bipush 7, 2) := dk_16 7 (dk_at dksX0_nameOf_10 15 rfl rfl)
theorem dX0_nameOf_341 : decode cX0_nameOf 341 = .ok (.ireturn, 1) := dk_172 (dk_at dksX0_nameOf_10 17 rfl rfl)
theorem dX0_nameOf_342 : decode cX0_nameOf 342 = .ok (.bipush 8, 2) := dk_16 8 (dk_at dksX0_nameOf_10 18 rfl rfl)
theorem dX0_nameOf_344 : decode cX0_nameOf 344 = .ok (.ireturn, 1) := dk_172 (dk_at dksX0_nameOf_10 20 rfl rfl)
theorem dX0_nameOf_345 : decode cX0_nameOf 345 = .ok (.bipush 9, 2) := dk_16 9 (dk_at dksX0_nameOf_10 21 rfl rfl)
theorem dX0_nameOf_347 : decode cX0_nameOf 347 = .ok (.ireturn, 1) := dk_172 (dk_at dksX0_nameOf_10 23 rfl rfl)
theorem dX0_nameOf_348 : decode cX0_nameOf 348 = .ok (.bipush 10, 2) := dk_16 10 (dk_at dksX0_nameOf_11 0 rfl rfl)
theorem dX0_nameOf_350 : decode cX0_nameOf 350 = .ok (.ireturn, 1) := dk_172 (dk_at dksX0_nameOf_11 2 rfl rfl)
theorem dX0_nameOf_351 : decode cX0_nameOf 351 = .ok (.iconst (-1), 1) := dk_2 (dk_at dksX0_nameOf_11 3 rfl rfl)
theorem dX0_nameOf_352 : decode cX0_nameOf 352 = .ok (.ireturn, 1) := dk_172 (dk_at dksX0_nameOf_11 4 rfl rfl)
abbrev cX0_laws : ByteArray := prog_1_method_16_code
def yX0_laws : MethodName := ⟨RX0, "laws", "(I)I"⟩
def dkwX0_laws_7 : List UInt8 := [181, 0, 216, 42, 180, 0, 216, 172]
abbrev dktX0_laws_7 : List UInt8 := dkwX0_laws_7 ++ []
def dkwX0_laws_6 : List UInt8 := [42, 180, 0, 130, 3, 42, 180, 0, 126, 42, 180, 0, 216, 28, 184, 0, 230, 42, 89, 180, 0, 216, 28, 96]
abbrev dktX0_laws_6 : List UInt8 := dkwX0_laws_6 ++ dktX0_laws_7
def dkwX0_laws_5 : List UInt8 := [180, 0, 97, 182, 0, 227, 167, 0, 18, 78, 42, 45, 180, 0, 212, 181, 0, 195, 42, 45, 182, 0, 176, 172]
abbrev dktX0_laws_5 : List UInt8 := dkwX0_laws_5 ++ dktX0_laws_6
def dkwX0_laws_4 : List UInt8 := [180, 0, 97, 184, 0, 222, 83, 132, 2, 1, 42, 180, 0, 97, 16, 59, 182, 0, 226, 62, 167, 255, 154, 42]
abbrev dktX0_laws_4 : List UInt8 := dkwX0_laws_4 ++ dktX0_laws_5
def dkwX0_laws_3 : List UInt8 := [42, 180, 0, 97, 21, 4, 153, 0, 7, 6, 167, 0, 4, 4, 182, 0, 219, 191, 42, 180, 0, 130, 28, 42]
abbrev dktX0_laws_3 : List UInt8 := dkwX0_laws_3 ++ dktX0_laws_4
def dkwX0_laws_2 : List UInt8 := [182, 0, 213, 153, 0, 7, 4, 167, 0, 4, 3, 54, 4, 42, 180, 0, 216, 28, 96, 16, 10, 160, 0, 21]
abbrev dktX0_laws_2 : List UInt8 := dkwX0_laws_2 ++ dktX0_laws_3
def dkwX0_laws_1 : List UInt8 := [182, 0, 213, 154, 0, 27, 42, 180, 0, 97, 18, 33, 182, 0, 213, 154, 0, 15, 42, 180, 0, 97, 18, 78]
abbrev dktX0_laws_1 : List UInt8 := dkwX0_laws_1 ++ dktX0_laws_2
def dkwX0_laws_0 : List UInt8 := [42, 27, 182, 0, 201, 154, 0, 5, 2, 172, 3, 61, 4, 62, 29, 153, 0, 104, 42, 180, 0, 97, 18, 23]
abbrev dktX0_laws_0 : List UInt8 := dkwX0_laws_0 ++ dktX0_laws_1
theorem dksX0_laws_0 : cX0_laws.data.toList.drop 0 = dktX0_laws_0 := by decide +kernel
theorem dksX0_laws_1 : cX0_laws.data.toList.drop 24 = dktX0_laws_1 := dk_seg dksX0_laws_0 24 rfl rfl
theorem dksX0_laws_2 : cX0_laws.data.toList.drop 48 = dktX0_laws_2 := dk_seg dksX0_laws_1 24 rfl rfl
theorem dksX0_laws_3 : cX0_laws.data.toList.drop 72 = dktX0_laws_3 := dk_seg dksX0_laws_2 24 rfl rfl
theorem dksX0_laws_4 : cX0_laws.data.toList.drop 96 = dktX0_laws_4 := dk_seg dksX0_laws_3 24 rfl rfl
theorem dksX0_laws_5 : cX0_laws.data.toList.drop 120 = dktX0_laws_5 := dk_seg dksX0_laws_4 24 rfl rfl
theorem dksX0_laws_6 : cX0_laws.data.toList.drop 144 = dktX0_laws_6 := dk_seg dksX0_laws_5 24 rfl rfl
theorem dksX0_laws_7 : cX0_laws.data.toList.drop 168 = dktX0_laws_7 := dk_seg dksX0_laws_6 24 rfl rfl
theorem dX0_laws_0 : decode cX0_laws 0 = .ok (.aload_n 0, 1) := dk_42 (dk_at dksX0_laws_0 0 rfl rfl)
theorem dX0_laws_1 : decode cX0_laws 1 = .ok (.iload_n 1, 1) := dk_27 (dk_at dksX0_laws_0 1 rfl rfl)
theorem dX0_laws_2 : decode cX0_laws 2 = .ok (.invokevirtual 201, 3) := dk_182 0 201 (dk_at dksX0_laws_0 2 rfl rfl)
theorem dX0_laws_5 : decode cX0_laws 5 = .ok (.ifCond .ne 5, 3) := dk_154 0 5 (dk_at dksX0_laws_0 5 rfl rfl)
theorem dX0_laws_8 : decode cX0_laws 8 = .ok (.iconst (-1), 1) := dk_2 (dk_at dksX0_laws_0 8 rfl rfl)
theorem dX0_laws_9 : decode cX0_laws 9 = .ok (.ireturn, 1) := dk_172 (dk_at dksX0_laws_0 9 rfl rfl)
theorem dX0_laws_10 : decode cX0_laws 10 = .ok (.iconst 0, 1) := dk_3 (dk_at dksX0_laws_0 10 rfl rfl)
theorem dX0_laws_11 : decode cX0_laws 11 = .ok (.istore_n 2, 1) := dk_61 (dk_at dksX0_laws_0 11 rfl rfl)
theorem dX0_laws_12 : decode cX0_laws 12 = .ok (.iconst 1, 1) := dk_4 (dk_at dksX0_laws_0 12 rfl rfl)
theorem dX0_laws_13 : decode cX0_laws 13 = .ok (.istore_n 3, 1) := dk_62 (dk_at dksX0_laws_0 13 rfl rfl)
theorem dX0_laws_14 : decode cX0_laws 14 = .ok (.iload_n 3, 1) := dk_29 (dk_at dksX0_laws_0 14 rfl rfl)
theorem dX0_laws_15 : decode cX0_laws 15 = .ok (.ifCond .eq 104, 3) := dk_153 0 104 (dk_at dksX0_laws_0 15 rfl rfl)
theorem dX0_laws_18 : decode cX0_laws 18 = .ok (.aload_n 0, 1) := dk_42 (dk_at dksX0_laws_0 18 rfl rfl)
theorem dX0_laws_19 : decode cX0_laws 19 = .ok (.getfield 97, 3) := dk_180 0 97 (dk_at dksX0_laws_0 19 rfl rfl)
theorem dX0_laws_22 : decode cX0_laws 22 = .ok (.ldc 23, 2) := dk_18 23 (dk_at dksX0_laws_0 22 rfl rfl)
theorem dX0_laws_24 : decode cX0_laws 24 = .ok (.invokevirtual 213, 3) := dk_182 0 213 (dk_at dksX0_laws_1 0 rfl rfl)
theorem dX0_laws_27 : decode cX0_laws 27 = .ok (.ifCond .ne 27, 3) := dk_154 0 27 (dk_at dksX0_laws_1 3 rfl rfl)
theorem dX0_laws_30 : decode cX0_laws 30 = .ok (.aload_n 0, 1) := dk_42 (dk_at dksX0_laws_1 6 rfl rfl)
theorem dX0_laws_31 : decode cX0_laws 31 = .ok (.getfield 97, 3) := dk_180 0 97 (dk_at dksX0_laws_1 7 rfl rfl)
theorem dX0_laws_34 : decode cX0_laws 34 = .ok (.ldc 33, 2) := dk_18 33 (dk_at dksX0_laws_1 10 rfl rfl)
theorem dX0_laws_36 : decode cX0_laws 36 = .ok (.invokevirtual 213, 3) := dk_182 0 213 (dk_at dksX0_laws_1 12 rfl rfl)
theorem dX0_laws_39 : decode cX0_laws 39 = .ok (.ifCond .ne 15, 3) := dk_154 0 15 (dk_at dksX0_laws_1 15 rfl rfl)
theorem dX0_laws_42 : decode cX0_laws 42 = .ok (.aload_n 0, 1) := dk_42 (dk_at dksX0_laws_1 18 rfl rfl)
theorem dX0_laws_43 : decode cX0_laws 43 = .ok (.getfield 97, 3) := dk_180 0 97 (dk_at dksX0_laws_1 19 rfl rfl)
theorem dX0_laws_46 : decode cX0_laws 46 = .ok (.ldc 78, 2) := dk_18 78 (dk_at dksX0_laws_1 22 rfl rfl)
theorem dX0_laws_48 : decode cX0_laws 48 = .ok (.invokevirtual 213, 3) := dk_182 0 213 (dk_at dksX0_laws_2 0 rfl rfl)
theorem dX0_laws_51 : decode cX0_laws 51 = .ok (.ifCond .eq 7, 3) := dk_153 0 7 (dk_at dksX0_laws_2 3 rfl rfl)
theorem dX0_laws_54 : decode cX0_laws 54 = .ok (.iconst 1, 1) := dk_4 (dk_at dksX0_laws_2 6 rfl rfl)
theorem dX0_laws_55 : decode cX0_laws 55 = .ok (.goto 4, 3) := dk_167 0 4 (dk_at dksX0_laws_2 7 rfl rfl)
theorem dX0_laws_58 : decode cX0_laws 58 = .ok (.iconst 0, 1) := dk_3 (dk_at dksX0_laws_2 10 rfl rfl)
theorem dX0_laws_59 : decode cX0_laws 59 = .ok (.istore 4, 2) := dk_54 4 (dk_at dksX0_laws_2 11 rfl rfl)
theorem dX0_laws_61 : decode cX0_laws 61 = .ok (.aload_n 0, 1) := dk_42 (dk_at dksX0_laws_2 13 rfl rfl)
theorem dX0_laws_62 : decode cX0_laws 62 = .ok (.getfield 216, 3) := dk_180 0 216 (dk_at dksX0_laws_2 14 rfl rfl)
theorem dX0_laws_65 : decode cX0_laws 65 = .ok (.iload_n 2, 1) := dk_28 (dk_at dksX0_laws_2 17 rfl rfl)
theorem dX0_laws_66 : decode cX0_laws 66 = .ok (.iadd, 1) := dk_96 (dk_at dksX0_laws_2 18 rfl rfl)
theorem dX0_laws_67 : decode cX0_laws 67 = .ok (.bipush 10, 2) := dk_16 10 (dk_at dksX0_laws_2 19 rfl rfl)
theorem dX0_laws_69 : decode cX0_laws 69 = .ok (.if_icmp .ne 21, 3) := dk_160 0 21 (dk_at dksX0_laws_2 21 rfl rfl)
theorem dX0_laws_72 : decode cX0_laws 72 = .ok (.aload_n 0, 1) := dk_42 (dk_at dksX0_laws_3 0 rfl rfl)
theorem dX0_laws_73 : decode cX0_laws 73 = .ok (.getfield 97, 3) := dk_180 0 97 (dk_at dksX0_laws_3 1 rfl rfl)
theorem dX0_laws_76 : decode cX0_laws 76 = .ok (.iload 4, 2) := dk_21 4 (dk_at dksX0_laws_3 4 rfl rfl)
theorem dX0_laws_78 : decode cX0_laws 78 = .ok (.ifCond .eq 7, 3) := dk_153 0 7 (dk_at dksX0_laws_3 6 rfl rfl)
theorem dX0_laws_81 : decode cX0_laws 81 = .ok (.iconst 3, 1) := dk_6 (dk_at dksX0_laws_3 9 rfl rfl)
theorem dX0_laws_82 : decode cX0_laws 82 = .ok (.goto 4, 3) := dk_167 0 4 (dk_at dksX0_laws_3 10 rfl rfl)
theorem dX0_laws_85 : decode cX0_laws 85 = .ok (.iconst 1, 1) := dk_4 (dk_at dksX0_laws_3 13 rfl rfl)
theorem dX0_laws_86 : decode cX0_laws 86 = .ok (.invokevirtual 219, 3) := dk_182 0 219 (dk_at dksX0_laws_3 14 rfl rfl)
theorem dX0_laws_89 : decode cX0_laws 89 = .ok (.athrow, 1) := dk_191 (dk_at dksX0_laws_3 17 rfl rfl)
theorem dX0_laws_90 : decode cX0_laws 90 = .ok (.aload_n 0, 1) := dk_42 (dk_at dksX0_laws_3 18 rfl rfl)
theorem dX0_laws_91 : decode cX0_laws 91 = .ok (.getfield 130, 3) := dk_180 0 130 (dk_at dksX0_laws_3 19 rfl rfl)
theorem dX0_laws_94 : decode cX0_laws 94 = .ok (.iload_n 2, 1) := dk_28 (dk_at dksX0_laws_3 22 rfl rfl)
theorem dX0_laws_95 : decode cX0_laws 95 = .ok (.aload_n 0, 1) := dk_42 (dk_at dksX0_laws_3 23 rfl rfl)
theorem dX0_laws_96 : decode cX0_laws 96 = .ok (.getfield 97, 3) := dk_180 0 97 (dk_at dksX0_laws_4 0 rfl rfl)
theorem dX0_laws_99 : decode cX0_laws 99 = .ok (.invokestatic 222, 3) := dk_184 0 222 (dk_at dksX0_laws_4 3 rfl rfl)
theorem dX0_laws_102 : decode cX0_laws 102 = .ok (.aastore, 1) := dk_83 (dk_at dksX0_laws_4 6 rfl rfl)
theorem dX0_laws_103 : decode cX0_laws 103 = .ok (.iinc 2 1, 3) := dk_132 2 1 (dk_at dksX0_laws_4 7 rfl rfl)
theorem dX0_laws_106 : decode cX0_laws 106 = .ok (.aload_n 0, 1) := dk_42 (dk_at dksX0_laws_4 10 rfl rfl)
theorem dX0_laws_107 : decode cX0_laws 107 = .ok (.getfield 97, 3) := dk_180 0 97 (dk_at dksX0_laws_4 11 rfl rfl)
theorem dX0_laws_110 : decode cX0_laws 110 = .ok (.bipush 59, 2) := dk_16 59 (dk_at dksX0_laws_4 14 rfl rfl)
theorem dX0_laws_112 : decode cX0_laws 112 = .ok (.invokevirtual 226, 3) := dk_182 0 226 (dk_at dksX0_laws_4 16 rfl rfl)
theorem dX0_laws_115 : decode cX0_laws 115 = .ok (.istore_n 3, 1) := dk_62 (dk_at dksX0_laws_4 19 rfl rfl)
theorem dX0_laws_116 : decode cX0_laws 116 = .ok (.goto (-102), 3) := dk_167 255 154 (dk_at dksX0_laws_4 20 rfl rfl)
theorem dX0_laws_119 : decode cX0_laws 119 = .ok (.aload_n 0, 1) := dk_42 (dk_at dksX0_laws_4 23 rfl rfl)
theorem dX0_laws_120 : decode cX0_laws 120 = .ok (.getfield 97, 3) := dk_180 0 97 (dk_at dksX0_laws_5 0 rfl rfl)
theorem dX0_laws_123 : decode cX0_laws 123 = .ok (.invokevirtual 227, 3) := dk_182 0 227 (dk_at dksX0_laws_5 3 rfl rfl)
theorem dX0_laws_126 : decode cX0_laws 126 = .ok (.goto 18, 3) := dk_167 0 18 (dk_at dksX0_laws_5 6 rfl rfl)
theorem dX0_laws_129 : decode cX0_laws 129 = .ok (.astore_n 3, 1) := dk_78 (dk_at dksX0_laws_5 9 rfl rfl)
theorem dX0_laws_130 : decode cX0_laws 130 = .ok (.aload_n 0, 1) := dk_42 (dk_at dksX0_laws_5 10 rfl rfl)
theorem dX0_laws_131 : decode cX0_laws 131 = .ok (.aload_n 3, 1) := dk_45 (dk_at dksX0_laws_5 11 rfl rfl)
theorem dX0_laws_132 : decode cX0_laws 132 = .ok (.getfield 212, 3) := dk_180 0 212 (dk_at dksX0_laws_5 12 rfl rfl)
theorem dX0_laws_135 : decode cX0_laws 135 = .ok (.putfield 195, 3) := dk_181 0 195 (dk_at dksX0_laws_5 15 rfl rfl)
theorem dX0_laws_138 : decode cX0_laws 138 = .ok (.aload_n 0, 1) := dk_42 (dk_at dksX0_laws_5 18 rfl rfl)
theorem dX0_laws_139 : decode cX0_laws 139 = .ok (.aload_n 3, 1) := dk_45 (dk_at dksX0_laws_5 19 rfl rfl)
theorem dX0_laws_140 : decode cX0_laws 140 = .ok (.invokevirtual 176, 3) := dk_182 0 176 (dk_at dksX0_laws_5 20 rfl rfl)
theorem dX0_laws_143 : decode cX0_laws 143 = .ok (.ireturn, 1) := dk_172 (dk_at dksX0_laws_5 23 rfl rfl)
theorem dX0_laws_144 : decode cX0_laws 144 = .ok (.aload_n 0, 1) := dk_42 (dk_at dksX0_laws_6 0 rfl rfl)
theorem dX0_laws_145 : decode cX0_laws 145 = .ok (.getfield 130, 3) := dk_180 0 130 (dk_at dksX0_laws_6 1 rfl rfl)
theorem dX0_laws_148 : decode cX0_laws 148 = .ok (.iconst 0, 1) := dk_3 (dk_at dksX0_laws_6 4 rfl rfl)
theorem dX0_laws_149 : decode cX0_laws 149 = .ok (.aload_n 0, 1) := dk_42 (dk_at dksX0_laws_6 5 rfl rfl)
theorem dX0_laws_150 : decode cX0_laws 150 = .ok (.getfield 126, 3) := dk_180 0 126 (dk_at dksX0_laws_6 6 rfl rfl)
theorem dX0_laws_153 : decode cX0_laws 153 = .ok (.aload_n 0, 1) := dk_42 (dk_at dksX0_laws_6 9 rfl rfl)
theorem dX0_laws_154 : decode cX0_laws 154 = .ok (.getfield 216, 3) := dk_180 0 216 (dk_at dksX0_laws_6 10 rfl rfl)
theorem dX0_laws_157 : decode cX0_laws 157 = .ok (.iload_n 2, 1) := dk_28 (dk_at dksX0_laws_6 13 rfl rfl)
theorem dX0_laws_158 : decode cX0_laws 158 = .ok (.invokestatic 230, 3) := dk_184 0 230 (dk_at dksX0_laws_6 14 rfl rfl)
theorem dX0_laws_161 : decode cX0_laws 161 = .ok (.aload_n 0, 1) := dk_42 (dk_at dksX0_laws_6 17 rfl rfl)
theorem dX0_laws_162 : decode cX0_laws 162 = .ok (.dup, 1) := dk_89 (dk_at dksX0_laws_6 18 rfl rfl)
theorem dX0_laws_163 : decode cX0_laws 163 = .ok (.getfield 216, 3) := dk_180 0 216 (dk_at dksX0_laws_6 19 rfl rfl)
theorem dX0_laws_166 : decode cX0_laws 166 = .ok (.iload_n 2, 1) := dk_28 (dk_at dksX0_laws_6 22 rfl rfl)
theorem dX0_laws_167 : decode cX0_laws 167 = .ok (.iadd, 1) := dk_96 (dk_at dksX0_laws_6 23 rfl rfl)
theorem dX0_laws_168 : decode cX0_laws 168 = .ok (.putfield 216, 3) := dk_181 0 216 (dk_at dksX0_laws_7 0 rfl rfl)
theorem dX0_laws_171 : decode cX0_laws 171 = .ok (.aload_n 0, 1) := dk_42 (dk_at dksX0_laws_7 3 rfl rfl)
theorem dX0_laws_172 : decode cX0_laws 172 = .ok (.getfield 216, 3) := dk_180 0 216 (dk_at dksX0_laws_7 4 rfl rfl)
theorem dX0_laws_175 : decode cX0_laws 175 = .ok (.ireturn, 1) := dk_172 (dk_at dksX0_laws_7 7 rfl rfl)
abbrev cX0_lawOf : ByteArray := prog_1_method_3_code
def yX0_lawOf : MethodName := ⟨RX0, "lawOf", "(LSledHouse$Reader;)LSledHouse$Law;"⟩
def dkwX0_lawOf_4 : List UInt8 := [42, 182, 0, 49, 60, 42, 18, 80, 182, 0, 62, 187, 0, 82, 89, 27, 42, 182, 0, 49, 183, 0, 84, 176]
abbrev dktX0_lawOf_4 : List UInt8 := dkwX0_lawOf_4 ++ []
def dkwX0_lawOf_3 : List UInt8 := [182, 0, 43, 153, 0, 15, 187, 0, 73, 89, 42, 182, 0, 49, 183, 0, 75, 176, 42, 18, 78, 182, 0, 62]
abbrev dktX0_lawOf_3 : List UInt8 := dkwX0_lawOf_3 ++ dktX0_lawOf_4
def dkwX0_lawOf_2 : List UInt8 := [42, 18, 66, 182, 0, 62, 187, 0, 68, 89, 27, 28, 42, 182, 0, 49, 183, 0, 70, 176, 42, 18, 33]
abbrev dktX0_lawOf_2 : List UInt8 := dkwX0_lawOf_2 ++ dktX0_lawOf_3
def dkwX0_lawOf_1 : List UInt8 := [187, 0, 54, 89, 27, 42, 182, 0, 49, 183, 0, 56, 176, 42, 18, 60, 182, 0, 62, 42, 182, 0, 49, 61]
abbrev dktX0_lawOf_1 : List UInt8 := dkwX0_lawOf_1 ++ dktX0_lawOf_2
def dkwX0_lawOf_0 : List UInt8 := [42, 18, 23, 182, 0, 43, 153, 0, 61, 42, 182, 0, 49, 60, 42, 18, 52, 182, 0, 43, 153, 0, 16]
abbrev dktX0_lawOf_0 : List UInt8 := dkwX0_lawOf_0 ++ dktX0_lawOf_1
theorem dksX0_lawOf_0 : cX0_lawOf.data.toList.drop 0 = dktX0_lawOf_0 := by decide +kernel
theorem dksX0_lawOf_1 : cX0_lawOf.data.toList.drop 23 = dktX0_lawOf_1 := dk_seg dksX0_lawOf_0 23 rfl rfl
theorem dksX0_lawOf_2 : cX0_lawOf.data.toList.drop 47 = dktX0_lawOf_2 := dk_seg dksX0_lawOf_1 24 rfl rfl
theorem dksX0_lawOf_3 : cX0_lawOf.data.toList.drop 70 = dktX0_lawOf_3 := dk_seg dksX0_lawOf_2 23 rfl rfl
theorem dksX0_lawOf_4 : cX0_lawOf.data.toList.drop 94 = dktX0_lawOf_4 := dk_seg dksX0_lawOf_3 24 rfl rfl
theorem dX0_lawOf_0 : decode cX0_lawOf 0 = .ok (.aload_n 0, 1) := dk_42 (dk_at dksX0_lawOf_0 0 rfl rfl)
theorem dX0_lawOf_1 : decode cX0_lawOf 1 = .ok (.ldc 23, 2) := dk_18 23 (dk_at dksX0_lawOf_0 1 rfl rfl)
theorem dX0_lawOf_3 : decode cX0_lawOf 3 = .ok (.invokevirtual 43, 3) := dk_182 0 43 (dk_at dksX0_lawOf_0 3 rfl rfl)
theorem dX0_lawOf_6 : decode cX0_lawOf 6 = .ok (.ifCond .eq 61, 3) := dk_153 0 61 (dk_at dksX0_lawOf_0 6 rfl rfl)
theorem dX0_lawOf_9 : decode cX0_lawOf 9 = .ok (.aload_n 0, 1) := dk_42 (dk_at dksX0_lawOf_0 9 rfl rfl)
theorem dX0_lawOf_10 : decode cX0_lawOf 10 = .ok (.invokevirtual 49, 3) := dk_182 0 49 (dk_at dksX0_lawOf_0 10 rfl rfl)
theorem dX0_lawOf_13 : decode cX0_lawOf 13 = .ok (.istore_n 1, 1) := dk_60 (dk_at dksX0_lawOf_0 13 rfl rfl)
theorem dX0_lawOf_14 : decode cX0_lawOf 14 = .ok (.aload_n 0, 1) := dk_42 (dk_at dksX0_lawOf_0 14 rfl rfl)
theorem dX0_lawOf_15 : decode cX0_lawOf 15 = .ok (.ldc 52, 2) := dk_18 52 (dk_at dksX0_lawOf_0 15 rfl rfl)
theorem dX0_lawOf_17 : decode cX0_lawOf 17 = .ok (.invokevirtual 43, 3) := dk_182 0 43 (dk_at dksX0_lawOf_0 17 rfl rfl)
theorem dX0_lawOf_20 : decode cX0_lawOf 20 = .ok (.ifCond .eq 16, 3) := dk_153 0 16 (dk_at dksX0_lawOf_0 20 rfl rfl)
theorem dX0_lawOf_23 : decode cX0_lawOf 23 = .ok (.new 54, 3) := dk_187 0 54 (dk_at dksX0_lawOf_1 0 rfl rfl)
theorem dX0_lawOf_26 : decode cX0_lawOf 26 = .ok (.dup, 1) := dk_89 (dk_at dksX0_lawOf_1 3 rfl rfl)
theorem dX0_lawOf_27 : decode cX0_lawOf 27 = .ok (.iload_n 1, 1) := dk_27 (dk_at dksX0_lawOf_1 4 rfl rfl)
theorem dX0_lawOf_28 : decode cX0_lawOf 28 = .ok (.aload_n 0, 1) := dk_42 (dk_at dksX0_lawOf_1 5 rfl rfl)
theorem dX0_lawOf_29 : decode cX0_lawOf 29 = .ok (.invokevirtual 49, 3) := dk_182 0 49 (dk_at dksX0_lawOf_1 6 rfl rfl)
theorem dX0_lawOf_32 : decode cX0_lawOf 32 = .ok (.invokespecial 56, 3) := dk_183 0 56 (dk_at dksX0_lawOf_1 9 rfl rfl)
theorem dX0_lawOf_35 : decode cX0_lawOf 35 = .ok (.areturn, 1) := dk_176 (dk_at dksX0_lawOf_1 12 rfl rfl)
theorem dX0_lawOf_36 : decode cX0_lawOf 36 = .ok (.aload_n 0, 1) := dk_42 (dk_at dksX0_lawOf_1 13 rfl rfl)
theorem dX0_lawOf_37 : decode cX0_lawOf 37 = .ok (.ldc 60, 2) := dk_18 60 (dk_at dksX0_lawOf_1 14 rfl rfl)
theorem dX0_lawOf_39 : decode cX0_lawOf 39 = .ok (.invokevirtual 62, 3) := dk_182 0 62 (dk_at dksX0_lawOf_1 16 rfl rfl)
theorem dX0_lawOf_42 : decode cX0_lawOf 42 = .ok (.aload_n 0, 1) := dk_42 (dk_at dksX0_lawOf_1 19 rfl rfl)
theorem dX0_lawOf_43 : decode cX0_lawOf 43 = .ok (.invokevirtual 49, 3) := dk_182 0 49 (dk_at dksX0_lawOf_1 20 rfl rfl)
theorem dX0_lawOf_46 : decode cX0_lawOf 46 = .ok (.istore_n 2, 1) := dk_61 (dk_at dksX0_lawOf_1 23 rfl rfl)
theorem dX0_lawOf_47 : decode cX0_lawOf 47 = .ok (.aload_n 0, 1) := dk_42 (dk_at dksX0_lawOf_2 0 rfl rfl)
theorem dX0_lawOf_48 : decode cX0_lawOf 48 = .ok (.ldc 66, 2) := dk_18 66 (dk_at dksX0_lawOf_2 1 rfl rfl)
theorem dX0_lawOf_50 : decode cX0_lawOf 50 = .ok (.invokevirtual 62, 3) := dk_182 0 62 (dk_at dksX0_lawOf_2 3 rfl rfl)
theorem dX0_lawOf_53 : decode cX0_lawOf 53 = .ok (.new 68, 3) := dk_187 0 68 (dk_at dksX0_lawOf_2 6 rfl rfl)
theorem dX0_lawOf_56 : decode cX0_lawOf 56 = .ok (.dup, 1) := dk_89 (dk_at dksX0_lawOf_2 9 rfl rfl)
theorem dX0_lawOf_57 : decode cX0_lawOf 57 = .ok (.iload_n 1, 1) := dk_27 (dk_at dksX0_lawOf_2 10 rfl rfl)
theorem dX0_lawOf_58 : decode cX0_lawOf 58 = .ok (.iload_n 2, 1) := dk_28 (dk_at dksX0_lawOf_2 11 rfl rfl)
theorem dX0_lawOf_59 : decode cX0_lawOf 59 = .ok (.aload_n 0, 1) := dk_42 (dk_at dksX0_lawOf_2 12 rfl rfl)
theorem dX0_lawOf_60 : decode cX0_lawOf 60 = .ok (.invokevirtual 49, 3) := dk_182 0 49 (dk_at dksX0_lawOf_2 13 rfl rfl)
theorem dX0_lawOf_63 : decode cX0_lawOf 63 = .ok (.invokespecial 70, 3) := dk_183 0 70 (dk_at dksX0_lawOf_2 16 rfl rfl)
theorem dX0_lawOf_66 : decode cX0_lawOf 66 = .ok (.areturn, 1) := dk_176 (dk_at dksX0_lawOf_2 19 rfl rfl)
theorem dX0_lawOf_67 : decode cX0_lawOf 67 = .ok (.aload_n 0, 1) := dk_42 (dk_at dksX0_lawOf_2 20 rfl rfl)
theorem dX0_lawOf_68 : decode cX0_lawOf 68 = .ok (.ldc 33, 2) := dk_18 33 (dk_at dksX0_lawOf_2 21 rfl rfl)
theorem dX0_lawOf_70 : decode cX0_lawOf 70 = .ok (.invokevirtual 43, 3) := dk_182 0 43 (dk_at dksX0_lawOf_3 0 rfl rfl)
theorem dX0_lawOf_73 : decode cX0_lawOf 73 = .ok (.ifCond .eq 15, 3) := dk_153 0 15 (dk_at dksX0_lawOf_3 3 rfl rfl)
theorem dX0_lawOf_76 : decode cX0_lawOf 76 = .ok (.new 73, 3) := dk_187 0 73 (dk_at dksX0_lawOf_3 6 rfl rfl)
theorem dX0_lawOf_79 : decode cX0_lawOf 79 = .ok (.dup, 1) := dk_89 (dk_at dksX0_lawOf_3 9 rfl rfl)
theorem dX0_lawOf_80 : decode cX0_lawOf 80 = .ok (.aload_n 0, 1) := dk_42 (dk_at dksX0_lawOf_3 10 rfl rfl)
theorem dX0_lawOf_81 : decode cX0_lawOf 81 = .ok (.invokevirtual 49, 3) := dk_182 0 49 (dk_at dksX0_lawOf_3 11 rfl rfl)
theorem dX0_lawOf_84 : decode cX0_lawOf 84 = .ok (.invokespecial 75, 3) := dk_183 0 75 (dk_at dksX0_lawOf_3 14 rfl rfl)
theorem dX0_lawOf_87 : decode cX0_lawOf 87 = .ok (.areturn, 1) := dk_176 (dk_at dksX0_lawOf_3 17 rfl rfl)
theorem dX0_lawOf_88 : decode cX0_lawOf 88 = .ok (.aload_n 0, 1) := dk_42 (dk_at dksX0_lawOf_3 18 rfl rfl)
theorem dX0_lawOf_89 : decode cX0_lawOf 89 = .ok (.ldc 78, 2) := dk_18 78 (dk_at dksX0_lawOf_3 19 rfl rfl)
theorem dX0_lawOf_91 : decode cX0_lawOf 91 = .ok (.invokevirtual 62, 3) := dk_182 0 62 (dk_at dksX0_lawOf_3 21 rfl rfl)
theorem dX0_lawOf_94 : decode cX0_lawOf 94 = .ok (.aload_n 0, 1) := dk_42 (dk_at dksX0_lawOf_4 0 rfl rfl)
theorem dX0_lawOf_95 : decode cX0_lawOf 95 = .ok (.invokevirtual 49, 3) := dk_182 0 49 (dk_at dksX0_lawOf_4 1 rfl rfl)
theorem dX0_lawOf_98 : decode cX0_lawOf 98 = .ok (.istore_n 1, 1) := dk_60 (dk_at dksX0_lawOf_4 4 rfl rfl)
theorem dX0_lawOf_99 : decode cX0_lawOf 99 = .ok (.aload_n 0, 1) := dk_42 (dk_at dksX0_lawOf_4 5 rfl rfl)
theorem dX0_lawOf_100 : decode cX0_lawOf 100 = .ok (.ldc 80, 2) := dk_18 80 (dk_at dksX0_lawOf_4 6 rfl rfl)
theorem dX0_lawOf_102 : decode cX0_lawOf 102 = .ok (.invokevirtual 62, 3) := dk_182 0 62 (dk_at dksX0_lawOf_4 8 rfl rfl)
theorem dX0_lawOf_105 : decode cX0_lawOf 105 = .ok (.new 82, 3) := dk_187 0 82 (dk_at dksX0_lawOf_4 11 rfl rfl)
theorem dX0_lawOf_108 : decode cX0_lawOf 108 = .ok (.dup, 1) := dk_89 (dk_at dksX0_lawOf_4 14 rfl rfl)
theorem dX0_lawOf_109 : decode cX0_lawOf 109 = .ok (.iload_n 1, 1) := dk_27 (dk_at dksX0_lawOf_4 15 rfl rfl)
theorem dX0_lawOf_110 : decode cX0_lawOf 110 = .ok (.aload_n 0, 1) := dk_42 (dk_at dksX0_lawOf_4 16 rfl rfl)
theorem dX0_lawOf_111 : decode cX0_lawOf 111 = .ok (.invokevirtual 49, 3) := dk_182 0 49 (dk_at dksX0_lawOf_4 17 rfl rfl)
theorem dX0_lawOf_114 : decode cX0_lawOf 114 = .ok (.invokespecial 84, 3) := dk_183 0 84 (dk_at dksX0_lawOf_4 20 rfl rfl)
theorem dX0_lawOf_117 : decode cX0_lawOf 117 = .ok (.areturn, 1) := dk_176 (dk_at dksX0_lawOf_4 23 rfl rfl)
abbrev cX0_fault : ByteArray := prog_1_method_17_code
def yX0_fault : MethodName := ⟨RX0, "fault", "()I"⟩
theorem dX0_fault_0 : decode cX0_fault 0 = .ok (.aload_n 0, 1) := by decide +kernel
theorem dX0_fault_1 : decode cX0_fault 1 = .ok (.getfield 195, 3) := by decide +kernel
theorem dX0_fault_4 : decode cX0_fault 4 = .ok (.ireturn, 1) := by decide +kernel
abbrev cX0_where : ByteArray := prog_1_method_18_code
def yX0_where : MethodName := ⟨RX0, "where", "()I"⟩
def dkwX0_where_0 : List UInt8 := [42, 180, 0, 144, 7, 160, 0, 10, 42, 180, 0, 140, 167, 0, 4, 2, 172]
abbrev dktX0_where_0 : List UInt8 := dkwX0_where_0 ++ []
theorem dksX0_where_0 : cX0_where.data.toList.drop 0 = dktX0_where_0 := by decide +kernel
theorem dX0_where_0 : decode cX0_where 0 = .ok (.aload_n 0, 1) := dk_42 (dk_at dksX0_where_0 0 rfl rfl)
theorem dX0_where_1 : decode cX0_where 1 = .ok (.getfield 144, 3) := dk_180 0 144 (dk_at dksX0_where_0 1 rfl rfl)
theorem dX0_where_4 : decode cX0_where 4 = .ok (.iconst 4, 1) := dk_7 (dk_at dksX0_where_0 4 rfl rfl)
theorem dX0_where_5 : decode cX0_where 5 = .ok (.if_icmp .ne 10, 3) := dk_160 0 10 (dk_at dksX0_where_0 5 rfl rfl)
theorem dX0_where_8 : decode cX0_where 8 = .ok (.aload_n 0, 1) := dk_42 (dk_at dksX0_where_0 8 rfl rfl)
theorem dX0_where_9 : decode cX0_where 9 = .ok (.getfield 140, 3) := dk_180 0 140 (dk_at dksX0_where_0 9 rfl rfl)
theorem dX0_where_12 : decode cX0_where 12 = .ok (.goto 4, 3) := dk_167 0 4 (dk_at dksX0_where_0 12 rfl rfl)
theorem dX0_where_15 : decode cX0_where 15 = .ok (.iconst (-1), 1) := dk_2 (dk_at dksX0_where_0 15 rfl rfl)
theorem dX0_where_16 : decode cX0_where 16 = .ok (.ireturn, 1) := dk_172 (dk_at dksX0_where_0 16 rfl rfl)
abbrev cX0_team : ByteArray := prog_1_method_19_code
def yX0_team : MethodName := ⟨RX0, "team", "(IIIII)I"⟩
def dkwX0_team_8 : List UInt8 := [100, 172]
abbrev dktX0_team_8 : List UInt8 := dkwX0_team_8 ++ []
def dkwX0_team_7 : List UInt8 := [182, 0, 240, 42, 180, 0, 104, 89, 180, 0, 157, 4, 96, 181, 0, 157, 42, 180, 0, 104, 180, 0, 157, 4]
abbrev dktX0_team_7 : List UInt8 := dkwX0_team_7 ++ dktX0_team_8
def dkwX0_team_6 : List UInt8 := [42, 180, 0, 104, 180, 0, 236, 42, 180, 0, 104, 180, 0, 157, 50, 27, 28, 29, 21, 4, 21, 5]
abbrev dktX0_team_6 : List UInt8 := dkwX0_team_6 ++ dktX0_team_7
def dkwX0_team_5 : List UInt8 := [162, 0, 7, 4, 167, 0, 4, 3, 6, 182, 0, 170, 167, 0, 12, 58, 6, 42, 25, 6, 182, 0, 176, 172]
abbrev dktX0_team_5 : List UInt8 := dkwX0_team_5 ++ dktX0_team_6
def dkwX0_team_4 : List UInt8 := [153, 0, 7, 4, 167, 0, 4, 3, 5, 182, 0, 170, 42, 42, 180, 0, 104, 180, 0, 157, 16, 6]
abbrev dktX0_team_4 : List UInt8 := dkwX0_team_4 ++ dktX0_team_5
def dkwX0_team_3 : List UInt8 := [184, 0, 160, 153, 0, 28, 29, 3, 16, 60, 184, 0, 160, 153, 0, 18, 21, 4, 3, 16, 100, 184, 0, 160]
abbrev dktX0_team_3 : List UInt8 := dkwX0_team_3 ++ dktX0_team_4
def dkwX0_team_2 : List UInt8 := [184, 0, 160, 4, 182, 0, 170, 42, 27, 7, 16, 16, 184, 0, 160, 153, 0, 40, 28, 16, 20, 17, 1, 44]
abbrev dktX0_team_2 : List UInt8 := dkwX0_team_2 ++ dktX0_team_3
def dkwX0_team_1 : List UInt8 := [158, 0, 7, 4, 167, 0, 4, 3, 8, 182, 0, 170, 42, 21, 5, 3, 42, 180, 0, 209, 4, 100]
abbrev dktX0_team_1 : List UInt8 := dkwX0_team_1 ++ dktX0_team_2
def dkwX0_team_0 : List UInt8 := [42, 182, 0, 164, 42, 42, 180, 0, 104, 180, 0, 167, 154, 0, 17, 42, 180, 0, 104, 180, 0, 173]
abbrev dktX0_team_0 : List UInt8 := dkwX0_team_0 ++ dktX0_team_1
theorem dksX0_team_0 : cX0_team.data.toList.drop 0 = dktX0_team_0 := by decide +kernel
theorem dksX0_team_1 : cX0_team.data.toList.drop 22 = dktX0_team_1 := dk_seg dksX0_team_0 22 rfl rfl
theorem dksX0_team_2 : cX0_team.data.toList.drop 44 = dktX0_team_2 := dk_seg dksX0_team_1 22 rfl rfl
theorem dksX0_team_3 : cX0_team.data.toList.drop 68 = dktX0_team_3 := dk_seg dksX0_team_2 24 rfl rfl
theorem dksX0_team_4 : cX0_team.data.toList.drop 92 = dktX0_team_4 := dk_seg dksX0_team_3 24 rfl rfl
theorem dksX0_team_5 : cX0_team.data.toList.drop 114 = dktX0_team_5 := dk_seg dksX0_team_4 22 rfl rfl
theorem dksX0_team_6 : cX0_team.data.toList.drop 138 = dktX0_team_6 := dk_seg dksX0_team_5 24 rfl rfl
theorem dksX0_team_7 : cX0_team.data.toList.drop 160 = dktX0_team_7 := dk_seg dksX0_team_6 22 rfl rfl
theorem dksX0_team_8 : cX0_team.data.toList.drop 184 = dktX0_team_8 := dk_seg dksX0_team_7 24 rfl rfl
theorem dX0_team_0 : decode cX0_team 0 = .ok (.aload_n 0, 1) := dk_42 (dk_at dksX0_team_0 0 rfl rfl)
theorem dX0_team_1 : decode cX0_team 1 = .ok (.invokevirtual 164, 3) := dk_182 0 164 (dk_at dksX0_team_0 1 rfl rfl)
theorem dX0_team_4 : decode cX0_team 4 = .ok (.aload_n 0, 1) := dk_42 (dk_at dksX0_team_0 4 rfl rfl)
theorem dX0_team_5 : decode cX0_team 5 = .ok (.aload_n 0, 1) := dk_42 (dk_at dksX0_team_0 5 rfl rfl)
theorem dX0_team_6 : decode cX0_team 6 = .ok (.getfield 104, 3) := dk_180 0 104 (dk_at dksX0_team_0 6 rfl rfl)
theorem dX0_team_9 : decode cX0_team 9 = .ok (.getfield 167, 3) := dk_180 0 167 (dk_at dksX0_team_0 9 rfl rfl)
theorem dX0_team_12 : decode cX0_team 12 = .ok (.ifCond .ne 17, 3) := dk_154 0 17 (dk_at dksX0_team_0 12 rfl rfl)
theorem dX0_team_15 : decode cX0_team 15 = .ok (.aload_n 0, 1) := dk_42 (dk_at dksX0_team_0 15 rfl rfl)
theorem dX0_team_16 : decode cX0_team 16 = .ok (.getfield 104, 3) := dk_180 0 104 (dk_at dksX0_team_0 16 rfl rfl)
theorem dX0_team_19 : decode cX0_team 19 = .ok (.getfield 173, 3) := dk_180 0 173 (dk_at dksX0_team_0 19 rfl rfl)
theorem dX0_team_22 : decode cX0_team 22 = .ok (.ifCond .le 7, 3) := dk_158 0 7 (dk_at dksX0_team_1 0 rfl rfl)
theorem dX0_team_25 : decode cX0_team 25 = .ok (.iconst 1, 1) := dk_4 (dk_at dksX0_team_1 3 rfl rfl)
theorem dX0_team_26 : decode cX0_team 26 = .ok (.goto 4, 3) := dk_167 0 4 (dk_at dksX0_team_1 4 rfl rfl)
theorem dX0_team_29 : decode cX0_team 29 = .ok (.iconst 0, 1) := dk_3 (dk_at dksX0_team_1 7 rfl rfl)
theorem dX0_team_30 : decode cX0_team 30 = .ok (.iconst 5, 1) := dk_8 (dk_at dksX0_team_1 8 rfl rfl)
theorem dX0_team_31 : decode cX0_team 31 = .ok (.invokevirtual 170, 3) := dk_182 0 170 (dk_at dksX0_team_1 9 rfl rfl)
theorem dX0_team_34 : decode cX0_team 34 = .ok (.aload_n 0, 1) := dk_42 (dk_at dksX0_team_1 12 rfl rfl)
theorem dX0_team_35 : decode cX0_team 35 = .ok (.iload 5, 2) := dk_21 5 (dk_at dksX0_team_1 13 rfl rfl)
theorem dX0_team_37 : decode cX0_team 37 = .ok (.iconst 0, 1) := dk_3 (dk_at dksX0_team_1 15 rfl rfl)
theorem dX0_team_38 : decode cX0_team 38 = .ok (.aload_n 0, 1) := dk_42 (dk_at dksX0_team_1 16 rfl rfl)
theorem dX0_team_39 : decode cX0_team 39 = .ok (.getfield 209, 3) := dk_180 0 209 (dk_at dksX0_team_1 17 rfl rfl)
theorem dX0_team_42 : decode cX0_team 42 = .ok (.iconst 1, 1) := dk_4 (dk_at dksX0_team_1 20 rfl rfl)
theorem dX0_team_43 : decode cX0_team 43 = .ok (.isub, 1) := dk_100 (dk_at dksX0_team_1 21 rfl rfl)
theorem dX0_team_44 : decode cX0_team 44 = .ok (.invokestatic 160, 3) := dk_184 0 160 (dk_at dksX0_team_2 0 rfl rfl)
theorem dX0_team_47 : decode cX0_team 47 = .ok (.iconst 1, 1) := dk_4 (dk_at dksX0_team_2 3 rfl rfl)
theorem dX0_team_48 : decode cX0_team 48 = .ok (.invokevirtual 170, 3) := dk_182 0 170 (dk_at dksX0_team_2 4 rfl rfl)
theorem dX0_team_51 : decode cX0_team 51 = .ok (.aload_n 0, 1) := dk_42 (dk_at dksX0_team_2 7 rfl rfl)
theorem dX0_team_52 : decode cX0_team 52 = .ok (.iload_n 1, 1) := dk_27 (dk_at dksX0_team_2 8 rfl rfl)
theorem dX0_team_53 : decode cX0_team 53 = .ok (.iconst 4, 1) := dk_7 (dk_at dksX0_team_2 9 rfl rfl)
theorem dX0_team_54 : decode cX0_team 54 = .ok (.bipush 16, 2) := dk_16 16 (dk_at dksX0_team_2 10 rfl rfl)
theorem dX0_team_56 : decode cX0_team 56 = .ok (.invokestatic 160, 3) := dk_184 0 160 (dk_at dksX0_team_2 12 rfl rfl)
theorem dX0_team_59 : decode cX0_team 59 = .ok (.ifCond .eq 40, 3) := dk_153 0 40 (dk_at dksX0_team_2 15 rfl rfl)
theorem dX0_team_62 : decode cX0_team 62 = .ok (.iload_n 2, 1) := dk_28 (dk_at dksX0_team_2 18 rfl rfl)
theorem dX0_team_63 : decode cX0_team 63 = .ok (.bipush 20, 2) := dk_16 20 (dk_at dksX0_team_2 19 rfl rfl)
theorem dX0_team_65 : decode cX0_team 65 = .ok (.sipush 300, 3) := dk_17 1 44 (dk_at dksX0_team_2 21 rfl rfl)
theorem dX0_team_68 : decode cX0_team 68 = .ok (.invokestatic 160, 3) := dk_184 0 160 (dk_at dksX0_team_3 0 rfl rfl)
theorem dX0_team_71 : decode cX0_team 71 = .ok (.ifCond .eq 28, 3) := dk_153 0 28 (dk_at dksX0_team_3 3 rfl rfl)
theorem dX0_team_74 : decode cX0_team 74 = .ok (.iload_n 3, 1) := dk_29 (dk_at dksX0_team_3 6 rfl rfl)
theorem dX0_team_75 : decode cX0_team 75 = .ok (.iconst 0, 1) := dk_3 (dk_at dksX0_team_3 7 rfl rfl)
theorem dX0_team_76 : decode cX0_team 76 = .ok (.bipush 60, 2) := dk_16 60 (dk_at dksX0_team_3 8 rfl rfl)
theorem dX0_team_78 : decode cX0_team 78 = .ok (.invokestatic 160, 3) := dk_184 0 160 (dk_at dksX0_team_3 10 rfl rfl)
theorem dX0_team_81 : decode cX0_team 81 = .ok (.ifCond .eq 18, 3) := dk_153 0 18 (dk_at dksX0_team_3 13 rfl rfl)
theorem dX0_team_84 : decode cX0_team 84 = .ok (.iload 4, 2) := dk_21 4 (dk_at dksX0_team_3 16 rfl rfl)
theorem dX0_team_86 : decode cX0_team 86 = .ok (.iconst 0, 1) := dk_3 (dk_at dksX0_team_3 18 rfl rfl)
theorem dX0_team_87 : decode cX0_team 87 = .ok (.bipush 100, 2) := dk_16 100 (dk_at dksX0_team_3 19 rfl rfl)
theorem dX0_team_89 : decode cX0_team 89 = .ok (.invokestatic 160, 3) := dk_184 0 160 (dk_at dksX0_team_3 21 rfl rfl)
theorem dX0_team_92 : decode cX0_team 92 = .ok (.ifCond .eq 7, 3) := dk_153 0 7 (dk_at dksX0_team_4 0 rfl rfl)
theorem dX0_team_95 : decode cX0_team 95 = .ok (.iconst 1, 1) := dk_4 (dk_at dksX0_team_4 3 rfl rfl)
theorem dX0_team_96 : decode cX0_team 96 = .ok (.goto 4, 3) := dk_167 0 4 (dk_at dksX0_team_4 4 rfl rfl)
theorem dX0_team_99 : decode cX0_team 99 = .ok (.iconst 0, 1) := dk_3 (dk_at dksX0_team_4 7 rfl rfl)
theorem dX0_team_100 : decode cX0_team 100 = .ok (.iconst 2, 1) := dk_5 (dk_at dksX0_team_4 8 rfl rfl)
theorem dX0_team_101 : decode cX0_team 101 = .ok (.invokevirtual 170, 3) := dk_182 0 170 (dk_at dksX0_team_4 9 rfl rfl)
theorem dX0_team_104 : decode cX0_team 104 = .ok (.aload_n 0, 1) := dk_42 (dk_at dksX0_team_4 12 rfl rfl)
theorem dX0_team_105 : decode cX0_team 105 = .ok (.aload_n 0, 1) := dk_42 (dk_at dksX0_team_4 13 rfl rfl)
theorem dX0_team_106 : decode cX0_team 106 = .ok (.getfield 104, 3) := dk_180 0 104 (dk_at dksX0_team_4 14 rfl rfl)
theorem dX0_team_109 : decode cX0_team 109 = .ok (.getfield 157, 3) := dk_180 0 157 (dk_at dksX0_team_4 17 rfl rfl)
theorem dX0_team_112 : decode cX0_team 112 = .ok (.bipush 6, 2) := dk_16 6 (dk_at dksX0_team_4 20 rfl rfl)
theorem dX0_team_114 : decode cX0_team 114 = .ok (.if_icmp .ge 7, 3) := dk_162 0 7 (dk_at dksX0_team_5 0 rfl rfl)
theorem dX0_team_117 : decode cX0_team 117 = .ok (.iconst 1, 1) := dk_4 (dk_at dksX0_team_5 3 rfl rfl)
theorem dX0_team_118 : decode cX0_team 118 = .ok (.goto 4, 3) := dk_167 0 4 (dk_at dksX0_team_5 4 rfl rfl)
theorem dX0_team_121 : decode cX0_team 121 = .ok (.iconst 0, 1) := dk_3 (dk_at dksX0_team_5 7 rfl rfl)
theorem dX0_team_122 : decode cX0_team 122 = .ok (.iconst 3, 1) := dk_6 (dk_at dksX0_team_5 8 rfl rfl)
theorem dX0_team_123 : decode cX0_team 123 = .ok (.invokevirtual 170, 3) := dk_182 0 170 (dk_at dksX0_team_5 9 rfl rfl)
theorem dX0_team_126 : decode cX0_team 126 = .ok (.goto 12, 3) := dk_167 0 12 (dk_at dksX0_team_5 12 rfl rfl)
theorem dX0_team_129 : decode cX0_team 129 = .ok (.astore 6, 2) := dk_58 6 (dk_at dksX0_team_5 15 rfl rfl)
theorem dX0_team_131 : decode cX0_team 131 = .ok (.aload_n 0, 1) := dk_42 (dk_at dksX0_team_5 17 rfl rfl)
theorem dX0_team_132 : decode cX0_team 132 = .ok (.aload 6, 2) := dk_25 6 (dk_at dksX0_team_5 18 rfl rfl)
theorem dX0_team_134 : decode cX0_team 134 = .ok (.invokevirtual 176, 3) := dk_182 0 176 (dk_at dksX0_team_5 20 rfl rfl)
theorem dX0_team_137 : decode cX0_team 137 = .ok (.ireturn, 1) := dk_172 (dk_at dksX0_team_5 23 rfl rfl)
theorem dX0_team_138 : decode cX0_team 138 = .ok (.aload_n 0, 1) := dk_42 (dk_at dksX0_team_6 0 rfl rfl)
theorem dX0_team_139 : decode cX0_team 139 = .ok (.getfield 104, 3) := dk_180 0 104 (dk_at dksX0_team_6 1 rfl rfl)
theorem dX0_team_142 : decode cX0_team 142 = .ok (.getfield 236, 3) := dk_180 0 236 (dk_at dksX0_team_6 4 rfl rfl)
theorem dX0_team_145 : decode cX0_team 145 = .ok (.aload_n 0, 1) := dk_42 (dk_at dksX0_team_6 7 rfl rfl)
theorem dX0_team_146 : decode cX0_team 146 = .ok (.getfield 104, 3) := dk_180 0 104 (dk_at dksX0_team_6 8 rfl rfl)
theorem dX0_team_149 : decode cX0_team 149 = .ok (.getfield 157, 3) := dk_180 0 157 (dk_at dksX0_team_6 11 rfl rfl)
theorem dX0_team_152 : decode cX0_team 152 = .ok (.aaload, 1) := dk_50 (dk_at dksX0_team_6 14 rfl rfl)
theorem dX0_team_153 : decode cX0_team 153 = .ok (.iload_n 1, 1) := dk_27 (dk_at dksX0_team_6 15 rfl rfl)
theorem dX0_team_154 : decode cX0_team 154 = .ok (.iload_n 2, 1) := dk_28 (dk_at dksX0_team_6 16 rfl rfl)
theorem dX0_team_155 : decode cX0_team 155 = .ok (.iload_n 3, 1) := dk_29 (dk_at dksX0_team_6 17 rfl rfl)
theorem dX0_team_156 : decode cX0_team 156 = .ok (.iload 4, 2) := dk_21 4 (dk_at dksX0_team_6 18 rfl rfl)
theorem dX0_team_158 : decode cX0_team 158 = .ok (.iload 5, 2) := dk_21 5 (dk_at dksX0_team_6 20 rfl rfl)
theorem dX0_team_160 : decode cX0_team 160 = .ok (.invokevirtual 240, 3) := dk_182 0 240 (dk_at dksX0_team_7 0 rfl rfl)
theorem dX0_team_163 : decode cX0_team 163 = .ok (.aload_n 0, 1) := dk_42 (dk_at dksX0_team_7 3 rfl rfl)
theorem dX0_team_164 : decode cX0_team 164 = .ok (.getfield 104, 3) := dk_180 0 104 (dk_at dksX0_team_7 4 rfl rfl)
theorem dX0_team_167 : decode cX0_team 167 = .ok (.dup, 1) := dk_89 (dk_at dksX0_team_7 7 rfl rfl)
theorem dX0_team_168 : decode cX0_team 168 = .ok (.getfield 157, 3) := dk_180 0 157 (dk_at dksX0_team_7 8 rfl rfl)
theorem dX0_team_171 : decode cX0_team 171 = .ok (.iconst 1, 1) := dk_4 (dk_at dksX0_team_7 11 rfl rfl)
theorem dX0_team_172 : decode cX0_team 172 = .ok (.iadd, 1) := dk_96 (dk_at dksX0_team_7 12 rfl rfl)
theorem dX0_team_173 : decode cX0_team 173 = .ok (.putfield 157, 3) := dk_181 0 157 (dk_at dksX0_team_7 13 rfl rfl)
theorem dX0_team_176 : decode cX0_team 176 = .ok (.aload_n 0, 1) := dk_42 (dk_at dksX0_team_7 16 rfl rfl)
theorem dX0_team_177 : decode cX0_team 177 = .ok (.getfield 104, 3) := dk_180 0 104 (dk_at dksX0_team_7 17 rfl rfl)
theorem dX0_team_180 : decode cX0_team 180 = .ok (.getfield 157, 3) := dk_180 0 157 (dk_at dksX0_team_7 20 rfl rfl)
theorem dX0_team_183 : decode cX0_team 183 = .ok (.iconst 1, 1) := dk_4 (dk_at dksX0_team_7 23 rfl rfl)
theorem dX0_team_184 : decode cX0_team 184 = .ok (.isub, 1) := dk_100 (dk_at dksX0_team_8 0 rfl rfl)
theorem dX0_team_185 : decode cX0_team 185 = .ok (.ireturn, 1) := dk_172 (dk_at dksX0_team_8 1 rfl rfl)
abbrev cX0_follow : ByteArray := prog_1_method_20_code
def yX0_follow : MethodName := ⟨RX0, "follow", "(II)Z"⟩
def dkwX0_follow_3 : List UInt8 := [182, 0, 176, 87, 3, 172, 42, 180, 0, 104, 180, 0, 236, 27, 50, 28, 181, 0, 250, 4, 172]
abbrev dktX0_follow_3 : List UInt8 := dkwX0_follow_3 ++ []
def dkwX0_follow_2 : List UInt8 := [180, 0, 247, 5, 162, 0, 7, 4, 167, 0, 4, 3, 8, 182, 0, 170, 167, 0, 12, 78, 42, 45]
abbrev dktX0_follow_2 : List UInt8 := dkwX0_follow_2 ++ dktX0_follow_3
def dkwX0_follow_1 : List UInt8 := [153, 0, 7, 4, 167, 0, 4, 3, 4, 182, 0, 170, 42, 42, 180, 0, 104, 180, 0, 236, 27, 50]
abbrev dktX0_follow_1 : List UInt8 := dkwX0_follow_1 ++ dktX0_follow_2
def dkwX0_follow_0 : List UInt8 := [42, 182, 0, 164, 42, 42, 27, 182, 0, 244, 153, 0, 21, 28, 3, 42, 180, 0, 209, 4, 100, 184, 0, 160]
abbrev dktX0_follow_0 : List UInt8 := dkwX0_follow_0 ++ dktX0_follow_1
theorem dksX0_follow_0 : cX0_follow.data.toList.drop 0 = dktX0_follow_0 := by decide +kernel
theorem dksX0_follow_1 : cX0_follow.data.toList.drop 24 = dktX0_follow_1 := dk_seg dksX0_follow_0 24 rfl rfl
theorem dksX0_follow_2 : cX0_follow.data.toList.drop 46 = dktX0_follow_2 := dk_seg dksX0_follow_1 22 rfl rfl
theorem dksX0_follow_3 : cX0_follow.data.toList.drop 68 = dktX0_follow_3 := dk_seg dksX0_follow_2 22 rfl rfl
theorem dX0_follow_0 : decode cX0_follow 0 = .ok (.aload_n 0, 1) := dk_42 (dk_at dksX0_follow_0 0 rfl rfl)
theorem dX0_follow_1 : decode cX0_follow 1 = .ok (.invokevirtual 164, 3) := dk_182 0 164 (dk_at dksX0_follow_0 1 rfl rfl)
theorem dX0_follow_4 : decode cX0_follow 4 = .ok (.aload_n 0, 1) := dk_42 (dk_at dksX0_follow_0 4 rfl rfl)
theorem dX0_follow_5 : decode cX0_follow 5 = .ok (.aload_n 0, 1) := dk_42 (dk_at dksX0_follow_0 5 rfl rfl)
theorem dX0_follow_6 : decode cX0_follow 6 = .ok (.iload_n 1, 1) := dk_27 (dk_at dksX0_follow_0 6 rfl rfl)
theorem dX0_follow_7 : decode cX0_follow 7 = .ok (.invokevirtual 244, 3) := dk_182 0 244 (dk_at dksX0_follow_0 7 rfl rfl)
theorem dX0_follow_10 : decode cX0_follow 10 = .ok (.ifCond .eq 21, 3) := dk_153 0 21 (dk_at dksX0_follow_0 10 rfl rfl)
theorem dX0_follow_13 : decode cX0_follow 13 = .ok (.iload_n 2, 1) := dk_28 (dk_at dksX0_follow_0 13 rfl rfl)
theorem dX0_follow_14 : decode cX0_follow 14 = .ok (.iconst 0, 1) := dk_3 (dk_at dksX0_follow_0 14 rfl rfl)
theorem dX0_follow_15 : decode cX0_follow 15 = .ok (.aload_n 0, 1) := dk_42 (dk_at dksX0_follow_0 15 rfl rfl)
theorem dX0_follow_16 : decode cX0_follow 16 = .ok (.getfield 209, 3) := dk_180 0 209 (dk_at dksX0_follow_0 16 rfl rfl)
theorem dX0_follow_19 : decode cX0_follow 19 = .ok (.iconst 1, 1) := dk_4 (dk_at dksX0_follow_0 19 rfl rfl)
theorem dX0_follow_20 : decode cX0_follow 20 = .ok (.isub, 1) := dk_100 (dk_at dksX0_follow_0 20 rfl rfl)
theorem dX0_follow_21 : decode cX0_follow 21 = .ok (.invokestatic 160, 3) := dk_184 0 160 (dk_at dksX0_follow_0 21 rfl rfl)
theorem dX0_follow_24 : decode cX0_follow 24 = .ok (.ifCond .eq 7, 3) := dk_153 0 7 (dk_at dksX0_follow_1 0 rfl rfl)
theorem dX0_follow_27 : decode cX0_follow 27 = .ok (.iconst 1, 1) := dk_4 (dk_at dksX0_follow_1 3 rfl rfl)
theorem dX0_follow_28 : decode cX0_follow 28 = .ok (.goto 4, 3) := dk_167 0 4 (dk_at dksX0_follow_1 4 rfl rfl)
theorem dX0_follow_31 : decode cX0_follow 31 = .ok (.iconst 0, 1) := dk_3 (dk_at dksX0_follow_1 7 rfl rfl)
theorem dX0_follow_32 : decode cX0_follow 32 = .ok (.iconst 1, 1) := dk_4 (dk_at dksX0_follow_1 8 rfl rfl)
theorem dX0_follow_33 : decode cX0_follow 33 = .ok (.invokevirtual 170, 3) := dk_182 0 170 (dk_at dksX0_follow_1 9 rfl rfl)
theorem dX0_follow_36 : decode cX0_follow 36 = .ok (.aload_n 0, 1) := dk_42 (dk_at dksX0_follow_1 12 rfl rfl)
theorem dX0_follow_37 : decode cX0_follow 37 = .ok (.aload_n 0, 1) := dk_42 (dk_at dksX0_follow_1 13 rfl rfl)
theorem dX0_follow_38 : decode cX0_follow 38 = .ok (.getfield 104, 3) := dk_180 0 104 (dk_at dksX0_follow_1 14 rfl rfl)
theorem dX0_follow_41 : decode cX0_follow 41 = .ok (.getfield 236, 3) := dk_180 0 236 (dk_at dksX0_follow_1 17 rfl rfl)
theorem dX0_follow_44 : decode cX0_follow 44 = .ok (.iload_n 1, 1) := dk_27 (dk_at dksX0_follow_1 20 rfl rfl)
theorem dX0_follow_45 : decode cX0_follow 45 = .ok (.aaload, 1) := dk_50 (dk_at dksX0_follow_1 21 rfl rfl)
theorem dX0_follow_46 : decode cX0_follow 46 = .ok (.getfield 247, 3) := dk_180 0 247 (dk_at dksX0_follow_2 0 rfl rfl)
theorem dX0_follow_49 : decode cX0_follow 49 = .ok (.iconst 2, 1) := dk_5 (dk_at dksX0_follow_2 3 rfl rfl)
theorem dX0_follow_50 : decode cX0_follow 50 = .ok (.if_icmp .ge 7, 3) := dk_162 0 7 (dk_at dksX0_follow_2 4 rfl rfl)
theorem dX0_follow_53 : decode cX0_follow 53 = .ok (.iconst 1, 1) := dk_4 (dk_at dksX0_follow_2 7 rfl rfl)
theorem dX0_follow_54 : decode cX0_follow 54 = .ok (.goto 4, 3) := dk_167 0 4 (dk_at dksX0_follow_2 8 rfl rfl)
theorem dX0_follow_57 : decode cX0_follow 57 = .ok (.iconst 0, 1) := dk_3 (dk_at dksX0_follow_2 11 rfl rfl)
theorem dX0_follow_58 : decode cX0_follow 58 = .ok (.iconst 5, 1) := dk_8 (dk_at dksX0_follow_2 12 rfl rfl)
theorem dX0_follow_59 : decode cX0_follow 59 = .ok (.invokevirtual 170, 3) := dk_182 0 170 (dk_at dksX0_follow_2 13 rfl rfl)
theorem dX0_follow_62 : decode cX0_follow 62 = .ok (.goto 12, 3) := dk_167 0 12 (dk_at dksX0_follow_2 16 rfl rfl)
theorem dX0_follow_65 : decode cX0_follow 65 = .ok (.astore_n 3, 1) := dk_78 (dk_at dksX0_follow_2 19 rfl rfl)
theorem dX0_follow_66 : decode cX0_follow 66 = .ok (.aload_n 0, 1) := dk_42 (dk_at dksX0_follow_2 20 rfl rfl)
theorem dX0_follow_67 : decode cX0_follow 67 = .ok (.aload_n 3, 1) := dk_45 (dk_at dksX0_follow_2 21 rfl rfl)
theorem dX0_follow_68 : decode cX0_follow 68 = .ok (.invokevirtual 176, 3) := dk_182 0 176 (dk_at dksX0_follow_3 0 rfl rfl)
theorem dX0_follow_71 : decode cX0_follow 71 = .ok (.pop, 1) := dk_87 (dk_at dksX0_follow_3 3 rfl rfl)
theorem dX0_follow_72 : decode cX0_follow 72 = .ok (.iconst 0, 1) := dk_3 (dk_at dksX0_follow_3 4 rfl rfl)
theorem dX0_follow_73 : decode cX0_follow 73 = .ok (.ireturn, 1) := dk_172 (dk_at dksX0_follow_3 5 rfl rfl)
theorem dX0_follow_74 : decode cX0_follow 74 = .ok (.aload_n 0, 1) := dk_42 (dk_at dksX0_follow_3 6 rfl rfl)
theorem dX0_follow_75 : decode cX0_follow 75 = .ok (.getfield 104, 3) := dk_180 0 104 (dk_at dksX0_follow_3 7 rfl rfl)
theorem dX0_follow_78 : decode cX0_follow 78 = .ok (.getfield 236, 3) := dk_180 0 236 (dk_at dksX0_follow_3 10 rfl rfl)
theorem dX0_follow_81 : decode cX0_follow 81 = .ok (.iload_n 1, 1) := dk_27 (dk_at dksX0_follow_3 13 rfl rfl)
theorem dX0_follow_82 : decode cX0_follow 82 = .ok (.aaload, 1) := dk_50 (dk_at dksX0_follow_3 14 rfl rfl)
theorem dX0_follow_83 : decode cX0_follow 83 = .ok (.iload_n 2, 1) := dk_28 (dk_at dksX0_follow_3 15 rfl rfl)
theorem dX0_follow_84 : decode cX0_follow 84 = .ok (.putfield 250, 3) := dk_181 0 250 (dk_at dksX0_follow_3 16 rfl rfl)
theorem dX0_follow_87 : decode cX0_follow 87 = .ok (.iconst 1, 1) := dk_4 (dk_at dksX0_follow_3 19 rfl rfl)
theorem dX0_follow_88 : decode cX0_follow 88 = .ok (.ireturn, 1) := dk_172 (dk_at dksX0_follow_3 20 rfl rfl)
abbrev cX0_isTeam : ByteArray := prog_1_method_9_code
def yX0_isTeam : MethodName := ⟨RX0, "isTeam", "(I)Z"⟩
def dkwX0_isTeam_0 : List UInt8 := [27, 3, 42, 180, 0, 104, 180, 0, 157, 4, 100, 184, 0, 160, 172]
abbrev dktX0_isTeam_0 : List UInt8 := dkwX0_isTeam_0 ++ []
theorem dksX0_isTeam_0 : cX0_isTeam.data.toList.drop 0 = dktX0_isTeam_0 := by decide +kernel
theorem dX0_isTeam_0 : decode cX0_isTeam 0 = .ok (.iload_n 1, 1) := dk_27 (dk_at dksX0_isTeam_0 0 rfl rfl)
theorem dX0_isTeam_1 : decode cX0_isTeam 1 = .ok (.iconst 0, 1) := dk_3 (dk_at dksX0_isTeam_0 1 rfl rfl)
theorem dX0_isTeam_2 : decode cX0_isTeam 2 = .ok (.aload_n 0, 1) := dk_42 (dk_at dksX0_isTeam_0 2 rfl rfl)
theorem dX0_isTeam_3 : decode cX0_isTeam 3 = .ok (.getfield 104, 3) := dk_180 0 104 (dk_at dksX0_isTeam_0 3 rfl rfl)
theorem dX0_isTeam_6 : decode cX0_isTeam 6 = .ok (.getfield 157, 3) := dk_180 0 157 (dk_at dksX0_isTeam_0 6 rfl rfl)
theorem dX0_isTeam_9 : decode cX0_isTeam 9 = .ok (.iconst 1, 1) := dk_4 (dk_at dksX0_isTeam_0 9 rfl rfl)
theorem dX0_isTeam_10 : decode cX0_isTeam 10 = .ok (.isub, 1) := dk_100 (dk_at dksX0_isTeam_0 10 rfl rfl)
theorem dX0_isTeam_11 : decode cX0_isTeam 11 = .ok (.invokestatic 160, 3) := dk_184 0 160 (dk_at dksX0_isTeam_0 11 rfl rfl)
theorem dX0_isTeam_14 : decode cX0_isTeam 14 = .ok (.ireturn, 1) := dk_172 (dk_at dksX0_isTeam_0 14 rfl rfl)
abbrev cX0_gap : ByteArray := prog_1_method_21_code
def yX0_gap : MethodName := ⟨RX0, "gap", "(III)I"⟩
def dkwX0_gap_5 : List UInt8 := [42, 25, 4, 182, 0, 176, 172]
abbrev dktX0_gap_5 : List UInt8 := dkwX0_gap_5 ++ []
def dkwX0_gap_4 : List UInt8 := [180, 0, 253, 29, 79, 25, 4, 89, 180, 0, 253, 4, 96, 181, 0, 253, 25, 4, 180, 0, 253, 172, 58, 4]
abbrev dktX0_gap_4 : List UInt8 := dkwX0_gap_4 ++ dktX0_gap_5
def dkwX0_gap_3 : List UInt8 := [3, 6, 182, 0, 170, 25, 4, 180, 1, 0, 25, 4, 180, 0, 253, 28, 79, 25, 4, 180, 1, 3, 25, 4]
abbrev dktX0_gap_3 : List UInt8 := dkwX0_gap_3 ++ dktX0_gap_4
def dkwX0_gap_2 : List UInt8 := [180, 0, 104, 180, 0, 236, 27, 50, 58, 4, 42, 25, 4, 180, 0, 253, 7, 162, 0, 7, 4, 167, 0, 4]
abbrev dktX0_gap_2 : List UInt8 := dkwX0_gap_2 ++ dktX0_gap_3
def dkwX0_gap_1 : List UInt8 := [153, 0, 18, 29, 28, 17, 7, 208, 184, 0, 160, 153, 0, 7, 4, 167, 0, 4, 3, 5, 182, 0, 170, 42]
abbrev dktX0_gap_1 : List UInt8 := dkwX0_gap_1 ++ dktX0_gap_2
def dkwX0_gap_0 : List UInt8 := [42, 182, 0, 164, 42, 42, 27, 182, 0, 244, 4, 182, 0, 170, 42, 28, 3, 17, 7, 208, 184, 0, 160]
abbrev dktX0_gap_0 : List UInt8 := dkwX0_gap_0 ++ dktX0_gap_1
theorem dksX0_gap_0 : cX0_gap.data.toList.drop 0 = dktX0_gap_0 := by decide +kernel
theorem dksX0_gap_1 : cX0_gap.data.toList.drop 23 = dktX0_gap_1 := dk_seg dksX0_gap_0 23 rfl rfl
theorem dksX0_gap_2 : cX0_gap.data.toList.drop 47 = dktX0_gap_2 := dk_seg dksX0_gap_1 24 rfl rfl
theorem dksX0_gap_3 : cX0_gap.data.toList.drop 71 = dktX0_gap_3 := dk_seg dksX0_gap_2 24 rfl rfl
theorem dksX0_gap_4 : cX0_gap.data.toList.drop 95 = dktX0_gap_4 := dk_seg dksX0_gap_3 24 rfl rfl
theorem dksX0_gap_5 : cX0_gap.data.toList.drop 119 = dktX0_gap_5 := dk_seg dksX0_gap_4 24 rfl rfl
theorem dX0_gap_0 : decode cX0_gap 0 = .ok (.aload_n 0, 1) := dk_42 (dk_at dksX0_gap_0 0 rfl rfl)
theorem dX0_gap_1 : decode cX0_gap 1 = .ok (.invokevirtual 164, 3) := dk_182 0 164 (dk_at dksX0_gap_0 1 rfl rfl)
theorem dX0_gap_4 : decode cX0_gap 4 = .ok (.aload_n 0, 1) := dk_42 (dk_at dksX0_gap_0 4 rfl rfl)
theorem dX0_gap_5 : decode cX0_gap 5 = .ok (.aload_n 0, 1) := dk_42 (dk_at dksX0_gap_0 5 rfl rfl)
theorem dX0_gap_6 : decode cX0_gap 6 = .ok (.iload_n 1, 1) := dk_27 (dk_at dksX0_gap_0 6 rfl rfl)
theorem dX0_gap_7 : decode cX0_gap 7 = .ok (.invokevirtual 244, 3) := dk_182 0 244 (dk_at dksX0_gap_0 7 rfl rfl)
theorem dX0_gap_10 : decode cX0_gap 10 = .ok (.iconst 1, 1) := dk_4 (dk_at dksX0_gap_0 10 rfl rfl)
theorem dX0_gap_11 : decode cX0_gap 11 = .ok (.invokevirtual 170, 3) := dk_182 0 170 (dk_at dksX0_gap_0 11 rfl rfl)
theorem dX0_gap_14 : decode cX0_gap 14 = .ok (.aload_n 0, 1) := dk_42 (dk_at dksX0_gap_0 14 rfl rfl)
theorem dX0_gap_15 : decode cX0_gap 15 = .ok (.iload_n 2, 1) := dk_28 (dk_at dksX0_gap_0 15 rfl rfl)
theorem dX0_gap_16 : decode cX0_gap 16 = .ok (.iconst 0, 1) := dk_3 (dk_at dksX0_gap_0 16 rfl rfl)
theorem dX0_gap_17 : decode cX0_gap 17 = .ok (.sipush 2000, 3) := dk_17 7 208 (dk_at dksX0_gap_0 17 rfl rfl)
theorem dX0_gap_20 : decode cX0_gap 20 = .ok (.invokestatic 160, 3) := dk_184 0 160 (dk_at dksX0_gap_0 20 rfl rfl)
theorem dX0_gap_23 : decode cX0_gap 23 = .ok (.ifCond .eq 18, 3) := dk_153 0 18 (dk_at dksX0_gap_1 0 rfl rfl)
theorem dX0_gap_26 : decode cX0_gap 26 = .ok (.iload_n 3, 1) := dk_29 (dk_at dksX0_gap_1 3 rfl rfl)
theorem dX0_gap_27 : decode cX0_gap 27 = .ok (.iload_n 2, 1) := dk_28 (dk_at dksX0_gap_1 4 rfl rfl)
theorem dX0_gap_28 : decode cX0_gap 28 = .ok (.sipush 2000, 3) := dk_17 7 208 (dk_at dksX0_gap_1 5 rfl rfl)
theorem dX0_gap_31 : decode cX0_gap 31 = .ok (.invokestatic 160, 3) := dk_184 0 160 (dk_at dksX0_gap_1 8 rfl rfl)
theorem dX0_gap_34 : decode cX0_gap 34 = .ok (.ifCond .eq 7, 3) := dk_153 0 7 (dk_at dksX0_gap_1 11 rfl rfl)
theorem dX0_gap_37 : decode cX0_gap 37 = .ok (.iconst 1, 1) := dk_4 (dk_at dksX0_gap_1 14 rfl rfl)
theorem dX0_gap_38 : decode cX0_gap 38 = .ok (.goto 4, 3) := dk_167 0 4 (dk_at dksX0_gap_1 15 rfl rfl)
theorem dX0_gap_41 : decode cX0_gap 41 = .ok (.iconst 0, 1) := dk_3 (dk_at dksX0_gap_1 18 rfl rfl)
theorem dX0_gap_42 : decode cX0_gap 42 = .ok (.iconst 2, 1) := dk_5 (dk_at dksX0_gap_1 19 rfl rfl)
theorem dX0_gap_43 : decode cX0_gap 43 = .ok (.invokevirtual 170, 3) := dk_182 0 170 (dk_at dksX0_gap_1 20 rfl rfl)
theorem dX0_gap_46 : decode cX0_gap 46 = .ok (.aload_n 0, 1) := dk_42 (dk_at dksX0_gap_1 23 rfl rfl)
theorem dX0_gap_47 : decode cX0_gap 47 = .ok (.getfield 104, 3) := dk_180 0 104 (dk_at dksX0_gap_2 0 rfl rfl)
theorem dX0_gap_50 : decode cX0_gap 50 = .ok (.getfield 236, 3) := dk_180 0 236 (dk_at dksX0_gap_2 3 rfl rfl)
theorem dX0_gap_53 : decode cX0_gap 53 = .ok (.iload_n 1, 1) := dk_27 (dk_at dksX0_gap_2 6 rfl rfl)
theorem dX0_gap_54 : decode cX0_gap 54 = .ok (.aaload, 1) := dk_50 (dk_at dksX0_gap_2 7 rfl rfl)
theorem dX0_gap_55 : decode cX0_gap 55 = .ok (.astore 4, 2) := dk_58 4 (dk_at dksX0_gap_2 8 rfl rfl)
theorem dX0_gap_57 : decode cX0_gap 57 = .ok (.aload_n 0, 1) := dk_42 (dk_at dksX0_gap_2 10 rfl rfl)
theorem dX0_gap_58 : decode cX0_gap 58 = .ok (.aload 4, 2) := dk_25 4 (dk_at dksX0_gap_2 11 rfl rfl)
theorem dX0_gap_60 : decode cX0_gap 60 = .ok (.getfield 253, 3) := dk_180 0 253 (dk_at dksX0_gap_2 13 rfl rfl)
theorem dX0_gap_63 : decode cX0_gap 63 = .ok (.iconst 4, 1) := dk_7 (dk_at dksX0_gap_2 16 rfl rfl)
theorem dX0_gap_64 : decode cX0_gap 64 = .ok (.if_icmp .ge 7, 3) := dk_162 0 7 (dk_at dksX0_gap_2 17 rfl rfl)
theorem dX0_gap_67 : decode cX0_gap 67 = .ok (.iconst 1, 1) := dk_4 (dk_at dksX0_gap_2 20 rfl rfl)
theorem dX0_gap_68 : decode cX0_gap 68 = .ok (.goto 4, 3) := dk_167 0 4 (dk_at dksX0_gap_2 21 rfl rfl)
theorem dX0_gap_71 : decode cX0_gap 71 = .ok (.iconst 0, 1) := dk_3 (dk_at dksX0_gap_3 0 rfl rfl)
theorem dX0_gap_72 : decode cX0_gap 72 = .ok (.iconst 3, 1) := dk_6 (dk_at dksX0_gap_3 1 rfl rfl)
theorem dX0_gap_73 : decode cX0_gap 73 = .ok (.invokevirtual 170, 3) := dk_182 0 170 (dk_at dksX0_gap_3 2 rfl rfl)
theorem dX0_gap_76 : decode cX0_gap 76 = .ok (.aload 4, 2) := dk_25 4 (dk_at dksX0_gap_3 5 rfl rfl)
theorem dX0_gap_78 : decode cX0_gap 78 = .ok (.getfield 256, 3) := dk_180 1 0 (dk_at dksX0_gap_3 7 rfl rfl)
theorem dX0_gap_81 : decode cX0_gap 81 = .ok (.aload 4, 2) := dk_25 4 (dk_at dksX0_gap_3 10 rfl rfl)
theorem dX0_gap_83 : decode cX0_gap 83 = .ok (.getfield 253, 3) := dk_180 0 253 (dk_at dksX0_gap_3 12 rfl rfl)
theorem dX0_gap_86 : decode cX0_gap 86 = .ok (.iload_n 2, 1) := dk_28 (dk_at dksX0_gap_3 15 rfl rfl)
theorem dX0_gap_87 : decode cX0_gap 87 = .ok (.iastore, 1) := dk_79 (dk_at dksX0_gap_3 16 rfl rfl)
theorem dX0_gap_88 : decode cX0_gap 88 = .ok (.aload 4, 2) := dk_25 4 (dk_at dksX0_gap_3 17 rfl rfl)
theorem dX0_gap_90 : decode cX0_gap 90 = .ok (.getfield 259, 3) := dk_180 1 3 (dk_at dksX0_gap_3 19 rfl rfl)
theorem dX0_gap_93 : decode cX0_gap 93 = .ok (.aload 4, 2) := dk_25 4 (dk_at dksX0_gap_3 22 rfl rfl)
theorem dX0_gap_95 : decode cX0_gap 95 = .ok (.getfield 253, 3) := dk_180 0 253 (dk_at dksX0_gap_4 0 rfl rfl)
theorem dX0_gap_98 : decode cX0_gap 98 = .ok (.iload_n 3, 1) := dk_29 (dk_at dksX0_gap_4 3 rfl rfl)
theorem dX0_gap_99 : decode cX0_gap 99 = .ok (.iastore, 1) := dk_79 (dk_at dksX0_gap_4 4 rfl rfl)
theorem dX0_gap_100 : decode cX0_gap 100 = .ok (.aload 4, 2) := dk_25 4 (dk_at dksX0_gap_4 5 rfl rfl)
theorem dX0_gap_102 : decode cX0_gap 102 = .ok (.dup, 1) := dk_89 (dk_at dksX0_gap_4 7 rfl rfl)
theorem dX0_gap_103 : decode cX0_gap 103 = .ok (.getfield 253, 3) := dk_180 0 253 (dk_at dksX0_gap_4 8 rfl rfl)
theorem dX0_gap_106 : decode cX0_gap 106 = .ok (.iconst 1, 1) := dk_4 (dk_at dksX0_gap_4 11 rfl rfl)
theorem dX0_gap_107 : decode cX0_gap 107 = .ok (.iadd, 1) := dk_96 (dk_at dksX0_gap_4 12 rfl rfl)
theorem dX0_gap_108 : decode cX0_gap 108 = .ok (.putfield 253, 3) := dk_181 0 253 (dk_at dksX0_gap_4 13 rfl rfl)
theorem dX0_gap_111 : decode cX0_gap 111 = .ok (.aload 4, 2) := dk_25 4 (dk_at dksX0_gap_4 16 rfl rfl)
theorem dX0_gap_113 : decode cX0_gap 113 = .ok (.getfield 253, 3) := dk_180 0 253 (dk_at dksX0_gap_4 18 rfl rfl)
theorem dX0_gap_116 : decode cX0_gap 116 = .ok (.ireturn, 1) := dk_172 (dk_at dksX0_gap_4 21 rfl rfl)
theorem dX0_gap_117 : decode cX0_gap 117 = .ok (.astore 4, 2) := dk_58 4 (dk_at dksX0_gap_4 22 rfl rfl)
theorem dX0_gap_119 : decode cX0_gap 119 = .ok (.aload_n 0, 1) := dk_42 (dk_at dksX0_gap_5 0 rfl rfl)
theorem dX0_gap_120 : decode cX0_gap 120 = .ok (.aload 4, 2) := dk_25 4 (dk_at dksX0_gap_5 1 rfl rfl)
theorem dX0_gap_122 : decode cX0_gap 122 = .ok (.invokevirtual 176, 3) := dk_182 0 176 (dk_at dksX0_gap_5 3 rfl rfl)
theorem dX0_gap_125 : decode cX0_gap 125 = .ok (.ireturn, 1) := dk_172 (dk_at dksX0_gap_5 6 rfl rfl)
abbrev cX0_each : ByteArray := prog_1_method_22_code
def yX0_each : MethodName := ⟨RX0, "each", "(I)Z"⟩
def dkwX0_each_2 : List UInt8 := [42, 180, 0, 104, 27, 181, 1, 6, 4, 172]
abbrev dktX0_each_2 : List UInt8 := dkwX0_each_2 ++ []
def dkwX0_each_1 : List UInt8 := [42, 27, 4, 16, 48, 184, 0, 160, 5, 182, 0, 170, 167, 0, 12, 77, 42, 44, 182, 0, 176, 87, 3, 172]
abbrev dktX0_each_1 : List UInt8 := dkwX0_each_1 ++ dktX0_each_2
def dkwX0_each_0 : List UInt8 := [42, 182, 0, 164, 42, 42, 180, 0, 104, 180, 0, 167, 154, 0, 7, 4, 167, 0, 4, 3, 8, 182, 0, 170]
abbrev dktX0_each_0 : List UInt8 := dkwX0_each_0 ++ dktX0_each_1
theorem dksX0_each_0 : cX0_each.data.toList.drop 0 = dktX0_each_0 := by decide +kernel
theorem dksX0_each_1 : cX0_each.data.toList.drop 24 = dktX0_each_1 := dk_seg dksX0_each_0 24 rfl rfl
theorem dksX0_each_2 : cX0_each.data.toList.drop 48 = dktX0_each_2 := dk_seg dksX0_each_1 24 rfl rfl
theorem dX0_each_0 : decode cX0_each 0 = .ok (.aload_n 0, 1) := dk_42 (dk_at dksX0_each_0 0 rfl rfl)
theorem dX0_each_1 : decode cX0_each 1 = .ok (.invokevirtual 164, 3) := dk_182 0 164 (dk_at dksX0_each_0 1 rfl rfl)
theorem dX0_each_4 : decode cX0_each 4 = .ok (.aload_n 0, 1) := dk_42 (dk_at dksX0_each_0 4 rfl rfl)
theorem dX0_each_5 : decode cX0_each 5 = .ok (.aload_n 0, 1) := dk_42 (dk_at dksX0_each_0 5 rfl rfl)
theorem dX0_each_6 : decode cX0_each 6 = .ok (.getfield 104, 3) := dk_180 0 104 (dk_at dksX0_each_0 6 rfl rfl)
theorem dX0_each_9 : decode cX0_each 9 = .ok (.getfield 167, 3) := dk_180 0 167 (dk_at dksX0_each_0 9 rfl rfl)
theorem dX0_each_12 : decode cX0_each 12 = .ok (.ifCond .ne 7, 3) := dk_154 0 7 (dk_at dksX0_each_0 12 rfl rfl)
theorem dX0_each_15 : decode cX0_each 15 = .ok (.iconst 1, 1) := dk_4 (dk_at dksX0_each_0 15 rfl rfl)
theorem dX0_each_16 : decode cX0_each 16 = .ok (.goto 4, 3) := dk_167 0 4 (dk_at dksX0_each_0 16 rfl rfl)
theorem dX0_each_19 : decode cX0_each 19 = .ok (.iconst 0, 1) := dk_3 (dk_at dksX0_each_0 19 rfl rfl)
theorem dX0_each_20 : decode cX0_each 20 = .ok (.iconst 5, 1) := dk_8 (dk_at dksX0_each_0 20 rfl rfl)
theorem dX0_each_21 : decode cX0_each 21 = .ok (.invokevirtual 170, 3) := dk_182 0 170 (dk_at dksX0_each_0 21 rfl rfl)
theorem dX0_each_24 : decode cX0_each 24 = .ok (.aload_n 0, 1) := dk_42 (dk_at dksX0_each_1 0 rfl rfl)
theorem dX0_each_25 : decode cX0_each 25 = .ok (.iload_n 1, 1) := dk_27 (dk_at dksX0_each_1 1 rfl rfl)
theorem dX0_each_26 : decode cX0_each 26 = .ok (.iconst 1, 1) := dk_4 (dk_at dksX0_each_1 2 rfl rfl)
theorem dX0_each_27 : decode cX0_each 27 = .ok (.bipush 48, 2) := dk_16 48 (dk_at dksX0_each_1 3 rfl rfl)
theorem dX0_each_29 : decode cX0_each 29 = .ok (.invokestatic 160, 3) := dk_184 0 160 (dk_at dksX0_each_1 5 rfl rfl)
theorem dX0_each_32 : decode cX0_each 32 = .ok (.iconst 2, 1) := dk_5 (dk_at dksX0_each_1 8 rfl rfl)
theorem dX0_each_33 : decode cX0_each 33 = .ok (.invokevirtual 170, 3) := dk_182 0 170 (dk_at dksX0_each_1 9 rfl rfl)
theorem dX0_each_36 : decode cX0_each 36 = .ok (.goto 12, 3) := dk_167 0 12 (dk_at dksX0_each_1 12 rfl rfl)
theorem dX0_each_39 : decode cX0_each 39 = .ok (.astore_n 2, 1) := dk_77 (dk_at dksX0_each_1 15 rfl rfl)
theorem dX0_each_40 : decode cX0_each 40 = .ok (.aload_n 0, 1) := dk_42 (dk_at dksX0_each_1 16 rfl rfl)
theorem dX0_each_41 : decode cX0_each 41 = .ok (.aload_n 2, 1) := dk_44 (dk_at dksX0_each_1 17 rfl rfl)
theorem dX0_each_42 : decode cX0_each 42 = .ok (.invokevirtual 176, 3) := dk_182 0 176 (dk_at dksX0_each_1 18 rfl rfl)
theorem dX0_each_45 : decode cX0_each 45 = .ok (.pop, 1) := dk_87 (dk_at dksX0_each_1 21 rfl rfl)
theorem dX0_each_46 : decode cX0_each 46 = .ok (.iconst 0, 1) := dk_3 (dk_at dksX0_each_1 22 rfl rfl)
theorem dX0_each_47 : decode cX0_each 47 = .ok (.ireturn, 1) := dk_172 (dk_at dksX0_each_1 23 rfl rfl)
theorem dX0_each_48 : decode cX0_each 48 = .ok (.aload_n 0, 1) := dk_42 (dk_at dksX0_each_2 0 rfl rfl)
theorem dX0_each_49 : decode cX0_each 49 = .ok (.getfield 104, 3) := dk_180 0 104 (dk_at dksX0_each_2 1 rfl rfl)
theorem dX0_each_52 : decode cX0_each 52 = .ok (.iload_n 1, 1) := dk_27 (dk_at dksX0_each_2 4 rfl rfl)
theorem dX0_each_53 : decode cX0_each 53 = .ok (.putfield 262, 3) := dk_181 1 6 (dk_at dksX0_each_2 5 rfl rfl)
theorem dX0_each_56 : decode cX0_each 56 = .ok (.iconst 1, 1) := dk_4 (dk_at dksX0_each_2 8 rfl rfl)
theorem dX0_each_57 : decode cX0_each 57 = .ok (.ireturn, 1) := dk_172 (dk_at dksX0_each_2 9 rfl rfl)
abbrev cX0_run : ByteArray := prog_1_method_23_code
def yX0_run : MethodName := ⟨RX0, "run", "(I)I"⟩
def dkwX0_run_6 : List UInt8 := [181, 0, 167, 132, 2, 1, 167, 255, 153, 28, 172]
abbrev dktX0_run_6 : List UInt8 := dkwX0_run_6 ++ []
def dkwX0_run_5 : List UInt8 := [180, 0, 167, 182, 1, 17, 132, 3, 1, 167, 255, 189, 42, 180, 0, 104, 89, 180, 0, 167, 4, 96]
abbrev dktX0_run_5 : List UInt8 := dkwX0_run_5 ++ dktX0_run_6
def dkwX0_run_4 : List UInt8 := [180, 0, 104, 42, 180, 0, 104, 180, 0, 167, 182, 1, 13, 25, 4, 42, 180, 0, 104, 42, 180, 0, 104]
abbrev dktX0_run_4 : List UInt8 := dkwX0_run_4 ++ dktX0_run_5
def dkwX0_run_3 : List UInt8 := [180, 0, 104, 180, 0, 236, 29, 50, 58, 4, 25, 4, 42, 180, 0, 120, 25, 4, 180, 0, 250, 50, 42]
abbrev dktX0_run_3 : List UInt8 := dkwX0_run_3 ++ dktX0_run_4
def dkwX0_run_2 : List UInt8 := [42, 180, 0, 104, 182, 1, 9, 153, 0, 94, 3, 62, 29, 42, 180, 0, 104, 180, 0, 157, 162, 0, 62, 42]
abbrev dktX0_run_2 : List UInt8 := dkwX0_run_2 ++ dktX0_run_3
def dkwX0_run_1 : List UInt8 := [184, 0, 160, 5, 182, 0, 170, 167, 0, 10, 77, 42, 44, 182, 0, 176, 172, 3, 61, 28, 27, 162, 0, 104]
abbrev dktX0_run_1 : List UInt8 := dkwX0_run_1 ++ dktX0_run_2
def dkwX0_run_0 : List UInt8 := [42, 182, 0, 164, 42, 42, 180, 0, 104, 182, 1, 9, 8, 182, 0, 170, 42, 27, 4, 17, 1, 244]
abbrev dktX0_run_0 : List UInt8 := dkwX0_run_0 ++ dktX0_run_1
theorem dksX0_run_0 : cX0_run.data.toList.drop 0 = dktX0_run_0 := by decide +kernel
theorem dksX0_run_1 : cX0_run.data.toList.drop 22 = dktX0_run_1 := dk_seg dksX0_run_0 22 rfl rfl
theorem dksX0_run_2 : cX0_run.data.toList.drop 46 = dktX0_run_2 := dk_seg dksX0_run_1 24 rfl rfl
theorem dksX0_run_3 : cX0_run.data.toList.drop 70 = dktX0_run_3 := dk_seg dksX0_run_2 24 rfl rfl
theorem dksX0_run_4 : cX0_run.data.toList.drop 93 = dktX0_run_4 := dk_seg dksX0_run_3 23 rfl rfl
theorem dksX0_run_5 : cX0_run.data.toList.drop 116 = dktX0_run_5 := dk_seg dksX0_run_4 23 rfl rfl
theorem dksX0_run_6 : cX0_run.data.toList.drop 138 = dktX0_run_6 := dk_seg dksX0_run_5 22 rfl rfl
theorem dX0_run_0 : decode cX0_run 0 = .ok (.aload_n 0, 1) := dk_42 (dk_at dksX0_run_0 0 rfl rfl)
theorem dX0_run_1 : decode cX0_run 1 = .ok (.invokevirtual 164, 3) := dk_182 0 164 (dk_at dksX0_run_0 1 rfl rfl)
theorem dX0_run_4 : decode cX0_run 4 = .ok (.aload_n 0, 1) := dk_42 (dk_at dksX0_run_0 4 rfl rfl)
theorem dX0_run_5 : decode cX0_run 5 = .ok (.aload_n 0, 1) := dk_42 (dk_at dksX0_run_0 5 rfl rfl)
theorem dX0_run_6 : decode cX0_run 6 = .ok (.getfield 104, 3) := dk_180 0 104 (dk_at dksX0_run_0 6 rfl rfl)
theorem dX0_run_9 : decode cX0_run 9 = .ok (.invokevirtual 265, 3) := dk_182 1 9 (dk_at dksX0_run_0 9 rfl rfl)
theorem dX0_run_12 : decode cX0_run 12 = .ok (.iconst 5, 1) := dk_8 (dk_at dksX0_run_0 12 rfl rfl)
theorem dX0_run_13 : decode cX0_run 13 = .ok (.invokevirtual 170, 3) := dk_182 0 170 (dk_at dksX0_run_0 13 rfl rfl)
theorem dX0_run_16 : decode cX0_run 16 = .ok (.aload_n 0, 1) := dk_42 (dk_at dksX0_run_0 16 rfl rfl)
theorem dX0_run_17 : decode cX0_run 17 = .ok (.iload_n 1, 1) := dk_27 (dk_at dksX0_run_0 17 rfl rfl)
theorem dX0_run_18 : decode cX0_run 18 = .ok (.iconst 1, 1) := dk_4 (dk_at dksX0_run_0 18 rfl rfl)
theorem dX0_run_19 : decode cX0_run 19 = .ok (.sipush 500, 3) := dk_17 1 244 (dk_at dksX0_run_0 19 rfl rfl)
theorem dX0_run_22 : decode cX0_run 22 = .ok (.invokestatic 160, 3) := dk_184 0 160 (dk_at dksX0_run_1 0 rfl rfl)
theorem dX0_run_25 : decode cX0_run 25 = .ok (.iconst 2, 1) := dk_5 (dk_at dksX0_run_1 3 rfl rfl)
theorem dX0_run_26 : decode cX0_run 26 = .ok (.invokevirtual 170, 3) := dk_182 0 170 (dk_at dksX0_run_1 4 rfl rfl)
theorem dX0_run_29 : decode cX0_run 29 = .ok (.goto 10, 3) := dk_167 0 10 (dk_at dksX0_run_1 7 rfl rfl)
theorem dX0_run_32 : decode cX0_run 32 = .ok (.astore_n 2, 1) := dk_77 (dk_at dksX0_run_1 10 rfl rfl)
theorem dX0_run_33 : decode cX0_run 33 = .ok (.aload_n 0, 1) := dk_42 (dk_at dksX0_run_1 11 rfl rfl)
theorem dX0_run_34 : decode cX0_run 34 = .ok (.aload_n 2, 1) := dk_44 (dk_at dksX0_run_1 12 rfl rfl)
theorem dX0_run_35 : decode cX0_run 35 = .ok (.invokevirtual 176, 3) := dk_182 0 176 (dk_at dksX0_run_1 13 rfl rfl)
theorem dX0_run_38 : decode cX0_run 38 = .ok (.ireturn, 1) := dk_172 (dk_at dksX0_run_1 16 rfl rfl)
theorem dX0_run_39 : decode cX0_run 39 = .ok (.iconst 0, 1) := dk_3 (dk_at dksX0_run_1 17 rfl rfl)
theorem dX0_run_40 : decode cX0_run 40 = .ok (.istore_n 2, 1) := dk_61 (dk_at dksX0_run_1 18 rfl rfl)
theorem dX0_run_41 : decode cX0_run 41 = .ok (.iload_n 2, 1) := dk_28 (dk_at dksX0_run_1 19 rfl rfl)
theorem dX0_run_42 : decode cX0_run 42 = .ok (.iload_n 1, 1) := dk_27 (dk_at dksX0_run_1 20 rfl rfl)
theorem dX0_run_43 : decode cX0_run 43 = .ok (.if_icmp .ge 104, 3) := dk_162 0 104 (dk_at dksX0_run_1 21 rfl rfl)
theorem dX0_run_46 : decode cX0_run 46 = .ok (.aload_n 0, 1) := dk_42 (dk_at dksX0_run_2 0 rfl rfl)
theorem dX0_run_47 : decode cX0_run 47 = .ok (.getfield 104, 3) := dk_180 0 104 (dk_at dksX0_run_2 1 rfl rfl)
theorem dX0_run_50 : decode cX0_run 50 = .ok (.invokevirtual 265, 3) := dk_182 1 9 (dk_at dksX0_run_2 4 rfl rfl)
theorem dX0_run_53 : decode cX0_run 53 = .ok (.ifCond .eq 94, 3) := dk_153 0 94 (dk_at dksX0_run_2 7 rfl rfl)
theorem dX0_run_56 : decode cX0_run 56 = .ok (.iconst 0, 1) := dk_3 (dk_at dksX0_run_2 10 rfl rfl)
theorem dX0_run_57 : decode cX0_run 57 = .ok (.istore_n 3, 1) := dk_62 (dk_at dksX0_run_2 11 rfl rfl)
theorem dX0_run_58 : decode cX0_run 58 = .ok (.iload_n 3, 1) := dk_29 (dk_at dksX0_run_2 12 rfl rfl)
theorem dX0_run_59 : decode cX0_run 59 = .ok (.aload_n 0, 1) := dk_42 (dk_at dksX0_run_2 13 rfl rfl)
theorem dX0_run_60 : decode cX0_run 60 = .ok (.getfield 104, 3) := dk_180 0 104 (dk_at dksX0_run_2 14 rfl rfl)
theorem dX0_run_63 : decode cX0_run 63 = .ok (.getfield 157, 3) := dk_180 0 157 (dk_at dksX0_run_2 17 rfl rfl)
theorem dX0_run_66 : decode cX0_run 66 = .ok (.if_icmp .ge 62, 3) := dk_162 0 62 (dk_at dksX0_run_2 20 rfl rfl)
theorem dX0_run_69 : decode cX0_run 69 = .ok (.aload_n 0, 1) := dk_42 (dk_at dksX0_run_2 23 rfl rfl)
theorem dX0_run_70 : decode cX0_run 70 = .ok (.getfield 104, 3) := dk_180 0 104 (dk_at dksX0_run_3 0 rfl rfl)
theorem dX0_run_73 : decode cX0_run 73 = .ok (.getfield 236, 3) := dk_180 0 236 (dk_at dksX0_run_3 3 rfl rfl)
theorem dX0_run_76 : decode cX0_run 76 = .ok (.iload_n 3, 1) := dk_29 (dk_at dksX0_run_3 6 rfl rfl)
theorem dX0_run_77 : decode cX0_run 77 = .ok (.aaload, 1) := dk_50 (dk_at dksX0_run_3 7 rfl rfl)
theorem dX0_run_78 : decode cX0_run 78 = .ok (.astore 4, 2) := dk_58 4 (dk_at dksX0_run_3 8 rfl rfl)
theorem dX0_run_80 : decode cX0_run 80 = .ok (.aload 4, 2) := dk_25 4 (dk_at dksX0_run_3 10 rfl rfl)
theorem dX0_run_82 : decode cX0_run 82 = .ok (.aload_n 0, 1) := dk_42 (dk_at dksX0_run_3 12 rfl rfl)
theorem dX0_run_83 : decode cX0_run 83 = .ok (.getfield 120, 3) := dk_180 0 120 (dk_at dksX0_run_3 13 rfl rfl)
theorem dX0_run_86 : decode cX0_run 86 = .ok (.aload 4, 2) := dk_25 4 (dk_at dksX0_run_3 16 rfl rfl)
theorem dX0_run_88 : decode cX0_run 88 = .ok (.getfield 250, 3) := dk_180 0 250 (dk_at dksX0_run_3 18 rfl rfl)
theorem dX0_run_91 : decode cX0_run 91 = .ok (.aaload, 1) := dk_50 (dk_at dksX0_run_3 21 rfl rfl)
theorem dX0_run_92 : decode cX0_run 92 = .ok (.aload_n 0, 1) := dk_42 (dk_at dksX0_run_3 22 rfl rfl)
theorem dX0_run_93 : decode cX0_run 93 = .ok (.getfield 104, 3) := dk_180 0 104 (dk_at dksX0_run_4 0 rfl rfl)
theorem dX0_run_96 : decode cX0_run 96 = .ok (.aload_n 0, 1) := dk_42 (dk_at dksX0_run_4 3 rfl rfl)
theorem dX0_run_97 : decode cX0_run 97 = .ok (.getfield 104, 3) := dk_180 0 104 (dk_at dksX0_run_4 4 rfl rfl)
theorem dX0_run_100 : decode cX0_run 100 = .ok (.getfield 167, 3) := dk_180 0 167 (dk_at dksX0_run_4 7 rfl rfl)
theorem dX0_run_103 : decode cX0_run 103 = .ok (.invokevirtual 269, 3) := dk_182 1 13 (dk_at dksX0_run_4 10 rfl rfl)
theorem dX0_run_106 : decode cX0_run 106 = .ok (.aload 4, 2) := dk_25 4 (dk_at dksX0_run_4 13 rfl rfl)
theorem dX0_run_108 : decode cX0_run 108 = .ok (.aload_n 0, 1) := dk_42 (dk_at dksX0_run_4 15 rfl rfl)
theorem dX0_run_109 : decode cX0_run 109 = .ok (.getfield 104, 3) := dk_180 0 104 (dk_at dksX0_run_4 16 rfl rfl)
theorem dX0_run_112 : decode cX0_run 112 = .ok (.aload_n 0, 1) := dk_42 (dk_at dksX0_run_4 19 rfl rfl)
theorem dX0_run_113 : decode cX0_run 113 = .ok (.getfield 104, 3) := dk_180 0 104 (dk_at dksX0_run_4 20 rfl rfl)
theorem dX0_run_116 : decode cX0_run 116 = .ok (.getfield 167, 3) := dk_180 0 167 (dk_at dksX0_run_5 0 rfl rfl)
theorem dX0_run_119 : decode cX0_run 119 = .ok (.invokevirtual 273, 3) := dk_182 1 17 (dk_at dksX0_run_5 3 rfl rfl)
theorem dX0_run_122 : decode cX0_run 122 = .ok (.iinc 3 1, 3) := dk_132 3 1 (dk_at dksX0_run_5 6 rfl rfl)
theorem dX0_run_125 : decode cX0_run 125 = .ok (.goto (-67), 3) := dk_167 255 189 (dk_at dksX0_run_5 9 rfl rfl)
theorem dX0_run_128 : decode cX0_run 128 = .ok (.aload_n 0, 1) := dk_42 (dk_at dksX0_run_5 12 rfl rfl)
theorem dX0_run_129 : decode cX0_run 129 = .ok (.getfield 104, 3) := dk_180 0 104 (dk_at dksX0_run_5 13 rfl rfl)
theorem dX0_run_132 : decode cX0_run 132 = .ok (.dup, 1) := dk_89 (dk_at dksX0_run_5 16 rfl rfl)
theorem dX0_run_133 : decode cX0_run 133 = .ok (.getfield 167, 3) := dk_180 0 167 (dk_at dksX0_run_5 17 rfl rfl)
theorem dX0_run_136 : decode cX0_run 136 = .ok (.iconst 1, 1) := dk_4 (dk_at dksX0_run_5 20 rfl rfl)
theorem dX0_run_137 : decode cX0_run 137 = .ok (.iadd, 1) := dk_96 (dk_at dksX0_run_5 21 rfl rfl)
theorem dX0_run_138 : decode cX0_run 138 = .ok (.putfield 167, 3) := dk_181 0 167 (dk_at dksX0_run_6 0 rfl rfl)
theorem dX0_run_141 : decode cX0_run 141 = .ok (.iinc 2 1, 3) := dk_132 2 1 (dk_at dksX0_run_6 3 rfl rfl)
theorem dX0_run_144 : decode cX0_run 144 = .ok (.goto (-103), 3) := dk_167 255 153 (dk_at dksX0_run_6 6 rfl rfl)
theorem dX0_run_147 : decode cX0_run 147 = .ok (.iload_n 2, 1) := dk_28 (dk_at dksX0_run_6 9 rfl rfl)
theorem dX0_run_148 : decode cX0_run 148 = .ok (.ireturn, 1) := dk_172 (dk_at dksX0_run_6 10 rfl rfl)
abbrev cX0_about : ByteArray := prog_1_method_24_code
def yX0_about : MethodName := ⟨RX0, "about", "(II)I"⟩
def dkwX0_about_4 : List UInt8 := [180, 1, 41, 172, 45, 180, 0, 250, 172, 45, 180, 1, 43, 172, 2, 172]
abbrev dktX0_about_4 : List UInt8 := dkwX0_about_4 ++ []
def dkwX0_about_3 : List UInt8 := [45, 28, 7, 100, 182, 1, 31, 172, 45, 182, 1, 35, 172, 45, 180, 1, 37, 172, 45, 180, 1, 39, 172, 45]
abbrev dktX0_about_3 : List UInt8 := dkwX0_about_3 ++ dktX0_about_4
def dkwX0_about_2 : List UInt8 := [45, 180, 0, 247, 172, 45, 180, 1, 21, 172, 45, 180, 1, 24, 172, 45, 42, 180, 0, 104, 182, 1, 27, 172]
abbrev dktX0_about_2 : List UInt8 := dkwX0_about_2 ++ dktX0_about_3
def dkwX0_about_1 : List UInt8 := [170, 0, 0, 0, 0, 0, 129, 0, 0, 0, 0, 0, 0, 0, 12, 0, 0, 0, 67, 0, 0, 0, 72, 0, 0, 0, 77, 0, 0, 0, 82, 0, 0, 0, 91, 0, 0, 0, 91, 0, 0, 0, 91, 0, 0, 0, 99, 0, 0, 0, 104, 0, 0, 0, 109, 0, 0, 0, 114, 0, 0, 0, 119, 0, 0, 0, 124]
abbrev dktX0_about_1 : List UInt8 := dkwX0_about_1 ++ dktX0_about_2
def dkwX0_about_0 : List UInt8 := [42, 27, 182, 0, 244, 154, 0, 5, 2, 172, 42, 180, 0, 104, 180, 0, 236, 27, 50, 78, 28]
abbrev dktX0_about_0 : List UInt8 := dkwX0_about_0 ++ dktX0_about_1
theorem dksX0_about_0 : cX0_about.data.toList.drop 0 = dktX0_about_0 := by decide +kernel
theorem dksX0_about_1 : cX0_about.data.toList.drop 21 = dktX0_about_1 := dk_seg dksX0_about_0 21 rfl rfl
theorem dksX0_about_2 : cX0_about.data.toList.drop 88 = dktX0_about_2 := dk_seg dksX0_about_1 67 rfl rfl
theorem dksX0_about_3 : cX0_about.data.toList.drop 112 = dktX0_about_3 := dk_seg dksX0_about_2 24 rfl rfl
theorem dksX0_about_4 : cX0_about.data.toList.drop 136 = dktX0_about_4 := dk_seg dksX0_about_3 24 rfl rfl
theorem dX0_about_0 : decode cX0_about 0 = .ok (.aload_n 0, 1) := dk_42 (dk_at dksX0_about_0 0 rfl rfl)
theorem dX0_about_1 : decode cX0_about 1 = .ok (.iload_n 1, 1) := dk_27 (dk_at dksX0_about_0 1 rfl rfl)
theorem dX0_about_2 : decode cX0_about 2 = .ok (.invokevirtual 244, 3) := dk_182 0 244 (dk_at dksX0_about_0 2 rfl rfl)
theorem dX0_about_5 : decode cX0_about 5 = .ok (.ifCond .ne 5, 3) := dk_154 0 5 (dk_at dksX0_about_0 5 rfl rfl)
theorem dX0_about_8 : decode cX0_about 8 = .ok (.iconst (-1), 1) := dk_2 (dk_at dksX0_about_0 8 rfl rfl)
theorem dX0_about_9 : decode cX0_about 9 = .ok (.ireturn, 1) := dk_172 (dk_at dksX0_about_0 9 rfl rfl)
theorem dX0_about_10 : decode cX0_about 10 = .ok (.aload_n 0, 1) := dk_42 (dk_at dksX0_about_0 10 rfl rfl)
theorem dX0_about_11 : decode cX0_about 11 = .ok (.getfield 104, 3) := dk_180 0 104 (dk_at dksX0_about_0 11 rfl rfl)
theorem dX0_about_14 : decode cX0_about 14 = .ok (.getfield 236, 3) := dk_180 0 236 (dk_at dksX0_about_0 14 rfl rfl)
theorem dX0_about_17 : decode cX0_about 17 = .ok (.iload_n 1, 1) := dk_27 (dk_at dksX0_about_0 17 rfl rfl)
theorem dX0_about_18 : decode cX0_about 18 = .ok (.aaload, 1) := dk_50 (dk_at dksX0_about_0 18 rfl rfl)
theorem dX0_about_19 : decode cX0_about 19 = .ok (.astore_n 3, 1) := dk_78 (dk_at dksX0_about_0 19 rfl rfl)
theorem dX0_about_20 : decode cX0_about 20 = .ok (.iload_n 2, 1) := dk_28 (dk_at dksX0_about_0 20 rfl rfl)
theorem dX0_about_21 : decode cX0_about 21 = .ok (.tableswitch 129 0 12 #[67, 72, 77, 82, 91, 91, 91, 99, 104, 109, 114, 119, 124], 67) := by decide +kernel
theorem dX0_about_88 : decode cX0_about 88 = .ok (.aload_n 3, 1) := dk_45 (dk_at dksX0_about_2 0 rfl rfl)
theorem dX0_about_89 : decode cX0_about 89 = .ok (.getfield 247, 3) := dk_180 0 247 (dk_at dksX0_about_2 1 rfl rfl)
theorem dX0_about_92 : decode cX0_about 92 = .ok (.ireturn, 1) := dk_172 (dk_at dksX0_about_2 4 rfl rfl)
theorem dX0_about_93 : decode cX0_about 93 = .ok (.aload_n 3, 1) := dk_45 (dk_at dksX0_about_2 5 rfl rfl)
theorem dX0_about_94 : decode cX0_about 94 = .ok (.getfield 277, 3) := dk_180 1 21 (dk_at dksX0_about_2 6 rfl rfl)
theorem dX0_about_97 : decode cX0_about 97 = .ok (.ireturn, 1) := dk_172 (dk_at dksX0_about_2 9 rfl rfl)
theorem dX0_about_98 : decode cX0_about 98 = .ok (.aload_n 3, 1) := dk_45 (dk_at dksX0_about_2 10 rfl rfl)
theorem dX0_about_99 : decode cX0_about 99 = .ok (.getfield 280, 3) := dk_180 1 24 (dk_at dksX0_about_2 11 rfl rfl)
theorem dX0_about_102 : decode cX0_about 102 = .ok (.ireturn, 1) := dk_172 (dk_at dksX0_about_2 14 rfl rfl)
theorem dX0_about_103 : decode cX0_about 103 = .ok (.aload_n 3, 1) := dk_45 (dk_at dksX0_about_2 15 rfl rfl)
theorem dX0_about_104 : decode cX0_about 104 = .ok (.aload_n 0, 1) := dk_42 (dk_at dksX0_about_2 16 rfl rfl)
theorem dX0_about_105 : decode cX0_about 105 = .ok (.getfield 104, 3) := dk_180 0 104 (dk_at dksX0_about_2 17 rfl rfl)
theorem dX0_about_108 : decode cX0_about 108 = .ok (.invokevirtual 283, 3) := dk_182 1 27 (dk_at dksX0_about_2 20 rfl rfl)
theorem dX0_about_111 : decode cX0_about 111 = .ok (.ireturn, 1) := dk_172 (dk_at dksX0_about_2 23 rfl rfl)
theorem dX0_about_112 : decode cX0_about 112 = .ok (.aload_n 3, 1) := dk_45 (dk_at dksX0_about_3 0 rfl rfl)
theorem dX0_about_113 : decode cX0_about 113 = .ok (.iload_n 2, 1) := dk_28 (dk_at dksX0_about_3 1 rfl rfl)
theorem dX0_about_114 : decode cX0_about 114 = .ok (.iconst 4, 1) := dk_7 (dk_at dksX0_about_3 2 rfl rfl)
theorem dX0_about_115 : decode cX0_about 115 = .ok (.isub, 1) := dk_100 (dk_at dksX0_about_3 3 rfl rfl)
theorem dX0_about_116 : decode cX0_about 116 = .ok (.invokevirtual 287, 3) := dk_182 1 31 (dk_at dksX0_about_3 4 rfl rfl)
theorem dX0_about_119 : decode cX0_about 119 = .ok (.ireturn, 1) := dk_172 (dk_at dksX0_about_3 7 rfl rfl)
theorem dX0_about_120 : decode cX0_about 120 = .ok (.aload_n 3, 1) := dk_45 (dk_at dksX0_about_3 8 rfl rfl)
theorem dX0_about_121 : decode cX0_about 121 = .ok (.invokevirtual 291, 3) := dk_182 1 35 (dk_at dksX0_about_3 9 rfl rfl)
theorem dX0_about_124 : decode cX0_about 124 = .ok (.ireturn, 1) := dk_172 (dk_at dksX0_about_3 12 rfl rfl)
theorem dX0_about_125 : decode cX0_about 125 = .ok (.aload_n 3, 1) := dk_45 (dk_at dksX0_about_3 13 rfl rfl)
theorem dX0_about_126 : decode cX0_about 126 = .ok (.getfield 293, 3) := dk_180 1 37 (dk_at dksX0_about_3 14 rfl rfl)
theorem dX0_about_129 : decode cX0_about 129 = .ok (.ireturn, 1) := dk_172 (dk_at dksX0_about_3 17 rfl rfl)
theorem dX0_about_130 : decode cX0_about 130 = .ok (.aload_n 3, 1) := dk_45 (dk_at dksX0_about_3 18 rfl rfl)
theorem dX0_about_131 : decode cX0_about 131 = .ok (.getfield 295, 3) := dk_180 1 39 (dk_at dksX0_about_3 19 rfl rfl)
theorem dX0_about_134 : decode cX0_about 134 = .ok (.ireturn, 1) := dk_172 (dk_at dksX0_about_3 22 rfl rfl)
theorem dX0_about_135 : decode cX0_about 135 = .ok (.aload_n 3, 1) := dk_45 (dk_at dksX0_about_3 23 rfl rfl)
theorem dX0_about_136 : decode cX0_about 136 = .ok (.getfield 297, 3) := dk_180 1 41 (dk_at dksX0_about_4 0 rfl rfl)
theorem dX0_about_139 : decode cX0_about 139 = .ok (.ireturn, 1) := dk_172 (dk_at dksX0_about_4 3 rfl rfl)
theorem dX0_about_140 : decode cX0_about 140 = .ok (.aload_n 3, 1) := dk_45 (dk_at dksX0_about_4 4 rfl rfl)
theorem dX0_about_141 : decode cX0_about 141 = .ok (.getfield 250, 3) := dk_180 0 250 (dk_at dksX0_about_4 5 rfl rfl)
theorem dX0_about_144 : decode cX0_about 144 = .ok (.ireturn, 1) := dk_172 (dk_at dksX0_about_4 8 rfl rfl)
theorem dX0_about_145 : decode cX0_about 145 = .ok (.aload_n 3, 1) := dk_45 (dk_at dksX0_about_4 9 rfl rfl)
theorem dX0_about_146 : decode cX0_about 146 = .ok (.getfield 299, 3) := dk_180 1 43 (dk_at dksX0_about_4 10 rfl rfl)
theorem dX0_about_149 : decode cX0_about 149 = .ok (.ireturn, 1) := dk_172 (dk_at dksX0_about_4 13 rfl rfl)
theorem dX0_about_150 : decode cX0_about 150 = .ok (.iconst (-1), 1) := dk_2 (dk_at dksX0_about_4 14 rfl rfl)
theorem dX0_about_151 : decode cX0_about 151 = .ok (.ireturn, 1) := dk_172 (dk_at dksX0_about_4 15 rfl rfl)
abbrev cX0_dog : ByteArray := prog_1_method_25_code
def yX0_dog : MethodName := ⟨RX0, "dog", "(III)I"⟩
def dkwX0_dog_4 : List UInt8 := [25, 4, 180, 1, 52, 172, 25, 4, 180, 1, 57, 172, 25, 4, 180, 1, 58, 172, 2, 172]
abbrev dktX0_dog_4 : List UInt8 := dkwX0_dog_4 ++ []
def dkwX0_dog_3 : List UInt8 := [170, 0, 0, 0, 0, 0, 45, 0, 0, 0, 0, 0, 0, 0, 2, 0, 0, 0, 27, 0, 0, 0, 33, 0, 0, 0, 39]
abbrev dktX0_dog_3 : List UInt8 := dkwX0_dog_3 ++ dktX0_dog_4
def dkwX0_dog_2 : List UInt8 := [29]
abbrev dktX0_dog_2 : List UInt8 := dkwX0_dog_2 ++ dktX0_dog_3
def dkwX0_dog_1 : List UInt8 := [184, 0, 160, 154, 0, 5, 2, 172, 42, 180, 0, 104, 180, 0, 236, 27, 50, 180, 1, 49, 28, 50, 58, 4]
abbrev dktX0_dog_1 : List UInt8 := dkwX0_dog_1 ++ dktX0_dog_2
def dkwX0_dog_0 : List UInt8 := [42, 27, 182, 0, 244, 153, 0, 25, 28, 3, 42, 180, 0, 104, 180, 0, 236, 27, 50, 180, 1, 46, 4, 100]
abbrev dktX0_dog_0 : List UInt8 := dkwX0_dog_0 ++ dktX0_dog_1
theorem dksX0_dog_0 : cX0_dog.data.toList.drop 0 = dktX0_dog_0 := by decide +kernel
theorem dksX0_dog_1 : cX0_dog.data.toList.drop 24 = dktX0_dog_1 := dk_seg dksX0_dog_0 24 rfl rfl
theorem dksX0_dog_2 : cX0_dog.data.toList.drop 48 = dktX0_dog_2 := dk_seg dksX0_dog_1 24 rfl rfl
theorem dksX0_dog_3 : cX0_dog.data.toList.drop 49 = dktX0_dog_3 := dk_seg dksX0_dog_2 1 rfl rfl
theorem dksX0_dog_4 : cX0_dog.data.toList.drop 76 = dktX0_dog_4 := dk_seg dksX0_dog_3 27 rfl rfl
theorem dX0_dog_0 : decode cX0_dog 0 = .ok (.aload_n 0, 1) := dk_42 (dk_at dksX0_dog_0 0 rfl rfl)
theorem dX0_dog_1 : decode cX0_dog 1 = .ok (.iload_n 1, 1) := dk_27 (dk_at dksX0_dog_0 1 rfl rfl)
theorem dX0_dog_2 : decode cX0_dog 2 = .ok (.invokevirtual 244, 3) := dk_182 0 244 (dk_at dksX0_dog_0 2 rfl rfl)
theorem dX0_dog_5 : decode cX0_dog 5 = .ok (.ifCond .eq 25, 3) := dk_153 0 25 (dk_at dksX0_dog_0 5 rfl rfl)
theorem dX0_dog_8 : decode cX0_dog 8 = .ok (.iload_n 2, 1) := dk_28 (dk_at dksX0_dog_0 8 rfl rfl)
theorem dX0_dog_9 : decode cX0_dog 9 = .ok (.iconst 0, 1) := dk_3 (dk_at dksX0_dog_0 9 rfl rfl)
theorem dX0_dog_10 : decode cX0_dog 10 = .ok (.aload_n 0, 1) := dk_42 (dk_at dksX0_dog_0 10 rfl rfl)
theorem dX0_dog_11 : decode cX0_dog 11 = .ok (.getfield 104, 3) := dk_180 0 104 (dk_at dksX0_dog_0 11 rfl rfl)
theorem dX0_dog_14 : decode cX0_dog 14 = .ok (.getfield 236, 3) := dk_180 0 236 (dk_at dksX0_dog_0 14 rfl rfl)
theorem dX0_dog_17 : decode cX0_dog 17 = .ok (.iload_n 1, 1) := dk_27 (dk_at dksX0_dog_0 17 rfl rfl)
theorem dX0_dog_18 : decode cX0_dog 18 = .ok (.aaload, 1) := dk_50 (dk_at dksX0_dog_0 18 rfl rfl)
theorem dX0_dog_19 : decode cX0_dog 19 = .ok (.getfield 302, 3) := dk_180 1 46 (dk_at dksX0_dog_0 19 rfl rfl)
theorem dX0_dog_22 : decode cX0_dog 22 = .ok (.iconst 1, 1) := dk_4 (dk_at dksX0_dog_0 22 rfl rfl)
theorem dX0_dog_23 : decode cX0_dog 23 = .ok (.isub, 1) := dk_100 (dk_at dksX0_dog_0 23 rfl rfl)
theorem dX0_dog_24 : decode cX0_dog 24 = .ok (.invokestatic 160, 3) := dk_184 0 160 (dk_at dksX0_dog_1 0 rfl rfl)
theorem dX0_dog_27 : decode cX0_dog 27 = .ok (.ifCond .ne 5, 3) := dk_154 0 5 (dk_at dksX0_dog_1 3 rfl rfl)
theorem dX0_dog_30 : decode cX0_dog 30 = .ok (.iconst (-1), 1) := dk_2 (dk_at dksX0_dog_1 6 rfl rfl)
theorem dX0_dog_31 : decode cX0_dog 31 = .ok (.ireturn, 1) := dk_172 (dk_at dksX0_dog_1 7 rfl rfl)
theorem dX0_dog_32 : decode cX0_dog 32 = .ok (.aload_n 0, 1) := dk_42 (dk_at dksX0_dog_1 8 rfl rfl)
theorem dX0_dog_33 : decode cX0_dog 33 = .ok (.getfield 104, 3) := dk_180 0 104 (dk_at dksX0_dog_1 9 rfl rfl)
theorem dX0_dog_36 : decode cX0_dog 36 = .ok (.getfield 236, 3) := dk_180 0 236 (dk_at dksX0_dog_1 12 rfl rfl)
theorem dX0_dog_39 : decode cX0_dog 39 = .ok (.iload_n 1, 1) := dk_27 (dk_at dksX0_dog_1 15 rfl rfl)
theorem dX0_dog_40 : decode cX0_dog 40 = .ok (.aaload, 1) := dk_50 (dk_at dksX0_dog_1 16 rfl rfl)
theorem dX0_dog_41 : decode cX0_dog 41 = .ok (.getfield 305, 3) := dk_180 1 49 (dk_at dksX0_dog_1 17 rfl rfl)
theorem dX0_dog_44 : decode cX0_dog 44 = .ok (.iload_n 2, 1) := dk_28 (dk_at dksX0_dog_1 20 rfl rfl)
theorem dX0_dog_45 : decode cX0_dog 45 = .ok (.aaload, 1) := dk_50 (dk_at dksX0_dog_1 21 rfl rfl)
theorem dX0_dog_46 : decode cX0_dog 46 = .ok (.astore 4, 2) := dk_58 4 (dk_at dksX0_dog_1 22 rfl rfl)
theorem dX0_dog_48 : decode cX0_dog 48 = .ok (.iload_n 3, 1) := dk_29 (dk_at dksX0_dog_2 0 rfl rfl)
theorem dX0_dog_49 : decode cX0_dog 49 = .ok (.tableswitch 45 0 2 #[27, 33, 39], 27) := by decide +kernel
theorem dX0_dog_76 : decode cX0_dog 76 = .ok (.aload 4, 2) := dk_25 4 (dk_at dksX0_dog_4 0 rfl rfl)
theorem dX0_dog_78 : decode cX0_dog 78 = .ok (.getfield 308, 3) := dk_180 1 52 (dk_at dksX0_dog_4 2 rfl rfl)
theorem dX0_dog_81 : decode cX0_dog 81 = .ok (.ireturn, 1) := dk_172 (dk_at dksX0_dog_4 5 rfl rfl)
theorem dX0_dog_82 : decode cX0_dog 82 = .ok (.aload 4, 2) := dk_25 4 (dk_at dksX0_dog_4 6 rfl rfl)
theorem dX0_dog_84 : decode cX0_dog 84 = .ok (.getfield 313, 3) := dk_180 1 57 (dk_at dksX0_dog_4 8 rfl rfl)
theorem dX0_dog_87 : decode cX0_dog 87 = .ok (.ireturn, 1) := dk_172 (dk_at dksX0_dog_4 11 rfl rfl)
theorem dX0_dog_88 : decode cX0_dog 88 = .ok (.aload 4, 2) := dk_25 4 (dk_at dksX0_dog_4 12 rfl rfl)
theorem dX0_dog_90 : decode cX0_dog 90 = .ok (.getfield 314, 3) := dk_180 1 58 (dk_at dksX0_dog_4 14 rfl rfl)
theorem dX0_dog_93 : decode cX0_dog 93 = .ok (.ireturn, 1) := dk_172 (dk_at dksX0_dog_4 17 rfl rfl)
theorem dX0_dog_94 : decode cX0_dog 94 = .ok (.iconst (-1), 1) := dk_2 (dk_at dksX0_dog_4 18 rfl rfl)
theorem dX0_dog_95 : decode cX0_dog 95 = .ok (.ireturn, 1) := dk_172 (dk_at dksX0_dog_4 19 rfl rfl)
abbrev cX0_time : ByteArray := prog_1_method_26_code
def yX0_time : MethodName := ⟨RX0, "time", "(IIZ)I"⟩
def dkwX0_time_2 : List UInt8 := [180, 0, 104, 180, 0, 236, 27, 50, 180, 1, 62, 28, 46, 172]
abbrev dktX0_time_2 : List UInt8 := dkwX0_time_2 ++ []
def dkwX0_time_1 : List UInt8 := [172, 29, 153, 0, 20, 42, 180, 0, 104, 180, 0, 236, 27, 50, 180, 1, 59, 28, 46, 167, 0, 17, 42]
abbrev dktX0_time_1 : List UInt8 := dkwX0_time_1 ++ dktX0_time_2
def dkwX0_time_0 : List UInt8 := [42, 27, 182, 0, 244, 153, 0, 18, 28, 3, 42, 180, 0, 104, 180, 0, 173, 184, 0, 160, 154, 0, 5, 2]
abbrev dktX0_time_0 : List UInt8 := dkwX0_time_0 ++ dktX0_time_1
theorem dksX0_time_0 : cX0_time.data.toList.drop 0 = dktX0_time_0 := by decide +kernel
theorem dksX0_time_1 : cX0_time.data.toList.drop 24 = dktX0_time_1 := dk_seg dksX0_time_0 24 rfl rfl
theorem dksX0_time_2 : cX0_time.data.toList.drop 47 = dktX0_time_2 := dk_seg dksX0_time_1 23 rfl rfl
theorem dX0_time_0 : decode cX0_time 0 = .ok (.aload_n 0, 1) := dk_42 (dk_at dksX0_time_0 0 rfl rfl)
theorem dX0_time_1 : decode cX0_time 1 = .ok (.iload_n 1, 1) := dk_27 (dk_at dksX0_time_0 1 rfl rfl)
theorem dX0_time_2 : decode cX0_time 2 = .ok (.invokevirtual 244, 3) := dk_182 0 244 (dk_at dksX0_time_0 2 rfl rfl)
theorem dX0_time_5 : decode cX0_time 5 = .ok (.ifCond .eq 18, 3) := dk_153 0 18 (dk_at dksX0_time_0 5 rfl rfl)
theorem dX0_time_8 : decode cX0_time 8 = .ok (.iload_n 2, 1) := dk_28 (dk_at dksX0_time_0 8 rfl rfl)
theorem dX0_time_9 : decode cX0_time 9 = .ok (.iconst 0, 1) := dk_3 (dk_at dksX0_time_0 9 rfl rfl)
theorem dX0_time_10 : decode cX0_time 10 = .ok (.aload_n 0, 1) := dk_42 (dk_at dksX0_time_0 10 rfl rfl)
theorem dX0_time_11 : decode cX0_time 11 = .ok (.getfield 104, 3) := dk_180 0 104 (dk_at dksX0_time_0 11 rfl rfl)
theorem dX0_time_14 : decode cX0_time 14 = .ok (.getfield 173, 3) := dk_180 0 173 (dk_at dksX0_time_0 14 rfl rfl)
theorem dX0_time_17 : decode cX0_time 17 = .ok (.invokestatic 160, 3) := dk_184 0 160 (dk_at dksX0_time_0 17 rfl rfl)
theorem dX0_time_20 : decode cX0_time 20 = .ok (.ifCond .ne 5, 3) := dk_154 0 5 (dk_at dksX0_time_0 20 rfl rfl)
theorem dX0_time_23 : decode cX0_time 23 = .ok (.iconst (-1), 1) := dk_2 (dk_at dksX0_time_0 23 rfl rfl)
theorem dX0_time_24 : decode cX0_time 24 = .ok (.ireturn, 1) := dk_172 (dk_at dksX0_time_1 0 rfl rfl)
theorem dX0_time_25 : decode cX0_time 25 = .ok (.iload_n 3, 1) := dk_29 (dk_at dksX0_time_1 1 rfl rfl)
theorem dX0_time_26 : decode cX0_time 26 = .ok (.ifCond .eq 20, 3) := dk_153 0 20 (dk_at dksX0_time_1 2 rfl rfl)
theorem dX0_time_29 : decode cX0_time 29 = .ok (.aload_n 0, 1) := dk_42 (dk_at dksX0_time_1 5 rfl rfl)
theorem dX0_time_30 : decode cX0_time 30 = .ok (.getfield 104, 3) := dk_180 0 104 (dk_at dksX0_time_1 6 rfl rfl)
theorem dX0_time_33 : decode cX0_time 33 = .ok (.getfield 236, 3) := dk_180 0 236 (dk_at dksX0_time_1 9 rfl rfl)
theorem dX0_time_36 : decode cX0_time 36 = .ok (.iload_n 1, 1) := dk_27 (dk_at dksX0_time_1 12 rfl rfl)
theorem dX0_time_37 : decode cX0_time 37 = .ok (.aaload, 1) := dk_50 (dk_at dksX0_time_1 13 rfl rfl)
theorem dX0_time_38 : decode cX0_time 38 = .ok (.getfield 315, 3) := dk_180 1 59 (dk_at dksX0_time_1 14 rfl rfl)
theorem dX0_time_41 : decode cX0_time 41 = .ok (.iload_n 2, 1) := dk_28 (dk_at dksX0_time_1 17 rfl rfl)
theorem dX0_time_42 : decode cX0_time 42 = .ok (.iaload, 1) := dk_46 (dk_at dksX0_time_1 18 rfl rfl)
theorem dX0_time_43 : decode cX0_time 43 = .ok (.goto 17, 3) := dk_167 0 17 (dk_at dksX0_time_1 19 rfl rfl)
theorem dX0_time_46 : decode cX0_time 46 = .ok (.aload_n 0, 1) := dk_42 (dk_at dksX0_time_1 22 rfl rfl)
theorem dX0_time_47 : decode cX0_time 47 = .ok (.getfield 104, 3) := dk_180 0 104 (dk_at dksX0_time_2 0 rfl rfl)
theorem dX0_time_50 : decode cX0_time 50 = .ok (.getfield 236, 3) := dk_180 0 236 (dk_at dksX0_time_2 3 rfl rfl)
theorem dX0_time_53 : decode cX0_time 53 = .ok (.iload_n 1, 1) := dk_27 (dk_at dksX0_time_2 6 rfl rfl)
theorem dX0_time_54 : decode cX0_time 54 = .ok (.aaload, 1) := dk_50 (dk_at dksX0_time_2 7 rfl rfl)
theorem dX0_time_55 : decode cX0_time 55 = .ok (.getfield 318, 3) := dk_180 1 62 (dk_at dksX0_time_2 8 rfl rfl)
theorem dX0_time_58 : decode cX0_time 58 = .ok (.iload_n 2, 1) := dk_28 (dk_at dksX0_time_2 11 rfl rfl)
theorem dX0_time_59 : decode cX0_time 59 = .ok (.iaload, 1) := dk_46 (dk_at dksX0_time_2 12 rfl rfl)
theorem dX0_time_60 : decode cX0_time 60 = .ok (.ireturn, 1) := dk_172 (dk_at dksX0_time_2 13 rfl rfl)
abbrev cX0_did : ByteArray := prog_1_method_27_code
def yX0_did : MethodName := ⟨RX0, "did", "(I)I"⟩
def dkwX0_did_1 : List UInt8 := [172]
abbrev dktX0_did_1 : List UInt8 := dkwX0_did_1 ++ []
def dkwX0_did_0 : List UInt8 := [42, 27, 182, 0, 244, 153, 0, 18, 42, 180, 0, 104, 180, 0, 236, 27, 50, 180, 1, 64, 167, 0, 4, 2]
abbrev dktX0_did_0 : List UInt8 := dkwX0_did_0 ++ dktX0_did_1
theorem dksX0_did_0 : cX0_did.data.toList.drop 0 = dktX0_did_0 := by decide +kernel
theorem dksX0_did_1 : cX0_did.data.toList.drop 24 = dktX0_did_1 := dk_seg dksX0_did_0 24 rfl rfl
theorem dX0_did_0 : decode cX0_did 0 = .ok (.aload_n 0, 1) := dk_42 (dk_at dksX0_did_0 0 rfl rfl)
theorem dX0_did_1 : decode cX0_did 1 = .ok (.iload_n 1, 1) := dk_27 (dk_at dksX0_did_0 1 rfl rfl)
theorem dX0_did_2 : decode cX0_did 2 = .ok (.invokevirtual 244, 3) := dk_182 0 244 (dk_at dksX0_did_0 2 rfl rfl)
theorem dX0_did_5 : decode cX0_did 5 = .ok (.ifCond .eq 18, 3) := dk_153 0 18 (dk_at dksX0_did_0 5 rfl rfl)
theorem dX0_did_8 : decode cX0_did 8 = .ok (.aload_n 0, 1) := dk_42 (dk_at dksX0_did_0 8 rfl rfl)
theorem dX0_did_9 : decode cX0_did 9 = .ok (.getfield 104, 3) := dk_180 0 104 (dk_at dksX0_did_0 9 rfl rfl)
theorem dX0_did_12 : decode cX0_did 12 = .ok (.getfield 236, 3) := dk_180 0 236 (dk_at dksX0_did_0 12 rfl rfl)
theorem dX0_did_15 : decode cX0_did 15 = .ok (.iload_n 1, 1) := dk_27 (dk_at dksX0_did_0 15 rfl rfl)
theorem dX0_did_16 : decode cX0_did 16 = .ok (.aaload, 1) := dk_50 (dk_at dksX0_did_0 16 rfl rfl)
theorem dX0_did_17 : decode cX0_did 17 = .ok (.getfield 320, 3) := dk_180 1 64 (dk_at dksX0_did_0 17 rfl rfl)
theorem dX0_did_20 : decode cX0_did 20 = .ok (.goto 4, 3) := dk_167 0 4 (dk_at dksX0_did_0 20 rfl rfl)
theorem dX0_did_23 : decode cX0_did 23 = .ok (.iconst (-1), 1) := dk_2 (dk_at dksX0_did_0 23 rfl rfl)
theorem dX0_did_24 : decode cX0_did 24 = .ok (.ireturn, 1) := dk_172 (dk_at dksX0_did_1 0 rfl rfl)
abbrev cX0_result : ByteArray := prog_1_method_30_code
def yX0_result : MethodName := ⟨RX0, "result", "(I)I"⟩
def dkwX0_result_0 : List UInt8 := [42, 27, 182, 1, 76, 77, 44, 199, 0, 7, 2, 167, 0, 8, 42, 44, 182, 1, 80, 172]
abbrev dktX0_result_0 : List UInt8 := dkwX0_result_0 ++ []
theorem dksX0_result_0 : cX0_result.data.toList.drop 0 = dktX0_result_0 := by decide +kernel
theorem dX0_result_0 : decode cX0_result 0 = .ok (.aload_n 0, 1) := dk_42 (dk_at dksX0_result_0 0 rfl rfl)
theorem dX0_result_1 : decode cX0_result 1 = .ok (.iload_n 1, 1) := dk_27 (dk_at dksX0_result_0 1 rfl rfl)
theorem dX0_result_2 : decode cX0_result 2 = .ok (.invokevirtual 332, 3) := dk_182 1 76 (dk_at dksX0_result_0 2 rfl rfl)
theorem dX0_result_5 : decode cX0_result 5 = .ok (.astore_n 2, 1) := dk_77 (dk_at dksX0_result_0 5 rfl rfl)
theorem dX0_result_6 : decode cX0_result 6 = .ok (.aload_n 2, 1) := dk_44 (dk_at dksX0_result_0 6 rfl rfl)
theorem dX0_result_7 : decode cX0_result 7 = .ok (.ifnonnull 7, 3) := dk_199 0 7 (dk_at dksX0_result_0 7 rfl rfl)
theorem dX0_result_10 : decode cX0_result 10 = .ok (.iconst (-1), 1) := dk_2 (dk_at dksX0_result_0 10 rfl rfl)
theorem dX0_result_11 : decode cX0_result 11 = .ok (.goto 8, 3) := dk_167 0 8 (dk_at dksX0_result_0 11 rfl rfl)
theorem dX0_result_14 : decode cX0_result 14 = .ok (.aload_n 0, 1) := dk_42 (dk_at dksX0_result_0 14 rfl rfl)
theorem dX0_result_15 : decode cX0_result 15 = .ok (.aload_n 2, 1) := dk_44 (dk_at dksX0_result_0 15 rfl rfl)
theorem dX0_result_16 : decode cX0_result 16 = .ok (.invokevirtual 336, 3) := dk_182 1 80 (dk_at dksX0_result_0 16 rfl rfl)
theorem dX0_result_19 : decode cX0_result 19 = .ok (.ireturn, 1) := dk_172 (dk_at dksX0_result_0 19 rfl rfl)
abbrev cX0_home : ByteArray := prog_1_method_28_code
def yX0_home : MethodName := ⟨RX0, "home", "(I)LSledHouse$Team;"⟩
def dkwX0_home_1 : List UInt8 := [42, 180, 0, 104, 180, 0, 236, 27, 50, 167, 0, 4, 1, 176]
abbrev dktX0_home_1 : List UInt8 := dkwX0_home_1 ++ []
def dkwX0_home_0 : List UInt8 := [42, 27, 182, 0, 244, 153, 0, 31, 42, 180, 0, 104, 180, 0, 236, 27, 50, 180, 0, 247, 5, 160, 0, 15]
abbrev dktX0_home_0 : List UInt8 := dkwX0_home_0 ++ dktX0_home_1
theorem dksX0_home_0 : cX0_home.data.toList.drop 0 = dktX0_home_0 := by decide +kernel
theorem dksX0_home_1 : cX0_home.data.toList.drop 24 = dktX0_home_1 := dk_seg dksX0_home_0 24 rfl rfl
theorem dX0_home_0 : decode cX0_home 0 = .ok (.aload_n 0, 1) := dk_42 (dk_at dksX0_home_0 0 rfl rfl)
theorem dX0_home_1 : decode cX0_home 1 = .ok (.iload_n 1, 1) := dk_27 (dk_at dksX0_home_0 1 rfl rfl)
theorem dX0_home_2 : decode cX0_home 2 = .ok (.invokevirtual 244, 3) := dk_182 0 244 (dk_at dksX0_home_0 2 rfl rfl)
theorem dX0_home_5 : decode cX0_home 5 = .ok (.ifCond .eq 31, 3) := dk_153 0 31 (dk_at dksX0_home_0 5 rfl rfl)
theorem dX0_home_8 : decode cX0_home 8 = .ok (.aload_n 0, 1) := dk_42 (dk_at dksX0_home_0 8 rfl rfl)
theorem dX0_home_9 : decode cX0_home 9 = .ok (.getfield 104, 3) := dk_180 0 104 (dk_at dksX0_home_0 9 rfl rfl)
theorem dX0_home_12 : decode cX0_home 12 = .ok (.getfield 236, 3) := dk_180 0 236 (dk_at dksX0_home_0 12 rfl rfl)
theorem dX0_home_15 : decode cX0_home 15 = .ok (.iload_n 1, 1) := dk_27 (dk_at dksX0_home_0 15 rfl rfl)
theorem dX0_home_16 : decode cX0_home 16 = .ok (.aaload, 1) := dk_50 (dk_at dksX0_home_0 16 rfl rfl)
theorem dX0_home_17 : decode cX0_home 17 = .ok (.getfield 247, 3) := dk_180 0 247 (dk_at dksX0_home_0 17 rfl rfl)
theorem dX0_home_20 : decode cX0_home 20 = .ok (.iconst 2, 1) := dk_5 (dk_at dksX0_home_0 20 rfl rfl)
theorem dX0_home_21 : decode cX0_home 21 = .ok (.if_icmp .ne 15, 3) := dk_160 0 15 (dk_at dksX0_home_0 21 rfl rfl)
theorem dX0_home_24 : decode cX0_home 24 = .ok (.aload_n 0, 1) := dk_42 (dk_at dksX0_home_1 0 rfl rfl)
theorem dX0_home_25 : decode cX0_home 25 = .ok (.getfield 104, 3) := dk_180 0 104 (dk_at dksX0_home_1 1 rfl rfl)
theorem dX0_home_28 : decode cX0_home 28 = .ok (.getfield 236, 3) := dk_180 0 236 (dk_at dksX0_home_1 4 rfl rfl)
theorem dX0_home_31 : decode cX0_home 31 = .ok (.iload_n 1, 1) := dk_27 (dk_at dksX0_home_1 7 rfl rfl)
theorem dX0_home_32 : decode cX0_home 32 = .ok (.aaload, 1) := dk_50 (dk_at dksX0_home_1 8 rfl rfl)
theorem dX0_home_33 : decode cX0_home 33 = .ok (.goto 4, 3) := dk_167 0 4 (dk_at dksX0_home_1 9 rfl rfl)
theorem dX0_home_36 : decode cX0_home 36 = .ok (.aconst_null, 1) := dk_1 (dk_at dksX0_home_1 12 rfl rfl)
theorem dX0_home_37 : decode cX0_home 37 = .ok (.areturn, 1) := dk_176 (dk_at dksX0_home_1 13 rfl rfl)
abbrev cX0_resultOf : ByteArray := prog_1_method_29_code
def yX0_resultOf : MethodName := ⟨RX0, "resultOf", "(LSledHouse$Team;)I"⟩
def dkwX0_resultOf_5 : List UInt8 := [21, 4, 28, 104, 96, 21, 5, 29, 104, 96, 172]
abbrev dktX0_resultOf_5 : List UInt8 := dkwX0_resultOf_5 ++ []
def dkwX0_resultOf_4 : List UInt8 := [132, 6, 1, 167, 255, 175, 43, 180, 1, 62, 42, 180, 0, 104, 180, 0, 173, 46, 43, 180, 1, 43, 100]
abbrev dktX0_resultOf_4 : List UInt8 := dkwX0_resultOf_4 ++ dktX0_resultOf_5
def dkwX0_resultOf_3 : List UInt8 := [154, 0, 6, 167, 0, 19, 25, 7, 3, 182, 1, 74, 54, 4, 25, 7, 4, 182, 1, 74, 54, 5]
abbrev dktX0_resultOf_3 : List UInt8 := dkwX0_resultOf_3 ++ dktX0_resultOf_4
def dkwX0_resultOf_2 : List UInt8 := [182, 1, 71, 153, 0, 11, 28, 21, 8, 96, 61, 167, 0, 8, 29, 21, 8, 96, 62, 25, 7, 193, 0, 82]
abbrev dktX0_resultOf_2 : List UInt8 := dkwX0_resultOf_2 ++ dktX0_resultOf_3
def dkwX0_resultOf_1 : List UInt8 := [180, 0, 126, 21, 6, 50, 58, 7, 25, 7, 43, 42, 180, 0, 104, 182, 1, 67, 54, 8, 25, 7]
abbrev dktX0_resultOf_1 : List UInt8 := dkwX0_resultOf_1 ++ dktX0_resultOf_2
def dkwX0_resultOf_0 : List UInt8 := [3, 61, 3, 62, 5, 54, 4, 16, 60, 54, 5, 3, 54, 6, 21, 6, 42, 180, 0, 216, 162, 0, 78, 42]
abbrev dktX0_resultOf_0 : List UInt8 := dkwX0_resultOf_0 ++ dktX0_resultOf_1
theorem dksX0_resultOf_0 : cX0_resultOf.data.toList.drop 0 = dktX0_resultOf_0 := by decide +kernel
theorem dksX0_resultOf_1 : cX0_resultOf.data.toList.drop 24 = dktX0_resultOf_1 := dk_seg dksX0_resultOf_0 24 rfl rfl
theorem dksX0_resultOf_2 : cX0_resultOf.data.toList.drop 46 = dktX0_resultOf_2 := dk_seg dksX0_resultOf_1 22 rfl rfl
theorem dksX0_resultOf_3 : cX0_resultOf.data.toList.drop 70 = dktX0_resultOf_3 := dk_seg dksX0_resultOf_2 24 rfl rfl
theorem dksX0_resultOf_4 : cX0_resultOf.data.toList.drop 92 = dktX0_resultOf_4 := dk_seg dksX0_resultOf_3 22 rfl rfl
theorem dksX0_resultOf_5 : cX0_resultOf.data.toList.drop 115 = dktX0_resultOf_5 := dk_seg dksX0_resultOf_4 23 rfl rfl
theorem dX0_resultOf_0 : decode cX0_resultOf 0 = .ok (.iconst 0, 1) := dk_3 (dk_at dksX0_resultOf_0 0 rfl rfl)
theorem dX0_resultOf_1 : decode cX0_resultOf 1 = .ok (.istore_n 2, 1) := dk_61 (dk_at dksX0_resultOf_0 1 rfl rfl)
theorem dX0_resultOf_2 : decode cX0_resultOf 2 = .ok (.iconst 0, 1) := dk_3 (dk_at dksX0_resultOf_0 2 rfl rfl)
theorem dX0_resultOf_3 : decode cX0_resultOf 3 = .ok (.istore_n 3, 1) := dk_62 (dk_at dksX0_resultOf_0 3 rfl rfl)
theorem dX0_resultOf_4 : decode cX0_resultOf 4 = .ok (.iconst 2, 1) := dk_5 (dk_at dksX0_resultOf_0 4 rfl rfl)
theorem dX0_resultOf_5 : decode cX0_resultOf 5 = .ok (.istore 4, 2) := dk_54 4 (dk_at dksX0_resultOf_0 5 rfl rfl)
theorem dX0_resultOf_7 : decode cX0_resultOf 7 = .ok (.bipush 60, 2) := dk_16 60 (dk_at dksX0_resultOf_0 7 rfl rfl)
theorem dX0_resultOf_9 : decode cX0_resultOf 9 = .ok (.istore 5, 2) := dk_54 5 (dk_at dksX0_resultOf_0 9 rfl rfl)
theorem dX0_resultOf_11 : decode cX0_resultOf 11 = .ok (.iconst 0, 1) := dk_3 (dk_at dksX0_resultOf_0 11 rfl rfl)
theorem dX0_resultOf_12 : decode cX0_resultOf 12 = .ok (.istore 6, 2) := dk_54 6 (dk_at dksX0_resultOf_0 12 rfl rfl)
theorem dX0_resultOf_14 : decode cX0_resultOf 14 = .ok (.iload 6, 2) := dk_21 6 (dk_at dksX0_resultOf_0 14 rfl rfl)
theorem dX0_resultOf_16 : decode cX0_resultOf 16 = .ok (.aload_n 0, 1) := dk_42 (dk_at dksX0_resultOf_0 16 rfl rfl)
theorem dX0_resultOf_17 : decode cX0_resultOf 17 = .ok (.getfield 216, 3) := dk_180 0 216 (dk_at dksX0_resultOf_0 17 rfl rfl)
theorem dX0_resultOf_20 : decode cX0_resultOf 20 = .ok (.if_icmp .ge 78, 3) := dk_162 0 78 (dk_at dksX0_resultOf_0 20 rfl rfl)
theorem dX0_resultOf_23 : decode cX0_resultOf 23 = .ok (.aload_n 0, 1) := dk_42 (dk_at dksX0_resultOf_0 23 rfl rfl)
theorem dX0_resultOf_24 : decode cX0_resultOf 24 = .ok (.getfield 126, 3) := dk_180 0 126 (dk_at dksX0_resultOf_1 0 rfl rfl)
theorem dX0_resultOf_27 : decode cX0_resultOf 27 = .ok (.iload 6, 2) := dk_21 6 (dk_at dksX0_resultOf_1 3 rfl rfl)
theorem dX0_resultOf_29 : decode cX0_resultOf 29 = .ok (.aaload, 1) := dk_50 (dk_at dksX0_resultOf_1 5 rfl rfl)
theorem dX0_resultOf_30 : decode cX0_resultOf 30 = .ok (.astore 7, 2) := dk_58 7 (dk_at dksX0_resultOf_1 6 rfl rfl)
theorem dX0_resultOf_32 : decode cX0_resultOf 32 = .ok (.aload 7, 2) := dk_25 7 (dk_at dksX0_resultOf_1 8 rfl rfl)
theorem dX0_resultOf_34 : decode cX0_resultOf 34 = .ok (.aload_n 1, 1) := dk_43 (dk_at dksX0_resultOf_1 10 rfl rfl)
theorem dX0_resultOf_35 : decode cX0_resultOf 35 = .ok (.aload_n 0, 1) := dk_42 (dk_at dksX0_resultOf_1 11 rfl rfl)
theorem dX0_resultOf_36 : decode cX0_resultOf 36 = .ok (.getfield 104, 3) := dk_180 0 104 (dk_at dksX0_resultOf_1 12 rfl rfl)
theorem dX0_resultOf_39 : decode cX0_resultOf 39 = .ok (.invokevirtual 323, 3) := dk_182 1 67 (dk_at dksX0_resultOf_1 15 rfl rfl)
theorem dX0_resultOf_42 : decode cX0_resultOf 42 = .ok (.istore 8, 2) := dk_54 8 (dk_at dksX0_resultOf_1 18 rfl rfl)
theorem dX0_resultOf_44 : decode cX0_resultOf 44 = .ok (.aload 7, 2) := dk_25 7 (dk_at dksX0_resultOf_1 20 rfl rfl)
theorem dX0_resultOf_46 : decode cX0_resultOf 46 = .ok (.invokevirtual 327, 3) := dk_182 1 71 (dk_at dksX0_resultOf_2 0 rfl rfl)
theorem dX0_resultOf_49 : decode cX0_resultOf 49 = .ok (.ifCond .eq 11, 3) := dk_153 0 11 (dk_at dksX0_resultOf_2 3 rfl rfl)
theorem dX0_resultOf_52 : decode cX0_resultOf 52 = .ok (.iload_n 2, 1) := dk_28 (dk_at dksX0_resultOf_2 6 rfl rfl)
theorem dX0_resultOf_53 : decode cX0_resultOf 53 = .ok (.iload 8, 2) := dk_21 8 (dk_at dksX0_resultOf_2 7 rfl rfl)
theorem dX0_resultOf_55 : decode cX0_resultOf 55 = .ok (.iadd, 1) := dk_96 (dk_at dksX0_resultOf_2 9 rfl rfl)
theorem dX0_resultOf_56 : decode cX0_resultOf 56 = .ok (.istore_n 2, 1) := dk_61 (dk_at dksX0_resultOf_2 10 rfl rfl)
theorem dX0_resultOf_57 : decode cX0_resultOf 57 = .ok (.goto 8, 3) := dk_167 0 8 (dk_at dksX0_resultOf_2 11 rfl rfl)
theorem dX0_resultOf_60 : decode cX0_resultOf 60 = .ok (.iload_n 3, 1) := dk_29 (dk_at dksX0_resultOf_2 14 rfl rfl)
theorem dX0_resultOf_61 : decode cX0_resultOf 61 = .ok (.iload 8, 2) := dk_21 8 (dk_at dksX0_resultOf_2 15 rfl rfl)
theorem dX0_resultOf_63 : decode cX0_resultOf 63 = .ok (.iadd, 1) := dk_96 (dk_at dksX0_resultOf_2 17 rfl rfl)
theorem dX0_resultOf_64 : decode cX0_resultOf 64 = .ok (.istore_n 3, 1) := dk_62 (dk_at dksX0_resultOf_2 18 rfl rfl)
theorem dX0_resultOf_65 : decode cX0_resultOf 65 = .ok (.aload 7, 2) := dk_25 7 (dk_at dksX0_resultOf_2 19 rfl rfl)
theorem dX0_resultOf_67 : decode cX0_resultOf 67 = .ok (.instanceof 82, 3) := dk_193 0 82 (dk_at dksX0_resultOf_2 21 rfl rfl)
theorem dX0_resultOf_70 : decode cX0_resultOf 70 = .ok (.ifCond .ne 6, 3) := dk_154 0 6 (dk_at dksX0_resultOf_3 0 rfl rfl)
theorem dX0_resultOf_73 : decode cX0_resultOf 73 = .ok (.goto 19, 3) := dk_167 0 19 (dk_at dksX0_resultOf_3 3 rfl rfl)
theorem dX0_resultOf_76 : decode cX0_resultOf 76 = .ok (.aload 7, 2) := dk_25 7 (dk_at dksX0_resultOf_3 6 rfl rfl)
theorem dX0_resultOf_78 : decode cX0_resultOf 78 = .ok (.iconst 0, 1) := dk_3 (dk_at dksX0_resultOf_3 8 rfl rfl)
theorem dX0_resultOf_79 : decode cX0_resultOf 79 = .ok (.invokevirtual 330, 3) := dk_182 1 74 (dk_at dksX0_resultOf_3 9 rfl rfl)
theorem dX0_resultOf_82 : decode cX0_resultOf 82 = .ok (.istore 4, 2) := dk_54 4 (dk_at dksX0_resultOf_3 12 rfl rfl)
theorem dX0_resultOf_84 : decode cX0_resultOf 84 = .ok (.aload 7, 2) := dk_25 7 (dk_at dksX0_resultOf_3 14 rfl rfl)
theorem dX0_resultOf_86 : decode cX0_resultOf 86 = .ok (.iconst 1, 1) := dk_4 (dk_at dksX0_resultOf_3 16 rfl rfl)
theorem dX0_resultOf_87 : decode cX0_resultOf 87 = .ok (.invokevirtual 330, 3) := dk_182 1 74 (dk_at dksX0_resultOf_3 17 rfl rfl)
theorem dX0_resultOf_90 : decode cX0_resultOf 90 = .ok (.istore 5, 2) := dk_54 5 (dk_at dksX0_resultOf_3 20 rfl rfl)
theorem dX0_resultOf_92 : decode cX0_resultOf 92 = .ok (.iinc 6 1, 3) := dk_132 6 1 (dk_at dksX0_resultOf_4 0 rfl rfl)
theorem dX0_resultOf_95 : decode cX0_resultOf 95 = .ok (.goto (-81), 3) := dk_167 255 175 (dk_at dksX0_resultOf_4 3 rfl rfl)
theorem dX0_resultOf_98 : decode cX0_resultOf 98 = .ok (.aload_n 1, 1) := dk_43 (dk_at dksX0_resultOf_4 6 rfl rfl)
theorem dX0_resultOf_99 : decode cX0_resultOf 99 = .ok (.getfield 318, 3) := dk_180 1 62 (dk_at dksX0_resultOf_4 7 rfl rfl)
theorem dX0_resultOf_102 : decode cX0_resultOf 102 = .ok (.aload_n 0, 1) := dk_42 (dk_at dksX0_resultOf_4 10 rfl rfl)
theorem dX0_resultOf_103 : decode cX0_resultOf 103 = .ok (.getfield 104, 3) := dk_180 0 104 (dk_at dksX0_resultOf_4 11 rfl rfl)
theorem dX0_resultOf_106 : decode cX0_resultOf 106 = .ok (.getfield 173, 3) := dk_180 0 173 (dk_at dksX0_resultOf_4 14 rfl rfl)
theorem dX0_resultOf_109 : decode cX0_resultOf 109 = .ok (.iaload, 1) := dk_46 (dk_at dksX0_resultOf_4 17 rfl rfl)
theorem dX0_resultOf_110 : decode cX0_resultOf 110 = .ok (.aload_n 1, 1) := dk_43 (dk_at dksX0_resultOf_4 18 rfl rfl)
theorem dX0_resultOf_111 : decode cX0_resultOf 111 = .ok (.getfield 299, 3) := dk_180 1 43 (dk_at dksX0_resultOf_4 19 rfl rfl)
theorem dX0_resultOf_114 : decode cX0_resultOf 114 = .ok (.isub, 1) := dk_100 (dk_at dksX0_resultOf_4 22 rfl rfl)
theorem dX0_resultOf_115 : decode cX0_resultOf 115 = .ok (.iload 4, 2) := dk_21 4 (dk_at dksX0_resultOf_5 0 rfl rfl)
theorem dX0_resultOf_117 : decode cX0_resultOf 117 = .ok (.iload_n 2, 1) := dk_28 (dk_at dksX0_resultOf_5 2 rfl rfl)
theorem dX0_resultOf_118 : decode cX0_resultOf 118 = .ok (.imul, 1) := dk_104 (dk_at dksX0_resultOf_5 3 rfl rfl)
theorem dX0_resultOf_119 : decode cX0_resultOf 119 = .ok (.iadd, 1) := dk_96 (dk_at dksX0_resultOf_5 4 rfl rfl)
theorem dX0_resultOf_120 : decode cX0_resultOf 120 = .ok (.iload 5, 2) := dk_21 5 (dk_at dksX0_resultOf_5 5 rfl rfl)
theorem dX0_resultOf_122 : decode cX0_resultOf 122 = .ok (.iload_n 3, 1) := dk_29 (dk_at dksX0_resultOf_5 7 rfl rfl)
theorem dX0_resultOf_123 : decode cX0_resultOf 123 = .ok (.imul, 1) := dk_104 (dk_at dksX0_resultOf_5 8 rfl rfl)
theorem dX0_resultOf_124 : decode cX0_resultOf 124 = .ok (.iadd, 1) := dk_96 (dk_at dksX0_resultOf_5 9 rfl rfl)
theorem dX0_resultOf_125 : decode cX0_resultOf 125 = .ok (.ireturn, 1) := dk_172 (dk_at dksX0_resultOf_5 10 rfl rfl)
abbrev cX0_lacks : ByteArray := prog_1_method_31_code
def yX0_lacks : MethodName := ⟨RX0, "lacks", "(II)I"⟩
def dkwX0_lacks_1 : List UInt8 := [2, 167, 0, 17, 42, 180, 0, 126, 28, 50, 45, 42, 180, 0, 104, 182, 1, 67, 172]
abbrev dktX0_lacks_1 : List UInt8 := dkwX0_lacks_1 ++ []
def dkwX0_lacks_0 : List UInt8 := [42, 27, 182, 1, 76, 78, 45, 198, 0, 17, 28, 3, 42, 180, 0, 216, 4, 100, 184, 0, 160, 154, 0, 7]
abbrev dktX0_lacks_0 : List UInt8 := dkwX0_lacks_0 ++ dktX0_lacks_1
theorem dksX0_lacks_0 : cX0_lacks.data.toList.drop 0 = dktX0_lacks_0 := by decide +kernel
theorem dksX0_lacks_1 : cX0_lacks.data.toList.drop 24 = dktX0_lacks_1 := dk_seg dksX0_lacks_0 24 rfl rfl
theorem dX0_lacks_0 : decode cX0_lacks 0 = .ok (.aload_n 0, 1) := dk_42 (dk_at dksX0_lacks_0 0 rfl rfl)
theorem dX0_lacks_1 : decode cX0_lacks 1 = .ok (.iload_n 1, 1) := dk_27 (dk_at dksX0_lacks_0 1 rfl rfl)
theorem dX0_lacks_2 : decode cX0_lacks 2 = .ok (.invokevirtual 332, 3) := dk_182 1 76 (dk_at dksX0_lacks_0 2 rfl rfl)
theorem dX0_lacks_5 : decode cX0_lacks 5 = .ok (.astore_n 3, 1) := dk_78 (dk_at dksX0_lacks_0 5 rfl rfl)
theorem dX0_lacks_6 : decode cX0_lacks 6 = .ok (.aload_n 3, 1) := dk_45 (dk_at dksX0_lacks_0 6 rfl rfl)
theorem dX0_lacks_7 : decode cX0_lacks 7 = .ok (.ifnull 17, 3) := dk_198 0 17 (dk_at dksX0_lacks_0 7 rfl rfl)
theorem dX0_lacks_10 : decode cX0_lacks 10 = .ok (.iload_n 2, 1) := dk_28 (dk_at dksX0_lacks_0 10 rfl rfl)
theorem dX0_lacks_11 : decode cX0_lacks 11 = .ok (.iconst 0, 1) := dk_3 (dk_at dksX0_lacks_0 11 rfl rfl)
theorem dX0_lacks_12 : decode cX0_lacks 12 = .ok (.aload_n 0, 1) := dk_42 (dk_at dksX0_lacks_0 12 rfl rfl)
theorem dX0_lacks_13 : decode cX0_lacks 13 = .ok (.getfield 216, 3) := dk_180 0 216 (dk_at dksX0_lacks_0 13 rfl rfl)
theorem dX0_lacks_16 : decode cX0_lacks 16 = .ok (.iconst 1, 1) := dk_4 (dk_at dksX0_lacks_0 16 rfl rfl)
theorem dX0_lacks_17 : decode cX0_lacks 17 = .ok (.isub, 1) := dk_100 (dk_at dksX0_lacks_0 17 rfl rfl)
theorem dX0_lacks_18 : decode cX0_lacks 18 = .ok (.invokestatic 160, 3) := dk_184 0 160 (dk_at dksX0_lacks_0 18 rfl rfl)
theorem dX0_lacks_21 : decode cX0_lacks 21 = .ok (.ifCond .ne 7, 3) := dk_154 0 7 (dk_at dksX0_lacks_0 21 rfl rfl)
theorem dX0_lacks_24 : decode cX0_lacks 24 = .ok (.iconst (-1), 1) := dk_2 (dk_at dksX0_lacks_1 0 rfl rfl)
theorem dX0_lacks_25 : decode cX0_lacks 25 = .ok (.goto 17, 3) := dk_167 0 17 (dk_at dksX0_lacks_1 1 rfl rfl)
theorem dX0_lacks_28 : decode cX0_lacks 28 = .ok (.aload_n 0, 1) := dk_42 (dk_at dksX0_lacks_1 4 rfl rfl)
theorem dX0_lacks_29 : decode cX0_lacks 29 = .ok (.getfield 126, 3) := dk_180 0 126 (dk_at dksX0_lacks_1 5 rfl rfl)
theorem dX0_lacks_32 : decode cX0_lacks 32 = .ok (.iload_n 2, 1) := dk_28 (dk_at dksX0_lacks_1 8 rfl rfl)
theorem dX0_lacks_33 : decode cX0_lacks 33 = .ok (.aaload, 1) := dk_50 (dk_at dksX0_lacks_1 9 rfl rfl)
theorem dX0_lacks_34 : decode cX0_lacks 34 = .ok (.aload_n 3, 1) := dk_45 (dk_at dksX0_lacks_1 10 rfl rfl)
theorem dX0_lacks_35 : decode cX0_lacks 35 = .ok (.aload_n 0, 1) := dk_42 (dk_at dksX0_lacks_1 11 rfl rfl)
theorem dX0_lacks_36 : decode cX0_lacks 36 = .ok (.getfield 104, 3) := dk_180 0 104 (dk_at dksX0_lacks_1 12 rfl rfl)
theorem dX0_lacks_39 : decode cX0_lacks 39 = .ok (.invokevirtual 323, 3) := dk_182 1 67 (dk_at dksX0_lacks_1 15 rfl rfl)
theorem dX0_lacks_42 : decode cX0_lacks 42 = .ok (.ireturn, 1) := dk_172 (dk_at dksX0_lacks_1 18 rfl rfl)
abbrev cX0_place : ByteArray := prog_1_method_33_code
def yX0_place : MethodName := ⟨RX0, "place", "(I)I"⟩
def dkwX0_place_4 : List UInt8 := [21, 4, 29, 79, 132, 3, 1, 167, 255, 183, 44, 27, 46, 172]
abbrev dktX0_place_4 : List UInt8 := dkwX0_place_4 ++ []
def dkwX0_place_3 : List UInt8 := [182, 1, 84, 154, 0, 19, 44, 21, 4, 44, 21, 4, 4, 100, 46, 79, 132, 4, 255, 167, 255, 208, 44]
abbrev dktX0_place_3 : List UInt8 := dkwX0_place_3 ++ dktX0_place_4
def dkwX0_place_2 : List UInt8 := [180, 0, 104, 180, 0, 236, 44, 21, 4, 4, 100, 46, 50, 42, 180, 0, 104, 180, 0, 236, 29, 50]
abbrev dktX0_place_2 : List UInt8 := dkwX0_place_2 ++ dktX0_place_3
def dkwX0_place_1 : List UInt8 := [3, 62, 29, 42, 180, 0, 104, 180, 0, 157, 162, 0, 68, 29, 54, 4, 21, 4, 158, 0, 49, 42, 42]
abbrev dktX0_place_1 : List UInt8 := dkwX0_place_1 ++ dktX0_place_2
def dkwX0_place_0 : List UInt8 := [27, 3, 42, 180, 0, 104, 180, 0, 157, 4, 100, 184, 0, 160, 154, 0, 5, 2, 172, 16, 6, 188, 10, 77]
abbrev dktX0_place_0 : List UInt8 := dkwX0_place_0 ++ dktX0_place_1
theorem dksX0_place_0 : cX0_place.data.toList.drop 0 = dktX0_place_0 := by decide +kernel
theorem dksX0_place_1 : cX0_place.data.toList.drop 24 = dktX0_place_1 := dk_seg dksX0_place_0 24 rfl rfl
theorem dksX0_place_2 : cX0_place.data.toList.drop 47 = dktX0_place_2 := dk_seg dksX0_place_1 23 rfl rfl
theorem dksX0_place_3 : cX0_place.data.toList.drop 69 = dktX0_place_3 := dk_seg dksX0_place_2 22 rfl rfl
theorem dksX0_place_4 : cX0_place.data.toList.drop 92 = dktX0_place_4 := dk_seg dksX0_place_3 23 rfl rfl
theorem dX0_place_0 : decode cX0_place 0 = .ok (.iload_n 1, 1) := dk_27 (dk_at dksX0_place_0 0 rfl rfl)
theorem dX0_place_1 : decode cX0_place 1 = .ok (.iconst 0, 1) := dk_3 (dk_at dksX0_place_0 1 rfl rfl)
theorem dX0_place_2 : decode cX0_place 2 = .ok (.aload_n 0, 1) := dk_42 (dk_at dksX0_place_0 2 rfl rfl)
theorem dX0_place_3 : decode cX0_place 3 = .ok (.getfield 104, 3) := dk_180 0 104 (dk_at dksX0_place_0 3 rfl rfl)
theorem dX0_place_6 : decode cX0_place 6 = .ok (.getfield 157, 3) := dk_180 0 157 (dk_at dksX0_place_0 6 rfl rfl)
theorem dX0_place_9 : decode cX0_place 9 = .ok (.iconst 1, 1) := dk_4 (dk_at dksX0_place_0 9 rfl rfl)
theorem dX0_place_10 : decode cX0_place 10 = .ok (.isub, 1) := dk_100 (dk_at dksX0_place_0 10 rfl rfl)
theorem dX0_place_11 : decode cX0_place 11 = .ok (.invokestatic 160, 3) := dk_184 0 160 (dk_at dksX0_place_0 11 rfl rfl)
theorem dX0_place_14 : decode cX0_place 14 = .ok (.ifCond .ne 5, 3) := dk_154 0 5 (dk_at dksX0_place_0 14 rfl rfl)
theorem dX0_place_17 : decode cX0_place 17 = .ok (.iconst (-1), 1) := dk_2 (dk_at dksX0_place_0 17 rfl rfl)
theorem dX0_place_18 : decode cX0_place 18 = .ok (.ireturn, 1) := dk_172 (dk_at dksX0_place_0 18 rfl rfl)
theorem dX0_place_19 : decode cX0_place 19 = .ok (.bipush 6, 2) := dk_16 6 (dk_at dksX0_place_0 19 rfl rfl)
theorem dX0_place_21 : decode cX0_place 21 = .ok (.newarray .int, 2) := dk_188_10 (dk_at dksX0_place_0 21 rfl rfl)
theorem dX0_place_23 : decode cX0_place 23 = .ok (.astore_n 2, 1) := dk_77 (dk_at dksX0_place_0 23 rfl rfl)
theorem dX0_place_24 : decode cX0_place 24 = .ok (.iconst 0, 1) := dk_3 (dk_at dksX0_place_1 0 rfl rfl)
theorem dX0_place_25 : decode cX0_place 25 = .ok (.istore_n 3, 1) := dk_62 (dk_at dksX0_place_1 1 rfl rfl)
theorem dX0_place_26 : decode cX0_place 26 = .ok (.iload_n 3, 1) := dk_29 (dk_at dksX0_place_1 2 rfl rfl)
theorem dX0_place_27 : decode cX0_place 27 = .ok (.aload_n 0, 1) := dk_42 (dk_at dksX0_place_1 3 rfl rfl)
theorem dX0_place_28 : decode cX0_place 28 = .ok (.getfield 104, 3) := dk_180 0 104 (dk_at dksX0_place_1 4 rfl rfl)
theorem dX0_place_31 : decode cX0_place 31 = .ok (.getfield 157, 3) := dk_180 0 157 (dk_at dksX0_place_1 7 rfl rfl)
theorem dX0_place_34 : decode cX0_place 34 = .ok (.if_icmp .ge 68, 3) := dk_162 0 68 (dk_at dksX0_place_1 10 rfl rfl)
theorem dX0_place_37 : decode cX0_place 37 = .ok (.iload_n 3, 1) := dk_29 (dk_at dksX0_place_1 13 rfl rfl)
theorem dX0_place_38 : decode cX0_place 38 = .ok (.istore 4, 2) := dk_54 4 (dk_at dksX0_place_1 14 rfl rfl)
theorem dX0_place_40 : decode cX0_place 40 = .ok (.iload 4, 2) := dk_21 4 (dk_at dksX0_place_1 16 rfl rfl)
theorem dX0_place_42 : decode cX0_place 42 = .ok (.ifCond .le 49, 3) := dk_158 0 49 (dk_at dksX0_place_1 18 rfl rfl)
theorem dX0_place_45 : decode cX0_place 45 = .ok (.aload_n 0, 1) := dk_42 (dk_at dksX0_place_1 21 rfl rfl)
theorem dX0_place_46 : decode cX0_place 46 = .ok (.aload_n 0, 1) := dk_42 (dk_at dksX0_place_1 22 rfl rfl)
theorem dX0_place_47 : decode cX0_place 47 = .ok (.getfield 104, 3) := dk_180 0 104 (dk_at dksX0_place_2 0 rfl rfl)
theorem dX0_place_50 : decode cX0_place 50 = .ok (.getfield 236, 3) := dk_180 0 236 (dk_at dksX0_place_2 3 rfl rfl)
theorem dX0_place_53 : decode cX0_place 53 = .ok (.aload_n 2, 1) := dk_44 (dk_at dksX0_place_2 6 rfl rfl)
theorem dX0_place_54 : decode cX0_place 54 = .ok (.iload 4, 2) := dk_21 4 (dk_at dksX0_place_2 7 rfl rfl)
theorem dX0_place_56 : decode cX0_place 56 = .ok (.iconst 1, 1) := dk_4 (dk_at dksX0_place_2 9 rfl rfl)
theorem dX0_place_57 : decode cX0_place 57 = .ok (.isub, 1) := dk_100 (dk_at dksX0_place_2 10 rfl rfl)
theorem dX0_place_58 : decode cX0_place 58 = .ok (.iaload, 1) := dk_46 (dk_at dksX0_place_2 11 rfl rfl)
theorem dX0_place_59 : decode cX0_place 59 = .ok (.aaload, 1) := dk_50 (dk_at dksX0_place_2 12 rfl rfl)
theorem dX0_place_60 : decode cX0_place 60 = .ok (.aload_n 0, 1) := dk_42 (dk_at dksX0_place_2 13 rfl rfl)
theorem dX0_place_61 : decode cX0_place 61 = .ok (.getfield 104, 3) := dk_180 0 104 (dk_at dksX0_place_2 14 rfl rfl)
theorem dX0_place_64 : decode cX0_place 64 = .ok (.getfield 236, 3) := dk_180 0 236 (dk_at dksX0_place_2 17 rfl rfl)
theorem dX0_place_67 : decode cX0_place 67 = .ok (.iload_n 3, 1) := dk_29 (dk_at dksX0_place_2 20 rfl rfl)
theorem dX0_place_68 : decode cX0_place 68 = .ok (.aaload, 1) := dk_50 (dk_at dksX0_place_2 21 rfl rfl)
theorem dX0_place_69 : decode cX0_place 69 = .ok (.invokevirtual 340, 3) := dk_182 1 84 (dk_at dksX0_place_3 0 rfl rfl)
theorem dX0_place_72 : decode cX0_place 72 = .ok (.ifCond .ne 19, 3) := dk_154 0 19 (dk_at dksX0_place_3 3 rfl rfl)
theorem dX0_place_75 : decode cX0_place 75 = .ok (.aload_n 2, 1) := dk_44 (dk_at dksX0_place_3 6 rfl rfl)
theorem dX0_place_76 : decode cX0_place 76 = .ok (.iload 4, 2) := dk_21 4 (dk_at dksX0_place_3 7 rfl rfl)
theorem dX0_place_78 : decode cX0_place 78 = .ok (.aload_n 2, 1) := dk_44 (dk_at dksX0_place_3 9 rfl rfl)
theorem dX0_place_79 : decode cX0_place 79 = .ok (.iload 4, 2) := dk_21 4 (dk_at dksX0_place_3 10 rfl rfl)
theorem dX0_place_81 : decode cX0_place 81 = .ok (.iconst 1, 1) := dk_4 (dk_at dksX0_place_3 12 rfl rfl)
theorem dX0_place_82 : decode cX0_place 82 = .ok (.isub, 1) := dk_100 (dk_at dksX0_place_3 13 rfl rfl)
theorem dX0_place_83 : decode cX0_place 83 = .ok (.iaload, 1) := dk_46 (dk_at dksX0_place_3 14 rfl rfl)
theorem dX0_place_84 : decode cX0_place 84 = .ok (.iastore, 1) := dk_79 (dk_at dksX0_place_3 15 rfl rfl)
theorem dX0_place_85 : decode cX0_place 85 = .ok (.iinc 4 (-1), 3) := dk_132 4 255 (dk_at dksX0_place_3 16 rfl rfl)
theorem dX0_place_88 : decode cX0_place 88 = .ok (.goto (-48), 3) := dk_167 255 208 (dk_at dksX0_place_3 19 rfl rfl)
theorem dX0_place_91 : decode cX0_place 91 = .ok (.aload_n 2, 1) := dk_44 (dk_at dksX0_place_3 22 rfl rfl)
theorem dX0_place_92 : decode cX0_place 92 = .ok (.iload 4, 2) := dk_21 4 (dk_at dksX0_place_4 0 rfl rfl)
theorem dX0_place_94 : decode cX0_place 94 = .ok (.iload_n 3, 1) := dk_29 (dk_at dksX0_place_4 2 rfl rfl)
theorem dX0_place_95 : decode cX0_place 95 = .ok (.iastore, 1) := dk_79 (dk_at dksX0_place_4 3 rfl rfl)
theorem dX0_place_96 : decode cX0_place 96 = .ok (.iinc 3 1, 3) := dk_132 3 1 (dk_at dksX0_place_4 4 rfl rfl)
theorem dX0_place_99 : decode cX0_place 99 = .ok (.goto (-73), 3) := dk_167 255 183 (dk_at dksX0_place_4 7 rfl rfl)
theorem dX0_place_102 : decode cX0_place 102 = .ok (.aload_n 2, 1) := dk_44 (dk_at dksX0_place_4 10 rfl rfl)
theorem dX0_place_103 : decode cX0_place 103 = .ok (.iload_n 1, 1) := dk_27 (dk_at dksX0_place_4 11 rfl rfl)
theorem dX0_place_104 : decode cX0_place 104 = .ok (.iaload, 1) := dk_46 (dk_at dksX0_place_4 12 rfl rfl)
theorem dX0_place_105 : decode cX0_place 105 = .ok (.ireturn, 1) := dk_172 (dk_at dksX0_place_4 13 rfl rfl)
abbrev cX0_isAhead : ByteArray := prog_1_method_32_code
def yX0_isAhead : MethodName := ⟨RX0, "isAhead", "(LSledHouse$Team;LSledHouse$Team;)Z"⟩
def dkwX0_isAhead_6 : List UInt8 := [167, 0, 4, 3, 172]
abbrev dktX0_isAhead_6 : List UInt8 := dkwX0_isAhead_6 ++ []
def dkwX0_isAhead_5 : List UInt8 := [4, 160, 0, 22, 43, 42, 180, 0, 104, 182, 1, 27, 44, 42, 180, 0, 104, 182, 1, 27, 161, 0, 7, 4]
abbrev dktX0_isAhead_5 : List UInt8 := dkwX0_isAhead_5 ++ dktX0_isAhead_6
def dkwX0_isAhead_4 : List UInt8 := [29, 154, 0, 22, 42, 43, 182, 1, 80, 42, 44, 182, 1, 80, 163, 0, 7, 4, 167, 0, 4, 3, 172, 29]
abbrev dktX0_isAhead_4 : List UInt8 := dkwX0_isAhead_4 ++ dktX0_isAhead_5
def dkwX0_isAhead_3 : List UInt8 := [167, 0, 4, 6, 54, 4, 29, 21, 4, 159, 0, 15, 29, 21, 4, 162, 0, 7, 4, 167, 0, 4, 3, 172]
abbrev dktX0_isAhead_3 : List UInt8 := dkwX0_isAhead_3 ++ dktX0_isAhead_4
def dkwX0_isAhead_2 : List UInt8 := [167, 0, 27, 44, 180, 0, 247, 4, 160, 0, 7, 4, 167, 0, 15, 44, 180, 0, 247, 154, 0, 7, 5]
abbrev dktX0_isAhead_2 : List UInt8 := dkwX0_isAhead_2 ++ dktX0_isAhead_3
def dkwX0_isAhead_1 : List UInt8 := [43, 180, 0, 247, 154, 0, 7, 5, 167, 0, 4, 6, 62, 44, 180, 0, 247, 5, 160, 0, 7, 3]
abbrev dktX0_isAhead_1 : List UInt8 := dkwX0_isAhead_1 ++ dktX0_isAhead_2
def dkwX0_isAhead_0 : List UInt8 := [43, 180, 0, 247, 5, 160, 0, 7, 3, 167, 0, 27, 43, 180, 0, 247, 4, 160, 0, 7, 4, 167, 0, 15]
abbrev dktX0_isAhead_0 : List UInt8 := dkwX0_isAhead_0 ++ dktX0_isAhead_1
theorem dksX0_isAhead_0 : cX0_isAhead.data.toList.drop 0 = dktX0_isAhead_0 := by decide +kernel
theorem dksX0_isAhead_1 : cX0_isAhead.data.toList.drop 24 = dktX0_isAhead_1 := dk_seg dksX0_isAhead_0 24 rfl rfl
theorem dksX0_isAhead_2 : cX0_isAhead.data.toList.drop 46 = dktX0_isAhead_2 := dk_seg dksX0_isAhead_1 22 rfl rfl
theorem dksX0_isAhead_3 : cX0_isAhead.data.toList.drop 69 = dktX0_isAhead_3 := dk_seg dksX0_isAhead_2 23 rfl rfl
theorem dksX0_isAhead_4 : cX0_isAhead.data.toList.drop 93 = dktX0_isAhead_4 := dk_seg dksX0_isAhead_3 24 rfl rfl
theorem dksX0_isAhead_5 : cX0_isAhead.data.toList.drop 117 = dktX0_isAhead_5 := dk_seg dksX0_isAhead_4 24 rfl rfl
theorem dksX0_isAhead_6 : cX0_isAhead.data.toList.drop 141 = dktX0_isAhead_6 := dk_seg dksX0_isAhead_5 24 rfl rfl
theorem dX0_isAhead_0 : decode cX0_isAhead 0 = .ok (.aload_n 1, 1) := dk_43 (dk_at dksX0_isAhead_0 0 rfl rfl)
theorem dX0_isAhead_1 : decode cX0_isAhead 1 = .ok (.getfield 247, 3) := dk_180 0 247 (dk_at dksX0_isAhead_0 1 rfl rfl)
theorem dX0_isAhead_4 : decode cX0_isAhead 4 = .ok (.iconst 2, 1) := dk_5 (dk_at dksX0_isAhead_0 4 rfl rfl)
theorem dX0_isAhead_5 : decode cX0_isAhead 5 = .ok (.if_icmp .ne 7, 3) := dk_160 0 7 (dk_at dksX0_isAhead_0 5 rfl rfl)
theorem dX0_isAhead_8 : decode cX0_isAhead 8 = .ok (.iconst 0, 1) := dk_3 (dk_at dksX0_isAhead_0 8 rfl rfl)
theorem dX0_isAhead_9 : decode cX0_isAhead 9 = .ok (.goto 27, 3) := dk_167 0 27 (dk_at dksX0_isAhead_0 9 rfl rfl)
theorem dX0_isAhead_12 : decode cX0_isAhead 12 = .ok (.aload_n 1, 1) := dk_43 (dk_at dksX0_isAhead_0 12 rfl rfl)
theorem dX0_isAhead_13 : decode cX0_isAhead 13 = .ok (.getfield 247, 3) := dk_180 0 247 (dk_at dksX0_isAhead_0 13 rfl rfl)
theorem dX0_isAhead_16 : decode cX0_isAhead 16 = .ok (.iconst 1, 1) := dk_4 (dk_at dksX0_isAhead_0 16 rfl rfl)
theorem dX0_isAhead_17 : decode cX0_isAhead 17 = .ok (.if_icmp .ne 7, 3) := dk_160 0 7 (dk_at dksX0_isAhead_0 17 rfl rfl)
theorem dX0_isAhead_20 : decode cX0_isAhead 20 = .ok (.iconst 1, 1) := dk_4 (dk_at dksX0_isAhead_0 20 rfl rfl)
theorem dX0_isAhead_21 : decode cX0_isAhead 21 = .ok (.goto 15, 3) := dk_167 0 15 (dk_at dksX0_isAhead_0 21 rfl rfl)
theorem dX0_isAhead_24 : decode cX0_isAhead 24 = .ok (.aload_n 1, 1) := dk_43 (dk_at dksX0_isAhead_1 0 rfl rfl)
theorem dX0_isAhead_25 : decode cX0_isAhead 25 = .ok (.getfield 247, 3) := dk_180 0 247 (dk_at dksX0_isAhead_1 1 rfl rfl)
theorem dX0_isAhead_28 : decode cX0_isAhead 28 = .ok (.ifCond .ne 7, 3) := dk_154 0 7 (dk_at dksX0_isAhead_1 4 rfl rfl)
theorem dX0_isAhead_31 : decode cX0_isAhead 31 = .ok (.iconst 2, 1) := dk_5 (dk_at dksX0_isAhead_1 7 rfl rfl)
theorem dX0_isAhead_32 : decode cX0_isAhead 32 = .ok (.goto 4, 3) := dk_167 0 4 (dk_at dksX0_isAhead_1 8 rfl rfl)
theorem dX0_isAhead_35 : decode cX0_isAhead 35 = .ok (.iconst 3, 1) := dk_6 (dk_at dksX0_isAhead_1 11 rfl rfl)
theorem dX0_isAhead_36 : decode cX0_isAhead 36 = .ok (.istore_n 3, 1) := dk_62 (dk_at dksX0_isAhead_1 12 rfl rfl)
theorem dX0_isAhead_37 : decode cX0_isAhead 37 = .ok (.aload_n 2, 1) := dk_44 (dk_at dksX0_isAhead_1 13 rfl rfl)
theorem dX0_isAhead_38 : decode cX0_isAhead 38 = .ok (.getfield 247, 3) := dk_180 0 247 (dk_at dksX0_isAhead_1 14 rfl rfl)
theorem dX0_isAhead_41 : decode cX0_isAhead 41 = .ok (.iconst 2, 1) := dk_5 (dk_at dksX0_isAhead_1 17 rfl rfl)
theorem dX0_isAhead_42 : decode cX0_isAhead 42 = .ok (.if_icmp .ne 7, 3) := dk_160 0 7 (dk_at dksX0_isAhead_1 18 rfl rfl)
theorem dX0_isAhead_45 : decode cX0_isAhead 45 = .ok (.iconst 0, 1) := dk_3 (dk_at dksX0_isAhead_1 21 rfl rfl)
theorem dX0_isAhead_46 : decode cX0_isAhead 46 = .ok (.goto 27, 3) := dk_167 0 27 (dk_at dksX0_isAhead_2 0 rfl rfl)
theorem dX0_isAhead_49 : decode cX0_isAhead 49 = .ok (.aload_n 2, 1) := dk_44 (dk_at dksX0_isAhead_2 3 rfl rfl)
theorem dX0_isAhead_50 : decode cX0_isAhead 50 = .ok (.getfield 247, 3) := dk_180 0 247 (dk_at dksX0_isAhead_2 4 rfl rfl)
theorem dX0_isAhead_53 : decode cX0_isAhead 53 = .ok (.iconst 1, 1) := dk_4 (dk_at dksX0_isAhead_2 7 rfl rfl)
theorem dX0_isAhead_54 : decode cX0_isAhead 54 = .ok (.if_icmp .ne 7, 3) := dk_160 0 7 (dk_at dksX0_isAhead_2 8 rfl rfl)
theorem dX0_isAhead_57 : decode cX0_isAhead 57 = .ok (.iconst 1, 1) := dk_4 (dk_at dksX0_isAhead_2 11 rfl rfl)
theorem dX0_isAhead_58 : decode cX0_isAhead 58 = .ok (.goto 15, 3) := dk_167 0 15 (dk_at dksX0_isAhead_2 12 rfl rfl)
theorem dX0_isAhead_61 : decode cX0_isAhead 61 = .ok (.aload_n 2, 1) := dk_44 (dk_at dksX0_isAhead_2 15 rfl rfl)
theorem dX0_isAhead_62 : decode cX0_isAhead 62 = .ok (.getfield 247, 3) := dk_180 0 247 (dk_at dksX0_isAhead_2 16 rfl rfl)
theorem dX0_isAhead_65 : decode cX0_isAhead 65 = .ok (.ifCond .ne 7, 3) := dk_154 0 7 (dk_at dksX0_isAhead_2 19 rfl rfl)
theorem dX0_isAhead_68 : decode cX0_isAhead 68 = .ok (.iconst 2, 1) := dk_5 (dk_at dksX0_isAhead_2 22 rfl rfl)
theorem dX0_isAhead_69 : decode cX0_isAhead 69 = .ok (.goto 4, 3) := dk_167 0 4 (dk_at dksX0_isAhead_3 0 rfl rfl)
theorem dX0_isAhead_72 : decode cX0_isAhead 72 = .ok (.iconst 3, 1) := dk_6 (dk_at dksX0_isAhead_3 3 rfl rfl)
theorem dX0_isAhead_73 : decode cX0_isAhead 73 = .ok (.istore 4, 2) := dk_54 4 (dk_at dksX0_isAhead_3 4 rfl rfl)
theorem dX0_isAhead_75 : decode cX0_isAhead 75 = .ok (.iload_n 3, 1) := dk_29 (dk_at dksX0_isAhead_3 6 rfl rfl)
theorem dX0_isAhead_76 : decode cX0_isAhead 76 = .ok (.iload 4, 2) := dk_21 4 (dk_at dksX0_isAhead_3 7 rfl rfl)
theorem dX0_isAhead_78 : decode cX0_isAhead 78 = .ok (.if_icmp .eq 15, 3) := dk_159 0 15 (dk_at dksX0_isAhead_3 9 rfl rfl)
theorem dX0_isAhead_81 : decode cX0_isAhead 81 = .ok (.iload_n 3, 1) := dk_29 (dk_at dksX0_isAhead_3 12 rfl rfl)
theorem dX0_isAhead_82 : decode cX0_isAhead 82 = .ok (.iload 4, 2) := dk_21 4 (dk_at dksX0_isAhead_3 13 rfl rfl)
theorem dX0_isAhead_84 : decode cX0_isAhead 84 = .ok (.if_icmp .ge 7, 3) := dk_162 0 7 (dk_at dksX0_isAhead_3 15 rfl rfl)
theorem dX0_isAhead_87 : decode cX0_isAhead 87 = .ok (.iconst 1, 1) := dk_4 (dk_at dksX0_isAhead_3 18 rfl rfl)
theorem dX0_isAhead_88 : decode cX0_isAhead 88 = .ok (.goto 4, 3) := dk_167 0 4 (dk_at dksX0_isAhead_3 19 rfl rfl)
theorem dX0_isAhead_91 : decode cX0_isAhead 91 = .ok (.iconst 0, 1) := dk_3 (dk_at dksX0_isAhead_3 22 rfl rfl)
theorem dX0_isAhead_92 : decode cX0_isAhead 92 = .ok (.ireturn, 1) := dk_172 (dk_at dksX0_isAhead_3 23 rfl rfl)
theorem dX0_isAhead_93 : decode cX0_isAhead 93 = .ok (.iload_n 3, 1) := dk_29 (dk_at dksX0_isAhead_4 0 rfl rfl)
theorem dX0_isAhead_94 : decode cX0_isAhead 94 = .ok (.ifCond .ne 22, 3) := dk_154 0 22 (dk_at dksX0_isAhead_4 1 rfl rfl)
theorem dX0_isAhead_97 : decode cX0_isAhead 97 = .ok (.aload_n 0, 1) := dk_42 (dk_at dksX0_isAhead_4 4 rfl rfl)
theorem dX0_isAhead_98 : decode cX0_isAhead 98 = .ok (.aload_n 1, 1) := dk_43 (dk_at dksX0_isAhead_4 5 rfl rfl)
theorem dX0_isAhead_99 : decode cX0_isAhead 99 = .ok (.invokevirtual 336, 3) := dk_182 1 80 (dk_at dksX0_isAhead_4 6 rfl rfl)
theorem dX0_isAhead_102 : decode cX0_isAhead 102 = .ok (.aload_n 0, 1) := dk_42 (dk_at dksX0_isAhead_4 9 rfl rfl)
theorem dX0_isAhead_103 : decode cX0_isAhead 103 = .ok (.aload_n 2, 1) := dk_44 (dk_at dksX0_isAhead_4 10 rfl rfl)
theorem dX0_isAhead_104 : decode cX0_isAhead 104 = .ok (.invokevirtual 336, 3) := dk_182 1 80 (dk_at dksX0_isAhead_4 11 rfl rfl)
theorem dX0_isAhead_107 : decode cX0_isAhead 107 = .ok (.if_icmp .gt 7, 3) := dk_163 0 7 (dk_at dksX0_isAhead_4 14 rfl rfl)
theorem dX0_isAhead_110 : decode cX0_isAhead 110 = .ok (.iconst 1, 1) := dk_4 (dk_at dksX0_isAhead_4 17 rfl rfl)
theorem dX0_isAhead_111 : decode cX0_isAhead 111 = .ok (.goto 4, 3) := dk_167 0 4 (dk_at dksX0_isAhead_4 18 rfl rfl)
theorem dX0_isAhead_114 : decode cX0_isAhead 114 = .ok (.iconst 0, 1) := dk_3 (dk_at dksX0_isAhead_4 21 rfl rfl)
theorem dX0_isAhead_115 : decode cX0_isAhead 115 = .ok (.ireturn, 1) := dk_172 (dk_at dksX0_isAhead_4 22 rfl rfl)
theorem dX0_isAhead_116 : decode cX0_isAhead 116 = .ok (.iload_n 3, 1) := dk_29 (dk_at dksX0_isAhead_4 23 rfl rfl)
theorem dX0_isAhead_117 : decode cX0_isAhead 117 = .ok (.iconst 1, 1) := dk_4 (dk_at dksX0_isAhead_5 0 rfl rfl)
theorem dX0_isAhead_118 : decode cX0_isAhead 118 = .ok (.if_icmp .ne 22, 3) := dk_160 0 22 (dk_at dksX0_isAhead_5 1 rfl rfl)
theorem dX0_isAhead_121 : decode cX0_isAhead 121 = .ok (.aload_n 1, 1) := dk_43 (dk_at dksX0_isAhead_5 4 rfl rfl)
theorem dX0_isAhead_122 : decode cX0_isAhead 122 = .ok (.aload_n 0, 1) := dk_42 (dk_at dksX0_isAhead_5 5 rfl rfl)
theorem dX0_isAhead_123 : decode cX0_isAhead 123 = .ok (.getfield 104, 3) := dk_180 0 104 (dk_at dksX0_isAhead_5 6 rfl rfl)
theorem dX0_isAhead_126 : decode cX0_isAhead 126 = .ok (.invokevirtual 283, 3) := dk_182 1 27 (dk_at dksX0_isAhead_5 9 rfl rfl)
theorem dX0_isAhead_129 : decode cX0_isAhead 129 = .ok (.aload_n 2, 1) := dk_44 (dk_at dksX0_isAhead_5 12 rfl rfl)
theorem dX0_isAhead_130 : decode cX0_isAhead 130 = .ok (.aload_n 0, 1) := dk_42 (dk_at dksX0_isAhead_5 13 rfl rfl)
theorem dX0_isAhead_131 : decode cX0_isAhead 131 = .ok (.getfield 104, 3) := dk_180 0 104 (dk_at dksX0_isAhead_5 14 rfl rfl)
theorem dX0_isAhead_134 : decode cX0_isAhead 134 = .ok (.invokevirtual 283, 3) := dk_182 1 27 (dk_at dksX0_isAhead_5 17 rfl rfl)
theorem dX0_isAhead_137 : decode cX0_isAhead 137 = .ok (.if_icmp .lt 7, 3) := dk_161 0 7 (dk_at dksX0_isAhead_5 20 rfl rfl)
theorem dX0_isAhead_140 : decode cX0_isAhead 140 = .ok (.iconst 1, 1) := dk_4 (dk_at dksX0_isAhead_5 23 rfl rfl)
theorem dX0_isAhead_141 : decode cX0_isAhead 141 = .ok (.goto 4, 3) := dk_167 0 4 (dk_at dksX0_isAhead_6 0 rfl rfl)
theorem dX0_isAhead_144 : decode cX0_isAhead 144 = .ok (.iconst 0, 1) := dk_3 (dk_at dksX0_isAhead_6 3 rfl rfl)
theorem dX0_isAhead_145 : decode cX0_isAhead 145 = .ok (.ireturn, 1) := dk_172 (dk_at dksX0_isAhead_6 4 rfl rfl)
abbrev cX0_came : ByteArray := prog_1_method_34_code
def yX0_came : MethodName := ⟨RX0, "came", "(II)I"⟩
def dkwX0_came_3 : List UInt8 := [163, 0, 7, 4, 167, 0, 4, 3, 96, 62, 132, 4, 1, 167, 255, 195, 29, 172]
abbrev dktX0_came_3 : List UInt8 := dkwX0_came_3 ++ []
def dkwX0_came_2 : List UInt8 := [27, 46, 2, 159, 0, 26, 42, 180, 0, 104, 180, 0, 236, 21, 4, 50, 180, 1, 62, 27, 46, 28]
abbrev dktX0_came_2 : List UInt8 := dkwX0_came_2 ++ dktX0_came_3
def dkwX0_came_1 : List UInt8 := [42, 180, 0, 104, 180, 0, 157, 162, 0, 55, 29, 42, 180, 0, 104, 180, 0, 236, 21, 4, 50, 180, 1, 62]
abbrev dktX0_came_1 : List UInt8 := dkwX0_came_1 ++ dktX0_came_2
def dkwX0_came_0 : List UInt8 := [27, 3, 42, 180, 0, 104, 180, 0, 173, 184, 0, 160, 154, 0, 5, 2, 172, 3, 62, 3, 54, 4, 21, 4]
abbrev dktX0_came_0 : List UInt8 := dkwX0_came_0 ++ dktX0_came_1
theorem dksX0_came_0 : cX0_came.data.toList.drop 0 = dktX0_came_0 := by decide +kernel
theorem dksX0_came_1 : cX0_came.data.toList.drop 24 = dktX0_came_1 := dk_seg dksX0_came_0 24 rfl rfl
theorem dksX0_came_2 : cX0_came.data.toList.drop 48 = dktX0_came_2 := dk_seg dksX0_came_1 24 rfl rfl
theorem dksX0_came_3 : cX0_came.data.toList.drop 70 = dktX0_came_3 := dk_seg dksX0_came_2 22 rfl rfl
theorem dX0_came_0 : decode cX0_came 0 = .ok (.iload_n 1, 1) := dk_27 (dk_at dksX0_came_0 0 rfl rfl)
theorem dX0_came_1 : decode cX0_came 1 = .ok (.iconst 0, 1) := dk_3 (dk_at dksX0_came_0 1 rfl rfl)
theorem dX0_came_2 : decode cX0_came 2 = .ok (.aload_n 0, 1) := dk_42 (dk_at dksX0_came_0 2 rfl rfl)
theorem dX0_came_3 : decode cX0_came 3 = .ok (.getfield 104, 3) := dk_180 0 104 (dk_at dksX0_came_0 3 rfl rfl)
theorem dX0_came_6 : decode cX0_came 6 = .ok (.getfield 173, 3) := dk_180 0 173 (dk_at dksX0_came_0 6 rfl rfl)
theorem dX0_came_9 : decode cX0_came 9 = .ok (.invokestatic 160, 3) := dk_184 0 160 (dk_at dksX0_came_0 9 rfl rfl)
theorem dX0_came_12 : decode cX0_came 12 = .ok (.ifCond .ne 5, 3) := dk_154 0 5 (dk_at dksX0_came_0 12 rfl rfl)
theorem dX0_came_15 : decode cX0_came 15 = .ok (.iconst (-1), 1) := dk_2 (dk_at dksX0_came_0 15 rfl rfl)
theorem dX0_came_16 : decode cX0_came 16 = .ok (.ireturn, 1) := dk_172 (dk_at dksX0_came_0 16 rfl rfl)
theorem dX0_came_17 : decode cX0_came 17 = .ok (.iconst 0, 1) := dk_3 (dk_at dksX0_came_0 17 rfl rfl)
theorem dX0_came_18 : decode cX0_came 18 = .ok (.istore_n 3, 1) := dk_62 (dk_at dksX0_came_0 18 rfl rfl)
theorem dX0_came_19 : decode cX0_came 19 = .ok (.iconst 0, 1) := dk_3 (dk_at dksX0_came_0 19 rfl rfl)
theorem dX0_came_20 : decode cX0_came 20 = .ok (.istore 4, 2) := dk_54 4 (dk_at dksX0_came_0 20 rfl rfl)
theorem dX0_came_22 : decode cX0_came 22 = .ok (.iload 4, 2) := dk_21 4 (dk_at dksX0_came_0 22 rfl rfl)
theorem dX0_came_24 : decode cX0_came 24 = .ok (.aload_n 0, 1) := dk_42 (dk_at dksX0_came_1 0 rfl rfl)
theorem dX0_came_25 : decode cX0_came 25 = .ok (.getfield 104, 3) := dk_180 0 104 (dk_at dksX0_came_1 1 rfl rfl)
theorem dX0_came_28 : decode cX0_came 28 = .ok (.getfield 157, 3) := dk_180 0 157 (dk_at dksX0_came_1 4 rfl rfl)
theorem dX0_came_31 : decode cX0_came 31 = .ok (.if_icmp .ge 55, 3) := dk_162 0 55 (dk_at dksX0_came_1 7 rfl rfl)
theorem dX0_came_34 : decode cX0_came 34 = .ok (.iload_n 3, 1) := dk_29 (dk_at dksX0_came_1 10 rfl rfl)
theorem dX0_came_35 : decode cX0_came 35 = .ok (.aload_n 0, 1) := dk_42 (dk_at dksX0_came_1 11 rfl rfl)
theorem dX0_came_36 : decode cX0_came 36 = .ok (.getfield 104, 3) := dk_180 0 104 (dk_at dksX0_came_1 12 rfl rfl)
theorem dX0_came_39 : decode cX0_came 39 = .ok (.getfield 236, 3) := dk_180 0 236 (dk_at dksX0_came_1 15 rfl rfl)
theorem dX0_came_42 : decode cX0_came 42 = .ok (.iload 4, 2) := dk_21 4 (dk_at dksX0_came_1 18 rfl rfl)
theorem dX0_came_44 : decode cX0_came 44 = .ok (.aaload, 1) := dk_50 (dk_at dksX0_came_1 20 rfl rfl)
theorem dX0_came_45 : decode cX0_came 45 = .ok (.getfield 318, 3) := dk_180 1 62 (dk_at dksX0_came_1 21 rfl rfl)
theorem dX0_came_48 : decode cX0_came 48 = .ok (.iload_n 1, 1) := dk_27 (dk_at dksX0_came_2 0 rfl rfl)
theorem dX0_came_49 : decode cX0_came 49 = .ok (.iaload, 1) := dk_46 (dk_at dksX0_came_2 1 rfl rfl)
theorem dX0_came_50 : decode cX0_came 50 = .ok (.iconst (-1), 1) := dk_2 (dk_at dksX0_came_2 2 rfl rfl)
theorem dX0_came_51 : decode cX0_came 51 = .ok (.if_icmp .eq 26, 3) := dk_159 0 26 (dk_at dksX0_came_2 3 rfl rfl)
theorem dX0_came_54 : decode cX0_came 54 = .ok (.aload_n 0, 1) := dk_42 (dk_at dksX0_came_2 6 rfl rfl)
theorem dX0_came_55 : decode cX0_came 55 = .ok (.getfield 104, 3) := dk_180 0 104 (dk_at dksX0_came_2 7 rfl rfl)
theorem dX0_came_58 : decode cX0_came 58 = .ok (.getfield 236, 3) := dk_180 0 236 (dk_at dksX0_came_2 10 rfl rfl)
theorem dX0_came_61 : decode cX0_came 61 = .ok (.iload 4, 2) := dk_21 4 (dk_at dksX0_came_2 13 rfl rfl)
theorem dX0_came_63 : decode cX0_came 63 = .ok (.aaload, 1) := dk_50 (dk_at dksX0_came_2 15 rfl rfl)
theorem dX0_came_64 : decode cX0_came 64 = .ok (.getfield 318, 3) := dk_180 1 62 (dk_at dksX0_came_2 16 rfl rfl)
theorem dX0_came_67 : decode cX0_came 67 = .ok (.iload_n 1, 1) := dk_27 (dk_at dksX0_came_2 19 rfl rfl)
theorem dX0_came_68 : decode cX0_came 68 = .ok (.iaload, 1) := dk_46 (dk_at dksX0_came_2 20 rfl rfl)
theorem dX0_came_69 : decode cX0_came 69 = .ok (.iload_n 2, 1) := dk_28 (dk_at dksX0_came_2 21 rfl rfl)
theorem dX0_came_70 : decode cX0_came 70 = .ok (.if_icmp .gt 7, 3) := dk_163 0 7 (dk_at dksX0_came_3 0 rfl rfl)
theorem dX0_came_73 : decode cX0_came 73 = .ok (.iconst 1, 1) := dk_4 (dk_at dksX0_came_3 3 rfl rfl)
theorem dX0_came_74 : decode cX0_came 74 = .ok (.goto 4, 3) := dk_167 0 4 (dk_at dksX0_came_3 4 rfl rfl)
theorem dX0_came_77 : decode cX0_came 77 = .ok (.iconst 0, 1) := dk_3 (dk_at dksX0_came_3 7 rfl rfl)
theorem dX0_came_78 : decode cX0_came 78 = .ok (.iadd, 1) := dk_96 (dk_at dksX0_came_3 8 rfl rfl)
theorem dX0_came_79 : decode cX0_came 79 = .ok (.istore_n 3, 1) := dk_62 (dk_at dksX0_came_3 9 rfl rfl)
theorem dX0_came_80 : decode cX0_came 80 = .ok (.iinc 4 1, 3) := dk_132 4 1 (dk_at dksX0_came_3 10 rfl rfl)
theorem dX0_came_83 : decode cX0_came 83 = .ok (.goto (-61), 3) := dk_167 255 195 (dk_at dksX0_came_3 13 rfl rfl)
theorem dX0_came_86 : decode cX0_came 86 = .ok (.iload_n 3, 1) := dk_29 (dk_at dksX0_came_3 16 rfl rfl)
theorem dX0_came_87 : decode cX0_came 87 = .ok (.ireturn, 1) := dk_172 (dk_at dksX0_came_3 17 rfl rfl)
abbrev cX0_spot : ByteArray := prog_1_method_35_code
def yX0_spot : MethodName := ⟨RX0, "spot", "(IIZ)I"⟩
def dkwX0_spot_11 : List UInt8 := [172]
abbrev dktX0_spot_11 : List UInt8 := dkwX0_spot_11 ++ []
def dkwX0_spot_10 : List UInt8 := [25, 4, 180, 1, 88, 21, 6, 46, 16, 60, 21, 6, 28, 100, 104, 100, 184, 1, 100, 167, 0, 5, 21, 8]
abbrev dktX0_spot_10 : List UInt8 := dkwX0_spot_10 ++ dktX0_spot_11
def dkwX0_spot_9 : List UInt8 := [156, 0, 7, 3, 167, 0, 11, 25, 4, 180, 1, 88, 21, 5, 46, 54, 8, 21, 7, 153, 0, 27, 21, 8]
abbrev dktX0_spot_9 : List UInt8 := dkwX0_spot_9 ++ dktX0_spot_10
def dkwX0_spot_8 : List UInt8 := [180, 1, 88, 21, 6, 46, 167, 0, 10, 42, 180, 0, 104, 182, 1, 91, 184, 1, 94, 172, 21, 5]
abbrev dktX0_spot_8 : List UInt8 := dkwX0_spot_8 ++ dktX0_spot_9
def dkwX0_spot_7 : List UInt8 := [21, 5, 46, 16, 60, 28, 21, 5, 100, 104, 96, 54, 8, 21, 8, 21, 7, 153, 0, 14, 25, 4]
abbrev dktX0_spot_7 : List UInt8 := dkwX0_spot_7 ++ dktX0_spot_8
def dkwX0_spot_6 : List UInt8 := [156, 0, 18, 16, 60, 28, 25, 4, 180, 1, 43, 100, 4, 96, 104, 167, 0, 19, 25, 4, 180, 1, 88]
abbrev dktX0_spot_6 : List UInt8 := dkwX0_spot_6 ++ dktX0_spot_7
def dkwX0_spot_5 : List UInt8 := [180, 0, 104, 180, 0, 167, 162, 0, 7, 4, 167, 0, 4, 3, 54, 7, 29, 153, 0, 70, 21, 5]
abbrev dktX0_spot_5 : List UInt8 := dkwX0_spot_5 ++ dktX0_spot_6
def dkwX0_spot_4 : List UInt8 := [162, 0, 21, 25, 4, 180, 1, 88, 21, 6, 46, 2, 160, 0, 9, 132, 6, 1, 167, 255, 229, 21, 6, 42]
abbrev dktX0_spot_4 : List UInt8 := dkwX0_spot_4 ++ dktX0_spot_5
def dkwX0_spot_3 : List UInt8 := [160, 0, 9, 132, 5, 255, 167, 255, 236, 28, 4, 96, 54, 6, 21, 6, 42, 180, 0, 104, 180, 0, 167]
abbrev dktX0_spot_3 : List UInt8 := dkwX0_spot_3 ++ dktX0_spot_4
def dkwX0_spot_2 : List UInt8 := [164, 0, 5, 3, 172, 28, 54, 5, 21, 5, 155, 0, 21, 25, 4, 180, 1, 88, 21, 5, 46, 2]
abbrev dktX0_spot_2 : List UInt8 := dkwX0_spot_2 ++ dktX0_spot_3
def dkwX0_spot_1 : List UInt8 := [154, 0, 5, 2, 172, 42, 180, 0, 104, 180, 0, 236, 27, 50, 58, 4, 25, 4, 180, 1, 43, 28]
abbrev dktX0_spot_1 : List UInt8 := dkwX0_spot_1 ++ dktX0_spot_2
def dkwX0_spot_0 : List UInt8 := [42, 27, 182, 0, 244, 153, 0, 20, 28, 3, 42, 180, 0, 104, 180, 0, 167, 4, 100, 184, 0, 160]
abbrev dktX0_spot_0 : List UInt8 := dkwX0_spot_0 ++ dktX0_spot_1
theorem dksX0_spot_0 : cX0_spot.data.toList.drop 0 = dktX0_spot_0 := by decide +kernel
theorem dksX0_spot_1 : cX0_spot.data.toList.drop 22 = dktX0_spot_1 := dk_seg dksX0_spot_0 22 rfl rfl
theorem dksX0_spot_2 : cX0_spot.data.toList.drop 44 = dktX0_spot_2 := dk_seg dksX0_spot_1 22 rfl rfl
theorem dksX0_spot_3 : cX0_spot.data.toList.drop 66 = dktX0_spot_3 := dk_seg dksX0_spot_2 22 rfl rfl
theorem dksX0_spot_4 : cX0_spot.data.toList.drop 89 = dktX0_spot_4 := dk_seg dksX0_spot_3 23 rfl rfl
theorem dksX0_spot_5 : cX0_spot.data.toList.drop 113 = dktX0_spot_5 := dk_seg dksX0_spot_4 24 rfl rfl
theorem dksX0_spot_6 : cX0_spot.data.toList.drop 135 = dktX0_spot_6 := dk_seg dksX0_spot_5 22 rfl rfl
theorem dksX0_spot_7 : cX0_spot.data.toList.drop 158 = dktX0_spot_7 := dk_seg dksX0_spot_6 23 rfl rfl
theorem dksX0_spot_8 : cX0_spot.data.toList.drop 180 = dktX0_spot_8 := dk_seg dksX0_spot_7 22 rfl rfl
theorem dksX0_spot_9 : cX0_spot.data.toList.drop 202 = dktX0_spot_9 := dk_seg dksX0_spot_8 22 rfl rfl
theorem dksX0_spot_10 : cX0_spot.data.toList.drop 226 = dktX0_spot_10 := dk_seg dksX0_spot_9 24 rfl rfl
theorem dksX0_spot_11 : cX0_spot.data.toList.drop 250 = dktX0_spot_11 := dk_seg dksX0_spot_10 24 rfl rfl
theorem dX0_spot_0 : decode cX0_spot 0 = .ok (.aload_n 0, 1) := dk_42 (dk_at dksX0_spot_0 0 rfl rfl)
theorem dX0_spot_1 : decode cX0_spot 1 = .ok (.iload_n 1, 1) := dk_27 (dk_at dksX0_spot_0 1 rfl rfl)
theorem dX0_spot_2 : decode cX0_spot 2 = .ok (.invokevirtual 244, 3) := dk_182 0 244 (dk_at dksX0_spot_0 2 rfl rfl)
theorem dX0_spot_5 : decode cX0_spot 5 = .ok (.ifCond .eq 20, 3) := dk_153 0 20 (dk_at dksX0_spot_0 5 rfl rfl)
theorem dX0_spot_8 : decode cX0_spot 8 = .ok (.iload_n 2, 1) := dk_28 (dk_at dksX0_spot_0 8 rfl rfl)
theorem dX0_spot_9 : decode cX0_spot 9 = .ok (.iconst 0, 1) := dk_3 (dk_at dksX0_spot_0 9 rfl rfl)
theorem dX0_spot_10 : decode cX0_spot 10 = .ok (.aload_n 0, 1) := dk_42 (dk_at dksX0_spot_0 10 rfl rfl)
theorem dX0_spot_11 : decode cX0_spot 11 = .ok (.getfield 104, 3) := dk_180 0 104 (dk_at dksX0_spot_0 11 rfl rfl)
theorem dX0_spot_14 : decode cX0_spot 14 = .ok (.getfield 167, 3) := dk_180 0 167 (dk_at dksX0_spot_0 14 rfl rfl)
theorem dX0_spot_17 : decode cX0_spot 17 = .ok (.iconst 1, 1) := dk_4 (dk_at dksX0_spot_0 17 rfl rfl)
theorem dX0_spot_18 : decode cX0_spot 18 = .ok (.isub, 1) := dk_100 (dk_at dksX0_spot_0 18 rfl rfl)
theorem dX0_spot_19 : decode cX0_spot 19 = .ok (.invokestatic 160, 3) := dk_184 0 160 (dk_at dksX0_spot_0 19 rfl rfl)
theorem dX0_spot_22 : decode cX0_spot 22 = .ok (.ifCond .ne 5, 3) := dk_154 0 5 (dk_at dksX0_spot_1 0 rfl rfl)
theorem dX0_spot_25 : decode cX0_spot 25 = .ok (.iconst (-1), 1) := dk_2 (dk_at dksX0_spot_1 3 rfl rfl)
theorem dX0_spot_26 : decode cX0_spot 26 = .ok (.ireturn, 1) := dk_172 (dk_at dksX0_spot_1 4 rfl rfl)
theorem dX0_spot_27 : decode cX0_spot 27 = .ok (.aload_n 0, 1) := dk_42 (dk_at dksX0_spot_1 5 rfl rfl)
theorem dX0_spot_28 : decode cX0_spot 28 = .ok (.getfield 104, 3) := dk_180 0 104 (dk_at dksX0_spot_1 6 rfl rfl)
theorem dX0_spot_31 : decode cX0_spot 31 = .ok (.getfield 236, 3) := dk_180 0 236 (dk_at dksX0_spot_1 9 rfl rfl)
theorem dX0_spot_34 : decode cX0_spot 34 = .ok (.iload_n 1, 1) := dk_27 (dk_at dksX0_spot_1 12 rfl rfl)
theorem dX0_spot_35 : decode cX0_spot 35 = .ok (.aaload, 1) := dk_50 (dk_at dksX0_spot_1 13 rfl rfl)
theorem dX0_spot_36 : decode cX0_spot 36 = .ok (.astore 4, 2) := dk_58 4 (dk_at dksX0_spot_1 14 rfl rfl)
theorem dX0_spot_38 : decode cX0_spot 38 = .ok (.aload 4, 2) := dk_25 4 (dk_at dksX0_spot_1 16 rfl rfl)
theorem dX0_spot_40 : decode cX0_spot 40 = .ok (.getfield 299, 3) := dk_180 1 43 (dk_at dksX0_spot_1 18 rfl rfl)
theorem dX0_spot_43 : decode cX0_spot 43 = .ok (.iload_n 2, 1) := dk_28 (dk_at dksX0_spot_1 21 rfl rfl)
theorem dX0_spot_44 : decode cX0_spot 44 = .ok (.if_icmp .le 5, 3) := dk_164 0 5 (dk_at dksX0_spot_2 0 rfl rfl)
theorem dX0_spot_47 : decode cX0_spot 47 = .ok (.iconst 0, 1) := dk_3 (dk_at dksX0_spot_2 3 rfl rfl)
theorem dX0_spot_48 : decode cX0_spot 48 = .ok (.ireturn, 1) := dk_172 (dk_at dksX0_spot_2 4 rfl rfl)
theorem dX0_spot_49 : decode cX0_spot 49 = .ok (.iload_n 2, 1) := dk_28 (dk_at dksX0_spot_2 5 rfl rfl)
theorem dX0_spot_50 : decode cX0_spot 50 = .ok (.istore 5, 2) := dk_54 5 (dk_at dksX0_spot_2 6 rfl rfl)
theorem dX0_spot_52 : decode cX0_spot 52 = .ok (.iload 5, 2) := dk_21 5 (dk_at dksX0_spot_2 8 rfl rfl)
theorem dX0_spot_54 : decode cX0_spot 54 = .ok (.ifCond .lt 21, 3) := dk_155 0 21 (dk_at dksX0_spot_2 10 rfl rfl)
theorem dX0_spot_57 : decode cX0_spot 57 = .ok (.aload 4, 2) := dk_25 4 (dk_at dksX0_spot_2 13 rfl rfl)
theorem dX0_spot_59 : decode cX0_spot 59 = .ok (.getfield 344, 3) := dk_180 1 88 (dk_at dksX0_spot_2 15 rfl rfl)
theorem dX0_spot_62 : decode cX0_spot 62 = .ok (.iload 5, 2) := dk_21 5 (dk_at dksX0_spot_2 18 rfl rfl)
theorem dX0_spot_64 : decode cX0_spot 64 = .ok (.iaload, 1) := dk_46 (dk_at dksX0_spot_2 20 rfl rfl)
theorem dX0_spot_65 : decode cX0_spot 65 = .ok (.iconst (-1), 1) := dk_2 (dk_at dksX0_spot_2 21 rfl rfl)
theorem dX0_spot_66 : decode cX0_spot 66 = .ok (.if_icmp .ne 9, 3) := dk_160 0 9 (dk_at dksX0_spot_3 0 rfl rfl)
theorem dX0_spot_69 : decode cX0_spot 69 = .ok (.iinc 5 (-1), 3) := dk_132 5 255 (dk_at dksX0_spot_3 3 rfl rfl)
theorem dX0_spot_72 : decode cX0_spot 72 = .ok (.goto (-20), 3) := dk_167 255 236 (dk_at dksX0_spot_3 6 rfl rfl)
theorem dX0_spot_75 : decode cX0_spot 75 = .ok (.iload_n 2, 1) := dk_28 (dk_at dksX0_spot_3 9 rfl rfl)
theorem dX0_spot_76 : decode cX0_spot 76 = .ok (.iconst 1, 1) := dk_4 (dk_at dksX0_spot_3 10 rfl rfl)
theorem dX0_spot_77 : decode cX0_spot 77 = .ok (.iadd, 1) := dk_96 (dk_at dksX0_spot_3 11 rfl rfl)
theorem dX0_spot_78 : decode cX0_spot 78 = .ok (.istore 6, 2) := dk_54 6 (dk_at dksX0_spot_3 12 rfl rfl)
theorem dX0_spot_80 : decode cX0_spot 80 = .ok (.iload 6, 2) := dk_21 6 (dk_at dksX0_spot_3 14 rfl rfl)
theorem dX0_spot_82 : decode cX0_spot 82 = .ok (.aload_n 0, 1) := dk_42 (dk_at dksX0_spot_3 16 rfl rfl)
theorem dX0_spot_83 : decode cX0_spot 83 = .ok (.getfield 104, 3) := dk_180 0 104 (dk_at dksX0_spot_3 17 rfl rfl)
theorem dX0_spot_86 : decode cX0_spot 86 = .ok (.getfield 167, 3) := dk_180 0 167 (dk_at dksX0_spot_3 20 rfl rfl)
theorem dX0_spot_89 : decode cX0_spot 89 = .ok (.if_icmp .ge 21, 3) := dk_162 0 21 (dk_at dksX0_spot_4 0 rfl rfl)
theorem dX0_spot_92 : decode cX0_spot 92 = .ok (.aload 4, 2) := dk_25 4 (dk_at dksX0_spot_4 3 rfl rfl)
theorem dX0_spot_94 : decode cX0_spot 94 = .ok (.getfield 344, 3) := dk_180 1 88 (dk_at dksX0_spot_4 5 rfl rfl)
theorem dX0_spot_97 : decode cX0_spot 97 = .ok (.iload 6, 2) := dk_21 6 (dk_at dksX0_spot_4 8 rfl rfl)
theorem dX0_spot_99 : decode cX0_spot 99 = .ok (.iaload, 1) := dk_46 (dk_at dksX0_spot_4 10 rfl rfl)
theorem dX0_spot_100 : decode cX0_spot 100 = .ok (.iconst (-1), 1) := dk_2 (dk_at dksX0_spot_4 11 rfl rfl)
theorem dX0_spot_101 : decode cX0_spot 101 = .ok (.if_icmp .ne 9, 3) := dk_160 0 9 (dk_at dksX0_spot_4 12 rfl rfl)
theorem dX0_spot_104 : decode cX0_spot 104 = .ok (.iinc 6 1, 3) := dk_132 6 1 (dk_at dksX0_spot_4 15 rfl rfl)
theorem dX0_spot_107 : decode cX0_spot 107 = .ok (.goto (-27), 3) := dk_167 255 229 (dk_at dksX0_spot_4 18 rfl rfl)
theorem dX0_spot_110 : decode cX0_spot 110 = .ok (.iload 6, 2) := dk_21 6 (dk_at dksX0_spot_4 21 rfl rfl)
theorem dX0_spot_112 : decode cX0_spot 112 = .ok (.aload_n 0, 1) := dk_42 (dk_at dksX0_spot_4 23 rfl rfl)
theorem dX0_spot_113 : decode cX0_spot 113 = .ok (.getfield 104, 3) := dk_180 0 104 (dk_at dksX0_spot_5 0 rfl rfl)
theorem dX0_spot_116 : decode cX0_spot 116 = .ok (.getfield 167, 3) := dk_180 0 167 (dk_at dksX0_spot_5 3 rfl rfl)
theorem dX0_spot_119 : decode cX0_spot 119 = .ok (.if_icmp .ge 7, 3) := dk_162 0 7 (dk_at dksX0_spot_5 6 rfl rfl)
theorem dX0_spot_122 : decode cX0_spot 122 = .ok (.iconst 1, 1) := dk_4 (dk_at dksX0_spot_5 9 rfl rfl)
theorem dX0_spot_123 : decode cX0_spot 123 = .ok (.goto 4, 3) := dk_167 0 4 (dk_at dksX0_spot_5 10 rfl rfl)
theorem dX0_spot_126 : decode cX0_spot 126 = .ok (.iconst 0, 1) := dk_3 (dk_at dksX0_spot_5 13 rfl rfl)
theorem dX0_spot_127 : decode cX0_spot 127 = .ok (.istore 7, 2) := dk_54 7 (dk_at dksX0_spot_5 14 rfl rfl)
theorem dX0_spot_129 : decode cX0_spot 129 = .ok (.iload_n 3, 1) := dk_29 (dk_at dksX0_spot_5 16 rfl rfl)
theorem dX0_spot_130 : decode cX0_spot 130 = .ok (.ifCond .eq 70, 3) := dk_153 0 70 (dk_at dksX0_spot_5 17 rfl rfl)
theorem dX0_spot_133 : decode cX0_spot 133 = .ok (.iload 5, 2) := dk_21 5 (dk_at dksX0_spot_5 20 rfl rfl)
theorem dX0_spot_135 : decode cX0_spot 135 = .ok (.ifCond .ge 18, 3) := dk_156 0 18 (dk_at dksX0_spot_6 0 rfl rfl)
theorem dX0_spot_138 : decode cX0_spot 138 = .ok (.bipush 60, 2) := dk_16 60 (dk_at dksX0_spot_6 3 rfl rfl)
theorem dX0_spot_140 : decode cX0_spot 140 = .ok (.iload_n 2, 1) := dk_28 (dk_at dksX0_spot_6 5 rfl rfl)
theorem dX0_spot_141 : decode cX0_spot 141 = .ok (.aload 4, 2) := dk_25 4 (dk_at dksX0_spot_6 6 rfl rfl)
theorem dX0_spot_143 : decode cX0_spot 143 = .ok (.getfield 299, 3) := dk_180 1 43 (dk_at dksX0_spot_6 8 rfl rfl)
theorem dX0_spot_146 : decode cX0_spot 146 = .ok (.isub, 1) := dk_100 (dk_at dksX0_spot_6 11 rfl rfl)
theorem dX0_spot_147 : decode cX0_spot 147 = .ok (.iconst 1, 1) := dk_4 (dk_at dksX0_spot_6 12 rfl rfl)
theorem dX0_spot_148 : decode cX0_spot 148 = .ok (.iadd, 1) := dk_96 (dk_at dksX0_spot_6 13 rfl rfl)
theorem dX0_spot_149 : decode cX0_spot 149 = .ok (.imul, 1) := dk_104 (dk_at dksX0_spot_6 14 rfl rfl)
theorem dX0_spot_150 : decode cX0_spot 150 = .ok (.goto 19, 3) := dk_167 0 19 (dk_at dksX0_spot_6 15 rfl rfl)
theorem dX0_spot_153 : decode cX0_spot 153 = .ok (.aload 4, 2) := dk_25 4 (dk_at dksX0_spot_6 18 rfl rfl)
theorem dX0_spot_155 : decode cX0_spot 155 = .ok (.getfield 344, 3) := dk_180 1 88 (dk_at dksX0_spot_6 20 rfl rfl)
theorem dX0_spot_158 : decode cX0_spot 158 = .ok (.iload 5, 2) := dk_21 5 (dk_at dksX0_spot_7 0 rfl rfl)
theorem dX0_spot_160 : decode cX0_spot 160 = .ok (.iaload, 1) := dk_46 (dk_at dksX0_spot_7 2 rfl rfl)
theorem dX0_spot_161 : decode cX0_spot 161 = .ok (.bipush 60, 2) := dk_16 60 (dk_at dksX0_spot_7 3 rfl rfl)
theorem dX0_spot_163 : decode cX0_spot 163 = .ok (.iload_n 2, 1) := dk_28 (dk_at dksX0_spot_7 5 rfl rfl)
theorem dX0_spot_164 : decode cX0_spot 164 = .ok (.iload 5, 2) := dk_21 5 (dk_at dksX0_spot_7 6 rfl rfl)
theorem dX0_spot_166 : decode cX0_spot 166 = .ok (.isub, 1) := dk_100 (dk_at dksX0_spot_7 8 rfl rfl)
theorem dX0_spot_167 : decode cX0_spot 167 = .ok (.imul, 1) := dk_104 (dk_at dksX0_spot_7 9 rfl rfl)
theorem dX0_spot_168 : decode cX0_spot 168 = .ok (.iadd, 1) := dk_96 (dk_at dksX0_spot_7 10 rfl rfl)
theorem dX0_spot_169 : decode cX0_spot 169 = .ok (.istore 8, 2) := dk_54 8 (dk_at dksX0_spot_7 11 rfl rfl)
theorem dX0_spot_171 : decode cX0_spot 171 = .ok (.iload 8, 2) := dk_21 8 (dk_at dksX0_spot_7 13 rfl rfl)
theorem dX0_spot_173 : decode cX0_spot 173 = .ok (.iload 7, 2) := dk_21 7 (dk_at dksX0_spot_7 15 rfl rfl)
theorem dX0_spot_175 : decode cX0_spot 175 = .ok (.ifCond .eq 14, 3) := dk_153 0 14 (dk_at dksX0_spot_7 17 rfl rfl)
theorem dX0_spot_178 : decode cX0_spot 178 = .ok (.aload 4, 2) := dk_25 4 (dk_at dksX0_spot_7 20 rfl rfl)
theorem dX0_spot_180 : decode cX0_spot 180 = .ok (.getfield 344, 3) := dk_180 1 88 (dk_at dksX0_spot_8 0 rfl rfl)
theorem dX0_spot_183 : decode cX0_spot 183 = .ok (.iload 6, 2) := dk_21 6 (dk_at dksX0_spot_8 3 rfl rfl)
theorem dX0_spot_185 : decode cX0_spot 185 = .ok (.iaload, 1) := dk_46 (dk_at dksX0_spot_8 5 rfl rfl)
theorem dX0_spot_186 : decode cX0_spot 186 = .ok (.goto 10, 3) := dk_167 0 10 (dk_at dksX0_spot_8 6 rfl rfl)
theorem dX0_spot_189 : decode cX0_spot 189 = .ok (.aload_n 0, 1) := dk_42 (dk_at dksX0_spot_8 9 rfl rfl)
theorem dX0_spot_190 : decode cX0_spot 190 = .ok (.getfield 104, 3) := dk_180 0 104 (dk_at dksX0_spot_8 10 rfl rfl)
theorem dX0_spot_193 : decode cX0_spot 193 = .ok (.invokevirtual 347, 3) := dk_182 1 91 (dk_at dksX0_spot_8 13 rfl rfl)
theorem dX0_spot_196 : decode cX0_spot 196 = .ok (.invokestatic 350, 3) := dk_184 1 94 (dk_at dksX0_spot_8 16 rfl rfl)
theorem dX0_spot_199 : decode cX0_spot 199 = .ok (.ireturn, 1) := dk_172 (dk_at dksX0_spot_8 19 rfl rfl)
theorem dX0_spot_200 : decode cX0_spot 200 = .ok (.iload 5, 2) := dk_21 5 (dk_at dksX0_spot_8 20 rfl rfl)
theorem dX0_spot_202 : decode cX0_spot 202 = .ok (.ifCond .ge 7, 3) := dk_156 0 7 (dk_at dksX0_spot_9 0 rfl rfl)
theorem dX0_spot_205 : decode cX0_spot 205 = .ok (.iconst 0, 1) := dk_3 (dk_at dksX0_spot_9 3 rfl rfl)
theorem dX0_spot_206 : decode cX0_spot 206 = .ok (.goto 11, 3) := dk_167 0 11 (dk_at dksX0_spot_9 4 rfl rfl)
theorem dX0_spot_209 : decode cX0_spot 209 = .ok (.aload 4, 2) := dk_25 4 (dk_at dksX0_spot_9 7 rfl rfl)
theorem dX0_spot_211 : decode cX0_spot 211 = .ok (.getfield 344, 3) := dk_180 1 88 (dk_at dksX0_spot_9 9 rfl rfl)
theorem dX0_spot_214 : decode cX0_spot 214 = .ok (.iload 5, 2) := dk_21 5 (dk_at dksX0_spot_9 12 rfl rfl)
theorem dX0_spot_216 : decode cX0_spot 216 = .ok (.iaload, 1) := dk_46 (dk_at dksX0_spot_9 14 rfl rfl)
theorem dX0_spot_217 : decode cX0_spot 217 = .ok (.istore 8, 2) := dk_54 8 (dk_at dksX0_spot_9 15 rfl rfl)
theorem dX0_spot_219 : decode cX0_spot 219 = .ok (.iload 7, 2) := dk_21 7 (dk_at dksX0_spot_9 17 rfl rfl)
theorem dX0_spot_221 : decode cX0_spot 221 = .ok (.ifCond .eq 27, 3) := dk_153 0 27 (dk_at dksX0_spot_9 19 rfl rfl)
theorem dX0_spot_224 : decode cX0_spot 224 = .ok (.iload 8, 2) := dk_21 8 (dk_at dksX0_spot_9 22 rfl rfl)
theorem dX0_spot_226 : decode cX0_spot 226 = .ok (.aload 4, 2) := dk_25 4 (dk_at dksX0_spot_10 0 rfl rfl)
theorem dX0_spot_228 : decode cX0_spot 228 = .ok (.getfield 344, 3) := dk_180 1 88 (dk_at dksX0_spot_10 2 rfl rfl)
theorem dX0_spot_231 : decode cX0_spot 231 = .ok (.iload 6, 2) := dk_21 6 (dk_at dksX0_spot_10 5 rfl rfl)
theorem dX0_spot_233 : decode cX0_spot 233 = .ok (.iaload, 1) := dk_46 (dk_at dksX0_spot_10 7 rfl rfl)
theorem dX0_spot_234 : decode cX0_spot 234 = .ok (.bipush 60, 2) := dk_16 60 (dk_at dksX0_spot_10 8 rfl rfl)
theorem dX0_spot_236 : decode cX0_spot 236 = .ok (.iload 6, 2) := dk_21 6 (dk_at dksX0_spot_10 10 rfl rfl)
theorem dX0_spot_238 : decode cX0_spot 238 = .ok (.iload_n 2, 1) := dk_28 (dk_at dksX0_spot_10 12 rfl rfl)
theorem dX0_spot_239 : decode cX0_spot 239 = .ok (.isub, 1) := dk_100 (dk_at dksX0_spot_10 13 rfl rfl)
theorem dX0_spot_240 : decode cX0_spot 240 = .ok (.imul, 1) := dk_104 (dk_at dksX0_spot_10 14 rfl rfl)
theorem dX0_spot_241 : decode cX0_spot 241 = .ok (.isub, 1) := dk_100 (dk_at dksX0_spot_10 15 rfl rfl)
theorem dX0_spot_242 : decode cX0_spot 242 = .ok (.invokestatic 356, 3) := dk_184 1 100 (dk_at dksX0_spot_10 16 rfl rfl)
theorem dX0_spot_245 : decode cX0_spot 245 = .ok (.goto 5, 3) := dk_167 0 5 (dk_at dksX0_spot_10 19 rfl rfl)
theorem dX0_spot_248 : decode cX0_spot 248 = .ok (.iload 8, 2) := dk_21 8 (dk_at dksX0_spot_10 22 rfl rfl)
theorem dX0_spot_250 : decode cX0_spot 250 = .ok (.ireturn, 1) := dk_172 (dk_at dksX0_spot_11 0 rfl rfl)
abbrev cX0_signs : ByteArray := prog_1_method_36_code
def yX0_signs : MethodName := ⟨RX0, "signs", "(I)I"⟩
def dkwX0_signs_1 : List UInt8 := [172]
abbrev dktX0_signs_1 : List UInt8 := dkwX0_signs_1 ++ []
def dkwX0_signs_0 : List UInt8 := [42, 27, 182, 0, 244, 153, 0, 18, 42, 180, 0, 104, 180, 0, 236, 27, 50, 180, 1, 103, 167, 0, 4, 2]
abbrev dktX0_signs_0 : List UInt8 := dkwX0_signs_0 ++ dktX0_signs_1
theorem dksX0_signs_0 : cX0_signs.data.toList.drop 0 = dktX0_signs_0 := by decide +kernel
theorem dksX0_signs_1 : cX0_signs.data.toList.drop 24 = dktX0_signs_1 := dk_seg dksX0_signs_0 24 rfl rfl
theorem dX0_signs_0 : decode cX0_signs 0 = .ok (.aload_n 0, 1) := dk_42 (dk_at dksX0_signs_0 0 rfl rfl)
theorem dX0_signs_1 : decode cX0_signs 1 = .ok (.iload_n 1, 1) := dk_27 (dk_at dksX0_signs_0 1 rfl rfl)
theorem dX0_signs_2 : decode cX0_signs 2 = .ok (.invokevirtual 244, 3) := dk_182 0 244 (dk_at dksX0_signs_0 2 rfl rfl)
theorem dX0_signs_5 : decode cX0_signs 5 = .ok (.ifCond .eq 18, 3) := dk_153 0 18 (dk_at dksX0_signs_0 5 rfl rfl)
theorem dX0_signs_8 : decode cX0_signs 8 = .ok (.aload_n 0, 1) := dk_42 (dk_at dksX0_signs_0 8 rfl rfl)
theorem dX0_signs_9 : decode cX0_signs 9 = .ok (.getfield 104, 3) := dk_180 0 104 (dk_at dksX0_signs_0 9 rfl rfl)
theorem dX0_signs_12 : decode cX0_signs 12 = .ok (.getfield 236, 3) := dk_180 0 236 (dk_at dksX0_signs_0 12 rfl rfl)
theorem dX0_signs_15 : decode cX0_signs 15 = .ok (.iload_n 1, 1) := dk_27 (dk_at dksX0_signs_0 15 rfl rfl)
theorem dX0_signs_16 : decode cX0_signs 16 = .ok (.aaload, 1) := dk_50 (dk_at dksX0_signs_0 16 rfl rfl)
theorem dX0_signs_17 : decode cX0_signs 17 = .ok (.getfield 359, 3) := dk_180 1 103 (dk_at dksX0_signs_0 17 rfl rfl)
theorem dX0_signs_20 : decode cX0_signs 20 = .ok (.goto 4, 3) := dk_167 0 4 (dk_at dksX0_signs_0 20 rfl rfl)
theorem dX0_signs_23 : decode cX0_signs 23 = .ok (.iconst (-1), 1) := dk_2 (dk_at dksX0_signs_0 23 rfl rfl)
theorem dX0_signs_24 : decode cX0_signs 24 = .ok (.ireturn, 1) := dk_172 (dk_at dksX0_signs_1 0 rfl rfl)
abbrev cX0_replay : ByteArray := prog_1_method_37_code
def yX0_replay : MethodName := ⟨RX0, "replay", "(III)I"⟩
def dkwX0_replay_9 : List UInt8 := [180, 0, 247, 172, 42, 180, 0, 114, 180, 1, 62, 42, 180, 0, 104, 180, 0, 173, 46, 172]
abbrev dktX0_replay_9 : List UInt8 := dkwX0_replay_9 ++ []
def dkwX0_replay_8 : List UInt8 := [42, 180, 0, 114, 42, 180, 0, 104, 182, 1, 27, 172, 42, 180, 0, 114, 182, 1, 112, 172, 42, 180, 0, 114]
abbrev dktX0_replay_8 : List UInt8 := dkwX0_replay_8 ++ dktX0_replay_9
def dkwX0_replay_7 : List UInt8 := [170, 0, 0, 0, 0, 54, 0, 0, 0, 0, 0, 0, 0, 2, 0, 0, 0, 26, 0, 0, 0, 38, 0, 0, 0, 46]
abbrev dktX0_replay_7 : List UInt8 := dkwX0_replay_7 ++ dktX0_replay_8
def dkwX0_replay_6 : List UInt8 := [21, 5, 182, 1, 13, 132, 5, 1, 167, 255, 211, 29]
abbrev dktX0_replay_6 : List UInt8 := dkwX0_replay_6 ++ dktX0_replay_7
def dkwX0_replay_5 : List UInt8 := [180, 0, 114, 180, 0, 247, 5, 162, 0, 28, 42, 180, 0, 114, 42, 180, 0, 120, 28, 50, 42, 180, 0, 104]
abbrev dktX0_replay_5 : List UInt8 := dkwX0_replay_5 ++ dktX0_replay_6
def dkwX0_replay_4 : List UInt8 := [182, 0, 240, 25, 4, 180, 1, 43, 54, 5, 21, 5, 42, 180, 0, 104, 180, 0, 167, 162, 0, 39, 42]
abbrev dktX0_replay_4 : List UInt8 := dkwX0_replay_4 ++ dktX0_replay_5
def dkwX0_replay_3 : List UInt8 := [180, 0, 114, 25, 4, 180, 1, 46, 25, 4, 180, 1, 106, 25, 4, 180, 1, 109, 25, 4, 180, 1, 43, 28]
abbrev dktX0_replay_3 : List UInt8 := dkwX0_replay_3 ++ dktX0_replay_4
def dkwX0_replay_2 : List UInt8 := [167, 0, 12, 58, 4, 42, 25, 4, 182, 0, 176, 172, 42, 180, 0, 104, 180, 0, 236, 27, 50, 58, 4, 42]
abbrev dktX0_replay_2 : List UInt8 := dkwX0_replay_2 ++ dktX0_replay_3
def dkwX0_replay_1 : List UInt8 := [153, 0, 7, 4, 167, 0, 4, 3, 4, 182, 0, 170, 42, 29, 3, 6, 184, 0, 160, 5, 182, 0, 170]
abbrev dktX0_replay_1 : List UInt8 := dkwX0_replay_1 ++ dktX0_replay_2
def dkwX0_replay_0 : List UInt8 := [42, 182, 0, 164, 42, 42, 27, 182, 0, 244, 153, 0, 21, 28, 3, 42, 180, 0, 209, 4, 100, 184, 0, 160]
abbrev dktX0_replay_0 : List UInt8 := dkwX0_replay_0 ++ dktX0_replay_1
theorem dksX0_replay_0 : cX0_replay.data.toList.drop 0 = dktX0_replay_0 := by decide +kernel
theorem dksX0_replay_1 : cX0_replay.data.toList.drop 24 = dktX0_replay_1 := dk_seg dksX0_replay_0 24 rfl rfl
theorem dksX0_replay_2 : cX0_replay.data.toList.drop 47 = dktX0_replay_2 := dk_seg dksX0_replay_1 23 rfl rfl
theorem dksX0_replay_3 : cX0_replay.data.toList.drop 71 = dktX0_replay_3 := dk_seg dksX0_replay_2 24 rfl rfl
theorem dksX0_replay_4 : cX0_replay.data.toList.drop 95 = dktX0_replay_4 := dk_seg dksX0_replay_3 24 rfl rfl
theorem dksX0_replay_5 : cX0_replay.data.toList.drop 118 = dktX0_replay_5 := dk_seg dksX0_replay_4 23 rfl rfl
theorem dksX0_replay_6 : cX0_replay.data.toList.drop 142 = dktX0_replay_6 := dk_seg dksX0_replay_5 24 rfl rfl
theorem dksX0_replay_7 : cX0_replay.data.toList.drop 154 = dktX0_replay_7 := dk_seg dksX0_replay_6 12 rfl rfl
theorem dksX0_replay_8 : cX0_replay.data.toList.drop 180 = dktX0_replay_8 := dk_seg dksX0_replay_7 26 rfl rfl
theorem dksX0_replay_9 : cX0_replay.data.toList.drop 204 = dktX0_replay_9 := dk_seg dksX0_replay_8 24 rfl rfl
theorem dX0_replay_0 : decode cX0_replay 0 = .ok (.aload_n 0, 1) := dk_42 (dk_at dksX0_replay_0 0 rfl rfl)
theorem dX0_replay_1 : decode cX0_replay 1 = .ok (.invokevirtual 164, 3) := dk_182 0 164 (dk_at dksX0_replay_0 1 rfl rfl)
theorem dX0_replay_4 : decode cX0_replay 4 = .ok (.aload_n 0, 1) := dk_42 (dk_at dksX0_replay_0 4 rfl rfl)
theorem dX0_replay_5 : decode cX0_replay 5 = .ok (.aload_n 0, 1) := dk_42 (dk_at dksX0_replay_0 5 rfl rfl)
theorem dX0_replay_6 : decode cX0_replay 6 = .ok (.iload_n 1, 1) := dk_27 (dk_at dksX0_replay_0 6 rfl rfl)
theorem dX0_replay_7 : decode cX0_replay 7 = .ok (.invokevirtual 244, 3) := dk_182 0 244 (dk_at dksX0_replay_0 7 rfl rfl)
theorem dX0_replay_10 : decode cX0_replay 10 = .ok (.ifCond .eq 21, 3) := dk_153 0 21 (dk_at dksX0_replay_0 10 rfl rfl)
theorem dX0_replay_13 : decode cX0_replay 13 = .ok (.iload_n 2, 1) := dk_28 (dk_at dksX0_replay_0 13 rfl rfl)
theorem dX0_replay_14 : decode cX0_replay 14 = .ok (.iconst 0, 1) := dk_3 (dk_at dksX0_replay_0 14 rfl rfl)
theorem dX0_replay_15 : decode cX0_replay 15 = .ok (.aload_n 0, 1) := dk_42 (dk_at dksX0_replay_0 15 rfl rfl)
theorem dX0_replay_16 : decode cX0_replay 16 = .ok (.getfield 209, 3) := dk_180 0 209 (dk_at dksX0_replay_0 16 rfl rfl)
theorem dX0_replay_19 : decode cX0_replay 19 = .ok (.iconst 1, 1) := dk_4 (dk_at dksX0_replay_0 19 rfl rfl)
theorem dX0_replay_20 : decode cX0_replay 20 = .ok (.isub, 1) := dk_100 (dk_at dksX0_replay_0 20 rfl rfl)
theorem dX0_replay_21 : decode cX0_replay 21 = .ok (.invokestatic 160, 3) := dk_184 0 160 (dk_at dksX0_replay_0 21 rfl rfl)
theorem dX0_replay_24 : decode cX0_replay 24 = .ok (.ifCond .eq 7, 3) := dk_153 0 7 (dk_at dksX0_replay_1 0 rfl rfl)
theorem dX0_replay_27 : decode cX0_replay 27 = .ok (.iconst 1, 1) := dk_4 (dk_at dksX0_replay_1 3 rfl rfl)
theorem dX0_replay_28 : decode cX0_replay 28 = .ok (.goto 4, 3) := dk_167 0 4 (dk_at dksX0_replay_1 4 rfl rfl)
theorem dX0_replay_31 : decode cX0_replay 31 = .ok (.iconst 0, 1) := dk_3 (dk_at dksX0_replay_1 7 rfl rfl)
theorem dX0_replay_32 : decode cX0_replay 32 = .ok (.iconst 1, 1) := dk_4 (dk_at dksX0_replay_1 8 rfl rfl)
theorem dX0_replay_33 : decode cX0_replay 33 = .ok (.invokevirtual 170, 3) := dk_182 0 170 (dk_at dksX0_replay_1 9 rfl rfl)
theorem dX0_replay_36 : decode cX0_replay 36 = .ok (.aload_n 0, 1) := dk_42 (dk_at dksX0_replay_1 12 rfl rfl)
theorem dX0_replay_37 : decode cX0_replay 37 = .ok (.iload_n 3, 1) := dk_29 (dk_at dksX0_replay_1 13 rfl rfl)
theorem dX0_replay_38 : decode cX0_replay 38 = .ok (.iconst 0, 1) := dk_3 (dk_at dksX0_replay_1 14 rfl rfl)
theorem dX0_replay_39 : decode cX0_replay 39 = .ok (.iconst 3, 1) := dk_6 (dk_at dksX0_replay_1 15 rfl rfl)
theorem dX0_replay_40 : decode cX0_replay 40 = .ok (.invokestatic 160, 3) := dk_184 0 160 (dk_at dksX0_replay_1 16 rfl rfl)
theorem dX0_replay_43 : decode cX0_replay 43 = .ok (.iconst 2, 1) := dk_5 (dk_at dksX0_replay_1 19 rfl rfl)
theorem dX0_replay_44 : decode cX0_replay 44 = .ok (.invokevirtual 170, 3) := dk_182 0 170 (dk_at dksX0_replay_1 20 rfl rfl)
theorem dX0_replay_47 : decode cX0_replay 47 = .ok (.goto 12, 3) := dk_167 0 12 (dk_at dksX0_replay_2 0 rfl rfl)
theorem dX0_replay_50 : decode cX0_replay 50 = .ok (.astore 4, 2) := dk_58 4 (dk_at dksX0_replay_2 3 rfl rfl)
theorem dX0_replay_52 : decode cX0_replay 52 = .ok (.aload_n 0, 1) := dk_42 (dk_at dksX0_replay_2 5 rfl rfl)
theorem dX0_replay_53 : decode cX0_replay 53 = .ok (.aload 4, 2) := dk_25 4 (dk_at dksX0_replay_2 6 rfl rfl)
theorem dX0_replay_55 : decode cX0_replay 55 = .ok (.invokevirtual 176, 3) := dk_182 0 176 (dk_at dksX0_replay_2 8 rfl rfl)
theorem dX0_replay_58 : decode cX0_replay 58 = .ok (.ireturn, 1) := dk_172 (dk_at dksX0_replay_2 11 rfl rfl)
theorem dX0_replay_59 : decode cX0_replay 59 = .ok (.aload_n 0, 1) := dk_42 (dk_at dksX0_replay_2 12 rfl rfl)
theorem dX0_replay_60 : decode cX0_replay 60 = .ok (.getfield 104, 3) := dk_180 0 104 (dk_at dksX0_replay_2 13 rfl rfl)
theorem dX0_replay_63 : decode cX0_replay 63 = .ok (.getfield 236, 3) := dk_180 0 236 (dk_at dksX0_replay_2 16 rfl rfl)
theorem dX0_replay_66 : decode cX0_replay 66 = .ok (.iload_n 1, 1) := dk_27 (dk_at dksX0_replay_2 19 rfl rfl)
theorem dX0_replay_67 : decode cX0_replay 67 = .ok (.aaload, 1) := dk_50 (dk_at dksX0_replay_2 20 rfl rfl)
theorem dX0_replay_68 : decode cX0_replay 68 = .ok (.astore 4, 2) := dk_58 4 (dk_at dksX0_replay_2 21 rfl rfl)
theorem dX0_replay_70 : decode cX0_replay 70 = .ok (.aload_n 0, 1) := dk_42 (dk_at dksX0_replay_2 23 rfl rfl)
theorem dX0_replay_71 : decode cX0_replay 71 = .ok (.getfield 114, 3) := dk_180 0 114 (dk_at dksX0_replay_3 0 rfl rfl)
theorem dX0_replay_74 : decode cX0_replay 74 = .ok (.aload 4, 2) := dk_25 4 (dk_at dksX0_replay_3 3 rfl rfl)
theorem dX0_replay_76 : decode cX0_replay 76 = .ok (.getfield 302, 3) := dk_180 1 46 (dk_at dksX0_replay_3 5 rfl rfl)
theorem dX0_replay_79 : decode cX0_replay 79 = .ok (.aload 4, 2) := dk_25 4 (dk_at dksX0_replay_3 8 rfl rfl)
theorem dX0_replay_81 : decode cX0_replay 81 = .ok (.getfield 362, 3) := dk_180 1 106 (dk_at dksX0_replay_3 10 rfl rfl)
theorem dX0_replay_84 : decode cX0_replay 84 = .ok (.aload 4, 2) := dk_25 4 (dk_at dksX0_replay_3 13 rfl rfl)
theorem dX0_replay_86 : decode cX0_replay 86 = .ok (.getfield 365, 3) := dk_180 1 109 (dk_at dksX0_replay_3 15 rfl rfl)
theorem dX0_replay_89 : decode cX0_replay 89 = .ok (.aload 4, 2) := dk_25 4 (dk_at dksX0_replay_3 18 rfl rfl)
theorem dX0_replay_91 : decode cX0_replay 91 = .ok (.getfield 299, 3) := dk_180 1 43 (dk_at dksX0_replay_3 20 rfl rfl)
theorem dX0_replay_94 : decode cX0_replay 94 = .ok (.iload_n 2, 1) := dk_28 (dk_at dksX0_replay_3 23 rfl rfl)
theorem dX0_replay_95 : decode cX0_replay 95 = .ok (.invokevirtual 240, 3) := dk_182 0 240 (dk_at dksX0_replay_4 0 rfl rfl)
theorem dX0_replay_98 : decode cX0_replay 98 = .ok (.aload 4, 2) := dk_25 4 (dk_at dksX0_replay_4 3 rfl rfl)
theorem dX0_replay_100 : decode cX0_replay 100 = .ok (.getfield 299, 3) := dk_180 1 43 (dk_at dksX0_replay_4 5 rfl rfl)
theorem dX0_replay_103 : decode cX0_replay 103 = .ok (.istore 5, 2) := dk_54 5 (dk_at dksX0_replay_4 8 rfl rfl)
theorem dX0_replay_105 : decode cX0_replay 105 = .ok (.iload 5, 2) := dk_21 5 (dk_at dksX0_replay_4 10 rfl rfl)
theorem dX0_replay_107 : decode cX0_replay 107 = .ok (.aload_n 0, 1) := dk_42 (dk_at dksX0_replay_4 12 rfl rfl)
theorem dX0_replay_108 : decode cX0_replay 108 = .ok (.getfield 104, 3) := dk_180 0 104 (dk_at dksX0_replay_4 13 rfl rfl)
theorem dX0_replay_111 : decode cX0_replay 111 = .ok (.getfield 167, 3) := dk_180 0 167 (dk_at dksX0_replay_4 16 rfl rfl)
theorem dX0_replay_114 : decode cX0_replay 114 = .ok (.if_icmp .ge 39, 3) := dk_162 0 39 (dk_at dksX0_replay_4 19 rfl rfl)
theorem dX0_replay_117 : decode cX0_replay 117 = .ok (.aload_n 0, 1) := dk_42 (dk_at dksX0_replay_4 22 rfl rfl)
theorem dX0_replay_118 : decode cX0_replay 118 = .ok (.getfield 114, 3) := dk_180 0 114 (dk_at dksX0_replay_5 0 rfl rfl)
theorem dX0_replay_121 : decode cX0_replay 121 = .ok (.getfield 247, 3) := dk_180 0 247 (dk_at dksX0_replay_5 3 rfl rfl)
theorem dX0_replay_124 : decode cX0_replay 124 = .ok (.iconst 2, 1) := dk_5 (dk_at dksX0_replay_5 6 rfl rfl)
theorem dX0_replay_125 : decode cX0_replay 125 = .ok (.if_icmp .ge 28, 3) := dk_162 0 28 (dk_at dksX0_replay_5 7 rfl rfl)
theorem dX0_replay_128 : decode cX0_replay 128 = .ok (.aload_n 0, 1) := dk_42 (dk_at dksX0_replay_5 10 rfl rfl)
theorem dX0_replay_129 : decode cX0_replay 129 = .ok (.getfield 114, 3) := dk_180 0 114 (dk_at dksX0_replay_5 11 rfl rfl)
theorem dX0_replay_132 : decode cX0_replay 132 = .ok (.aload_n 0, 1) := dk_42 (dk_at dksX0_replay_5 14 rfl rfl)
theorem dX0_replay_133 : decode cX0_replay 133 = .ok (.getfield 120, 3) := dk_180 0 120 (dk_at dksX0_replay_5 15 rfl rfl)
theorem dX0_replay_136 : decode cX0_replay 136 = .ok (.iload_n 2, 1) := dk_28 (dk_at dksX0_replay_5 18 rfl rfl)
theorem dX0_replay_137 : decode cX0_replay 137 = .ok (.aaload, 1) := dk_50 (dk_at dksX0_replay_5 19 rfl rfl)
theorem dX0_replay_138 : decode cX0_replay 138 = .ok (.aload_n 0, 1) := dk_42 (dk_at dksX0_replay_5 20 rfl rfl)
theorem dX0_replay_139 : decode cX0_replay 139 = .ok (.getfield 104, 3) := dk_180 0 104 (dk_at dksX0_replay_5 21 rfl rfl)
theorem dX0_replay_142 : decode cX0_replay 142 = .ok (.iload 5, 2) := dk_21 5 (dk_at dksX0_replay_6 0 rfl rfl)
theorem dX0_replay_144 : decode cX0_replay 144 = .ok (.invokevirtual 269, 3) := dk_182 1 13 (dk_at dksX0_replay_6 2 rfl rfl)
theorem dX0_replay_147 : decode cX0_replay 147 = .ok (.iinc 5 1, 3) := dk_132 5 1 (dk_at dksX0_replay_6 5 rfl rfl)
theorem dX0_replay_150 : decode cX0_replay 150 = .ok (.goto (-45), 3) := dk_167 255 211 (dk_at dksX0_replay_6 8 rfl rfl)
theorem dX0_replay_153 : decode cX0_replay 153 = .ok (.iload_n 3, 1) := dk_29 (dk_at dksX0_replay_6 11 rfl rfl)
theorem dX0_replay_154 : decode cX0_replay 154 = .ok (.tableswitch 54 0 2 #[26, 38, 46], 26) := by decide +kernel
theorem dX0_replay_180 : decode cX0_replay 180 = .ok (.aload_n 0, 1) := dk_42 (dk_at dksX0_replay_8 0 rfl rfl)
theorem dX0_replay_181 : decode cX0_replay 181 = .ok (.getfield 114, 3) := dk_180 0 114 (dk_at dksX0_replay_8 1 rfl rfl)
theorem dX0_replay_184 : decode cX0_replay 184 = .ok (.aload_n 0, 1) := dk_42 (dk_at dksX0_replay_8 4 rfl rfl)
theorem dX0_replay_185 : decode cX0_replay 185 = .ok (.getfield 104, 3) := dk_180 0 104 (dk_at dksX0_replay_8 5 rfl rfl)
theorem dX0_replay_188 : decode cX0_replay 188 = .ok (.invokevirtual 283, 3) := dk_182 1 27 (dk_at dksX0_replay_8 8 rfl rfl)
theorem dX0_replay_191 : decode cX0_replay 191 = .ok (.ireturn, 1) := dk_172 (dk_at dksX0_replay_8 11 rfl rfl)
theorem dX0_replay_192 : decode cX0_replay 192 = .ok (.aload_n 0, 1) := dk_42 (dk_at dksX0_replay_8 12 rfl rfl)
theorem dX0_replay_193 : decode cX0_replay 193 = .ok (.getfield 114, 3) := dk_180 0 114 (dk_at dksX0_replay_8 13 rfl rfl)
theorem dX0_replay_196 : decode cX0_replay 196 = .ok (.invokevirtual 368, 3) := dk_182 1 112 (dk_at dksX0_replay_8 16 rfl rfl)
theorem dX0_replay_199 : decode cX0_replay 199 = .ok (.ireturn, 1) := dk_172 (dk_at dksX0_replay_8 19 rfl rfl)
theorem dX0_replay_200 : decode cX0_replay 200 = .ok (.aload_n 0, 1) := dk_42 (dk_at dksX0_replay_8 20 rfl rfl)
theorem dX0_replay_201 : decode cX0_replay 201 = .ok (.getfield 114, 3) := dk_180 0 114 (dk_at dksX0_replay_8 21 rfl rfl)
theorem dX0_replay_204 : decode cX0_replay 204 = .ok (.getfield 247, 3) := dk_180 0 247 (dk_at dksX0_replay_9 0 rfl rfl)
theorem dX0_replay_207 : decode cX0_replay 207 = .ok (.ireturn, 1) := dk_172 (dk_at dksX0_replay_9 3 rfl rfl)
theorem dX0_replay_208 : decode cX0_replay 208 = .ok (.aload_n 0, 1) := dk_42 (dk_at dksX0_replay_9 4 rfl rfl)
theorem dX0_replay_209 : decode cX0_replay 209 = .ok (.getfield 114, 3) := dk_180 0 114 (dk_at dksX0_replay_9 5 rfl rfl)
theorem dX0_replay_212 : decode cX0_replay 212 = .ok (.getfield 318, 3) := dk_180 1 62 (dk_at dksX0_replay_9 8 rfl rfl)
theorem dX0_replay_215 : decode cX0_replay 215 = .ok (.aload_n 0, 1) := dk_42 (dk_at dksX0_replay_9 11 rfl rfl)
theorem dX0_replay_216 : decode cX0_replay 216 = .ok (.getfield 104, 3) := dk_180 0 104 (dk_at dksX0_replay_9 12 rfl rfl)
theorem dX0_replay_219 : decode cX0_replay 219 = .ok (.getfield 173, 3) := dk_180 0 173 (dk_at dksX0_replay_9 15 rfl rfl)
theorem dX0_replay_222 : decode cX0_replay 222 = .ok (.iaload, 1) := dk_46 (dk_at dksX0_replay_9 18 rfl rfl)
theorem dX0_replay_223 : decode cX0_replay 223 = .ok (.ireturn, 1) := dk_172 (dk_at dksX0_replay_9 19 rfl rfl)
abbrev cX0_keep : ByteArray := prog_1_method_38_code
def yX0_keep : MethodName := ⟨RX0, "keep", "()Z"⟩
def dkwX0_keep_0 : List UInt8 := [42, 180, 0, 108, 42, 180, 0, 104, 182, 1, 115, 42, 4, 181, 1, 119, 4, 172]
abbrev dktX0_keep_0 : List UInt8 := dkwX0_keep_0 ++ []
theorem dksX0_keep_0 : cX0_keep.data.toList.drop 0 = dktX0_keep_0 := by decide +kernel
theorem dX0_keep_0 : decode cX0_keep 0 = .ok (.aload_n 0, 1) := dk_42 (dk_at dksX0_keep_0 0 rfl rfl)
theorem dX0_keep_1 : decode cX0_keep 1 = .ok (.getfield 108, 3) := dk_180 0 108 (dk_at dksX0_keep_0 1 rfl rfl)
theorem dX0_keep_4 : decode cX0_keep 4 = .ok (.aload_n 0, 1) := dk_42 (dk_at dksX0_keep_0 4 rfl rfl)
theorem dX0_keep_5 : decode cX0_keep 5 = .ok (.getfield 104, 3) := dk_180 0 104 (dk_at dksX0_keep_0 5 rfl rfl)
theorem dX0_keep_8 : decode cX0_keep 8 = .ok (.invokevirtual 371, 3) := dk_182 1 115 (dk_at dksX0_keep_0 8 rfl rfl)
theorem dX0_keep_11 : decode cX0_keep 11 = .ok (.aload_n 0, 1) := dk_42 (dk_at dksX0_keep_0 11 rfl rfl)
theorem dX0_keep_12 : decode cX0_keep 12 = .ok (.iconst 1, 1) := dk_4 (dk_at dksX0_keep_0 12 rfl rfl)
theorem dX0_keep_13 : decode cX0_keep 13 = .ok (.putfield 375, 3) := dk_181 1 119 (dk_at dksX0_keep_0 13 rfl rfl)
theorem dX0_keep_16 : decode cX0_keep 16 = .ok (.iconst 1, 1) := dk_4 (dk_at dksX0_keep_0 16 rfl rfl)
theorem dX0_keep_17 : decode cX0_keep 17 = .ok (.ireturn, 1) := dk_172 (dk_at dksX0_keep_0 17 rfl rfl)
abbrev cX0_back : ByteArray := prog_1_method_39_code
def yX0_back : MethodName := ⟨RX0, "back", "()Z"⟩
def dkwX0_back_1 : List UInt8 := [180, 0, 108, 182, 1, 115, 4, 172]
abbrev dktX0_back_1 : List UInt8 := dkwX0_back_1 ++ []
def dkwX0_back_0 : List UInt8 := [42, 182, 0, 164, 42, 180, 1, 119, 154, 0, 10, 42, 4, 181, 0, 144, 3, 172, 42, 180, 0, 104, 42]
abbrev dktX0_back_0 : List UInt8 := dkwX0_back_0 ++ dktX0_back_1
theorem dksX0_back_0 : cX0_back.data.toList.drop 0 = dktX0_back_0 := by decide +kernel
theorem dksX0_back_1 : cX0_back.data.toList.drop 23 = dktX0_back_1 := dk_seg dksX0_back_0 23 rfl rfl
theorem dX0_back_0 : decode cX0_back 0 = .ok (.aload_n 0, 1) := dk_42 (dk_at dksX0_back_0 0 rfl rfl)
theorem dX0_back_1 : decode cX0_back 1 = .ok (.invokevirtual 164, 3) := dk_182 0 164 (dk_at dksX0_back_0 1 rfl rfl)
theorem dX0_back_4 : decode cX0_back 4 = .ok (.aload_n 0, 1) := dk_42 (dk_at dksX0_back_0 4 rfl rfl)
theorem dX0_back_5 : decode cX0_back 5 = .ok (.getfield 375, 3) := dk_180 1 119 (dk_at dksX0_back_0 5 rfl rfl)
theorem dX0_back_8 : decode cX0_back 8 = .ok (.ifCond .ne 10, 3) := dk_154 0 10 (dk_at dksX0_back_0 8 rfl rfl)
theorem dX0_back_11 : decode cX0_back 11 = .ok (.aload_n 0, 1) := dk_42 (dk_at dksX0_back_0 11 rfl rfl)
theorem dX0_back_12 : decode cX0_back 12 = .ok (.iconst 1, 1) := dk_4 (dk_at dksX0_back_0 12 rfl rfl)
theorem dX0_back_13 : decode cX0_back 13 = .ok (.putfield 144, 3) := dk_181 0 144 (dk_at dksX0_back_0 13 rfl rfl)
theorem dX0_back_16 : decode cX0_back 16 = .ok (.iconst 0, 1) := dk_3 (dk_at dksX0_back_0 16 rfl rfl)
theorem dX0_back_17 : decode cX0_back 17 = .ok (.ireturn, 1) := dk_172 (dk_at dksX0_back_0 17 rfl rfl)
theorem dX0_back_18 : decode cX0_back 18 = .ok (.aload_n 0, 1) := dk_42 (dk_at dksX0_back_0 18 rfl rfl)
theorem dX0_back_19 : decode cX0_back 19 = .ok (.getfield 104, 3) := dk_180 0 104 (dk_at dksX0_back_0 19 rfl rfl)
theorem dX0_back_22 : decode cX0_back 22 = .ok (.aload_n 0, 1) := dk_42 (dk_at dksX0_back_0 22 rfl rfl)
theorem dX0_back_23 : decode cX0_back 23 = .ok (.getfield 108, 3) := dk_180 0 108 (dk_at dksX0_back_1 0 rfl rfl)
theorem dX0_back_26 : decode cX0_back 26 = .ok (.invokevirtual 371, 3) := dk_182 1 115 (dk_at dksX0_back_1 3 rfl rfl)
theorem dX0_back_29 : decode cX0_back 29 = .ok (.iconst 1, 1) := dk_4 (dk_at dksX0_back_1 6 rfl rfl)
theorem dX0_back_30 : decode cX0_back 30 = .ok (.ireturn, 1) := dk_172 (dk_at dksX0_back_1 7 rfl rfl)
abbrev cX0_law : ByteArray := prog_1_method_40_code
def yX0_law : MethodName := ⟨RX0, "law", "(II)I"⟩
def dkwX0_law_2 : List UInt8 := [4, 100, 182, 1, 74, 172]
abbrev dktX0_law_2 : List UInt8 := dkwX0_law_2 ++ []
def dkwX0_law_1 : List UInt8 := [172, 28, 154, 0, 15, 42, 180, 0, 126, 27, 50, 180, 1, 123, 167, 0, 15, 42, 180, 0, 126, 27, 50, 28]
abbrev dktX0_law_1 : List UInt8 := dkwX0_law_1 ++ dktX0_law_2
def dkwX0_law_0 : List UInt8 := [27, 3, 42, 180, 0, 216, 4, 100, 184, 0, 160, 153, 0, 12, 28, 3, 6, 184, 0, 160, 154, 0, 5, 2]
abbrev dktX0_law_0 : List UInt8 := dkwX0_law_0 ++ dktX0_law_1
theorem dksX0_law_0 : cX0_law.data.toList.drop 0 = dktX0_law_0 := by decide +kernel
theorem dksX0_law_1 : cX0_law.data.toList.drop 24 = dktX0_law_1 := dk_seg dksX0_law_0 24 rfl rfl
theorem dksX0_law_2 : cX0_law.data.toList.drop 48 = dktX0_law_2 := dk_seg dksX0_law_1 24 rfl rfl
theorem dX0_law_0 : decode cX0_law 0 = .ok (.iload_n 1, 1) := dk_27 (dk_at dksX0_law_0 0 rfl rfl)
theorem dX0_law_1 : decode cX0_law 1 = .ok (.iconst 0, 1) := dk_3 (dk_at dksX0_law_0 1 rfl rfl)
theorem dX0_law_2 : decode cX0_law 2 = .ok (.aload_n 0, 1) := dk_42 (dk_at dksX0_law_0 2 rfl rfl)
theorem dX0_law_3 : decode cX0_law 3 = .ok (.getfield 216, 3) := dk_180 0 216 (dk_at dksX0_law_0 3 rfl rfl)
theorem dX0_law_6 : decode cX0_law 6 = .ok (.iconst 1, 1) := dk_4 (dk_at dksX0_law_0 6 rfl rfl)
theorem dX0_law_7 : decode cX0_law 7 = .ok (.isub, 1) := dk_100 (dk_at dksX0_law_0 7 rfl rfl)
theorem dX0_law_8 : decode cX0_law 8 = .ok (.invokestatic 160, 3) := dk_184 0 160 (dk_at dksX0_law_0 8 rfl rfl)
theorem dX0_law_11 : decode cX0_law 11 = .ok (.ifCond .eq 12, 3) := dk_153 0 12 (dk_at dksX0_law_0 11 rfl rfl)
theorem dX0_law_14 : decode cX0_law 14 = .ok (.iload_n 2, 1) := dk_28 (dk_at dksX0_law_0 14 rfl rfl)
theorem dX0_law_15 : decode cX0_law 15 = .ok (.iconst 0, 1) := dk_3 (dk_at dksX0_law_0 15 rfl rfl)
theorem dX0_law_16 : decode cX0_law 16 = .ok (.iconst 3, 1) := dk_6 (dk_at dksX0_law_0 16 rfl rfl)
theorem dX0_law_17 : decode cX0_law 17 = .ok (.invokestatic 160, 3) := dk_184 0 160 (dk_at dksX0_law_0 17 rfl rfl)
theorem dX0_law_20 : decode cX0_law 20 = .ok (.ifCond .ne 5, 3) := dk_154 0 5 (dk_at dksX0_law_0 20 rfl rfl)
theorem dX0_law_23 : decode cX0_law 23 = .ok (.iconst (-1), 1) := dk_2 (dk_at dksX0_law_0 23 rfl rfl)
theorem dX0_law_24 : decode cX0_law 24 = .ok (.ireturn, 1) := dk_172 (dk_at dksX0_law_1 0 rfl rfl)
theorem dX0_law_25 : decode cX0_law 25 = .ok (.iload_n 2, 1) := dk_28 (dk_at dksX0_law_1 1 rfl rfl)
theorem dX0_law_26 : decode cX0_law 26 = .ok (.ifCond .ne 15, 3) := dk_154 0 15 (dk_at dksX0_law_1 2 rfl rfl)
theorem dX0_law_29 : decode cX0_law 29 = .ok (.aload_n 0, 1) := dk_42 (dk_at dksX0_law_1 5 rfl rfl)
theorem dX0_law_30 : decode cX0_law 30 = .ok (.getfield 126, 3) := dk_180 0 126 (dk_at dksX0_law_1 6 rfl rfl)
theorem dX0_law_33 : decode cX0_law 33 = .ok (.iload_n 1, 1) := dk_27 (dk_at dksX0_law_1 9 rfl rfl)
theorem dX0_law_34 : decode cX0_law 34 = .ok (.aaload, 1) := dk_50 (dk_at dksX0_law_1 10 rfl rfl)
theorem dX0_law_35 : decode cX0_law 35 = .ok (.getfield 379, 3) := dk_180 1 123 (dk_at dksX0_law_1 11 rfl rfl)
theorem dX0_law_38 : decode cX0_law 38 = .ok (.goto 15, 3) := dk_167 0 15 (dk_at dksX0_law_1 14 rfl rfl)
theorem dX0_law_41 : decode cX0_law 41 = .ok (.aload_n 0, 1) := dk_42 (dk_at dksX0_law_1 17 rfl rfl)
theorem dX0_law_42 : decode cX0_law 42 = .ok (.getfield 126, 3) := dk_180 0 126 (dk_at dksX0_law_1 18 rfl rfl)
theorem dX0_law_45 : decode cX0_law 45 = .ok (.iload_n 1, 1) := dk_27 (dk_at dksX0_law_1 21 rfl rfl)
theorem dX0_law_46 : decode cX0_law 46 = .ok (.aaload, 1) := dk_50 (dk_at dksX0_law_1 22 rfl rfl)
theorem dX0_law_47 : decode cX0_law 47 = .ok (.iload_n 2, 1) := dk_28 (dk_at dksX0_law_1 23 rfl rfl)
theorem dX0_law_48 : decode cX0_law 48 = .ok (.iconst 1, 1) := dk_4 (dk_at dksX0_law_2 0 rfl rfl)
theorem dX0_law_49 : decode cX0_law 49 = .ok (.isub, 1) := dk_100 (dk_at dksX0_law_2 1 rfl rfl)
theorem dX0_law_50 : decode cX0_law 50 = .ok (.invokevirtual 330, 3) := dk_182 1 74 (dk_at dksX0_law_2 2 rfl rfl)
theorem dX0_law_53 : decode cX0_law 53 = .ok (.ireturn, 1) := dk_172 (dk_at dksX0_law_2 5 rfl rfl)
abbrev cX0_planned : ByteArray := prog_1_method_41_code
def yX0_planned : MethodName := ⟨RX0, "planned", "(II)I"⟩
def dkwX0_planned_2 : List UInt8 := [42, 180, 0, 120, 27, 50, 180, 1, 126, 172, 42, 180, 0, 120, 27, 50, 182, 1, 127, 172, 2, 172]
abbrev dktX0_planned_2 : List UInt8 := dkwX0_planned_2 ++ []
def dkwX0_planned_1 : List UInt8 := [171, 0, 0, 0, 0, 0, 47, 0, 0, 0, 2, 0, 0, 0, 0, 0, 0, 0, 27, 0, 0, 0, 1, 0, 0, 0, 37]
abbrev dktX0_planned_1 : List UInt8 := dkwX0_planned_1 ++ dktX0_planned_2
def dkwX0_planned_0 : List UInt8 := [27, 3, 42, 180, 0, 209, 4, 100, 184, 0, 160, 154, 0, 5, 2, 172, 28]
abbrev dktX0_planned_0 : List UInt8 := dkwX0_planned_0 ++ dktX0_planned_1
theorem dksX0_planned_0 : cX0_planned.data.toList.drop 0 = dktX0_planned_0 := by decide +kernel
theorem dksX0_planned_1 : cX0_planned.data.toList.drop 17 = dktX0_planned_1 := dk_seg dksX0_planned_0 17 rfl rfl
theorem dksX0_planned_2 : cX0_planned.data.toList.drop 44 = dktX0_planned_2 := dk_seg dksX0_planned_1 27 rfl rfl
theorem dX0_planned_0 : decode cX0_planned 0 = .ok (.iload_n 1, 1) := dk_27 (dk_at dksX0_planned_0 0 rfl rfl)
theorem dX0_planned_1 : decode cX0_planned 1 = .ok (.iconst 0, 1) := dk_3 (dk_at dksX0_planned_0 1 rfl rfl)
theorem dX0_planned_2 : decode cX0_planned 2 = .ok (.aload_n 0, 1) := dk_42 (dk_at dksX0_planned_0 2 rfl rfl)
theorem dX0_planned_3 : decode cX0_planned 3 = .ok (.getfield 209, 3) := dk_180 0 209 (dk_at dksX0_planned_0 3 rfl rfl)
theorem dX0_planned_6 : decode cX0_planned 6 = .ok (.iconst 1, 1) := dk_4 (dk_at dksX0_planned_0 6 rfl rfl)
theorem dX0_planned_7 : decode cX0_planned 7 = .ok (.isub, 1) := dk_100 (dk_at dksX0_planned_0 7 rfl rfl)
theorem dX0_planned_8 : decode cX0_planned 8 = .ok (.invokestatic 160, 3) := dk_184 0 160 (dk_at dksX0_planned_0 8 rfl rfl)
theorem dX0_planned_11 : decode cX0_planned 11 = .ok (.ifCond .ne 5, 3) := dk_154 0 5 (dk_at dksX0_planned_0 11 rfl rfl)
theorem dX0_planned_14 : decode cX0_planned 14 = .ok (.iconst (-1), 1) := dk_2 (dk_at dksX0_planned_0 14 rfl rfl)
theorem dX0_planned_15 : decode cX0_planned 15 = .ok (.ireturn, 1) := dk_172 (dk_at dksX0_planned_0 15 rfl rfl)
theorem dX0_planned_16 : decode cX0_planned 16 = .ok (.iload_n 2, 1) := dk_28 (dk_at dksX0_planned_0 16 rfl rfl)
theorem dX0_planned_17 : decode cX0_planned 17 = .ok (.lookupswitch 47 #[(0, 27), (1, 37)], 27) := by decide +kernel
theorem dX0_planned_44 : decode cX0_planned 44 = .ok (.aload_n 0, 1) := dk_42 (dk_at dksX0_planned_2 0 rfl rfl)
theorem dX0_planned_45 : decode cX0_planned 45 = .ok (.getfield 120, 3) := dk_180 0 120 (dk_at dksX0_planned_2 1 rfl rfl)
theorem dX0_planned_48 : decode cX0_planned 48 = .ok (.iload_n 1, 1) := dk_27 (dk_at dksX0_planned_2 4 rfl rfl)
theorem dX0_planned_49 : decode cX0_planned 49 = .ok (.aaload, 1) := dk_50 (dk_at dksX0_planned_2 5 rfl rfl)
theorem dX0_planned_50 : decode cX0_planned 50 = .ok (.getfield 382, 3) := dk_180 1 126 (dk_at dksX0_planned_2 6 rfl rfl)
theorem dX0_planned_53 : decode cX0_planned 53 = .ok (.ireturn, 1) := dk_172 (dk_at dksX0_planned_2 9 rfl rfl)
theorem dX0_planned_54 : decode cX0_planned 54 = .ok (.aload_n 0, 1) := dk_42 (dk_at dksX0_planned_2 10 rfl rfl)
theorem dX0_planned_55 : decode cX0_planned 55 = .ok (.getfield 120, 3) := dk_180 0 120 (dk_at dksX0_planned_2 11 rfl rfl)
theorem dX0_planned_58 : decode cX0_planned 58 = .ok (.iload_n 1, 1) := dk_27 (dk_at dksX0_planned_2 14 rfl rfl)
theorem dX0_planned_59 : decode cX0_planned 59 = .ok (.aaload, 1) := dk_50 (dk_at dksX0_planned_2 15 rfl rfl)
theorem dX0_planned_60 : decode cX0_planned 60 = .ok (.invokevirtual 383, 3) := dk_182 1 127 (dk_at dksX0_planned_2 16 rfl rfl)
theorem dX0_planned_63 : decode cX0_planned 63 = .ok (.ireturn, 1) := dk_172 (dk_at dksX0_planned_2 19 rfl rfl)
theorem dX0_planned_64 : decode cX0_planned 64 = .ok (.iconst (-1), 1) := dk_2 (dk_at dksX0_planned_2 20 rfl rfl)
theorem dX0_planned_65 : decode cX0_planned 65 = .ok (.ireturn, 1) := dk_172 (dk_at dksX0_planned_2 21 rfl rfl)
abbrev cX0_count : ByteArray := prog_1_method_42_code
def yX0_count : MethodName := ⟨RX0, "count", "(I)I"⟩
def dkwX0_count_4 : List UInt8 := [172, 2, 172]
abbrev dktX0_count_4 : List UInt8 := dkwX0_count_4 ++ []
def dkwX0_count_3 : List UInt8 := [180, 0, 216, 172, 42, 180, 0, 104, 180, 0, 167, 172, 42, 180, 0, 104, 182, 1, 91, 172, 42, 180, 0, 189]
abbrev dktX0_count_3 : List UInt8 := dkwX0_count_3 ++ dktX0_count_4
def dkwX0_count_2 : List UInt8 := [42, 180, 0, 104, 180, 0, 173, 172, 42, 180, 0, 104, 180, 0, 157, 172, 42, 180, 0, 209, 172, 42]
abbrev dktX0_count_2 : List UInt8 := dkwX0_count_2 ++ dktX0_count_3
def dkwX0_count_1 : List UInt8 := [170, 0, 0, 0, 0, 0, 90, 0, 0, 0, 0, 0, 0, 0, 6, 0, 0, 0, 43, 0, 0, 0, 51, 0, 0, 0, 59, 0, 0, 0, 64, 0, 0, 0, 69, 0, 0, 0, 77, 0, 0, 0, 85]
abbrev dktX0_count_1 : List UInt8 := dkwX0_count_1 ++ dktX0_count_2
def dkwX0_count_0 : List UInt8 := [27]
abbrev dktX0_count_0 : List UInt8 := dkwX0_count_0 ++ dktX0_count_1
theorem dksX0_count_0 : cX0_count.data.toList.drop 0 = dktX0_count_0 := by decide +kernel
theorem dksX0_count_1 : cX0_count.data.toList.drop 1 = dktX0_count_1 := dk_seg dksX0_count_0 1 rfl rfl
theorem dksX0_count_2 : cX0_count.data.toList.drop 44 = dktX0_count_2 := dk_seg dksX0_count_1 43 rfl rfl
theorem dksX0_count_3 : cX0_count.data.toList.drop 66 = dktX0_count_3 := dk_seg dksX0_count_2 22 rfl rfl
theorem dksX0_count_4 : cX0_count.data.toList.drop 90 = dktX0_count_4 := dk_seg dksX0_count_3 24 rfl rfl
theorem dX0_count_0 : decode cX0_count 0 = .ok (.iload_n 1, 1) := dk_27 (dk_at dksX0_count_0 0 rfl rfl)
theorem dX0_count_1 : decode cX0_count 1 = .ok (.tableswitch 90 0 6 #[43, 51, 59, 64, 69, 77, 85], 43) := by decide +kernel
theorem dX0_count_44 : decode cX0_count 44 = .ok (.aload_n 0, 1) := dk_42 (dk_at dksX0_count_2 0 rfl rfl)
theorem dX0_count_45 : decode cX0_count 45 = .ok (.getfield 104, 3) := dk_180 0 104 (dk_at dksX0_count_2 1 rfl rfl)
theorem dX0_count_48 : decode cX0_count 48 = .ok (.getfield 173, 3) := dk_180 0 173 (dk_at dksX0_count_2 4 rfl rfl)
theorem dX0_count_51 : decode cX0_count 51 = .ok (.ireturn, 1) := dk_172 (dk_at dksX0_count_2 7 rfl rfl)
theorem dX0_count_52 : decode cX0_count 52 = .ok (.aload_n 0, 1) := dk_42 (dk_at dksX0_count_2 8 rfl rfl)
theorem dX0_count_53 : decode cX0_count 53 = .ok (.getfield 104, 3) := dk_180 0 104 (dk_at dksX0_count_2 9 rfl rfl)
theorem dX0_count_56 : decode cX0_count 56 = .ok (.getfield 157, 3) := dk_180 0 157 (dk_at dksX0_count_2 12 rfl rfl)
theorem dX0_count_59 : decode cX0_count 59 = .ok (.ireturn, 1) := dk_172 (dk_at dksX0_count_2 15 rfl rfl)
theorem dX0_count_60 : decode cX0_count 60 = .ok (.aload_n 0, 1) := dk_42 (dk_at dksX0_count_2 16 rfl rfl)
theorem dX0_count_61 : decode cX0_count 61 = .ok (.getfield 209, 3) := dk_180 0 209 (dk_at dksX0_count_2 17 rfl rfl)
theorem dX0_count_64 : decode cX0_count 64 = .ok (.ireturn, 1) := dk_172 (dk_at dksX0_count_2 20 rfl rfl)
theorem dX0_count_65 : decode cX0_count 65 = .ok (.aload_n 0, 1) := dk_42 (dk_at dksX0_count_2 21 rfl rfl)
theorem dX0_count_66 : decode cX0_count 66 = .ok (.getfield 216, 3) := dk_180 0 216 (dk_at dksX0_count_3 0 rfl rfl)
theorem dX0_count_69 : decode cX0_count 69 = .ok (.ireturn, 1) := dk_172 (dk_at dksX0_count_3 3 rfl rfl)
theorem dX0_count_70 : decode cX0_count 70 = .ok (.aload_n 0, 1) := dk_42 (dk_at dksX0_count_3 4 rfl rfl)
theorem dX0_count_71 : decode cX0_count 71 = .ok (.getfield 104, 3) := dk_180 0 104 (dk_at dksX0_count_3 5 rfl rfl)
theorem dX0_count_74 : decode cX0_count 74 = .ok (.getfield 167, 3) := dk_180 0 167 (dk_at dksX0_count_3 8 rfl rfl)
theorem dX0_count_77 : decode cX0_count 77 = .ok (.ireturn, 1) := dk_172 (dk_at dksX0_count_3 11 rfl rfl)
theorem dX0_count_78 : decode cX0_count 78 = .ok (.aload_n 0, 1) := dk_42 (dk_at dksX0_count_3 12 rfl rfl)
theorem dX0_count_79 : decode cX0_count 79 = .ok (.getfield 104, 3) := dk_180 0 104 (dk_at dksX0_count_3 13 rfl rfl)
theorem dX0_count_82 : decode cX0_count 82 = .ok (.invokevirtual 347, 3) := dk_182 1 91 (dk_at dksX0_count_3 16 rfl rfl)
theorem dX0_count_85 : decode cX0_count 85 = .ok (.ireturn, 1) := dk_172 (dk_at dksX0_count_3 19 rfl rfl)
theorem dX0_count_86 : decode cX0_count 86 = .ok (.aload_n 0, 1) := dk_42 (dk_at dksX0_count_3 20 rfl rfl)
theorem dX0_count_87 : decode cX0_count 87 = .ok (.getfield 189, 3) := dk_180 0 189 (dk_at dksX0_count_3 21 rfl rfl)
theorem dX0_count_90 : decode cX0_count 90 = .ok (.ireturn, 1) := dk_172 (dk_at dksX0_count_4 0 rfl rfl)
theorem dX0_count_91 : decode cX0_count 91 = .ok (.iconst (-1), 1) := dk_2 (dk_at dksX0_count_4 1 rfl rfl)
theorem dX0_count_92 : decode cX0_count 92 = .ok (.ireturn, 1) := dk_172 (dk_at dksX0_count_4 2 rfl rfl)
abbrev cX0_trouble : ByteArray := prog_1_method_43_code
def yX0_trouble : MethodName := ⟨RX0, "trouble", "()I"⟩
theorem dX0_trouble_0 : decode cX0_trouble 0 = .ok (.aload_n 0, 1) := by decide +kernel
theorem dX0_trouble_1 : decode cX0_trouble 1 = .ok (.getfield 144, 3) := by decide +kernel
theorem dX0_trouble_4 : decode cX0_trouble 4 = .ok (.ireturn, 1) := by decide +kernel
theorem q52 : (Jvm.Cond.initialized "SledHouse") ∈ lw_all := lw_g (lw_at lw_m1 1 rfl) rfl
theorem q80 : (Jvm.Cond.instantiable "SledHouse" (16 : Nat)) ∈ lw_all := lw_g (lw_at lw_m1 29 rfl) rfl
theorem q82 : (Jvm.Cond.instanceMethod ({ cls := "SledHouse", name := "<init>", desc := "()V" } : Jvm.MethodName)) ∈ lw_all := lw_g (lw_at lw_m1 31 rfl) rfl
theorem q83 : (Jvm.Cond.code ({ cls := "SledHouse", name := "<init>", desc := "()V" } : Jvm.MethodName) prog_1_method_4_code (1 : Nat) (Option.none : Option Jvm.ClassFile.FieldType)) ∈ lw_all := lw_g (lw_at lw_m1 32 rfl) rfl
theorem q84 : (Jvm.Cond.methodLink "SledHouse" (85 : Nat) ({ cls := "java/lang/Object", name := "<init>", desc := "()V" } : Jvm.MethodName)) ∈ lw_all := lw_g (lw_at lw_m1 33 rfl) rfl
theorem q87 : (Jvm.Cond.classLink "SledHouse" (44 : Nat) "SledHouse$Reader") ∈ lw_all := lw_g (lw_at lw_m1 36 rfl) rfl
theorem q89 : (Jvm.Cond.methodLink "SledHouse" (94 : Nat) ({ cls := "SledHouse$Reader", name := "<init>", desc := "([B)V" } : Jvm.MethodName)) ∈ lw_all := lw_g (lw_at lw_m1 38 rfl) rfl
theorem q146 : (Jvm.Cond.fieldLink "SledHouse" (151 : Nat) "SledHouse$Refused" "why" "I") ∈ lw_all := lw_g (lw_at lw_m1 95 rfl) rfl
theorem q148 : (Jvm.Cond.fieldLink "SledHouse" (212 : Nat) "SledHouse$Refused" "fault" "I") ∈ lw_all := lw_g (lw_at lw_m1 97 rfl) rfl
theorem q150 : (Jvm.Cond.fieldLink "SledHouse" (154 : Nat) "SledHouse$Refused" "place" "I") ∈ lw_all := lw_g (lw_at lw_m1 99 rfl) rfl
theorem q204 : (Jvm.Cond.classLink "SledHouse" (101 : Nat) "SledHouse$World") ∈ lw_all := lw_g (lw_at lw_m1 153 rfl) rfl
theorem q206 : (Jvm.Cond.methodLink "SledHouse" (103 : Nat) ({ cls := "SledHouse$World", name := "<init>", desc := "()V" } : Jvm.MethodName)) ∈ lw_all := lw_g (lw_at lw_m1 155 rfl) rfl
theorem q226 : (Jvm.Cond.fieldLink "SledHouse" (308 : Nat) "SledHouse$Dog" "strength" "I") ∈ lw_all := lw_g (lw_at lw_m1 175 rfl) rfl
theorem q229 : (Jvm.Cond.fieldLink "SledHouse" (313 : Nat) "SledHouse$Dog" "state" "I") ∈ lw_all := lw_g (lw_at lw_m1 178 rfl) rfl
theorem q231 : (Jvm.Cond.fieldLink "SledHouse" (314 : Nat) "SledHouse$Dog" "where" "I") ∈ lw_all := lw_g (lw_at lw_m1 180 rfl) rfl
theorem q241 : (Jvm.Cond.fieldLink "SledHouse" (305 : Nat) "SledHouse$Team" "dogs" "[LSledHouse$Dog;") ∈ lw_all := lw_g (lw_at lw_m1 190 rfl) rfl
theorem q243 : (Jvm.Cond.fieldLink "SledHouse" (302 : Nat) "SledHouse$Team" "many" "I") ∈ lw_all := lw_g (lw_at lw_m1 192 rfl) rfl
theorem q245 : (Jvm.Cond.fieldLink "SledHouse" (362 : Nat) "SledHouse$Team" "ownLoad" "I") ∈ lw_all := lw_g (lw_at lw_m1 194 rfl) rfl
theorem q247 : (Jvm.Cond.fieldLink "SledHouse" (365 : Nat) "SledHouse$Team" "ownMeals" "I") ∈ lw_all := lw_g (lw_at lw_m1 196 rfl) rfl
theorem q249 : (Jvm.Cond.fieldLink "SledHouse" (299 : Nat) "SledHouse$Team" "start" "I") ∈ lw_all := lw_g (lw_at lw_m1 198 rfl) rfl
theorem q251 : (Jvm.Cond.fieldLink "SledHouse" (250 : Nat) "SledHouse$Team" "plan" "I") ∈ lw_all := lw_g (lw_at lw_m1 200 rfl) rfl
theorem q254 : (Jvm.Cond.fieldLink "SledHouse" (247 : Nat) "SledHouse$Team" "state" "I") ∈ lw_all := lw_g (lw_at lw_m1 203 rfl) rfl
theorem q256 : (Jvm.Cond.fieldLink "SledHouse" (277 : Nat) "SledHouse$Team" "leg" "I") ∈ lw_all := lw_g (lw_at lw_m1 205 rfl) rfl
theorem q258 : (Jvm.Cond.fieldLink "SledHouse" (280 : Nat) "SledHouse$Team" "lengths" "I") ∈ lw_all := lw_g (lw_at lw_m1 207 rfl) rfl
theorem q260 : (Jvm.Cond.fieldLink "SledHouse" (293 : Nat) "SledHouse$Team" "meals" "I") ∈ lw_all := lw_g (lw_at lw_m1 209 rfl) rfl
theorem q262 : (Jvm.Cond.fieldLink "SledHouse" (295 : Nat) "SledHouse$Team" "run" "I") ∈ lw_all := lw_g (lw_at lw_m1 211 rfl) rfl
theorem q264 : (Jvm.Cond.fieldLink "SledHouse" (297 : Nat) "SledHouse$Team" "rest" "I") ∈ lw_all := lw_g (lw_at lw_m1 213 rfl) rfl
theorem q266 : (Jvm.Cond.fieldLink "SledHouse" (320 : Nat) "SledHouse$Team" "did" "I") ∈ lw_all := lw_g (lw_at lw_m1 215 rfl) rfl
theorem q269 : (Jvm.Cond.fieldLink "SledHouse" (318 : Nat) "SledHouse$Team" "in" "[I") ∈ lw_all := lw_g (lw_at lw_m1 218 rfl) rfl
theorem q272 : (Jvm.Cond.fieldLink "SledHouse" (315 : Nat) "SledHouse$Team" "away" "[I") ∈ lw_all := lw_g (lw_at lw_m1 221 rfl) rfl
theorem q274 : (Jvm.Cond.fieldLink "SledHouse" (344 : Nat) "SledHouse$Team" "signs" "[I") ∈ lw_all := lw_g (lw_at lw_m1 223 rfl) rfl
theorem q276 : (Jvm.Cond.fieldLink "SledHouse" (359 : Nat) "SledHouse$Team" "signMany" "I") ∈ lw_all := lw_g (lw_at lw_m1 225 rfl) rfl
theorem q278 : (Jvm.Cond.fieldLink "SledHouse" (256 : Nat) "SledHouse$Team" "gapFrom" "[I") ∈ lw_all := lw_g (lw_at lw_m1 227 rfl) rfl
theorem q280 : (Jvm.Cond.fieldLink "SledHouse" (259 : Nat) "SledHouse$Team" "gapTo" "[I") ∈ lw_all := lw_g (lw_at lw_m1 229 rfl) rfl
theorem q282 : (Jvm.Cond.fieldLink "SledHouse" (253 : Nat) "SledHouse$Team" "gaps" "I") ∈ lw_all := lw_g (lw_at lw_m1 231 rfl) rfl
theorem q326 : (Jvm.Cond.fieldLink "SledHouse" (180 : Nat) "SledHouse$World" "lengthOf" "[I") ∈ lw_all := lw_g (lw_at lw_m2 35 rfl) rfl
theorem q328 : (Jvm.Cond.fieldLink "SledHouse" (184 : Nat) "SledHouse$World" "hardnessOf" "[I") ∈ lw_all := lw_g (lw_at lw_m2 37 rfl) rfl
theorem q331 : (Jvm.Cond.fieldLink "SledHouse" (187 : Nat) "SledHouse$World" "cold" "[I") ∈ lw_all := lw_g (lw_at lw_m2 40 rfl) rfl
theorem q334 : (Jvm.Cond.fieldLink "SledHouse" (236 : Nat) "SledHouse$World" "teams" "[LSledHouse$Team;") ∈ lw_all := lw_g (lw_at lw_m2 43 rfl) rfl
theorem q337 : (Jvm.Cond.fieldLink "SledHouse" (173 : Nat) "SledHouse$World" "legMany" "I") ∈ lw_all := lw_g (lw_at lw_m2 46 rfl) rfl
theorem q340 : (Jvm.Cond.fieldLink "SledHouse" (157 : Nat) "SledHouse$World" "teamMany" "I") ∈ lw_all := lw_g (lw_at lw_m2 49 rfl) rfl
theorem q342 : (Jvm.Cond.fieldLink "SledHouse" (167 : Nat) "SledHouse$World" "steps" "I") ∈ lw_all := lw_g (lw_at lw_m2 51 rfl) rfl
theorem q345 : (Jvm.Cond.fieldLink "SledHouse" (262 : Nat) "SledHouse$World" "each" "I") ∈ lw_all := lw_g (lw_at lw_m2 54 rfl) rfl
theorem q363 : (Jvm.Cond.classLink "SledHouse" (111 : Nat) "SledHouse$Team") ∈ lw_all := lw_g (lw_at lw_m2 72 rfl) rfl
theorem q364 : (Jvm.Cond.methodLink "SledHouse" (113 : Nat) ({ cls := "SledHouse$Team", name := "<init>", desc := "()V" } : Jvm.MethodName)) ∈ lw_all := lw_g (lw_at lw_m2 73 rfl) rfl
theorem q365 : (Jvm.Cond.classLink "SledHouse" (118 : Nat) "SledHouse$Plan") ∈ lw_all := lw_g (lw_at lw_m2 74 rfl) rfl
theorem q367 : (Jvm.Cond.classLink "SledHouse" (124 : Nat) "SledHouse$Law") ∈ lw_all := lw_g (lw_at lw_m2 76 rfl) rfl
theorem q369 : (Jvm.Cond.classLink "SledHouse" (133 : Nat) "SledHouse$Refused") ∈ lw_all := lw_g (lw_at lw_m2 78 rfl) rfl
theorem q370 : (Jvm.Cond.methodLink "SledHouse" (135 : Nat) ({ cls := "SledHouse$Refused", name := "<init>", desc := "()V" } : Jvm.MethodName)) ∈ lw_all := lw_g (lw_at lw_m2 79 rfl) rfl
theorem q371 : (Jvm.Cond.fieldLink "SledHouse" (90 : Nat) "SledHouse" "tape" "[B") ∈ lw_all := lw_g (lw_at lw_m2 80 rfl) rfl
theorem q372 : (Jvm.Cond.fieldLink "SledHouse" (189 : Nat) "SledHouse" "taped" "I") ∈ lw_all := lw_g (lw_at lw_m2 81 rfl) rfl
theorem q373 : (Jvm.Cond.fieldLink "SledHouse" (97 : Nat) "SledHouse" "reader" "LSledHouse$Reader;") ∈ lw_all := lw_g (lw_at lw_m2 82 rfl) rfl
theorem q374 : (Jvm.Cond.fieldLink "SledHouse" (104 : Nat) "SledHouse" "now" "LSledHouse$World;") ∈ lw_all := lw_g (lw_at lw_m2 83 rfl) rfl
theorem q375 : (Jvm.Cond.fieldLink "SledHouse" (108 : Nat) "SledHouse" "kept" "LSledHouse$World;") ∈ lw_all := lw_g (lw_at lw_m2 84 rfl) rfl
theorem q376 : (Jvm.Cond.fieldLink "SledHouse" (114 : Nat) "SledHouse" "alone" "LSledHouse$Team;") ∈ lw_all := lw_g (lw_at lw_m2 85 rfl) rfl
theorem q377 : (Jvm.Cond.fieldLink "SledHouse" (375 : Nat) "SledHouse" "hasKept" "Z") ∈ lw_all := lw_g (lw_at lw_m2 86 rfl) rfl
theorem q378 : (Jvm.Cond.fieldLink "SledHouse" (120 : Nat) "SledHouse" "plans" "[LSledHouse$Plan;") ∈ lw_all := lw_g (lw_at lw_m2 87 rfl) rfl
theorem q379 : (Jvm.Cond.fieldLink "SledHouse" (126 : Nat) "SledHouse" "laws" "[LSledHouse$Law;") ∈ lw_all := lw_g (lw_at lw_m2 88 rfl) rfl
theorem q380 : (Jvm.Cond.fieldLink "SledHouse" (130 : Nat) "SledHouse" "fresh" "[LSledHouse$Law;") ∈ lw_all := lw_g (lw_at lw_m2 89 rfl) rfl
theorem q381 : (Jvm.Cond.fieldLink "SledHouse" (209 : Nat) "SledHouse" "planMany" "I") ∈ lw_all := lw_g (lw_at lw_m2 90 rfl) rfl
theorem q382 : (Jvm.Cond.fieldLink "SledHouse" (216 : Nat) "SledHouse" "lawMany" "I") ∈ lw_all := lw_g (lw_at lw_m2 91 rfl) rfl
theorem q383 : (Jvm.Cond.fieldLink "SledHouse" (136 : Nat) "SledHouse" "refused" "LSledHouse$Refused;") ∈ lw_all := lw_g (lw_at lw_m2 92 rfl) rfl
theorem q384 : (Jvm.Cond.fieldLink "SledHouse" (144 : Nat) "SledHouse" "trouble" "I") ∈ lw_all := lw_g (lw_at lw_m2 93 rfl) rfl
theorem q385 : (Jvm.Cond.fieldLink "SledHouse" (195 : Nat) "SledHouse" "fault" "I") ∈ lw_all := lw_g (lw_at lw_m2 94 rfl) rfl
theorem q386 : (Jvm.Cond.fieldLink "SledHouse" (140 : Nat) "SledHouse" "where" "I") ∈ lw_all := lw_g (lw_at lw_m2 95 rfl) rfl
theorem q387 : (Jvm.Cond.laysFinal "SledHouse" "SledHouse" "tape" "[B") ∈ lw_all := lw_g (lw_at lw_m2 96 rfl) rfl
theorem q388 : (Jvm.Cond.soleField "SledHouse" "tape") ∈ lw_all := lw_g (lw_at lw_m2 97 rfl) rfl
theorem q389 : (Jvm.Cond.lays "SledHouse" "SledHouse" "taped" "I") ∈ lw_all := lw_g (lw_at lw_m2 98 rfl) rfl
theorem q390 : (Jvm.Cond.soleField "SledHouse" "taped") ∈ lw_all := lw_g (lw_at lw_m2 99 rfl) rfl
theorem q391 : (Jvm.Cond.laysFinal "SledHouse" "SledHouse" "reader" "LSledHouse$Reader;") ∈ lw_all := lw_g (lw_at lw_m2 100 rfl) rfl
theorem q392 : (Jvm.Cond.soleField "SledHouse" "reader") ∈ lw_all := lw_g (lw_at lw_m2 101 rfl) rfl
theorem q393 : (Jvm.Cond.laysFinal "SledHouse" "SledHouse" "now" "LSledHouse$World;") ∈ lw_all := lw_g (lw_at lw_m2 102 rfl) rfl
theorem q394 : (Jvm.Cond.soleField "SledHouse" "now") ∈ lw_all := lw_g (lw_at lw_m2 103 rfl) rfl
theorem q395 : (Jvm.Cond.laysFinal "SledHouse" "SledHouse" "kept" "LSledHouse$World;") ∈ lw_all := lw_g (lw_at lw_m2 104 rfl) rfl
theorem q396 : (Jvm.Cond.soleField "SledHouse" "kept") ∈ lw_all := lw_g (lw_at lw_m2 105 rfl) rfl
theorem q397 : (Jvm.Cond.laysFinal "SledHouse" "SledHouse" "alone" "LSledHouse$Team;") ∈ lw_all := lw_g (lw_at lw_m2 106 rfl) rfl
theorem q398 : (Jvm.Cond.soleField "SledHouse" "alone") ∈ lw_all := lw_g (lw_at lw_m2 107 rfl) rfl
theorem q399 : (Jvm.Cond.lays "SledHouse" "SledHouse" "hasKept" "Z") ∈ lw_all := lw_g (lw_at lw_m2 108 rfl) rfl
theorem q400 : (Jvm.Cond.soleField "SledHouse" "hasKept") ∈ lw_all := lw_g (lw_at lw_m2 109 rfl) rfl
theorem q401 : (Jvm.Cond.laysFinal "SledHouse" "SledHouse" "plans" "[LSledHouse$Plan;") ∈ lw_all := lw_g (lw_at lw_m2 110 rfl) rfl
theorem q402 : (Jvm.Cond.soleField "SledHouse" "plans") ∈ lw_all := lw_g (lw_at lw_m2 111 rfl) rfl
theorem q403 : (Jvm.Cond.laysFinal "SledHouse" "SledHouse" "laws" "[LSledHouse$Law;") ∈ lw_all := lw_g (lw_at lw_m2 112 rfl) rfl
theorem q404 : (Jvm.Cond.soleField "SledHouse" "laws") ∈ lw_all := lw_g (lw_at lw_m2 113 rfl) rfl
theorem q405 : (Jvm.Cond.laysFinal "SledHouse" "SledHouse" "fresh" "[LSledHouse$Law;") ∈ lw_all := lw_g (lw_at lw_m2 114 rfl) rfl
theorem q406 : (Jvm.Cond.soleField "SledHouse" "fresh") ∈ lw_all := lw_g (lw_at lw_m2 115 rfl) rfl
theorem q407 : (Jvm.Cond.lays "SledHouse" "SledHouse" "planMany" "I") ∈ lw_all := lw_g (lw_at lw_m2 116 rfl) rfl
theorem q408 : (Jvm.Cond.soleField "SledHouse" "planMany") ∈ lw_all := lw_g (lw_at lw_m2 117 rfl) rfl
theorem q409 : (Jvm.Cond.lays "SledHouse" "SledHouse" "lawMany" "I") ∈ lw_all := lw_g (lw_at lw_m2 118 rfl) rfl
theorem q410 : (Jvm.Cond.soleField "SledHouse" "lawMany") ∈ lw_all := lw_g (lw_at lw_m2 119 rfl) rfl
theorem q411 : (Jvm.Cond.laysFinal "SledHouse" "SledHouse" "refused" "LSledHouse$Refused;") ∈ lw_all := lw_g (lw_at lw_m2 120 rfl) rfl
theorem q412 : (Jvm.Cond.soleField "SledHouse" "refused") ∈ lw_all := lw_g (lw_at lw_m2 121 rfl) rfl
theorem q413 : (Jvm.Cond.lays "SledHouse" "SledHouse" "trouble" "I") ∈ lw_all := lw_g (lw_at lw_m2 122 rfl) rfl
theorem q414 : (Jvm.Cond.soleField "SledHouse" "trouble") ∈ lw_all := lw_g (lw_at lw_m2 123 rfl) rfl
theorem q415 : (Jvm.Cond.lays "SledHouse" "SledHouse" "fault" "I") ∈ lw_all := lw_g (lw_at lw_m2 124 rfl) rfl
theorem q416 : (Jvm.Cond.soleField "SledHouse" "fault") ∈ lw_all := lw_g (lw_at lw_m2 125 rfl) rfl
theorem q417 : (Jvm.Cond.lays "SledHouse" "SledHouse" "where" "I") ∈ lw_all := lw_g (lw_at lw_m2 126 rfl) rfl
theorem q418 : (Jvm.Cond.soleField "SledHouse" "where") ∈ lw_all := lw_g (lw_at lw_m2 127 rfl) rfl
theorem q419 : (Jvm.Cond.superclass "SledHouse" "java/lang/Object") ∈ lw_all := lw_g (lw_at lw_m2 128 rfl) rfl
theorem q421 : (Jvm.Cond.instanceMethod ({ cls := "SledHouse", name := "leg", desc := "(II)I" } : Jvm.MethodName)) ∈ lw_all := lw_g (lw_at lw_m2 130 rfl) rfl
theorem q422 : (Jvm.Cond.selects "SledHouse" ({ cls := "SledHouse", name := "leg", desc := "(II)I" } : Jvm.MethodName) ({ cls := "SledHouse", name := "leg", desc := "(II)I" } : Jvm.MethodName)) ∈ lw_all := lw_g (lw_at lw_m2 131 rfl) rfl
theorem q423 : (Jvm.Cond.codeWith ({ cls := "SledHouse", name := "leg", desc := "(II)I" } : Jvm.MethodName) prog_1_method_10_code (4 : Nat) (Option.some Jvm.ClassFile.FieldType.int) [((4 : Nat), (80 : Nat), (83 : Nat), (133 : Nat))]) ∈ lw_all := lw_g (lw_at lw_m2 132 rfl) rfl
theorem q424 : (Jvm.Cond.methodLink "SledHouse" (164 : Nat) ({ cls := "SledHouse", name := "begins", desc := "()V" } : Jvm.MethodName)) ∈ lw_all := lw_g (lw_at lw_m2 133 rfl) rfl
theorem q425 : (Jvm.Cond.privateMethod ({ cls := "SledHouse", name := "begins", desc := "()V" } : Jvm.MethodName)) ∈ lw_tbl := lw_at lw_m2 134 rfl
theorem q426 : (Jvm.Cond.instanceMethod ({ cls := "SledHouse", name := "begins", desc := "()V" } : Jvm.MethodName)) ∈ lw_all := lw_g (lw_at lw_m2 135 rfl) rfl
theorem q427 : (Jvm.Cond.code ({ cls := "SledHouse", name := "begins", desc := "()V" } : Jvm.MethodName) prog_1_method_5_code (1 : Nat) (Option.none : Option Jvm.ClassFile.FieldType)) ∈ lw_all := lw_g (lw_at lw_m2 136 rfl) rfl
theorem q428 : (Jvm.Cond.methodLink "SledHouse" (170 : Nat) ({ cls := "SledHouse", name := "must", desc := "(ZI)V" } : Jvm.MethodName)) ∈ lw_all := lw_g (lw_at lw_m2 137 rfl) rfl
theorem q429 : (Jvm.Cond.privateMethod ({ cls := "SledHouse", name := "must", desc := "(ZI)V" } : Jvm.MethodName)) ∈ lw_tbl := lw_at lw_m2 138 rfl
theorem q430 : (Jvm.Cond.instanceMethod ({ cls := "SledHouse", name := "must", desc := "(ZI)V" } : Jvm.MethodName)) ∈ lw_all := lw_g (lw_at lw_m2 139 rfl) rfl
theorem q431 : (Jvm.Cond.code ({ cls := "SledHouse", name := "must", desc := "(ZI)V" } : Jvm.MethodName) prog_1_method_6_code (3 : Nat) (Option.none : Option Jvm.ClassFile.FieldType)) ∈ lw_all := lw_g (lw_at lw_m2 140 rfl) rfl
theorem q432 : (Jvm.Cond.methodLink "SledHouse" (147 : Nat) ({ cls := "SledHouse$Refused", name := "by", desc := "(I)LSledHouse$Refused;" } : Jvm.MethodName)) ∈ lw_all := lw_g (lw_at lw_m2 141 rfl) rfl
theorem q436 : (Jvm.Cond.methodLink "SledHouse" (160 : Nat) ({ cls := "SledHouse", name := "in", desc := "(III)Z" } : Jvm.MethodName)) ∈ lw_all := lw_g (lw_at lw_m2 145 rfl) rfl
theorem q437 : (Jvm.Cond.static ({ cls := "SledHouse", name := "in", desc := "(III)Z" } : Jvm.MethodName)) ∈ lw_all := lw_g (lw_at lw_m2 146 rfl) rfl
theorem q438 : (Jvm.Cond.code ({ cls := "SledHouse", name := "in", desc := "(III)Z" } : Jvm.MethodName) prog_1_method_8_code (3 : Nat) (Option.some Jvm.ClassFile.FieldType.boolean)) ∈ lw_all := lw_g (lw_at lw_m2 147 rfl) rfl
theorem q439 : (Jvm.Cond.methodLink "SledHouse" (176 : Nat) ({ cls := "SledHouse", name := "refuses", desc := "(LSledHouse$Refused;)I" } : Jvm.MethodName)) ∈ lw_all := lw_g (lw_at lw_m2 148 rfl) rfl
theorem q440 : (Jvm.Cond.privateMethod ({ cls := "SledHouse", name := "refuses", desc := "(LSledHouse$Refused;)I" } : Jvm.MethodName)) ∈ lw_tbl := lw_at lw_m2 149 rfl
theorem q441 : (Jvm.Cond.instanceMethod ({ cls := "SledHouse", name := "refuses", desc := "(LSledHouse$Refused;)I" } : Jvm.MethodName)) ∈ lw_all := lw_g (lw_at lw_m2 150 rfl) rfl
theorem q442 : (Jvm.Cond.code ({ cls := "SledHouse", name := "refuses", desc := "(LSledHouse$Refused;)I" } : Jvm.MethodName) prog_1_method_7_code (2 : Nat) (Option.some Jvm.ClassFile.FieldType.int)) ∈ lw_all := lw_g (lw_at lw_m2 151 rfl) rfl
theorem q444 : (Jvm.Cond.instanceMethod ({ cls := "SledHouse", name := "cold", desc := "(III)Z" } : Jvm.MethodName)) ∈ lw_all := lw_g (lw_at lw_m2 153 rfl) rfl
theorem q445 : (Jvm.Cond.selects "SledHouse" ({ cls := "SledHouse", name := "cold", desc := "(III)Z" } : Jvm.MethodName) ({ cls := "SledHouse", name := "cold", desc := "(III)Z" } : Jvm.MethodName)) ∈ lw_all := lw_g (lw_at lw_m2 154 rfl) rfl
theorem q446 : (Jvm.Cond.code ({ cls := "SledHouse", name := "cold", desc := "(III)Z" } : Jvm.MethodName) prog_1_method_11_code (5 : Nat) (Option.some Jvm.ClassFile.FieldType.boolean)) ∈ lw_all := lw_g (lw_at lw_m2 155 rfl) rfl
theorem q448 : (Jvm.Cond.instanceMethod ({ cls := "SledHouse", name := "feed", desc := "(IIIII)I" } : Jvm.MethodName)) ∈ lw_all := lw_g (lw_at lw_m2 157 rfl) rfl
theorem q449 : (Jvm.Cond.selects "SledHouse" ({ cls := "SledHouse", name := "feed", desc := "(IIIII)I" } : Jvm.MethodName) ({ cls := "SledHouse", name := "feed", desc := "(IIIII)I" } : Jvm.MethodName)) ∈ lw_all := lw_g (lw_at lw_m2 158 rfl) rfl
theorem q450 : (Jvm.Cond.code ({ cls := "SledHouse", name := "feed", desc := "(IIIII)I" } : Jvm.MethodName) prog_1_method_12_code (6 : Nat) (Option.some Jvm.ClassFile.FieldType.int)) ∈ lw_all := lw_g (lw_at lw_m2 159 rfl) rfl
theorem q451 : (Jvm.Cond.methodLink "SledHouse" (192 : Nat) ({ cls := "SledHouse", name := "word", desc := "(I)V" } : Jvm.MethodName)) ∈ lw_all := lw_g (lw_at lw_m2 160 rfl) rfl
theorem q452 : (Jvm.Cond.privateMethod ({ cls := "SledHouse", name := "word", desc := "(I)V" } : Jvm.MethodName)) ∈ lw_tbl := lw_at lw_m2 161 rfl
theorem q453 : (Jvm.Cond.instanceMethod ({ cls := "SledHouse", name := "word", desc := "(I)V" } : Jvm.MethodName)) ∈ lw_all := lw_g (lw_at lw_m2 162 rfl) rfl
theorem q454 : (Jvm.Cond.code ({ cls := "SledHouse", name := "word", desc := "(I)V" } : Jvm.MethodName) prog_1_method_13_code (3 : Nat) (Option.none : Option Jvm.ClassFile.FieldType)) ∈ lw_all := lw_g (lw_at lw_m2 163 rfl) rfl
theorem q456 : (Jvm.Cond.instanceMethod ({ cls := "SledHouse", name := "plan", desc := "(I)I" } : Jvm.MethodName)) ∈ lw_all := lw_g (lw_at lw_m2 165 rfl) rfl
theorem q457 : (Jvm.Cond.selects "SledHouse" ({ cls := "SledHouse", name := "plan", desc := "(I)I" } : Jvm.MethodName) ({ cls := "SledHouse", name := "plan", desc := "(I)I" } : Jvm.MethodName)) ∈ lw_all := lw_g (lw_at lw_m2 166 rfl) rfl
theorem q458 : (Jvm.Cond.codeWith ({ cls := "SledHouse", name := "plan", desc := "(I)I" } : Jvm.MethodName) prog_1_method_15_code (4 : Nat) (Option.some Jvm.ClassFile.FieldType.int) [((18 : Nat), (45 : Nat), (48 : Nat), (133 : Nat))]) ∈ lw_all := lw_g (lw_at lw_m2 167 rfl) rfl
theorem q459 : (Jvm.Cond.methodLink "SledHouse" (201 : Nat) ({ cls := "SledHouse", name := "takes", desc := "(I)Z" } : Jvm.MethodName)) ∈ lw_all := lw_g (lw_at lw_m2 168 rfl) rfl
theorem q460 : (Jvm.Cond.privateMethod ({ cls := "SledHouse", name := "takes", desc := "(I)Z" } : Jvm.MethodName)) ∈ lw_tbl := lw_at lw_m2 169 rfl
theorem q461 : (Jvm.Cond.instanceMethod ({ cls := "SledHouse", name := "takes", desc := "(I)Z" } : Jvm.MethodName)) ∈ lw_all := lw_g (lw_at lw_m2 170 rfl) rfl
theorem q462 : (Jvm.Cond.code ({ cls := "SledHouse", name := "takes", desc := "(I)Z" } : Jvm.MethodName) prog_1_method_14_code (2 : Nat) (Option.some Jvm.ClassFile.FieldType.boolean)) ∈ lw_all := lw_g (lw_at lw_m2 171 rfl) rfl
theorem q463 : (Jvm.Cond.methodLink "SledHouse" (198 : Nat) ({ cls := "SledHouse$Reader", name := "begin", desc := "(I)V" } : Jvm.MethodName)) ∈ lw_all := lw_g (lw_at lw_m2 172 rfl) rfl
theorem q561 : (Jvm.Cond.methodLinkNest "SledHouse" (204 : Nat) ({ cls := "SledHouse$Plan", name := "<init>", desc := "()V" } : Jvm.MethodName) "SledHouse") ∈ lw_tbl := lw_at lw_m3 30 rfl
theorem q570 : (Jvm.Cond.fieldLinkNest "SledHouse" (382 : Nat) "SledHouse$Plan" "many" "I" "SledHouse") ∈ lw_tbl := lw_at lw_m3 39 rfl
theorem q576 : (Jvm.Cond.methodLink "SledHouse" (205 : Nat) ({ cls := "SledHouse$Plan", name := "read", desc := "(LSledHouse$Reader;)V" } : Jvm.MethodName)) ∈ lw_all := lw_g (lw_at lw_m3 45 rfl) rfl
theorem q594 : (Jvm.Cond.static ({ cls := "SledHouse", name := "actOf", desc := "(Ljava/lang/String;)I" } : Jvm.MethodName)) ∈ lw_all := lw_g (lw_at lw_m3 63 rfl) rfl
theorem q595 : (Jvm.Cond.code ({ cls := "SledHouse", name := "actOf", desc := "(Ljava/lang/String;)I" } : Jvm.MethodName) prog_1_method_1_code (3 : Nat) (Option.some Jvm.ClassFile.FieldType.int)) ∈ lw_all := lw_g (lw_at lw_m3 64 rfl) rfl
theorem q596 : (Jvm.Cond.methodLink "SledHouse" (1 : Nat) ({ cls := "java/lang/String", name := "hashCode", desc := "()I" } : Jvm.MethodName)) ∈ lw_all := lw_g (lw_at lw_m3 65 rfl) rfl
theorem q649 : (Jvm.Cond.stringRef "SledHouse" (7 : Nat) "go") ∈ lw_tbl := lw_at lw_m3 118 rfl
theorem q650 : (Jvm.Cond.methodLink "SledHouse" (9 : Nat) ({ cls := "java/lang/String", name := "equals", desc := "(Ljava/lang/Object;)Z" } : Jvm.MethodName)) ∈ lw_all := lw_g (lw_at lw_m3 119 rfl) rfl
theorem q651 : (Jvm.Cond.stringRef "SledHouse" (13 : Nat) "stay") ∈ lw_tbl := lw_at lw_m3 120 rfl
theorem q652 : (Jvm.Cond.stringRef "SledHouse" (15 : Nat) "feed") ∈ lw_tbl := lw_at lw_m3 121 rfl
theorem q653 : (Jvm.Cond.stringRef "SledHouse" (17 : Nat) "leave") ∈ lw_tbl := lw_at lw_m3 122 rfl
theorem q698 : (Jvm.Cond.static ({ cls := "SledHouse", name := "nameOf", desc := "(Ljava/lang/String;)I" } : Jvm.MethodName)) ∈ lw_all := lw_g (lw_at lw_m3 167 rfl) rfl
theorem q699 : (Jvm.Cond.code ({ cls := "SledHouse", name := "nameOf", desc := "(Ljava/lang/String;)I" } : Jvm.MethodName) prog_1_method_2_code (3 : Nat) (Option.some Jvm.ClassFile.FieldType.int)) ∈ lw_all := lw_g (lw_at lw_m3 168 rfl) rfl
theorem q700 : (Jvm.Cond.stringRef "SledHouse" (21 : Nat) "run") ∈ lw_tbl := lw_at lw_m3 169 rfl
theorem q701 : (Jvm.Cond.stringRef "SledHouse" (23 : Nat) "rest") ∈ lw_tbl := lw_at lw_m3 170 rfl
theorem q702 : (Jvm.Cond.stringRef "SledHouse" (25 : Nat) "weak") ∈ lw_tbl := lw_at lw_m3 171 rfl
theorem q703 : (Jvm.Cond.stringRef "SledHouse" (27 : Nat) "mean") ∈ lw_tbl := lw_at lw_m3 172 rfl
theorem q704 : (Jvm.Cond.stringRef "SledHouse" (29 : Nat) "cold") ∈ lw_tbl := lw_at lw_m3 173 rfl
theorem q705 : (Jvm.Cond.stringRef "SledHouse" (31 : Nat) "meals") ∈ lw_tbl := lw_at lw_m3 174 rfl
theorem q706 : (Jvm.Cond.stringRef "SledHouse" (33 : Nat) "dogs") ∈ lw_tbl := lw_at lw_m3 175 rfl
theorem q707 : (Jvm.Cond.stringRef "SledHouse" (35 : Nat) "left") ∈ lw_tbl := lw_at lw_m3 176 rfl
theorem q708 : (Jvm.Cond.stringRef "SledHouse" (37 : Nat) "hour") ∈ lw_tbl := lw_at lw_m3 177 rfl
theorem q709 : (Jvm.Cond.stringRef "SledHouse" (39 : Nat) "post") ∈ lw_tbl := lw_at lw_m3 178 rfl
theorem q710 : (Jvm.Cond.stringRef "SledHouse" (41 : Nat) "load") ∈ lw_tbl := lw_at lw_m3 179 rfl
theorem q748 : (Jvm.Cond.instanceMethod ({ cls := "SledHouse", name := "laws", desc := "(I)I" } : Jvm.MethodName)) ∈ lw_all := lw_g (lw_at lw_m3 217 rfl) rfl
theorem q749 : (Jvm.Cond.selects "SledHouse" ({ cls := "SledHouse", name := "laws", desc := "(I)I" } : Jvm.MethodName) ({ cls := "SledHouse", name := "laws", desc := "(I)I" } : Jvm.MethodName)) ∈ lw_all := lw_g (lw_at lw_m3 218 rfl) rfl
theorem q750 : (Jvm.Cond.codeWith ({ cls := "SledHouse", name := "laws", desc := "(I)I" } : Jvm.MethodName) prog_1_method_16_code (5 : Nat) (Option.some Jvm.ClassFile.FieldType.int) [((12 : Nat), (126 : Nat), (129 : Nat), (133 : Nat))]) ∈ lw_all := lw_g (lw_at lw_m3 219 rfl) rfl
theorem q751 : (Jvm.Cond.methodLink "SledHouse" (213 : Nat) ({ cls := "SledHouse$Reader", name := "isWord", desc := "(Ljava/lang/String;)Z" } : Jvm.MethodName)) ∈ lw_all := lw_g (lw_at lw_m3 220 rfl) rfl
theorem q752 : (Jvm.Cond.stringRef "SledHouse" (78 : Nat) "fine") ∈ lw_tbl := lw_at lw_m3 221 rfl
theorem q753 : (Jvm.Cond.methodLink "SledHouse" (219 : Nat) ({ cls := "SledHouse$Reader", name := "fail", desc := "(I)LSledHouse$Refused;" } : Jvm.MethodName)) ∈ lw_all := lw_g (lw_at lw_m3 222 rfl) rfl
theorem q754 : (Jvm.Cond.methodLink "SledHouse" (222 : Nat) ({ cls := "SledHouse", name := "lawOf", desc := "(LSledHouse$Reader;)LSledHouse$Law;" } : Jvm.MethodName)) ∈ lw_all := lw_g (lw_at lw_m3 223 rfl) rfl
theorem q755 : (Jvm.Cond.static ({ cls := "SledHouse", name := "lawOf", desc := "(LSledHouse$Reader;)LSledHouse$Law;" } : Jvm.MethodName)) ∈ lw_all := lw_g (lw_at lw_m3 224 rfl) rfl
theorem q756 : (Jvm.Cond.code ({ cls := "SledHouse", name := "lawOf", desc := "(LSledHouse$Reader;)LSledHouse$Law;" } : Jvm.MethodName) prog_1_method_3_code (3 : Nat) (Option.some (Jvm.ClassFile.FieldType.object "SledHouse$Law"))) ∈ lw_all := lw_g (lw_at lw_m3 225 rfl) rfl
theorem q757 : (Jvm.Cond.methodLink "SledHouse" (43 : Nat) ({ cls := "SledHouse$Reader", name := "takes", desc := "(Ljava/lang/String;)Z" } : Jvm.MethodName)) ∈ lw_all := lw_g (lw_at lw_m3 226 rfl) rfl
theorem q758 : (Jvm.Cond.methodLink "SledHouse" (49 : Nat) ({ cls := "SledHouse$Reader", name := "number", desc := "()I" } : Jvm.MethodName)) ∈ lw_all := lw_g (lw_at lw_m3 227 rfl) rfl
theorem q759 : (Jvm.Cond.stringRef "SledHouse" (52 : Nat) "at") ∈ lw_tbl := lw_at lw_m3 228 rfl
theorem q760 : (Jvm.Cond.classLink "SledHouse" (54 : Nat) "SledHouse$RestAt") ∈ lw_all := lw_g (lw_at lw_m3 229 rfl) rfl
theorem q762 : (Jvm.Cond.methodLink "SledHouse" (56 : Nat) ({ cls := "SledHouse$RestAt", name := "<init>", desc := "(II)V" } : Jvm.MethodName)) ∈ lw_all := lw_g (lw_at lw_m3 231 rfl) rfl
theorem q776 : (Jvm.Cond.fieldLink "SledHouse" (379 : Nat) "SledHouse$Law" "kind" "I") ∈ lw_all := lw_g (lw_at lw_m4 5 rfl) rfl
theorem q786 : (Jvm.Cond.stringRef "SledHouse" (60 : Nat) "from") ∈ lw_tbl := lw_at lw_m4 15 rfl
theorem q787 : (Jvm.Cond.methodLink "SledHouse" (62 : Nat) ({ cls := "SledHouse$Reader", name := "must", desc := "(Ljava/lang/String;)V" } : Jvm.MethodName)) ∈ lw_all := lw_g (lw_at lw_m4 16 rfl) rfl
theorem q792 : (Jvm.Cond.stringRef "SledHouse" (66 : Nat) "to") ∈ lw_tbl := lw_at lw_m4 21 rfl
theorem q793 : (Jvm.Cond.classLink "SledHouse" (68 : Nat) "SledHouse$RestFrom") ∈ lw_all := lw_g (lw_at lw_m4 22 rfl) rfl
theorem q795 : (Jvm.Cond.methodLink "SledHouse" (70 : Nat) ({ cls := "SledHouse$RestFrom", name := "<init>", desc := "(III)V" } : Jvm.MethodName)) ∈ lw_all := lw_g (lw_at lw_m4 24 rfl) rfl
theorem q804 : (Jvm.Cond.classLink "SledHouse" (73 : Nat) "SledHouse$LeastDogs") ∈ lw_all := lw_g (lw_at lw_m4 33 rfl) rfl
theorem q806 : (Jvm.Cond.methodLink "SledHouse" (75 : Nat) ({ cls := "SledHouse$LeastDogs", name := "<init>", desc := "(I)V" } : Jvm.MethodName)) ∈ lw_all := lw_g (lw_at lw_m4 35 rfl) rfl
theorem q815 : (Jvm.Cond.stringRef "SledHouse" (80 : Nat) "for") ∈ lw_tbl := lw_at lw_m4 44 rfl
theorem q816 : (Jvm.Cond.classLink "SledHouse" (82 : Nat) "SledHouse$Fine") ∈ lw_all := lw_g (lw_at lw_m4 45 rfl) rfl
theorem q818 : (Jvm.Cond.methodLink "SledHouse" (84 : Nat) ({ cls := "SledHouse$Fine", name := "<init>", desc := "(II)V" } : Jvm.MethodName)) ∈ lw_all := lw_g (lw_at lw_m4 47 rfl) rfl
theorem q830 : (Jvm.Cond.methodLink "SledHouse" (226 : Nat) ({ cls := "SledHouse$Reader", name := "takes", desc := "(I)Z" } : Jvm.MethodName)) ∈ lw_all := lw_g (lw_at lw_m4 59 rfl) rfl
theorem q831 : (Jvm.Cond.methodLink "SledHouse" (227 : Nat) ({ cls := "SledHouse$Reader", name := "mustEnd", desc := "()V" } : Jvm.MethodName)) ∈ lw_all := lw_g (lw_at lw_m4 60 rfl) rfl
theorem q832 : (Jvm.Cond.methodLink "SledHouse" (230 : Nat) ({ cls := "java/lang/System", name := "arraycopy", desc := "(Ljava/lang/Object;ILjava/lang/Object;II)V" } : Jvm.MethodName)) ∈ lw_all := lw_g (lw_at lw_m4 61 rfl) rfl
theorem q836 : (Jvm.Cond.instanceMethod ({ cls := "SledHouse", name := "fault", desc := "()I" } : Jvm.MethodName)) ∈ lw_all := lw_g (lw_at lw_m4 65 rfl) rfl
theorem q837 : (Jvm.Cond.selects "SledHouse" ({ cls := "SledHouse", name := "fault", desc := "()I" } : Jvm.MethodName) ({ cls := "SledHouse", name := "fault", desc := "()I" } : Jvm.MethodName)) ∈ lw_all := lw_g (lw_at lw_m4 66 rfl) rfl
theorem q838 : (Jvm.Cond.code ({ cls := "SledHouse", name := "fault", desc := "()I" } : Jvm.MethodName) prog_1_method_17_code (1 : Nat) (Option.some Jvm.ClassFile.FieldType.int)) ∈ lw_all := lw_g (lw_at lw_m4 67 rfl) rfl
theorem q840 : (Jvm.Cond.instanceMethod ({ cls := "SledHouse", name := "where", desc := "()I" } : Jvm.MethodName)) ∈ lw_all := lw_g (lw_at lw_m4 69 rfl) rfl
theorem q841 : (Jvm.Cond.selects "SledHouse" ({ cls := "SledHouse", name := "where", desc := "()I" } : Jvm.MethodName) ({ cls := "SledHouse", name := "where", desc := "()I" } : Jvm.MethodName)) ∈ lw_all := lw_g (lw_at lw_m4 70 rfl) rfl
theorem q842 : (Jvm.Cond.code ({ cls := "SledHouse", name := "where", desc := "()I" } : Jvm.MethodName) prog_1_method_18_code (1 : Nat) (Option.some Jvm.ClassFile.FieldType.int)) ∈ lw_all := lw_g (lw_at lw_m4 71 rfl) rfl
theorem q844 : (Jvm.Cond.instanceMethod ({ cls := "SledHouse", name := "team", desc := "(IIIII)I" } : Jvm.MethodName)) ∈ lw_all := lw_g (lw_at lw_m4 73 rfl) rfl
theorem q845 : (Jvm.Cond.selects "SledHouse" ({ cls := "SledHouse", name := "team", desc := "(IIIII)I" } : Jvm.MethodName) ({ cls := "SledHouse", name := "team", desc := "(IIIII)I" } : Jvm.MethodName)) ∈ lw_all := lw_g (lw_at lw_m4 74 rfl) rfl
theorem q846 : (Jvm.Cond.codeWith ({ cls := "SledHouse", name := "team", desc := "(IIIII)I" } : Jvm.MethodName) prog_1_method_19_code (7 : Nat) (Option.some Jvm.ClassFile.FieldType.int) [((4 : Nat), (126 : Nat), (129 : Nat), (133 : Nat))]) ∈ lw_all := lw_g (lw_at lw_m4 75 rfl) rfl
theorem q847 : (Jvm.Cond.methodLink "SledHouse" (240 : Nat) ({ cls := "SledHouse$Team", name := "enter", desc := "(IIIII)V" } : Jvm.MethodName)) ∈ lw_all := lw_g (lw_at lw_m4 76 rfl) rfl
theorem q860 : (Jvm.Cond.instanceMethod ({ cls := "SledHouse", name := "follow", desc := "(II)Z" } : Jvm.MethodName)) ∈ lw_all := lw_g (lw_at lw_m4 89 rfl) rfl
theorem q861 : (Jvm.Cond.selects "SledHouse" ({ cls := "SledHouse", name := "follow", desc := "(II)Z" } : Jvm.MethodName) ({ cls := "SledHouse", name := "follow", desc := "(II)Z" } : Jvm.MethodName)) ∈ lw_all := lw_g (lw_at lw_m4 90 rfl) rfl
theorem q862 : (Jvm.Cond.codeWith ({ cls := "SledHouse", name := "follow", desc := "(II)Z" } : Jvm.MethodName) prog_1_method_20_code (4 : Nat) (Option.some Jvm.ClassFile.FieldType.boolean) [((4 : Nat), (62 : Nat), (65 : Nat), (133 : Nat))]) ∈ lw_all := lw_g (lw_at lw_m4 91 rfl) rfl
theorem q863 : (Jvm.Cond.methodLink "SledHouse" (244 : Nat) ({ cls := "SledHouse", name := "isTeam", desc := "(I)Z" } : Jvm.MethodName)) ∈ lw_all := lw_g (lw_at lw_m4 92 rfl) rfl
theorem q864 : (Jvm.Cond.privateMethod ({ cls := "SledHouse", name := "isTeam", desc := "(I)Z" } : Jvm.MethodName)) ∈ lw_tbl := lw_at lw_m4 93 rfl
theorem q865 : (Jvm.Cond.instanceMethod ({ cls := "SledHouse", name := "isTeam", desc := "(I)Z" } : Jvm.MethodName)) ∈ lw_all := lw_g (lw_at lw_m4 94 rfl) rfl
theorem q866 : (Jvm.Cond.code ({ cls := "SledHouse", name := "isTeam", desc := "(I)Z" } : Jvm.MethodName) prog_1_method_9_code (2 : Nat) (Option.some Jvm.ClassFile.FieldType.boolean)) ∈ lw_all := lw_g (lw_at lw_m4 95 rfl) rfl
theorem q868 : (Jvm.Cond.instanceMethod ({ cls := "SledHouse", name := "gap", desc := "(III)I" } : Jvm.MethodName)) ∈ lw_all := lw_g (lw_at lw_m4 97 rfl) rfl
theorem q869 : (Jvm.Cond.selects "SledHouse" ({ cls := "SledHouse", name := "gap", desc := "(III)I" } : Jvm.MethodName) ({ cls := "SledHouse", name := "gap", desc := "(III)I" } : Jvm.MethodName)) ∈ lw_all := lw_g (lw_at lw_m4 98 rfl) rfl
theorem q870 : (Jvm.Cond.codeWith ({ cls := "SledHouse", name := "gap", desc := "(III)I" } : Jvm.MethodName) prog_1_method_21_code (5 : Nat) (Option.some Jvm.ClassFile.FieldType.int) [((4 : Nat), (116 : Nat), (117 : Nat), (133 : Nat))]) ∈ lw_all := lw_g (lw_at lw_m4 99 rfl) rfl
theorem q872 : (Jvm.Cond.instanceMethod ({ cls := "SledHouse", name := "each", desc := "(I)Z" } : Jvm.MethodName)) ∈ lw_all := lw_g (lw_at lw_m4 101 rfl) rfl
theorem q873 : (Jvm.Cond.selects "SledHouse" ({ cls := "SledHouse", name := "each", desc := "(I)Z" } : Jvm.MethodName) ({ cls := "SledHouse", name := "each", desc := "(I)Z" } : Jvm.MethodName)) ∈ lw_all := lw_g (lw_at lw_m4 102 rfl) rfl
theorem q874 : (Jvm.Cond.codeWith ({ cls := "SledHouse", name := "each", desc := "(I)Z" } : Jvm.MethodName) prog_1_method_22_code (3 : Nat) (Option.some Jvm.ClassFile.FieldType.boolean) [((4 : Nat), (36 : Nat), (39 : Nat), (133 : Nat))]) ∈ lw_all := lw_g (lw_at lw_m4 103 rfl) rfl
theorem q876 : (Jvm.Cond.instanceMethod ({ cls := "SledHouse", name := "run", desc := "(I)I" } : Jvm.MethodName)) ∈ lw_all := lw_g (lw_at lw_m4 105 rfl) rfl
theorem q877 : (Jvm.Cond.selects "SledHouse" ({ cls := "SledHouse", name := "run", desc := "(I)I" } : Jvm.MethodName) ({ cls := "SledHouse", name := "run", desc := "(I)I" } : Jvm.MethodName)) ∈ lw_all := lw_g (lw_at lw_m4 106 rfl) rfl
theorem q878 : (Jvm.Cond.codeWith ({ cls := "SledHouse", name := "run", desc := "(I)I" } : Jvm.MethodName) prog_1_method_23_code (5 : Nat) (Option.some Jvm.ClassFile.FieldType.int) [((4 : Nat), (29 : Nat), (32 : Nat), (133 : Nat))]) ∈ lw_all := lw_g (lw_at lw_m4 107 rfl) rfl
theorem q879 : (Jvm.Cond.methodLink "SledHouse" (265 : Nat) ({ cls := "SledHouse$World", name := "goesOn", desc := "()Z" } : Jvm.MethodName)) ∈ lw_all := lw_g (lw_at lw_m4 108 rfl) rfl
theorem q883 : (Jvm.Cond.methodLink "SledHouse" (269 : Nat) ({ cls := "SledHouse$Team", name := "step", desc := "(LSledHouse$Plan;LSledHouse$World;I)V" } : Jvm.MethodName)) ∈ lw_all := lw_g (lw_at lw_m4 112 rfl) rfl
theorem q953 : (Jvm.Cond.methodLink "SledHouse" (273 : Nat) ({ cls := "SledHouse$Team", name := "sign", desc := "(LSledHouse$World;I)V" } : Jvm.MethodName)) ∈ lw_all := lw_g (lw_at lw_m4 182 rfl) rfl
theorem q966 : (Jvm.Cond.instanceMethod ({ cls := "SledHouse", name := "about", desc := "(II)I" } : Jvm.MethodName)) ∈ lw_all := lw_g (lw_at lw_m4 195 rfl) rfl
theorem q967 : (Jvm.Cond.selects "SledHouse" ({ cls := "SledHouse", name := "about", desc := "(II)I" } : Jvm.MethodName) ({ cls := "SledHouse", name := "about", desc := "(II)I" } : Jvm.MethodName)) ∈ lw_all := lw_g (lw_at lw_m4 196 rfl) rfl
theorem q968 : (Jvm.Cond.code ({ cls := "SledHouse", name := "about", desc := "(II)I" } : Jvm.MethodName) prog_1_method_24_code (4 : Nat) (Option.some Jvm.ClassFile.FieldType.int)) ∈ lw_all := lw_g (lw_at lw_m4 197 rfl) rfl
theorem q969 : (Jvm.Cond.methodLink "SledHouse" (283 : Nat) ({ cls := "SledHouse$Team", name := "way", desc := "(LSledHouse$World;)I" } : Jvm.MethodName)) ∈ lw_all := lw_g (lw_at lw_m4 198 rfl) rfl
theorem q970 : (Jvm.Cond.methodLinkNest "SledHouse" (287 : Nat) ({ cls := "SledHouse$Team", name := "inState", desc := "(I)I" } : Jvm.MethodName) "SledHouse") ∈ lw_tbl := lw_at lw_m4 199 rfl
theorem q971 : (Jvm.Cond.methodLink "SledHouse" (291 : Nat) ({ cls := "SledHouse$Team", name := "load", desc := "()I" } : Jvm.MethodName)) ∈ lw_all := lw_g (lw_at lw_m4 200 rfl) rfl
theorem q973 : (Jvm.Cond.instanceMethod ({ cls := "SledHouse", name := "dog", desc := "(III)I" } : Jvm.MethodName)) ∈ lw_all := lw_g (lw_at lw_m4 202 rfl) rfl
theorem q974 : (Jvm.Cond.selects "SledHouse" ({ cls := "SledHouse", name := "dog", desc := "(III)I" } : Jvm.MethodName) ({ cls := "SledHouse", name := "dog", desc := "(III)I" } : Jvm.MethodName)) ∈ lw_all := lw_g (lw_at lw_m4 203 rfl) rfl
theorem q975 : (Jvm.Cond.code ({ cls := "SledHouse", name := "dog", desc := "(III)I" } : Jvm.MethodName) prog_1_method_25_code (5 : Nat) (Option.some Jvm.ClassFile.FieldType.int)) ∈ lw_all := lw_g (lw_at lw_m4 204 rfl) rfl
theorem q977 : (Jvm.Cond.instanceMethod ({ cls := "SledHouse", name := "time", desc := "(IIZ)I" } : Jvm.MethodName)) ∈ lw_all := lw_g (lw_at lw_m4 206 rfl) rfl
theorem q978 : (Jvm.Cond.selects "SledHouse" ({ cls := "SledHouse", name := "time", desc := "(IIZ)I" } : Jvm.MethodName) ({ cls := "SledHouse", name := "time", desc := "(IIZ)I" } : Jvm.MethodName)) ∈ lw_all := lw_g (lw_at lw_m4 207 rfl) rfl
theorem q979 : (Jvm.Cond.code ({ cls := "SledHouse", name := "time", desc := "(IIZ)I" } : Jvm.MethodName) prog_1_method_26_code (4 : Nat) (Option.some Jvm.ClassFile.FieldType.int)) ∈ lw_all := lw_g (lw_at lw_m4 208 rfl) rfl
theorem q981 : (Jvm.Cond.instanceMethod ({ cls := "SledHouse", name := "did", desc := "(I)I" } : Jvm.MethodName)) ∈ lw_all := lw_g (lw_at lw_m4 210 rfl) rfl
theorem q982 : (Jvm.Cond.selects "SledHouse" ({ cls := "SledHouse", name := "did", desc := "(I)I" } : Jvm.MethodName) ({ cls := "SledHouse", name := "did", desc := "(I)I" } : Jvm.MethodName)) ∈ lw_all := lw_g (lw_at lw_m4 211 rfl) rfl
theorem q983 : (Jvm.Cond.code ({ cls := "SledHouse", name := "did", desc := "(I)I" } : Jvm.MethodName) prog_1_method_27_code (2 : Nat) (Option.some Jvm.ClassFile.FieldType.int)) ∈ lw_all := lw_g (lw_at lw_m4 212 rfl) rfl
theorem q985 : (Jvm.Cond.instanceMethod ({ cls := "SledHouse", name := "result", desc := "(I)I" } : Jvm.MethodName)) ∈ lw_all := lw_g (lw_at lw_m4 214 rfl) rfl
theorem q986 : (Jvm.Cond.selects "SledHouse" ({ cls := "SledHouse", name := "result", desc := "(I)I" } : Jvm.MethodName) ({ cls := "SledHouse", name := "result", desc := "(I)I" } : Jvm.MethodName)) ∈ lw_all := lw_g (lw_at lw_m4 215 rfl) rfl
theorem q987 : (Jvm.Cond.code ({ cls := "SledHouse", name := "result", desc := "(I)I" } : Jvm.MethodName) prog_1_method_30_code (3 : Nat) (Option.some Jvm.ClassFile.FieldType.int)) ∈ lw_all := lw_g (lw_at lw_m4 216 rfl) rfl
theorem q988 : (Jvm.Cond.methodLink "SledHouse" (332 : Nat) ({ cls := "SledHouse", name := "home", desc := "(I)LSledHouse$Team;" } : Jvm.MethodName)) ∈ lw_all := lw_g (lw_at lw_m4 217 rfl) rfl
theorem q989 : (Jvm.Cond.privateMethod ({ cls := "SledHouse", name := "home", desc := "(I)LSledHouse$Team;" } : Jvm.MethodName)) ∈ lw_tbl := lw_at lw_m4 218 rfl
theorem q990 : (Jvm.Cond.instanceMethod ({ cls := "SledHouse", name := "home", desc := "(I)LSledHouse$Team;" } : Jvm.MethodName)) ∈ lw_all := lw_g (lw_at lw_m4 219 rfl) rfl
theorem q991 : (Jvm.Cond.code ({ cls := "SledHouse", name := "home", desc := "(I)LSledHouse$Team;" } : Jvm.MethodName) prog_1_method_28_code (2 : Nat) (Option.some (Jvm.ClassFile.FieldType.object "SledHouse$Team"))) ∈ lw_all := lw_g (lw_at lw_m4 220 rfl) rfl
theorem q992 : (Jvm.Cond.methodLink "SledHouse" (336 : Nat) ({ cls := "SledHouse", name := "resultOf", desc := "(LSledHouse$Team;)I" } : Jvm.MethodName)) ∈ lw_all := lw_g (lw_at lw_m4 221 rfl) rfl
theorem q993 : (Jvm.Cond.privateMethod ({ cls := "SledHouse", name := "resultOf", desc := "(LSledHouse$Team;)I" } : Jvm.MethodName)) ∈ lw_tbl := lw_at lw_m4 222 rfl
theorem q994 : (Jvm.Cond.instanceMethod ({ cls := "SledHouse", name := "resultOf", desc := "(LSledHouse$Team;)I" } : Jvm.MethodName)) ∈ lw_all := lw_g (lw_at lw_m4 223 rfl) rfl
theorem q995 : (Jvm.Cond.code ({ cls := "SledHouse", name := "resultOf", desc := "(LSledHouse$Team;)I" } : Jvm.MethodName) prog_1_method_29_code (9 : Nat) (Option.some Jvm.ClassFile.FieldType.int)) ∈ lw_all := lw_g (lw_at lw_m4 224 rfl) rfl
theorem q996 : (Jvm.Cond.methodLink "SledHouse" (323 : Nat) ({ cls := "SledHouse$Law", name := "lacks", desc := "(LSledHouse$Team;LSledHouse$World;)I" } : Jvm.MethodName)) ∈ lw_all := lw_g (lw_at lw_m4 225 rfl) rfl
theorem q1013 : (Jvm.Cond.methodLink "SledHouse" (327 : Nat) ({ cls := "SledHouse$Law", name := "isRest", desc := "()Z" } : Jvm.MethodName)) ∈ lw_all := lw_g (lw_at lw_m5 2 rfl) rfl
theorem q1023 : (Jvm.Cond.methodLink "SledHouse" (330 : Nat) ({ cls := "SledHouse$Law", name := "number", desc := "(I)I" } : Jvm.MethodName)) ∈ lw_all := lw_g (lw_at lw_m5 12 rfl) rfl
theorem q1043 : (Jvm.Cond.instanceMethod ({ cls := "SledHouse", name := "lacks", desc := "(II)I" } : Jvm.MethodName)) ∈ lw_all := lw_g (lw_at lw_m5 32 rfl) rfl
theorem q1044 : (Jvm.Cond.selects "SledHouse" ({ cls := "SledHouse", name := "lacks", desc := "(II)I" } : Jvm.MethodName) ({ cls := "SledHouse", name := "lacks", desc := "(II)I" } : Jvm.MethodName)) ∈ lw_all := lw_g (lw_at lw_m5 33 rfl) rfl
theorem q1045 : (Jvm.Cond.code ({ cls := "SledHouse", name := "lacks", desc := "(II)I" } : Jvm.MethodName) prog_1_method_31_code (4 : Nat) (Option.some Jvm.ClassFile.FieldType.int)) ∈ lw_all := lw_g (lw_at lw_m5 34 rfl) rfl
theorem q1047 : (Jvm.Cond.instanceMethod ({ cls := "SledHouse", name := "place", desc := "(I)I" } : Jvm.MethodName)) ∈ lw_all := lw_g (lw_at lw_m5 36 rfl) rfl
theorem q1048 : (Jvm.Cond.selects "SledHouse" ({ cls := "SledHouse", name := "place", desc := "(I)I" } : Jvm.MethodName) ({ cls := "SledHouse", name := "place", desc := "(I)I" } : Jvm.MethodName)) ∈ lw_all := lw_g (lw_at lw_m5 37 rfl) rfl
theorem q1049 : (Jvm.Cond.code ({ cls := "SledHouse", name := "place", desc := "(I)I" } : Jvm.MethodName) prog_1_method_33_code (5 : Nat) (Option.some Jvm.ClassFile.FieldType.int)) ∈ lw_all := lw_g (lw_at lw_m5 38 rfl) rfl
theorem q1050 : (Jvm.Cond.methodLink "SledHouse" (340 : Nat) ({ cls := "SledHouse", name := "isAhead", desc := "(LSledHouse$Team;LSledHouse$Team;)Z" } : Jvm.MethodName)) ∈ lw_all := lw_g (lw_at lw_m5 39 rfl) rfl
theorem q1051 : (Jvm.Cond.privateMethod ({ cls := "SledHouse", name := "isAhead", desc := "(LSledHouse$Team;LSledHouse$Team;)Z" } : Jvm.MethodName)) ∈ lw_tbl := lw_at lw_m5 40 rfl
theorem q1052 : (Jvm.Cond.instanceMethod ({ cls := "SledHouse", name := "isAhead", desc := "(LSledHouse$Team;LSledHouse$Team;)Z" } : Jvm.MethodName)) ∈ lw_all := lw_g (lw_at lw_m5 41 rfl) rfl
theorem q1053 : (Jvm.Cond.code ({ cls := "SledHouse", name := "isAhead", desc := "(LSledHouse$Team;LSledHouse$Team;)Z" } : Jvm.MethodName) prog_1_method_32_code (5 : Nat) (Option.some Jvm.ClassFile.FieldType.boolean)) ∈ lw_all := lw_g (lw_at lw_m5 42 rfl) rfl
theorem q1055 : (Jvm.Cond.instanceMethod ({ cls := "SledHouse", name := "came", desc := "(II)I" } : Jvm.MethodName)) ∈ lw_all := lw_g (lw_at lw_m5 44 rfl) rfl
theorem q1056 : (Jvm.Cond.selects "SledHouse" ({ cls := "SledHouse", name := "came", desc := "(II)I" } : Jvm.MethodName) ({ cls := "SledHouse", name := "came", desc := "(II)I" } : Jvm.MethodName)) ∈ lw_all := lw_g (lw_at lw_m5 45 rfl) rfl
theorem q1057 : (Jvm.Cond.code ({ cls := "SledHouse", name := "came", desc := "(II)I" } : Jvm.MethodName) prog_1_method_34_code (5 : Nat) (Option.some Jvm.ClassFile.FieldType.int)) ∈ lw_all := lw_g (lw_at lw_m5 46 rfl) rfl
theorem q1059 : (Jvm.Cond.instanceMethod ({ cls := "SledHouse", name := "spot", desc := "(IIZ)I" } : Jvm.MethodName)) ∈ lw_all := lw_g (lw_at lw_m5 48 rfl) rfl
theorem q1060 : (Jvm.Cond.selects "SledHouse" ({ cls := "SledHouse", name := "spot", desc := "(IIZ)I" } : Jvm.MethodName) ({ cls := "SledHouse", name := "spot", desc := "(IIZ)I" } : Jvm.MethodName)) ∈ lw_all := lw_g (lw_at lw_m5 49 rfl) rfl
theorem q1061 : (Jvm.Cond.code ({ cls := "SledHouse", name := "spot", desc := "(IIZ)I" } : Jvm.MethodName) prog_1_method_35_code (9 : Nat) (Option.some Jvm.ClassFile.FieldType.int)) ∈ lw_all := lw_g (lw_at lw_m5 50 rfl) rfl
theorem q1062 : (Jvm.Cond.methodLink "SledHouse" (347 : Nat) ({ cls := "SledHouse$World", name := "trail", desc := "()I" } : Jvm.MethodName)) ∈ lw_all := lw_g (lw_at lw_m5 51 rfl) rfl
theorem q1066 : (Jvm.Cond.methodLink "SledHouse" (350 : Nat) ({ cls := "java/lang/Math", name := "min", desc := "(II)I" } : Jvm.MethodName)) ∈ lw_all := lw_g (lw_at lw_m5 55 rfl) rfl
theorem q1067 : (Jvm.Cond.methodLink "SledHouse" (356 : Nat) ({ cls := "java/lang/Math", name := "max", desc := "(II)I" } : Jvm.MethodName)) ∈ lw_all := lw_g (lw_at lw_m5 56 rfl) rfl
theorem q1069 : (Jvm.Cond.instanceMethod ({ cls := "SledHouse", name := "signs", desc := "(I)I" } : Jvm.MethodName)) ∈ lw_all := lw_g (lw_at lw_m5 58 rfl) rfl
theorem q1070 : (Jvm.Cond.selects "SledHouse" ({ cls := "SledHouse", name := "signs", desc := "(I)I" } : Jvm.MethodName) ({ cls := "SledHouse", name := "signs", desc := "(I)I" } : Jvm.MethodName)) ∈ lw_all := lw_g (lw_at lw_m5 59 rfl) rfl
theorem q1071 : (Jvm.Cond.code ({ cls := "SledHouse", name := "signs", desc := "(I)I" } : Jvm.MethodName) prog_1_method_36_code (2 : Nat) (Option.some Jvm.ClassFile.FieldType.int)) ∈ lw_all := lw_g (lw_at lw_m5 60 rfl) rfl
theorem q1073 : (Jvm.Cond.instanceMethod ({ cls := "SledHouse", name := "replay", desc := "(III)I" } : Jvm.MethodName)) ∈ lw_all := lw_g (lw_at lw_m5 62 rfl) rfl
theorem q1074 : (Jvm.Cond.selects "SledHouse" ({ cls := "SledHouse", name := "replay", desc := "(III)I" } : Jvm.MethodName) ({ cls := "SledHouse", name := "replay", desc := "(III)I" } : Jvm.MethodName)) ∈ lw_all := lw_g (lw_at lw_m5 63 rfl) rfl
theorem q1075 : (Jvm.Cond.codeWith ({ cls := "SledHouse", name := "replay", desc := "(III)I" } : Jvm.MethodName) prog_1_method_37_code (6 : Nat) (Option.some Jvm.ClassFile.FieldType.int) [((4 : Nat), (47 : Nat), (50 : Nat), (133 : Nat))]) ∈ lw_all := lw_g (lw_at lw_m5 64 rfl) rfl
theorem q1076 : (Jvm.Cond.methodLink "SledHouse" (368 : Nat) ({ cls := "SledHouse$Team", name := "pulling", desc := "()I" } : Jvm.MethodName)) ∈ lw_all := lw_g (lw_at lw_m5 65 rfl) rfl
theorem q1078 : (Jvm.Cond.instanceMethod ({ cls := "SledHouse", name := "keep", desc := "()Z" } : Jvm.MethodName)) ∈ lw_all := lw_g (lw_at lw_m5 67 rfl) rfl
theorem q1079 : (Jvm.Cond.selects "SledHouse" ({ cls := "SledHouse", name := "keep", desc := "()Z" } : Jvm.MethodName) ({ cls := "SledHouse", name := "keep", desc := "()Z" } : Jvm.MethodName)) ∈ lw_all := lw_g (lw_at lw_m5 68 rfl) rfl
theorem q1080 : (Jvm.Cond.code ({ cls := "SledHouse", name := "keep", desc := "()Z" } : Jvm.MethodName) prog_1_method_38_code (1 : Nat) (Option.some Jvm.ClassFile.FieldType.boolean)) ∈ lw_all := lw_g (lw_at lw_m5 69 rfl) rfl
theorem q1081 : (Jvm.Cond.methodLink "SledHouse" (371 : Nat) ({ cls := "SledHouse$World", name := "become", desc := "(LSledHouse$World;)V" } : Jvm.MethodName)) ∈ lw_all := lw_g (lw_at lw_m5 70 rfl) rfl
theorem q1097 : (Jvm.Cond.instanceMethod ({ cls := "SledHouse", name := "back", desc := "()Z" } : Jvm.MethodName)) ∈ lw_all := lw_g (lw_at lw_m5 86 rfl) rfl
theorem q1098 : (Jvm.Cond.selects "SledHouse" ({ cls := "SledHouse", name := "back", desc := "()Z" } : Jvm.MethodName) ({ cls := "SledHouse", name := "back", desc := "()Z" } : Jvm.MethodName)) ∈ lw_all := lw_g (lw_at lw_m5 87 rfl) rfl
theorem q1099 : (Jvm.Cond.code ({ cls := "SledHouse", name := "back", desc := "()Z" } : Jvm.MethodName) prog_1_method_39_code (1 : Nat) (Option.some Jvm.ClassFile.FieldType.boolean)) ∈ lw_all := lw_g (lw_at lw_m5 88 rfl) rfl
theorem q1101 : (Jvm.Cond.instanceMethod ({ cls := "SledHouse", name := "law", desc := "(II)I" } : Jvm.MethodName)) ∈ lw_all := lw_g (lw_at lw_m5 90 rfl) rfl
theorem q1102 : (Jvm.Cond.selects "SledHouse" ({ cls := "SledHouse", name := "law", desc := "(II)I" } : Jvm.MethodName) ({ cls := "SledHouse", name := "law", desc := "(II)I" } : Jvm.MethodName)) ∈ lw_all := lw_g (lw_at lw_m5 91 rfl) rfl
theorem q1103 : (Jvm.Cond.code ({ cls := "SledHouse", name := "law", desc := "(II)I" } : Jvm.MethodName) prog_1_method_40_code (3 : Nat) (Option.some Jvm.ClassFile.FieldType.int)) ∈ lw_all := lw_g (lw_at lw_m5 92 rfl) rfl
theorem q1105 : (Jvm.Cond.instanceMethod ({ cls := "SledHouse", name := "planned", desc := "(II)I" } : Jvm.MethodName)) ∈ lw_all := lw_g (lw_at lw_m5 94 rfl) rfl
theorem q1106 : (Jvm.Cond.selects "SledHouse" ({ cls := "SledHouse", name := "planned", desc := "(II)I" } : Jvm.MethodName) ({ cls := "SledHouse", name := "planned", desc := "(II)I" } : Jvm.MethodName)) ∈ lw_all := lw_g (lw_at lw_m5 95 rfl) rfl
theorem q1107 : (Jvm.Cond.code ({ cls := "SledHouse", name := "planned", desc := "(II)I" } : Jvm.MethodName) prog_1_method_41_code (3 : Nat) (Option.some Jvm.ClassFile.FieldType.int)) ∈ lw_all := lw_g (lw_at lw_m5 96 rfl) rfl
theorem q1108 : (Jvm.Cond.methodLink "SledHouse" (383 : Nat) ({ cls := "SledHouse$Plan", name := "tests", desc := "()I" } : Jvm.MethodName)) ∈ lw_all := lw_g (lw_at lw_m5 97 rfl) rfl
theorem q1113 : (Jvm.Cond.instanceMethod ({ cls := "SledHouse", name := "count", desc := "(I)I" } : Jvm.MethodName)) ∈ lw_all := lw_g (lw_at lw_m5 102 rfl) rfl
theorem q1114 : (Jvm.Cond.selects "SledHouse" ({ cls := "SledHouse", name := "count", desc := "(I)I" } : Jvm.MethodName) ({ cls := "SledHouse", name := "count", desc := "(I)I" } : Jvm.MethodName)) ∈ lw_all := lw_g (lw_at lw_m5 103 rfl) rfl
theorem q1115 : (Jvm.Cond.code ({ cls := "SledHouse", name := "count", desc := "(I)I" } : Jvm.MethodName) prog_1_method_42_code (2 : Nat) (Option.some Jvm.ClassFile.FieldType.int)) ∈ lw_all := lw_g (lw_at lw_m5 104 rfl) rfl
theorem q1117 : (Jvm.Cond.instanceMethod ({ cls := "SledHouse", name := "trouble", desc := "()I" } : Jvm.MethodName)) ∈ lw_all := lw_g (lw_at lw_m5 106 rfl) rfl
theorem q1118 : (Jvm.Cond.selects "SledHouse" ({ cls := "SledHouse", name := "trouble", desc := "()I" } : Jvm.MethodName) ({ cls := "SledHouse", name := "trouble", desc := "()I" } : Jvm.MethodName)) ∈ lw_all := lw_g (lw_at lw_m5 107 rfl) rfl
theorem q1119 : (Jvm.Cond.code ({ cls := "SledHouse", name := "trouble", desc := "()I" } : Jvm.MethodName) prog_1_method_43_code (1 : Nat) (Option.some Jvm.ClassFile.FieldType.int)) ∈ lw_all := lw_g (lw_at lw_m5 108 rfl) rfl
theorem in_X0 : ∀ w ∈ wsX00, w ∈ lw_all := lw_in wsX00 [387, 389, 391, 393, 395, 397, 399, 401, 403, 405, 407, 409, 411, 413, 415, 417] (by decide +kernel) (by decide +kernel)

/-! SledHouse$Reader -/
set_option maxRecDepth 100000
def RX1 : String := "SledHouse$Reader"
def TX1 : u_T := fun k => match k with
  | 0 => ("SledHouse$Reader", "wrong", "LSledHouse$Refused;", true)
  | 1 => ("SledHouse$Reader", "text", "[B", true)
  | 2 => ("SledHouse$Reader", "letters", "[C", true)
  | 3 => ("SledHouse$Reader", "size", "I", false)
  | 4 => ("SledHouse$Reader", "end", "I", false)
  | 5 => ("SledHouse$Reader", "token", "I", false)
  | 6 => ("SledHouse$Reader", "at", "I", false)
  | 7 => ("SledHouse$Reader", "number", "I", false)
  | _ => ("SledHouse$Reader", "word", "Ljava/lang/String;", false)
def tyX1 : Nat → FieldType := fun k => match k with
  | 0 => .object "SledHouse$Refused"
  | 1 => .array .byte
  | 2 => .array .char
  | 3 => .int
  | 4 => .int
  | 5 => .int
  | 6 => .int
  | 7 => .int
  | _ => .object "java/lang/String"
abbrev wsX10 : List Cond := u_ws RX1 TX1 9
theorem nmX1 : ∀ a, a < 9 → ∀ b, b < 9 → a ≠ b → (TX1 a).2.1 ≠ (TX1 b).2.1 := by decide +kernel
theorem tyX1_ok : ∀ k, k < 9 → parseFieldDescriptor (TX1 k).2.2.1 = some (tyX1 k) := by decide +kernel
abbrev cX1_init : ByteArray := prog_7_method_1_code
def yX1_init : MethodName := ⟨RX1, "<init>", "([B)V"⟩
def dkwX1_init_1 : List UInt8 := [43, 181, 0, 22, 177]
abbrev dktX1_init_1 : List UInt8 := dkwX1_init_1 ++ []
def dkwX1_init_0 : List UInt8 := [42, 183, 0, 3, 42, 187, 0, 9, 89, 183, 0, 11, 181, 0, 12, 42, 16, 8, 188, 5, 181, 0, 18, 42]
abbrev dktX1_init_0 : List UInt8 := dkwX1_init_0 ++ dktX1_init_1
theorem dksX1_init_0 : cX1_init.data.toList.drop 0 = dktX1_init_0 := by decide +kernel
theorem dksX1_init_1 : cX1_init.data.toList.drop 24 = dktX1_init_1 := dk_seg dksX1_init_0 24 rfl rfl
theorem dX1_init_0 : decode cX1_init 0 = .ok (.aload_n 0, 1) := dk_42 (dk_at dksX1_init_0 0 rfl rfl)
theorem dX1_init_1 : decode cX1_init 1 = .ok (.invokespecial 3, 3) := dk_183 0 3 (dk_at dksX1_init_0 1 rfl rfl)
theorem dX1_init_4 : decode cX1_init 4 = .ok (.aload_n 0, 1) := dk_42 (dk_at dksX1_init_0 4 rfl rfl)
theorem dX1_init_5 : decode cX1_init 5 = .ok (.new 9, 3) := dk_187 0 9 (dk_at dksX1_init_0 5 rfl rfl)
theorem dX1_init_8 : decode cX1_init 8 = .ok (.dup, 1) := dk_89 (dk_at dksX1_init_0 8 rfl rfl)
theorem dX1_init_9 : decode cX1_init 9 = .ok (.invokespecial 11, 3) := dk_183 0 11 (dk_at dksX1_init_0 9 rfl rfl)
theorem dX1_init_12 : decode cX1_init 12 = .ok (.putfield 12, 3) := dk_181 0 12 (dk_at dksX1_init_0 12 rfl rfl)
theorem dX1_init_15 : decode cX1_init 15 = .ok (.aload_n 0, 1) := dk_42 (dk_at dksX1_init_0 15 rfl rfl)
theorem dX1_init_16 : decode cX1_init 16 = .ok (.bipush 8, 2) := dk_16 8 (dk_at dksX1_init_0 16 rfl rfl)
theorem dX1_init_18 : decode cX1_init 18 = .ok (.newarray .char, 2) := dk_188_5 (dk_at dksX1_init_0 18 rfl rfl)
theorem dX1_init_20 : decode cX1_init 20 = .ok (.putfield 18, 3) := dk_181 0 18 (dk_at dksX1_init_0 20 rfl rfl)
theorem dX1_init_23 : decode cX1_init 23 = .ok (.aload_n 0, 1) := dk_42 (dk_at dksX1_init_0 23 rfl rfl)
theorem dX1_init_24 : decode cX1_init 24 = .ok (.aload_n 1, 1) := dk_43 (dk_at dksX1_init_1 0 rfl rfl)
theorem dX1_init_25 : decode cX1_init 25 = .ok (.putfield 22, 3) := dk_181 0 22 (dk_at dksX1_init_1 1 rfl rfl)
theorem dX1_init_28 : decode cX1_init 28 = .ok (.return_, 1) := dk_177 (dk_at dksX1_init_1 4 rfl rfl)
abbrev cX1_begin : ByteArray := prog_7_method_3_code
def yX1_begin : MethodName := ⟨RX1, "begin", "(I)V"⟩
def dkwX1_begin_0 : List UInt8 := [42, 27, 181, 0, 33, 42, 3, 181, 0, 36, 42, 182, 0, 39, 177]
abbrev dktX1_begin_0 : List UInt8 := dkwX1_begin_0 ++ []
theorem dksX1_begin_0 : cX1_begin.data.toList.drop 0 = dktX1_begin_0 := by decide +kernel
theorem dX1_begin_0 : decode cX1_begin 0 = .ok (.aload_n 0, 1) := dk_42 (dk_at dksX1_begin_0 0 rfl rfl)
theorem dX1_begin_1 : decode cX1_begin 1 = .ok (.iload_n 1, 1) := dk_27 (dk_at dksX1_begin_0 1 rfl rfl)
theorem dX1_begin_2 : decode cX1_begin 2 = .ok (.putfield 33, 3) := dk_181 0 33 (dk_at dksX1_begin_0 2 rfl rfl)
theorem dX1_begin_5 : decode cX1_begin 5 = .ok (.aload_n 0, 1) := dk_42 (dk_at dksX1_begin_0 5 rfl rfl)
theorem dX1_begin_6 : decode cX1_begin 6 = .ok (.iconst 0, 1) := dk_3 (dk_at dksX1_begin_0 6 rfl rfl)
theorem dX1_begin_7 : decode cX1_begin 7 = .ok (.putfield 36, 3) := dk_181 0 36 (dk_at dksX1_begin_0 7 rfl rfl)
theorem dX1_begin_10 : decode cX1_begin 10 = .ok (.aload_n 0, 1) := dk_42 (dk_at dksX1_begin_0 10 rfl rfl)
theorem dX1_begin_11 : decode cX1_begin 11 = .ok (.invokevirtual 39, 3) := dk_182 0 39 (dk_at dksX1_begin_0 11 rfl rfl)
theorem dX1_begin_14 : decode cX1_begin 14 = .ok (.return_, 1) := dk_177 (dk_at dksX1_begin_0 14 rfl rfl)
abbrev cX1_next : ByteArray := prog_7_method_7_code
def yX1_next : MethodName := ⟨RX1, "next", "()V"⟩
def dkwX1_next_13 : List UInt8 := [159, 0, 9, 28, 16, 59, 160, 0, 7, 28, 167, 0, 4, 4, 181, 0, 46, 177]
abbrev dktX1_next_13 : List UInt8 := dkwX1_next_13 ++ []
def dkwX1_next_12 : List UInt8 := [164, 0, 7, 4, 167, 0, 4, 6, 181, 0, 46, 167, 0, 30, 42, 28, 16, 60, 159, 0, 15, 28, 16, 62]
abbrev dktX1_next_12 : List UInt8 := dkwX1_next_12 ++ dktX1_next_13
def dkwX1_next_11 : List UInt8 := [181, 0, 67, 42, 89, 180, 0, 36, 4, 96, 181, 0, 36, 167, 255, 199, 42, 42, 180, 0, 36, 27, 100, 7]
abbrev dktX1_next_11 : List UInt8 := dkwX1_next_11 ++ dktX1_next_12
def dkwX1_next_10 : List UInt8 := [7, 162, 0, 26, 42, 16, 10, 42, 180, 0, 67, 104, 42, 42, 180, 0, 36, 182, 0, 42, 96, 16, 48, 100]
abbrev dktX1_next_10 : List UInt8 := dkwX1_next_10 ++ dktX1_next_11
def dkwX1_next_9 : List UInt8 := [27, 181, 0, 36, 42, 42, 180, 0, 36, 182, 0, 42, 184, 0, 64, 153, 0, 49, 42, 180, 0, 36, 27, 100]
abbrev dktX1_next_9 : List UInt8 := dkwX1_next_9 ++ dktX1_next_10
def dkwX1_next_8 : List UInt8 := [167, 0, 5, 18, 58, 181, 0, 60, 167, 0, 129, 28, 184, 0, 64, 153, 0, 95, 42, 3, 181, 0, 67, 42]
abbrev dktX1_next_8 : List UInt8 := dkwX1_next_8 ++ dktX1_next_9
def dkwX1_next_7 : List UInt8 := [5, 160, 0, 24, 187, 0, 53, 89, 42, 180, 0, 18, 3, 42, 180, 0, 36, 27, 100, 183, 0, 55]
abbrev dktX1_next_7 : List UInt8 := dkwX1_next_7 ++ dktX1_next_8
def dkwX1_next_6 : List UInt8 := [42, 180, 0, 36, 27, 100, 16, 8, 164, 0, 7, 4, 167, 0, 4, 5, 181, 0, 46, 42, 42, 180, 0, 46]
abbrev dktX1_next_6 : List UInt8 := dkwX1_next_6 ++ dktX1_next_7
def dkwX1_next_5 : List UInt8 := [42, 42, 180, 0, 36, 182, 0, 42, 146, 85, 42, 89, 180, 0, 36, 4, 96, 181, 0, 36, 167, 255, 201, 42]
abbrev dktX1_next_5 : List UInt8 := dkwX1_next_5 ++ dktX1_next_6
def dkwX1_next_4 : List UInt8 := [153, 0, 47, 42, 180, 0, 36, 27, 100, 16, 8, 162, 0, 23, 42, 180, 0, 18, 42, 180, 0, 36, 27, 100]
abbrev dktX1_next_4 : List UInt8 := dkwX1_next_4 ++ dktX1_next_5
def dkwX1_next_3 : List UInt8 := [184, 0, 49, 153, 0, 124, 42, 27, 181, 0, 36, 42, 42, 180, 0, 36, 182, 0, 42, 184, 0, 49]
abbrev dktX1_next_3 : List UInt8 := dkwX1_next_3 ++ dktX1_next_4
def dkwX1_next_2 : List UInt8 := [182, 0, 42, 61, 28, 2, 160, 0, 16, 42, 3, 181, 0, 46, 42, 27, 181, 0, 36, 167, 1, 1, 28]
abbrev dktX1_next_2 : List UInt8 := dkwX1_next_2 ++ dktX1_next_3
def dkwX1_next_1 : List UInt8 := [160, 0, 9, 132, 1, 1, 167, 255, 233, 42, 27, 181, 0, 26, 42, 27, 4, 96, 181, 0, 36, 42, 27]
abbrev dktX1_next_1 : List UInt8 := dkwX1_next_1 ++ dktX1_next_2
def dkwX1_next_0 : List UInt8 := [42, 180, 0, 36, 60, 42, 27, 182, 0, 42, 16, 32, 159, 0, 13, 42, 27, 182, 0, 42, 16, 10]
abbrev dktX1_next_0 : List UInt8 := dkwX1_next_0 ++ dktX1_next_1
theorem dksX1_next_0 : cX1_next.data.toList.drop 0 = dktX1_next_0 := by decide +kernel
theorem dksX1_next_1 : cX1_next.data.toList.drop 22 = dktX1_next_1 := dk_seg dksX1_next_0 22 rfl rfl
theorem dksX1_next_2 : cX1_next.data.toList.drop 45 = dktX1_next_2 := dk_seg dksX1_next_1 23 rfl rfl
theorem dksX1_next_3 : cX1_next.data.toList.drop 68 = dktX1_next_3 := dk_seg dksX1_next_2 23 rfl rfl
theorem dksX1_next_4 : cX1_next.data.toList.drop 90 = dktX1_next_4 := dk_seg dksX1_next_3 22 rfl rfl
theorem dksX1_next_5 : cX1_next.data.toList.drop 114 = dktX1_next_5 := dk_seg dksX1_next_4 24 rfl rfl
theorem dksX1_next_6 : cX1_next.data.toList.drop 138 = dktX1_next_6 := dk_seg dksX1_next_5 24 rfl rfl
theorem dksX1_next_7 : cX1_next.data.toList.drop 162 = dktX1_next_7 := dk_seg dksX1_next_6 24 rfl rfl
theorem dksX1_next_8 : cX1_next.data.toList.drop 184 = dktX1_next_8 := dk_seg dksX1_next_7 22 rfl rfl
theorem dksX1_next_9 : cX1_next.data.toList.drop 208 = dktX1_next_9 := dk_seg dksX1_next_8 24 rfl rfl
theorem dksX1_next_10 : cX1_next.data.toList.drop 232 = dktX1_next_10 := dk_seg dksX1_next_9 24 rfl rfl
theorem dksX1_next_11 : cX1_next.data.toList.drop 256 = dktX1_next_11 := dk_seg dksX1_next_10 24 rfl rfl
theorem dksX1_next_12 : cX1_next.data.toList.drop 280 = dktX1_next_12 := dk_seg dksX1_next_11 24 rfl rfl
theorem dksX1_next_13 : cX1_next.data.toList.drop 304 = dktX1_next_13 := dk_seg dksX1_next_12 24 rfl rfl
theorem dX1_next_0 : decode cX1_next 0 = .ok (.aload_n 0, 1) := dk_42 (dk_at dksX1_next_0 0 rfl rfl)
theorem dX1_next_1 : decode cX1_next 1 = .ok (.getfield 36, 3) := dk_180 0 36 (dk_at dksX1_next_0 1 rfl rfl)
theorem dX1_next_4 : decode cX1_next 4 = .ok (.istore_n 1, 1) := dk_60 (dk_at dksX1_next_0 4 rfl rfl)
theorem dX1_next_5 : decode cX1_next 5 = .ok (.aload_n 0, 1) := dk_42 (dk_at dksX1_next_0 5 rfl rfl)
theorem dX1_next_6 : decode cX1_next 6 = .ok (.iload_n 1, 1) := dk_27 (dk_at dksX1_next_0 6 rfl rfl)
theorem dX1_next_7 : decode cX1_next 7 = .ok (.invokevirtual 42, 3) := dk_182 0 42 (dk_at dksX1_next_0 7 rfl rfl)
theorem dX1_next_10 : decode cX1_next 10 = .ok (.bipush 32, 2) := dk_16 32 (dk_at dksX1_next_0 10 rfl rfl)
theorem dX1_next_12 : decode cX1_next 12 = .ok (.if_icmp .eq 13, 3) := dk_159 0 13 (dk_at dksX1_next_0 12 rfl rfl)
theorem dX1_next_15 : decode cX1_next 15 = .ok (.aload_n 0, 1) := dk_42 (dk_at dksX1_next_0 15 rfl rfl)
theorem dX1_next_16 : decode cX1_next 16 = .ok (.iload_n 1, 1) := dk_27 (dk_at dksX1_next_0 16 rfl rfl)
theorem dX1_next_17 : decode cX1_next 17 = .ok (.invokevirtual 42, 3) := dk_182 0 42 (dk_at dksX1_next_0 17 rfl rfl)
theorem dX1_next_20 : decode cX1_next 20 = .ok (.bipush 10, 2) := dk_16 10 (dk_at dksX1_next_0 20 rfl rfl)
theorem dX1_next_22 : decode cX1_next 22 = .ok (.if_icmp .ne 9, 3) := dk_160 0 9 (dk_at dksX1_next_1 0 rfl rfl)
theorem dX1_next_25 : decode cX1_next 25 = .ok (.iinc 1 1, 3) := dk_132 1 1 (dk_at dksX1_next_1 3 rfl rfl)
theorem dX1_next_28 : decode cX1_next 28 = .ok (.goto (-23), 3) := dk_167 255 233 (dk_at dksX1_next_1 6 rfl rfl)
theorem dX1_next_31 : decode cX1_next 31 = .ok (.aload_n 0, 1) := dk_42 (dk_at dksX1_next_1 9 rfl rfl)
theorem dX1_next_32 : decode cX1_next 32 = .ok (.iload_n 1, 1) := dk_27 (dk_at dksX1_next_1 10 rfl rfl)
theorem dX1_next_33 : decode cX1_next 33 = .ok (.putfield 26, 3) := dk_181 0 26 (dk_at dksX1_next_1 11 rfl rfl)
theorem dX1_next_36 : decode cX1_next 36 = .ok (.aload_n 0, 1) := dk_42 (dk_at dksX1_next_1 14 rfl rfl)
theorem dX1_next_37 : decode cX1_next 37 = .ok (.iload_n 1, 1) := dk_27 (dk_at dksX1_next_1 15 rfl rfl)
theorem dX1_next_38 : decode cX1_next 38 = .ok (.iconst 1, 1) := dk_4 (dk_at dksX1_next_1 16 rfl rfl)
theorem dX1_next_39 : decode cX1_next 39 = .ok (.iadd, 1) := dk_96 (dk_at dksX1_next_1 17 rfl rfl)
theorem dX1_next_40 : decode cX1_next 40 = .ok (.putfield 36, 3) := dk_181 0 36 (dk_at dksX1_next_1 18 rfl rfl)
theorem dX1_next_43 : decode cX1_next 43 = .ok (.aload_n 0, 1) := dk_42 (dk_at dksX1_next_1 21 rfl rfl)
theorem dX1_next_44 : decode cX1_next 44 = .ok (.iload_n 1, 1) := dk_27 (dk_at dksX1_next_1 22 rfl rfl)
theorem dX1_next_45 : decode cX1_next 45 = .ok (.invokevirtual 42, 3) := dk_182 0 42 (dk_at dksX1_next_2 0 rfl rfl)
theorem dX1_next_48 : decode cX1_next 48 = .ok (.istore_n 2, 1) := dk_61 (dk_at dksX1_next_2 3 rfl rfl)
theorem dX1_next_49 : decode cX1_next 49 = .ok (.iload_n 2, 1) := dk_28 (dk_at dksX1_next_2 4 rfl rfl)
theorem dX1_next_50 : decode cX1_next 50 = .ok (.iconst (-1), 1) := dk_2 (dk_at dksX1_next_2 5 rfl rfl)
theorem dX1_next_51 : decode cX1_next 51 = .ok (.if_icmp .ne 16, 3) := dk_160 0 16 (dk_at dksX1_next_2 6 rfl rfl)
theorem dX1_next_54 : decode cX1_next 54 = .ok (.aload_n 0, 1) := dk_42 (dk_at dksX1_next_2 9 rfl rfl)
theorem dX1_next_55 : decode cX1_next 55 = .ok (.iconst 0, 1) := dk_3 (dk_at dksX1_next_2 10 rfl rfl)
theorem dX1_next_56 : decode cX1_next 56 = .ok (.putfield 46, 3) := dk_181 0 46 (dk_at dksX1_next_2 11 rfl rfl)
theorem dX1_next_59 : decode cX1_next 59 = .ok (.aload_n 0, 1) := dk_42 (dk_at dksX1_next_2 14 rfl rfl)
theorem dX1_next_60 : decode cX1_next 60 = .ok (.iload_n 1, 1) := dk_27 (dk_at dksX1_next_2 15 rfl rfl)
theorem dX1_next_61 : decode cX1_next 61 = .ok (.putfield 36, 3) := dk_181 0 36 (dk_at dksX1_next_2 16 rfl rfl)
theorem dX1_next_64 : decode cX1_next 64 = .ok (.goto 257, 3) := dk_167 1 1 (dk_at dksX1_next_2 19 rfl rfl)
theorem dX1_next_67 : decode cX1_next 67 = .ok (.iload_n 2, 1) := dk_28 (dk_at dksX1_next_2 22 rfl rfl)
theorem dX1_next_68 : decode cX1_next 68 = .ok (.invokestatic 49, 3) := dk_184 0 49 (dk_at dksX1_next_3 0 rfl rfl)
theorem dX1_next_71 : decode cX1_next 71 = .ok (.ifCond .eq 124, 3) := dk_153 0 124 (dk_at dksX1_next_3 3 rfl rfl)
theorem dX1_next_74 : decode cX1_next 74 = .ok (.aload_n 0, 1) := dk_42 (dk_at dksX1_next_3 6 rfl rfl)
theorem dX1_next_75 : decode cX1_next 75 = .ok (.iload_n 1, 1) := dk_27 (dk_at dksX1_next_3 7 rfl rfl)
theorem dX1_next_76 : decode cX1_next 76 = .ok (.putfield 36, 3) := dk_181 0 36 (dk_at dksX1_next_3 8 rfl rfl)
theorem dX1_next_79 : decode cX1_next 79 = .ok (.aload_n 0, 1) := dk_42 (dk_at dksX1_next_3 11 rfl rfl)
theorem dX1_next_80 : decode cX1_next 80 = .ok (.aload_n 0, 1) := dk_42 (dk_at dksX1_next_3 12 rfl rfl)
theorem dX1_next_81 : decode cX1_next 81 = .ok (.getfield 36, 3) := dk_180 0 36 (dk_at dksX1_next_3 13 rfl rfl)
theorem dX1_next_84 : decode cX1_next 84 = .ok (.invokevirtual 42, 3) := dk_182 0 42 (dk_at dksX1_next_3 16 rfl rfl)
theorem dX1_next_87 : decode cX1_next 87 = .ok (.invokestatic 49, 3) := dk_184 0 49 (dk_at dksX1_next_3 19 rfl rfl)
theorem dX1_next_90 : decode cX1_next 90 = .ok (.ifCond .eq 47, 3) := dk_153 0 47 (dk_at dksX1_next_4 0 rfl rfl)
theorem dX1_next_93 : decode cX1_next 93 = .ok (.aload_n 0, 1) := dk_42 (dk_at dksX1_next_4 3 rfl rfl)
theorem dX1_next_94 : decode cX1_next 94 = .ok (.getfield 36, 3) := dk_180 0 36 (dk_at dksX1_next_4 4 rfl rfl)
theorem dX1_next_97 : decode cX1_next 97 = .ok (.iload_n 1, 1) := dk_27 (dk_at dksX1_next_4 7 rfl rfl)
theorem dX1_next_98 : decode cX1_next 98 = .ok (.isub, 1) := dk_100 (dk_at dksX1_next_4 8 rfl rfl)
theorem dX1_next_99 : decode cX1_next 99 = .ok (.bipush 8, 2) := dk_16 8 (dk_at dksX1_next_4 9 rfl rfl)
theorem dX1_next_101 : decode cX1_next 101 = .ok (.if_icmp .ge 23, 3) := dk_162 0 23 (dk_at dksX1_next_4 11 rfl rfl)
theorem dX1_next_104 : decode cX1_next 104 = .ok (.aload_n 0, 1) := dk_42 (dk_at dksX1_next_4 14 rfl rfl)
theorem dX1_next_105 : decode cX1_next 105 = .ok (.getfield 18, 3) := dk_180 0 18 (dk_at dksX1_next_4 15 rfl rfl)
theorem dX1_next_108 : decode cX1_next 108 = .ok (.aload_n 0, 1) := dk_42 (dk_at dksX1_next_4 18 rfl rfl)
theorem dX1_next_109 : decode cX1_next 109 = .ok (.getfield 36, 3) := dk_180 0 36 (dk_at dksX1_next_4 19 rfl rfl)
theorem dX1_next_112 : decode cX1_next 112 = .ok (.iload_n 1, 1) := dk_27 (dk_at dksX1_next_4 22 rfl rfl)
theorem dX1_next_113 : decode cX1_next 113 = .ok (.isub, 1) := dk_100 (dk_at dksX1_next_4 23 rfl rfl)
theorem dX1_next_114 : decode cX1_next 114 = .ok (.aload_n 0, 1) := dk_42 (dk_at dksX1_next_5 0 rfl rfl)
theorem dX1_next_115 : decode cX1_next 115 = .ok (.aload_n 0, 1) := dk_42 (dk_at dksX1_next_5 1 rfl rfl)
theorem dX1_next_116 : decode cX1_next 116 = .ok (.getfield 36, 3) := dk_180 0 36 (dk_at dksX1_next_5 2 rfl rfl)
theorem dX1_next_119 : decode cX1_next 119 = .ok (.invokevirtual 42, 3) := dk_182 0 42 (dk_at dksX1_next_5 5 rfl rfl)
theorem dX1_next_122 : decode cX1_next 122 = .ok (.i2c, 1) := dk_146 (dk_at dksX1_next_5 8 rfl rfl)
theorem dX1_next_123 : decode cX1_next 123 = .ok (.castore, 1) := dk_85 (dk_at dksX1_next_5 9 rfl rfl)
theorem dX1_next_124 : decode cX1_next 124 = .ok (.aload_n 0, 1) := dk_42 (dk_at dksX1_next_5 10 rfl rfl)
theorem dX1_next_125 : decode cX1_next 125 = .ok (.dup, 1) := dk_89 (dk_at dksX1_next_5 11 rfl rfl)
theorem dX1_next_126 : decode cX1_next 126 = .ok (.getfield 36, 3) := dk_180 0 36 (dk_at dksX1_next_5 12 rfl rfl)
theorem dX1_next_129 : decode cX1_next 129 = .ok (.iconst 1, 1) := dk_4 (dk_at dksX1_next_5 15 rfl rfl)
theorem dX1_next_130 : decode cX1_next 130 = .ok (.iadd, 1) := dk_96 (dk_at dksX1_next_5 16 rfl rfl)
theorem dX1_next_131 : decode cX1_next 131 = .ok (.putfield 36, 3) := dk_181 0 36 (dk_at dksX1_next_5 17 rfl rfl)
theorem dX1_next_134 : decode cX1_next 134 = .ok (.goto (-55), 3) := dk_167 255 201 (dk_at dksX1_next_5 20 rfl rfl)
theorem dX1_next_137 : decode cX1_next 137 = .ok (.aload_n 0, 1) := dk_42 (dk_at dksX1_next_5 23 rfl rfl)
theorem dX1_next_138 : decode cX1_next 138 = .ok (.aload_n 0, 1) := dk_42 (dk_at dksX1_next_6 0 rfl rfl)
theorem dX1_next_139 : decode cX1_next 139 = .ok (.getfield 36, 3) := dk_180 0 36 (dk_at dksX1_next_6 1 rfl rfl)
theorem dX1_next_142 : decode cX1_next 142 = .ok (.iload_n 1, 1) := dk_27 (dk_at dksX1_next_6 4 rfl rfl)
theorem dX1_next_143 : decode cX1_next 143 = .ok (.isub, 1) := dk_100 (dk_at dksX1_next_6 5 rfl rfl)
theorem dX1_next_144 : decode cX1_next 144 = .ok (.bipush 8, 2) := dk_16 8 (dk_at dksX1_next_6 6 rfl rfl)
theorem dX1_next_146 : decode cX1_next 146 = .ok (.if_icmp .le 7, 3) := dk_164 0 7 (dk_at dksX1_next_6 8 rfl rfl)
theorem dX1_next_149 : decode cX1_next 149 = .ok (.iconst 1, 1) := dk_4 (dk_at dksX1_next_6 11 rfl rfl)
theorem dX1_next_150 : decode cX1_next 150 = .ok (.goto 4, 3) := dk_167 0 4 (dk_at dksX1_next_6 12 rfl rfl)
theorem dX1_next_153 : decode cX1_next 153 = .ok (.iconst 2, 1) := dk_5 (dk_at dksX1_next_6 15 rfl rfl)
theorem dX1_next_154 : decode cX1_next 154 = .ok (.putfield 46, 3) := dk_181 0 46 (dk_at dksX1_next_6 16 rfl rfl)
theorem dX1_next_157 : decode cX1_next 157 = .ok (.aload_n 0, 1) := dk_42 (dk_at dksX1_next_6 19 rfl rfl)
theorem dX1_next_158 : decode cX1_next 158 = .ok (.aload_n 0, 1) := dk_42 (dk_at dksX1_next_6 20 rfl rfl)
theorem dX1_next_159 : decode cX1_next 159 = .ok (.getfield 46, 3) := dk_180 0 46 (dk_at dksX1_next_6 21 rfl rfl)
theorem dX1_next_162 : decode cX1_next 162 = .ok (.iconst 2, 1) := dk_5 (dk_at dksX1_next_7 0 rfl rfl)
theorem dX1_next_163 : decode cX1_next 163 = .ok (.if_icmp .ne 24, 3) := dk_160 0 24 (dk_at dksX1_next_7 1 rfl rfl)
theorem dX1_next_166 : decode cX1_next 166 = .ok (.new 53, 3) := dk_187 0 53 (dk_at dksX1_next_7 4 rfl rfl)
theorem dX1_next_169 : decode cX1_next 169 = .ok (.dup, 1) := dk_89 (dk_at dksX1_next_7 7 rfl rfl)
theorem dX1_next_170 : decode cX1_next 170 = .ok (.aload_n 0, 1) := dk_42 (dk_at dksX1_next_7 8 rfl rfl)
theorem dX1_next_171 : decode cX1_next 171 = .ok (.getfield 18, 3) := dk_180 0 18 (dk_at dksX1_next_7 9 rfl rfl)
theorem dX1_next_174 : decode cX1_next 174 = .ok (.iconst 0, 1) := dk_3 (dk_at dksX1_next_7 12 rfl rfl)
theorem dX1_next_175 : decode cX1_next 175 = .ok (.aload_n 0, 1) := dk_42 (dk_at dksX1_next_7 13 rfl rfl)
theorem dX1_next_176 : decode cX1_next 176 = .ok (.getfield 36, 3) := dk_180 0 36 (dk_at dksX1_next_7 14 rfl rfl)
theorem dX1_next_179 : decode cX1_next 179 = .ok (.iload_n 1, 1) := dk_27 (dk_at dksX1_next_7 17 rfl rfl)
theorem dX1_next_180 : decode cX1_next 180 = .ok (.isub, 1) := dk_100 (dk_at dksX1_next_7 18 rfl rfl)
theorem dX1_next_181 : decode cX1_next 181 = .ok (.invokespecial 55, 3) := dk_183 0 55 (dk_at dksX1_next_7 19 rfl rfl)
theorem dX1_next_184 : decode cX1_next 184 = .ok (.goto 5, 3) := dk_167 0 5 (dk_at dksX1_next_8 0 rfl rfl)
theorem dX1_next_187 : decode cX1_next 187 = .ok (.ldc 58, 2) := dk_18 58 (dk_at dksX1_next_8 3 rfl rfl)
theorem dX1_next_189 : decode cX1_next 189 = .ok (.putfield 60, 3) := dk_181 0 60 (dk_at dksX1_next_8 5 rfl rfl)
theorem dX1_next_192 : decode cX1_next 192 = .ok (.goto 129, 3) := dk_167 0 129 (dk_at dksX1_next_8 8 rfl rfl)
theorem dX1_next_195 : decode cX1_next 195 = .ok (.iload_n 2, 1) := dk_28 (dk_at dksX1_next_8 11 rfl rfl)
theorem dX1_next_196 : decode cX1_next 196 = .ok (.invokestatic 64, 3) := dk_184 0 64 (dk_at dksX1_next_8 12 rfl rfl)
theorem dX1_next_199 : decode cX1_next 199 = .ok (.ifCond .eq 95, 3) := dk_153 0 95 (dk_at dksX1_next_8 15 rfl rfl)
theorem dX1_next_202 : decode cX1_next 202 = .ok (.aload_n 0, 1) := dk_42 (dk_at dksX1_next_8 18 rfl rfl)
theorem dX1_next_203 : decode cX1_next 203 = .ok (.iconst 0, 1) := dk_3 (dk_at dksX1_next_8 19 rfl rfl)
theorem dX1_next_204 : decode cX1_next 204 = .ok (.putfield 67, 3) := dk_181 0 67 (dk_at dksX1_next_8 20 rfl rfl)
theorem dX1_next_207 : decode cX1_next 207 = .ok (.aload_n 0, 1) := dk_42 (dk_at dksX1_next_8 23 rfl rfl)
theorem dX1_next_208 : decode cX1_next 208 = .ok (.iload_n 1, 1) := dk_27 (dk_at dksX1_next_9 0 rfl rfl)
theorem dX1_next_209 : decode cX1_next 209 = .ok (.putfield 36, 3) := dk_181 0 36 (dk_at dksX1_next_9 1 rfl rfl)
theorem dX1_next_212 : decode cX1_next 212 = .ok (.aload_n 0, 1) := dk_42 (dk_at dksX1_next_9 4 rfl rfl)
theorem dX1_next_213 : decode cX1_next 213 = .ok (.aload_n 0, 1) := dk_42 (dk_at dksX1_next_9 5 rfl rfl)
theorem dX1_next_214 : decode cX1_next 214 = .ok (.getfield 36, 3) := dk_180 0 36 (dk_at dksX1_next_9 6 rfl rfl)
theorem dX1_next_217 : decode cX1_next 217 = .ok (.invokevirtual 42, 3) := dk_182 0 42 (dk_at dksX1_next_9 9 rfl rfl)
theorem dX1_next_220 : decode cX1_next 220 = .ok (.invokestatic 64, 3) := dk_184 0 64 (dk_at dksX1_next_9 12 rfl rfl)
theorem dX1_next_223 : decode cX1_next 223 = .ok (.ifCond .eq 49, 3) := dk_153 0 49 (dk_at dksX1_next_9 15 rfl rfl)
theorem dX1_next_226 : decode cX1_next 226 = .ok (.aload_n 0, 1) := dk_42 (dk_at dksX1_next_9 18 rfl rfl)
theorem dX1_next_227 : decode cX1_next 227 = .ok (.getfield 36, 3) := dk_180 0 36 (dk_at dksX1_next_9 19 rfl rfl)
theorem dX1_next_230 : decode cX1_next 230 = .ok (.iload_n 1, 1) := dk_27 (dk_at dksX1_next_9 22 rfl rfl)
theorem dX1_next_231 : decode cX1_next 231 = .ok (.isub, 1) := dk_100 (dk_at dksX1_next_9 23 rfl rfl)
theorem dX1_next_232 : decode cX1_next 232 = .ok (.iconst 4, 1) := dk_7 (dk_at dksX1_next_10 0 rfl rfl)
theorem dX1_next_233 : decode cX1_next 233 = .ok (.if_icmp .ge 26, 3) := dk_162 0 26 (dk_at dksX1_next_10 1 rfl rfl)
theorem dX1_next_236 : decode cX1_next 236 = .ok (.aload_n 0, 1) := dk_42 (dk_at dksX1_next_10 4 rfl rfl)
theorem dX1_next_237 : decode cX1_next 237 = .ok (.bipush 10, 2) := dk_16 10 (dk_at dksX1_next_10 5 rfl rfl)
theorem dX1_next_239 : decode cX1_next 239 = .ok (.aload_n 0, 1) := dk_42 (dk_at dksX1_next_10 7 rfl rfl)
theorem dX1_next_240 : decode cX1_next 240 = .ok (.getfield 67, 3) := dk_180 0 67 (dk_at dksX1_next_10 8 rfl rfl)
theorem dX1_next_243 : decode cX1_next 243 = .ok (.imul, 1) := dk_104 (dk_at dksX1_next_10 11 rfl rfl)
theorem dX1_next_244 : decode cX1_next 244 = .ok (.aload_n 0, 1) := dk_42 (dk_at dksX1_next_10 12 rfl rfl)
theorem dX1_next_245 : decode cX1_next 245 = .ok (.aload_n 0, 1) := dk_42 (dk_at dksX1_next_10 13 rfl rfl)
theorem dX1_next_246 : decode cX1_next 246 = .ok (.getfield 36, 3) := dk_180 0 36 (dk_at dksX1_next_10 14 rfl rfl)
theorem dX1_next_249 : decode cX1_next 249 = .ok (.invokevirtual 42, 3) := dk_182 0 42 (dk_at dksX1_next_10 17 rfl rfl)
theorem dX1_next_252 : decode cX1_next 252 = .ok (.iadd, 1) := dk_96 (dk_at dksX1_next_10 20 rfl rfl)
theorem dX1_next_253 : decode cX1_next 253 = .ok (.bipush 48, 2) := dk_16 48 (dk_at dksX1_next_10 21 rfl rfl)
theorem dX1_next_255 : decode cX1_next 255 = .ok (.isub, 1) := dk_100 (dk_at dksX1_next_10 23 rfl rfl)
theorem dX1_next_256 : decode cX1_next 256 = .ok (.putfield 67, 3) := dk_181 0 67 (dk_at dksX1_next_11 0 rfl rfl)
theorem dX1_next_259 : decode cX1_next 259 = .ok (.aload_n 0, 1) := dk_42 (dk_at dksX1_next_11 3 rfl rfl)
theorem dX1_next_260 : decode cX1_next 260 = .ok (.dup, 1) := dk_89 (dk_at dksX1_next_11 4 rfl rfl)
theorem dX1_next_261 : decode cX1_next 261 = .ok (.getfield 36, 3) := dk_180 0 36 (dk_at dksX1_next_11 5 rfl rfl)
theorem dX1_next_264 : decode cX1_next 264 = .ok (.iconst 1, 1) := dk_4 (dk_at dksX1_next_11 8 rfl rfl)
theorem dX1_next_265 : decode cX1_next 265 = .ok (.iadd, 1) := dk_96 (dk_at dksX1_next_11 9 rfl rfl)
theorem dX1_next_266 : decode cX1_next 266 = .ok (.putfield 36, 3) := dk_181 0 36 (dk_at dksX1_next_11 10 rfl rfl)
theorem dX1_next_269 : decode cX1_next 269 = .ok (.goto (-57), 3) := dk_167 255 199 (dk_at dksX1_next_11 13 rfl rfl)
theorem dX1_next_272 : decode cX1_next 272 = .ok (.aload_n 0, 1) := dk_42 (dk_at dksX1_next_11 16 rfl rfl)
theorem dX1_next_273 : decode cX1_next 273 = .ok (.aload_n 0, 1) := dk_42 (dk_at dksX1_next_11 17 rfl rfl)
theorem dX1_next_274 : decode cX1_next 274 = .ok (.getfield 36, 3) := dk_180 0 36 (dk_at dksX1_next_11 18 rfl rfl)
theorem dX1_next_277 : decode cX1_next 277 = .ok (.iload_n 1, 1) := dk_27 (dk_at dksX1_next_11 21 rfl rfl)
theorem dX1_next_278 : decode cX1_next 278 = .ok (.isub, 1) := dk_100 (dk_at dksX1_next_11 22 rfl rfl)
theorem dX1_next_279 : decode cX1_next 279 = .ok (.iconst 4, 1) := dk_7 (dk_at dksX1_next_11 23 rfl rfl)
theorem dX1_next_280 : decode cX1_next 280 = .ok (.if_icmp .le 7, 3) := dk_164 0 7 (dk_at dksX1_next_12 0 rfl rfl)
theorem dX1_next_283 : decode cX1_next 283 = .ok (.iconst 1, 1) := dk_4 (dk_at dksX1_next_12 3 rfl rfl)
theorem dX1_next_284 : decode cX1_next 284 = .ok (.goto 4, 3) := dk_167 0 4 (dk_at dksX1_next_12 4 rfl rfl)
theorem dX1_next_287 : decode cX1_next 287 = .ok (.iconst 3, 1) := dk_6 (dk_at dksX1_next_12 7 rfl rfl)
theorem dX1_next_288 : decode cX1_next 288 = .ok (.putfield 46, 3) := dk_181 0 46 (dk_at dksX1_next_12 8 rfl rfl)
theorem dX1_next_291 : decode cX1_next 291 = .ok (.goto 30, 3) := dk_167 0 30 (dk_at dksX1_next_12 11 rfl rfl)
theorem dX1_next_294 : decode cX1_next 294 = .ok (.aload_n 0, 1) := dk_42 (dk_at dksX1_next_12 14 rfl rfl)
theorem dX1_next_295 : decode cX1_next 295 = .ok (.iload_n 2, 1) := dk_28 (dk_at dksX1_next_12 15 rfl rfl)
theorem dX1_next_296 : decode cX1_next 296 = .ok (.bipush 60, 2) := dk_16 60 (dk_at dksX1_next_12 16 rfl rfl)
theorem dX1_next_298 : decode cX1_next 298 = .ok (.if_icmp .eq 15, 3) := dk_159 0 15 (dk_at dksX1_next_12 18 rfl rfl)
theorem dX1_next_301 : decode cX1_next 301 = .ok (.iload_n 2, 1) := dk_28 (dk_at dksX1_next_12 21 rfl rfl)
theorem dX1_next_302 : decode cX1_next 302 = .ok (.bipush 62, 2) := dk_16 62 (dk_at dksX1_next_12 22 rfl rfl)
theorem dX1_next_304 : decode cX1_next 304 = .ok (.if_icmp .eq 9, 3) := dk_159 0 9 (dk_at dksX1_next_13 0 rfl rfl)
theorem dX1_next_307 : decode cX1_next 307 = .ok (.iload_n 2, 1) := dk_28 (dk_at dksX1_next_13 3 rfl rfl)
theorem dX1_next_308 : decode cX1_next 308 = .ok (.bipush 59, 2) := dk_16 59 (dk_at dksX1_next_13 4 rfl rfl)
theorem dX1_next_310 : decode cX1_next 310 = .ok (.if_icmp .ne 7, 3) := dk_160 0 7 (dk_at dksX1_next_13 6 rfl rfl)
theorem dX1_next_313 : decode cX1_next 313 = .ok (.iload_n 2, 1) := dk_28 (dk_at dksX1_next_13 9 rfl rfl)
theorem dX1_next_314 : decode cX1_next 314 = .ok (.goto 4, 3) := dk_167 0 4 (dk_at dksX1_next_13 10 rfl rfl)
theorem dX1_next_317 : decode cX1_next 317 = .ok (.iconst 1, 1) := dk_4 (dk_at dksX1_next_13 13 rfl rfl)
theorem dX1_next_318 : decode cX1_next 318 = .ok (.putfield 46, 3) := dk_181 0 46 (dk_at dksX1_next_13 14 rfl rfl)
theorem dX1_next_321 : decode cX1_next 321 = .ok (.return_, 1) := dk_177 (dk_at dksX1_next_13 17 rfl rfl)
abbrev cX1_see : ByteArray := prog_7_method_4_code
def yX1_see : MethodName := ⟨RX1, "see", "(I)I"⟩
def dkwX1_see_0 : List UInt8 := [27, 42, 180, 0, 33, 162, 0, 16, 42, 180, 0, 22, 27, 51, 17, 0, 255, 126, 167, 0, 4, 2, 172]
abbrev dktX1_see_0 : List UInt8 := dkwX1_see_0 ++ []
theorem dksX1_see_0 : cX1_see.data.toList.drop 0 = dktX1_see_0 := by decide +kernel
theorem dX1_see_0 : decode cX1_see 0 = .ok (.iload_n 1, 1) := dk_27 (dk_at dksX1_see_0 0 rfl rfl)
theorem dX1_see_1 : decode cX1_see 1 = .ok (.aload_n 0, 1) := dk_42 (dk_at dksX1_see_0 1 rfl rfl)
theorem dX1_see_2 : decode cX1_see 2 = .ok (.getfield 33, 3) := dk_180 0 33 (dk_at dksX1_see_0 2 rfl rfl)
theorem dX1_see_5 : decode cX1_see 5 = .ok (.if_icmp .ge 16, 3) := dk_162 0 16 (dk_at dksX1_see_0 5 rfl rfl)
theorem dX1_see_8 : decode cX1_see 8 = .ok (.aload_n 0, 1) := dk_42 (dk_at dksX1_see_0 8 rfl rfl)
theorem dX1_see_9 : decode cX1_see 9 = .ok (.getfield 22, 3) := dk_180 0 22 (dk_at dksX1_see_0 9 rfl rfl)
theorem dX1_see_12 : decode cX1_see 12 = .ok (.iload_n 1, 1) := dk_27 (dk_at dksX1_see_0 12 rfl rfl)
theorem dX1_see_13 : decode cX1_see 13 = .ok (.baload, 1) := dk_51 (dk_at dksX1_see_0 13 rfl rfl)
theorem dX1_see_14 : decode cX1_see 14 = .ok (.sipush 255, 3) := dk_17 0 255 (dk_at dksX1_see_0 14 rfl rfl)
theorem dX1_see_17 : decode cX1_see 17 = .ok (.iand, 1) := dk_126 (dk_at dksX1_see_0 17 rfl rfl)
theorem dX1_see_18 : decode cX1_see 18 = .ok (.goto 4, 3) := dk_167 0 4 (dk_at dksX1_see_0 18 rfl rfl)
theorem dX1_see_21 : decode cX1_see 21 = .ok (.iconst (-1), 1) := dk_2 (dk_at dksX1_see_0 21 rfl rfl)
theorem dX1_see_22 : decode cX1_see 22 = .ok (.ireturn, 1) := dk_172 (dk_at dksX1_see_0 22 rfl rfl)
abbrev cX1_isSmall : ByteArray := prog_7_method_5_code
def yX1_isSmall : MethodName := ⟨RX1, "isSmall", "(I)Z"⟩
def dkwX1_isSmall_0 : List UInt8 := [26, 16, 97, 161, 0, 13, 26, 16, 122, 163, 0, 7, 4, 167, 0, 4, 3, 172]
abbrev dktX1_isSmall_0 : List UInt8 := dkwX1_isSmall_0 ++ []
theorem dksX1_isSmall_0 : cX1_isSmall.data.toList.drop 0 = dktX1_isSmall_0 := by decide +kernel
theorem dX1_isSmall_0 : decode cX1_isSmall 0 = .ok (.iload_n 0, 1) := dk_26 (dk_at dksX1_isSmall_0 0 rfl rfl)
theorem dX1_isSmall_1 : decode cX1_isSmall 1 = .ok (.bipush 97, 2) := dk_16 97 (dk_at dksX1_isSmall_0 1 rfl rfl)
theorem dX1_isSmall_3 : decode cX1_isSmall 3 = .ok (.if_icmp .lt 13, 3) := dk_161 0 13 (dk_at dksX1_isSmall_0 3 rfl rfl)
theorem dX1_isSmall_6 : decode cX1_isSmall 6 = .ok (.iload_n 0, 1) := dk_26 (dk_at dksX1_isSmall_0 6 rfl rfl)
theorem dX1_isSmall_7 : decode cX1_isSmall 7 = .ok (.bipush 122, 2) := dk_16 122 (dk_at dksX1_isSmall_0 7 rfl rfl)
theorem dX1_isSmall_9 : decode cX1_isSmall 9 = .ok (.if_icmp .gt 7, 3) := dk_163 0 7 (dk_at dksX1_isSmall_0 9 rfl rfl)
theorem dX1_isSmall_12 : decode cX1_isSmall 12 = .ok (.iconst 1, 1) := dk_4 (dk_at dksX1_isSmall_0 12 rfl rfl)
theorem dX1_isSmall_13 : decode cX1_isSmall 13 = .ok (.goto 4, 3) := dk_167 0 4 (dk_at dksX1_isSmall_0 13 rfl rfl)
theorem dX1_isSmall_16 : decode cX1_isSmall 16 = .ok (.iconst 0, 1) := dk_3 (dk_at dksX1_isSmall_0 16 rfl rfl)
theorem dX1_isSmall_17 : decode cX1_isSmall 17 = .ok (.ireturn, 1) := dk_172 (dk_at dksX1_isSmall_0 17 rfl rfl)
abbrev cX1_isDigit : ByteArray := prog_7_method_6_code
def yX1_isDigit : MethodName := ⟨RX1, "isDigit", "(I)Z"⟩
def dkwX1_isDigit_0 : List UInt8 := [26, 16, 48, 161, 0, 13, 26, 16, 57, 163, 0, 7, 4, 167, 0, 4, 3, 172]
abbrev dktX1_isDigit_0 : List UInt8 := dkwX1_isDigit_0 ++ []
theorem dksX1_isDigit_0 : cX1_isDigit.data.toList.drop 0 = dktX1_isDigit_0 := by decide +kernel
theorem dX1_isDigit_0 : decode cX1_isDigit 0 = .ok (.iload_n 0, 1) := dk_26 (dk_at dksX1_isDigit_0 0 rfl rfl)
theorem dX1_isDigit_1 : decode cX1_isDigit 1 = .ok (.bipush 48, 2) := dk_16 48 (dk_at dksX1_isDigit_0 1 rfl rfl)
theorem dX1_isDigit_3 : decode cX1_isDigit 3 = .ok (.if_icmp .lt 13, 3) := dk_161 0 13 (dk_at dksX1_isDigit_0 3 rfl rfl)
theorem dX1_isDigit_6 : decode cX1_isDigit 6 = .ok (.iload_n 0, 1) := dk_26 (dk_at dksX1_isDigit_0 6 rfl rfl)
theorem dX1_isDigit_7 : decode cX1_isDigit 7 = .ok (.bipush 57, 2) := dk_16 57 (dk_at dksX1_isDigit_0 7 rfl rfl)
theorem dX1_isDigit_9 : decode cX1_isDigit 9 = .ok (.if_icmp .gt 7, 3) := dk_163 0 7 (dk_at dksX1_isDigit_0 9 rfl rfl)
theorem dX1_isDigit_12 : decode cX1_isDigit 12 = .ok (.iconst 1, 1) := dk_4 (dk_at dksX1_isDigit_0 12 rfl rfl)
theorem dX1_isDigit_13 : decode cX1_isDigit 13 = .ok (.goto 4, 3) := dk_167 0 4 (dk_at dksX1_isDigit_0 13 rfl rfl)
theorem dX1_isDigit_16 : decode cX1_isDigit 16 = .ok (.iconst 0, 1) := dk_3 (dk_at dksX1_isDigit_0 16 rfl rfl)
theorem dX1_isDigit_17 : decode cX1_isDigit 17 = .ok (.ireturn, 1) := dk_172 (dk_at dksX1_isDigit_0 17 rfl rfl)
abbrev cX1_isWord : ByteArray := prog_7_method_8_code
def yX1_isWord : MethodName := ⟨RX1, "isWord", "(Ljava/lang/String;)Z"⟩
def dkwX1_isWord_1 : List UInt8 := [172]
abbrev dktX1_isWord_1 : List UInt8 := dkwX1_isWord_1 ++ []
def dkwX1_isWord_0 : List UInt8 := [42, 180, 0, 46, 5, 160, 0, 18, 42, 180, 0, 60, 43, 182, 0, 70, 153, 0, 7, 4, 167, 0, 4, 3]
abbrev dktX1_isWord_0 : List UInt8 := dkwX1_isWord_0 ++ dktX1_isWord_1
theorem dksX1_isWord_0 : cX1_isWord.data.toList.drop 0 = dktX1_isWord_0 := by decide +kernel
theorem dksX1_isWord_1 : cX1_isWord.data.toList.drop 24 = dktX1_isWord_1 := dk_seg dksX1_isWord_0 24 rfl rfl
theorem dX1_isWord_0 : decode cX1_isWord 0 = .ok (.aload_n 0, 1) := dk_42 (dk_at dksX1_isWord_0 0 rfl rfl)
theorem dX1_isWord_1 : decode cX1_isWord 1 = .ok (.getfield 46, 3) := dk_180 0 46 (dk_at dksX1_isWord_0 1 rfl rfl)
theorem dX1_isWord_4 : decode cX1_isWord 4 = .ok (.iconst 2, 1) := dk_5 (dk_at dksX1_isWord_0 4 rfl rfl)
theorem dX1_isWord_5 : decode cX1_isWord 5 = .ok (.if_icmp .ne 18, 3) := dk_160 0 18 (dk_at dksX1_isWord_0 5 rfl rfl)
theorem dX1_isWord_8 : decode cX1_isWord 8 = .ok (.aload_n 0, 1) := dk_42 (dk_at dksX1_isWord_0 8 rfl rfl)
theorem dX1_isWord_9 : decode cX1_isWord 9 = .ok (.getfield 60, 3) := dk_180 0 60 (dk_at dksX1_isWord_0 9 rfl rfl)
theorem dX1_isWord_12 : decode cX1_isWord 12 = .ok (.aload_n 1, 1) := dk_43 (dk_at dksX1_isWord_0 12 rfl rfl)
theorem dX1_isWord_13 : decode cX1_isWord 13 = .ok (.invokevirtual 70, 3) := dk_182 0 70 (dk_at dksX1_isWord_0 13 rfl rfl)
theorem dX1_isWord_16 : decode cX1_isWord 16 = .ok (.ifCond .eq 7, 3) := dk_153 0 7 (dk_at dksX1_isWord_0 16 rfl rfl)
theorem dX1_isWord_19 : decode cX1_isWord 19 = .ok (.iconst 1, 1) := dk_4 (dk_at dksX1_isWord_0 19 rfl rfl)
theorem dX1_isWord_20 : decode cX1_isWord 20 = .ok (.goto 4, 3) := dk_167 0 4 (dk_at dksX1_isWord_0 20 rfl rfl)
theorem dX1_isWord_23 : decode cX1_isWord 23 = .ok (.iconst 0, 1) := dk_3 (dk_at dksX1_isWord_0 23 rfl rfl)
theorem dX1_isWord_24 : decode cX1_isWord 24 = .ok (.ireturn, 1) := dk_172 (dk_at dksX1_isWord_1 0 rfl rfl)
abbrev cX1_fail : ByteArray := prog_7_method_2_code
def yX1_fail : MethodName := ⟨RX1, "fail", "(I)LSledHouse$Refused;"⟩
def dkwX1_fail_0 : List UInt8 := [42, 180, 0, 12, 27, 42, 180, 0, 26, 182, 0, 30, 176]
abbrev dktX1_fail_0 : List UInt8 := dkwX1_fail_0 ++ []
theorem dksX1_fail_0 : cX1_fail.data.toList.drop 0 = dktX1_fail_0 := by decide +kernel
theorem dX1_fail_0 : decode cX1_fail 0 = .ok (.aload_n 0, 1) := dk_42 (dk_at dksX1_fail_0 0 rfl rfl)
theorem dX1_fail_1 : decode cX1_fail 1 = .ok (.getfield 12, 3) := dk_180 0 12 (dk_at dksX1_fail_0 1 rfl rfl)
theorem dX1_fail_4 : decode cX1_fail 4 = .ok (.iload_n 1, 1) := dk_27 (dk_at dksX1_fail_0 4 rfl rfl)
theorem dX1_fail_5 : decode cX1_fail 5 = .ok (.aload_n 0, 1) := dk_42 (dk_at dksX1_fail_0 5 rfl rfl)
theorem dX1_fail_6 : decode cX1_fail 6 = .ok (.getfield 26, 3) := dk_180 0 26 (dk_at dksX1_fail_0 6 rfl rfl)
theorem dX1_fail_9 : decode cX1_fail 9 = .ok (.invokevirtual 30, 3) := dk_182 0 30 (dk_at dksX1_fail_0 9 rfl rfl)
theorem dX1_fail_12 : decode cX1_fail 12 = .ok (.areturn, 1) := dk_176 (dk_at dksX1_fail_0 12 rfl rfl)
abbrev cX1_takes : ByteArray := prog_7_method_9_code
def yX1_takes : MethodName := ⟨RX1, "takes", "(Ljava/lang/String;)Z"⟩
def dkwX1_takes_0 : List UInt8 := [42, 43, 182, 0, 74, 154, 0, 5, 3, 172, 42, 182, 0, 39, 4, 172]
abbrev dktX1_takes_0 : List UInt8 := dkwX1_takes_0 ++ []
theorem dksX1_takes_0 : cX1_takes.data.toList.drop 0 = dktX1_takes_0 := by decide +kernel
theorem dX1_takes_0 : decode cX1_takes 0 = .ok (.aload_n 0, 1) := dk_42 (dk_at dksX1_takes_0 0 rfl rfl)
theorem dX1_takes_1 : decode cX1_takes 1 = .ok (.aload_n 1, 1) := dk_43 (dk_at dksX1_takes_0 1 rfl rfl)
theorem dX1_takes_2 : decode cX1_takes 2 = .ok (.invokevirtual 74, 3) := dk_182 0 74 (dk_at dksX1_takes_0 2 rfl rfl)
theorem dX1_takes_5 : decode cX1_takes 5 = .ok (.ifCond .ne 5, 3) := dk_154 0 5 (dk_at dksX1_takes_0 5 rfl rfl)
theorem dX1_takes_8 : decode cX1_takes 8 = .ok (.iconst 0, 1) := dk_3 (dk_at dksX1_takes_0 8 rfl rfl)
theorem dX1_takes_9 : decode cX1_takes 9 = .ok (.ireturn, 1) := dk_172 (dk_at dksX1_takes_0 9 rfl rfl)
theorem dX1_takes_10 : decode cX1_takes 10 = .ok (.aload_n 0, 1) := dk_42 (dk_at dksX1_takes_0 10 rfl rfl)
theorem dX1_takes_11 : decode cX1_takes 11 = .ok (.invokevirtual 39, 3) := dk_182 0 39 (dk_at dksX1_takes_0 11 rfl rfl)
theorem dX1_takes_14 : decode cX1_takes 14 = .ok (.iconst 1, 1) := dk_4 (dk_at dksX1_takes_0 14 rfl rfl)
theorem dX1_takes_15 : decode cX1_takes 15 = .ok (.ireturn, 1) := dk_172 (dk_at dksX1_takes_0 15 rfl rfl)
abbrev cX1_takes_2 : ByteArray := prog_7_method_10_code
def yX1_takes_2 : MethodName := ⟨RX1, "takes", "(I)Z"⟩
def dkwX1_takes_2_0 : List UInt8 := [42, 180, 0, 46, 27, 159, 0, 5, 3, 172, 42, 182, 0, 39, 4, 172]
abbrev dktX1_takes_2_0 : List UInt8 := dkwX1_takes_2_0 ++ []
theorem dksX1_takes_2_0 : cX1_takes_2.data.toList.drop 0 = dktX1_takes_2_0 := by decide +kernel
theorem dX1_takes_2_0 : decode cX1_takes_2 0 = .ok (.aload_n 0, 1) := dk_42 (dk_at dksX1_takes_2_0 0 rfl rfl)
theorem dX1_takes_2_1 : decode cX1_takes_2 1 = .ok (.getfield 46, 3) := dk_180 0 46 (dk_at dksX1_takes_2_0 1 rfl rfl)
theorem dX1_takes_2_4 : decode cX1_takes_2 4 = .ok (.iload_n 1, 1) := dk_27 (dk_at dksX1_takes_2_0 4 rfl rfl)
theorem dX1_takes_2_5 : decode cX1_takes_2 5 = .ok (.if_icmp .eq 5, 3) := dk_159 0 5 (dk_at dksX1_takes_2_0 5 rfl rfl)
theorem dX1_takes_2_8 : decode cX1_takes_2 8 = .ok (.iconst 0, 1) := dk_3 (dk_at dksX1_takes_2_0 8 rfl rfl)
theorem dX1_takes_2_9 : decode cX1_takes_2 9 = .ok (.ireturn, 1) := dk_172 (dk_at dksX1_takes_2_0 9 rfl rfl)
theorem dX1_takes_2_10 : decode cX1_takes_2 10 = .ok (.aload_n 0, 1) := dk_42 (dk_at dksX1_takes_2_0 10 rfl rfl)
theorem dX1_takes_2_11 : decode cX1_takes_2 11 = .ok (.invokevirtual 39, 3) := dk_182 0 39 (dk_at dksX1_takes_2_0 11 rfl rfl)
theorem dX1_takes_2_14 : decode cX1_takes_2 14 = .ok (.iconst 1, 1) := dk_4 (dk_at dksX1_takes_2_0 14 rfl rfl)
theorem dX1_takes_2_15 : decode cX1_takes_2 15 = .ok (.ireturn, 1) := dk_172 (dk_at dksX1_takes_2_0 15 rfl rfl)
abbrev cX1_number : ByteArray := prog_7_method_12_code
def yX1_number : MethodName := ⟨RX1, "number", "()I"⟩
def dkwX1_number_1 : List UInt8 := [172]
abbrev dktX1_number_1 : List UInt8 := dkwX1_number_1 ++ []
def dkwX1_number_0 : List UInt8 := [42, 180, 0, 46, 6, 159, 0, 9, 42, 4, 182, 0, 81, 191, 42, 180, 0, 67, 60, 42, 182, 0, 39, 27]
abbrev dktX1_number_0 : List UInt8 := dkwX1_number_0 ++ dktX1_number_1
theorem dksX1_number_0 : cX1_number.data.toList.drop 0 = dktX1_number_0 := by decide +kernel
theorem dksX1_number_1 : cX1_number.data.toList.drop 24 = dktX1_number_1 := dk_seg dksX1_number_0 24 rfl rfl
theorem dX1_number_0 : decode cX1_number 0 = .ok (.aload_n 0, 1) := dk_42 (dk_at dksX1_number_0 0 rfl rfl)
theorem dX1_number_1 : decode cX1_number 1 = .ok (.getfield 46, 3) := dk_180 0 46 (dk_at dksX1_number_0 1 rfl rfl)
theorem dX1_number_4 : decode cX1_number 4 = .ok (.iconst 3, 1) := dk_6 (dk_at dksX1_number_0 4 rfl rfl)
theorem dX1_number_5 : decode cX1_number 5 = .ok (.if_icmp .eq 9, 3) := dk_159 0 9 (dk_at dksX1_number_0 5 rfl rfl)
theorem dX1_number_8 : decode cX1_number 8 = .ok (.aload_n 0, 1) := dk_42 (dk_at dksX1_number_0 8 rfl rfl)
theorem dX1_number_9 : decode cX1_number 9 = .ok (.iconst 1, 1) := dk_4 (dk_at dksX1_number_0 9 rfl rfl)
theorem dX1_number_10 : decode cX1_number 10 = .ok (.invokevirtual 81, 3) := dk_182 0 81 (dk_at dksX1_number_0 10 rfl rfl)
theorem dX1_number_13 : decode cX1_number 13 = .ok (.athrow, 1) := dk_191 (dk_at dksX1_number_0 13 rfl rfl)
theorem dX1_number_14 : decode cX1_number 14 = .ok (.aload_n 0, 1) := dk_42 (dk_at dksX1_number_0 14 rfl rfl)
theorem dX1_number_15 : decode cX1_number 15 = .ok (.getfield 67, 3) := dk_180 0 67 (dk_at dksX1_number_0 15 rfl rfl)
theorem dX1_number_18 : decode cX1_number 18 = .ok (.istore_n 1, 1) := dk_60 (dk_at dksX1_number_0 18 rfl rfl)
theorem dX1_number_19 : decode cX1_number 19 = .ok (.aload_n 0, 1) := dk_42 (dk_at dksX1_number_0 19 rfl rfl)
theorem dX1_number_20 : decode cX1_number 20 = .ok (.invokevirtual 39, 3) := dk_182 0 39 (dk_at dksX1_number_0 20 rfl rfl)
theorem dX1_number_23 : decode cX1_number 23 = .ok (.iload_n 1, 1) := dk_27 (dk_at dksX1_number_0 23 rfl rfl)
theorem dX1_number_24 : decode cX1_number 24 = .ok (.ireturn, 1) := dk_172 (dk_at dksX1_number_1 0 rfl rfl)
abbrev cX1_mustEnd : ByteArray := prog_7_method_13_code
def yX1_mustEnd : MethodName := ⟨RX1, "mustEnd", "()V"⟩
def dkwX1_mustEnd_0 : List UInt8 := [42, 180, 0, 46, 153, 0, 9, 42, 4, 182, 0, 81, 191, 177]
abbrev dktX1_mustEnd_0 : List UInt8 := dkwX1_mustEnd_0 ++ []
theorem dksX1_mustEnd_0 : cX1_mustEnd.data.toList.drop 0 = dktX1_mustEnd_0 := by decide +kernel
theorem dX1_mustEnd_0 : decode cX1_mustEnd 0 = .ok (.aload_n 0, 1) := dk_42 (dk_at dksX1_mustEnd_0 0 rfl rfl)
theorem dX1_mustEnd_1 : decode cX1_mustEnd 1 = .ok (.getfield 46, 3) := dk_180 0 46 (dk_at dksX1_mustEnd_0 1 rfl rfl)
theorem dX1_mustEnd_4 : decode cX1_mustEnd 4 = .ok (.ifCond .eq 9, 3) := dk_153 0 9 (dk_at dksX1_mustEnd_0 4 rfl rfl)
theorem dX1_mustEnd_7 : decode cX1_mustEnd 7 = .ok (.aload_n 0, 1) := dk_42 (dk_at dksX1_mustEnd_0 7 rfl rfl)
theorem dX1_mustEnd_8 : decode cX1_mustEnd 8 = .ok (.iconst 1, 1) := dk_4 (dk_at dksX1_mustEnd_0 8 rfl rfl)
theorem dX1_mustEnd_9 : decode cX1_mustEnd 9 = .ok (.invokevirtual 81, 3) := dk_182 0 81 (dk_at dksX1_mustEnd_0 9 rfl rfl)
theorem dX1_mustEnd_12 : decode cX1_mustEnd 12 = .ok (.athrow, 1) := dk_191 (dk_at dksX1_mustEnd_0 12 rfl rfl)
theorem dX1_mustEnd_13 : decode cX1_mustEnd 13 = .ok (.return_, 1) := dk_177 (dk_at dksX1_mustEnd_0 13 rfl rfl)
abbrev cX1_must : ByteArray := prog_7_method_11_code
def yX1_must : MethodName := ⟨RX1, "must", "(Ljava/lang/String;)V"⟩
def dkwX1_must_0 : List UInt8 := [42, 43, 182, 0, 78, 154, 0, 9, 42, 4, 182, 0, 81, 191, 177]
abbrev dktX1_must_0 : List UInt8 := dkwX1_must_0 ++ []
theorem dksX1_must_0 : cX1_must.data.toList.drop 0 = dktX1_must_0 := by decide +kernel
theorem dX1_must_0 : decode cX1_must 0 = .ok (.aload_n 0, 1) := dk_42 (dk_at dksX1_must_0 0 rfl rfl)
theorem dX1_must_1 : decode cX1_must 1 = .ok (.aload_n 1, 1) := dk_43 (dk_at dksX1_must_0 1 rfl rfl)
theorem dX1_must_2 : decode cX1_must 2 = .ok (.invokevirtual 78, 3) := dk_182 0 78 (dk_at dksX1_must_0 2 rfl rfl)
theorem dX1_must_5 : decode cX1_must 5 = .ok (.ifCond .ne 9, 3) := dk_154 0 9 (dk_at dksX1_must_0 5 rfl rfl)
theorem dX1_must_8 : decode cX1_must 8 = .ok (.aload_n 0, 1) := dk_42 (dk_at dksX1_must_0 8 rfl rfl)
theorem dX1_must_9 : decode cX1_must 9 = .ok (.iconst 1, 1) := dk_4 (dk_at dksX1_must_0 9 rfl rfl)
theorem dX1_must_10 : decode cX1_must 10 = .ok (.invokevirtual 81, 3) := dk_182 0 81 (dk_at dksX1_must_0 10 rfl rfl)
theorem dX1_must_13 : decode cX1_must 13 = .ok (.athrow, 1) := dk_191 (dk_at dksX1_must_0 13 rfl rfl)
theorem dX1_must_14 : decode cX1_must 14 = .ok (.return_, 1) := dk_177 (dk_at dksX1_must_0 14 rfl rfl)
theorem q53 : (Jvm.Cond.initialized "SledHouse$Reader") ∈ lw_all := lw_g (lw_at lw_m1 2 rfl) rfl
theorem q88 : (Jvm.Cond.instantiable "SledHouse$Reader" (9 : Nat)) ∈ lw_all := lw_g (lw_at lw_m1 37 rfl) rfl
theorem q90 : (Jvm.Cond.instanceMethod ({ cls := "SledHouse$Reader", name := "<init>", desc := "([B)V" } : Jvm.MethodName)) ∈ lw_all := lw_g (lw_at lw_m1 39 rfl) rfl
theorem q91 : (Jvm.Cond.code ({ cls := "SledHouse$Reader", name := "<init>", desc := "([B)V" } : Jvm.MethodName) prog_7_method_1_code (2 : Nat) (Option.none : Option Jvm.ClassFile.FieldType)) ∈ lw_all := lw_g (lw_at lw_m1 40 rfl) rfl
theorem q92 : (Jvm.Cond.methodLink "SledHouse$Reader" (3 : Nat) ({ cls := "java/lang/Object", name := "<init>", desc := "()V" } : Jvm.MethodName)) ∈ lw_all := lw_g (lw_at lw_m1 41 rfl) rfl
theorem q93 : (Jvm.Cond.classLink "SledHouse$Reader" (9 : Nat) "SledHouse$Refused") ∈ lw_all := lw_g (lw_at lw_m1 42 rfl) rfl
theorem q133 : (Jvm.Cond.methodLink "SledHouse$Reader" (11 : Nat) ({ cls := "SledHouse$Refused", name := "<init>", desc := "()V" } : Jvm.MethodName)) ∈ lw_all := lw_g (lw_at lw_m1 82 rfl) rfl
theorem q171 : (Jvm.Cond.fieldLink "SledHouse$Reader" (12 : Nat) "SledHouse$Reader" "wrong" "LSledHouse$Refused;") ∈ lw_all := lw_g (lw_at lw_m1 120 rfl) rfl
theorem q172 : (Jvm.Cond.fieldLink "SledHouse$Reader" (22 : Nat) "SledHouse$Reader" "text" "[B") ∈ lw_all := lw_g (lw_at lw_m1 121 rfl) rfl
theorem q173 : (Jvm.Cond.fieldLink "SledHouse$Reader" (18 : Nat) "SledHouse$Reader" "letters" "[C") ∈ lw_all := lw_g (lw_at lw_m1 122 rfl) rfl
theorem q174 : (Jvm.Cond.fieldLink "SledHouse$Reader" (33 : Nat) "SledHouse$Reader" "size" "I") ∈ lw_all := lw_g (lw_at lw_m1 123 rfl) rfl
theorem q175 : (Jvm.Cond.fieldLink "SledHouse$Reader" (36 : Nat) "SledHouse$Reader" "end" "I") ∈ lw_all := lw_g (lw_at lw_m1 124 rfl) rfl
theorem q178 : (Jvm.Cond.fieldLink "SledHouse$Reader" (46 : Nat) "SledHouse$Reader" "token" "I") ∈ lw_all := lw_g (lw_at lw_m1 127 rfl) rfl
theorem q179 : (Jvm.Cond.fieldLink "SledHouse$Reader" (26 : Nat) "SledHouse$Reader" "at" "I") ∈ lw_all := lw_g (lw_at lw_m1 128 rfl) rfl
theorem q180 : (Jvm.Cond.fieldLink "SledHouse$Reader" (67 : Nat) "SledHouse$Reader" "number" "I") ∈ lw_all := lw_g (lw_at lw_m1 129 rfl) rfl
theorem q183 : (Jvm.Cond.fieldLink "SledHouse$Reader" (60 : Nat) "SledHouse$Reader" "word" "Ljava/lang/String;") ∈ lw_all := lw_g (lw_at lw_m1 132 rfl) rfl
theorem q184 : (Jvm.Cond.laysFinal "SledHouse$Reader" "SledHouse$Reader" "wrong" "LSledHouse$Refused;") ∈ lw_all := lw_g (lw_at lw_m1 133 rfl) rfl
theorem q185 : (Jvm.Cond.soleField "SledHouse$Reader" "wrong") ∈ lw_all := lw_g (lw_at lw_m1 134 rfl) rfl
theorem q186 : (Jvm.Cond.laysFinal "SledHouse$Reader" "SledHouse$Reader" "text" "[B") ∈ lw_all := lw_g (lw_at lw_m1 135 rfl) rfl
theorem q187 : (Jvm.Cond.soleField "SledHouse$Reader" "text") ∈ lw_all := lw_g (lw_at lw_m1 136 rfl) rfl
theorem q188 : (Jvm.Cond.laysFinal "SledHouse$Reader" "SledHouse$Reader" "letters" "[C") ∈ lw_all := lw_g (lw_at lw_m1 137 rfl) rfl
theorem q189 : (Jvm.Cond.soleField "SledHouse$Reader" "letters") ∈ lw_all := lw_g (lw_at lw_m1 138 rfl) rfl
theorem q190 : (Jvm.Cond.lays "SledHouse$Reader" "SledHouse$Reader" "size" "I") ∈ lw_all := lw_g (lw_at lw_m1 139 rfl) rfl
theorem q191 : (Jvm.Cond.soleField "SledHouse$Reader" "size") ∈ lw_all := lw_g (lw_at lw_m1 140 rfl) rfl
theorem q192 : (Jvm.Cond.lays "SledHouse$Reader" "SledHouse$Reader" "end" "I") ∈ lw_all := lw_g (lw_at lw_m1 141 rfl) rfl
theorem q193 : (Jvm.Cond.soleField "SledHouse$Reader" "end") ∈ lw_all := lw_g (lw_at lw_m1 142 rfl) rfl
theorem q194 : (Jvm.Cond.lays "SledHouse$Reader" "SledHouse$Reader" "token" "I") ∈ lw_all := lw_g (lw_at lw_m1 143 rfl) rfl
theorem q195 : (Jvm.Cond.soleField "SledHouse$Reader" "token") ∈ lw_all := lw_g (lw_at lw_m1 144 rfl) rfl
theorem q196 : (Jvm.Cond.lays "SledHouse$Reader" "SledHouse$Reader" "at" "I") ∈ lw_all := lw_g (lw_at lw_m1 145 rfl) rfl
theorem q197 : (Jvm.Cond.soleField "SledHouse$Reader" "at") ∈ lw_all := lw_g (lw_at lw_m1 146 rfl) rfl
theorem q198 : (Jvm.Cond.lays "SledHouse$Reader" "SledHouse$Reader" "number" "I") ∈ lw_all := lw_g (lw_at lw_m1 147 rfl) rfl
theorem q199 : (Jvm.Cond.soleField "SledHouse$Reader" "number") ∈ lw_all := lw_g (lw_at lw_m1 148 rfl) rfl
theorem q200 : (Jvm.Cond.lays "SledHouse$Reader" "SledHouse$Reader" "word" "Ljava/lang/String;") ∈ lw_all := lw_g (lw_at lw_m1 149 rfl) rfl
theorem q201 : (Jvm.Cond.soleField "SledHouse$Reader" "word") ∈ lw_all := lw_g (lw_at lw_m1 150 rfl) rfl
theorem q202 : (Jvm.Cond.superclass "SledHouse$Reader" "java/lang/Object") ∈ lw_all := lw_g (lw_at lw_m1 151 rfl) rfl
theorem q464 : (Jvm.Cond.instanceMethod ({ cls := "SledHouse$Reader", name := "begin", desc := "(I)V" } : Jvm.MethodName)) ∈ lw_all := lw_g (lw_at lw_m2 173 rfl) rfl
theorem q465 : (Jvm.Cond.selects "SledHouse$Reader" ({ cls := "SledHouse$Reader", name := "begin", desc := "(I)V" } : Jvm.MethodName) ({ cls := "SledHouse$Reader", name := "begin", desc := "(I)V" } : Jvm.MethodName)) ∈ lw_all := lw_g (lw_at lw_m2 174 rfl) rfl
theorem q466 : (Jvm.Cond.code ({ cls := "SledHouse$Reader", name := "begin", desc := "(I)V" } : Jvm.MethodName) prog_7_method_3_code (2 : Nat) (Option.none : Option Jvm.ClassFile.FieldType)) ∈ lw_all := lw_g (lw_at lw_m2 175 rfl) rfl
theorem q467 : (Jvm.Cond.methodLink "SledHouse$Reader" (39 : Nat) ({ cls := "SledHouse$Reader", name := "next", desc := "()V" } : Jvm.MethodName)) ∈ lw_all := lw_g (lw_at lw_m2 176 rfl) rfl
theorem q468 : (Jvm.Cond.instanceMethod ({ cls := "SledHouse$Reader", name := "next", desc := "()V" } : Jvm.MethodName)) ∈ lw_all := lw_g (lw_at lw_m2 177 rfl) rfl
theorem q469 : (Jvm.Cond.selects "SledHouse$Reader" ({ cls := "SledHouse$Reader", name := "next", desc := "()V" } : Jvm.MethodName) ({ cls := "SledHouse$Reader", name := "next", desc := "()V" } : Jvm.MethodName)) ∈ lw_all := lw_g (lw_at lw_m2 178 rfl) rfl
theorem q470 : (Jvm.Cond.code ({ cls := "SledHouse$Reader", name := "next", desc := "()V" } : Jvm.MethodName) prog_7_method_7_code (3 : Nat) (Option.none : Option Jvm.ClassFile.FieldType)) ∈ lw_all := lw_g (lw_at lw_m2 179 rfl) rfl
theorem q471 : (Jvm.Cond.methodLink "SledHouse$Reader" (42 : Nat) ({ cls := "SledHouse$Reader", name := "see", desc := "(I)I" } : Jvm.MethodName)) ∈ lw_all := lw_g (lw_at lw_m2 180 rfl) rfl
theorem q472 : (Jvm.Cond.privateMethod ({ cls := "SledHouse$Reader", name := "see", desc := "(I)I" } : Jvm.MethodName)) ∈ lw_tbl := lw_at lw_m2 181 rfl
theorem q473 : (Jvm.Cond.instanceMethod ({ cls := "SledHouse$Reader", name := "see", desc := "(I)I" } : Jvm.MethodName)) ∈ lw_all := lw_g (lw_at lw_m2 182 rfl) rfl
theorem q474 : (Jvm.Cond.code ({ cls := "SledHouse$Reader", name := "see", desc := "(I)I" } : Jvm.MethodName) prog_7_method_4_code (2 : Nat) (Option.some Jvm.ClassFile.FieldType.int)) ∈ lw_all := lw_g (lw_at lw_m2 183 rfl) rfl
theorem q475 : (Jvm.Cond.methodLink "SledHouse$Reader" (49 : Nat) ({ cls := "SledHouse$Reader", name := "isSmall", desc := "(I)Z" } : Jvm.MethodName)) ∈ lw_all := lw_g (lw_at lw_m2 184 rfl) rfl
theorem q476 : (Jvm.Cond.static ({ cls := "SledHouse$Reader", name := "isSmall", desc := "(I)Z" } : Jvm.MethodName)) ∈ lw_all := lw_g (lw_at lw_m2 185 rfl) rfl
theorem q477 : (Jvm.Cond.code ({ cls := "SledHouse$Reader", name := "isSmall", desc := "(I)Z" } : Jvm.MethodName) prog_7_method_5_code (1 : Nat) (Option.some Jvm.ClassFile.FieldType.boolean)) ∈ lw_all := lw_g (lw_at lw_m2 186 rfl) rfl
theorem q478 : (Jvm.Cond.classLink "SledHouse$Reader" (53 : Nat) "java/lang/String") ∈ lw_all := lw_g (lw_at lw_m2 187 rfl) rfl
theorem q480 : (Jvm.Cond.methodLink "SledHouse$Reader" (55 : Nat) ({ cls := "java/lang/String", name := "<init>", desc := "([CII)V" } : Jvm.MethodName)) ∈ lw_all := lw_g (lw_at lw_m2 189 rfl) rfl
theorem q556 : (Jvm.Cond.stringRef "SledHouse$Reader" (58 : Nat) "") ∈ lw_tbl := lw_at lw_m3 25 rfl
theorem q557 : (Jvm.Cond.methodLink "SledHouse$Reader" (64 : Nat) ({ cls := "SledHouse$Reader", name := "isDigit", desc := "(I)Z" } : Jvm.MethodName)) ∈ lw_all := lw_g (lw_at lw_m3 26 rfl) rfl
theorem q558 : (Jvm.Cond.static ({ cls := "SledHouse$Reader", name := "isDigit", desc := "(I)Z" } : Jvm.MethodName)) ∈ lw_all := lw_g (lw_at lw_m3 27 rfl) rfl
theorem q559 : (Jvm.Cond.code ({ cls := "SledHouse$Reader", name := "isDigit", desc := "(I)Z" } : Jvm.MethodName) prog_7_method_6_code (1 : Nat) (Option.some Jvm.ClassFile.FieldType.boolean)) ∈ lw_all := lw_g (lw_at lw_m3 28 rfl) rfl
theorem q582 : (Jvm.Cond.instanceMethod ({ cls := "SledHouse$Reader", name := "isWord", desc := "(Ljava/lang/String;)Z" } : Jvm.MethodName)) ∈ lw_all := lw_g (lw_at lw_m3 51 rfl) rfl
theorem q583 : (Jvm.Cond.selects "SledHouse$Reader" ({ cls := "SledHouse$Reader", name := "isWord", desc := "(Ljava/lang/String;)Z" } : Jvm.MethodName) ({ cls := "SledHouse$Reader", name := "isWord", desc := "(Ljava/lang/String;)Z" } : Jvm.MethodName)) ∈ lw_all := lw_g (lw_at lw_m3 52 rfl) rfl
theorem q584 : (Jvm.Cond.code ({ cls := "SledHouse$Reader", name := "isWord", desc := "(Ljava/lang/String;)Z" } : Jvm.MethodName) prog_7_method_8_code (2 : Nat) (Option.some Jvm.ClassFile.FieldType.boolean)) ∈ lw_all := lw_g (lw_at lw_m3 53 rfl) rfl
theorem q585 : (Jvm.Cond.methodLink "SledHouse$Reader" (70 : Nat) ({ cls := "java/lang/String", name := "equals", desc := "(Ljava/lang/Object;)Z" } : Jvm.MethodName)) ∈ lw_all := lw_g (lw_at lw_m3 54 rfl) rfl
theorem q655 : (Jvm.Cond.instanceMethod ({ cls := "SledHouse$Reader", name := "fail", desc := "(I)LSledHouse$Refused;" } : Jvm.MethodName)) ∈ lw_all := lw_g (lw_at lw_m3 124 rfl) rfl
theorem q656 : (Jvm.Cond.selects "SledHouse$Reader" ({ cls := "SledHouse$Reader", name := "fail", desc := "(I)LSledHouse$Refused;" } : Jvm.MethodName) ({ cls := "SledHouse$Reader", name := "fail", desc := "(I)LSledHouse$Refused;" } : Jvm.MethodName)) ∈ lw_all := lw_g (lw_at lw_m3 125 rfl) rfl
theorem q657 : (Jvm.Cond.code ({ cls := "SledHouse$Reader", name := "fail", desc := "(I)LSledHouse$Refused;" } : Jvm.MethodName) prog_7_method_2_code (2 : Nat) (Option.some (Jvm.ClassFile.FieldType.object "SledHouse$Refused"))) ∈ lw_all := lw_g (lw_at lw_m3 126 rfl) rfl
theorem q658 : (Jvm.Cond.methodLink "SledHouse$Reader" (30 : Nat) ({ cls := "SledHouse$Refused", name := "at", desc := "(II)LSledHouse$Refused;" } : Jvm.MethodName)) ∈ lw_all := lw_g (lw_at lw_m3 127 rfl) rfl
theorem q688 : (Jvm.Cond.instanceMethod ({ cls := "SledHouse$Reader", name := "takes", desc := "(Ljava/lang/String;)Z" } : Jvm.MethodName)) ∈ lw_all := lw_g (lw_at lw_m3 157 rfl) rfl
theorem q689 : (Jvm.Cond.selects "SledHouse$Reader" ({ cls := "SledHouse$Reader", name := "takes", desc := "(Ljava/lang/String;)Z" } : Jvm.MethodName) ({ cls := "SledHouse$Reader", name := "takes", desc := "(Ljava/lang/String;)Z" } : Jvm.MethodName)) ∈ lw_all := lw_g (lw_at lw_m3 158 rfl) rfl
theorem q690 : (Jvm.Cond.code ({ cls := "SledHouse$Reader", name := "takes", desc := "(Ljava/lang/String;)Z" } : Jvm.MethodName) prog_7_method_9_code (2 : Nat) (Option.some Jvm.ClassFile.FieldType.boolean)) ∈ lw_all := lw_g (lw_at lw_m3 159 rfl) rfl
theorem q691 : (Jvm.Cond.methodLink "SledHouse$Reader" (74 : Nat) ({ cls := "SledHouse$Reader", name := "isWord", desc := "(Ljava/lang/String;)Z" } : Jvm.MethodName)) ∈ lw_all := lw_g (lw_at lw_m3 160 rfl) rfl
theorem q719 : (Jvm.Cond.instanceMethod ({ cls := "SledHouse$Reader", name := "takes", desc := "(I)Z" } : Jvm.MethodName)) ∈ lw_all := lw_g (lw_at lw_m3 188 rfl) rfl
theorem q720 : (Jvm.Cond.selects "SledHouse$Reader" ({ cls := "SledHouse$Reader", name := "takes", desc := "(I)Z" } : Jvm.MethodName) ({ cls := "SledHouse$Reader", name := "takes", desc := "(I)Z" } : Jvm.MethodName)) ∈ lw_all := lw_g (lw_at lw_m3 189 rfl) rfl
theorem q721 : (Jvm.Cond.code ({ cls := "SledHouse$Reader", name := "takes", desc := "(I)Z" } : Jvm.MethodName) prog_7_method_10_code (2 : Nat) (Option.some Jvm.ClassFile.FieldType.boolean)) ∈ lw_all := lw_g (lw_at lw_m3 190 rfl) rfl
theorem q724 : (Jvm.Cond.instanceMethod ({ cls := "SledHouse$Reader", name := "number", desc := "()I" } : Jvm.MethodName)) ∈ lw_all := lw_g (lw_at lw_m3 193 rfl) rfl
theorem q725 : (Jvm.Cond.selects "SledHouse$Reader" ({ cls := "SledHouse$Reader", name := "number", desc := "()I" } : Jvm.MethodName) ({ cls := "SledHouse$Reader", name := "number", desc := "()I" } : Jvm.MethodName)) ∈ lw_all := lw_g (lw_at lw_m3 194 rfl) rfl
theorem q726 : (Jvm.Cond.code ({ cls := "SledHouse$Reader", name := "number", desc := "()I" } : Jvm.MethodName) prog_7_method_12_code (2 : Nat) (Option.some Jvm.ClassFile.FieldType.int)) ∈ lw_all := lw_g (lw_at lw_m3 195 rfl) rfl
theorem q727 : (Jvm.Cond.methodLink "SledHouse$Reader" (81 : Nat) ({ cls := "SledHouse$Reader", name := "fail", desc := "(I)LSledHouse$Refused;" } : Jvm.MethodName)) ∈ lw_all := lw_g (lw_at lw_m3 196 rfl) rfl
theorem q744 : (Jvm.Cond.instanceMethod ({ cls := "SledHouse$Reader", name := "mustEnd", desc := "()V" } : Jvm.MethodName)) ∈ lw_all := lw_g (lw_at lw_m3 213 rfl) rfl
theorem q745 : (Jvm.Cond.selects "SledHouse$Reader" ({ cls := "SledHouse$Reader", name := "mustEnd", desc := "()V" } : Jvm.MethodName) ({ cls := "SledHouse$Reader", name := "mustEnd", desc := "()V" } : Jvm.MethodName)) ∈ lw_all := lw_g (lw_at lw_m3 214 rfl) rfl
theorem q746 : (Jvm.Cond.code ({ cls := "SledHouse$Reader", name := "mustEnd", desc := "()V" } : Jvm.MethodName) prog_7_method_13_code (1 : Nat) (Option.none : Option Jvm.ClassFile.FieldType)) ∈ lw_all := lw_g (lw_at lw_m3 215 rfl) rfl
theorem q788 : (Jvm.Cond.instanceMethod ({ cls := "SledHouse$Reader", name := "must", desc := "(Ljava/lang/String;)V" } : Jvm.MethodName)) ∈ lw_all := lw_g (lw_at lw_m4 17 rfl) rfl
theorem q789 : (Jvm.Cond.selects "SledHouse$Reader" ({ cls := "SledHouse$Reader", name := "must", desc := "(Ljava/lang/String;)V" } : Jvm.MethodName) ({ cls := "SledHouse$Reader", name := "must", desc := "(Ljava/lang/String;)V" } : Jvm.MethodName)) ∈ lw_all := lw_g (lw_at lw_m4 18 rfl) rfl
theorem q790 : (Jvm.Cond.code ({ cls := "SledHouse$Reader", name := "must", desc := "(Ljava/lang/String;)V" } : Jvm.MethodName) prog_7_method_11_code (2 : Nat) (Option.none : Option Jvm.ClassFile.FieldType)) ∈ lw_all := lw_g (lw_at lw_m4 19 rfl) rfl
theorem q791 : (Jvm.Cond.methodLink "SledHouse$Reader" (78 : Nat) ({ cls := "SledHouse$Reader", name := "takes", desc := "(Ljava/lang/String;)Z" } : Jvm.MethodName)) ∈ lw_all := lw_g (lw_at lw_m4 20 rfl) rfl
theorem in_X1 : ∀ w ∈ wsX10, w ∈ lw_all := lw_in wsX10 [184, 186, 188, 190, 192, 194, 196, 198, 200] (by decide +kernel) (by decide +kernel)

/-! SledHouse$Refused -/
set_option maxRecDepth 100000
def RX2 : String := "SledHouse$Refused"
def TX2 : u_T := fun k => match k with
  | 0 => ("java/lang/Throwable", "cause", "Ljava/lang/Throwable;", false)
  | 1 => ("java/lang/Throwable", "stackTrace", "[Ljava/lang/StackTraceElement;", false)
  | 2 => ("java/lang/Throwable", "suppressedExceptions", "Ljava/util/List;", false)
  | 3 => ("java/lang/Throwable", "detailMessage", "Ljava/lang/String;", false)
  | 4 => ("java/lang/Throwable", "backtrace", "Ljava/lang/Object;", false)
  | 5 => ("java/lang/Throwable", "depth", "I", false)
  | 6 => ("SledHouse$Refused", "why", "I", false)
  | 7 => ("SledHouse$Refused", "fault", "I", false)
  | _ => ("SledHouse$Refused", "place", "I", false)
def tyX2 : Nat → FieldType := fun k => match k with
  | 0 => .object "java/lang/Throwable"
  | 1 => .array (.object "java/lang/StackTraceElement")
  | 2 => .object "java/util/List"
  | 3 => .object "java/lang/String"
  | 4 => .object "java/lang/Object"
  | 5 => .int
  | 6 => .int
  | 7 => .int
  | _ => .int
abbrev wsX20 : List Cond := u_ws RX2 TX2 9
theorem nmX2 : ∀ a, a < 9 → ∀ b, b < 9 → a ≠ b → (TX2 a).2.1 ≠ (TX2 b).2.1 := by decide +kernel
theorem tyX2_ok : ∀ k, k < 9 → parseFieldDescriptor (TX2 k).2.2.1 = some (tyX2 k) := by decide +kernel
abbrev cX2_init : ByteArray := prog_8_method_1_code
def yX2_init : MethodName := ⟨RX2, "<init>", "()V"⟩
def dkwX2_init_0 : List UInt8 := [42, 1, 1, 3, 3, 183, 0, 3, 42, 2, 181, 0, 9, 177]
abbrev dktX2_init_0 : List UInt8 := dkwX2_init_0 ++ []
theorem dksX2_init_0 : cX2_init.data.toList.drop 0 = dktX2_init_0 := by decide +kernel
theorem dX2_init_0 : decode cX2_init 0 = .ok (.aload_n 0, 1) := dk_42 (dk_at dksX2_init_0 0 rfl rfl)
theorem dX2_init_1 : decode cX2_init 1 = .ok (.aconst_null, 1) := dk_1 (dk_at dksX2_init_0 1 rfl rfl)
theorem dX2_init_2 : decode cX2_init 2 = .ok (.aconst_null, 1) := dk_1 (dk_at dksX2_init_0 2 rfl rfl)
theorem dX2_init_3 : decode cX2_init 3 = .ok (.iconst 0, 1) := dk_3 (dk_at dksX2_init_0 3 rfl rfl)
theorem dX2_init_4 : decode cX2_init 4 = .ok (.iconst 0, 1) := dk_3 (dk_at dksX2_init_0 4 rfl rfl)
theorem dX2_init_5 : decode cX2_init 5 = .ok (.invokespecial 3, 3) := dk_183 0 3 (dk_at dksX2_init_0 5 rfl rfl)
theorem dX2_init_8 : decode cX2_init 8 = .ok (.aload_n 0, 1) := dk_42 (dk_at dksX2_init_0 8 rfl rfl)
theorem dX2_init_9 : decode cX2_init 9 = .ok (.iconst (-1), 1) := dk_2 (dk_at dksX2_init_0 9 rfl rfl)
theorem dX2_init_10 : decode cX2_init 10 = .ok (.putfield 9, 3) := dk_181 0 9 (dk_at dksX2_init_0 10 rfl rfl)
theorem dX2_init_13 : decode cX2_init 13 = .ok (.return_, 1) := dk_177 (dk_at dksX2_init_0 13 rfl rfl)
abbrev cX2_by : ByteArray := prog_8_method_2_code
def yX2_by : MethodName := ⟨RX2, "by", "(I)LSledHouse$Refused;"⟩
def dkwX2_by_0 : List UInt8 := [42, 27, 181, 0, 15, 42, 3, 181, 0, 18, 42, 2, 181, 0, 9, 42, 176]
abbrev dktX2_by_0 : List UInt8 := dkwX2_by_0 ++ []
theorem dksX2_by_0 : cX2_by.data.toList.drop 0 = dktX2_by_0 := by decide +kernel
theorem dX2_by_0 : decode cX2_by 0 = .ok (.aload_n 0, 1) := dk_42 (dk_at dksX2_by_0 0 rfl rfl)
theorem dX2_by_1 : decode cX2_by 1 = .ok (.iload_n 1, 1) := dk_27 (dk_at dksX2_by_0 1 rfl rfl)
theorem dX2_by_2 : decode cX2_by 2 = .ok (.putfield 15, 3) := dk_181 0 15 (dk_at dksX2_by_0 2 rfl rfl)
theorem dX2_by_5 : decode cX2_by 5 = .ok (.aload_n 0, 1) := dk_42 (dk_at dksX2_by_0 5 rfl rfl)
theorem dX2_by_6 : decode cX2_by 6 = .ok (.iconst 0, 1) := dk_3 (dk_at dksX2_by_0 6 rfl rfl)
theorem dX2_by_7 : decode cX2_by 7 = .ok (.putfield 18, 3) := dk_181 0 18 (dk_at dksX2_by_0 7 rfl rfl)
theorem dX2_by_10 : decode cX2_by 10 = .ok (.aload_n 0, 1) := dk_42 (dk_at dksX2_by_0 10 rfl rfl)
theorem dX2_by_11 : decode cX2_by 11 = .ok (.iconst (-1), 1) := dk_2 (dk_at dksX2_by_0 11 rfl rfl)
theorem dX2_by_12 : decode cX2_by 12 = .ok (.putfield 9, 3) := dk_181 0 9 (dk_at dksX2_by_0 12 rfl rfl)
theorem dX2_by_15 : decode cX2_by 15 = .ok (.aload_n 0, 1) := dk_42 (dk_at dksX2_by_0 15 rfl rfl)
theorem dX2_by_16 : decode cX2_by 16 = .ok (.areturn, 1) := dk_176 (dk_at dksX2_by_0 16 rfl rfl)
abbrev cX2_at : ByteArray := prog_8_method_3_code
def yX2_at : MethodName := ⟨RX2, "at", "(II)LSledHouse$Refused;"⟩
def dkwX2_at_0 : List UInt8 := [42, 7, 182, 0, 21, 87, 42, 27, 181, 0, 18, 42, 28, 181, 0, 9, 42, 176]
abbrev dktX2_at_0 : List UInt8 := dkwX2_at_0 ++ []
theorem dksX2_at_0 : cX2_at.data.toList.drop 0 = dktX2_at_0 := by decide +kernel
theorem dX2_at_0 : decode cX2_at 0 = .ok (.aload_n 0, 1) := dk_42 (dk_at dksX2_at_0 0 rfl rfl)
theorem dX2_at_1 : decode cX2_at 1 = .ok (.iconst 4, 1) := dk_7 (dk_at dksX2_at_0 1 rfl rfl)
theorem dX2_at_2 : decode cX2_at 2 = .ok (.invokevirtual 21, 3) := dk_182 0 21 (dk_at dksX2_at_0 2 rfl rfl)
theorem dX2_at_5 : decode cX2_at 5 = .ok (.pop, 1) := dk_87 (dk_at dksX2_at_0 5 rfl rfl)
theorem dX2_at_6 : decode cX2_at 6 = .ok (.aload_n 0, 1) := dk_42 (dk_at dksX2_at_0 6 rfl rfl)
theorem dX2_at_7 : decode cX2_at 7 = .ok (.iload_n 1, 1) := dk_27 (dk_at dksX2_at_0 7 rfl rfl)
theorem dX2_at_8 : decode cX2_at 8 = .ok (.putfield 18, 3) := dk_181 0 18 (dk_at dksX2_at_0 8 rfl rfl)
theorem dX2_at_11 : decode cX2_at 11 = .ok (.aload_n 0, 1) := dk_42 (dk_at dksX2_at_0 11 rfl rfl)
theorem dX2_at_12 : decode cX2_at 12 = .ok (.iload_n 2, 1) := dk_28 (dk_at dksX2_at_0 12 rfl rfl)
theorem dX2_at_13 : decode cX2_at 13 = .ok (.putfield 9, 3) := dk_181 0 9 (dk_at dksX2_at_0 13 rfl rfl)
theorem dX2_at_16 : decode cX2_at 16 = .ok (.aload_n 0, 1) := dk_42 (dk_at dksX2_at_0 16 rfl rfl)
theorem dX2_at_17 : decode cX2_at 17 = .ok (.areturn, 1) := dk_176 (dk_at dksX2_at_0 17 rfl rfl)
theorem q57 : (Jvm.Cond.initialized "SledHouse$Refused") ∈ lw_all := lw_g (lw_at lw_m1 6 rfl) rfl
theorem q94 : (Jvm.Cond.instantiable "SledHouse$Refused" (9 : Nat)) ∈ lw_all := lw_g (lw_at lw_m1 43 rfl) rfl
theorem q95 : (Jvm.Cond.castable "SledHouse$Refused" "SledHouse$Refused") ∈ lw_tbl := lw_at lw_m1 44 rfl
theorem q102 : (Jvm.Cond.selects "SledHouse$Refused" ({ cls := "java/lang/Throwable", name := "fillInStackTrace", desc := "(I)Ljava/lang/Throwable;" } : Jvm.MethodName) ({ cls := "java/lang/Throwable", name := "fillInStackTrace", desc := "(I)Ljava/lang/Throwable;" } : Jvm.MethodName)) ∈ lw_all := lw_g (lw_at lw_m1 51 rfl) rfl
theorem q103 : (Jvm.Cond.selects "SledHouse$Refused" ({ cls := "java/lang/Throwable", name := "fillInStackTrace", desc := "()Ljava/lang/Throwable;" } : Jvm.MethodName) ({ cls := "java/lang/Throwable", name := "fillInStackTrace", desc := "()Ljava/lang/Throwable;" } : Jvm.MethodName)) ∈ lw_all := lw_g (lw_at lw_m1 52 rfl) rfl
theorem q104 : (Jvm.Cond.lays "SledHouse$Refused" "java/lang/Throwable" "cause" "Ljava/lang/Throwable;") ∈ lw_all := lw_g (lw_at lw_m1 53 rfl) rfl
theorem q106 : (Jvm.Cond.lays "SledHouse$Refused" "java/lang/Throwable" "stackTrace" "[Ljava/lang/StackTraceElement;") ∈ lw_all := lw_g (lw_at lw_m1 55 rfl) rfl
theorem q108 : (Jvm.Cond.lays "SledHouse$Refused" "java/lang/Throwable" "suppressedExceptions" "Ljava/util/List;") ∈ lw_all := lw_g (lw_at lw_m1 57 rfl) rfl
theorem q110 : (Jvm.Cond.lays "SledHouse$Refused" "java/lang/Throwable" "detailMessage" "Ljava/lang/String;") ∈ lw_all := lw_g (lw_at lw_m1 59 rfl) rfl
theorem q112 : (Jvm.Cond.lays "SledHouse$Refused" "java/lang/Throwable" "backtrace" "Ljava/lang/Object;") ∈ lw_all := lw_g (lw_at lw_m1 61 rfl) rfl
theorem q134 : (Jvm.Cond.instanceMethod ({ cls := "SledHouse$Refused", name := "<init>", desc := "()V" } : Jvm.MethodName)) ∈ lw_all := lw_g (lw_at lw_m1 83 rfl) rfl
theorem q135 : (Jvm.Cond.code ({ cls := "SledHouse$Refused", name := "<init>", desc := "()V" } : Jvm.MethodName) prog_8_method_1_code (1 : Nat) (Option.none : Option Jvm.ClassFile.FieldType)) ∈ lw_all := lw_g (lw_at lw_m1 84 rfl) rfl
theorem q136 : (Jvm.Cond.methodLink "SledHouse$Refused" (3 : Nat) ({ cls := "java/lang/RuntimeException", name := "<init>", desc := "(Ljava/lang/String;Ljava/lang/Throwable;ZZ)V" } : Jvm.MethodName)) ∈ lw_all := lw_g (lw_at lw_m1 85 rfl) rfl
theorem q145 : (Jvm.Cond.fieldLink "SledHouse$Refused" (15 : Nat) "SledHouse$Refused" "why" "I") ∈ lw_all := lw_g (lw_at lw_m1 94 rfl) rfl
theorem q147 : (Jvm.Cond.fieldLink "SledHouse$Refused" (18 : Nat) "SledHouse$Refused" "fault" "I") ∈ lw_all := lw_g (lw_at lw_m1 96 rfl) rfl
theorem q149 : (Jvm.Cond.fieldLink "SledHouse$Refused" (9 : Nat) "SledHouse$Refused" "place" "I") ∈ lw_all := lw_g (lw_at lw_m1 98 rfl) rfl
theorem q156 : (Jvm.Cond.lays "SledHouse$Refused" "SledHouse$Refused" "why" "I") ∈ lw_all := lw_g (lw_at lw_m1 105 rfl) rfl
theorem q157 : (Jvm.Cond.soleField "SledHouse$Refused" "why") ∈ lw_all := lw_g (lw_at lw_m1 106 rfl) rfl
theorem q158 : (Jvm.Cond.lays "SledHouse$Refused" "SledHouse$Refused" "fault" "I") ∈ lw_all := lw_g (lw_at lw_m1 107 rfl) rfl
theorem q159 : (Jvm.Cond.soleField "SledHouse$Refused" "fault") ∈ lw_all := lw_g (lw_at lw_m1 108 rfl) rfl
theorem q160 : (Jvm.Cond.lays "SledHouse$Refused" "SledHouse$Refused" "place" "I") ∈ lw_all := lw_g (lw_at lw_m1 109 rfl) rfl
theorem q161 : (Jvm.Cond.soleField "SledHouse$Refused" "place") ∈ lw_all := lw_g (lw_at lw_m1 110 rfl) rfl
theorem q166 : (Jvm.Cond.lays "SledHouse$Refused" "java/lang/Throwable" "depth" "I") ∈ lw_all := lw_g (lw_at lw_m1 115 rfl) rfl
theorem q169 : (Jvm.Cond.superclass "SledHouse$Refused" "java/lang/RuntimeException") ∈ lw_all := lw_g (lw_at lw_m1 118 rfl) rfl
theorem q433 : (Jvm.Cond.instanceMethod ({ cls := "SledHouse$Refused", name := "by", desc := "(I)LSledHouse$Refused;" } : Jvm.MethodName)) ∈ lw_all := lw_g (lw_at lw_m2 142 rfl) rfl
theorem q434 : (Jvm.Cond.selects "SledHouse$Refused" ({ cls := "SledHouse$Refused", name := "by", desc := "(I)LSledHouse$Refused;" } : Jvm.MethodName) ({ cls := "SledHouse$Refused", name := "by", desc := "(I)LSledHouse$Refused;" } : Jvm.MethodName)) ∈ lw_all := lw_g (lw_at lw_m2 143 rfl) rfl
theorem q435 : (Jvm.Cond.code ({ cls := "SledHouse$Refused", name := "by", desc := "(I)LSledHouse$Refused;" } : Jvm.MethodName) prog_8_method_2_code (2 : Nat) (Option.some (Jvm.ClassFile.FieldType.object "SledHouse$Refused"))) ∈ lw_all := lw_g (lw_at lw_m2 144 rfl) rfl
theorem q659 : (Jvm.Cond.instanceMethod ({ cls := "SledHouse$Refused", name := "at", desc := "(II)LSledHouse$Refused;" } : Jvm.MethodName)) ∈ lw_all := lw_g (lw_at lw_m3 128 rfl) rfl
theorem q660 : (Jvm.Cond.selects "SledHouse$Refused" ({ cls := "SledHouse$Refused", name := "at", desc := "(II)LSledHouse$Refused;" } : Jvm.MethodName) ({ cls := "SledHouse$Refused", name := "at", desc := "(II)LSledHouse$Refused;" } : Jvm.MethodName)) ∈ lw_all := lw_g (lw_at lw_m3 129 rfl) rfl
theorem q661 : (Jvm.Cond.code ({ cls := "SledHouse$Refused", name := "at", desc := "(II)LSledHouse$Refused;" } : Jvm.MethodName) prog_8_method_3_code (3 : Nat) (Option.some (Jvm.ClassFile.FieldType.object "SledHouse$Refused"))) ∈ lw_all := lw_g (lw_at lw_m3 130 rfl) rfl
theorem q662 : (Jvm.Cond.methodLink "SledHouse$Refused" (21 : Nat) ({ cls := "SledHouse$Refused", name := "by", desc := "(I)LSledHouse$Refused;" } : Jvm.MethodName)) ∈ lw_all := lw_g (lw_at lw_m3 131 rfl) rfl
theorem in_X2 : ∀ w ∈ wsX20, w ∈ lw_all := lw_in wsX20 [104, 106, 108, 110, 112, 166, 156, 158, 160] (by decide +kernel) (by decide +kernel)

