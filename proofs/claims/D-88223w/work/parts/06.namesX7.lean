/-! SledHouseModel$Team -/
set_option maxRecDepth 100000
def RX7 : String := "SledHouseModel$Team"
def TX7 : u_T := fun k => match k with
  | 0 => ("SledHouseModel$Team", "dogs", "I", false)
  | 1 => ("SledHouseModel$Team", "load", "I", false)
  | 2 => ("SledHouseModel$Team", "meals", "I", false)
  | 3 => ("SledHouseModel$Team", "start", "I", false)
  | 4 => ("SledHouseModel$Team", "plan", "I", false)
  | 5 => ("SledHouseModel$Team", "status", "I", false)
  | 6 => ("SledHouseModel$Team", "leg", "I", false)
  | 7 => ("SledHouseModel$Team", "far", "I", false)
  | 8 => ("SledHouseModel$Team", "run", "I", false)
  | 9 => ("SledHouseModel$Team", "rest", "I", false)
  | 10 => ("SledHouseModel$Team", "did", "I", false)
  | 11 => ("SledHouseModel$Team", "signs", "I", false)
  | 12 => ("SledHouseModel$Team", "gaps", "I", false)
  | 13 => ("SledHouseModel$Team", "ownLoad", "I", false)
  | 14 => ("SledHouseModel$Team", "ownMeals", "I", false)
  | 15 => ("SledHouseModel$Team", "strength", "[I", true)
  | 16 => ("SledHouseModel$Team", "state", "[I", true)
  | 17 => ("SledHouseModel$Team", "leftAt", "[I", true)
  | 18 => ("SledHouseModel$Team", "came", "[I", true)
  | 19 => ("SledHouseModel$Team", "went", "[I", true)
  | 20 => ("SledHouseModel$Team", "signStep", "[I", true)
  | 21 => ("SledHouseModel$Team", "signWay", "[I", true)
  | 22 => ("SledHouseModel$Team", "gapFrom", "[I", true)
  | _ => ("SledHouseModel$Team", "gapTo", "[I", true)
def tyX7 : Nat → FieldType := fun k => match k with
  | 0 => .int
  | 1 => .int
  | 2 => .int
  | 3 => .int
  | 4 => .int
  | 5 => .int
  | 6 => .int
  | 7 => .int
  | 8 => .int
  | 9 => .int
  | 10 => .int
  | 11 => .int
  | 12 => .int
  | 13 => .int
  | 14 => .int
  | 15 => .array .int
  | 16 => .array .int
  | 17 => .array .int
  | 18 => .array .int
  | 19 => .array .int
  | 20 => .array .int
  | 21 => .array .int
  | 22 => .array .int
  | _ => .array .int
abbrev wsX70 : List Cond := u_ws RX7 TX7 24
set_option maxRecDepth 100000 in
theorem nmX7 : ∀ a, a < 24 → ∀ b, b < 24 → a ≠ b → (TX7 a).2.1 ≠ (TX7 b).2.1 := by decide +kernel
set_option maxRecDepth 100000 in
theorem tyX7_ok : ∀ k, k < 24 → parseFieldDescriptor (TX7 k).2.2.1 = some (tyX7 k) := by decide +kernel
abbrev cX7_init : ByteArray := prog_18_method_1_code
def yX7_init : MethodName := ⟨RX7, "<init>", "()V"⟩
def dkwX7_init_3 : List UInt8 := [42, 7, 188, 10, 181, 0, 36, 177]
abbrev dktX7_init_3 : List UInt8 := dkwX7_init_3 ++ []
def dkwX7_init_2 : List UInt8 := [17, 7, 208, 188, 10, 181, 0, 27, 42, 17, 7, 208, 188, 10, 181, 0, 30, 42, 7, 188, 10, 181, 0, 33]
abbrev dktX7_init_2 : List UInt8 := dkwX7_init_2 ++ dktX7_init_3
def dkwX7_init_1 : List UInt8 := [188, 10, 181, 0, 18, 42, 16, 13, 188, 10, 181, 0, 21, 42, 16, 13, 188, 10, 181, 0, 24, 42]
abbrev dktX7_init_1 : List UInt8 := dkwX7_init_1 ++ dktX7_init_2
def dkwX7_init_0 : List UInt8 := [42, 183, 0, 3, 42, 16, 16, 188, 10, 181, 0, 9, 42, 16, 16, 188, 10, 181, 0, 15, 42, 16, 16]
abbrev dktX7_init_0 : List UInt8 := dkwX7_init_0 ++ dktX7_init_1
theorem dksX7_init_0 : cX7_init.data.toList.drop 0 = dktX7_init_0 := by decide +kernel
theorem dksX7_init_1 : cX7_init.data.toList.drop 23 = dktX7_init_1 := dk_seg dksX7_init_0 23 rfl rfl
theorem dksX7_init_2 : cX7_init.data.toList.drop 45 = dktX7_init_2 := dk_seg dksX7_init_1 22 rfl rfl
theorem dksX7_init_3 : cX7_init.data.toList.drop 69 = dktX7_init_3 := dk_seg dksX7_init_2 24 rfl rfl
theorem dX7_init_0 : decode cX7_init 0 = .ok (.aload_n 0, 1) := dk_42 (dk_at dksX7_init_0 0 rfl rfl)
theorem dX7_init_1 : decode cX7_init 1 = .ok (.invokespecial 3, 3) := dk_183 0 3 (dk_at dksX7_init_0 1 rfl rfl)
theorem dX7_init_4 : decode cX7_init 4 = .ok (.aload_n 0, 1) := dk_42 (dk_at dksX7_init_0 4 rfl rfl)
theorem dX7_init_5 : decode cX7_init 5 = .ok (.bipush 16, 2) := dk_16 16 (dk_at dksX7_init_0 5 rfl rfl)
theorem dX7_init_7 : decode cX7_init 7 = .ok (.newarray .int, 2) := dk_188_10 (dk_at dksX7_init_0 7 rfl rfl)
theorem dX7_init_9 : decode cX7_init 9 = .ok (.putfield 9, 3) := dk_181 0 9 (dk_at dksX7_init_0 9 rfl rfl)
theorem dX7_init_12 : decode cX7_init 12 = .ok (.aload_n 0, 1) := dk_42 (dk_at dksX7_init_0 12 rfl rfl)
theorem dX7_init_13 : decode cX7_init 13 = .ok (.bipush 16, 2) := dk_16 16 (dk_at dksX7_init_0 13 rfl rfl)
theorem dX7_init_15 : decode cX7_init 15 = .ok (.newarray .int, 2) := dk_188_10 (dk_at dksX7_init_0 15 rfl rfl)
theorem dX7_init_17 : decode cX7_init 17 = .ok (.putfield 15, 3) := dk_181 0 15 (dk_at dksX7_init_0 17 rfl rfl)
theorem dX7_init_20 : decode cX7_init 20 = .ok (.aload_n 0, 1) := dk_42 (dk_at dksX7_init_0 20 rfl rfl)
theorem dX7_init_21 : decode cX7_init 21 = .ok (.bipush 16, 2) := dk_16 16 (dk_at dksX7_init_0 21 rfl rfl)
theorem dX7_init_23 : decode cX7_init 23 = .ok (.newarray .int, 2) := dk_188_10 (dk_at dksX7_init_1 0 rfl rfl)
theorem dX7_init_25 : decode cX7_init 25 = .ok (.putfield 18, 3) := dk_181 0 18 (dk_at dksX7_init_1 2 rfl rfl)
theorem dX7_init_28 : decode cX7_init 28 = .ok (.aload_n 0, 1) := dk_42 (dk_at dksX7_init_1 5 rfl rfl)
theorem dX7_init_29 : decode cX7_init 29 = .ok (.bipush 13, 2) := dk_16 13 (dk_at dksX7_init_1 6 rfl rfl)
theorem dX7_init_31 : decode cX7_init 31 = .ok (.newarray .int, 2) := dk_188_10 (dk_at dksX7_init_1 8 rfl rfl)
theorem dX7_init_33 : decode cX7_init 33 = .ok (.putfield 21, 3) := dk_181 0 21 (dk_at dksX7_init_1 10 rfl rfl)
theorem dX7_init_36 : decode cX7_init 36 = .ok (.aload_n 0, 1) := dk_42 (dk_at dksX7_init_1 13 rfl rfl)
theorem dX7_init_37 : decode cX7_init 37 = .ok (.bipush 13, 2) := dk_16 13 (dk_at dksX7_init_1 14 rfl rfl)
theorem dX7_init_39 : decode cX7_init 39 = .ok (.newarray .int, 2) := dk_188_10 (dk_at dksX7_init_1 16 rfl rfl)
theorem dX7_init_41 : decode cX7_init 41 = .ok (.putfield 24, 3) := dk_181 0 24 (dk_at dksX7_init_1 18 rfl rfl)
theorem dX7_init_44 : decode cX7_init 44 = .ok (.aload_n 0, 1) := dk_42 (dk_at dksX7_init_1 21 rfl rfl)
theorem dX7_init_45 : decode cX7_init 45 = .ok (.sipush 2000, 3) := dk_17 7 208 (dk_at dksX7_init_2 0 rfl rfl)
theorem dX7_init_48 : decode cX7_init 48 = .ok (.newarray .int, 2) := dk_188_10 (dk_at dksX7_init_2 3 rfl rfl)
theorem dX7_init_50 : decode cX7_init 50 = .ok (.putfield 27, 3) := dk_181 0 27 (dk_at dksX7_init_2 5 rfl rfl)
theorem dX7_init_53 : decode cX7_init 53 = .ok (.aload_n 0, 1) := dk_42 (dk_at dksX7_init_2 8 rfl rfl)
theorem dX7_init_54 : decode cX7_init 54 = .ok (.sipush 2000, 3) := dk_17 7 208 (dk_at dksX7_init_2 9 rfl rfl)
theorem dX7_init_57 : decode cX7_init 57 = .ok (.newarray .int, 2) := dk_188_10 (dk_at dksX7_init_2 12 rfl rfl)
theorem dX7_init_59 : decode cX7_init 59 = .ok (.putfield 30, 3) := dk_181 0 30 (dk_at dksX7_init_2 14 rfl rfl)
theorem dX7_init_62 : decode cX7_init 62 = .ok (.aload_n 0, 1) := dk_42 (dk_at dksX7_init_2 17 rfl rfl)
theorem dX7_init_63 : decode cX7_init 63 = .ok (.iconst 4, 1) := dk_7 (dk_at dksX7_init_2 18 rfl rfl)
theorem dX7_init_64 : decode cX7_init 64 = .ok (.newarray .int, 2) := dk_188_10 (dk_at dksX7_init_2 19 rfl rfl)
theorem dX7_init_66 : decode cX7_init 66 = .ok (.putfield 33, 3) := dk_181 0 33 (dk_at dksX7_init_2 21 rfl rfl)
theorem dX7_init_69 : decode cX7_init 69 = .ok (.aload_n 0, 1) := dk_42 (dk_at dksX7_init_3 0 rfl rfl)
theorem dX7_init_70 : decode cX7_init 70 = .ok (.iconst 4, 1) := dk_7 (dk_at dksX7_init_3 1 rfl rfl)
theorem dX7_init_71 : decode cX7_init 71 = .ok (.newarray .int, 2) := dk_188_10 (dk_at dksX7_init_3 2 rfl rfl)
theorem dX7_init_73 : decode cX7_init 73 = .ok (.putfield 36, 3) := dk_181 0 36 (dk_at dksX7_init_3 4 rfl rfl)
theorem dX7_init_76 : decode cX7_init 76 = .ok (.return_, 1) := dk_177 (dk_at dksX7_init_3 7 rfl rfl)
abbrev cX7_become : ByteArray := prog_18_method_3_code
def yX7_become : MethodName := ⟨RX7, "become", "(LSledHouseModel$Team;)V"⟩
def dkwX7_become_11 : List UInt8 := [180, 0, 36, 28, 46, 79, 132, 2, 1, 167, 255, 221, 177]
abbrev dktX7_become_11 : List UInt8 := dkwX7_become_11 ++ []
def dkwX7_become_10 : List UInt8 := [180, 0, 82, 162, 0, 33, 42, 180, 0, 33, 28, 43, 180, 0, 33, 28, 46, 79, 42, 180, 0, 36, 28, 43]
abbrev dktX7_become_10 : List UInt8 := dkwX7_become_10 ++ dktX7_become_11
def dkwX7_become_9 : List UInt8 := [79, 42, 180, 0, 30, 28, 43, 180, 0, 30, 28, 46, 79, 132, 2, 1, 167, 255, 221, 3, 61, 28, 42]
abbrev dktX7_become_9 : List UInt8 := dkwX7_become_9 ++ dktX7_become_10
def dkwX7_become_8 : List UInt8 := [167, 255, 223, 3, 61, 28, 42, 180, 0, 79, 162, 0, 33, 42, 180, 0, 27, 28, 43, 180, 0, 27, 28, 46]
abbrev dktX7_become_8 : List UInt8 := dkwX7_become_8 ++ dktX7_become_9
def dkwX7_become_7 : List UInt8 := [28, 43, 180, 0, 21, 28, 46, 79, 42, 180, 0, 24, 28, 43, 180, 0, 24, 28, 46, 79, 132, 2, 1]
abbrev dktX7_become_7 : List UInt8 := dkwX7_become_7 ++ dktX7_become_8
def dkwX7_become_6 : List UInt8 := [180, 0, 18, 28, 46, 79, 132, 2, 1, 167, 255, 211, 3, 61, 28, 16, 12, 163, 0, 33, 42, 180, 0, 21]
abbrev dktX7_become_6 : List UInt8 := dkwX7_become_6 ++ dktX7_become_7
def dkwX7_become_5 : List UInt8 := [180, 0, 9, 28, 46, 79, 42, 180, 0, 15, 28, 43, 180, 0, 15, 28, 46, 79, 42, 180, 0, 18, 28, 43]
abbrev dktX7_become_5 : List UInt8 := dkwX7_become_5 ++ dktX7_become_6
def dkwX7_become_4 : List UInt8 := [42, 43, 180, 0, 82, 181, 0, 82, 3, 61, 28, 16, 16, 162, 0, 45, 42, 180, 0, 9, 28, 43]
abbrev dktX7_become_4 : List UInt8 := dkwX7_become_4 ++ dktX7_become_5
def dkwX7_become_3 : List UInt8 := [42, 43, 180, 0, 73, 181, 0, 73, 42, 43, 180, 0, 76, 181, 0, 76, 42, 43, 180, 0, 79, 181, 0, 79]
abbrev dktX7_become_3 : List UInt8 := dkwX7_become_3 ++ dktX7_become_4
def dkwX7_become_2 : List UInt8 := [42, 43, 180, 0, 64, 181, 0, 64, 42, 43, 180, 0, 67, 181, 0, 67, 42, 43, 180, 0, 70, 181, 0, 70]
abbrev dktX7_become_2 : List UInt8 := dkwX7_become_2 ++ dktX7_become_3
def dkwX7_become_1 : List UInt8 := [42, 43, 180, 0, 49, 181, 0, 49, 42, 43, 180, 0, 52, 181, 0, 52, 42, 43, 180, 0, 61, 181, 0, 61]
abbrev dktX7_become_1 : List UInt8 := dkwX7_become_1 ++ dktX7_become_2
def dkwX7_become_0 : List UInt8 := [42, 43, 180, 0, 39, 43, 180, 0, 43, 43, 180, 0, 46, 43, 180, 0, 55, 43, 180, 0, 58, 182, 0, 85]
abbrev dktX7_become_0 : List UInt8 := dkwX7_become_0 ++ dktX7_become_1
theorem dksX7_become_0 : cX7_become.data.toList.drop 0 = dktX7_become_0 := by decide +kernel
theorem dksX7_become_1 : cX7_become.data.toList.drop 24 = dktX7_become_1 := dk_seg dksX7_become_0 24 rfl rfl
theorem dksX7_become_2 : cX7_become.data.toList.drop 48 = dktX7_become_2 := dk_seg dksX7_become_1 24 rfl rfl
theorem dksX7_become_3 : cX7_become.data.toList.drop 72 = dktX7_become_3 := dk_seg dksX7_become_2 24 rfl rfl
theorem dksX7_become_4 : cX7_become.data.toList.drop 96 = dktX7_become_4 := dk_seg dksX7_become_3 24 rfl rfl
theorem dksX7_become_5 : cX7_become.data.toList.drop 118 = dktX7_become_5 := dk_seg dksX7_become_4 22 rfl rfl
theorem dksX7_become_6 : cX7_become.data.toList.drop 142 = dktX7_become_6 := dk_seg dksX7_become_5 24 rfl rfl
theorem dksX7_become_7 : cX7_become.data.toList.drop 166 = dktX7_become_7 := dk_seg dksX7_become_6 24 rfl rfl
theorem dksX7_become_8 : cX7_become.data.toList.drop 189 = dktX7_become_8 := dk_seg dksX7_become_7 23 rfl rfl
theorem dksX7_become_9 : cX7_become.data.toList.drop 213 = dktX7_become_9 := dk_seg dksX7_become_8 24 rfl rfl
theorem dksX7_become_10 : cX7_become.data.toList.drop 236 = dktX7_become_10 := dk_seg dksX7_become_9 23 rfl rfl
theorem dksX7_become_11 : cX7_become.data.toList.drop 260 = dktX7_become_11 := dk_seg dksX7_become_10 24 rfl rfl
theorem dX7_become_0 : decode cX7_become 0 = .ok (.aload_n 0, 1) := dk_42 (dk_at dksX7_become_0 0 rfl rfl)
theorem dX7_become_1 : decode cX7_become 1 = .ok (.aload_n 1, 1) := dk_43 (dk_at dksX7_become_0 1 rfl rfl)
theorem dX7_become_2 : decode cX7_become 2 = .ok (.getfield 39, 3) := dk_180 0 39 (dk_at dksX7_become_0 2 rfl rfl)
theorem dX7_become_5 : decode cX7_become 5 = .ok (.aload_n 1, 1) := dk_43 (dk_at dksX7_become_0 5 rfl rfl)
theorem dX7_become_6 : decode cX7_become 6 = .ok (.getfield 43, 3) := dk_180 0 43 (dk_at dksX7_become_0 6 rfl rfl)
theorem dX7_become_9 : decode cX7_become 9 = .ok (.aload_n 1, 1) := dk_43 (dk_at dksX7_become_0 9 rfl rfl)
theorem dX7_become_10 : decode cX7_become 10 = .ok (.getfield 46, 3) := dk_180 0 46 (dk_at dksX7_become_0 10 rfl rfl)
theorem dX7_become_13 : decode cX7_become 13 = .ok (.aload_n 1, 1) := dk_43 (dk_at dksX7_become_0 13 rfl rfl)
theorem dX7_become_14 : decode cX7_become 14 = .ok (.getfield 55, 3) := dk_180 0 55 (dk_at dksX7_become_0 14 rfl rfl)
theorem dX7_become_17 : decode cX7_become 17 = .ok (.aload_n 1, 1) := dk_43 (dk_at dksX7_become_0 17 rfl rfl)
theorem dX7_become_18 : decode cX7_become 18 = .ok (.getfield 58, 3) := dk_180 0 58 (dk_at dksX7_become_0 18 rfl rfl)
theorem dX7_become_21 : decode cX7_become 21 = .ok (.invokevirtual 85, 3) := dk_182 0 85 (dk_at dksX7_become_0 21 rfl rfl)
theorem dX7_become_24 : decode cX7_become 24 = .ok (.aload_n 0, 1) := dk_42 (dk_at dksX7_become_1 0 rfl rfl)
theorem dX7_become_25 : decode cX7_become 25 = .ok (.aload_n 1, 1) := dk_43 (dk_at dksX7_become_1 1 rfl rfl)
theorem dX7_become_26 : decode cX7_become 26 = .ok (.getfield 49, 3) := dk_180 0 49 (dk_at dksX7_become_1 2 rfl rfl)
theorem dX7_become_29 : decode cX7_become 29 = .ok (.putfield 49, 3) := dk_181 0 49 (dk_at dksX7_become_1 5 rfl rfl)
theorem dX7_become_32 : decode cX7_become 32 = .ok (.aload_n 0, 1) := dk_42 (dk_at dksX7_become_1 8 rfl rfl)
theorem dX7_become_33 : decode cX7_become 33 = .ok (.aload_n 1, 1) := dk_43 (dk_at dksX7_become_1 9 rfl rfl)
theorem dX7_become_34 : decode cX7_become 34 = .ok (.getfield 52, 3) := dk_180 0 52 (dk_at dksX7_become_1 10 rfl rfl)
theorem dX7_become_37 : decode cX7_become 37 = .ok (.putfield 52, 3) := dk_181 0 52 (dk_at dksX7_become_1 13 rfl rfl)
theorem dX7_become_40 : decode cX7_become 40 = .ok (.aload_n 0, 1) := dk_42 (dk_at dksX7_become_1 16 rfl rfl)
theorem dX7_become_41 : decode cX7_become 41 = .ok (.aload_n 1, 1) := dk_43 (dk_at dksX7_become_1 17 rfl rfl)
theorem dX7_become_42 : decode cX7_become 42 = .ok (.getfield 61, 3) := dk_180 0 61 (dk_at dksX7_become_1 18 rfl rfl)
theorem dX7_become_45 : decode cX7_become 45 = .ok (.putfield 61, 3) := dk_181 0 61 (dk_at dksX7_become_1 21 rfl rfl)
theorem dX7_become_48 : decode cX7_become 48 = .ok (.aload_n 0, 1) := dk_42 (dk_at dksX7_become_2 0 rfl rfl)
theorem dX7_become_49 : decode cX7_become 49 = .ok (.aload_n 1, 1) := dk_43 (dk_at dksX7_become_2 1 rfl rfl)
theorem dX7_become_50 : decode cX7_become 50 = .ok (.getfield 64, 3) := dk_180 0 64 (dk_at dksX7_become_2 2 rfl rfl)
theorem dX7_become_53 : decode cX7_become 53 = .ok (.putfield 64, 3) := dk_181 0 64 (dk_at dksX7_become_2 5 rfl rfl)
theorem dX7_become_56 : decode cX7_become 56 = .ok (.aload_n 0, 1) := dk_42 (dk_at dksX7_become_2 8 rfl rfl)
theorem dX7_become_57 : decode cX7_become 57 = .ok (.aload_n 1, 1) := dk_43 (dk_at dksX7_become_2 9 rfl rfl)
theorem dX7_become_58 : decode cX7_become 58 = .ok (.getfield 67, 3) := dk_180 0 67 (dk_at dksX7_become_2 10 rfl rfl)
theorem dX7_become_61 : decode cX7_become 61 = .ok (.putfield 67, 3) := dk_181 0 67 (dk_at dksX7_become_2 13 rfl rfl)
theorem dX7_become_64 : decode cX7_become 64 = .ok (.aload_n 0, 1) := dk_42 (dk_at dksX7_become_2 16 rfl rfl)
theorem dX7_become_65 : decode cX7_become 65 = .ok (.aload_n 1, 1) := dk_43 (dk_at dksX7_become_2 17 rfl rfl)
theorem dX7_become_66 : decode cX7_become 66 = .ok (.getfield 70, 3) := dk_180 0 70 (dk_at dksX7_become_2 18 rfl rfl)
theorem dX7_become_69 : decode cX7_become 69 = .ok (.putfield 70, 3) := dk_181 0 70 (dk_at dksX7_become_2 21 rfl rfl)
theorem dX7_become_72 : decode cX7_become 72 = .ok (.aload_n 0, 1) := dk_42 (dk_at dksX7_become_3 0 rfl rfl)
theorem dX7_become_73 : decode cX7_become 73 = .ok (.aload_n 1, 1) := dk_43 (dk_at dksX7_become_3 1 rfl rfl)
theorem dX7_become_74 : decode cX7_become 74 = .ok (.getfield 73, 3) := dk_180 0 73 (dk_at dksX7_become_3 2 rfl rfl)
theorem dX7_become_77 : decode cX7_become 77 = .ok (.putfield 73, 3) := dk_181 0 73 (dk_at dksX7_become_3 5 rfl rfl)
theorem dX7_become_80 : decode cX7_become 80 = .ok (.aload_n 0, 1) := dk_42 (dk_at dksX7_become_3 8 rfl rfl)
theorem dX7_become_81 : decode cX7_become 81 = .ok (.aload_n 1, 1) := dk_43 (dk_at dksX7_become_3 9 rfl rfl)
theorem dX7_become_82 : decode cX7_become 82 = .ok (.getfield 76, 3) := dk_180 0 76 (dk_at dksX7_become_3 10 rfl rfl)
theorem dX7_become_85 : decode cX7_become 85 = .ok (.putfield 76, 3) := dk_181 0 76 (dk_at dksX7_become_3 13 rfl rfl)
theorem dX7_become_88 : decode cX7_become 88 = .ok (.aload_n 0, 1) := dk_42 (dk_at dksX7_become_3 16 rfl rfl)
theorem dX7_become_89 : decode cX7_become 89 = .ok (.aload_n 1, 1) := dk_43 (dk_at dksX7_become_3 17 rfl rfl)
theorem dX7_become_90 : decode cX7_become 90 = .ok (.getfield 79, 3) := dk_180 0 79 (dk_at dksX7_become_3 18 rfl rfl)
theorem dX7_become_93 : decode cX7_become 93 = .ok (.putfield 79, 3) := dk_181 0 79 (dk_at dksX7_become_3 21 rfl rfl)
theorem dX7_become_96 : decode cX7_become 96 = .ok (.aload_n 0, 1) := dk_42 (dk_at dksX7_become_4 0 rfl rfl)
theorem dX7_become_97 : decode cX7_become 97 = .ok (.aload_n 1, 1) := dk_43 (dk_at dksX7_become_4 1 rfl rfl)
theorem dX7_become_98 : decode cX7_become 98 = .ok (.getfield 82, 3) := dk_180 0 82 (dk_at dksX7_become_4 2 rfl rfl)
theorem dX7_become_101 : decode cX7_become 101 = .ok (.putfield 82, 3) := dk_181 0 82 (dk_at dksX7_become_4 5 rfl rfl)
theorem dX7_become_104 : decode cX7_become 104 = .ok (.iconst 0, 1) := dk_3 (dk_at dksX7_become_4 8 rfl rfl)
theorem dX7_become_105 : decode cX7_become 105 = .ok (.istore_n 2, 1) := dk_61 (dk_at dksX7_become_4 9 rfl rfl)
theorem dX7_become_106 : decode cX7_become 106 = .ok (.iload_n 2, 1) := dk_28 (dk_at dksX7_become_4 10 rfl rfl)
theorem dX7_become_107 : decode cX7_become 107 = .ok (.bipush 16, 2) := dk_16 16 (dk_at dksX7_become_4 11 rfl rfl)
theorem dX7_become_109 : decode cX7_become 109 = .ok (.if_icmp .ge 45, 3) := dk_162 0 45 (dk_at dksX7_become_4 13 rfl rfl)
theorem dX7_become_112 : decode cX7_become 112 = .ok (.aload_n 0, 1) := dk_42 (dk_at dksX7_become_4 16 rfl rfl)
theorem dX7_become_113 : decode cX7_become 113 = .ok (.getfield 9, 3) := dk_180 0 9 (dk_at dksX7_become_4 17 rfl rfl)
theorem dX7_become_116 : decode cX7_become 116 = .ok (.iload_n 2, 1) := dk_28 (dk_at dksX7_become_4 20 rfl rfl)
theorem dX7_become_117 : decode cX7_become 117 = .ok (.aload_n 1, 1) := dk_43 (dk_at dksX7_become_4 21 rfl rfl)
theorem dX7_become_118 : decode cX7_become 118 = .ok (.getfield 9, 3) := dk_180 0 9 (dk_at dksX7_become_5 0 rfl rfl)
theorem dX7_become_121 : decode cX7_become 121 = .ok (.iload_n 2, 1) := dk_28 (dk_at dksX7_become_5 3 rfl rfl)
theorem dX7_become_122 : decode cX7_become 122 = .ok (.iaload, 1) := dk_46 (dk_at dksX7_become_5 4 rfl rfl)
theorem dX7_become_123 : decode cX7_become 123 = .ok (.iastore, 1) := dk_79 (dk_at dksX7_become_5 5 rfl rfl)
theorem dX7_become_124 : decode cX7_become 124 = .ok (.aload_n 0, 1) := dk_42 (dk_at dksX7_become_5 6 rfl rfl)
theorem dX7_become_125 : decode cX7_become 125 = .ok (.getfield 15, 3) := dk_180 0 15 (dk_at dksX7_become_5 7 rfl rfl)
theorem dX7_become_128 : decode cX7_become 128 = .ok (.iload_n 2, 1) := dk_28 (dk_at dksX7_become_5 10 rfl rfl)
theorem dX7_become_129 : decode cX7_become 129 = .ok (.aload_n 1, 1) := dk_43 (dk_at dksX7_become_5 11 rfl rfl)
theorem dX7_become_130 : decode cX7_become 130 = .ok (.getfield 15, 3) := dk_180 0 15 (dk_at dksX7_become_5 12 rfl rfl)
theorem dX7_become_133 : decode cX7_become 133 = .ok (.iload_n 2, 1) := dk_28 (dk_at dksX7_become_5 15 rfl rfl)
theorem dX7_become_134 : decode cX7_become 134 = .ok (.iaload, 1) := dk_46 (dk_at dksX7_become_5 16 rfl rfl)
theorem dX7_become_135 : decode cX7_become 135 = .ok (.iastore, 1) := dk_79 (dk_at dksX7_become_5 17 rfl rfl)
theorem dX7_become_136 : decode cX7_become 136 = .ok (.aload_n 0, 1) := dk_42 (dk_at dksX7_become_5 18 rfl rfl)
theorem dX7_become_137 : decode cX7_become 137 = .ok (.getfield 18, 3) := dk_180 0 18 (dk_at dksX7_become_5 19 rfl rfl)
theorem dX7_become_140 : decode cX7_become 140 = .ok (.iload_n 2, 1) := dk_28 (dk_at dksX7_become_5 22 rfl rfl)
theorem dX7_become_141 : decode cX7_become 141 = .ok (.aload_n 1, 1) := dk_43 (dk_at dksX7_become_5 23 rfl rfl)
theorem dX7_become_142 : decode cX7_become 142 = .ok (.getfield 18, 3) := dk_180 0 18 (dk_at dksX7_become_6 0 rfl rfl)
theorem dX7_become_145 : decode cX7_become 145 = .ok (.iload_n 2, 1) := dk_28 (dk_at dksX7_become_6 3 rfl rfl)
theorem dX7_become_146 : decode cX7_become 146 = .ok (.iaload, 1) := dk_46 (dk_at dksX7_become_6 4 rfl rfl)
theorem dX7_become_147 : decode cX7_become 147 = .ok (.iastore, 1) := dk_79 (dk_at dksX7_become_6 5 rfl rfl)
theorem dX7_become_148 : decode cX7_become 148 = .ok (.iinc 2 1, 3) := dk_132 2 1 (dk_at dksX7_become_6 6 rfl rfl)
theorem dX7_become_151 : decode cX7_become 151 = .ok (.goto (-45), 3) := dk_167 255 211 (dk_at dksX7_become_6 9 rfl rfl)
theorem dX7_become_154 : decode cX7_become 154 = .ok (.iconst 0, 1) := dk_3 (dk_at dksX7_become_6 12 rfl rfl)
theorem dX7_become_155 : decode cX7_become 155 = .ok (.istore_n 2, 1) := dk_61 (dk_at dksX7_become_6 13 rfl rfl)
theorem dX7_become_156 : decode cX7_become 156 = .ok (.iload_n 2, 1) := dk_28 (dk_at dksX7_become_6 14 rfl rfl)
theorem dX7_become_157 : decode cX7_become 157 = .ok (.bipush 12, 2) := dk_16 12 (dk_at dksX7_become_6 15 rfl rfl)
theorem dX7_become_159 : decode cX7_become 159 = .ok (.if_icmp .gt 33, 3) := dk_163 0 33 (dk_at dksX7_become_6 17 rfl rfl)
theorem dX7_become_162 : decode cX7_become 162 = .ok (.aload_n 0, 1) := dk_42 (dk_at dksX7_become_6 20 rfl rfl)
theorem dX7_become_163 : decode cX7_become 163 = .ok (.getfield 21, 3) := dk_180 0 21 (dk_at dksX7_become_6 21 rfl rfl)
theorem dX7_become_166 : decode cX7_become 166 = .ok (.iload_n 2, 1) := dk_28 (dk_at dksX7_become_7 0 rfl rfl)
theorem dX7_become_167 : decode cX7_become 167 = .ok (.aload_n 1, 1) := dk_43 (dk_at dksX7_become_7 1 rfl rfl)
theorem dX7_become_168 : decode cX7_become 168 = .ok (.getfield 21, 3) := dk_180 0 21 (dk_at dksX7_become_7 2 rfl rfl)
theorem dX7_become_171 : decode cX7_become 171 = .ok (.iload_n 2, 1) := dk_28 (dk_at dksX7_become_7 5 rfl rfl)
theorem dX7_become_172 : decode cX7_become 172 = .ok (.iaload, 1) := dk_46 (dk_at dksX7_become_7 6 rfl rfl)
theorem dX7_become_173 : decode cX7_become 173 = .ok (.iastore, 1) := dk_79 (dk_at dksX7_become_7 7 rfl rfl)
theorem dX7_become_174 : decode cX7_become 174 = .ok (.aload_n 0, 1) := dk_42 (dk_at dksX7_become_7 8 rfl rfl)
theorem dX7_become_175 : decode cX7_become 175 = .ok (.getfield 24, 3) := dk_180 0 24 (dk_at dksX7_become_7 9 rfl rfl)
theorem dX7_become_178 : decode cX7_become 178 = .ok (.iload_n 2, 1) := dk_28 (dk_at dksX7_become_7 12 rfl rfl)
theorem dX7_become_179 : decode cX7_become 179 = .ok (.aload_n 1, 1) := dk_43 (dk_at dksX7_become_7 13 rfl rfl)
theorem dX7_become_180 : decode cX7_become 180 = .ok (.getfield 24, 3) := dk_180 0 24 (dk_at dksX7_become_7 14 rfl rfl)
theorem dX7_become_183 : decode cX7_become 183 = .ok (.iload_n 2, 1) := dk_28 (dk_at dksX7_become_7 17 rfl rfl)
theorem dX7_become_184 : decode cX7_become 184 = .ok (.iaload, 1) := dk_46 (dk_at dksX7_become_7 18 rfl rfl)
theorem dX7_become_185 : decode cX7_become 185 = .ok (.iastore, 1) := dk_79 (dk_at dksX7_become_7 19 rfl rfl)
theorem dX7_become_186 : decode cX7_become 186 = .ok (.iinc 2 1, 3) := dk_132 2 1 (dk_at dksX7_become_7 20 rfl rfl)
theorem dX7_become_189 : decode cX7_become 189 = .ok (.goto (-33), 3) := dk_167 255 223 (dk_at dksX7_become_8 0 rfl rfl)
theorem dX7_become_192 : decode cX7_become 192 = .ok (.iconst 0, 1) := dk_3 (dk_at dksX7_become_8 3 rfl rfl)
theorem dX7_become_193 : decode cX7_become 193 = .ok (.istore_n 2, 1) := dk_61 (dk_at dksX7_become_8 4 rfl rfl)
theorem dX7_become_194 : decode cX7_become 194 = .ok (.iload_n 2, 1) := dk_28 (dk_at dksX7_become_8 5 rfl rfl)
theorem dX7_become_195 : decode cX7_become 195 = .ok (.aload_n 0, 1) := dk_42 (dk_at dksX7_become_8 6 rfl rfl)
theorem dX7_become_196 : decode cX7_become 196 = .ok (.getfield 79, 3) := dk_180 0 79 (dk_at dksX7_become_8 7 rfl rfl)
theorem dX7_become_199 : decode cX7_become 199 = .ok (.if_icmp .ge 33, 3) := dk_162 0 33 (dk_at dksX7_become_8 10 rfl rfl)
theorem dX7_become_202 : decode cX7_become 202 = .ok (.aload_n 0, 1) := dk_42 (dk_at dksX7_become_8 13 rfl rfl)
theorem dX7_become_203 : decode cX7_become 203 = .ok (.getfield 27, 3) := dk_180 0 27 (dk_at dksX7_become_8 14 rfl rfl)
theorem dX7_become_206 : decode cX7_become 206 = .ok (.iload_n 2, 1) := dk_28 (dk_at dksX7_become_8 17 rfl rfl)
theorem dX7_become_207 : decode cX7_become 207 = .ok (.aload_n 1, 1) := dk_43 (dk_at dksX7_become_8 18 rfl rfl)
theorem dX7_become_208 : decode cX7_become 208 = .ok (.getfield 27, 3) := dk_180 0 27 (dk_at dksX7_become_8 19 rfl rfl)
theorem dX7_become_211 : decode cX7_become 211 = .ok (.iload_n 2, 1) := dk_28 (dk_at dksX7_become_8 22 rfl rfl)
theorem dX7_become_212 : decode cX7_become 212 = .ok (.iaload, 1) := dk_46 (dk_at dksX7_become_8 23 rfl rfl)
theorem dX7_become_213 : decode cX7_become 213 = .ok (.iastore, 1) := dk_79 (dk_at dksX7_become_9 0 rfl rfl)
theorem dX7_become_214 : decode cX7_become 214 = .ok (.aload_n 0, 1) := dk_42 (dk_at dksX7_become_9 1 rfl rfl)
theorem dX7_become_215 : decode cX7_become 215 = .ok (.getfield 30, 3) := dk_180 0 30 (dk_at dksX7_become_9 2 rfl rfl)
theorem dX7_become_218 : decode cX7_become 218 = .ok (.iload_n 2, 1) := dk_28 (dk_at dksX7_become_9 5 rfl rfl)
theorem dX7_become_219 : decode cX7_become 219 = .ok (.aload_n 1, 1) := dk_43 (dk_at dksX7_become_9 6 rfl rfl)
theorem dX7_become_220 : decode cX7_become 220 = .ok (.getfield 30, 3) := dk_180 0 30 (dk_at dksX7_become_9 7 rfl rfl)
theorem dX7_become_223 : decode cX7_become 223 = .ok (.iload_n 2, 1) := dk_28 (dk_at dksX7_become_9 10 rfl rfl)
theorem dX7_become_224 : decode cX7_become 224 = .ok (.iaload, 1) := dk_46 (dk_at dksX7_become_9 11 rfl rfl)
theorem dX7_become_225 : decode cX7_become 225 = .ok (.iastore, 1) := dk_79 (dk_at dksX7_become_9 12 rfl rfl)
theorem dX7_become_226 : decode cX7_become 226 = .ok (.iinc 2 1, 3) := dk_132 2 1 (dk_at dksX7_become_9 13 rfl rfl)
theorem dX7_become_229 : decode cX7_become 229 = .ok (.goto (-35), 3) := dk_167 255 221 (dk_at dksX7_become_9 16 rfl rfl)
theorem dX7_become_232 : decode cX7_become 232 = .ok (.iconst 0, 1) := dk_3 (dk_at dksX7_become_9 19 rfl rfl)
theorem dX7_become_233 : decode cX7_become 233 = .ok (.istore_n 2, 1) := dk_61 (dk_at dksX7_become_9 20 rfl rfl)
theorem dX7_become_234 : decode cX7_become 234 = .ok (.iload_n 2, 1) := dk_28 (dk_at dksX7_become_9 21 rfl rfl)
theorem dX7_become_235 : decode cX7_become 235 = .ok (.aload_n 0, 1) := dk_42 (dk_at dksX7_become_9 22 rfl rfl)
theorem dX7_become_236 : decode cX7_become 236 = .ok (.getfield 82, 3) := dk_180 0 82 (dk_at dksX7_become_10 0 rfl rfl)
theorem dX7_become_239 : decode cX7_become 239 = .ok (.if_icmp .ge 33, 3) := dk_162 0 33 (dk_at dksX7_become_10 3 rfl rfl)
theorem dX7_become_242 : decode cX7_become 242 = .ok (.aload_n 0, 1) := dk_42 (dk_at dksX7_become_10 6 rfl rfl)
theorem dX7_become_243 : decode cX7_become 243 = .ok (.getfield 33, 3) := dk_180 0 33 (dk_at dksX7_become_10 7 rfl rfl)
theorem dX7_become_246 : decode cX7_become 246 = .ok (.iload_n 2, 1) := dk_28 (dk_at dksX7_become_10 10 rfl rfl)
theorem dX7_become_247 : decode cX7_become 247 = .ok (.aload_n 1, 1) := dk_43 (dk_at dksX7_become_10 11 rfl rfl)
theorem dX7_become_248 : decode cX7_become 248 = .ok (.getfield 33, 3) := dk_180 0 33 (dk_at dksX7_become_10 12 rfl rfl)
theorem dX7_become_251 : decode cX7_become 251 = .ok (.iload_n 2, 1) := dk_28 (dk_at dksX7_become_10 15 rfl rfl)
theorem dX7_become_252 : decode cX7_become 252 = .ok (.iaload, 1) := dk_46 (dk_at dksX7_become_10 16 rfl rfl)
theorem dX7_become_253 : decode cX7_become 253 = .ok (.iastore, 1) := dk_79 (dk_at dksX7_become_10 17 rfl rfl)
theorem dX7_become_254 : decode cX7_become 254 = .ok (.aload_n 0, 1) := dk_42 (dk_at dksX7_become_10 18 rfl rfl)
theorem dX7_become_255 : decode cX7_become 255 = .ok (.getfield 36, 3) := dk_180 0 36 (dk_at dksX7_become_10 19 rfl rfl)
theorem dX7_become_258 : decode cX7_become 258 = .ok (.iload_n 2, 1) := dk_28 (dk_at dksX7_become_10 22 rfl rfl)
theorem dX7_become_259 : decode cX7_become 259 = .ok (.aload_n 1, 1) := dk_43 (dk_at dksX7_become_10 23 rfl rfl)
theorem dX7_become_260 : decode cX7_become 260 = .ok (.getfield 36, 3) := dk_180 0 36 (dk_at dksX7_become_11 0 rfl rfl)
theorem dX7_become_263 : decode cX7_become 263 = .ok (.iload_n 2, 1) := dk_28 (dk_at dksX7_become_11 3 rfl rfl)
theorem dX7_become_264 : decode cX7_become 264 = .ok (.iaload, 1) := dk_46 (dk_at dksX7_become_11 4 rfl rfl)
theorem dX7_become_265 : decode cX7_become 265 = .ok (.iastore, 1) := dk_79 (dk_at dksX7_become_11 5 rfl rfl)
theorem dX7_become_266 : decode cX7_become 266 = .ok (.iinc 2 1, 3) := dk_132 2 1 (dk_at dksX7_become_11 6 rfl rfl)
theorem dX7_become_269 : decode cX7_become 269 = .ok (.goto (-35), 3) := dk_167 255 221 (dk_at dksX7_become_11 9 rfl rfl)
theorem dX7_become_272 : decode cX7_become 272 = .ok (.return_, 1) := dk_177 (dk_at dksX7_become_11 12 rfl rfl)
abbrev cX7_begin : ByteArray := prog_18_method_2_code
def yX7_begin : MethodName := ⟨RX7, "begin", "(IIIII)V"⟩
def dkwX7_begin_6 : List UInt8 := [42, 180, 0, 24, 21, 6, 2, 79, 132, 6, 1, 167, 255, 230, 177]
abbrev dktX7_begin_6 : List UInt8 := dkwX7_begin_6 ++ []
def dkwX7_begin_5 : List UInt8 := [132, 6, 1, 167, 255, 220, 3, 54, 6, 21, 6, 16, 12, 163, 0, 25, 42, 180, 0, 21, 21, 6, 2, 79]
abbrev dktX7_begin_5 : List UInt8 := dkwX7_begin_5 ++ dktX7_begin_6
def dkwX7_begin_4 : List UInt8 := [21, 6, 17, 3, 232, 79, 42, 180, 0, 15, 21, 6, 3, 79, 42, 180, 0, 18, 21, 6, 2, 79]
abbrev dktX7_begin_4 : List UInt8 := dkwX7_begin_4 ++ dktX7_begin_5
def dkwX7_begin_3 : List UInt8 := [3, 181, 0, 79, 42, 3, 181, 0, 82, 3, 54, 6, 21, 6, 16, 16, 162, 0, 35, 42, 180, 0, 9]
abbrev dktX7_begin_3 : List UInt8 := dkwX7_begin_3 ++ dktX7_begin_4
def dkwX7_begin_2 : List UInt8 := [181, 0, 64, 42, 3, 181, 0, 67, 42, 3, 181, 0, 70, 42, 3, 181, 0, 73, 42, 2, 181, 0, 76, 42]
abbrev dktX7_begin_2 : List UInt8 := dkwX7_begin_2 ++ dktX7_begin_3
def dkwX7_begin_1 : List UInt8 := [181, 0, 52, 42, 21, 4, 181, 0, 55, 42, 21, 5, 181, 0, 58, 42, 3, 181, 0, 61, 42, 3]
abbrev dktX7_begin_1 : List UInt8 := dkwX7_begin_1 ++ dktX7_begin_2
def dkwX7_begin_0 : List UInt8 := [42, 27, 181, 0, 39, 42, 28, 181, 0, 43, 42, 29, 181, 0, 46, 42, 28, 181, 0, 49, 42, 29]
abbrev dktX7_begin_0 : List UInt8 := dkwX7_begin_0 ++ dktX7_begin_1
theorem dksX7_begin_0 : cX7_begin.data.toList.drop 0 = dktX7_begin_0 := by decide +kernel
theorem dksX7_begin_1 : cX7_begin.data.toList.drop 22 = dktX7_begin_1 := dk_seg dksX7_begin_0 22 rfl rfl
theorem dksX7_begin_2 : cX7_begin.data.toList.drop 44 = dktX7_begin_2 := dk_seg dksX7_begin_1 22 rfl rfl
theorem dksX7_begin_3 : cX7_begin.data.toList.drop 68 = dktX7_begin_3 := dk_seg dksX7_begin_2 24 rfl rfl
theorem dksX7_begin_4 : cX7_begin.data.toList.drop 91 = dktX7_begin_4 := dk_seg dksX7_begin_3 23 rfl rfl
theorem dksX7_begin_5 : cX7_begin.data.toList.drop 113 = dktX7_begin_5 := dk_seg dksX7_begin_4 22 rfl rfl
theorem dksX7_begin_6 : cX7_begin.data.toList.drop 137 = dktX7_begin_6 := dk_seg dksX7_begin_5 24 rfl rfl
theorem dX7_begin_0 : decode cX7_begin 0 = .ok (.aload_n 0, 1) := dk_42 (dk_at dksX7_begin_0 0 rfl rfl)
theorem dX7_begin_1 : decode cX7_begin 1 = .ok (.iload_n 1, 1) := dk_27 (dk_at dksX7_begin_0 1 rfl rfl)
theorem dX7_begin_2 : decode cX7_begin 2 = .ok (.putfield 39, 3) := dk_181 0 39 (dk_at dksX7_begin_0 2 rfl rfl)
theorem dX7_begin_5 : decode cX7_begin 5 = .ok (.aload_n 0, 1) := dk_42 (dk_at dksX7_begin_0 5 rfl rfl)
theorem dX7_begin_6 : decode cX7_begin 6 = .ok (.iload_n 2, 1) := dk_28 (dk_at dksX7_begin_0 6 rfl rfl)
theorem dX7_begin_7 : decode cX7_begin 7 = .ok (.putfield 43, 3) := dk_181 0 43 (dk_at dksX7_begin_0 7 rfl rfl)
theorem dX7_begin_10 : decode cX7_begin 10 = .ok (.aload_n 0, 1) := dk_42 (dk_at dksX7_begin_0 10 rfl rfl)
theorem dX7_begin_11 : decode cX7_begin 11 = .ok (.iload_n 3, 1) := dk_29 (dk_at dksX7_begin_0 11 rfl rfl)
theorem dX7_begin_12 : decode cX7_begin 12 = .ok (.putfield 46, 3) := dk_181 0 46 (dk_at dksX7_begin_0 12 rfl rfl)
theorem dX7_begin_15 : decode cX7_begin 15 = .ok (.aload_n 0, 1) := dk_42 (dk_at dksX7_begin_0 15 rfl rfl)
theorem dX7_begin_16 : decode cX7_begin 16 = .ok (.iload_n 2, 1) := dk_28 (dk_at dksX7_begin_0 16 rfl rfl)
theorem dX7_begin_17 : decode cX7_begin 17 = .ok (.putfield 49, 3) := dk_181 0 49 (dk_at dksX7_begin_0 17 rfl rfl)
theorem dX7_begin_20 : decode cX7_begin 20 = .ok (.aload_n 0, 1) := dk_42 (dk_at dksX7_begin_0 20 rfl rfl)
theorem dX7_begin_21 : decode cX7_begin 21 = .ok (.iload_n 3, 1) := dk_29 (dk_at dksX7_begin_0 21 rfl rfl)
theorem dX7_begin_22 : decode cX7_begin 22 = .ok (.putfield 52, 3) := dk_181 0 52 (dk_at dksX7_begin_1 0 rfl rfl)
theorem dX7_begin_25 : decode cX7_begin 25 = .ok (.aload_n 0, 1) := dk_42 (dk_at dksX7_begin_1 3 rfl rfl)
theorem dX7_begin_26 : decode cX7_begin 26 = .ok (.iload 4, 2) := dk_21 4 (dk_at dksX7_begin_1 4 rfl rfl)
theorem dX7_begin_28 : decode cX7_begin 28 = .ok (.putfield 55, 3) := dk_181 0 55 (dk_at dksX7_begin_1 6 rfl rfl)
theorem dX7_begin_31 : decode cX7_begin 31 = .ok (.aload_n 0, 1) := dk_42 (dk_at dksX7_begin_1 9 rfl rfl)
theorem dX7_begin_32 : decode cX7_begin 32 = .ok (.iload 5, 2) := dk_21 5 (dk_at dksX7_begin_1 10 rfl rfl)
theorem dX7_begin_34 : decode cX7_begin 34 = .ok (.putfield 58, 3) := dk_181 0 58 (dk_at dksX7_begin_1 12 rfl rfl)
theorem dX7_begin_37 : decode cX7_begin 37 = .ok (.aload_n 0, 1) := dk_42 (dk_at dksX7_begin_1 15 rfl rfl)
theorem dX7_begin_38 : decode cX7_begin 38 = .ok (.iconst 0, 1) := dk_3 (dk_at dksX7_begin_1 16 rfl rfl)
theorem dX7_begin_39 : decode cX7_begin 39 = .ok (.putfield 61, 3) := dk_181 0 61 (dk_at dksX7_begin_1 17 rfl rfl)
theorem dX7_begin_42 : decode cX7_begin 42 = .ok (.aload_n 0, 1) := dk_42 (dk_at dksX7_begin_1 20 rfl rfl)
theorem dX7_begin_43 : decode cX7_begin 43 = .ok (.iconst 0, 1) := dk_3 (dk_at dksX7_begin_1 21 rfl rfl)
theorem dX7_begin_44 : decode cX7_begin 44 = .ok (.putfield 64, 3) := dk_181 0 64 (dk_at dksX7_begin_2 0 rfl rfl)
theorem dX7_begin_47 : decode cX7_begin 47 = .ok (.aload_n 0, 1) := dk_42 (dk_at dksX7_begin_2 3 rfl rfl)
theorem dX7_begin_48 : decode cX7_begin 48 = .ok (.iconst 0, 1) := dk_3 (dk_at dksX7_begin_2 4 rfl rfl)
theorem dX7_begin_49 : decode cX7_begin 49 = .ok (.putfield 67, 3) := dk_181 0 67 (dk_at dksX7_begin_2 5 rfl rfl)
theorem dX7_begin_52 : decode cX7_begin 52 = .ok (.aload_n 0, 1) := dk_42 (dk_at dksX7_begin_2 8 rfl rfl)
theorem dX7_begin_53 : decode cX7_begin 53 = .ok (.iconst 0, 1) := dk_3 (dk_at dksX7_begin_2 9 rfl rfl)
theorem dX7_begin_54 : decode cX7_begin 54 = .ok (.putfield 70, 3) := dk_181 0 70 (dk_at dksX7_begin_2 10 rfl rfl)
theorem dX7_begin_57 : decode cX7_begin 57 = .ok (.aload_n 0, 1) := dk_42 (dk_at dksX7_begin_2 13 rfl rfl)
theorem dX7_begin_58 : decode cX7_begin 58 = .ok (.iconst 0, 1) := dk_3 (dk_at dksX7_begin_2 14 rfl rfl)
theorem dX7_begin_59 : decode cX7_begin 59 = .ok (.putfield 73, 3) := dk_181 0 73 (dk_at dksX7_begin_2 15 rfl rfl)
theorem dX7_begin_62 : decode cX7_begin 62 = .ok (.aload_n 0, 1) := dk_42 (dk_at dksX7_begin_2 18 rfl rfl)
theorem dX7_begin_63 : decode cX7_begin 63 = .ok (.iconst (-1), 1) := dk_2 (dk_at dksX7_begin_2 19 rfl rfl)
theorem dX7_begin_64 : decode cX7_begin 64 = .ok (.putfield 76, 3) := dk_181 0 76 (dk_at dksX7_begin_2 20 rfl rfl)
theorem dX7_begin_67 : decode cX7_begin 67 = .ok (.aload_n 0, 1) := dk_42 (dk_at dksX7_begin_2 23 rfl rfl)
theorem dX7_begin_68 : decode cX7_begin 68 = .ok (.iconst 0, 1) := dk_3 (dk_at dksX7_begin_3 0 rfl rfl)
theorem dX7_begin_69 : decode cX7_begin 69 = .ok (.putfield 79, 3) := dk_181 0 79 (dk_at dksX7_begin_3 1 rfl rfl)
theorem dX7_begin_72 : decode cX7_begin 72 = .ok (.aload_n 0, 1) := dk_42 (dk_at dksX7_begin_3 4 rfl rfl)
theorem dX7_begin_73 : decode cX7_begin 73 = .ok (.iconst 0, 1) := dk_3 (dk_at dksX7_begin_3 5 rfl rfl)
theorem dX7_begin_74 : decode cX7_begin 74 = .ok (.putfield 82, 3) := dk_181 0 82 (dk_at dksX7_begin_3 6 rfl rfl)
theorem dX7_begin_77 : decode cX7_begin 77 = .ok (.iconst 0, 1) := dk_3 (dk_at dksX7_begin_3 9 rfl rfl)
theorem dX7_begin_78 : decode cX7_begin 78 = .ok (.istore 6, 2) := dk_54 6 (dk_at dksX7_begin_3 10 rfl rfl)
theorem dX7_begin_80 : decode cX7_begin 80 = .ok (.iload 6, 2) := dk_21 6 (dk_at dksX7_begin_3 12 rfl rfl)
theorem dX7_begin_82 : decode cX7_begin 82 = .ok (.bipush 16, 2) := dk_16 16 (dk_at dksX7_begin_3 14 rfl rfl)
theorem dX7_begin_84 : decode cX7_begin 84 = .ok (.if_icmp .ge 35, 3) := dk_162 0 35 (dk_at dksX7_begin_3 16 rfl rfl)
theorem dX7_begin_87 : decode cX7_begin 87 = .ok (.aload_n 0, 1) := dk_42 (dk_at dksX7_begin_3 19 rfl rfl)
theorem dX7_begin_88 : decode cX7_begin 88 = .ok (.getfield 9, 3) := dk_180 0 9 (dk_at dksX7_begin_3 20 rfl rfl)
theorem dX7_begin_91 : decode cX7_begin 91 = .ok (.iload 6, 2) := dk_21 6 (dk_at dksX7_begin_4 0 rfl rfl)
theorem dX7_begin_93 : decode cX7_begin 93 = .ok (.sipush 1000, 3) := dk_17 3 232 (dk_at dksX7_begin_4 2 rfl rfl)
theorem dX7_begin_96 : decode cX7_begin 96 = .ok (.iastore, 1) := dk_79 (dk_at dksX7_begin_4 5 rfl rfl)
theorem dX7_begin_97 : decode cX7_begin 97 = .ok (.aload_n 0, 1) := dk_42 (dk_at dksX7_begin_4 6 rfl rfl)
theorem dX7_begin_98 : decode cX7_begin 98 = .ok (.getfield 15, 3) := dk_180 0 15 (dk_at dksX7_begin_4 7 rfl rfl)
theorem dX7_begin_101 : decode cX7_begin 101 = .ok (.iload 6, 2) := dk_21 6 (dk_at dksX7_begin_4 10 rfl rfl)
theorem dX7_begin_103 : decode cX7_begin 103 = .ok (.iconst 0, 1) := dk_3 (dk_at dksX7_begin_4 12 rfl rfl)
theorem dX7_begin_104 : decode cX7_begin 104 = .ok (.iastore, 1) := dk_79 (dk_at dksX7_begin_4 13 rfl rfl)
theorem dX7_begin_105 : decode cX7_begin 105 = .ok (.aload_n 0, 1) := dk_42 (dk_at dksX7_begin_4 14 rfl rfl)
theorem dX7_begin_106 : decode cX7_begin 106 = .ok (.getfield 18, 3) := dk_180 0 18 (dk_at dksX7_begin_4 15 rfl rfl)
theorem dX7_begin_109 : decode cX7_begin 109 = .ok (.iload 6, 2) := dk_21 6 (dk_at dksX7_begin_4 18 rfl rfl)
theorem dX7_begin_111 : decode cX7_begin 111 = .ok (.iconst (-1), 1) := dk_2 (dk_at dksX7_begin_4 20 rfl rfl)
theorem dX7_begin_112 : decode cX7_begin 112 = .ok (.iastore, 1) := dk_79 (dk_at dksX7_begin_4 21 rfl rfl)
theorem dX7_begin_113 : decode cX7_begin 113 = .ok (.iinc 6 1, 3) := dk_132 6 1 (dk_at dksX7_begin_5 0 rfl rfl)
theorem dX7_begin_116 : decode cX7_begin 116 = .ok (.goto (-36), 3) := dk_167 255 220 (dk_at dksX7_begin_5 3 rfl rfl)
theorem dX7_begin_119 : decode cX7_begin 119 = .ok (.iconst 0, 1) := dk_3 (dk_at dksX7_begin_5 6 rfl rfl)
theorem dX7_begin_120 : decode cX7_begin 120 = .ok (.istore 6, 2) := dk_54 6 (dk_at dksX7_begin_5 7 rfl rfl)
theorem dX7_begin_122 : decode cX7_begin 122 = .ok (.iload 6, 2) := dk_21 6 (dk_at dksX7_begin_5 9 rfl rfl)
theorem dX7_begin_124 : decode cX7_begin 124 = .ok (.bipush 12, 2) := dk_16 12 (dk_at dksX7_begin_5 11 rfl rfl)
theorem dX7_begin_126 : decode cX7_begin 126 = .ok (.if_icmp .gt 25, 3) := dk_163 0 25 (dk_at dksX7_begin_5 13 rfl rfl)
theorem dX7_begin_129 : decode cX7_begin 129 = .ok (.aload_n 0, 1) := dk_42 (dk_at dksX7_begin_5 16 rfl rfl)
theorem dX7_begin_130 : decode cX7_begin 130 = .ok (.getfield 21, 3) := dk_180 0 21 (dk_at dksX7_begin_5 17 rfl rfl)
theorem dX7_begin_133 : decode cX7_begin 133 = .ok (.iload 6, 2) := dk_21 6 (dk_at dksX7_begin_5 20 rfl rfl)
theorem dX7_begin_135 : decode cX7_begin 135 = .ok (.iconst (-1), 1) := dk_2 (dk_at dksX7_begin_5 22 rfl rfl)
theorem dX7_begin_136 : decode cX7_begin 136 = .ok (.iastore, 1) := dk_79 (dk_at dksX7_begin_5 23 rfl rfl)
theorem dX7_begin_137 : decode cX7_begin 137 = .ok (.aload_n 0, 1) := dk_42 (dk_at dksX7_begin_6 0 rfl rfl)
theorem dX7_begin_138 : decode cX7_begin 138 = .ok (.getfield 24, 3) := dk_180 0 24 (dk_at dksX7_begin_6 1 rfl rfl)
theorem dX7_begin_141 : decode cX7_begin 141 = .ok (.iload 6, 2) := dk_21 6 (dk_at dksX7_begin_6 4 rfl rfl)
theorem dX7_begin_143 : decode cX7_begin 143 = .ok (.iconst (-1), 1) := dk_2 (dk_at dksX7_begin_6 6 rfl rfl)
theorem dX7_begin_144 : decode cX7_begin 144 = .ok (.iastore, 1) := dk_79 (dk_at dksX7_begin_6 7 rfl rfl)
theorem dX7_begin_145 : decode cX7_begin 145 = .ok (.iinc 6 1, 3) := dk_132 6 1 (dk_at dksX7_begin_6 8 rfl rfl)
theorem dX7_begin_148 : decode cX7_begin 148 = .ok (.goto (-26), 3) := dk_167 255 230 (dk_at dksX7_begin_6 11 rfl rfl)
theorem dX7_begin_151 : decode cX7_begin 151 = .ok (.return_, 1) := dk_177 (dk_at dksX7_begin_6 14 rfl rfl)
abbrev cX7_weakest : ByteArray := prog_18_method_5_code
def yX7_weakest : MethodName := ⟨RX7, "weakest", "()I"⟩
def dkwX7_weakest_2 : List UInt8 := [167, 255, 214, 27, 172]
abbrev dktX7_weakest_2 : List UInt8 := dkwX7_weakest_2 ++ []
def dkwX7_weakest_1 : List UInt8 := [159, 0, 18, 42, 180, 0, 9, 28, 46, 42, 180, 0, 9, 27, 46, 162, 0, 5, 28, 60, 132, 2, 1]
abbrev dktX7_weakest_1 : List UInt8 := dkwX7_weakest_1 ++ dktX7_weakest_2
def dkwX7_weakest_0 : List UInt8 := [2, 60, 3, 61, 28, 42, 180, 0, 39, 162, 0, 40, 42, 180, 0, 15, 28, 46, 154, 0, 25, 27, 2]
abbrev dktX7_weakest_0 : List UInt8 := dkwX7_weakest_0 ++ dktX7_weakest_1
theorem dksX7_weakest_0 : cX7_weakest.data.toList.drop 0 = dktX7_weakest_0 := by decide +kernel
theorem dksX7_weakest_1 : cX7_weakest.data.toList.drop 23 = dktX7_weakest_1 := dk_seg dksX7_weakest_0 23 rfl rfl
theorem dksX7_weakest_2 : cX7_weakest.data.toList.drop 46 = dktX7_weakest_2 := dk_seg dksX7_weakest_1 23 rfl rfl
theorem dX7_weakest_0 : decode cX7_weakest 0 = .ok (.iconst (-1), 1) := dk_2 (dk_at dksX7_weakest_0 0 rfl rfl)
theorem dX7_weakest_1 : decode cX7_weakest 1 = .ok (.istore_n 1, 1) := dk_60 (dk_at dksX7_weakest_0 1 rfl rfl)
theorem dX7_weakest_2 : decode cX7_weakest 2 = .ok (.iconst 0, 1) := dk_3 (dk_at dksX7_weakest_0 2 rfl rfl)
theorem dX7_weakest_3 : decode cX7_weakest 3 = .ok (.istore_n 2, 1) := dk_61 (dk_at dksX7_weakest_0 3 rfl rfl)
theorem dX7_weakest_4 : decode cX7_weakest 4 = .ok (.iload_n 2, 1) := dk_28 (dk_at dksX7_weakest_0 4 rfl rfl)
theorem dX7_weakest_5 : decode cX7_weakest 5 = .ok (.aload_n 0, 1) := dk_42 (dk_at dksX7_weakest_0 5 rfl rfl)
theorem dX7_weakest_6 : decode cX7_weakest 6 = .ok (.getfield 39, 3) := dk_180 0 39 (dk_at dksX7_weakest_0 6 rfl rfl)
theorem dX7_weakest_9 : decode cX7_weakest 9 = .ok (.if_icmp .ge 40, 3) := dk_162 0 40 (dk_at dksX7_weakest_0 9 rfl rfl)
theorem dX7_weakest_12 : decode cX7_weakest 12 = .ok (.aload_n 0, 1) := dk_42 (dk_at dksX7_weakest_0 12 rfl rfl)
theorem dX7_weakest_13 : decode cX7_weakest 13 = .ok (.getfield 15, 3) := dk_180 0 15 (dk_at dksX7_weakest_0 13 rfl rfl)
theorem dX7_weakest_16 : decode cX7_weakest 16 = .ok (.iload_n 2, 1) := dk_28 (dk_at dksX7_weakest_0 16 rfl rfl)
theorem dX7_weakest_17 : decode cX7_weakest 17 = .ok (.iaload, 1) := dk_46 (dk_at dksX7_weakest_0 17 rfl rfl)
theorem dX7_weakest_18 : decode cX7_weakest 18 = .ok (.ifCond .ne 25, 3) := dk_154 0 25 (dk_at dksX7_weakest_0 18 rfl rfl)
theorem dX7_weakest_21 : decode cX7_weakest 21 = .ok (.iload_n 1, 1) := dk_27 (dk_at dksX7_weakest_0 21 rfl rfl)
theorem dX7_weakest_22 : decode cX7_weakest 22 = .ok (.iconst (-1), 1) := dk_2 (dk_at dksX7_weakest_0 22 rfl rfl)
theorem dX7_weakest_23 : decode cX7_weakest 23 = .ok (.if_icmp .eq 18, 3) := dk_159 0 18 (dk_at dksX7_weakest_1 0 rfl rfl)
theorem dX7_weakest_26 : decode cX7_weakest 26 = .ok (.aload_n 0, 1) := dk_42 (dk_at dksX7_weakest_1 3 rfl rfl)
theorem dX7_weakest_27 : decode cX7_weakest 27 = .ok (.getfield 9, 3) := dk_180 0 9 (dk_at dksX7_weakest_1 4 rfl rfl)
theorem dX7_weakest_30 : decode cX7_weakest 30 = .ok (.iload_n 2, 1) := dk_28 (dk_at dksX7_weakest_1 7 rfl rfl)
theorem dX7_weakest_31 : decode cX7_weakest 31 = .ok (.iaload, 1) := dk_46 (dk_at dksX7_weakest_1 8 rfl rfl)
theorem dX7_weakest_32 : decode cX7_weakest 32 = .ok (.aload_n 0, 1) := dk_42 (dk_at dksX7_weakest_1 9 rfl rfl)
theorem dX7_weakest_33 : decode cX7_weakest 33 = .ok (.getfield 9, 3) := dk_180 0 9 (dk_at dksX7_weakest_1 10 rfl rfl)
theorem dX7_weakest_36 : decode cX7_weakest 36 = .ok (.iload_n 1, 1) := dk_27 (dk_at dksX7_weakest_1 13 rfl rfl)
theorem dX7_weakest_37 : decode cX7_weakest 37 = .ok (.iaload, 1) := dk_46 (dk_at dksX7_weakest_1 14 rfl rfl)
theorem dX7_weakest_38 : decode cX7_weakest 38 = .ok (.if_icmp .ge 5, 3) := dk_162 0 5 (dk_at dksX7_weakest_1 15 rfl rfl)
theorem dX7_weakest_41 : decode cX7_weakest 41 = .ok (.iload_n 2, 1) := dk_28 (dk_at dksX7_weakest_1 18 rfl rfl)
theorem dX7_weakest_42 : decode cX7_weakest 42 = .ok (.istore_n 1, 1) := dk_60 (dk_at dksX7_weakest_1 19 rfl rfl)
theorem dX7_weakest_43 : decode cX7_weakest 43 = .ok (.iinc 2 1, 3) := dk_132 2 1 (dk_at dksX7_weakest_1 20 rfl rfl)
theorem dX7_weakest_46 : decode cX7_weakest 46 = .ok (.goto (-42), 3) := dk_167 255 214 (dk_at dksX7_weakest_2 0 rfl rfl)
theorem dX7_weakest_49 : decode cX7_weakest 49 = .ok (.iload_n 1, 1) := dk_27 (dk_at dksX7_weakest_2 3 rfl rfl)
theorem dX7_weakest_50 : decode cX7_weakest 50 = .ok (.ireturn, 1) := dk_172 (dk_at dksX7_weakest_2 4 rfl rfl)
abbrev cX7_mean : ByteArray := prog_18_method_6_code
def yX7_mean : MethodName := ⟨RX7, "mean", "()I"⟩
def dkwX7_mean_2 : List UInt8 := [154, 0, 7, 3, 167, 0, 6, 27, 28, 108, 172]
abbrev dktX7_mean_2 : List UInt8 := dkwX7_mean_2 ++ []
def dkwX7_mean_1 : List UInt8 := [180, 0, 9, 28, 46, 167, 0, 4, 3, 96, 60, 132, 2, 1, 167, 255, 223, 42, 3, 182, 0, 89, 61, 28]
abbrev dktX7_mean_1 : List UInt8 := dkwX7_mean_1 ++ dktX7_mean_2
def dkwX7_mean_0 : List UInt8 := [3, 60, 3, 61, 28, 42, 180, 0, 39, 162, 0, 31, 27, 42, 180, 0, 15, 28, 46, 154, 0, 12, 42]
abbrev dktX7_mean_0 : List UInt8 := dkwX7_mean_0 ++ dktX7_mean_1
theorem dksX7_mean_0 : cX7_mean.data.toList.drop 0 = dktX7_mean_0 := by decide +kernel
theorem dksX7_mean_1 : cX7_mean.data.toList.drop 23 = dktX7_mean_1 := dk_seg dksX7_mean_0 23 rfl rfl
theorem dksX7_mean_2 : cX7_mean.data.toList.drop 47 = dktX7_mean_2 := dk_seg dksX7_mean_1 24 rfl rfl
theorem dX7_mean_0 : decode cX7_mean 0 = .ok (.iconst 0, 1) := dk_3 (dk_at dksX7_mean_0 0 rfl rfl)
theorem dX7_mean_1 : decode cX7_mean 1 = .ok (.istore_n 1, 1) := dk_60 (dk_at dksX7_mean_0 1 rfl rfl)
theorem dX7_mean_2 : decode cX7_mean 2 = .ok (.iconst 0, 1) := dk_3 (dk_at dksX7_mean_0 2 rfl rfl)
theorem dX7_mean_3 : decode cX7_mean 3 = .ok (.istore_n 2, 1) := dk_61 (dk_at dksX7_mean_0 3 rfl rfl)
theorem dX7_mean_4 : decode cX7_mean 4 = .ok (.iload_n 2, 1) := dk_28 (dk_at dksX7_mean_0 4 rfl rfl)
theorem dX7_mean_5 : decode cX7_mean 5 = .ok (.aload_n 0, 1) := dk_42 (dk_at dksX7_mean_0 5 rfl rfl)
theorem dX7_mean_6 : decode cX7_mean 6 = .ok (.getfield 39, 3) := dk_180 0 39 (dk_at dksX7_mean_0 6 rfl rfl)
theorem dX7_mean_9 : decode cX7_mean 9 = .ok (.if_icmp .ge 31, 3) := dk_162 0 31 (dk_at dksX7_mean_0 9 rfl rfl)
theorem dX7_mean_12 : decode cX7_mean 12 = .ok (.iload_n 1, 1) := dk_27 (dk_at dksX7_mean_0 12 rfl rfl)
theorem dX7_mean_13 : decode cX7_mean 13 = .ok (.aload_n 0, 1) := dk_42 (dk_at dksX7_mean_0 13 rfl rfl)
theorem dX7_mean_14 : decode cX7_mean 14 = .ok (.getfield 15, 3) := dk_180 0 15 (dk_at dksX7_mean_0 14 rfl rfl)
theorem dX7_mean_17 : decode cX7_mean 17 = .ok (.iload_n 2, 1) := dk_28 (dk_at dksX7_mean_0 17 rfl rfl)
theorem dX7_mean_18 : decode cX7_mean 18 = .ok (.iaload, 1) := dk_46 (dk_at dksX7_mean_0 18 rfl rfl)
theorem dX7_mean_19 : decode cX7_mean 19 = .ok (.ifCond .ne 12, 3) := dk_154 0 12 (dk_at dksX7_mean_0 19 rfl rfl)
theorem dX7_mean_22 : decode cX7_mean 22 = .ok (.aload_n 0, 1) := dk_42 (dk_at dksX7_mean_0 22 rfl rfl)
theorem dX7_mean_23 : decode cX7_mean 23 = .ok (.getfield 9, 3) := dk_180 0 9 (dk_at dksX7_mean_1 0 rfl rfl)
theorem dX7_mean_26 : decode cX7_mean 26 = .ok (.iload_n 2, 1) := dk_28 (dk_at dksX7_mean_1 3 rfl rfl)
theorem dX7_mean_27 : decode cX7_mean 27 = .ok (.iaload, 1) := dk_46 (dk_at dksX7_mean_1 4 rfl rfl)
theorem dX7_mean_28 : decode cX7_mean 28 = .ok (.goto 4, 3) := dk_167 0 4 (dk_at dksX7_mean_1 5 rfl rfl)
theorem dX7_mean_31 : decode cX7_mean 31 = .ok (.iconst 0, 1) := dk_3 (dk_at dksX7_mean_1 8 rfl rfl)
theorem dX7_mean_32 : decode cX7_mean 32 = .ok (.iadd, 1) := dk_96 (dk_at dksX7_mean_1 9 rfl rfl)
theorem dX7_mean_33 : decode cX7_mean 33 = .ok (.istore_n 1, 1) := dk_60 (dk_at dksX7_mean_1 10 rfl rfl)
theorem dX7_mean_34 : decode cX7_mean 34 = .ok (.iinc 2 1, 3) := dk_132 2 1 (dk_at dksX7_mean_1 11 rfl rfl)
theorem dX7_mean_37 : decode cX7_mean 37 = .ok (.goto (-33), 3) := dk_167 255 223 (dk_at dksX7_mean_1 14 rfl rfl)
theorem dX7_mean_40 : decode cX7_mean 40 = .ok (.aload_n 0, 1) := dk_42 (dk_at dksX7_mean_1 17 rfl rfl)
theorem dX7_mean_41 : decode cX7_mean 41 = .ok (.iconst 0, 1) := dk_3 (dk_at dksX7_mean_1 18 rfl rfl)
theorem dX7_mean_42 : decode cX7_mean 42 = .ok (.invokevirtual 89, 3) := dk_182 0 89 (dk_at dksX7_mean_1 19 rfl rfl)
theorem dX7_mean_45 : decode cX7_mean 45 = .ok (.istore_n 2, 1) := dk_61 (dk_at dksX7_mean_1 22 rfl rfl)
theorem dX7_mean_46 : decode cX7_mean 46 = .ok (.iload_n 2, 1) := dk_28 (dk_at dksX7_mean_1 23 rfl rfl)
theorem dX7_mean_47 : decode cX7_mean 47 = .ok (.ifCond .ne 7, 3) := dk_154 0 7 (dk_at dksX7_mean_2 0 rfl rfl)
theorem dX7_mean_50 : decode cX7_mean 50 = .ok (.iconst 0, 1) := dk_3 (dk_at dksX7_mean_2 3 rfl rfl)
theorem dX7_mean_51 : decode cX7_mean 51 = .ok (.goto 6, 3) := dk_167 0 6 (dk_at dksX7_mean_2 4 rfl rfl)
theorem dX7_mean_54 : decode cX7_mean 54 = .ok (.iload_n 1, 1) := dk_27 (dk_at dksX7_mean_2 7 rfl rfl)
theorem dX7_mean_55 : decode cX7_mean 55 = .ok (.iload_n 2, 1) := dk_28 (dk_at dksX7_mean_2 8 rfl rfl)
theorem dX7_mean_56 : decode cX7_mean 56 = .ok (.idiv, 1) := dk_108 (dk_at dksX7_mean_2 9 rfl rfl)
theorem dX7_mean_57 : decode cX7_mean 57 = .ok (.ireturn, 1) := dk_172 (dk_at dksX7_mean_2 10 rfl rfl)
abbrev cX7_of : ByteArray := prog_18_method_4_code
def yX7_of : MethodName := ⟨RX7, "of", "(I)I"⟩
def dkwX7_of_1 : List UInt8 := [167, 0, 4, 3, 96, 61, 132, 3, 1, 167, 255, 227, 28, 172]
abbrev dktX7_of_1 : List UInt8 := dkwX7_of_1 ++ []
def dkwX7_of_0 : List UInt8 := [3, 61, 3, 62, 29, 42, 180, 0, 39, 162, 0, 27, 28, 42, 180, 0, 15, 29, 46, 27, 160, 0, 7, 4]
abbrev dktX7_of_0 : List UInt8 := dkwX7_of_0 ++ dktX7_of_1
theorem dksX7_of_0 : cX7_of.data.toList.drop 0 = dktX7_of_0 := by decide +kernel
theorem dksX7_of_1 : cX7_of.data.toList.drop 24 = dktX7_of_1 := dk_seg dksX7_of_0 24 rfl rfl
theorem dX7_of_0 : decode cX7_of 0 = .ok (.iconst 0, 1) := dk_3 (dk_at dksX7_of_0 0 rfl rfl)
theorem dX7_of_1 : decode cX7_of 1 = .ok (.istore_n 2, 1) := dk_61 (dk_at dksX7_of_0 1 rfl rfl)
theorem dX7_of_2 : decode cX7_of 2 = .ok (.iconst 0, 1) := dk_3 (dk_at dksX7_of_0 2 rfl rfl)
theorem dX7_of_3 : decode cX7_of 3 = .ok (.istore_n 3, 1) := dk_62 (dk_at dksX7_of_0 3 rfl rfl)
theorem dX7_of_4 : decode cX7_of 4 = .ok (.iload_n 3, 1) := dk_29 (dk_at dksX7_of_0 4 rfl rfl)
theorem dX7_of_5 : decode cX7_of 5 = .ok (.aload_n 0, 1) := dk_42 (dk_at dksX7_of_0 5 rfl rfl)
theorem dX7_of_6 : decode cX7_of 6 = .ok (.getfield 39, 3) := dk_180 0 39 (dk_at dksX7_of_0 6 rfl rfl)
theorem dX7_of_9 : decode cX7_of 9 = .ok (.if_icmp .ge 27, 3) := dk_162 0 27 (dk_at dksX7_of_0 9 rfl rfl)
theorem dX7_of_12 : decode cX7_of 12 = .ok (.iload_n 2, 1) := dk_28 (dk_at dksX7_of_0 12 rfl rfl)
theorem dX7_of_13 : decode cX7_of 13 = .ok (.aload_n 0, 1) := dk_42 (dk_at dksX7_of_0 13 rfl rfl)
theorem dX7_of_14 : decode cX7_of 14 = .ok (.getfield 15, 3) := dk_180 0 15 (dk_at dksX7_of_0 14 rfl rfl)
theorem dX7_of_17 : decode cX7_of 17 = .ok (.iload_n 3, 1) := dk_29 (dk_at dksX7_of_0 17 rfl rfl)
theorem dX7_of_18 : decode cX7_of 18 = .ok (.iaload, 1) := dk_46 (dk_at dksX7_of_0 18 rfl rfl)
theorem dX7_of_19 : decode cX7_of 19 = .ok (.iload_n 1, 1) := dk_27 (dk_at dksX7_of_0 19 rfl rfl)
theorem dX7_of_20 : decode cX7_of 20 = .ok (.if_icmp .ne 7, 3) := dk_160 0 7 (dk_at dksX7_of_0 20 rfl rfl)
theorem dX7_of_23 : decode cX7_of 23 = .ok (.iconst 1, 1) := dk_4 (dk_at dksX7_of_0 23 rfl rfl)
theorem dX7_of_24 : decode cX7_of 24 = .ok (.goto 4, 3) := dk_167 0 4 (dk_at dksX7_of_1 0 rfl rfl)
theorem dX7_of_27 : decode cX7_of 27 = .ok (.iconst 0, 1) := dk_3 (dk_at dksX7_of_1 3 rfl rfl)
theorem dX7_of_28 : decode cX7_of 28 = .ok (.iadd, 1) := dk_96 (dk_at dksX7_of_1 4 rfl rfl)
theorem dX7_of_29 : decode cX7_of 29 = .ok (.istore_n 2, 1) := dk_61 (dk_at dksX7_of_1 5 rfl rfl)
theorem dX7_of_30 : decode cX7_of 30 = .ok (.iinc 3 1, 3) := dk_132 3 1 (dk_at dksX7_of_1 6 rfl rfl)
theorem dX7_of_33 : decode cX7_of 33 = .ok (.goto (-29), 3) := dk_167 255 227 (dk_at dksX7_of_1 9 rfl rfl)
theorem dX7_of_36 : decode cX7_of 36 = .ok (.iload_n 2, 1) := dk_28 (dk_at dksX7_of_1 12 rfl rfl)
theorem dX7_of_37 : decode cX7_of 37 = .ok (.ireturn, 1) := dk_172 (dk_at dksX7_of_1 13 rfl rfl)
abbrev cX7_gain : ByteArray := prog_18_method_7_code
def yX7_gain : MethodName := ⟨RX7, "gain", "(I)V"⟩
def dkwX7_gain_1 : List UInt8 := [17, 3, 232, 42, 180, 0, 9, 28, 46, 27, 96, 184, 0, 93, 79, 132, 2, 1, 167, 255, 216, 177]
abbrev dktX7_gain_1 : List UInt8 := dkwX7_gain_1 ++ []
def dkwX7_gain_0 : List UInt8 := [3, 61, 28, 42, 180, 0, 39, 162, 0, 38, 42, 180, 0, 15, 28, 46, 154, 0, 23, 42, 180, 0, 9, 28]
abbrev dktX7_gain_0 : List UInt8 := dkwX7_gain_0 ++ dktX7_gain_1
theorem dksX7_gain_0 : cX7_gain.data.toList.drop 0 = dktX7_gain_0 := by decide +kernel
theorem dksX7_gain_1 : cX7_gain.data.toList.drop 24 = dktX7_gain_1 := dk_seg dksX7_gain_0 24 rfl rfl
theorem dX7_gain_0 : decode cX7_gain 0 = .ok (.iconst 0, 1) := dk_3 (dk_at dksX7_gain_0 0 rfl rfl)
theorem dX7_gain_1 : decode cX7_gain 1 = .ok (.istore_n 2, 1) := dk_61 (dk_at dksX7_gain_0 1 rfl rfl)
theorem dX7_gain_2 : decode cX7_gain 2 = .ok (.iload_n 2, 1) := dk_28 (dk_at dksX7_gain_0 2 rfl rfl)
theorem dX7_gain_3 : decode cX7_gain 3 = .ok (.aload_n 0, 1) := dk_42 (dk_at dksX7_gain_0 3 rfl rfl)
theorem dX7_gain_4 : decode cX7_gain 4 = .ok (.getfield 39, 3) := dk_180 0 39 (dk_at dksX7_gain_0 4 rfl rfl)
theorem dX7_gain_7 : decode cX7_gain 7 = .ok (.if_icmp .ge 38, 3) := dk_162 0 38 (dk_at dksX7_gain_0 7 rfl rfl)
theorem dX7_gain_10 : decode cX7_gain 10 = .ok (.aload_n 0, 1) := dk_42 (dk_at dksX7_gain_0 10 rfl rfl)
theorem dX7_gain_11 : decode cX7_gain 11 = .ok (.getfield 15, 3) := dk_180 0 15 (dk_at dksX7_gain_0 11 rfl rfl)
theorem dX7_gain_14 : decode cX7_gain 14 = .ok (.iload_n 2, 1) := dk_28 (dk_at dksX7_gain_0 14 rfl rfl)
theorem dX7_gain_15 : decode cX7_gain 15 = .ok (.iaload, 1) := dk_46 (dk_at dksX7_gain_0 15 rfl rfl)
theorem dX7_gain_16 : decode cX7_gain 16 = .ok (.ifCond .ne 23, 3) := dk_154 0 23 (dk_at dksX7_gain_0 16 rfl rfl)
theorem dX7_gain_19 : decode cX7_gain 19 = .ok (.aload_n 0, 1) := dk_42 (dk_at dksX7_gain_0 19 rfl rfl)
theorem dX7_gain_20 : decode cX7_gain 20 = .ok (.getfield 9, 3) := dk_180 0 9 (dk_at dksX7_gain_0 20 rfl rfl)
theorem dX7_gain_23 : decode cX7_gain 23 = .ok (.iload_n 2, 1) := dk_28 (dk_at dksX7_gain_0 23 rfl rfl)
theorem dX7_gain_24 : decode cX7_gain 24 = .ok (.sipush 1000, 3) := dk_17 3 232 (dk_at dksX7_gain_1 0 rfl rfl)
theorem dX7_gain_27 : decode cX7_gain 27 = .ok (.aload_n 0, 1) := dk_42 (dk_at dksX7_gain_1 3 rfl rfl)
theorem dX7_gain_28 : decode cX7_gain 28 = .ok (.getfield 9, 3) := dk_180 0 9 (dk_at dksX7_gain_1 4 rfl rfl)
theorem dX7_gain_31 : decode cX7_gain 31 = .ok (.iload_n 2, 1) := dk_28 (dk_at dksX7_gain_1 7 rfl rfl)
theorem dX7_gain_32 : decode cX7_gain 32 = .ok (.iaload, 1) := dk_46 (dk_at dksX7_gain_1 8 rfl rfl)
theorem dX7_gain_33 : decode cX7_gain 33 = .ok (.iload_n 1, 1) := dk_27 (dk_at dksX7_gain_1 9 rfl rfl)
theorem dX7_gain_34 : decode cX7_gain 34 = .ok (.iadd, 1) := dk_96 (dk_at dksX7_gain_1 10 rfl rfl)
theorem dX7_gain_35 : decode cX7_gain 35 = .ok (.invokestatic 93, 3) := dk_184 0 93 (dk_at dksX7_gain_1 11 rfl rfl)
theorem dX7_gain_38 : decode cX7_gain 38 = .ok (.iastore, 1) := dk_79 (dk_at dksX7_gain_1 14 rfl rfl)
theorem dX7_gain_39 : decode cX7_gain 39 = .ok (.iinc 2 1, 3) := dk_132 2 1 (dk_at dksX7_gain_1 15 rfl rfl)
theorem dX7_gain_42 : decode cX7_gain 42 = .ok (.goto (-40), 3) := dk_167 255 216 (dk_at dksX7_gain_1 18 rfl rfl)
theorem dX7_gain_45 : decode cX7_gain 45 = .ok (.return_, 1) := dk_177 (dk_at dksX7_gain_1 21 rfl rfl)
abbrev cX7_inGap : ByteArray := prog_18_method_8_code
def yX7_inGap : MethodName := ⟨RX7, "inGap", "(I)Z"⟩
def dkwX7_inGap_2 : List UInt8 := [167, 255, 215, 28, 172]
abbrev dktX7_inGap_2 : List UInt8 := dkwX7_inGap_2 ++ []
def dkwX7_inGap_1 : List UInt8 := [163, 0, 17, 27, 42, 180, 0, 36, 29, 46, 163, 0, 7, 4, 167, 0, 4, 3, 61, 132, 3, 1]
abbrev dktX7_inGap_1 : List UInt8 := dkwX7_inGap_1 ++ dktX7_inGap_2
def dkwX7_inGap_0 : List UInt8 := [3, 61, 3, 62, 29, 42, 180, 0, 82, 162, 0, 39, 28, 154, 0, 23, 42, 180, 0, 33, 29, 46, 27]
abbrev dktX7_inGap_0 : List UInt8 := dkwX7_inGap_0 ++ dktX7_inGap_1
theorem dksX7_inGap_0 : cX7_inGap.data.toList.drop 0 = dktX7_inGap_0 := by decide +kernel
theorem dksX7_inGap_1 : cX7_inGap.data.toList.drop 23 = dktX7_inGap_1 := dk_seg dksX7_inGap_0 23 rfl rfl
theorem dksX7_inGap_2 : cX7_inGap.data.toList.drop 45 = dktX7_inGap_2 := dk_seg dksX7_inGap_1 22 rfl rfl
theorem dX7_inGap_0 : decode cX7_inGap 0 = .ok (.iconst 0, 1) := dk_3 (dk_at dksX7_inGap_0 0 rfl rfl)
theorem dX7_inGap_1 : decode cX7_inGap 1 = .ok (.istore_n 2, 1) := dk_61 (dk_at dksX7_inGap_0 1 rfl rfl)
theorem dX7_inGap_2 : decode cX7_inGap 2 = .ok (.iconst 0, 1) := dk_3 (dk_at dksX7_inGap_0 2 rfl rfl)
theorem dX7_inGap_3 : decode cX7_inGap 3 = .ok (.istore_n 3, 1) := dk_62 (dk_at dksX7_inGap_0 3 rfl rfl)
theorem dX7_inGap_4 : decode cX7_inGap 4 = .ok (.iload_n 3, 1) := dk_29 (dk_at dksX7_inGap_0 4 rfl rfl)
theorem dX7_inGap_5 : decode cX7_inGap 5 = .ok (.aload_n 0, 1) := dk_42 (dk_at dksX7_inGap_0 5 rfl rfl)
theorem dX7_inGap_6 : decode cX7_inGap 6 = .ok (.getfield 82, 3) := dk_180 0 82 (dk_at dksX7_inGap_0 6 rfl rfl)
theorem dX7_inGap_9 : decode cX7_inGap 9 = .ok (.if_icmp .ge 39, 3) := dk_162 0 39 (dk_at dksX7_inGap_0 9 rfl rfl)
theorem dX7_inGap_12 : decode cX7_inGap 12 = .ok (.iload_n 2, 1) := dk_28 (dk_at dksX7_inGap_0 12 rfl rfl)
theorem dX7_inGap_13 : decode cX7_inGap 13 = .ok (.ifCond .ne 23, 3) := dk_154 0 23 (dk_at dksX7_inGap_0 13 rfl rfl)
theorem dX7_inGap_16 : decode cX7_inGap 16 = .ok (.aload_n 0, 1) := dk_42 (dk_at dksX7_inGap_0 16 rfl rfl)
theorem dX7_inGap_17 : decode cX7_inGap 17 = .ok (.getfield 33, 3) := dk_180 0 33 (dk_at dksX7_inGap_0 17 rfl rfl)
theorem dX7_inGap_20 : decode cX7_inGap 20 = .ok (.iload_n 3, 1) := dk_29 (dk_at dksX7_inGap_0 20 rfl rfl)
theorem dX7_inGap_21 : decode cX7_inGap 21 = .ok (.iaload, 1) := dk_46 (dk_at dksX7_inGap_0 21 rfl rfl)
theorem dX7_inGap_22 : decode cX7_inGap 22 = .ok (.iload_n 1, 1) := dk_27 (dk_at dksX7_inGap_0 22 rfl rfl)
theorem dX7_inGap_23 : decode cX7_inGap 23 = .ok (.if_icmp .gt 17, 3) := dk_163 0 17 (dk_at dksX7_inGap_1 0 rfl rfl)
theorem dX7_inGap_26 : decode cX7_inGap 26 = .ok (.iload_n 1, 1) := dk_27 (dk_at dksX7_inGap_1 3 rfl rfl)
theorem dX7_inGap_27 : decode cX7_inGap 27 = .ok (.aload_n 0, 1) := dk_42 (dk_at dksX7_inGap_1 4 rfl rfl)
theorem dX7_inGap_28 : decode cX7_inGap 28 = .ok (.getfield 36, 3) := dk_180 0 36 (dk_at dksX7_inGap_1 5 rfl rfl)
theorem dX7_inGap_31 : decode cX7_inGap 31 = .ok (.iload_n 3, 1) := dk_29 (dk_at dksX7_inGap_1 8 rfl rfl)
theorem dX7_inGap_32 : decode cX7_inGap 32 = .ok (.iaload, 1) := dk_46 (dk_at dksX7_inGap_1 9 rfl rfl)
theorem dX7_inGap_33 : decode cX7_inGap 33 = .ok (.if_icmp .gt 7, 3) := dk_163 0 7 (dk_at dksX7_inGap_1 10 rfl rfl)
theorem dX7_inGap_36 : decode cX7_inGap 36 = .ok (.iconst 1, 1) := dk_4 (dk_at dksX7_inGap_1 13 rfl rfl)
theorem dX7_inGap_37 : decode cX7_inGap 37 = .ok (.goto 4, 3) := dk_167 0 4 (dk_at dksX7_inGap_1 14 rfl rfl)
theorem dX7_inGap_40 : decode cX7_inGap 40 = .ok (.iconst 0, 1) := dk_3 (dk_at dksX7_inGap_1 17 rfl rfl)
theorem dX7_inGap_41 : decode cX7_inGap 41 = .ok (.istore_n 2, 1) := dk_61 (dk_at dksX7_inGap_1 18 rfl rfl)
theorem dX7_inGap_42 : decode cX7_inGap 42 = .ok (.iinc 3 1, 3) := dk_132 3 1 (dk_at dksX7_inGap_1 19 rfl rfl)
theorem dX7_inGap_45 : decode cX7_inGap 45 = .ok (.goto (-41), 3) := dk_167 255 215 (dk_at dksX7_inGap_2 0 rfl rfl)
theorem dX7_inGap_48 : decode cX7_inGap 48 = .ok (.iload_n 2, 1) := dk_28 (dk_at dksX7_inGap_2 3 rfl rfl)
theorem dX7_inGap_49 : decode cX7_inGap 49 = .ok (.ireturn, 1) := dk_172 (dk_at dksX7_inGap_2 4 rfl rfl)
theorem q62 : (Jvm.Cond.initialized "SledHouseModel$Team") ∈ lw_all := lw_g (lw_at lw_m1 11 rfl) rfl
theorem q1128 : (Jvm.Cond.instantiable "SledHouseModel$Team" (24 : Nat)) ∈ lw_all := lw_g (lw_at lw_m5 117 rfl) rfl
theorem q1130 : (Jvm.Cond.instanceMethod ({ cls := "SledHouseModel$Team", name := "<init>", desc := "()V" } : Jvm.MethodName)) ∈ lw_all := lw_g (lw_at lw_m5 119 rfl) rfl
theorem q1131 : (Jvm.Cond.code ({ cls := "SledHouseModel$Team", name := "<init>", desc := "()V" } : Jvm.MethodName) prog_18_method_1_code (1 : Nat) (Option.none : Option Jvm.ClassFile.FieldType)) ∈ lw_all := lw_g (lw_at lw_m5 120 rfl) rfl
theorem q1132 : (Jvm.Cond.methodLink "SledHouseModel$Team" (3 : Nat) ({ cls := "java/lang/Object", name := "<init>", desc := "()V" } : Jvm.MethodName)) ∈ lw_all := lw_g (lw_at lw_m5 121 rfl) rfl
theorem q1133 : (Jvm.Cond.fieldLink "SledHouseModel$Team" (39 : Nat) "SledHouseModel$Team" "dogs" "I") ∈ lw_all := lw_g (lw_at lw_m5 122 rfl) rfl
theorem q1135 : (Jvm.Cond.fieldLink "SledHouseModel$Team" (49 : Nat) "SledHouseModel$Team" "load" "I") ∈ lw_all := lw_g (lw_at lw_m5 124 rfl) rfl
theorem q1137 : (Jvm.Cond.fieldLink "SledHouseModel$Team" (52 : Nat) "SledHouseModel$Team" "meals" "I") ∈ lw_all := lw_g (lw_at lw_m5 126 rfl) rfl
theorem q1139 : (Jvm.Cond.fieldLink "SledHouseModel$Team" (55 : Nat) "SledHouseModel$Team" "start" "I") ∈ lw_all := lw_g (lw_at lw_m5 128 rfl) rfl
theorem q1141 : (Jvm.Cond.fieldLink "SledHouseModel$Team" (58 : Nat) "SledHouseModel$Team" "plan" "I") ∈ lw_all := lw_g (lw_at lw_m5 130 rfl) rfl
theorem q1143 : (Jvm.Cond.fieldLink "SledHouseModel$Team" (61 : Nat) "SledHouseModel$Team" "status" "I") ∈ lw_all := lw_g (lw_at lw_m5 132 rfl) rfl
theorem q1145 : (Jvm.Cond.fieldLink "SledHouseModel$Team" (64 : Nat) "SledHouseModel$Team" "leg" "I") ∈ lw_all := lw_g (lw_at lw_m5 134 rfl) rfl
theorem q1147 : (Jvm.Cond.fieldLink "SledHouseModel$Team" (67 : Nat) "SledHouseModel$Team" "far" "I") ∈ lw_all := lw_g (lw_at lw_m5 136 rfl) rfl
theorem q1149 : (Jvm.Cond.fieldLink "SledHouseModel$Team" (70 : Nat) "SledHouseModel$Team" "run" "I") ∈ lw_all := lw_g (lw_at lw_m5 138 rfl) rfl
theorem q1151 : (Jvm.Cond.fieldLink "SledHouseModel$Team" (73 : Nat) "SledHouseModel$Team" "rest" "I") ∈ lw_all := lw_g (lw_at lw_m5 140 rfl) rfl
theorem q1153 : (Jvm.Cond.fieldLink "SledHouseModel$Team" (76 : Nat) "SledHouseModel$Team" "did" "I") ∈ lw_all := lw_g (lw_at lw_m5 142 rfl) rfl
theorem q1155 : (Jvm.Cond.fieldLink "SledHouseModel$Team" (79 : Nat) "SledHouseModel$Team" "signs" "I") ∈ lw_all := lw_g (lw_at lw_m5 144 rfl) rfl
theorem q1157 : (Jvm.Cond.fieldLink "SledHouseModel$Team" (82 : Nat) "SledHouseModel$Team" "gaps" "I") ∈ lw_all := lw_g (lw_at lw_m5 146 rfl) rfl
theorem q1159 : (Jvm.Cond.fieldLink "SledHouseModel$Team" (43 : Nat) "SledHouseModel$Team" "ownLoad" "I") ∈ lw_all := lw_g (lw_at lw_m5 148 rfl) rfl
theorem q1161 : (Jvm.Cond.fieldLink "SledHouseModel$Team" (46 : Nat) "SledHouseModel$Team" "ownMeals" "I") ∈ lw_all := lw_g (lw_at lw_m5 150 rfl) rfl
theorem q1163 : (Jvm.Cond.fieldLink "SledHouseModel$Team" (9 : Nat) "SledHouseModel$Team" "strength" "[I") ∈ lw_all := lw_g (lw_at lw_m5 152 rfl) rfl
theorem q1165 : (Jvm.Cond.fieldLink "SledHouseModel$Team" (15 : Nat) "SledHouseModel$Team" "state" "[I") ∈ lw_all := lw_g (lw_at lw_m5 154 rfl) rfl
theorem q1167 : (Jvm.Cond.fieldLink "SledHouseModel$Team" (18 : Nat) "SledHouseModel$Team" "leftAt" "[I") ∈ lw_all := lw_g (lw_at lw_m5 156 rfl) rfl
theorem q1169 : (Jvm.Cond.fieldLink "SledHouseModel$Team" (21 : Nat) "SledHouseModel$Team" "came" "[I") ∈ lw_all := lw_g (lw_at lw_m5 158 rfl) rfl
theorem q1171 : (Jvm.Cond.fieldLink "SledHouseModel$Team" (24 : Nat) "SledHouseModel$Team" "went" "[I") ∈ lw_all := lw_g (lw_at lw_m5 160 rfl) rfl
theorem q1173 : (Jvm.Cond.fieldLink "SledHouseModel$Team" (27 : Nat) "SledHouseModel$Team" "signStep" "[I") ∈ lw_all := lw_g (lw_at lw_m5 162 rfl) rfl
theorem q1175 : (Jvm.Cond.fieldLink "SledHouseModel$Team" (30 : Nat) "SledHouseModel$Team" "signWay" "[I") ∈ lw_all := lw_g (lw_at lw_m5 164 rfl) rfl
theorem q1177 : (Jvm.Cond.fieldLink "SledHouseModel$Team" (33 : Nat) "SledHouseModel$Team" "gapFrom" "[I") ∈ lw_all := lw_g (lw_at lw_m5 166 rfl) rfl
theorem q1179 : (Jvm.Cond.fieldLink "SledHouseModel$Team" (36 : Nat) "SledHouseModel$Team" "gapTo" "[I") ∈ lw_all := lw_g (lw_at lw_m5 168 rfl) rfl
theorem q1181 : (Jvm.Cond.lays "SledHouseModel$Team" "SledHouseModel$Team" "dogs" "I") ∈ lw_all := lw_g (lw_at lw_m5 170 rfl) rfl
theorem q1182 : (Jvm.Cond.soleField "SledHouseModel$Team" "dogs") ∈ lw_all := lw_g (lw_at lw_m5 171 rfl) rfl
theorem q1183 : (Jvm.Cond.lays "SledHouseModel$Team" "SledHouseModel$Team" "load" "I") ∈ lw_all := lw_g (lw_at lw_m5 172 rfl) rfl
theorem q1184 : (Jvm.Cond.soleField "SledHouseModel$Team" "load") ∈ lw_all := lw_g (lw_at lw_m5 173 rfl) rfl
theorem q1185 : (Jvm.Cond.lays "SledHouseModel$Team" "SledHouseModel$Team" "meals" "I") ∈ lw_all := lw_g (lw_at lw_m5 174 rfl) rfl
theorem q1186 : (Jvm.Cond.soleField "SledHouseModel$Team" "meals") ∈ lw_all := lw_g (lw_at lw_m5 175 rfl) rfl
theorem q1187 : (Jvm.Cond.lays "SledHouseModel$Team" "SledHouseModel$Team" "start" "I") ∈ lw_all := lw_g (lw_at lw_m5 176 rfl) rfl
theorem q1188 : (Jvm.Cond.soleField "SledHouseModel$Team" "start") ∈ lw_all := lw_g (lw_at lw_m5 177 rfl) rfl
theorem q1189 : (Jvm.Cond.lays "SledHouseModel$Team" "SledHouseModel$Team" "plan" "I") ∈ lw_all := lw_g (lw_at lw_m5 178 rfl) rfl
theorem q1190 : (Jvm.Cond.soleField "SledHouseModel$Team" "plan") ∈ lw_all := lw_g (lw_at lw_m5 179 rfl) rfl
theorem q1191 : (Jvm.Cond.lays "SledHouseModel$Team" "SledHouseModel$Team" "status" "I") ∈ lw_all := lw_g (lw_at lw_m5 180 rfl) rfl
theorem q1192 : (Jvm.Cond.soleField "SledHouseModel$Team" "status") ∈ lw_all := lw_g (lw_at lw_m5 181 rfl) rfl
theorem q1193 : (Jvm.Cond.lays "SledHouseModel$Team" "SledHouseModel$Team" "leg" "I") ∈ lw_all := lw_g (lw_at lw_m5 182 rfl) rfl
theorem q1194 : (Jvm.Cond.soleField "SledHouseModel$Team" "leg") ∈ lw_all := lw_g (lw_at lw_m5 183 rfl) rfl
theorem q1195 : (Jvm.Cond.lays "SledHouseModel$Team" "SledHouseModel$Team" "far" "I") ∈ lw_all := lw_g (lw_at lw_m5 184 rfl) rfl
theorem q1196 : (Jvm.Cond.soleField "SledHouseModel$Team" "far") ∈ lw_all := lw_g (lw_at lw_m5 185 rfl) rfl
theorem q1197 : (Jvm.Cond.lays "SledHouseModel$Team" "SledHouseModel$Team" "run" "I") ∈ lw_all := lw_g (lw_at lw_m5 186 rfl) rfl
theorem q1198 : (Jvm.Cond.soleField "SledHouseModel$Team" "run") ∈ lw_all := lw_g (lw_at lw_m5 187 rfl) rfl
theorem q1199 : (Jvm.Cond.lays "SledHouseModel$Team" "SledHouseModel$Team" "rest" "I") ∈ lw_all := lw_g (lw_at lw_m5 188 rfl) rfl
theorem q1200 : (Jvm.Cond.soleField "SledHouseModel$Team" "rest") ∈ lw_all := lw_g (lw_at lw_m5 189 rfl) rfl
theorem q1201 : (Jvm.Cond.lays "SledHouseModel$Team" "SledHouseModel$Team" "did" "I") ∈ lw_all := lw_g (lw_at lw_m5 190 rfl) rfl
theorem q1202 : (Jvm.Cond.soleField "SledHouseModel$Team" "did") ∈ lw_all := lw_g (lw_at lw_m5 191 rfl) rfl
theorem q1203 : (Jvm.Cond.lays "SledHouseModel$Team" "SledHouseModel$Team" "signs" "I") ∈ lw_all := lw_g (lw_at lw_m5 192 rfl) rfl
theorem q1204 : (Jvm.Cond.soleField "SledHouseModel$Team" "signs") ∈ lw_all := lw_g (lw_at lw_m5 193 rfl) rfl
theorem q1205 : (Jvm.Cond.lays "SledHouseModel$Team" "SledHouseModel$Team" "gaps" "I") ∈ lw_all := lw_g (lw_at lw_m5 194 rfl) rfl
theorem q1206 : (Jvm.Cond.soleField "SledHouseModel$Team" "gaps") ∈ lw_all := lw_g (lw_at lw_m5 195 rfl) rfl
theorem q1207 : (Jvm.Cond.lays "SledHouseModel$Team" "SledHouseModel$Team" "ownLoad" "I") ∈ lw_all := lw_g (lw_at lw_m5 196 rfl) rfl
theorem q1208 : (Jvm.Cond.soleField "SledHouseModel$Team" "ownLoad") ∈ lw_all := lw_g (lw_at lw_m5 197 rfl) rfl
theorem q1209 : (Jvm.Cond.lays "SledHouseModel$Team" "SledHouseModel$Team" "ownMeals" "I") ∈ lw_all := lw_g (lw_at lw_m5 198 rfl) rfl
theorem q1210 : (Jvm.Cond.soleField "SledHouseModel$Team" "ownMeals") ∈ lw_all := lw_g (lw_at lw_m5 199 rfl) rfl
theorem q1211 : (Jvm.Cond.laysFinal "SledHouseModel$Team" "SledHouseModel$Team" "strength" "[I") ∈ lw_all := lw_g (lw_at lw_m5 200 rfl) rfl
theorem q1212 : (Jvm.Cond.soleField "SledHouseModel$Team" "strength") ∈ lw_all := lw_g (lw_at lw_m5 201 rfl) rfl
theorem q1213 : (Jvm.Cond.laysFinal "SledHouseModel$Team" "SledHouseModel$Team" "state" "[I") ∈ lw_all := lw_g (lw_at lw_m5 202 rfl) rfl
theorem q1214 : (Jvm.Cond.soleField "SledHouseModel$Team" "state") ∈ lw_all := lw_g (lw_at lw_m5 203 rfl) rfl
theorem q1215 : (Jvm.Cond.laysFinal "SledHouseModel$Team" "SledHouseModel$Team" "leftAt" "[I") ∈ lw_all := lw_g (lw_at lw_m5 204 rfl) rfl
theorem q1216 : (Jvm.Cond.soleField "SledHouseModel$Team" "leftAt") ∈ lw_all := lw_g (lw_at lw_m5 205 rfl) rfl
theorem q1217 : (Jvm.Cond.laysFinal "SledHouseModel$Team" "SledHouseModel$Team" "came" "[I") ∈ lw_all := lw_g (lw_at lw_m5 206 rfl) rfl
theorem q1218 : (Jvm.Cond.soleField "SledHouseModel$Team" "came") ∈ lw_all := lw_g (lw_at lw_m5 207 rfl) rfl
theorem q1219 : (Jvm.Cond.laysFinal "SledHouseModel$Team" "SledHouseModel$Team" "went" "[I") ∈ lw_all := lw_g (lw_at lw_m5 208 rfl) rfl
theorem q1220 : (Jvm.Cond.soleField "SledHouseModel$Team" "went") ∈ lw_all := lw_g (lw_at lw_m5 209 rfl) rfl
theorem q1221 : (Jvm.Cond.laysFinal "SledHouseModel$Team" "SledHouseModel$Team" "signStep" "[I") ∈ lw_all := lw_g (lw_at lw_m5 210 rfl) rfl
theorem q1222 : (Jvm.Cond.soleField "SledHouseModel$Team" "signStep") ∈ lw_all := lw_g (lw_at lw_m5 211 rfl) rfl
theorem q1223 : (Jvm.Cond.laysFinal "SledHouseModel$Team" "SledHouseModel$Team" "signWay" "[I") ∈ lw_all := lw_g (lw_at lw_m5 212 rfl) rfl
theorem q1224 : (Jvm.Cond.soleField "SledHouseModel$Team" "signWay") ∈ lw_all := lw_g (lw_at lw_m5 213 rfl) rfl
theorem q1225 : (Jvm.Cond.laysFinal "SledHouseModel$Team" "SledHouseModel$Team" "gapFrom" "[I") ∈ lw_all := lw_g (lw_at lw_m5 214 rfl) rfl
theorem q1226 : (Jvm.Cond.soleField "SledHouseModel$Team" "gapFrom") ∈ lw_all := lw_g (lw_at lw_m5 215 rfl) rfl
theorem q1227 : (Jvm.Cond.laysFinal "SledHouseModel$Team" "SledHouseModel$Team" "gapTo" "[I") ∈ lw_all := lw_g (lw_at lw_m5 216 rfl) rfl
theorem q1228 : (Jvm.Cond.soleField "SledHouseModel$Team" "gapTo") ∈ lw_all := lw_g (lw_at lw_m5 217 rfl) rfl
theorem q1229 : (Jvm.Cond.superclass "SledHouseModel$Team" "java/lang/Object") ∈ lw_all := lw_g (lw_at lw_m5 218 rfl) rfl
theorem q1378 : (Jvm.Cond.instanceMethod ({ cls := "SledHouseModel$Team", name := "become", desc := "(LSledHouseModel$Team;)V" } : Jvm.MethodName)) ∈ lw_all := lw_g (lw_at lw_m6 127 rfl) rfl
theorem q1379 : (Jvm.Cond.selects "SledHouseModel$Team" ({ cls := "SledHouseModel$Team", name := "become", desc := "(LSledHouseModel$Team;)V" } : Jvm.MethodName) ({ cls := "SledHouseModel$Team", name := "become", desc := "(LSledHouseModel$Team;)V" } : Jvm.MethodName)) ∈ lw_all := lw_g (lw_at lw_m6 128 rfl) rfl
theorem q1380 : (Jvm.Cond.code ({ cls := "SledHouseModel$Team", name := "become", desc := "(LSledHouseModel$Team;)V" } : Jvm.MethodName) prog_18_method_3_code (3 : Nat) (Option.none : Option Jvm.ClassFile.FieldType)) ∈ lw_all := lw_g (lw_at lw_m6 129 rfl) rfl
theorem q1381 : (Jvm.Cond.methodLink "SledHouseModel$Team" (85 : Nat) ({ cls := "SledHouseModel$Team", name := "begin", desc := "(IIIII)V" } : Jvm.MethodName)) ∈ lw_all := lw_g (lw_at lw_m6 130 rfl) rfl
theorem q1382 : (Jvm.Cond.instanceMethod ({ cls := "SledHouseModel$Team", name := "begin", desc := "(IIIII)V" } : Jvm.MethodName)) ∈ lw_all := lw_g (lw_at lw_m6 131 rfl) rfl
theorem q1383 : (Jvm.Cond.selects "SledHouseModel$Team" ({ cls := "SledHouseModel$Team", name := "begin", desc := "(IIIII)V" } : Jvm.MethodName) ({ cls := "SledHouseModel$Team", name := "begin", desc := "(IIIII)V" } : Jvm.MethodName)) ∈ lw_all := lw_g (lw_at lw_m6 132 rfl) rfl
theorem q1384 : (Jvm.Cond.code ({ cls := "SledHouseModel$Team", name := "begin", desc := "(IIIII)V" } : Jvm.MethodName) prog_18_method_2_code (7 : Nat) (Option.none : Option Jvm.ClassFile.FieldType)) ∈ lw_all := lw_g (lw_at lw_m6 133 rfl) rfl
theorem q1606 : (Jvm.Cond.instanceMethod ({ cls := "SledHouseModel$Team", name := "weakest", desc := "()I" } : Jvm.MethodName)) ∈ lw_all := lw_g (lw_at lw_m7 115 rfl) rfl
theorem q1607 : (Jvm.Cond.selects "SledHouseModel$Team" ({ cls := "SledHouseModel$Team", name := "weakest", desc := "()I" } : Jvm.MethodName) ({ cls := "SledHouseModel$Team", name := "weakest", desc := "()I" } : Jvm.MethodName)) ∈ lw_all := lw_g (lw_at lw_m7 116 rfl) rfl
theorem q1608 : (Jvm.Cond.code ({ cls := "SledHouseModel$Team", name := "weakest", desc := "()I" } : Jvm.MethodName) prog_18_method_5_code (3 : Nat) (Option.some Jvm.ClassFile.FieldType.int)) ∈ lw_all := lw_g (lw_at lw_m7 117 rfl) rfl
theorem q1610 : (Jvm.Cond.instanceMethod ({ cls := "SledHouseModel$Team", name := "mean", desc := "()I" } : Jvm.MethodName)) ∈ lw_all := lw_g (lw_at lw_m7 119 rfl) rfl
theorem q1611 : (Jvm.Cond.selects "SledHouseModel$Team" ({ cls := "SledHouseModel$Team", name := "mean", desc := "()I" } : Jvm.MethodName) ({ cls := "SledHouseModel$Team", name := "mean", desc := "()I" } : Jvm.MethodName)) ∈ lw_all := lw_g (lw_at lw_m7 120 rfl) rfl
theorem q1612 : (Jvm.Cond.code ({ cls := "SledHouseModel$Team", name := "mean", desc := "()I" } : Jvm.MethodName) prog_18_method_6_code (3 : Nat) (Option.some Jvm.ClassFile.FieldType.int)) ∈ lw_all := lw_g (lw_at lw_m7 121 rfl) rfl
theorem q1613 : (Jvm.Cond.methodLink "SledHouseModel$Team" (89 : Nat) ({ cls := "SledHouseModel$Team", name := "of", desc := "(I)I" } : Jvm.MethodName)) ∈ lw_all := lw_g (lw_at lw_m7 122 rfl) rfl
theorem q1614 : (Jvm.Cond.instanceMethod ({ cls := "SledHouseModel$Team", name := "of", desc := "(I)I" } : Jvm.MethodName)) ∈ lw_all := lw_g (lw_at lw_m7 123 rfl) rfl
theorem q1615 : (Jvm.Cond.selects "SledHouseModel$Team" ({ cls := "SledHouseModel$Team", name := "of", desc := "(I)I" } : Jvm.MethodName) ({ cls := "SledHouseModel$Team", name := "of", desc := "(I)I" } : Jvm.MethodName)) ∈ lw_all := lw_g (lw_at lw_m7 124 rfl) rfl
theorem q1616 : (Jvm.Cond.code ({ cls := "SledHouseModel$Team", name := "of", desc := "(I)I" } : Jvm.MethodName) prog_18_method_4_code (4 : Nat) (Option.some Jvm.ClassFile.FieldType.int)) ∈ lw_all := lw_g (lw_at lw_m7 125 rfl) rfl
theorem q1624 : (Jvm.Cond.instanceMethod ({ cls := "SledHouseModel$Team", name := "gain", desc := "(I)V" } : Jvm.MethodName)) ∈ lw_all := lw_g (lw_at lw_m7 133 rfl) rfl
theorem q1625 : (Jvm.Cond.selects "SledHouseModel$Team" ({ cls := "SledHouseModel$Team", name := "gain", desc := "(I)V" } : Jvm.MethodName) ({ cls := "SledHouseModel$Team", name := "gain", desc := "(I)V" } : Jvm.MethodName)) ∈ lw_all := lw_g (lw_at lw_m7 134 rfl) rfl
theorem q1626 : (Jvm.Cond.code ({ cls := "SledHouseModel$Team", name := "gain", desc := "(I)V" } : Jvm.MethodName) prog_18_method_7_code (3 : Nat) (Option.none : Option Jvm.ClassFile.FieldType)) ∈ lw_all := lw_g (lw_at lw_m7 135 rfl) rfl
theorem q1627 : (Jvm.Cond.methodLink "SledHouseModel$Team" (93 : Nat) ({ cls := "java/lang/Math", name := "min", desc := "(II)I" } : Jvm.MethodName)) ∈ lw_all := lw_g (lw_at lw_m7 136 rfl) rfl
theorem q1629 : (Jvm.Cond.instanceMethod ({ cls := "SledHouseModel$Team", name := "inGap", desc := "(I)Z" } : Jvm.MethodName)) ∈ lw_all := lw_g (lw_at lw_m7 138 rfl) rfl
theorem q1630 : (Jvm.Cond.selects "SledHouseModel$Team" ({ cls := "SledHouseModel$Team", name := "inGap", desc := "(I)Z" } : Jvm.MethodName) ({ cls := "SledHouseModel$Team", name := "inGap", desc := "(I)Z" } : Jvm.MethodName)) ∈ lw_all := lw_g (lw_at lw_m7 139 rfl) rfl
theorem q1631 : (Jvm.Cond.code ({ cls := "SledHouseModel$Team", name := "inGap", desc := "(I)Z" } : Jvm.MethodName) prog_18_method_8_code (4 : Nat) (Option.some Jvm.ClassFile.FieldType.boolean)) ∈ lw_all := lw_g (lw_at lw_m7 140 rfl) rfl
theorem in_X7 : ∀ w ∈ wsX70, w ∈ lw_all := lw_in wsX70 [1181, 1183, 1185, 1187, 1189, 1191, 1193, 1195, 1197, 1199, 1201, 1203, 1205, 1207, 1209, 1211, 1213, 1215, 1217, 1219, 1221, 1223, 1225, 1227] (by decide +kernel) (by decide +kernel)

/-! SledHouseModel$Stop -/
set_option maxRecDepth 100000
def RX8 : String := "SledHouseModel$Stop"
def TX8 : u_T := fun k => match k with
  | 0 => ("java/lang/Throwable", "cause", "Ljava/lang/Throwable;", false)
  | 1 => ("java/lang/Throwable", "stackTrace", "[Ljava/lang/StackTraceElement;", false)
  | 2 => ("java/lang/Throwable", "suppressedExceptions", "Ljava/util/List;", false)
  | 3 => ("java/lang/Throwable", "detailMessage", "Ljava/lang/String;", false)
  | 4 => ("java/lang/Throwable", "backtrace", "Ljava/lang/Object;", false)
  | 5 => ("java/lang/Throwable", "depth", "I", false)
  | 6 => ("SledHouseModel$Stop", "kind", "I", false)
  | _ => ("SledHouseModel$Stop", "place", "I", false)
def tyX8 : Nat → FieldType := fun k => match k with
  | 0 => .object "java/lang/Throwable"
  | 1 => .array (.object "java/lang/StackTraceElement")
  | 2 => .object "java/util/List"
  | 3 => .object "java/lang/String"
  | 4 => .object "java/lang/Object"
  | 5 => .int
  | 6 => .int
  | _ => .int
abbrev wsX80 : List Cond := u_ws RX8 TX8 8
theorem nmX8 : ∀ a, a < 8 → ∀ b, b < 8 → a ≠ b → (TX8 a).2.1 ≠ (TX8 b).2.1 := by decide +kernel
theorem tyX8_ok : ∀ k, k < 8 → parseFieldDescriptor (TX8 k).2.2.1 = some (tyX8 k) := by decide +kernel
abbrev cX8_init : ByteArray := prog_17_method_1_code
def yX8_init : MethodName := ⟨RX8, "<init>", "()V"⟩
def dkwX8_init_0 : List UInt8 := [42, 1, 1, 3, 3, 183, 0, 1, 177]
abbrev dktX8_init_0 : List UInt8 := dkwX8_init_0 ++ []
theorem dksX8_init_0 : cX8_init.data.toList.drop 0 = dktX8_init_0 := by decide +kernel
theorem dX8_init_0 : decode cX8_init 0 = .ok (.aload_n 0, 1) := dk_42 (dk_at dksX8_init_0 0 rfl rfl)
theorem dX8_init_1 : decode cX8_init 1 = .ok (.aconst_null, 1) := dk_1 (dk_at dksX8_init_0 1 rfl rfl)
theorem dX8_init_2 : decode cX8_init 2 = .ok (.aconst_null, 1) := dk_1 (dk_at dksX8_init_0 2 rfl rfl)
theorem dX8_init_3 : decode cX8_init 3 = .ok (.iconst 0, 1) := dk_3 (dk_at dksX8_init_0 3 rfl rfl)
theorem dX8_init_4 : decode cX8_init 4 = .ok (.iconst 0, 1) := dk_3 (dk_at dksX8_init_0 4 rfl rfl)
theorem dX8_init_5 : decode cX8_init 5 = .ok (.invokespecial 1, 3) := dk_183 0 1 (dk_at dksX8_init_0 5 rfl rfl)
theorem dX8_init_8 : decode cX8_init 8 = .ok (.return_, 1) := dk_177 (dk_at dksX8_init_0 8 rfl rfl)
theorem q63 : (Jvm.Cond.initialized "SledHouseModel$Stop") ∈ lw_all := lw_g (lw_at lw_m1 12 rfl) rfl
theorem q126 : (Jvm.Cond.selects "SledHouseModel$Stop" ({ cls := "java/lang/Throwable", name := "fillInStackTrace", desc := "()Ljava/lang/Throwable;" } : Jvm.MethodName) ({ cls := "java/lang/Throwable", name := "fillInStackTrace", desc := "()Ljava/lang/Throwable;" } : Jvm.MethodName)) ∈ lw_all := lw_g (lw_at lw_m1 75 rfl) rfl
theorem q1231 : (Jvm.Cond.instantiable "SledHouseModel$Stop" (8 : Nat)) ∈ lw_all := lw_g (lw_at lw_m5 220 rfl) rfl
theorem q1232 : (Jvm.Cond.castable "SledHouseModel$Stop" "SledHouseModel$Stop") ∈ lw_tbl := lw_at lw_m5 221 rfl
theorem q1233 : (Jvm.Cond.selects "SledHouseModel$Stop" ({ cls := "java/lang/Throwable", name := "fillInStackTrace", desc := "(I)Ljava/lang/Throwable;" } : Jvm.MethodName) ({ cls := "java/lang/Throwable", name := "fillInStackTrace", desc := "(I)Ljava/lang/Throwable;" } : Jvm.MethodName)) ∈ lw_all := lw_g (lw_at lw_m5 222 rfl) rfl
theorem q1234 : (Jvm.Cond.lays "SledHouseModel$Stop" "java/lang/Throwable" "cause" "Ljava/lang/Throwable;") ∈ lw_all := lw_g (lw_at lw_m5 223 rfl) rfl
theorem q1235 : (Jvm.Cond.lays "SledHouseModel$Stop" "java/lang/Throwable" "stackTrace" "[Ljava/lang/StackTraceElement;") ∈ lw_all := lw_g (lw_at lw_m5 224 rfl) rfl
theorem q1236 : (Jvm.Cond.lays "SledHouseModel$Stop" "java/lang/Throwable" "suppressedExceptions" "Ljava/util/List;") ∈ lw_all := lw_g (lw_at lw_m5 225 rfl) rfl
theorem q1237 : (Jvm.Cond.lays "SledHouseModel$Stop" "java/lang/Throwable" "detailMessage" "Ljava/lang/String;") ∈ lw_all := lw_g (lw_at lw_m5 226 rfl) rfl
theorem q1238 : (Jvm.Cond.lays "SledHouseModel$Stop" "java/lang/Throwable" "backtrace" "Ljava/lang/Object;") ∈ lw_all := lw_g (lw_at lw_m5 227 rfl) rfl
theorem q1240 : (Jvm.Cond.instanceMethod ({ cls := "SledHouseModel$Stop", name := "<init>", desc := "()V" } : Jvm.MethodName)) ∈ lw_all := lw_g (lw_at lw_m5 229 rfl) rfl
theorem q1241 : (Jvm.Cond.code ({ cls := "SledHouseModel$Stop", name := "<init>", desc := "()V" } : Jvm.MethodName) prog_17_method_1_code (1 : Nat) (Option.none : Option Jvm.ClassFile.FieldType)) ∈ lw_all := lw_g (lw_at lw_m5 230 rfl) rfl
theorem q1242 : (Jvm.Cond.methodLink "SledHouseModel$Stop" (1 : Nat) ({ cls := "java/lang/RuntimeException", name := "<init>", desc := "(Ljava/lang/String;Ljava/lang/Throwable;ZZ)V" } : Jvm.MethodName)) ∈ lw_all := lw_g (lw_at lw_m5 231 rfl) rfl
theorem q1245 : (Jvm.Cond.lays "SledHouseModel$Stop" "SledHouseModel$Stop" "kind" "I") ∈ lw_all := lw_g (lw_at lw_m5 234 rfl) rfl
theorem q1246 : (Jvm.Cond.soleField "SledHouseModel$Stop" "kind") ∈ lw_all := lw_g (lw_at lw_m5 235 rfl) rfl
theorem q1247 : (Jvm.Cond.lays "SledHouseModel$Stop" "SledHouseModel$Stop" "place" "I") ∈ lw_all := lw_g (lw_at lw_m5 236 rfl) rfl
theorem q1248 : (Jvm.Cond.soleField "SledHouseModel$Stop" "place") ∈ lw_all := lw_g (lw_at lw_m5 237 rfl) rfl
theorem q1249 : (Jvm.Cond.lays "SledHouseModel$Stop" "java/lang/Throwable" "depth" "I") ∈ lw_all := lw_g (lw_at lw_m5 238 rfl) rfl
theorem q1250 : (Jvm.Cond.superclass "SledHouseModel$Stop" "java/lang/RuntimeException") ∈ lw_all := lw_g (lw_at lw_m5 239 rfl) rfl
theorem in_X8 : ∀ w ∈ wsX80, w ∈ lw_all := lw_in wsX80 [1234, 1235, 1236, 1237, 1238, 1249, 1245, 1247] (by decide +kernel) (by decide +kernel)

/-! SledHouse$Plan -/
set_option maxRecDepth 100000
def RX9 : String := "SledHouse$Plan"
def TX9 : u_T := fun k => match k with
  | 0 => ("SledHouse$Plan", "rules", "[LSledHouse$Rule;", true)
  | _ => ("SledHouse$Plan", "many", "I", false)
def tyX9 : Nat → FieldType := fun k => match k with
  | 0 => .array (.object "SledHouse$Rule")
  | _ => .int
abbrev wsX90 : List Cond := u_ws RX9 TX9 2
theorem nmX9 : ∀ a, a < 2 → ∀ b, b < 2 → a ≠ b → (TX9 a).2.1 ≠ (TX9 b).2.1 := by decide +kernel
theorem tyX9_ok : ∀ k, k < 2 → parseFieldDescriptor (TX9 k).2.2.1 = some (tyX9 k) := by decide +kernel
abbrev cX9_init : ByteArray := prog_6_method_1_code
def yX9_init : MethodName := ⟨RX9, "<init>", "()V"⟩
def dkwX9_init_0 : List UInt8 := [42, 183, 0, 3, 42, 16, 12, 189, 0, 9, 181, 0, 11, 177]
abbrev dktX9_init_0 : List UInt8 := dkwX9_init_0 ++ []
theorem dksX9_init_0 : cX9_init.data.toList.drop 0 = dktX9_init_0 := by decide +kernel
theorem dX9_init_0 : decode cX9_init 0 = .ok (.aload_n 0, 1) := dk_42 (dk_at dksX9_init_0 0 rfl rfl)
theorem dX9_init_1 : decode cX9_init 1 = .ok (.invokespecial 3, 3) := dk_183 0 3 (dk_at dksX9_init_0 1 rfl rfl)
theorem dX9_init_4 : decode cX9_init 4 = .ok (.aload_n 0, 1) := dk_42 (dk_at dksX9_init_0 4 rfl rfl)
theorem dX9_init_5 : decode cX9_init 5 = .ok (.bipush 12, 2) := dk_16 12 (dk_at dksX9_init_0 5 rfl rfl)
theorem dX9_init_7 : decode cX9_init 7 = .ok (.anewarray 9, 3) := dk_189 0 9 (dk_at dksX9_init_0 7 rfl rfl)
theorem dX9_init_10 : decode cX9_init 10 = .ok (.putfield 11, 3) := dk_181 0 11 (dk_at dksX9_init_0 10 rfl rfl)
theorem dX9_init_13 : decode cX9_init 13 = .ok (.return_, 1) := dk_177 (dk_at dksX9_init_0 13 rfl rfl)
abbrev cX9_read : ByteArray := prog_6_method_2_code
def yX9_read : MethodName := ⟨RX9, "read", "(LSledHouse$Reader;)V"⟩
def dkwX9_read_4 : List UInt8 := [182, 0, 49, 61, 167, 255, 165, 43, 182, 0, 53, 177]
abbrev dktX9_read_4 : List UInt8 := dkwX9_read_4 ++ []
def dkwX9_read_3 : List UInt8 := [180, 0, 11, 42, 180, 0, 17, 45, 83, 42, 89, 180, 0, 17, 4, 96, 181, 0, 17, 43, 16, 59]
abbrev dktX9_read_3 : List UInt8 := dkwX9_read_3 ++ dktX9_read_4
def dkwX9_read_2 : List UInt8 := [167, 0, 4, 4, 182, 0, 40, 191, 187, 0, 9, 89, 183, 0, 44, 78, 45, 43, 182, 0, 45, 42]
abbrev dktX9_read_2 : List UInt8 := dkwX9_read_2 ++ dktX9_read_3
def dkwX9_read_1 : List UInt8 := [154, 0, 22, 43, 180, 0, 29, 5, 160, 0, 18, 43, 180, 0, 32, 184, 0, 36, 2, 159, 0, 7, 6]
abbrev dktX9_read_1 : List UInt8 := dkwX9_read_1 ++ dktX9_read_2
def dkwX9_read_0 : List UInt8 := [4, 61, 28, 153, 0, 93, 42, 180, 0, 17, 16, 12, 160, 0, 41, 43, 43, 18, 21, 182, 0, 23]
abbrev dktX9_read_0 : List UInt8 := dkwX9_read_0 ++ dktX9_read_1
theorem dksX9_read_0 : cX9_read.data.toList.drop 0 = dktX9_read_0 := by decide +kernel
theorem dksX9_read_1 : cX9_read.data.toList.drop 22 = dktX9_read_1 := dk_seg dksX9_read_0 22 rfl rfl
theorem dksX9_read_2 : cX9_read.data.toList.drop 45 = dktX9_read_2 := dk_seg dksX9_read_1 23 rfl rfl
theorem dksX9_read_3 : cX9_read.data.toList.drop 67 = dktX9_read_3 := dk_seg dksX9_read_2 22 rfl rfl
theorem dksX9_read_4 : cX9_read.data.toList.drop 89 = dktX9_read_4 := dk_seg dksX9_read_3 22 rfl rfl
theorem dX9_read_0 : decode cX9_read 0 = .ok (.iconst 1, 1) := dk_4 (dk_at dksX9_read_0 0 rfl rfl)
theorem dX9_read_1 : decode cX9_read 1 = .ok (.istore_n 2, 1) := dk_61 (dk_at dksX9_read_0 1 rfl rfl)
theorem dX9_read_2 : decode cX9_read 2 = .ok (.iload_n 2, 1) := dk_28 (dk_at dksX9_read_0 2 rfl rfl)
theorem dX9_read_3 : decode cX9_read 3 = .ok (.ifCond .eq 93, 3) := dk_153 0 93 (dk_at dksX9_read_0 3 rfl rfl)
theorem dX9_read_6 : decode cX9_read 6 = .ok (.aload_n 0, 1) := dk_42 (dk_at dksX9_read_0 6 rfl rfl)
theorem dX9_read_7 : decode cX9_read 7 = .ok (.getfield 17, 3) := dk_180 0 17 (dk_at dksX9_read_0 7 rfl rfl)
theorem dX9_read_10 : decode cX9_read 10 = .ok (.bipush 12, 2) := dk_16 12 (dk_at dksX9_read_0 10 rfl rfl)
theorem dX9_read_12 : decode cX9_read 12 = .ok (.if_icmp .ne 41, 3) := dk_160 0 41 (dk_at dksX9_read_0 12 rfl rfl)
theorem dX9_read_15 : decode cX9_read 15 = .ok (.aload_n 1, 1) := dk_43 (dk_at dksX9_read_0 15 rfl rfl)
theorem dX9_read_16 : decode cX9_read 16 = .ok (.aload_n 1, 1) := dk_43 (dk_at dksX9_read_0 16 rfl rfl)
theorem dX9_read_17 : decode cX9_read 17 = .ok (.ldc 21, 2) := dk_18 21 (dk_at dksX9_read_0 17 rfl rfl)
theorem dX9_read_19 : decode cX9_read 19 = .ok (.invokevirtual 23, 3) := dk_182 0 23 (dk_at dksX9_read_0 19 rfl rfl)
theorem dX9_read_22 : decode cX9_read 22 = .ok (.ifCond .ne 22, 3) := dk_154 0 22 (dk_at dksX9_read_1 0 rfl rfl)
theorem dX9_read_25 : decode cX9_read 25 = .ok (.aload_n 1, 1) := dk_43 (dk_at dksX9_read_1 3 rfl rfl)
theorem dX9_read_26 : decode cX9_read 26 = .ok (.getfield 29, 3) := dk_180 0 29 (dk_at dksX9_read_1 4 rfl rfl)
theorem dX9_read_29 : decode cX9_read 29 = .ok (.iconst 2, 1) := dk_5 (dk_at dksX9_read_1 7 rfl rfl)
theorem dX9_read_30 : decode cX9_read 30 = .ok (.if_icmp .ne 18, 3) := dk_160 0 18 (dk_at dksX9_read_1 8 rfl rfl)
theorem dX9_read_33 : decode cX9_read 33 = .ok (.aload_n 1, 1) := dk_43 (dk_at dksX9_read_1 11 rfl rfl)
theorem dX9_read_34 : decode cX9_read 34 = .ok (.getfield 32, 3) := dk_180 0 32 (dk_at dksX9_read_1 12 rfl rfl)
theorem dX9_read_37 : decode cX9_read 37 = .ok (.invokestatic 36, 3) := dk_184 0 36 (dk_at dksX9_read_1 15 rfl rfl)
theorem dX9_read_40 : decode cX9_read 40 = .ok (.iconst (-1), 1) := dk_2 (dk_at dksX9_read_1 18 rfl rfl)
theorem dX9_read_41 : decode cX9_read 41 = .ok (.if_icmp .eq 7, 3) := dk_159 0 7 (dk_at dksX9_read_1 19 rfl rfl)
theorem dX9_read_44 : decode cX9_read 44 = .ok (.iconst 3, 1) := dk_6 (dk_at dksX9_read_1 22 rfl rfl)
theorem dX9_read_45 : decode cX9_read 45 = .ok (.goto 4, 3) := dk_167 0 4 (dk_at dksX9_read_2 0 rfl rfl)
theorem dX9_read_48 : decode cX9_read 48 = .ok (.iconst 1, 1) := dk_4 (dk_at dksX9_read_2 3 rfl rfl)
theorem dX9_read_49 : decode cX9_read 49 = .ok (.invokevirtual 40, 3) := dk_182 0 40 (dk_at dksX9_read_2 4 rfl rfl)
theorem dX9_read_52 : decode cX9_read 52 = .ok (.athrow, 1) := dk_191 (dk_at dksX9_read_2 7 rfl rfl)
theorem dX9_read_53 : decode cX9_read 53 = .ok (.new 9, 3) := dk_187 0 9 (dk_at dksX9_read_2 8 rfl rfl)
theorem dX9_read_56 : decode cX9_read 56 = .ok (.dup, 1) := dk_89 (dk_at dksX9_read_2 11 rfl rfl)
theorem dX9_read_57 : decode cX9_read 57 = .ok (.invokespecial 44, 3) := dk_183 0 44 (dk_at dksX9_read_2 12 rfl rfl)
theorem dX9_read_60 : decode cX9_read 60 = .ok (.astore_n 3, 1) := dk_78 (dk_at dksX9_read_2 15 rfl rfl)
theorem dX9_read_61 : decode cX9_read 61 = .ok (.aload_n 3, 1) := dk_45 (dk_at dksX9_read_2 16 rfl rfl)
theorem dX9_read_62 : decode cX9_read 62 = .ok (.aload_n 1, 1) := dk_43 (dk_at dksX9_read_2 17 rfl rfl)
theorem dX9_read_63 : decode cX9_read 63 = .ok (.invokevirtual 45, 3) := dk_182 0 45 (dk_at dksX9_read_2 18 rfl rfl)
theorem dX9_read_66 : decode cX9_read 66 = .ok (.aload_n 0, 1) := dk_42 (dk_at dksX9_read_2 21 rfl rfl)
theorem dX9_read_67 : decode cX9_read 67 = .ok (.getfield 11, 3) := dk_180 0 11 (dk_at dksX9_read_3 0 rfl rfl)
theorem dX9_read_70 : decode cX9_read 70 = .ok (.aload_n 0, 1) := dk_42 (dk_at dksX9_read_3 3 rfl rfl)
theorem dX9_read_71 : decode cX9_read 71 = .ok (.getfield 17, 3) := dk_180 0 17 (dk_at dksX9_read_3 4 rfl rfl)
theorem dX9_read_74 : decode cX9_read 74 = .ok (.aload_n 3, 1) := dk_45 (dk_at dksX9_read_3 7 rfl rfl)
theorem dX9_read_75 : decode cX9_read 75 = .ok (.aastore, 1) := dk_83 (dk_at dksX9_read_3 8 rfl rfl)
theorem dX9_read_76 : decode cX9_read 76 = .ok (.aload_n 0, 1) := dk_42 (dk_at dksX9_read_3 9 rfl rfl)
theorem dX9_read_77 : decode cX9_read 77 = .ok (.dup, 1) := dk_89 (dk_at dksX9_read_3 10 rfl rfl)
theorem dX9_read_78 : decode cX9_read 78 = .ok (.getfield 17, 3) := dk_180 0 17 (dk_at dksX9_read_3 11 rfl rfl)
theorem dX9_read_81 : decode cX9_read 81 = .ok (.iconst 1, 1) := dk_4 (dk_at dksX9_read_3 14 rfl rfl)
theorem dX9_read_82 : decode cX9_read 82 = .ok (.iadd, 1) := dk_96 (dk_at dksX9_read_3 15 rfl rfl)
theorem dX9_read_83 : decode cX9_read 83 = .ok (.putfield 17, 3) := dk_181 0 17 (dk_at dksX9_read_3 16 rfl rfl)
theorem dX9_read_86 : decode cX9_read 86 = .ok (.aload_n 1, 1) := dk_43 (dk_at dksX9_read_3 19 rfl rfl)
theorem dX9_read_87 : decode cX9_read 87 = .ok (.bipush 59, 2) := dk_16 59 (dk_at dksX9_read_3 20 rfl rfl)
theorem dX9_read_89 : decode cX9_read 89 = .ok (.invokevirtual 49, 3) := dk_182 0 49 (dk_at dksX9_read_4 0 rfl rfl)
theorem dX9_read_92 : decode cX9_read 92 = .ok (.istore_n 2, 1) := dk_61 (dk_at dksX9_read_4 3 rfl rfl)
theorem dX9_read_93 : decode cX9_read 93 = .ok (.goto (-91), 3) := dk_167 255 165 (dk_at dksX9_read_4 4 rfl rfl)
theorem dX9_read_96 : decode cX9_read 96 = .ok (.aload_n 1, 1) := dk_43 (dk_at dksX9_read_4 7 rfl rfl)
theorem dX9_read_97 : decode cX9_read 97 = .ok (.invokevirtual 53, 3) := dk_182 0 53 (dk_at dksX9_read_4 8 rfl rfl)
theorem dX9_read_100 : decode cX9_read 100 = .ok (.return_, 1) := dk_177 (dk_at dksX9_read_4 11 rfl rfl)
abbrev cX9_rule : ByteArray := prog_6_method_3_code
def yX9_rule : MethodName := ⟨RX9, "rule", "(LSledHouse$Team;LSledHouse$World;I)I"⟩
def dkwX9_rule_2 : List UInt8 := [167, 0, 4, 2, 172]
abbrev dktX9_rule_2 : List UInt8 := dkwX9_rule_2 ++ []
def dkwX9_rule_1 : List UInt8 := [182, 0, 56, 154, 0, 9, 132, 4, 1, 167, 255, 228, 21, 4, 42, 180, 0, 17, 162, 0, 8, 21, 4]
abbrev dktX9_rule_1 : List UInt8 := dkwX9_rule_1 ++ dktX9_rule_2
def dkwX9_rule_0 : List UInt8 := [3, 54, 4, 21, 4, 42, 180, 0, 17, 162, 0, 25, 42, 180, 0, 11, 21, 4, 50, 43, 44, 29]
abbrev dktX9_rule_0 : List UInt8 := dkwX9_rule_0 ++ dktX9_rule_1
theorem dksX9_rule_0 : cX9_rule.data.toList.drop 0 = dktX9_rule_0 := by decide +kernel
theorem dksX9_rule_1 : cX9_rule.data.toList.drop 22 = dktX9_rule_1 := dk_seg dksX9_rule_0 22 rfl rfl
theorem dksX9_rule_2 : cX9_rule.data.toList.drop 45 = dktX9_rule_2 := dk_seg dksX9_rule_1 23 rfl rfl
theorem dX9_rule_0 : decode cX9_rule 0 = .ok (.iconst 0, 1) := dk_3 (dk_at dksX9_rule_0 0 rfl rfl)
theorem dX9_rule_1 : decode cX9_rule 1 = .ok (.istore 4, 2) := dk_54 4 (dk_at dksX9_rule_0 1 rfl rfl)
theorem dX9_rule_3 : decode cX9_rule 3 = .ok (.iload 4, 2) := dk_21 4 (dk_at dksX9_rule_0 3 rfl rfl)
theorem dX9_rule_5 : decode cX9_rule 5 = .ok (.aload_n 0, 1) := dk_42 (dk_at dksX9_rule_0 5 rfl rfl)
theorem dX9_rule_6 : decode cX9_rule 6 = .ok (.getfield 17, 3) := dk_180 0 17 (dk_at dksX9_rule_0 6 rfl rfl)
theorem dX9_rule_9 : decode cX9_rule 9 = .ok (.if_icmp .ge 25, 3) := dk_162 0 25 (dk_at dksX9_rule_0 9 rfl rfl)
theorem dX9_rule_12 : decode cX9_rule 12 = .ok (.aload_n 0, 1) := dk_42 (dk_at dksX9_rule_0 12 rfl rfl)
theorem dX9_rule_13 : decode cX9_rule 13 = .ok (.getfield 11, 3) := dk_180 0 11 (dk_at dksX9_rule_0 13 rfl rfl)
theorem dX9_rule_16 : decode cX9_rule 16 = .ok (.iload 4, 2) := dk_21 4 (dk_at dksX9_rule_0 16 rfl rfl)
theorem dX9_rule_18 : decode cX9_rule 18 = .ok (.aaload, 1) := dk_50 (dk_at dksX9_rule_0 18 rfl rfl)
theorem dX9_rule_19 : decode cX9_rule 19 = .ok (.aload_n 1, 1) := dk_43 (dk_at dksX9_rule_0 19 rfl rfl)
theorem dX9_rule_20 : decode cX9_rule 20 = .ok (.aload_n 2, 1) := dk_44 (dk_at dksX9_rule_0 20 rfl rfl)
theorem dX9_rule_21 : decode cX9_rule 21 = .ok (.iload_n 3, 1) := dk_29 (dk_at dksX9_rule_0 21 rfl rfl)
theorem dX9_rule_22 : decode cX9_rule 22 = .ok (.invokevirtual 56, 3) := dk_182 0 56 (dk_at dksX9_rule_1 0 rfl rfl)
theorem dX9_rule_25 : decode cX9_rule 25 = .ok (.ifCond .ne 9, 3) := dk_154 0 9 (dk_at dksX9_rule_1 3 rfl rfl)
theorem dX9_rule_28 : decode cX9_rule 28 = .ok (.iinc 4 1, 3) := dk_132 4 1 (dk_at dksX9_rule_1 6 rfl rfl)
theorem dX9_rule_31 : decode cX9_rule 31 = .ok (.goto (-28), 3) := dk_167 255 228 (dk_at dksX9_rule_1 9 rfl rfl)
theorem dX9_rule_34 : decode cX9_rule 34 = .ok (.iload 4, 2) := dk_21 4 (dk_at dksX9_rule_1 12 rfl rfl)
theorem dX9_rule_36 : decode cX9_rule 36 = .ok (.aload_n 0, 1) := dk_42 (dk_at dksX9_rule_1 14 rfl rfl)
theorem dX9_rule_37 : decode cX9_rule 37 = .ok (.getfield 17, 3) := dk_180 0 17 (dk_at dksX9_rule_1 15 rfl rfl)
theorem dX9_rule_40 : decode cX9_rule 40 = .ok (.if_icmp .ge 8, 3) := dk_162 0 8 (dk_at dksX9_rule_1 18 rfl rfl)
theorem dX9_rule_43 : decode cX9_rule 43 = .ok (.iload 4, 2) := dk_21 4 (dk_at dksX9_rule_1 21 rfl rfl)
theorem dX9_rule_45 : decode cX9_rule 45 = .ok (.goto 4, 3) := dk_167 0 4 (dk_at dksX9_rule_2 0 rfl rfl)
theorem dX9_rule_48 : decode cX9_rule 48 = .ok (.iconst (-1), 1) := dk_2 (dk_at dksX9_rule_2 3 rfl rfl)
theorem dX9_rule_49 : decode cX9_rule 49 = .ok (.ireturn, 1) := dk_172 (dk_at dksX9_rule_2 4 rfl rfl)
abbrev cX9_tests : ByteArray := prog_6_method_4_code
def yX9_tests : MethodName := ⟨RX9, "tests", "()I"⟩
def dkwX9_tests_1 : List UInt8 := [132, 2, 1, 167, 255, 233, 27, 172]
abbrev dktX9_tests_1 : List UInt8 := dkwX9_tests_1 ++ []
def dkwX9_tests_0 : List UInt8 := [3, 60, 3, 61, 28, 42, 180, 0, 17, 162, 0, 21, 27, 42, 180, 0, 11, 28, 50, 180, 0, 60, 96, 60]
abbrev dktX9_tests_0 : List UInt8 := dkwX9_tests_0 ++ dktX9_tests_1
theorem dksX9_tests_0 : cX9_tests.data.toList.drop 0 = dktX9_tests_0 := by decide +kernel
theorem dksX9_tests_1 : cX9_tests.data.toList.drop 24 = dktX9_tests_1 := dk_seg dksX9_tests_0 24 rfl rfl
theorem dX9_tests_0 : decode cX9_tests 0 = .ok (.iconst 0, 1) := dk_3 (dk_at dksX9_tests_0 0 rfl rfl)
theorem dX9_tests_1 : decode cX9_tests 1 = .ok (.istore_n 1, 1) := dk_60 (dk_at dksX9_tests_0 1 rfl rfl)
theorem dX9_tests_2 : decode cX9_tests 2 = .ok (.iconst 0, 1) := dk_3 (dk_at dksX9_tests_0 2 rfl rfl)
theorem dX9_tests_3 : decode cX9_tests 3 = .ok (.istore_n 2, 1) := dk_61 (dk_at dksX9_tests_0 3 rfl rfl)
theorem dX9_tests_4 : decode cX9_tests 4 = .ok (.iload_n 2, 1) := dk_28 (dk_at dksX9_tests_0 4 rfl rfl)
theorem dX9_tests_5 : decode cX9_tests 5 = .ok (.aload_n 0, 1) := dk_42 (dk_at dksX9_tests_0 5 rfl rfl)
theorem dX9_tests_6 : decode cX9_tests 6 = .ok (.getfield 17, 3) := dk_180 0 17 (dk_at dksX9_tests_0 6 rfl rfl)
theorem dX9_tests_9 : decode cX9_tests 9 = .ok (.if_icmp .ge 21, 3) := dk_162 0 21 (dk_at dksX9_tests_0 9 rfl rfl)
theorem dX9_tests_12 : decode cX9_tests 12 = .ok (.iload_n 1, 1) := dk_27 (dk_at dksX9_tests_0 12 rfl rfl)
theorem dX9_tests_13 : decode cX9_tests 13 = .ok (.aload_n 0, 1) := dk_42 (dk_at dksX9_tests_0 13 rfl rfl)
theorem dX9_tests_14 : decode cX9_tests 14 = .ok (.getfield 11, 3) := dk_180 0 11 (dk_at dksX9_tests_0 14 rfl rfl)
theorem dX9_tests_17 : decode cX9_tests 17 = .ok (.iload_n 2, 1) := dk_28 (dk_at dksX9_tests_0 17 rfl rfl)
theorem dX9_tests_18 : decode cX9_tests 18 = .ok (.aaload, 1) := dk_50 (dk_at dksX9_tests_0 18 rfl rfl)
theorem dX9_tests_19 : decode cX9_tests 19 = .ok (.getfield 60, 3) := dk_180 0 60 (dk_at dksX9_tests_0 19 rfl rfl)
theorem dX9_tests_22 : decode cX9_tests 22 = .ok (.iadd, 1) := dk_96 (dk_at dksX9_tests_0 22 rfl rfl)
theorem dX9_tests_23 : decode cX9_tests 23 = .ok (.istore_n 1, 1) := dk_60 (dk_at dksX9_tests_0 23 rfl rfl)
theorem dX9_tests_24 : decode cX9_tests 24 = .ok (.iinc 2 1, 3) := dk_132 2 1 (dk_at dksX9_tests_1 0 rfl rfl)
theorem dX9_tests_27 : decode cX9_tests 27 = .ok (.goto (-23), 3) := dk_167 255 233 (dk_at dksX9_tests_1 3 rfl rfl)
theorem dX9_tests_30 : decode cX9_tests 30 = .ok (.iload_n 1, 1) := dk_27 (dk_at dksX9_tests_1 6 rfl rfl)
theorem dX9_tests_31 : decode cX9_tests 31 = .ok (.ireturn, 1) := dk_172 (dk_at dksX9_tests_1 7 rfl rfl)
theorem q67 : (Jvm.Cond.initialized "SledHouse$Plan") ∈ lw_all := lw_g (lw_at lw_m1 16 rfl) rfl
theorem q176 : (Jvm.Cond.fieldLink "SledHouse$Plan" (29 : Nat) "SledHouse$Reader" "token" "I") ∈ lw_all := lw_g (lw_at lw_m1 125 rfl) rfl
theorem q181 : (Jvm.Cond.fieldLink "SledHouse$Plan" (32 : Nat) "SledHouse$Reader" "word" "Ljava/lang/String;") ∈ lw_all := lw_g (lw_at lw_m1 130 rfl) rfl
theorem q560 : (Jvm.Cond.instantiable "SledHouse$Plan" (2 : Nat)) ∈ lw_all := lw_g (lw_at lw_m3 29 rfl) rfl
theorem q562 : (Jvm.Cond.instanceMethod ({ cls := "SledHouse$Plan", name := "<init>", desc := "()V" } : Jvm.MethodName)) ∈ lw_all := lw_g (lw_at lw_m3 31 rfl) rfl
theorem q563 : (Jvm.Cond.code ({ cls := "SledHouse$Plan", name := "<init>", desc := "()V" } : Jvm.MethodName) prog_6_method_1_code (1 : Nat) (Option.none : Option Jvm.ClassFile.FieldType)) ∈ lw_all := lw_g (lw_at lw_m3 32 rfl) rfl
theorem q564 : (Jvm.Cond.methodLink "SledHouse$Plan" (3 : Nat) ({ cls := "java/lang/Object", name := "<init>", desc := "()V" } : Jvm.MethodName)) ∈ lw_all := lw_g (lw_at lw_m3 33 rfl) rfl
theorem q565 : (Jvm.Cond.classLink "SledHouse$Plan" (9 : Nat) "SledHouse$Rule") ∈ lw_all := lw_g (lw_at lw_m3 34 rfl) rfl
theorem q567 : (Jvm.Cond.fieldLink "SledHouse$Plan" (11 : Nat) "SledHouse$Plan" "rules" "[LSledHouse$Rule;") ∈ lw_all := lw_g (lw_at lw_m3 36 rfl) rfl
theorem q569 : (Jvm.Cond.fieldLink "SledHouse$Plan" (17 : Nat) "SledHouse$Plan" "many" "I") ∈ lw_all := lw_g (lw_at lw_m3 38 rfl) rfl
theorem q571 : (Jvm.Cond.laysFinal "SledHouse$Plan" "SledHouse$Plan" "rules" "[LSledHouse$Rule;") ∈ lw_all := lw_g (lw_at lw_m3 40 rfl) rfl
theorem q572 : (Jvm.Cond.soleField "SledHouse$Plan" "rules") ∈ lw_all := lw_g (lw_at lw_m3 41 rfl) rfl
theorem q573 : (Jvm.Cond.lays "SledHouse$Plan" "SledHouse$Plan" "many" "I") ∈ lw_all := lw_g (lw_at lw_m3 42 rfl) rfl
theorem q574 : (Jvm.Cond.soleField "SledHouse$Plan" "many") ∈ lw_all := lw_g (lw_at lw_m3 43 rfl) rfl
theorem q575 : (Jvm.Cond.superclass "SledHouse$Plan" "java/lang/Object") ∈ lw_all := lw_g (lw_at lw_m3 44 rfl) rfl
theorem q577 : (Jvm.Cond.instanceMethod ({ cls := "SledHouse$Plan", name := "read", desc := "(LSledHouse$Reader;)V" } : Jvm.MethodName)) ∈ lw_all := lw_g (lw_at lw_m3 46 rfl) rfl
theorem q578 : (Jvm.Cond.selects "SledHouse$Plan" ({ cls := "SledHouse$Plan", name := "read", desc := "(LSledHouse$Reader;)V" } : Jvm.MethodName) ({ cls := "SledHouse$Plan", name := "read", desc := "(LSledHouse$Reader;)V" } : Jvm.MethodName)) ∈ lw_all := lw_g (lw_at lw_m3 47 rfl) rfl
theorem q579 : (Jvm.Cond.code ({ cls := "SledHouse$Plan", name := "read", desc := "(LSledHouse$Reader;)V" } : Jvm.MethodName) prog_6_method_2_code (4 : Nat) (Option.none : Option Jvm.ClassFile.FieldType)) ∈ lw_all := lw_g (lw_at lw_m3 48 rfl) rfl
theorem q580 : (Jvm.Cond.stringRef "SledHouse$Plan" (21 : Nat) "when") ∈ lw_tbl := lw_at lw_m3 49 rfl
theorem q581 : (Jvm.Cond.methodLink "SledHouse$Plan" (23 : Nat) ({ cls := "SledHouse$Reader", name := "isWord", desc := "(Ljava/lang/String;)Z" } : Jvm.MethodName)) ∈ lw_all := lw_g (lw_at lw_m3 50 rfl) rfl
theorem q593 : (Jvm.Cond.methodLinkNest "SledHouse$Plan" (36 : Nat) ({ cls := "SledHouse", name := "actOf", desc := "(Ljava/lang/String;)I" } : Jvm.MethodName) "SledHouse") ∈ lw_tbl := lw_at lw_m3 62 rfl
theorem q654 : (Jvm.Cond.methodLink "SledHouse$Plan" (40 : Nat) ({ cls := "SledHouse$Reader", name := "fail", desc := "(I)LSledHouse$Refused;" } : Jvm.MethodName)) ∈ lw_all := lw_g (lw_at lw_m3 123 rfl) rfl
theorem q664 : (Jvm.Cond.methodLinkNest "SledHouse$Plan" (44 : Nat) ({ cls := "SledHouse$Rule", name := "<init>", desc := "()V" } : Jvm.MethodName) "SledHouse") ∈ lw_tbl := lw_at lw_m3 133 rfl
theorem q672 : (Jvm.Cond.fieldLinkNest "SledHouse$Plan" (60 : Nat) "SledHouse$Rule" "many" "I" "SledHouse") ∈ lw_tbl := lw_at lw_m3 141 rfl
theorem q682 : (Jvm.Cond.methodLink "SledHouse$Plan" (45 : Nat) ({ cls := "SledHouse$Rule", name := "read", desc := "(LSledHouse$Reader;)V" } : Jvm.MethodName)) ∈ lw_all := lw_g (lw_at lw_m3 151 rfl) rfl
theorem q742 : (Jvm.Cond.methodLink "SledHouse$Plan" (49 : Nat) ({ cls := "SledHouse$Reader", name := "takes", desc := "(I)Z" } : Jvm.MethodName)) ∈ lw_all := lw_g (lw_at lw_m3 211 rfl) rfl
theorem q743 : (Jvm.Cond.methodLink "SledHouse$Plan" (53 : Nat) ({ cls := "SledHouse$Reader", name := "mustEnd", desc := "()V" } : Jvm.MethodName)) ∈ lw_all := lw_g (lw_at lw_m3 212 rfl) rfl
theorem q888 : (Jvm.Cond.instanceMethod ({ cls := "SledHouse$Plan", name := "rule", desc := "(LSledHouse$Team;LSledHouse$World;I)I" } : Jvm.MethodName)) ∈ lw_all := lw_g (lw_at lw_m4 117 rfl) rfl
theorem q889 : (Jvm.Cond.selects "SledHouse$Plan" ({ cls := "SledHouse$Plan", name := "rule", desc := "(LSledHouse$Team;LSledHouse$World;I)I" } : Jvm.MethodName) ({ cls := "SledHouse$Plan", name := "rule", desc := "(LSledHouse$Team;LSledHouse$World;I)I" } : Jvm.MethodName)) ∈ lw_all := lw_g (lw_at lw_m4 118 rfl) rfl
theorem q890 : (Jvm.Cond.code ({ cls := "SledHouse$Plan", name := "rule", desc := "(LSledHouse$Team;LSledHouse$World;I)I" } : Jvm.MethodName) prog_6_method_3_code (5 : Nat) (Option.some Jvm.ClassFile.FieldType.int)) ∈ lw_all := lw_g (lw_at lw_m4 119 rfl) rfl
theorem q891 : (Jvm.Cond.methodLink "SledHouse$Plan" (56 : Nat) ({ cls := "SledHouse$Rule", name := "holds", desc := "(LSledHouse$Team;LSledHouse$World;I)Z" } : Jvm.MethodName)) ∈ lw_all := lw_g (lw_at lw_m4 120 rfl) rfl
theorem q1109 : (Jvm.Cond.instanceMethod ({ cls := "SledHouse$Plan", name := "tests", desc := "()I" } : Jvm.MethodName)) ∈ lw_all := lw_g (lw_at lw_m5 98 rfl) rfl
theorem q1110 : (Jvm.Cond.selects "SledHouse$Plan" ({ cls := "SledHouse$Plan", name := "tests", desc := "()I" } : Jvm.MethodName) ({ cls := "SledHouse$Plan", name := "tests", desc := "()I" } : Jvm.MethodName)) ∈ lw_all := lw_g (lw_at lw_m5 99 rfl) rfl
theorem q1111 : (Jvm.Cond.code ({ cls := "SledHouse$Plan", name := "tests", desc := "()I" } : Jvm.MethodName) prog_6_method_4_code (3 : Nat) (Option.some Jvm.ClassFile.FieldType.int)) ∈ lw_all := lw_g (lw_at lw_m5 100 rfl) rfl
theorem in_X9 : ∀ w ∈ wsX90, w ∈ lw_all := lw_in wsX90 [571, 573] (by decide +kernel) (by decide +kernel)

/-! SledHouse$Rule -/
set_option maxRecDepth 100000
def RX10 : String := "SledHouse$Rule"
def TX10 : u_T := fun k => match k with
  | 0 => ("SledHouse$Rule", "tests", "[LSledHouse$Test;", true)
  | 1 => ("SledHouse$Rule", "many", "I", false)
  | _ => ("SledHouse$Rule", "act", "I", false)
def tyX10 : Nat → FieldType := fun k => match k with
  | 0 => .array (.object "SledHouse$Test")
  | 1 => .int
  | _ => .int
abbrev wsX100 : List Cond := u_ws RX10 TX10 3
theorem nmX10 : ∀ a, a < 3 → ∀ b, b < 3 → a ≠ b → (TX10 a).2.1 ≠ (TX10 b).2.1 := by decide +kernel
theorem tyX10_ok : ∀ k, k < 3 → parseFieldDescriptor (TX10 k).2.2.1 = some (tyX10 k) := by decide +kernel
abbrev cX10_init : ByteArray := prog_11_method_1_code
def yX10_init : MethodName := ⟨RX10, "<init>", "()V"⟩
def dkwX10_init_0 : List UInt8 := [42, 183, 0, 3, 42, 7, 189, 0, 9, 181, 0, 11, 177]
abbrev dktX10_init_0 : List UInt8 := dkwX10_init_0 ++ []
theorem dksX10_init_0 : cX10_init.data.toList.drop 0 = dktX10_init_0 := by decide +kernel
theorem dX10_init_0 : decode cX10_init 0 = .ok (.aload_n 0, 1) := dk_42 (dk_at dksX10_init_0 0 rfl rfl)
theorem dX10_init_1 : decode cX10_init 1 = .ok (.invokespecial 3, 3) := dk_183 0 3 (dk_at dksX10_init_0 1 rfl rfl)
theorem dX10_init_4 : decode cX10_init 4 = .ok (.aload_n 0, 1) := dk_42 (dk_at dksX10_init_0 4 rfl rfl)
theorem dX10_init_5 : decode cX10_init 5 = .ok (.iconst 4, 1) := dk_7 (dk_at dksX10_init_0 5 rfl rfl)
theorem dX10_init_6 : decode cX10_init 6 = .ok (.anewarray 9, 3) := dk_189 0 9 (dk_at dksX10_init_0 6 rfl rfl)
theorem dX10_init_9 : decode cX10_init 9 = .ok (.putfield 11, 3) := dk_181 0 11 (dk_at dksX10_init_0 9 rfl rfl)
theorem dX10_init_12 : decode cX10_init 12 = .ok (.return_, 1) := dk_177 (dk_at dksX10_init_0 12 rfl rfl)
abbrev cX10_read : ByteArray := prog_11_method_2_code
def yX10_read : MethodName := ⟨RX10, "read", "(LSledHouse$Reader;)V"⟩
def dkwX10_read_3 : List UInt8 := [182, 0, 50, 177]
abbrev dktX10_read_3 : List UInt8 := dkwX10_read_3 ++ []
def dkwX10_read_2 : List UInt8 := [167, 0, 4, 2, 181, 0, 43, 42, 180, 0, 43, 2, 160, 0, 9, 43, 4, 182, 0, 46, 191, 43]
abbrev dktX10_read_2 : List UInt8 := dkwX10_read_2 ++ dktX10_read_3
def dkwX10_read_1 : List UInt8 := [43, 182, 0, 25, 167, 255, 242, 42, 43, 180, 0, 31, 5, 160, 0, 13, 43, 180, 0, 35, 184, 0, 39]
abbrev dktX10_read_1 : List UInt8 := dkwX10_read_1 ++ dktX10_read_2
def dkwX10_read_0 : List UInt8 := [43, 18, 17, 182, 0, 19, 153, 0, 25, 42, 43, 182, 0, 25, 43, 18, 29, 182, 0, 19, 153, 0, 11, 42]
abbrev dktX10_read_0 : List UInt8 := dkwX10_read_0 ++ dktX10_read_1
theorem dksX10_read_0 : cX10_read.data.toList.drop 0 = dktX10_read_0 := by decide +kernel
theorem dksX10_read_1 : cX10_read.data.toList.drop 24 = dktX10_read_1 := dk_seg dksX10_read_0 24 rfl rfl
theorem dksX10_read_2 : cX10_read.data.toList.drop 47 = dktX10_read_2 := dk_seg dksX10_read_1 23 rfl rfl
theorem dksX10_read_3 : cX10_read.data.toList.drop 69 = dktX10_read_3 := dk_seg dksX10_read_2 22 rfl rfl
theorem dX10_read_0 : decode cX10_read 0 = .ok (.aload_n 1, 1) := dk_43 (dk_at dksX10_read_0 0 rfl rfl)
theorem dX10_read_1 : decode cX10_read 1 = .ok (.ldc 17, 2) := dk_18 17 (dk_at dksX10_read_0 1 rfl rfl)
theorem dX10_read_3 : decode cX10_read 3 = .ok (.invokevirtual 19, 3) := dk_182 0 19 (dk_at dksX10_read_0 3 rfl rfl)
theorem dX10_read_6 : decode cX10_read 6 = .ok (.ifCond .eq 25, 3) := dk_153 0 25 (dk_at dksX10_read_0 6 rfl rfl)
theorem dX10_read_9 : decode cX10_read 9 = .ok (.aload_n 0, 1) := dk_42 (dk_at dksX10_read_0 9 rfl rfl)
theorem dX10_read_10 : decode cX10_read 10 = .ok (.aload_n 1, 1) := dk_43 (dk_at dksX10_read_0 10 rfl rfl)
theorem dX10_read_11 : decode cX10_read 11 = .ok (.invokevirtual 25, 3) := dk_182 0 25 (dk_at dksX10_read_0 11 rfl rfl)
theorem dX10_read_14 : decode cX10_read 14 = .ok (.aload_n 1, 1) := dk_43 (dk_at dksX10_read_0 14 rfl rfl)
theorem dX10_read_15 : decode cX10_read 15 = .ok (.ldc 29, 2) := dk_18 29 (dk_at dksX10_read_0 15 rfl rfl)
theorem dX10_read_17 : decode cX10_read 17 = .ok (.invokevirtual 19, 3) := dk_182 0 19 (dk_at dksX10_read_0 17 rfl rfl)
theorem dX10_read_20 : decode cX10_read 20 = .ok (.ifCond .eq 11, 3) := dk_153 0 11 (dk_at dksX10_read_0 20 rfl rfl)
theorem dX10_read_23 : decode cX10_read 23 = .ok (.aload_n 0, 1) := dk_42 (dk_at dksX10_read_0 23 rfl rfl)
theorem dX10_read_24 : decode cX10_read 24 = .ok (.aload_n 1, 1) := dk_43 (dk_at dksX10_read_1 0 rfl rfl)
theorem dX10_read_25 : decode cX10_read 25 = .ok (.invokevirtual 25, 3) := dk_182 0 25 (dk_at dksX10_read_1 1 rfl rfl)
theorem dX10_read_28 : decode cX10_read 28 = .ok (.goto (-14), 3) := dk_167 255 242 (dk_at dksX10_read_1 4 rfl rfl)
theorem dX10_read_31 : decode cX10_read 31 = .ok (.aload_n 0, 1) := dk_42 (dk_at dksX10_read_1 7 rfl rfl)
theorem dX10_read_32 : decode cX10_read 32 = .ok (.aload_n 1, 1) := dk_43 (dk_at dksX10_read_1 8 rfl rfl)
theorem dX10_read_33 : decode cX10_read 33 = .ok (.getfield 31, 3) := dk_180 0 31 (dk_at dksX10_read_1 9 rfl rfl)
theorem dX10_read_36 : decode cX10_read 36 = .ok (.iconst 2, 1) := dk_5 (dk_at dksX10_read_1 12 rfl rfl)
theorem dX10_read_37 : decode cX10_read 37 = .ok (.if_icmp .ne 13, 3) := dk_160 0 13 (dk_at dksX10_read_1 13 rfl rfl)
theorem dX10_read_40 : decode cX10_read 40 = .ok (.aload_n 1, 1) := dk_43 (dk_at dksX10_read_1 16 rfl rfl)
theorem dX10_read_41 : decode cX10_read 41 = .ok (.getfield 35, 3) := dk_180 0 35 (dk_at dksX10_read_1 17 rfl rfl)
theorem dX10_read_44 : decode cX10_read 44 = .ok (.invokestatic 39, 3) := dk_184 0 39 (dk_at dksX10_read_1 20 rfl rfl)
theorem dX10_read_47 : decode cX10_read 47 = .ok (.goto 4, 3) := dk_167 0 4 (dk_at dksX10_read_2 0 rfl rfl)
theorem dX10_read_50 : decode cX10_read 50 = .ok (.iconst (-1), 1) := dk_2 (dk_at dksX10_read_2 3 rfl rfl)
theorem dX10_read_51 : decode cX10_read 51 = .ok (.putfield 43, 3) := dk_181 0 43 (dk_at dksX10_read_2 4 rfl rfl)
theorem dX10_read_54 : decode cX10_read 54 = .ok (.aload_n 0, 1) := dk_42 (dk_at dksX10_read_2 7 rfl rfl)
theorem dX10_read_55 : decode cX10_read 55 = .ok (.getfield 43, 3) := dk_180 0 43 (dk_at dksX10_read_2 8 rfl rfl)
theorem dX10_read_58 : decode cX10_read 58 = .ok (.iconst (-1), 1) := dk_2 (dk_at dksX10_read_2 11 rfl rfl)
theorem dX10_read_59 : decode cX10_read 59 = .ok (.if_icmp .ne 9, 3) := dk_160 0 9 (dk_at dksX10_read_2 12 rfl rfl)
theorem dX10_read_62 : decode cX10_read 62 = .ok (.aload_n 1, 1) := dk_43 (dk_at dksX10_read_2 15 rfl rfl)
theorem dX10_read_63 : decode cX10_read 63 = .ok (.iconst 1, 1) := dk_4 (dk_at dksX10_read_2 16 rfl rfl)
theorem dX10_read_64 : decode cX10_read 64 = .ok (.invokevirtual 46, 3) := dk_182 0 46 (dk_at dksX10_read_2 17 rfl rfl)
theorem dX10_read_67 : decode cX10_read 67 = .ok (.athrow, 1) := dk_191 (dk_at dksX10_read_2 20 rfl rfl)
theorem dX10_read_68 : decode cX10_read 68 = .ok (.aload_n 1, 1) := dk_43 (dk_at dksX10_read_2 21 rfl rfl)
theorem dX10_read_69 : decode cX10_read 69 = .ok (.invokevirtual 50, 3) := dk_182 0 50 (dk_at dksX10_read_3 0 rfl rfl)
theorem dX10_read_72 : decode cX10_read 72 = .ok (.return_, 1) := dk_177 (dk_at dksX10_read_3 3 rfl rfl)
abbrev cX10_test : ByteArray := prog_11_method_3_code
def yX10_test : MethodName := ⟨RX10, "test", "(LSledHouse$Reader;)V"⟩
def dkwX10_test_5 : List UInt8 := [181, 0, 59, 177]
abbrev dktX10_test_5 : List UInt8 := dkwX10_test_5 ++ []
def dkwX10_test_4 : List UInt8 := [180, 0, 59, 187, 0, 9, 89, 28, 29, 43, 182, 0, 65, 183, 0, 69, 83, 42, 89, 180, 0, 59, 4, 96]
abbrev dktX10_test_4 : List UInt8 := dkwX10_test_4 ++ dktX10_test_5
def dkwX10_test_3 : List UInt8 := [29, 154, 0, 18, 43, 16, 62, 182, 0, 62, 154, 0, 9, 43, 4, 182, 0, 46, 191, 42, 180, 0, 11, 42]
abbrev dktX10_test_3 : List UInt8 := dkwX10_test_3 ++ dktX10_test_4
def dkwX10_test_2 : List UInt8 := [180, 0, 59, 7, 160, 0, 9, 43, 6, 182, 0, 46, 191, 43, 182, 0, 50, 43, 16, 60, 182, 0, 62, 62]
abbrev dktX10_test_2 : List UInt8 := dkwX10_test_2 ++ dktX10_test_3
def dkwX10_test_1 : List UInt8 := [160, 0, 23, 43, 43, 180, 0, 35, 184, 0, 56, 153, 0, 7, 4, 167, 0, 4, 5, 182, 0, 46, 191, 42]
abbrev dktX10_test_1 : List UInt8 := dkwX10_test_1 ++ dktX10_test_2
def dkwX10_test_0 : List UInt8 := [43, 180, 0, 31, 5, 159, 0, 9, 43, 4, 182, 0, 46, 191, 43, 180, 0, 35, 184, 0, 53, 61, 28, 2]
abbrev dktX10_test_0 : List UInt8 := dkwX10_test_0 ++ dktX10_test_1
theorem dksX10_test_0 : cX10_test.data.toList.drop 0 = dktX10_test_0 := by decide +kernel
theorem dksX10_test_1 : cX10_test.data.toList.drop 24 = dktX10_test_1 := dk_seg dksX10_test_0 24 rfl rfl
theorem dksX10_test_2 : cX10_test.data.toList.drop 48 = dktX10_test_2 := dk_seg dksX10_test_1 24 rfl rfl
theorem dksX10_test_3 : cX10_test.data.toList.drop 72 = dktX10_test_3 := dk_seg dksX10_test_2 24 rfl rfl
theorem dksX10_test_4 : cX10_test.data.toList.drop 96 = dktX10_test_4 := dk_seg dksX10_test_3 24 rfl rfl
theorem dksX10_test_5 : cX10_test.data.toList.drop 120 = dktX10_test_5 := dk_seg dksX10_test_4 24 rfl rfl
theorem dX10_test_0 : decode cX10_test 0 = .ok (.aload_n 1, 1) := dk_43 (dk_at dksX10_test_0 0 rfl rfl)
theorem dX10_test_1 : decode cX10_test 1 = .ok (.getfield 31, 3) := dk_180 0 31 (dk_at dksX10_test_0 1 rfl rfl)
theorem dX10_test_4 : decode cX10_test 4 = .ok (.iconst 2, 1) := dk_5 (dk_at dksX10_test_0 4 rfl rfl)
theorem dX10_test_5 : decode cX10_test 5 = .ok (.if_icmp .eq 9, 3) := dk_159 0 9 (dk_at dksX10_test_0 5 rfl rfl)
theorem dX10_test_8 : decode cX10_test 8 = .ok (.aload_n 1, 1) := dk_43 (dk_at dksX10_test_0 8 rfl rfl)
theorem dX10_test_9 : decode cX10_test 9 = .ok (.iconst 1, 1) := dk_4 (dk_at dksX10_test_0 9 rfl rfl)
theorem dX10_test_10 : decode cX10_test 10 = .ok (.invokevirtual 46, 3) := dk_182 0 46 (dk_at dksX10_test_0 10 rfl rfl)
theorem dX10_test_13 : decode cX10_test 13 = .ok (.athrow, 1) := dk_191 (dk_at dksX10_test_0 13 rfl rfl)
theorem dX10_test_14 : decode cX10_test 14 = .ok (.aload_n 1, 1) := dk_43 (dk_at dksX10_test_0 14 rfl rfl)
theorem dX10_test_15 : decode cX10_test 15 = .ok (.getfield 35, 3) := dk_180 0 35 (dk_at dksX10_test_0 15 rfl rfl)
theorem dX10_test_18 : decode cX10_test 18 = .ok (.invokestatic 53, 3) := dk_184 0 53 (dk_at dksX10_test_0 18 rfl rfl)
theorem dX10_test_21 : decode cX10_test 21 = .ok (.istore_n 2, 1) := dk_61 (dk_at dksX10_test_0 21 rfl rfl)
theorem dX10_test_22 : decode cX10_test 22 = .ok (.iload_n 2, 1) := dk_28 (dk_at dksX10_test_0 22 rfl rfl)
theorem dX10_test_23 : decode cX10_test 23 = .ok (.iconst (-1), 1) := dk_2 (dk_at dksX10_test_0 23 rfl rfl)
theorem dX10_test_24 : decode cX10_test 24 = .ok (.if_icmp .ne 23, 3) := dk_160 0 23 (dk_at dksX10_test_1 0 rfl rfl)
theorem dX10_test_27 : decode cX10_test 27 = .ok (.aload_n 1, 1) := dk_43 (dk_at dksX10_test_1 3 rfl rfl)
theorem dX10_test_28 : decode cX10_test 28 = .ok (.aload_n 1, 1) := dk_43 (dk_at dksX10_test_1 4 rfl rfl)
theorem dX10_test_29 : decode cX10_test 29 = .ok (.getfield 35, 3) := dk_180 0 35 (dk_at dksX10_test_1 5 rfl rfl)
theorem dX10_test_32 : decode cX10_test 32 = .ok (.invokestatic 56, 3) := dk_184 0 56 (dk_at dksX10_test_1 8 rfl rfl)
theorem dX10_test_35 : decode cX10_test 35 = .ok (.ifCond .eq 7, 3) := dk_153 0 7 (dk_at dksX10_test_1 11 rfl rfl)
theorem dX10_test_38 : decode cX10_test 38 = .ok (.iconst 1, 1) := dk_4 (dk_at dksX10_test_1 14 rfl rfl)
theorem dX10_test_39 : decode cX10_test 39 = .ok (.goto 4, 3) := dk_167 0 4 (dk_at dksX10_test_1 15 rfl rfl)
theorem dX10_test_42 : decode cX10_test 42 = .ok (.iconst 2, 1) := dk_5 (dk_at dksX10_test_1 18 rfl rfl)
theorem dX10_test_43 : decode cX10_test 43 = .ok (.invokevirtual 46, 3) := dk_182 0 46 (dk_at dksX10_test_1 19 rfl rfl)
theorem dX10_test_46 : decode cX10_test 46 = .ok (.athrow, 1) := dk_191 (dk_at dksX10_test_1 22 rfl rfl)
theorem dX10_test_47 : decode cX10_test 47 = .ok (.aload_n 0, 1) := dk_42 (dk_at dksX10_test_1 23 rfl rfl)
theorem dX10_test_48 : decode cX10_test 48 = .ok (.getfield 59, 3) := dk_180 0 59 (dk_at dksX10_test_2 0 rfl rfl)
theorem dX10_test_51 : decode cX10_test 51 = .ok (.iconst 4, 1) := dk_7 (dk_at dksX10_test_2 3 rfl rfl)
theorem dX10_test_52 : decode cX10_test 52 = .ok (.if_icmp .ne 9, 3) := dk_160 0 9 (dk_at dksX10_test_2 4 rfl rfl)
theorem dX10_test_55 : decode cX10_test 55 = .ok (.aload_n 1, 1) := dk_43 (dk_at dksX10_test_2 7 rfl rfl)
theorem dX10_test_56 : decode cX10_test 56 = .ok (.iconst 3, 1) := dk_6 (dk_at dksX10_test_2 8 rfl rfl)
theorem dX10_test_57 : decode cX10_test 57 = .ok (.invokevirtual 46, 3) := dk_182 0 46 (dk_at dksX10_test_2 9 rfl rfl)
theorem dX10_test_60 : decode cX10_test 60 = .ok (.athrow, 1) := dk_191 (dk_at dksX10_test_2 12 rfl rfl)
theorem dX10_test_61 : decode cX10_test 61 = .ok (.aload_n 1, 1) := dk_43 (dk_at dksX10_test_2 13 rfl rfl)
theorem dX10_test_62 : decode cX10_test 62 = .ok (.invokevirtual 50, 3) := dk_182 0 50 (dk_at dksX10_test_2 14 rfl rfl)
theorem dX10_test_65 : decode cX10_test 65 = .ok (.aload_n 1, 1) := dk_43 (dk_at dksX10_test_2 17 rfl rfl)
theorem dX10_test_66 : decode cX10_test 66 = .ok (.bipush 60, 2) := dk_16 60 (dk_at dksX10_test_2 18 rfl rfl)
theorem dX10_test_68 : decode cX10_test 68 = .ok (.invokevirtual 62, 3) := dk_182 0 62 (dk_at dksX10_test_2 20 rfl rfl)
theorem dX10_test_71 : decode cX10_test 71 = .ok (.istore_n 3, 1) := dk_62 (dk_at dksX10_test_2 23 rfl rfl)
theorem dX10_test_72 : decode cX10_test 72 = .ok (.iload_n 3, 1) := dk_29 (dk_at dksX10_test_3 0 rfl rfl)
theorem dX10_test_73 : decode cX10_test 73 = .ok (.ifCond .ne 18, 3) := dk_154 0 18 (dk_at dksX10_test_3 1 rfl rfl)
theorem dX10_test_76 : decode cX10_test 76 = .ok (.aload_n 1, 1) := dk_43 (dk_at dksX10_test_3 4 rfl rfl)
theorem dX10_test_77 : decode cX10_test 77 = .ok (.bipush 62, 2) := dk_16 62 (dk_at dksX10_test_3 5 rfl rfl)
theorem dX10_test_79 : decode cX10_test 79 = .ok (.invokevirtual 62, 3) := dk_182 0 62 (dk_at dksX10_test_3 7 rfl rfl)
theorem dX10_test_82 : decode cX10_test 82 = .ok (.ifCond .ne 9, 3) := dk_154 0 9 (dk_at dksX10_test_3 10 rfl rfl)
theorem dX10_test_85 : decode cX10_test 85 = .ok (.aload_n 1, 1) := dk_43 (dk_at dksX10_test_3 13 rfl rfl)
theorem dX10_test_86 : decode cX10_test 86 = .ok (.iconst 1, 1) := dk_4 (dk_at dksX10_test_3 14 rfl rfl)
theorem dX10_test_87 : decode cX10_test 87 = .ok (.invokevirtual 46, 3) := dk_182 0 46 (dk_at dksX10_test_3 15 rfl rfl)
theorem dX10_test_90 : decode cX10_test 90 = .ok (.athrow, 1) := dk_191 (dk_at dksX10_test_3 18 rfl rfl)
theorem dX10_test_91 : decode cX10_test 91 = .ok (.aload_n 0, 1) := dk_42 (dk_at dksX10_test_3 19 rfl rfl)
theorem dX10_test_92 : decode cX10_test 92 = .ok (.getfield 11, 3) := dk_180 0 11 (dk_at dksX10_test_3 20 rfl rfl)
theorem dX10_test_95 : decode cX10_test 95 = .ok (.aload_n 0, 1) := dk_42 (dk_at dksX10_test_3 23 rfl rfl)
theorem dX10_test_96 : decode cX10_test 96 = .ok (.getfield 59, 3) := dk_180 0 59 (dk_at dksX10_test_4 0 rfl rfl)
theorem dX10_test_99 : decode cX10_test 99 = .ok (.new 9, 3) := dk_187 0 9 (dk_at dksX10_test_4 3 rfl rfl)
theorem dX10_test_102 : decode cX10_test 102 = .ok (.dup, 1) := dk_89 (dk_at dksX10_test_4 6 rfl rfl)
theorem dX10_test_103 : decode cX10_test 103 = .ok (.iload_n 2, 1) := dk_28 (dk_at dksX10_test_4 7 rfl rfl)
theorem dX10_test_104 : decode cX10_test 104 = .ok (.iload_n 3, 1) := dk_29 (dk_at dksX10_test_4 8 rfl rfl)
theorem dX10_test_105 : decode cX10_test 105 = .ok (.aload_n 1, 1) := dk_43 (dk_at dksX10_test_4 9 rfl rfl)
theorem dX10_test_106 : decode cX10_test 106 = .ok (.invokevirtual 65, 3) := dk_182 0 65 (dk_at dksX10_test_4 10 rfl rfl)
theorem dX10_test_109 : decode cX10_test 109 = .ok (.invokespecial 69, 3) := dk_183 0 69 (dk_at dksX10_test_4 13 rfl rfl)
theorem dX10_test_112 : decode cX10_test 112 = .ok (.aastore, 1) := dk_83 (dk_at dksX10_test_4 16 rfl rfl)
theorem dX10_test_113 : decode cX10_test 113 = .ok (.aload_n 0, 1) := dk_42 (dk_at dksX10_test_4 17 rfl rfl)
theorem dX10_test_114 : decode cX10_test 114 = .ok (.dup, 1) := dk_89 (dk_at dksX10_test_4 18 rfl rfl)
theorem dX10_test_115 : decode cX10_test 115 = .ok (.getfield 59, 3) := dk_180 0 59 (dk_at dksX10_test_4 19 rfl rfl)
theorem dX10_test_118 : decode cX10_test 118 = .ok (.iconst 1, 1) := dk_4 (dk_at dksX10_test_4 22 rfl rfl)
theorem dX10_test_119 : decode cX10_test 119 = .ok (.iadd, 1) := dk_96 (dk_at dksX10_test_4 23 rfl rfl)
theorem dX10_test_120 : decode cX10_test 120 = .ok (.putfield 59, 3) := dk_181 0 59 (dk_at dksX10_test_5 0 rfl rfl)
theorem dX10_test_123 : decode cX10_test 123 = .ok (.return_, 1) := dk_177 (dk_at dksX10_test_5 3 rfl rfl)
abbrev cX10_isKept : ByteArray := prog_11_method_4_code
def yX10_isKept : MethodName := ⟨RX10, "isKept", "(Ljava/lang/String;)Z"⟩
def dkwX10_isKept_1 : List UInt8 := [159, 0, 7, 4, 167, 0, 4, 3, 172]
abbrev dktX10_isKept_1 : List UInt8 := dkwX10_isKept_1 ++ []
def dkwX10_isKept_0 : List UInt8 := [42, 18, 17, 182, 0, 72, 154, 0, 20, 42, 18, 29, 182, 0, 72, 154, 0, 11, 42, 184, 0, 39, 2]
abbrev dktX10_isKept_0 : List UInt8 := dkwX10_isKept_0 ++ dktX10_isKept_1
theorem dksX10_isKept_0 : cX10_isKept.data.toList.drop 0 = dktX10_isKept_0 := by decide +kernel
theorem dksX10_isKept_1 : cX10_isKept.data.toList.drop 23 = dktX10_isKept_1 := dk_seg dksX10_isKept_0 23 rfl rfl
theorem dX10_isKept_0 : decode cX10_isKept 0 = .ok (.aload_n 0, 1) := dk_42 (dk_at dksX10_isKept_0 0 rfl rfl)
theorem dX10_isKept_1 : decode cX10_isKept 1 = .ok (.ldc 17, 2) := dk_18 17 (dk_at dksX10_isKept_0 1 rfl rfl)
theorem dX10_isKept_3 : decode cX10_isKept 3 = .ok (.invokevirtual 72, 3) := dk_182 0 72 (dk_at dksX10_isKept_0 3 rfl rfl)
theorem dX10_isKept_6 : decode cX10_isKept 6 = .ok (.ifCond .ne 20, 3) := dk_154 0 20 (dk_at dksX10_isKept_0 6 rfl rfl)
theorem dX10_isKept_9 : decode cX10_isKept 9 = .ok (.aload_n 0, 1) := dk_42 (dk_at dksX10_isKept_0 9 rfl rfl)
theorem dX10_isKept_10 : decode cX10_isKept 10 = .ok (.ldc 29, 2) := dk_18 29 (dk_at dksX10_isKept_0 10 rfl rfl)
theorem dX10_isKept_12 : decode cX10_isKept 12 = .ok (.invokevirtual 72, 3) := dk_182 0 72 (dk_at dksX10_isKept_0 12 rfl rfl)
theorem dX10_isKept_15 : decode cX10_isKept 15 = .ok (.ifCond .ne 11, 3) := dk_154 0 11 (dk_at dksX10_isKept_0 15 rfl rfl)
theorem dX10_isKept_18 : decode cX10_isKept 18 = .ok (.aload_n 0, 1) := dk_42 (dk_at dksX10_isKept_0 18 rfl rfl)
theorem dX10_isKept_19 : decode cX10_isKept 19 = .ok (.invokestatic 39, 3) := dk_184 0 39 (dk_at dksX10_isKept_0 19 rfl rfl)
theorem dX10_isKept_22 : decode cX10_isKept 22 = .ok (.iconst (-1), 1) := dk_2 (dk_at dksX10_isKept_0 22 rfl rfl)
theorem dX10_isKept_23 : decode cX10_isKept 23 = .ok (.if_icmp .eq 7, 3) := dk_159 0 7 (dk_at dksX10_isKept_1 0 rfl rfl)
theorem dX10_isKept_26 : decode cX10_isKept 26 = .ok (.iconst 1, 1) := dk_4 (dk_at dksX10_isKept_1 3 rfl rfl)
theorem dX10_isKept_27 : decode cX10_isKept 27 = .ok (.goto 4, 3) := dk_167 0 4 (dk_at dksX10_isKept_1 4 rfl rfl)
theorem dX10_isKept_30 : decode cX10_isKept 30 = .ok (.iconst 0, 1) := dk_3 (dk_at dksX10_isKept_1 7 rfl rfl)
theorem dX10_isKept_31 : decode cX10_isKept 31 = .ok (.ireturn, 1) := dk_172 (dk_at dksX10_isKept_1 8 rfl rfl)
abbrev cX10_holds : ByteArray := prog_11_method_5_code
def yX10_holds : MethodName := ⟨RX10, "holds", "(LSledHouse$Team;LSledHouse$World;I)Z"⟩
def dkwX10_holds_1 : List UInt8 := [21, 5, 50, 43, 44, 29, 182, 0, 78, 54, 4, 132, 5, 1, 167, 255, 224, 21, 4, 172]
abbrev dktX10_holds_1 : List UInt8 := dkwX10_holds_1 ++ []
def dkwX10_holds_0 : List UInt8 := [4, 54, 4, 3, 54, 5, 21, 5, 42, 180, 0, 59, 162, 0, 29, 21, 4, 153, 0, 24, 42, 180, 0, 11]
abbrev dktX10_holds_0 : List UInt8 := dkwX10_holds_0 ++ dktX10_holds_1
theorem dksX10_holds_0 : cX10_holds.data.toList.drop 0 = dktX10_holds_0 := by decide +kernel
theorem dksX10_holds_1 : cX10_holds.data.toList.drop 24 = dktX10_holds_1 := dk_seg dksX10_holds_0 24 rfl rfl
theorem dX10_holds_0 : decode cX10_holds 0 = .ok (.iconst 1, 1) := dk_4 (dk_at dksX10_holds_0 0 rfl rfl)
theorem dX10_holds_1 : decode cX10_holds 1 = .ok (.istore 4, 2) := dk_54 4 (dk_at dksX10_holds_0 1 rfl rfl)
theorem dX10_holds_3 : decode cX10_holds 3 = .ok (.iconst 0, 1) := dk_3 (dk_at dksX10_holds_0 3 rfl rfl)
theorem dX10_holds_4 : decode cX10_holds 4 = .ok (.istore 5, 2) := dk_54 5 (dk_at dksX10_holds_0 4 rfl rfl)
theorem dX10_holds_6 : decode cX10_holds 6 = .ok (.iload 5, 2) := dk_21 5 (dk_at dksX10_holds_0 6 rfl rfl)
theorem dX10_holds_8 : decode cX10_holds 8 = .ok (.aload_n 0, 1) := dk_42 (dk_at dksX10_holds_0 8 rfl rfl)
theorem dX10_holds_9 : decode cX10_holds 9 = .ok (.getfield 59, 3) := dk_180 0 59 (dk_at dksX10_holds_0 9 rfl rfl)
theorem dX10_holds_12 : decode cX10_holds 12 = .ok (.if_icmp .ge 29, 3) := dk_162 0 29 (dk_at dksX10_holds_0 12 rfl rfl)
theorem dX10_holds_15 : decode cX10_holds 15 = .ok (.iload 4, 2) := dk_21 4 (dk_at dksX10_holds_0 15 rfl rfl)
theorem dX10_holds_17 : decode cX10_holds 17 = .ok (.ifCond .eq 24, 3) := dk_153 0 24 (dk_at dksX10_holds_0 17 rfl rfl)
theorem dX10_holds_20 : decode cX10_holds 20 = .ok (.aload_n 0, 1) := dk_42 (dk_at dksX10_holds_0 20 rfl rfl)
theorem dX10_holds_21 : decode cX10_holds 21 = .ok (.getfield 11, 3) := dk_180 0 11 (dk_at dksX10_holds_0 21 rfl rfl)
theorem dX10_holds_24 : decode cX10_holds 24 = .ok (.iload 5, 2) := dk_21 5 (dk_at dksX10_holds_1 0 rfl rfl)
theorem dX10_holds_26 : decode cX10_holds 26 = .ok (.aaload, 1) := dk_50 (dk_at dksX10_holds_1 2 rfl rfl)
theorem dX10_holds_27 : decode cX10_holds 27 = .ok (.aload_n 1, 1) := dk_43 (dk_at dksX10_holds_1 3 rfl rfl)
theorem dX10_holds_28 : decode cX10_holds 28 = .ok (.aload_n 2, 1) := dk_44 (dk_at dksX10_holds_1 4 rfl rfl)
theorem dX10_holds_29 : decode cX10_holds 29 = .ok (.iload_n 3, 1) := dk_29 (dk_at dksX10_holds_1 5 rfl rfl)
theorem dX10_holds_30 : decode cX10_holds 30 = .ok (.invokevirtual 78, 3) := dk_182 0 78 (dk_at dksX10_holds_1 6 rfl rfl)
theorem dX10_holds_33 : decode cX10_holds 33 = .ok (.istore 4, 2) := dk_54 4 (dk_at dksX10_holds_1 9 rfl rfl)
theorem dX10_holds_35 : decode cX10_holds 35 = .ok (.iinc 5 1, 3) := dk_132 5 1 (dk_at dksX10_holds_1 11 rfl rfl)
theorem dX10_holds_38 : decode cX10_holds 38 = .ok (.goto (-32), 3) := dk_167 255 224 (dk_at dksX10_holds_1 14 rfl rfl)
theorem dX10_holds_41 : decode cX10_holds 41 = .ok (.iload 4, 2) := dk_21 4 (dk_at dksX10_holds_1 17 rfl rfl)
theorem dX10_holds_43 : decode cX10_holds 43 = .ok (.ireturn, 1) := dk_172 (dk_at dksX10_holds_1 19 rfl rfl)
theorem q70 : (Jvm.Cond.initialized "SledHouse$Rule") ∈ lw_all := lw_g (lw_at lw_m1 19 rfl) rfl
theorem q177 : (Jvm.Cond.fieldLink "SledHouse$Rule" (31 : Nat) "SledHouse$Reader" "token" "I") ∈ lw_all := lw_g (lw_at lw_m1 126 rfl) rfl
theorem q182 : (Jvm.Cond.fieldLink "SledHouse$Rule" (35 : Nat) "SledHouse$Reader" "word" "Ljava/lang/String;") ∈ lw_all := lw_g (lw_at lw_m1 131 rfl) rfl
theorem q663 : (Jvm.Cond.instantiable "SledHouse$Rule" (3 : Nat)) ∈ lw_all := lw_g (lw_at lw_m3 132 rfl) rfl
theorem q665 : (Jvm.Cond.instanceMethod ({ cls := "SledHouse$Rule", name := "<init>", desc := "()V" } : Jvm.MethodName)) ∈ lw_all := lw_g (lw_at lw_m3 134 rfl) rfl
theorem q666 : (Jvm.Cond.code ({ cls := "SledHouse$Rule", name := "<init>", desc := "()V" } : Jvm.MethodName) prog_11_method_1_code (1 : Nat) (Option.none : Option Jvm.ClassFile.FieldType)) ∈ lw_all := lw_g (lw_at lw_m3 135 rfl) rfl
theorem q667 : (Jvm.Cond.methodLink "SledHouse$Rule" (3 : Nat) ({ cls := "java/lang/Object", name := "<init>", desc := "()V" } : Jvm.MethodName)) ∈ lw_all := lw_g (lw_at lw_m3 136 rfl) rfl
theorem q668 : (Jvm.Cond.classLink "SledHouse$Rule" (9 : Nat) "SledHouse$Test") ∈ lw_all := lw_g (lw_at lw_m3 137 rfl) rfl
theorem q670 : (Jvm.Cond.fieldLink "SledHouse$Rule" (11 : Nat) "SledHouse$Rule" "tests" "[LSledHouse$Test;") ∈ lw_all := lw_g (lw_at lw_m3 139 rfl) rfl
theorem q671 : (Jvm.Cond.fieldLink "SledHouse$Rule" (59 : Nat) "SledHouse$Rule" "many" "I") ∈ lw_all := lw_g (lw_at lw_m3 140 rfl) rfl
theorem q673 : (Jvm.Cond.fieldLink "SledHouse$Rule" (43 : Nat) "SledHouse$Rule" "act" "I") ∈ lw_all := lw_g (lw_at lw_m3 142 rfl) rfl
theorem q675 : (Jvm.Cond.laysFinal "SledHouse$Rule" "SledHouse$Rule" "tests" "[LSledHouse$Test;") ∈ lw_all := lw_g (lw_at lw_m3 144 rfl) rfl
theorem q676 : (Jvm.Cond.soleField "SledHouse$Rule" "tests") ∈ lw_all := lw_g (lw_at lw_m3 145 rfl) rfl
theorem q677 : (Jvm.Cond.lays "SledHouse$Rule" "SledHouse$Rule" "many" "I") ∈ lw_all := lw_g (lw_at lw_m3 146 rfl) rfl
theorem q678 : (Jvm.Cond.soleField "SledHouse$Rule" "many") ∈ lw_all := lw_g (lw_at lw_m3 147 rfl) rfl
theorem q679 : (Jvm.Cond.lays "SledHouse$Rule" "SledHouse$Rule" "act" "I") ∈ lw_all := lw_g (lw_at lw_m3 148 rfl) rfl
theorem q680 : (Jvm.Cond.soleField "SledHouse$Rule" "act") ∈ lw_all := lw_g (lw_at lw_m3 149 rfl) rfl
theorem q681 : (Jvm.Cond.superclass "SledHouse$Rule" "java/lang/Object") ∈ lw_all := lw_g (lw_at lw_m3 150 rfl) rfl
theorem q683 : (Jvm.Cond.instanceMethod ({ cls := "SledHouse$Rule", name := "read", desc := "(LSledHouse$Reader;)V" } : Jvm.MethodName)) ∈ lw_all := lw_g (lw_at lw_m3 152 rfl) rfl
theorem q684 : (Jvm.Cond.selects "SledHouse$Rule" ({ cls := "SledHouse$Rule", name := "read", desc := "(LSledHouse$Reader;)V" } : Jvm.MethodName) ({ cls := "SledHouse$Rule", name := "read", desc := "(LSledHouse$Reader;)V" } : Jvm.MethodName)) ∈ lw_all := lw_g (lw_at lw_m3 153 rfl) rfl
theorem q685 : (Jvm.Cond.code ({ cls := "SledHouse$Rule", name := "read", desc := "(LSledHouse$Reader;)V" } : Jvm.MethodName) prog_11_method_2_code (2 : Nat) (Option.none : Option Jvm.ClassFile.FieldType)) ∈ lw_all := lw_g (lw_at lw_m3 154 rfl) rfl
theorem q686 : (Jvm.Cond.stringRef "SledHouse$Rule" (17 : Nat) "when") ∈ lw_tbl := lw_at lw_m3 155 rfl
theorem q687 : (Jvm.Cond.methodLink "SledHouse$Rule" (19 : Nat) ({ cls := "SledHouse$Reader", name := "takes", desc := "(Ljava/lang/String;)Z" } : Jvm.MethodName)) ∈ lw_all := lw_g (lw_at lw_m3 156 rfl) rfl
theorem q692 : (Jvm.Cond.methodLink "SledHouse$Rule" (25 : Nat) ({ cls := "SledHouse$Rule", name := "test", desc := "(LSledHouse$Reader;)V" } : Jvm.MethodName)) ∈ lw_all := lw_g (lw_at lw_m3 161 rfl) rfl
theorem q693 : (Jvm.Cond.privateMethod ({ cls := "SledHouse$Rule", name := "test", desc := "(LSledHouse$Reader;)V" } : Jvm.MethodName)) ∈ lw_tbl := lw_at lw_m3 162 rfl
theorem q694 : (Jvm.Cond.instanceMethod ({ cls := "SledHouse$Rule", name := "test", desc := "(LSledHouse$Reader;)V" } : Jvm.MethodName)) ∈ lw_all := lw_g (lw_at lw_m3 163 rfl) rfl
theorem q695 : (Jvm.Cond.code ({ cls := "SledHouse$Rule", name := "test", desc := "(LSledHouse$Reader;)V" } : Jvm.MethodName) prog_11_method_3_code (4 : Nat) (Option.none : Option Jvm.ClassFile.FieldType)) ∈ lw_all := lw_g (lw_at lw_m3 164 rfl) rfl
theorem q696 : (Jvm.Cond.methodLink "SledHouse$Rule" (46 : Nat) ({ cls := "SledHouse$Reader", name := "fail", desc := "(I)LSledHouse$Refused;" } : Jvm.MethodName)) ∈ lw_all := lw_g (lw_at lw_m3 165 rfl) rfl
theorem q697 : (Jvm.Cond.methodLinkNest "SledHouse$Rule" (53 : Nat) ({ cls := "SledHouse", name := "nameOf", desc := "(Ljava/lang/String;)I" } : Jvm.MethodName) "SledHouse") ∈ lw_tbl := lw_at lw_m3 166 rfl
theorem q711 : (Jvm.Cond.methodLink "SledHouse$Rule" (56 : Nat) ({ cls := "SledHouse$Rule", name := "isKept", desc := "(Ljava/lang/String;)Z" } : Jvm.MethodName)) ∈ lw_all := lw_g (lw_at lw_m3 180 rfl) rfl
theorem q712 : (Jvm.Cond.static ({ cls := "SledHouse$Rule", name := "isKept", desc := "(Ljava/lang/String;)Z" } : Jvm.MethodName)) ∈ lw_all := lw_g (lw_at lw_m3 181 rfl) rfl
theorem q713 : (Jvm.Cond.code ({ cls := "SledHouse$Rule", name := "isKept", desc := "(Ljava/lang/String;)Z" } : Jvm.MethodName) prog_11_method_4_code (1 : Nat) (Option.some Jvm.ClassFile.FieldType.boolean)) ∈ lw_all := lw_g (lw_at lw_m3 182 rfl) rfl
theorem q714 : (Jvm.Cond.methodLink "SledHouse$Rule" (72 : Nat) ({ cls := "java/lang/String", name := "equals", desc := "(Ljava/lang/Object;)Z" } : Jvm.MethodName)) ∈ lw_all := lw_g (lw_at lw_m3 183 rfl) rfl
theorem q715 : (Jvm.Cond.stringRef "SledHouse$Rule" (29 : Nat) "and") ∈ lw_tbl := lw_at lw_m3 184 rfl
theorem q716 : (Jvm.Cond.methodLinkNest "SledHouse$Rule" (39 : Nat) ({ cls := "SledHouse", name := "actOf", desc := "(Ljava/lang/String;)I" } : Jvm.MethodName) "SledHouse") ∈ lw_tbl := lw_at lw_m3 185 rfl
theorem q717 : (Jvm.Cond.methodLink "SledHouse$Rule" (50 : Nat) ({ cls := "SledHouse$Reader", name := "next", desc := "()V" } : Jvm.MethodName)) ∈ lw_all := lw_g (lw_at lw_m3 186 rfl) rfl
theorem q718 : (Jvm.Cond.methodLink "SledHouse$Rule" (62 : Nat) ({ cls := "SledHouse$Reader", name := "takes", desc := "(I)Z" } : Jvm.MethodName)) ∈ lw_all := lw_g (lw_at lw_m3 187 rfl) rfl
theorem q723 : (Jvm.Cond.methodLink "SledHouse$Rule" (65 : Nat) ({ cls := "SledHouse$Reader", name := "number", desc := "()I" } : Jvm.MethodName)) ∈ lw_all := lw_g (lw_at lw_m3 192 rfl) rfl
theorem q728 : (Jvm.Cond.methodLink "SledHouse$Rule" (69 : Nat) ({ cls := "SledHouse$Test", name := "<init>", desc := "(IZI)V" } : Jvm.MethodName)) ∈ lw_all := lw_g (lw_at lw_m3 197 rfl) rfl
theorem q892 : (Jvm.Cond.instanceMethod ({ cls := "SledHouse$Rule", name := "holds", desc := "(LSledHouse$Team;LSledHouse$World;I)Z" } : Jvm.MethodName)) ∈ lw_all := lw_g (lw_at lw_m4 121 rfl) rfl
theorem q893 : (Jvm.Cond.selects "SledHouse$Rule" ({ cls := "SledHouse$Rule", name := "holds", desc := "(LSledHouse$Team;LSledHouse$World;I)Z" } : Jvm.MethodName) ({ cls := "SledHouse$Rule", name := "holds", desc := "(LSledHouse$Team;LSledHouse$World;I)Z" } : Jvm.MethodName)) ∈ lw_all := lw_g (lw_at lw_m4 122 rfl) rfl
theorem q894 : (Jvm.Cond.code ({ cls := "SledHouse$Rule", name := "holds", desc := "(LSledHouse$Team;LSledHouse$World;I)Z" } : Jvm.MethodName) prog_11_method_5_code (6 : Nat) (Option.some Jvm.ClassFile.FieldType.boolean)) ∈ lw_all := lw_g (lw_at lw_m4 123 rfl) rfl
theorem q895 : (Jvm.Cond.methodLink "SledHouse$Rule" (78 : Nat) ({ cls := "SledHouse$Test", name := "holds", desc := "(LSledHouse$Team;LSledHouse$World;I)Z" } : Jvm.MethodName)) ∈ lw_all := lw_g (lw_at lw_m4 124 rfl) rfl
theorem in_X10 : ∀ w ∈ wsX100, w ∈ lw_all := lw_in wsX100 [675, 677, 679] (by decide +kernel) (by decide +kernel)

/-! SledHouse$Test -/
set_option maxRecDepth 100000
def RX11 : String := "SledHouse$Test"
def TX11 : u_T := fun k => match k with
  | 0 => ("SledHouse$Test", "name", "I", true)
  | 1 => ("SledHouse$Test", "number", "I", true)
  | _ => ("SledHouse$Test", "isLess", "Z", true)
def tyX11 : Nat → FieldType := fun k => match k with
  | 0 => .int
  | 1 => .int
  | _ => .boolean
abbrev wsX110 : List Cond := u_ws RX11 TX11 3
theorem nmX11 : ∀ a, a < 3 → ∀ b, b < 3 → a ≠ b → (TX11 a).2.1 ≠ (TX11 b).2.1 := by decide +kernel
theorem tyX11_ok : ∀ k, k < 3 → parseFieldDescriptor (TX11 k).2.2.1 = some (tyX11 k) := by decide +kernel
abbrev cX11_init : ByteArray := prog_13_method_1_code
def yX11_init : MethodName := ⟨RX11, "<init>", "(IZI)V"⟩
def dkwX11_init_0 : List UInt8 := [42, 183, 0, 1, 42, 27, 181, 0, 7, 42, 28, 181, 0, 13, 42, 29, 181, 0, 17, 177]
abbrev dktX11_init_0 : List UInt8 := dkwX11_init_0 ++ []
theorem dksX11_init_0 : cX11_init.data.toList.drop 0 = dktX11_init_0 := by decide +kernel
theorem dX11_init_0 : decode cX11_init 0 = .ok (.aload_n 0, 1) := dk_42 (dk_at dksX11_init_0 0 rfl rfl)
theorem dX11_init_1 : decode cX11_init 1 = .ok (.invokespecial 1, 3) := dk_183 0 1 (dk_at dksX11_init_0 1 rfl rfl)
theorem dX11_init_4 : decode cX11_init 4 = .ok (.aload_n 0, 1) := dk_42 (dk_at dksX11_init_0 4 rfl rfl)
theorem dX11_init_5 : decode cX11_init 5 = .ok (.iload_n 1, 1) := dk_27 (dk_at dksX11_init_0 5 rfl rfl)
theorem dX11_init_6 : decode cX11_init 6 = .ok (.putfield 7, 3) := dk_181 0 7 (dk_at dksX11_init_0 6 rfl rfl)
theorem dX11_init_9 : decode cX11_init 9 = .ok (.aload_n 0, 1) := dk_42 (dk_at dksX11_init_0 9 rfl rfl)
theorem dX11_init_10 : decode cX11_init 10 = .ok (.iload_n 2, 1) := dk_28 (dk_at dksX11_init_0 10 rfl rfl)
theorem dX11_init_11 : decode cX11_init 11 = .ok (.putfield 13, 3) := dk_181 0 13 (dk_at dksX11_init_0 11 rfl rfl)
theorem dX11_init_14 : decode cX11_init 14 = .ok (.aload_n 0, 1) := dk_42 (dk_at dksX11_init_0 14 rfl rfl)
theorem dX11_init_15 : decode cX11_init 15 = .ok (.iload_n 3, 1) := dk_29 (dk_at dksX11_init_0 15 rfl rfl)
theorem dX11_init_16 : decode cX11_init 16 = .ok (.putfield 17, 3) := dk_181 0 17 (dk_at dksX11_init_0 16 rfl rfl)
theorem dX11_init_19 : decode cX11_init 19 = .ok (.return_, 1) := dk_177 (dk_at dksX11_init_0 19 rfl rfl)
abbrev cX11_holds : ByteArray := prog_13_method_2_code
def yX11_holds : MethodName := ⟨RX11, "holds", "(LSledHouse$Team;LSledHouse$World;I)Z"⟩
def dkwX11_holds_2 : List UInt8 := [167, 0, 4, 3, 172]
abbrev dktX11_holds_2 : List UInt8 := dkwX11_holds_2 ++ []
def dkwX11_holds_1 : List UInt8 := [180, 0, 17, 162, 0, 7, 4, 167, 0, 21, 3, 167, 0, 17, 21, 4, 42, 180, 0, 17, 164, 0, 7, 4]
abbrev dktX11_holds_1 : List UInt8 := dkwX11_holds_1 ++ dktX11_holds_2
def dkwX11_holds_0 : List UInt8 := [43, 42, 180, 0, 7, 44, 29, 182, 0, 20, 54, 4, 42, 180, 0, 13, 153, 0, 20, 21, 4, 42]
abbrev dktX11_holds_0 : List UInt8 := dkwX11_holds_0 ++ dktX11_holds_1
theorem dksX11_holds_0 : cX11_holds.data.toList.drop 0 = dktX11_holds_0 := by decide +kernel
theorem dksX11_holds_1 : cX11_holds.data.toList.drop 22 = dktX11_holds_1 := dk_seg dksX11_holds_0 22 rfl rfl
theorem dksX11_holds_2 : cX11_holds.data.toList.drop 46 = dktX11_holds_2 := dk_seg dksX11_holds_1 24 rfl rfl
theorem dX11_holds_0 : decode cX11_holds 0 = .ok (.aload_n 1, 1) := dk_43 (dk_at dksX11_holds_0 0 rfl rfl)
theorem dX11_holds_1 : decode cX11_holds 1 = .ok (.aload_n 0, 1) := dk_42 (dk_at dksX11_holds_0 1 rfl rfl)
theorem dX11_holds_2 : decode cX11_holds 2 = .ok (.getfield 7, 3) := dk_180 0 7 (dk_at dksX11_holds_0 2 rfl rfl)
theorem dX11_holds_5 : decode cX11_holds 5 = .ok (.aload_n 2, 1) := dk_44 (dk_at dksX11_holds_0 5 rfl rfl)
theorem dX11_holds_6 : decode cX11_holds 6 = .ok (.iload_n 3, 1) := dk_29 (dk_at dksX11_holds_0 6 rfl rfl)
theorem dX11_holds_7 : decode cX11_holds 7 = .ok (.invokevirtual 20, 3) := dk_182 0 20 (dk_at dksX11_holds_0 7 rfl rfl)
theorem dX11_holds_10 : decode cX11_holds 10 = .ok (.istore 4, 2) := dk_54 4 (dk_at dksX11_holds_0 10 rfl rfl)
theorem dX11_holds_12 : decode cX11_holds 12 = .ok (.aload_n 0, 1) := dk_42 (dk_at dksX11_holds_0 12 rfl rfl)
theorem dX11_holds_13 : decode cX11_holds 13 = .ok (.getfield 13, 3) := dk_180 0 13 (dk_at dksX11_holds_0 13 rfl rfl)
theorem dX11_holds_16 : decode cX11_holds 16 = .ok (.ifCond .eq 20, 3) := dk_153 0 20 (dk_at dksX11_holds_0 16 rfl rfl)
theorem dX11_holds_19 : decode cX11_holds 19 = .ok (.iload 4, 2) := dk_21 4 (dk_at dksX11_holds_0 19 rfl rfl)
theorem dX11_holds_21 : decode cX11_holds 21 = .ok (.aload_n 0, 1) := dk_42 (dk_at dksX11_holds_0 21 rfl rfl)
theorem dX11_holds_22 : decode cX11_holds 22 = .ok (.getfield 17, 3) := dk_180 0 17 (dk_at dksX11_holds_1 0 rfl rfl)
theorem dX11_holds_25 : decode cX11_holds 25 = .ok (.if_icmp .ge 7, 3) := dk_162 0 7 (dk_at dksX11_holds_1 3 rfl rfl)
theorem dX11_holds_28 : decode cX11_holds 28 = .ok (.iconst 1, 1) := dk_4 (dk_at dksX11_holds_1 6 rfl rfl)
theorem dX11_holds_29 : decode cX11_holds 29 = .ok (.goto 21, 3) := dk_167 0 21 (dk_at dksX11_holds_1 7 rfl rfl)
theorem dX11_holds_32 : decode cX11_holds 32 = .ok (.iconst 0, 1) := dk_3 (dk_at dksX11_holds_1 10 rfl rfl)
theorem dX11_holds_33 : decode cX11_holds 33 = .ok (.goto 17, 3) := dk_167 0 17 (dk_at dksX11_holds_1 11 rfl rfl)
theorem dX11_holds_36 : decode cX11_holds 36 = .ok (.iload 4, 2) := dk_21 4 (dk_at dksX11_holds_1 14 rfl rfl)
theorem dX11_holds_38 : decode cX11_holds 38 = .ok (.aload_n 0, 1) := dk_42 (dk_at dksX11_holds_1 16 rfl rfl)
theorem dX11_holds_39 : decode cX11_holds 39 = .ok (.getfield 17, 3) := dk_180 0 17 (dk_at dksX11_holds_1 17 rfl rfl)
theorem dX11_holds_42 : decode cX11_holds 42 = .ok (.if_icmp .le 7, 3) := dk_164 0 7 (dk_at dksX11_holds_1 20 rfl rfl)
theorem dX11_holds_45 : decode cX11_holds 45 = .ok (.iconst 1, 1) := dk_4 (dk_at dksX11_holds_1 23 rfl rfl)
theorem dX11_holds_46 : decode cX11_holds 46 = .ok (.goto 4, 3) := dk_167 0 4 (dk_at dksX11_holds_2 0 rfl rfl)
theorem dX11_holds_49 : decode cX11_holds 49 = .ok (.iconst 0, 1) := dk_3 (dk_at dksX11_holds_2 3 rfl rfl)
theorem dX11_holds_50 : decode cX11_holds 50 = .ok (.ireturn, 1) := dk_172 (dk_at dksX11_holds_2 4 rfl rfl)
theorem q71 : (Jvm.Cond.initialized "SledHouse$Test") ∈ lw_all := lw_g (lw_at lw_m1 20 rfl) rfl
theorem q722 : (Jvm.Cond.instantiable "SledHouse$Test" (3 : Nat)) ∈ lw_all := lw_g (lw_at lw_m3 191 rfl) rfl
theorem q729 : (Jvm.Cond.instanceMethod ({ cls := "SledHouse$Test", name := "<init>", desc := "(IZI)V" } : Jvm.MethodName)) ∈ lw_all := lw_g (lw_at lw_m3 198 rfl) rfl
theorem q730 : (Jvm.Cond.code ({ cls := "SledHouse$Test", name := "<init>", desc := "(IZI)V" } : Jvm.MethodName) prog_13_method_1_code (4 : Nat) (Option.none : Option Jvm.ClassFile.FieldType)) ∈ lw_all := lw_g (lw_at lw_m3 199 rfl) rfl
theorem q731 : (Jvm.Cond.methodLink "SledHouse$Test" (1 : Nat) ({ cls := "java/lang/Object", name := "<init>", desc := "()V" } : Jvm.MethodName)) ∈ lw_all := lw_g (lw_at lw_m3 200 rfl) rfl
theorem q732 : (Jvm.Cond.fieldLink "SledHouse$Test" (7 : Nat) "SledHouse$Test" "name" "I") ∈ lw_all := lw_g (lw_at lw_m3 201 rfl) rfl
theorem q733 : (Jvm.Cond.fieldLink "SledHouse$Test" (17 : Nat) "SledHouse$Test" "number" "I") ∈ lw_all := lw_g (lw_at lw_m3 202 rfl) rfl
theorem q734 : (Jvm.Cond.fieldLink "SledHouse$Test" (13 : Nat) "SledHouse$Test" "isLess" "Z") ∈ lw_all := lw_g (lw_at lw_m3 203 rfl) rfl
theorem q735 : (Jvm.Cond.laysFinal "SledHouse$Test" "SledHouse$Test" "name" "I") ∈ lw_all := lw_g (lw_at lw_m3 204 rfl) rfl
theorem q736 : (Jvm.Cond.soleField "SledHouse$Test" "name") ∈ lw_all := lw_g (lw_at lw_m3 205 rfl) rfl
theorem q737 : (Jvm.Cond.laysFinal "SledHouse$Test" "SledHouse$Test" "number" "I") ∈ lw_all := lw_g (lw_at lw_m3 206 rfl) rfl
theorem q738 : (Jvm.Cond.soleField "SledHouse$Test" "number") ∈ lw_all := lw_g (lw_at lw_m3 207 rfl) rfl
theorem q739 : (Jvm.Cond.laysFinal "SledHouse$Test" "SledHouse$Test" "isLess" "Z") ∈ lw_all := lw_g (lw_at lw_m3 208 rfl) rfl
theorem q740 : (Jvm.Cond.soleField "SledHouse$Test" "isLess") ∈ lw_all := lw_g (lw_at lw_m3 209 rfl) rfl
theorem q741 : (Jvm.Cond.superclass "SledHouse$Test" "java/lang/Object") ∈ lw_all := lw_g (lw_at lw_m3 210 rfl) rfl
theorem q896 : (Jvm.Cond.instanceMethod ({ cls := "SledHouse$Test", name := "holds", desc := "(LSledHouse$Team;LSledHouse$World;I)Z" } : Jvm.MethodName)) ∈ lw_all := lw_g (lw_at lw_m4 125 rfl) rfl
theorem q897 : (Jvm.Cond.selects "SledHouse$Test" ({ cls := "SledHouse$Test", name := "holds", desc := "(LSledHouse$Team;LSledHouse$World;I)Z" } : Jvm.MethodName) ({ cls := "SledHouse$Test", name := "holds", desc := "(LSledHouse$Team;LSledHouse$World;I)Z" } : Jvm.MethodName)) ∈ lw_all := lw_g (lw_at lw_m4 126 rfl) rfl
theorem q898 : (Jvm.Cond.code ({ cls := "SledHouse$Test", name := "holds", desc := "(LSledHouse$Team;LSledHouse$World;I)Z" } : Jvm.MethodName) prog_13_method_2_code (5 : Nat) (Option.some Jvm.ClassFile.FieldType.boolean)) ∈ lw_all := lw_g (lw_at lw_m4 127 rfl) rfl
theorem q899 : (Jvm.Cond.methodLink "SledHouse$Test" (20 : Nat) ({ cls := "SledHouse$Team", name := "told", desc := "(ILSledHouse$World;I)I" } : Jvm.MethodName)) ∈ lw_all := lw_g (lw_at lw_m4 128 rfl) rfl
theorem in_X11 : ∀ w ∈ wsX110, w ∈ lw_all := lw_in wsX110 [735, 737, 739] (by decide +kernel) (by decide +kernel)

/-! SledHouse$Law -/
set_option maxRecDepth 100000
def RX12 : String := "SledHouse$Law"
abbrev cX12_init : ByteArray := prog_4_method_1_code
def yX12_init : MethodName := ⟨RX12, "<init>", "(I)V"⟩
def dkwX12_init_0 : List UInt8 := [42, 183, 0, 1, 42, 27, 181, 0, 7, 177]
abbrev dktX12_init_0 : List UInt8 := dkwX12_init_0 ++ []
theorem dksX12_init_0 : cX12_init.data.toList.drop 0 = dktX12_init_0 := by decide +kernel
theorem dX12_init_0 : decode cX12_init 0 = .ok (.aload_n 0, 1) := dk_42 (dk_at dksX12_init_0 0 rfl rfl)
theorem dX12_init_1 : decode cX12_init 1 = .ok (.invokespecial 1, 3) := dk_183 0 1 (dk_at dksX12_init_0 1 rfl rfl)
theorem dX12_init_4 : decode cX12_init 4 = .ok (.aload_n 0, 1) := dk_42 (dk_at dksX12_init_0 4 rfl rfl)
theorem dX12_init_5 : decode cX12_init 5 = .ok (.iload_n 1, 1) := dk_27 (dk_at dksX12_init_0 5 rfl rfl)
theorem dX12_init_6 : decode cX12_init 6 = .ok (.putfield 7, 3) := dk_181 0 7 (dk_at dksX12_init_0 6 rfl rfl)
theorem dX12_init_9 : decode cX12_init 9 = .ok (.return_, 1) := dk_177 (dk_at dksX12_init_0 9 rfl rfl)
abbrev cX12_lacks : ByteArray := prog_4_method_3_code
def yX12_lacks : MethodName := ⟨RX12, "lacks", "(LSledHouse$Team;LSledHouse$World;)I"⟩
theorem dX12_lacks_0 : decode cX12_lacks 0 = .ok (.iconst 0, 1) := by decide +kernel
theorem dX12_lacks_1 : decode cX12_lacks 1 = .ok (.ireturn, 1) := by decide +kernel
abbrev cX12_isRest : ByteArray := prog_4_method_4_code
def yX12_isRest : MethodName := ⟨RX12, "isRest", "()Z"⟩
theorem dX12_isRest_0 : decode cX12_isRest 0 = .ok (.iconst 0, 1) := by decide +kernel
theorem dX12_isRest_1 : decode cX12_isRest 1 = .ok (.ireturn, 1) := by decide +kernel
abbrev cX12_number : ByteArray := prog_4_method_2_code
def yX12_number : MethodName := ⟨RX12, "number", "(I)I"⟩
theorem dX12_number_0 : decode cX12_number 0 = .ok (.iconst 0, 1) := by decide +kernel
theorem dX12_number_1 : decode cX12_number 1 = .ok (.ireturn, 1) := by decide +kernel
theorem q72 : (Jvm.Cond.initialized "SledHouse$Law") ∈ lw_all := lw_g (lw_at lw_m1 21 rfl) rfl
theorem q769 : (Jvm.Cond.instanceMethod ({ cls := "SledHouse$Law", name := "<init>", desc := "(I)V" } : Jvm.MethodName)) ∈ lw_all := lw_g (lw_at lw_m3 238 rfl) rfl
theorem q770 : (Jvm.Cond.code ({ cls := "SledHouse$Law", name := "<init>", desc := "(I)V" } : Jvm.MethodName) prog_4_method_1_code (2 : Nat) (Option.none : Option Jvm.ClassFile.FieldType)) ∈ lw_all := lw_g (lw_at lw_m3 239 rfl) rfl
theorem q771 : (Jvm.Cond.methodLink "SledHouse$Law" (1 : Nat) ({ cls := "java/lang/Object", name := "<init>", desc := "()V" } : Jvm.MethodName)) ∈ lw_all := lw_g (lw_at lw_m4 0 rfl) rfl
theorem q775 : (Jvm.Cond.fieldLink "SledHouse$Law" (7 : Nat) "SledHouse$Law" "kind" "I") ∈ lw_all := lw_g (lw_at lw_m4 4 rfl) rfl
theorem q784 : (Jvm.Cond.soleField "SledHouse$Law" "kind") ∈ lw_all := lw_g (lw_at lw_m4 13 rfl) rfl
theorem q997 : (Jvm.Cond.instanceMethod ({ cls := "SledHouse$Law", name := "lacks", desc := "(LSledHouse$Team;LSledHouse$World;)I" } : Jvm.MethodName)) ∈ lw_all := lw_g (lw_at lw_m4 226 rfl) rfl
theorem q998 : (Jvm.Cond.sameMethod "SledHouse$Law" "SledHouse$Law" "lacks" "(LSledHouse$Team;LSledHouse$World;)I") ∈ lw_all := lw_g (lw_at lw_m4 227 rfl) rfl
theorem q1012 : (Jvm.Cond.code ({ cls := "SledHouse$Law", name := "lacks", desc := "(LSledHouse$Team;LSledHouse$World;)I" } : Jvm.MethodName) prog_4_method_3_code (3 : Nat) (Option.some Jvm.ClassFile.FieldType.int)) ∈ lw_all := lw_g (lw_at lw_m5 1 rfl) rfl
theorem q1014 : (Jvm.Cond.instanceMethod ({ cls := "SledHouse$Law", name := "isRest", desc := "()Z" } : Jvm.MethodName)) ∈ lw_all := lw_g (lw_at lw_m5 3 rfl) rfl
theorem q1015 : (Jvm.Cond.sameMethod "SledHouse$Law" "SledHouse$Law" "isRest" "()Z") ∈ lw_all := lw_g (lw_at lw_m5 4 rfl) rfl
theorem q1022 : (Jvm.Cond.code ({ cls := "SledHouse$Law", name := "isRest", desc := "()Z" } : Jvm.MethodName) prog_4_method_4_code (1 : Nat) (Option.some Jvm.ClassFile.FieldType.boolean)) ∈ lw_all := lw_g (lw_at lw_m5 11 rfl) rfl
theorem q1024 : (Jvm.Cond.instanceMethod ({ cls := "SledHouse$Law", name := "number", desc := "(I)I" } : Jvm.MethodName)) ∈ lw_all := lw_g (lw_at lw_m5 13 rfl) rfl
theorem q1025 : (Jvm.Cond.sameMethod "SledHouse$Law" "SledHouse$Law" "number" "(I)I") ∈ lw_all := lw_g (lw_at lw_m5 14 rfl) rfl
theorem q1030 : (Jvm.Cond.code ({ cls := "SledHouse$Law", name := "number", desc := "(I)I" } : Jvm.MethodName) prog_4_method_2_code (2 : Nat) (Option.some Jvm.ClassFile.FieldType.int)) ∈ lw_all := lw_g (lw_at lw_m5 19 rfl) rfl

/-! SledHouse$RestFrom -/
set_option maxRecDepth 100000
def RX13 : String := "SledHouse$RestFrom"
def TX13 : u_T := fun k => match k with
  | 0 => ("SledHouse$Law", "kind", "I", true)
  | 1 => ("SledHouse$RestFrom", "steps", "I", true)
  | 2 => ("SledHouse$RestFrom", "from", "I", true)
  | _ => ("SledHouse$RestFrom", "to", "I", true)
def tyX13 : Nat → FieldType := fun k => match k with
  | 0 => .int
  | 1 => .int
  | 2 => .int
  | _ => .int
abbrev wsX130 : List Cond := u_ws RX13 TX13 4
theorem nmX13 : ∀ a, a < 4 → ∀ b, b < 4 → a ≠ b → (TX13 a).2.1 ≠ (TX13 b).2.1 := by decide +kernel
theorem tyX13_ok : ∀ k, k < 4 → parseFieldDescriptor (TX13 k).2.2.1 = some (tyX13 k) := by decide +kernel
abbrev cX13_init : ByteArray := prog_10_method_2_code
def yX13_init : MethodName := ⟨RX13, "<init>", "(IIII)V"⟩
def dkwX13_init_0 : List UInt8 := [42, 27, 183, 0, 7, 42, 28, 181, 0, 12, 42, 29, 181, 0, 16, 42, 21, 4, 181, 0, 19, 177]
abbrev dktX13_init_0 : List UInt8 := dkwX13_init_0 ++ []
theorem dksX13_init_0 : cX13_init.data.toList.drop 0 = dktX13_init_0 := by decide +kernel
theorem dX13_init_0 : decode cX13_init 0 = .ok (.aload_n 0, 1) := dk_42 (dk_at dksX13_init_0 0 rfl rfl)
theorem dX13_init_1 : decode cX13_init 1 = .ok (.iload_n 1, 1) := dk_27 (dk_at dksX13_init_0 1 rfl rfl)
theorem dX13_init_2 : decode cX13_init 2 = .ok (.invokespecial 7, 3) := dk_183 0 7 (dk_at dksX13_init_0 2 rfl rfl)
theorem dX13_init_5 : decode cX13_init 5 = .ok (.aload_n 0, 1) := dk_42 (dk_at dksX13_init_0 5 rfl rfl)
theorem dX13_init_6 : decode cX13_init 6 = .ok (.iload_n 2, 1) := dk_28 (dk_at dksX13_init_0 6 rfl rfl)
theorem dX13_init_7 : decode cX13_init 7 = .ok (.putfield 12, 3) := dk_181 0 12 (dk_at dksX13_init_0 7 rfl rfl)
theorem dX13_init_10 : decode cX13_init 10 = .ok (.aload_n 0, 1) := dk_42 (dk_at dksX13_init_0 10 rfl rfl)
theorem dX13_init_11 : decode cX13_init 11 = .ok (.iload_n 3, 1) := dk_29 (dk_at dksX13_init_0 11 rfl rfl)
theorem dX13_init_12 : decode cX13_init 12 = .ok (.putfield 16, 3) := dk_181 0 16 (dk_at dksX13_init_0 12 rfl rfl)
theorem dX13_init_15 : decode cX13_init 15 = .ok (.aload_n 0, 1) := dk_42 (dk_at dksX13_init_0 15 rfl rfl)
theorem dX13_init_16 : decode cX13_init 16 = .ok (.iload 4, 2) := dk_21 4 (dk_at dksX13_init_0 16 rfl rfl)
theorem dX13_init_18 : decode cX13_init 18 = .ok (.putfield 19, 3) := dk_181 0 19 (dk_at dksX13_init_0 18 rfl rfl)
theorem dX13_init_21 : decode cX13_init 21 = .ok (.return_, 1) := dk_177 (dk_at dksX13_init_0 21 rfl rfl)
abbrev cX13_init_2 : ByteArray := prog_10_method_1_code
def yX13_init_2 : MethodName := ⟨RX13, "<init>", "(III)V"⟩
def dkwX13_init_2_0 : List UInt8 := [42, 4, 27, 28, 29, 183, 0, 1, 177]
abbrev dktX13_init_2_0 : List UInt8 := dkwX13_init_2_0 ++ []
theorem dksX13_init_2_0 : cX13_init_2.data.toList.drop 0 = dktX13_init_2_0 := by decide +kernel
theorem dX13_init_2_0 : decode cX13_init_2 0 = .ok (.aload_n 0, 1) := dk_42 (dk_at dksX13_init_2_0 0 rfl rfl)
theorem dX13_init_2_1 : decode cX13_init_2 1 = .ok (.iconst 1, 1) := dk_4 (dk_at dksX13_init_2_0 1 rfl rfl)
theorem dX13_init_2_2 : decode cX13_init_2 2 = .ok (.iload_n 1, 1) := dk_27 (dk_at dksX13_init_2_0 2 rfl rfl)
theorem dX13_init_2_3 : decode cX13_init_2 3 = .ok (.iload_n 2, 1) := dk_28 (dk_at dksX13_init_2_0 3 rfl rfl)
theorem dX13_init_2_4 : decode cX13_init_2 4 = .ok (.iload_n 3, 1) := dk_29 (dk_at dksX13_init_2_0 4 rfl rfl)
theorem dX13_init_2_5 : decode cX13_init_2 5 = .ok (.invokespecial 1, 3) := dk_183 0 1 (dk_at dksX13_init_2_0 5 rfl rfl)
theorem dX13_init_2_8 : decode cX13_init_2 8 = .ok (.return_, 1) := dk_177 (dk_at dksX13_init_2_0 8 rfl rfl)
abbrev cX13_lacks : ByteArray := prog_10_method_5_code
def yX13_lacks : MethodName := ⟨RX13, "lacks", "(LSledHouse$Team;LSledHouse$World;)I"⟩
def dkwX13_lacks_3 : List UInt8 := [132, 4, 1, 167, 255, 193, 29, 18, 24, 160, 0, 7, 3, 167, 0, 4, 29, 172]
abbrev dktX13_lacks_3 : List UInt8 := dkwX13_lacks_3 ++ []
def dkwX13_lacks_2 : List UInt8 := [180, 0, 30, 21, 4, 46, 43, 180, 0, 36, 21, 4, 46, 100, 100, 184, 0, 39, 184, 0, 45, 62]
abbrev dktX13_lacks_2 : List UInt8 := dkwX13_lacks_2 ++ dktX13_lacks_3
def dkwX13_lacks_1 : List UInt8 := [163, 0, 51, 29, 21, 4, 44, 180, 0, 25, 160, 0, 7, 3, 167, 0, 27, 3, 42, 180, 0, 12, 43]
abbrev dktX13_lacks_1 : List UInt8 := dkwX13_lacks_1 ++ dktX13_lacks_2
def dkwX13_lacks_0 : List UInt8 := [18, 24, 62, 42, 180, 0, 16, 54, 4, 21, 4, 42, 180, 0, 19, 163, 0, 60, 21, 4, 44, 180, 0, 25]
abbrev dktX13_lacks_0 : List UInt8 := dkwX13_lacks_0 ++ dktX13_lacks_1
theorem dksX13_lacks_0 : cX13_lacks.data.toList.drop 0 = dktX13_lacks_0 := by decide +kernel
theorem dksX13_lacks_1 : cX13_lacks.data.toList.drop 24 = dktX13_lacks_1 := dk_seg dksX13_lacks_0 24 rfl rfl
theorem dksX13_lacks_2 : cX13_lacks.data.toList.drop 47 = dktX13_lacks_2 := dk_seg dksX13_lacks_1 23 rfl rfl
theorem dksX13_lacks_3 : cX13_lacks.data.toList.drop 69 = dktX13_lacks_3 := dk_seg dksX13_lacks_2 22 rfl rfl
theorem dX13_lacks_0 : decode cX13_lacks 0 = .ok (.ldc 24, 2) := dk_18 24 (dk_at dksX13_lacks_0 0 rfl rfl)
theorem dX13_lacks_2 : decode cX13_lacks 2 = .ok (.istore_n 3, 1) := dk_62 (dk_at dksX13_lacks_0 2 rfl rfl)
theorem dX13_lacks_3 : decode cX13_lacks 3 = .ok (.aload_n 0, 1) := dk_42 (dk_at dksX13_lacks_0 3 rfl rfl)
theorem dX13_lacks_4 : decode cX13_lacks 4 = .ok (.getfield 16, 3) := dk_180 0 16 (dk_at dksX13_lacks_0 4 rfl rfl)
theorem dX13_lacks_7 : decode cX13_lacks 7 = .ok (.istore 4, 2) := dk_54 4 (dk_at dksX13_lacks_0 7 rfl rfl)
theorem dX13_lacks_9 : decode cX13_lacks 9 = .ok (.iload 4, 2) := dk_21 4 (dk_at dksX13_lacks_0 9 rfl rfl)
theorem dX13_lacks_11 : decode cX13_lacks 11 = .ok (.aload_n 0, 1) := dk_42 (dk_at dksX13_lacks_0 11 rfl rfl)
theorem dX13_lacks_12 : decode cX13_lacks 12 = .ok (.getfield 19, 3) := dk_180 0 19 (dk_at dksX13_lacks_0 12 rfl rfl)
theorem dX13_lacks_15 : decode cX13_lacks 15 = .ok (.if_icmp .gt 60, 3) := dk_163 0 60 (dk_at dksX13_lacks_0 15 rfl rfl)
theorem dX13_lacks_18 : decode cX13_lacks 18 = .ok (.iload 4, 2) := dk_21 4 (dk_at dksX13_lacks_0 18 rfl rfl)
theorem dX13_lacks_20 : decode cX13_lacks 20 = .ok (.aload_n 2, 1) := dk_44 (dk_at dksX13_lacks_0 20 rfl rfl)
theorem dX13_lacks_21 : decode cX13_lacks 21 = .ok (.getfield 25, 3) := dk_180 0 25 (dk_at dksX13_lacks_0 21 rfl rfl)
theorem dX13_lacks_24 : decode cX13_lacks 24 = .ok (.if_icmp .gt 51, 3) := dk_163 0 51 (dk_at dksX13_lacks_1 0 rfl rfl)
theorem dX13_lacks_27 : decode cX13_lacks 27 = .ok (.iload_n 3, 1) := dk_29 (dk_at dksX13_lacks_1 3 rfl rfl)
theorem dX13_lacks_28 : decode cX13_lacks 28 = .ok (.iload 4, 2) := dk_21 4 (dk_at dksX13_lacks_1 4 rfl rfl)
theorem dX13_lacks_30 : decode cX13_lacks 30 = .ok (.aload_n 2, 1) := dk_44 (dk_at dksX13_lacks_1 6 rfl rfl)
theorem dX13_lacks_31 : decode cX13_lacks 31 = .ok (.getfield 25, 3) := dk_180 0 25 (dk_at dksX13_lacks_1 7 rfl rfl)
theorem dX13_lacks_34 : decode cX13_lacks 34 = .ok (.if_icmp .ne 7, 3) := dk_160 0 7 (dk_at dksX13_lacks_1 10 rfl rfl)
theorem dX13_lacks_37 : decode cX13_lacks 37 = .ok (.iconst 0, 1) := dk_3 (dk_at dksX13_lacks_1 13 rfl rfl)
theorem dX13_lacks_38 : decode cX13_lacks 38 = .ok (.goto 27, 3) := dk_167 0 27 (dk_at dksX13_lacks_1 14 rfl rfl)
theorem dX13_lacks_41 : decode cX13_lacks 41 = .ok (.iconst 0, 1) := dk_3 (dk_at dksX13_lacks_1 17 rfl rfl)
theorem dX13_lacks_42 : decode cX13_lacks 42 = .ok (.aload_n 0, 1) := dk_42 (dk_at dksX13_lacks_1 18 rfl rfl)
theorem dX13_lacks_43 : decode cX13_lacks 43 = .ok (.getfield 12, 3) := dk_180 0 12 (dk_at dksX13_lacks_1 19 rfl rfl)
theorem dX13_lacks_46 : decode cX13_lacks 46 = .ok (.aload_n 1, 1) := dk_43 (dk_at dksX13_lacks_1 22 rfl rfl)
theorem dX13_lacks_47 : decode cX13_lacks 47 = .ok (.getfield 30, 3) := dk_180 0 30 (dk_at dksX13_lacks_2 0 rfl rfl)
theorem dX13_lacks_50 : decode cX13_lacks 50 = .ok (.iload 4, 2) := dk_21 4 (dk_at dksX13_lacks_2 3 rfl rfl)
theorem dX13_lacks_52 : decode cX13_lacks 52 = .ok (.iaload, 1) := dk_46 (dk_at dksX13_lacks_2 5 rfl rfl)
theorem dX13_lacks_53 : decode cX13_lacks 53 = .ok (.aload_n 1, 1) := dk_43 (dk_at dksX13_lacks_2 6 rfl rfl)
theorem dX13_lacks_54 : decode cX13_lacks 54 = .ok (.getfield 36, 3) := dk_180 0 36 (dk_at dksX13_lacks_2 7 rfl rfl)
theorem dX13_lacks_57 : decode cX13_lacks 57 = .ok (.iload 4, 2) := dk_21 4 (dk_at dksX13_lacks_2 10 rfl rfl)
theorem dX13_lacks_59 : decode cX13_lacks 59 = .ok (.iaload, 1) := dk_46 (dk_at dksX13_lacks_2 12 rfl rfl)
theorem dX13_lacks_60 : decode cX13_lacks 60 = .ok (.isub, 1) := dk_100 (dk_at dksX13_lacks_2 13 rfl rfl)
theorem dX13_lacks_61 : decode cX13_lacks 61 = .ok (.isub, 1) := dk_100 (dk_at dksX13_lacks_2 14 rfl rfl)
theorem dX13_lacks_62 : decode cX13_lacks 62 = .ok (.invokestatic 39, 3) := dk_184 0 39 (dk_at dksX13_lacks_2 15 rfl rfl)
theorem dX13_lacks_65 : decode cX13_lacks 65 = .ok (.invokestatic 45, 3) := dk_184 0 45 (dk_at dksX13_lacks_2 18 rfl rfl)
theorem dX13_lacks_68 : decode cX13_lacks 68 = .ok (.istore_n 3, 1) := dk_62 (dk_at dksX13_lacks_2 21 rfl rfl)
theorem dX13_lacks_69 : decode cX13_lacks 69 = .ok (.iinc 4 1, 3) := dk_132 4 1 (dk_at dksX13_lacks_3 0 rfl rfl)
theorem dX13_lacks_72 : decode cX13_lacks 72 = .ok (.goto (-63), 3) := dk_167 255 193 (dk_at dksX13_lacks_3 3 rfl rfl)
theorem dX13_lacks_75 : decode cX13_lacks 75 = .ok (.iload_n 3, 1) := dk_29 (dk_at dksX13_lacks_3 6 rfl rfl)
theorem dX13_lacks_76 : decode cX13_lacks 76 = .ok (.ldc 24, 2) := dk_18 24 (dk_at dksX13_lacks_3 7 rfl rfl)
theorem dX13_lacks_78 : decode cX13_lacks 78 = .ok (.if_icmp .ne 7, 3) := dk_160 0 7 (dk_at dksX13_lacks_3 9 rfl rfl)
theorem dX13_lacks_81 : decode cX13_lacks 81 = .ok (.iconst 0, 1) := dk_3 (dk_at dksX13_lacks_3 12 rfl rfl)
theorem dX13_lacks_82 : decode cX13_lacks 82 = .ok (.goto 4, 3) := dk_167 0 4 (dk_at dksX13_lacks_3 13 rfl rfl)
theorem dX13_lacks_85 : decode cX13_lacks 85 = .ok (.iload_n 3, 1) := dk_29 (dk_at dksX13_lacks_3 16 rfl rfl)
theorem dX13_lacks_86 : decode cX13_lacks 86 = .ok (.ireturn, 1) := dk_172 (dk_at dksX13_lacks_3 17 rfl rfl)
abbrev cX13_isRest : ByteArray := prog_10_method_4_code
def yX13_isRest : MethodName := ⟨RX13, "isRest", "()Z"⟩
theorem dX13_isRest_0 : decode cX13_isRest 0 = .ok (.iconst 1, 1) := by decide +kernel
theorem dX13_isRest_1 : decode cX13_isRest 1 = .ok (.ireturn, 1) := by decide +kernel
abbrev cX13_number : ByteArray := prog_10_method_3_code
def yX13_number : MethodName := ⟨RX13, "number", "(I)I"⟩
def dkwX13_number_1 : List UInt8 := [180, 0, 19, 172]
abbrev dktX13_number_1 : List UInt8 := dkwX13_number_1 ++ []
def dkwX13_number_0 : List UInt8 := [27, 154, 0, 10, 42, 180, 0, 12, 167, 0, 19, 27, 4, 160, 0, 10, 42, 180, 0, 16, 167, 0, 7, 42]
abbrev dktX13_number_0 : List UInt8 := dkwX13_number_0 ++ dktX13_number_1
theorem dksX13_number_0 : cX13_number.data.toList.drop 0 = dktX13_number_0 := by decide +kernel
theorem dksX13_number_1 : cX13_number.data.toList.drop 24 = dktX13_number_1 := dk_seg dksX13_number_0 24 rfl rfl
theorem dX13_number_0 : decode cX13_number 0 = .ok (.iload_n 1, 1) := dk_27 (dk_at dksX13_number_0 0 rfl rfl)
theorem dX13_number_1 : decode cX13_number 1 = .ok (.ifCond .ne 10, 3) := dk_154 0 10 (dk_at dksX13_number_0 1 rfl rfl)
theorem dX13_number_4 : decode cX13_number 4 = .ok (.aload_n 0, 1) := dk_42 (dk_at dksX13_number_0 4 rfl rfl)
theorem dX13_number_5 : decode cX13_number 5 = .ok (.getfield 12, 3) := dk_180 0 12 (dk_at dksX13_number_0 5 rfl rfl)
theorem dX13_number_8 : decode cX13_number 8 = .ok (.goto 19, 3) := dk_167 0 19 (dk_at dksX13_number_0 8 rfl rfl)
theorem dX13_number_11 : decode cX13_number 11 = .ok (.iload_n 1, 1) := dk_27 (dk_at dksX13_number_0 11 rfl rfl)
theorem dX13_number_12 : decode cX13_number 12 = .ok (.iconst 1, 1) := dk_4 (dk_at dksX13_number_0 12 rfl rfl)
theorem dX13_number_13 : decode cX13_number 13 = .ok (.if_icmp .ne 10, 3) := dk_160 0 10 (dk_at dksX13_number_0 13 rfl rfl)
theorem dX13_number_16 : decode cX13_number 16 = .ok (.aload_n 0, 1) := dk_42 (dk_at dksX13_number_0 16 rfl rfl)
theorem dX13_number_17 : decode cX13_number 17 = .ok (.getfield 16, 3) := dk_180 0 16 (dk_at dksX13_number_0 17 rfl rfl)
theorem dX13_number_20 : decode cX13_number 20 = .ok (.goto 7, 3) := dk_167 0 7 (dk_at dksX13_number_0 20 rfl rfl)
theorem dX13_number_23 : decode cX13_number 23 = .ok (.aload_n 0, 1) := dk_42 (dk_at dksX13_number_0 23 rfl rfl)
theorem dX13_number_24 : decode cX13_number 24 = .ok (.getfield 19, 3) := dk_180 0 19 (dk_at dksX13_number_1 0 rfl rfl)
theorem dX13_number_27 : decode cX13_number 27 = .ok (.ireturn, 1) := dk_172 (dk_at dksX13_number_1 3 rfl rfl)
theorem q73 : (Jvm.Cond.initialized "SledHouse$RestFrom") ∈ lw_all := lw_g (lw_at lw_m1 22 rfl) rfl
theorem q268 : (Jvm.Cond.fieldLink "SledHouse$RestFrom" (36 : Nat) "SledHouse$Team" "in" "[I") ∈ lw_all := lw_g (lw_at lw_m1 217 rfl) rfl
theorem q271 : (Jvm.Cond.fieldLink "SledHouse$RestFrom" (30 : Nat) "SledHouse$Team" "away" "[I") ∈ lw_all := lw_g (lw_at lw_m1 220 rfl) rfl
theorem q336 : (Jvm.Cond.fieldLink "SledHouse$RestFrom" (25 : Nat) "SledHouse$World" "legMany" "I") ∈ lw_all := lw_g (lw_at lw_m2 45 rfl) rfl
theorem q766 : (Jvm.Cond.instanceMethod ({ cls := "SledHouse$RestFrom", name := "<init>", desc := "(IIII)V" } : Jvm.MethodName)) ∈ lw_all := lw_g (lw_at lw_m3 235 rfl) rfl
theorem q767 : (Jvm.Cond.code ({ cls := "SledHouse$RestFrom", name := "<init>", desc := "(IIII)V" } : Jvm.MethodName) prog_10_method_2_code (5 : Nat) (Option.none : Option Jvm.ClassFile.FieldType)) ∈ lw_all := lw_g (lw_at lw_m3 236 rfl) rfl
theorem q768 : (Jvm.Cond.methodLink "SledHouse$RestFrom" (7 : Nat) ({ cls := "SledHouse$Law", name := "<init>", desc := "(I)V" } : Jvm.MethodName)) ∈ lw_all := lw_g (lw_at lw_m3 237 rfl) rfl
theorem q772 : (Jvm.Cond.fieldLink "SledHouse$RestFrom" (12 : Nat) "SledHouse$RestFrom" "steps" "I") ∈ lw_all := lw_g (lw_at lw_m4 1 rfl) rfl
theorem q773 : (Jvm.Cond.fieldLink "SledHouse$RestFrom" (16 : Nat) "SledHouse$RestFrom" "from" "I") ∈ lw_all := lw_g (lw_at lw_m4 2 rfl) rfl
theorem q774 : (Jvm.Cond.fieldLink "SledHouse$RestFrom" (19 : Nat) "SledHouse$RestFrom" "to" "I") ∈ lw_all := lw_g (lw_at lw_m4 3 rfl) rfl
theorem q778 : (Jvm.Cond.soleField "SledHouse$RestFrom" "steps") ∈ lw_all := lw_g (lw_at lw_m4 7 rfl) rfl
theorem q780 : (Jvm.Cond.soleField "SledHouse$RestFrom" "from") ∈ lw_all := lw_g (lw_at lw_m4 9 rfl) rfl
theorem q782 : (Jvm.Cond.soleField "SledHouse$RestFrom" "to") ∈ lw_all := lw_g (lw_at lw_m4 11 rfl) rfl
theorem q794 : (Jvm.Cond.instantiable "SledHouse$RestFrom" (4 : Nat)) ∈ lw_all := lw_g (lw_at lw_m4 23 rfl) rfl
theorem q796 : (Jvm.Cond.instanceMethod ({ cls := "SledHouse$RestFrom", name := "<init>", desc := "(III)V" } : Jvm.MethodName)) ∈ lw_all := lw_g (lw_at lw_m4 25 rfl) rfl
theorem q797 : (Jvm.Cond.code ({ cls := "SledHouse$RestFrom", name := "<init>", desc := "(III)V" } : Jvm.MethodName) prog_10_method_1_code (4 : Nat) (Option.none : Option Jvm.ClassFile.FieldType)) ∈ lw_all := lw_g (lw_at lw_m4 26 rfl) rfl
theorem q798 : (Jvm.Cond.methodLink "SledHouse$RestFrom" (1 : Nat) ({ cls := "SledHouse$RestFrom", name := "<init>", desc := "(IIII)V" } : Jvm.MethodName)) ∈ lw_all := lw_g (lw_at lw_m4 27 rfl) rfl
theorem q799 : (Jvm.Cond.laysFinal "SledHouse$RestFrom" "SledHouse$RestFrom" "steps" "I") ∈ lw_all := lw_g (lw_at lw_m4 28 rfl) rfl
theorem q800 : (Jvm.Cond.laysFinal "SledHouse$RestFrom" "SledHouse$RestFrom" "from" "I") ∈ lw_all := lw_g (lw_at lw_m4 29 rfl) rfl
theorem q801 : (Jvm.Cond.laysFinal "SledHouse$RestFrom" "SledHouse$RestFrom" "to" "I") ∈ lw_all := lw_g (lw_at lw_m4 30 rfl) rfl
theorem q802 : (Jvm.Cond.laysFinal "SledHouse$RestFrom" "SledHouse$Law" "kind" "I") ∈ lw_all := lw_g (lw_at lw_m4 31 rfl) rfl
theorem q803 : (Jvm.Cond.superclass "SledHouse$RestFrom" "SledHouse$Law") ∈ lw_all := lw_g (lw_at lw_m4 32 rfl) rfl
theorem q1006 : (Jvm.Cond.instanceMethod ({ cls := "SledHouse$RestFrom", name := "lacks", desc := "(LSledHouse$Team;LSledHouse$World;)I" } : Jvm.MethodName)) ∈ lw_all := lw_g (lw_at lw_m4 235 rfl) rfl
theorem q1007 : (Jvm.Cond.code ({ cls := "SledHouse$RestFrom", name := "lacks", desc := "(LSledHouse$Team;LSledHouse$World;)I" } : Jvm.MethodName) prog_10_method_5_code (5 : Nat) (Option.some Jvm.ClassFile.FieldType.int)) ∈ lw_all := lw_g (lw_at lw_m4 236 rfl) rfl
theorem q1008 : (Jvm.Cond.constant "SledHouse$RestFrom" (24 : Nat) (2147483647 : Int32)) ∈ lw_all := lw_g (lw_at lw_m4 237 rfl) rfl
theorem q1009 : (Jvm.Cond.methodLink "SledHouse$RestFrom" (39 : Nat) ({ cls := "java/lang/Math", name := "max", desc := "(II)I" } : Jvm.MethodName)) ∈ lw_all := lw_g (lw_at lw_m4 238 rfl) rfl
theorem q1010 : (Jvm.Cond.methodLink "SledHouse$RestFrom" (45 : Nat) ({ cls := "java/lang/Math", name := "min", desc := "(II)I" } : Jvm.MethodName)) ∈ lw_all := lw_g (lw_at lw_m4 239 rfl) rfl
theorem q1011 : (Jvm.Cond.selects "SledHouse$RestFrom" ({ cls := "SledHouse$Law", name := "lacks", desc := "(LSledHouse$Team;LSledHouse$World;)I" } : Jvm.MethodName) ({ cls := "SledHouse$RestFrom", name := "lacks", desc := "(LSledHouse$Team;LSledHouse$World;)I" } : Jvm.MethodName)) ∈ lw_all := lw_g (lw_at lw_m5 0 rfl) rfl
theorem q1019 : (Jvm.Cond.instanceMethod ({ cls := "SledHouse$RestFrom", name := "isRest", desc := "()Z" } : Jvm.MethodName)) ∈ lw_all := lw_g (lw_at lw_m5 8 rfl) rfl
theorem q1020 : (Jvm.Cond.code ({ cls := "SledHouse$RestFrom", name := "isRest", desc := "()Z" } : Jvm.MethodName) prog_10_method_4_code (1 : Nat) (Option.some Jvm.ClassFile.FieldType.boolean)) ∈ lw_all := lw_g (lw_at lw_m5 9 rfl) rfl
theorem q1021 : (Jvm.Cond.selects "SledHouse$RestFrom" ({ cls := "SledHouse$Law", name := "isRest", desc := "()Z" } : Jvm.MethodName) ({ cls := "SledHouse$RestFrom", name := "isRest", desc := "()Z" } : Jvm.MethodName)) ∈ lw_all := lw_g (lw_at lw_m5 10 rfl) rfl
theorem q1039 : (Jvm.Cond.instanceMethod ({ cls := "SledHouse$RestFrom", name := "number", desc := "(I)I" } : Jvm.MethodName)) ∈ lw_all := lw_g (lw_at lw_m5 28 rfl) rfl
theorem q1040 : (Jvm.Cond.code ({ cls := "SledHouse$RestFrom", name := "number", desc := "(I)I" } : Jvm.MethodName) prog_10_method_3_code (2 : Nat) (Option.some Jvm.ClassFile.FieldType.int)) ∈ lw_all := lw_g (lw_at lw_m5 29 rfl) rfl
theorem q1041 : (Jvm.Cond.selects "SledHouse$RestFrom" ({ cls := "SledHouse$Law", name := "number", desc := "(I)I" } : Jvm.MethodName) ({ cls := "SledHouse$RestFrom", name := "number", desc := "(I)I" } : Jvm.MethodName)) ∈ lw_all := lw_g (lw_at lw_m5 30 rfl) rfl
theorem q1710 : (Jvm.Cond.sameMethod "SledHouse$RestFrom" "SledHouse$RestFrom" "number" "(I)I") ∈ lw_all := lw_g (lw_at lw_m7 219 rfl) rfl
theorem q1712 : (Jvm.Cond.castable "SledHouse$RestFrom" "SledHouse$Law") ∈ lw_tbl := lw_at lw_m7 221 rfl
theorem in_X13 : ∀ w ∈ wsX130, w ∈ lw_all := lw_in wsX130 [802, 799, 800, 801] (by decide +kernel) (by decide +kernel)

/-! SledHouse$RestAt -/
set_option maxRecDepth 100000
def RX14 : String := "SledHouse$RestAt"
def TX14 : u_T := fun k => match k with
  | 0 => ("SledHouse$Law", "kind", "I", true)
  | 1 => ("SledHouse$RestFrom", "steps", "I", true)
  | 2 => ("SledHouse$RestFrom", "from", "I", true)
  | _ => ("SledHouse$RestFrom", "to", "I", true)
def tyX14 : Nat → FieldType := fun k => match k with
  | 0 => .int
  | 1 => .int
  | 2 => .int
  | _ => .int
abbrev wsX140 : List Cond := u_ws RX14 TX14 4
theorem nmX14 : ∀ a, a < 4 → ∀ b, b < 4 → a ≠ b → (TX14 a).2.1 ≠ (TX14 b).2.1 := by decide +kernel
theorem tyX14_ok : ∀ k, k < 4 → parseFieldDescriptor (TX14 k).2.2.1 = some (tyX14 k) := by decide +kernel
abbrev cX14_init : ByteArray := prog_9_method_1_code
def yX14_init : MethodName := ⟨RX14, "<init>", "(II)V"⟩
def dkwX14_init_0 : List UInt8 := [42, 3, 27, 28, 28, 183, 0, 1, 177]
abbrev dktX14_init_0 : List UInt8 := dkwX14_init_0 ++ []
theorem dksX14_init_0 : cX14_init.data.toList.drop 0 = dktX14_init_0 := by decide +kernel
theorem dX14_init_0 : decode cX14_init 0 = .ok (.aload_n 0, 1) := dk_42 (dk_at dksX14_init_0 0 rfl rfl)
theorem dX14_init_1 : decode cX14_init 1 = .ok (.iconst 0, 1) := dk_3 (dk_at dksX14_init_0 1 rfl rfl)
theorem dX14_init_2 : decode cX14_init 2 = .ok (.iload_n 1, 1) := dk_27 (dk_at dksX14_init_0 2 rfl rfl)
theorem dX14_init_3 : decode cX14_init 3 = .ok (.iload_n 2, 1) := dk_28 (dk_at dksX14_init_0 3 rfl rfl)
theorem dX14_init_4 : decode cX14_init 4 = .ok (.iload_n 2, 1) := dk_28 (dk_at dksX14_init_0 4 rfl rfl)
theorem dX14_init_5 : decode cX14_init 5 = .ok (.invokespecial 1, 3) := dk_183 0 1 (dk_at dksX14_init_0 5 rfl rfl)
theorem dX14_init_8 : decode cX14_init 8 = .ok (.return_, 1) := dk_177 (dk_at dksX14_init_0 8 rfl rfl)
abbrev cX14_number : ByteArray := prog_9_method_2_code
def yX14_number : MethodName := ⟨RX14, "number", "(I)I"⟩
def dkwX14_number_0 : List UInt8 := [27, 5, 160, 0, 7, 3, 167, 0, 8, 42, 27, 183, 0, 7, 172]
abbrev dktX14_number_0 : List UInt8 := dkwX14_number_0 ++ []
theorem dksX14_number_0 : cX14_number.data.toList.drop 0 = dktX14_number_0 := by decide +kernel
theorem dX14_number_0 : decode cX14_number 0 = .ok (.iload_n 1, 1) := dk_27 (dk_at dksX14_number_0 0 rfl rfl)
theorem dX14_number_1 : decode cX14_number 1 = .ok (.iconst 2, 1) := dk_5 (dk_at dksX14_number_0 1 rfl rfl)
theorem dX14_number_2 : decode cX14_number 2 = .ok (.if_icmp .ne 7, 3) := dk_160 0 7 (dk_at dksX14_number_0 2 rfl rfl)
theorem dX14_number_5 : decode cX14_number 5 = .ok (.iconst 0, 1) := dk_3 (dk_at dksX14_number_0 5 rfl rfl)
theorem dX14_number_6 : decode cX14_number 6 = .ok (.goto 8, 3) := dk_167 0 8 (dk_at dksX14_number_0 6 rfl rfl)
theorem dX14_number_9 : decode cX14_number 9 = .ok (.aload_n 0, 1) := dk_42 (dk_at dksX14_number_0 9 rfl rfl)
theorem dX14_number_10 : decode cX14_number 10 = .ok (.iload_n 1, 1) := dk_27 (dk_at dksX14_number_0 10 rfl rfl)
theorem dX14_number_11 : decode cX14_number 11 = .ok (.invokespecial 7, 3) := dk_183 0 7 (dk_at dksX14_number_0 11 rfl rfl)
theorem dX14_number_14 : decode cX14_number 14 = .ok (.ireturn, 1) := dk_172 (dk_at dksX14_number_0 14 rfl rfl)
theorem q74 : (Jvm.Cond.initialized "SledHouse$RestAt") ∈ lw_all := lw_g (lw_at lw_m1 23 rfl) rfl
theorem q761 : (Jvm.Cond.instantiable "SledHouse$RestAt" (4 : Nat)) ∈ lw_all := lw_g (lw_at lw_m3 230 rfl) rfl
theorem q763 : (Jvm.Cond.instanceMethod ({ cls := "SledHouse$RestAt", name := "<init>", desc := "(II)V" } : Jvm.MethodName)) ∈ lw_all := lw_g (lw_at lw_m3 232 rfl) rfl
theorem q764 : (Jvm.Cond.code ({ cls := "SledHouse$RestAt", name := "<init>", desc := "(II)V" } : Jvm.MethodName) prog_9_method_1_code (3 : Nat) (Option.none : Option Jvm.ClassFile.FieldType)) ∈ lw_all := lw_g (lw_at lw_m3 233 rfl) rfl
theorem q765 : (Jvm.Cond.methodLink "SledHouse$RestAt" (1 : Nat) ({ cls := "SledHouse$RestFrom", name := "<init>", desc := "(IIII)V" } : Jvm.MethodName)) ∈ lw_all := lw_g (lw_at lw_m3 234 rfl) rfl
theorem q777 : (Jvm.Cond.laysFinal "SledHouse$RestAt" "SledHouse$RestFrom" "steps" "I") ∈ lw_all := lw_g (lw_at lw_m4 6 rfl) rfl
theorem q779 : (Jvm.Cond.laysFinal "SledHouse$RestAt" "SledHouse$RestFrom" "from" "I") ∈ lw_all := lw_g (lw_at lw_m4 8 rfl) rfl
theorem q781 : (Jvm.Cond.laysFinal "SledHouse$RestAt" "SledHouse$RestFrom" "to" "I") ∈ lw_all := lw_g (lw_at lw_m4 10 rfl) rfl
theorem q783 : (Jvm.Cond.laysFinal "SledHouse$RestAt" "SledHouse$Law" "kind" "I") ∈ lw_all := lw_g (lw_at lw_m4 12 rfl) rfl
theorem q785 : (Jvm.Cond.superclass "SledHouse$RestAt" "SledHouse$RestFrom") ∈ lw_all := lw_g (lw_at lw_m4 14 rfl) rfl
theorem q1005 : (Jvm.Cond.selects "SledHouse$RestAt" ({ cls := "SledHouse$Law", name := "lacks", desc := "(LSledHouse$Team;LSledHouse$World;)I" } : Jvm.MethodName) ({ cls := "SledHouse$RestFrom", name := "lacks", desc := "(LSledHouse$Team;LSledHouse$World;)I" } : Jvm.MethodName)) ∈ lw_all := lw_g (lw_at lw_m4 234 rfl) rfl
theorem q1018 : (Jvm.Cond.selects "SledHouse$RestAt" ({ cls := "SledHouse$Law", name := "isRest", desc := "()Z" } : Jvm.MethodName) ({ cls := "SledHouse$RestFrom", name := "isRest", desc := "()Z" } : Jvm.MethodName)) ∈ lw_all := lw_g (lw_at lw_m5 7 rfl) rfl
theorem q1035 : (Jvm.Cond.selects "SledHouse$RestAt" ({ cls := "SledHouse$Law", name := "number", desc := "(I)I" } : Jvm.MethodName) ({ cls := "SledHouse$RestAt", name := "number", desc := "(I)I" } : Jvm.MethodName)) ∈ lw_all := lw_g (lw_at lw_m5 24 rfl) rfl
theorem q1036 : (Jvm.Cond.instanceMethod ({ cls := "SledHouse$RestAt", name := "number", desc := "(I)I" } : Jvm.MethodName)) ∈ lw_all := lw_g (lw_at lw_m5 25 rfl) rfl
theorem q1037 : (Jvm.Cond.code ({ cls := "SledHouse$RestAt", name := "number", desc := "(I)I" } : Jvm.MethodName) prog_9_method_2_code (2 : Nat) (Option.some Jvm.ClassFile.FieldType.int)) ∈ lw_all := lw_g (lw_at lw_m5 26 rfl) rfl
theorem q1038 : (Jvm.Cond.methodLink "SledHouse$RestAt" (7 : Nat) ({ cls := "SledHouse$RestFrom", name := "number", desc := "(I)I" } : Jvm.MethodName)) ∈ lw_all := lw_g (lw_at lw_m5 27 rfl) rfl
theorem q1711 : (Jvm.Cond.castable "SledHouse$RestAt" "SledHouse$Law") ∈ lw_tbl := lw_at lw_m7 220 rfl
theorem in_X14 : ∀ w ∈ wsX140, w ∈ lw_all := lw_in wsX140 [783, 777, 779, 781] (by decide +kernel) (by decide +kernel)

/-! SledHouse$LeastDogs -/
set_option maxRecDepth 100000
def RX15 : String := "SledHouse$LeastDogs"
def TX15 : u_T := fun k => match k with
  | 0 => ("SledHouse$Law", "kind", "I", true)
  | _ => ("SledHouse$LeastDogs", "dogs", "I", true)
def tyX15 : Nat → FieldType := fun k => match k with
  | 0 => .int
  | _ => .int
abbrev wsX150 : List Cond := u_ws RX15 TX15 2
theorem nmX15 : ∀ a, a < 2 → ∀ b, b < 2 → a ≠ b → (TX15 a).2.1 ≠ (TX15 b).2.1 := by decide +kernel
theorem tyX15_ok : ∀ k, k < 2 → parseFieldDescriptor (TX15 k).2.2.1 = some (tyX15 k) := by decide +kernel
abbrev cX15_init : ByteArray := prog_5_method_1_code
def yX15_init : MethodName := ⟨RX15, "<init>", "(I)V"⟩
def dkwX15_init_0 : List UInt8 := [42, 5, 183, 0, 1, 42, 27, 181, 0, 7, 177]
abbrev dktX15_init_0 : List UInt8 := dkwX15_init_0 ++ []
theorem dksX15_init_0 : cX15_init.data.toList.drop 0 = dktX15_init_0 := by decide +kernel
theorem dX15_init_0 : decode cX15_init 0 = .ok (.aload_n 0, 1) := dk_42 (dk_at dksX15_init_0 0 rfl rfl)
theorem dX15_init_1 : decode cX15_init 1 = .ok (.iconst 2, 1) := dk_5 (dk_at dksX15_init_0 1 rfl rfl)
theorem dX15_init_2 : decode cX15_init 2 = .ok (.invokespecial 1, 3) := dk_183 0 1 (dk_at dksX15_init_0 2 rfl rfl)
theorem dX15_init_5 : decode cX15_init 5 = .ok (.aload_n 0, 1) := dk_42 (dk_at dksX15_init_0 5 rfl rfl)
theorem dX15_init_6 : decode cX15_init 6 = .ok (.iload_n 1, 1) := dk_27 (dk_at dksX15_init_0 6 rfl rfl)
theorem dX15_init_7 : decode cX15_init 7 = .ok (.putfield 7, 3) := dk_181 0 7 (dk_at dksX15_init_0 7 rfl rfl)
theorem dX15_init_10 : decode cX15_init 10 = .ok (.return_, 1) := dk_177 (dk_at dksX15_init_0 10 rfl rfl)
abbrev cX15_lacks : ByteArray := prog_5_method_3_code
def yX15_lacks : MethodName := ⟨RX15, "lacks", "(LSledHouse$Team;LSledHouse$World;)I"⟩
def dkwX15_lacks_0 : List UInt8 := [3, 42, 180, 0, 7, 43, 182, 0, 17, 100, 184, 0, 23, 172]
abbrev dktX15_lacks_0 : List UInt8 := dkwX15_lacks_0 ++ []
theorem dksX15_lacks_0 : cX15_lacks.data.toList.drop 0 = dktX15_lacks_0 := by decide +kernel
theorem dX15_lacks_0 : decode cX15_lacks 0 = .ok (.iconst 0, 1) := dk_3 (dk_at dksX15_lacks_0 0 rfl rfl)
theorem dX15_lacks_1 : decode cX15_lacks 1 = .ok (.aload_n 0, 1) := dk_42 (dk_at dksX15_lacks_0 1 rfl rfl)
theorem dX15_lacks_2 : decode cX15_lacks 2 = .ok (.getfield 7, 3) := dk_180 0 7 (dk_at dksX15_lacks_0 2 rfl rfl)
theorem dX15_lacks_5 : decode cX15_lacks 5 = .ok (.aload_n 1, 1) := dk_43 (dk_at dksX15_lacks_0 5 rfl rfl)
theorem dX15_lacks_6 : decode cX15_lacks 6 = .ok (.invokevirtual 17, 3) := dk_182 0 17 (dk_at dksX15_lacks_0 6 rfl rfl)
theorem dX15_lacks_9 : decode cX15_lacks 9 = .ok (.isub, 1) := dk_100 (dk_at dksX15_lacks_0 9 rfl rfl)
theorem dX15_lacks_10 : decode cX15_lacks 10 = .ok (.invokestatic 23, 3) := dk_184 0 23 (dk_at dksX15_lacks_0 10 rfl rfl)
theorem dX15_lacks_13 : decode cX15_lacks 13 = .ok (.ireturn, 1) := dk_172 (dk_at dksX15_lacks_0 13 rfl rfl)
abbrev cX15_number : ByteArray := prog_5_method_2_code
def yX15_number : MethodName := ⟨RX15, "number", "(I)I"⟩
def dkwX15_number_0 : List UInt8 := [27, 154, 0, 10, 42, 180, 0, 7, 167, 0, 8, 42, 27, 183, 0, 13, 172]
abbrev dktX15_number_0 : List UInt8 := dkwX15_number_0 ++ []
theorem dksX15_number_0 : cX15_number.data.toList.drop 0 = dktX15_number_0 := by decide +kernel
theorem dX15_number_0 : decode cX15_number 0 = .ok (.iload_n 1, 1) := dk_27 (dk_at dksX15_number_0 0 rfl rfl)
theorem dX15_number_1 : decode cX15_number 1 = .ok (.ifCond .ne 10, 3) := dk_154 0 10 (dk_at dksX15_number_0 1 rfl rfl)
theorem dX15_number_4 : decode cX15_number 4 = .ok (.aload_n 0, 1) := dk_42 (dk_at dksX15_number_0 4 rfl rfl)
theorem dX15_number_5 : decode cX15_number 5 = .ok (.getfield 7, 3) := dk_180 0 7 (dk_at dksX15_number_0 5 rfl rfl)
theorem dX15_number_8 : decode cX15_number 8 = .ok (.goto 8, 3) := dk_167 0 8 (dk_at dksX15_number_0 8 rfl rfl)
theorem dX15_number_11 : decode cX15_number 11 = .ok (.aload_n 0, 1) := dk_42 (dk_at dksX15_number_0 11 rfl rfl)
theorem dX15_number_12 : decode cX15_number 12 = .ok (.iload_n 1, 1) := dk_27 (dk_at dksX15_number_0 12 rfl rfl)
theorem dX15_number_13 : decode cX15_number 13 = .ok (.invokespecial 13, 3) := dk_183 0 13 (dk_at dksX15_number_0 13 rfl rfl)
theorem dX15_number_16 : decode cX15_number 16 = .ok (.ireturn, 1) := dk_172 (dk_at dksX15_number_0 16 rfl rfl)
theorem q75 : (Jvm.Cond.initialized "SledHouse$LeastDogs") ∈ lw_all := lw_g (lw_at lw_m1 24 rfl) rfl
theorem q805 : (Jvm.Cond.instantiable "SledHouse$LeastDogs" (2 : Nat)) ∈ lw_all := lw_g (lw_at lw_m4 34 rfl) rfl
theorem q807 : (Jvm.Cond.instanceMethod ({ cls := "SledHouse$LeastDogs", name := "<init>", desc := "(I)V" } : Jvm.MethodName)) ∈ lw_all := lw_g (lw_at lw_m4 36 rfl) rfl
theorem q808 : (Jvm.Cond.code ({ cls := "SledHouse$LeastDogs", name := "<init>", desc := "(I)V" } : Jvm.MethodName) prog_5_method_1_code (2 : Nat) (Option.none : Option Jvm.ClassFile.FieldType)) ∈ lw_all := lw_g (lw_at lw_m4 37 rfl) rfl
theorem q809 : (Jvm.Cond.methodLink "SledHouse$LeastDogs" (1 : Nat) ({ cls := "SledHouse$Law", name := "<init>", desc := "(I)V" } : Jvm.MethodName)) ∈ lw_all := lw_g (lw_at lw_m4 38 rfl) rfl
theorem q810 : (Jvm.Cond.fieldLink "SledHouse$LeastDogs" (7 : Nat) "SledHouse$LeastDogs" "dogs" "I") ∈ lw_all := lw_g (lw_at lw_m4 39 rfl) rfl
theorem q811 : (Jvm.Cond.laysFinal "SledHouse$LeastDogs" "SledHouse$LeastDogs" "dogs" "I") ∈ lw_all := lw_g (lw_at lw_m4 40 rfl) rfl
theorem q812 : (Jvm.Cond.soleField "SledHouse$LeastDogs" "dogs") ∈ lw_all := lw_g (lw_at lw_m4 41 rfl) rfl
theorem q813 : (Jvm.Cond.laysFinal "SledHouse$LeastDogs" "SledHouse$Law" "kind" "I") ∈ lw_all := lw_g (lw_at lw_m4 42 rfl) rfl
theorem q814 : (Jvm.Cond.superclass "SledHouse$LeastDogs" "SledHouse$Law") ∈ lw_all := lw_g (lw_at lw_m4 43 rfl) rfl
theorem q1000 : (Jvm.Cond.selects "SledHouse$LeastDogs" ({ cls := "SledHouse$Law", name := "lacks", desc := "(LSledHouse$Team;LSledHouse$World;)I" } : Jvm.MethodName) ({ cls := "SledHouse$LeastDogs", name := "lacks", desc := "(LSledHouse$Team;LSledHouse$World;)I" } : Jvm.MethodName)) ∈ lw_all := lw_g (lw_at lw_m4 229 rfl) rfl
theorem q1001 : (Jvm.Cond.instanceMethod ({ cls := "SledHouse$LeastDogs", name := "lacks", desc := "(LSledHouse$Team;LSledHouse$World;)I" } : Jvm.MethodName)) ∈ lw_all := lw_g (lw_at lw_m4 230 rfl) rfl
theorem q1002 : (Jvm.Cond.code ({ cls := "SledHouse$LeastDogs", name := "lacks", desc := "(LSledHouse$Team;LSledHouse$World;)I" } : Jvm.MethodName) prog_5_method_3_code (3 : Nat) (Option.some Jvm.ClassFile.FieldType.int)) ∈ lw_all := lw_g (lw_at lw_m4 231 rfl) rfl
theorem q1003 : (Jvm.Cond.methodLink "SledHouse$LeastDogs" (17 : Nat) ({ cls := "SledHouse$Team", name := "pulling", desc := "()I" } : Jvm.MethodName)) ∈ lw_all := lw_g (lw_at lw_m4 232 rfl) rfl
theorem q1004 : (Jvm.Cond.methodLink "SledHouse$LeastDogs" (23 : Nat) ({ cls := "java/lang/Math", name := "max", desc := "(II)I" } : Jvm.MethodName)) ∈ lw_all := lw_g (lw_at lw_m4 233 rfl) rfl
theorem q1017 : (Jvm.Cond.selects "SledHouse$LeastDogs" ({ cls := "SledHouse$Law", name := "isRest", desc := "()Z" } : Jvm.MethodName) ({ cls := "SledHouse$Law", name := "isRest", desc := "()Z" } : Jvm.MethodName)) ∈ lw_all := lw_g (lw_at lw_m5 6 rfl) rfl
theorem q1031 : (Jvm.Cond.selects "SledHouse$LeastDogs" ({ cls := "SledHouse$Law", name := "number", desc := "(I)I" } : Jvm.MethodName) ({ cls := "SledHouse$LeastDogs", name := "number", desc := "(I)I" } : Jvm.MethodName)) ∈ lw_all := lw_g (lw_at lw_m5 20 rfl) rfl
theorem q1032 : (Jvm.Cond.instanceMethod ({ cls := "SledHouse$LeastDogs", name := "number", desc := "(I)I" } : Jvm.MethodName)) ∈ lw_all := lw_g (lw_at lw_m5 21 rfl) rfl
theorem q1033 : (Jvm.Cond.code ({ cls := "SledHouse$LeastDogs", name := "number", desc := "(I)I" } : Jvm.MethodName) prog_5_method_2_code (2 : Nat) (Option.some Jvm.ClassFile.FieldType.int)) ∈ lw_all := lw_g (lw_at lw_m5 22 rfl) rfl
theorem q1034 : (Jvm.Cond.methodLink "SledHouse$LeastDogs" (13 : Nat) ({ cls := "SledHouse$Law", name := "number", desc := "(I)I" } : Jvm.MethodName)) ∈ lw_all := lw_g (lw_at lw_m5 23 rfl) rfl
theorem q1713 : (Jvm.Cond.castable "SledHouse$LeastDogs" "SledHouse$Law") ∈ lw_tbl := lw_at lw_m7 222 rfl
theorem in_X15 : ∀ w ∈ wsX150, w ∈ lw_all := lw_in wsX150 [813, 811] (by decide +kernel) (by decide +kernel)

/-! SledHouse$Fine -/
set_option maxRecDepth 100000
def RX16 : String := "SledHouse$Fine"
def TX16 : u_T := fun k => match k with
  | 0 => ("SledHouse$Law", "kind", "I", true)
  | 1 => ("SledHouse$Fine", "forStep", "I", true)
  | _ => ("SledHouse$Fine", "forDog", "I", true)
def tyX16 : Nat → FieldType := fun k => match k with
  | 0 => .int
  | 1 => .int
  | _ => .int
abbrev wsX160 : List Cond := u_ws RX16 TX16 3
theorem nmX16 : ∀ a, a < 3 → ∀ b, b < 3 → a ≠ b → (TX16 a).2.1 ≠ (TX16 b).2.1 := by decide +kernel
theorem tyX16_ok : ∀ k, k < 3 → parseFieldDescriptor (TX16 k).2.2.1 = some (tyX16 k) := by decide +kernel
abbrev cX16_init : ByteArray := prog_3_method_1_code
def yX16_init : MethodName := ⟨RX16, "<init>", "(II)V"⟩
def dkwX16_init_0 : List UInt8 := [42, 6, 183, 0, 1, 42, 27, 181, 0, 7, 42, 28, 181, 0, 13, 177]
abbrev dktX16_init_0 : List UInt8 := dkwX16_init_0 ++ []
theorem dksX16_init_0 : cX16_init.data.toList.drop 0 = dktX16_init_0 := by decide +kernel
theorem dX16_init_0 : decode cX16_init 0 = .ok (.aload_n 0, 1) := dk_42 (dk_at dksX16_init_0 0 rfl rfl)
theorem dX16_init_1 : decode cX16_init 1 = .ok (.iconst 3, 1) := dk_6 (dk_at dksX16_init_0 1 rfl rfl)
theorem dX16_init_2 : decode cX16_init 2 = .ok (.invokespecial 1, 3) := dk_183 0 1 (dk_at dksX16_init_0 2 rfl rfl)
theorem dX16_init_5 : decode cX16_init 5 = .ok (.aload_n 0, 1) := dk_42 (dk_at dksX16_init_0 5 rfl rfl)
theorem dX16_init_6 : decode cX16_init 6 = .ok (.iload_n 1, 1) := dk_27 (dk_at dksX16_init_0 6 rfl rfl)
theorem dX16_init_7 : decode cX16_init 7 = .ok (.putfield 7, 3) := dk_181 0 7 (dk_at dksX16_init_0 7 rfl rfl)
theorem dX16_init_10 : decode cX16_init 10 = .ok (.aload_n 0, 1) := dk_42 (dk_at dksX16_init_0 10 rfl rfl)
theorem dX16_init_11 : decode cX16_init 11 = .ok (.iload_n 2, 1) := dk_28 (dk_at dksX16_init_0 11 rfl rfl)
theorem dX16_init_12 : decode cX16_init 12 = .ok (.putfield 13, 3) := dk_181 0 13 (dk_at dksX16_init_0 12 rfl rfl)
theorem dX16_init_15 : decode cX16_init 15 = .ok (.return_, 1) := dk_177 (dk_at dksX16_init_0 15 rfl rfl)
abbrev cX16_number : ByteArray := prog_3_method_2_code
def yX16_number : MethodName := ⟨RX16, "number", "(I)I"⟩
def dkwX16_number_1 : List UInt8 := [27, 183, 0, 16, 172]
abbrev dktX16_number_1 : List UInt8 := dkwX16_number_1 ++ []
def dkwX16_number_0 : List UInt8 := [27, 154, 0, 10, 42, 180, 0, 7, 167, 0, 20, 27, 4, 160, 0, 10, 42, 180, 0, 13, 167, 0, 8, 42]
abbrev dktX16_number_0 : List UInt8 := dkwX16_number_0 ++ dktX16_number_1
theorem dksX16_number_0 : cX16_number.data.toList.drop 0 = dktX16_number_0 := by decide +kernel
theorem dksX16_number_1 : cX16_number.data.toList.drop 24 = dktX16_number_1 := dk_seg dksX16_number_0 24 rfl rfl
theorem dX16_number_0 : decode cX16_number 0 = .ok (.iload_n 1, 1) := dk_27 (dk_at dksX16_number_0 0 rfl rfl)
theorem dX16_number_1 : decode cX16_number 1 = .ok (.ifCond .ne 10, 3) := dk_154 0 10 (dk_at dksX16_number_0 1 rfl rfl)
theorem dX16_number_4 : decode cX16_number 4 = .ok (.aload_n 0, 1) := dk_42 (dk_at dksX16_number_0 4 rfl rfl)
theorem dX16_number_5 : decode cX16_number 5 = .ok (.getfield 7, 3) := dk_180 0 7 (dk_at dksX16_number_0 5 rfl rfl)
theorem dX16_number_8 : decode cX16_number 8 = .ok (.goto 20, 3) := dk_167 0 20 (dk_at dksX16_number_0 8 rfl rfl)
theorem dX16_number_11 : decode cX16_number 11 = .ok (.iload_n 1, 1) := dk_27 (dk_at dksX16_number_0 11 rfl rfl)
theorem dX16_number_12 : decode cX16_number 12 = .ok (.iconst 1, 1) := dk_4 (dk_at dksX16_number_0 12 rfl rfl)
theorem dX16_number_13 : decode cX16_number 13 = .ok (.if_icmp .ne 10, 3) := dk_160 0 10 (dk_at dksX16_number_0 13 rfl rfl)
theorem dX16_number_16 : decode cX16_number 16 = .ok (.aload_n 0, 1) := dk_42 (dk_at dksX16_number_0 16 rfl rfl)
theorem dX16_number_17 : decode cX16_number 17 = .ok (.getfield 13, 3) := dk_180 0 13 (dk_at dksX16_number_0 17 rfl rfl)
theorem dX16_number_20 : decode cX16_number 20 = .ok (.goto 8, 3) := dk_167 0 8 (dk_at dksX16_number_0 20 rfl rfl)
theorem dX16_number_23 : decode cX16_number 23 = .ok (.aload_n 0, 1) := dk_42 (dk_at dksX16_number_0 23 rfl rfl)
theorem dX16_number_24 : decode cX16_number 24 = .ok (.iload_n 1, 1) := dk_27 (dk_at dksX16_number_1 0 rfl rfl)
theorem dX16_number_25 : decode cX16_number 25 = .ok (.invokespecial 16, 3) := dk_183 0 16 (dk_at dksX16_number_1 1 rfl rfl)
theorem dX16_number_28 : decode cX16_number 28 = .ok (.ireturn, 1) := dk_172 (dk_at dksX16_number_1 4 rfl rfl)
theorem q76 : (Jvm.Cond.initialized "SledHouse$Fine") ∈ lw_all := lw_g (lw_at lw_m1 25 rfl) rfl
theorem q817 : (Jvm.Cond.instantiable "SledHouse$Fine" (3 : Nat)) ∈ lw_all := lw_g (lw_at lw_m4 46 rfl) rfl
theorem q819 : (Jvm.Cond.instanceMethod ({ cls := "SledHouse$Fine", name := "<init>", desc := "(II)V" } : Jvm.MethodName)) ∈ lw_all := lw_g (lw_at lw_m4 48 rfl) rfl
theorem q820 : (Jvm.Cond.code ({ cls := "SledHouse$Fine", name := "<init>", desc := "(II)V" } : Jvm.MethodName) prog_3_method_1_code (3 : Nat) (Option.none : Option Jvm.ClassFile.FieldType)) ∈ lw_all := lw_g (lw_at lw_m4 49 rfl) rfl
theorem q821 : (Jvm.Cond.methodLink "SledHouse$Fine" (1 : Nat) ({ cls := "SledHouse$Law", name := "<init>", desc := "(I)V" } : Jvm.MethodName)) ∈ lw_all := lw_g (lw_at lw_m4 50 rfl) rfl
theorem q822 : (Jvm.Cond.fieldLink "SledHouse$Fine" (7 : Nat) "SledHouse$Fine" "forStep" "I") ∈ lw_all := lw_g (lw_at lw_m4 51 rfl) rfl
theorem q823 : (Jvm.Cond.fieldLink "SledHouse$Fine" (13 : Nat) "SledHouse$Fine" "forDog" "I") ∈ lw_all := lw_g (lw_at lw_m4 52 rfl) rfl
theorem q824 : (Jvm.Cond.laysFinal "SledHouse$Fine" "SledHouse$Fine" "forStep" "I") ∈ lw_all := lw_g (lw_at lw_m4 53 rfl) rfl
theorem q825 : (Jvm.Cond.soleField "SledHouse$Fine" "forStep") ∈ lw_all := lw_g (lw_at lw_m4 54 rfl) rfl
theorem q826 : (Jvm.Cond.laysFinal "SledHouse$Fine" "SledHouse$Fine" "forDog" "I") ∈ lw_all := lw_g (lw_at lw_m4 55 rfl) rfl
theorem q827 : (Jvm.Cond.soleField "SledHouse$Fine" "forDog") ∈ lw_all := lw_g (lw_at lw_m4 56 rfl) rfl
theorem q828 : (Jvm.Cond.laysFinal "SledHouse$Fine" "SledHouse$Law" "kind" "I") ∈ lw_all := lw_g (lw_at lw_m4 57 rfl) rfl
theorem q829 : (Jvm.Cond.superclass "SledHouse$Fine" "SledHouse$Law") ∈ lw_all := lw_g (lw_at lw_m4 58 rfl) rfl
theorem q999 : (Jvm.Cond.selects "SledHouse$Fine" ({ cls := "SledHouse$Law", name := "lacks", desc := "(LSledHouse$Team;LSledHouse$World;)I" } : Jvm.MethodName) ({ cls := "SledHouse$Law", name := "lacks", desc := "(LSledHouse$Team;LSledHouse$World;)I" } : Jvm.MethodName)) ∈ lw_all := lw_g (lw_at lw_m4 228 rfl) rfl
theorem q1016 : (Jvm.Cond.selects "SledHouse$Fine" ({ cls := "SledHouse$Law", name := "isRest", desc := "()Z" } : Jvm.MethodName) ({ cls := "SledHouse$Law", name := "isRest", desc := "()Z" } : Jvm.MethodName)) ∈ lw_all := lw_g (lw_at lw_m5 5 rfl) rfl
theorem q1026 : (Jvm.Cond.selects "SledHouse$Fine" ({ cls := "SledHouse$Law", name := "number", desc := "(I)I" } : Jvm.MethodName) ({ cls := "SledHouse$Fine", name := "number", desc := "(I)I" } : Jvm.MethodName)) ∈ lw_all := lw_g (lw_at lw_m5 15 rfl) rfl
theorem q1027 : (Jvm.Cond.instanceMethod ({ cls := "SledHouse$Fine", name := "number", desc := "(I)I" } : Jvm.MethodName)) ∈ lw_all := lw_g (lw_at lw_m5 16 rfl) rfl
theorem q1028 : (Jvm.Cond.code ({ cls := "SledHouse$Fine", name := "number", desc := "(I)I" } : Jvm.MethodName) prog_3_method_2_code (2 : Nat) (Option.some Jvm.ClassFile.FieldType.int)) ∈ lw_all := lw_g (lw_at lw_m5 17 rfl) rfl
theorem q1029 : (Jvm.Cond.methodLink "SledHouse$Fine" (16 : Nat) ({ cls := "SledHouse$Law", name := "number", desc := "(I)I" } : Jvm.MethodName)) ∈ lw_all := lw_g (lw_at lw_m5 18 rfl) rfl
theorem q1714 : (Jvm.Cond.castable "SledHouse$Fine" "SledHouse$Law") ∈ lw_tbl := lw_at lw_m7 223 rfl
theorem in_X16 : ∀ w ∈ wsX160, w ∈ lw_all := lw_in wsX160 [828, 824, 826] (by decide +kernel) (by decide +kernel)

theorem q51 : (Jvm.Cond.initialized "SledHouseLaw") ∈ lw_all := lw_g (lw_at lw_m1 0 rfl) rfl
set_option maxRecDepth 100000
theorem q79 : (Jvm.Cond.classLink "SledHouseLaw" (7 : Nat) "SledHouse") ∈ lw_all := lw_g (lw_at lw_m1 28 rfl) rfl
theorem q81 : (Jvm.Cond.methodLink "SledHouseLaw" (9 : Nat) ({ cls := "SledHouse", name := "<init>", desc := "()V" } : Jvm.MethodName)) ∈ lw_all := lw_g (lw_at lw_m1 30 rfl) rfl
theorem q420 : (Jvm.Cond.methodLink "SledHouseLaw" (13 : Nat) ({ cls := "SledHouse", name := "leg", desc := "(II)I" } : Jvm.MethodName)) ∈ lw_all := lw_g (lw_at lw_m2 129 rfl) rfl
theorem q443 : (Jvm.Cond.methodLink "SledHouseLaw" (18 : Nat) ({ cls := "SledHouse", name := "cold", desc := "(III)Z" } : Jvm.MethodName)) ∈ lw_all := lw_g (lw_at lw_m2 152 rfl) rfl
theorem q447 : (Jvm.Cond.methodLink "SledHouseLaw" (23 : Nat) ({ cls := "SledHouse", name := "feed", desc := "(IIIII)I" } : Jvm.MethodName)) ∈ lw_all := lw_g (lw_at lw_m2 156 rfl) rfl
theorem q455 : (Jvm.Cond.methodLink "SledHouseLaw" (28 : Nat) ({ cls := "SledHouse", name := "plan", desc := "(I)I" } : Jvm.MethodName)) ∈ lw_all := lw_g (lw_at lw_m2 164 rfl) rfl
theorem q747 : (Jvm.Cond.methodLink "SledHouseLaw" (33 : Nat) ({ cls := "SledHouse", name := "laws", desc := "(I)I" } : Jvm.MethodName)) ∈ lw_all := lw_g (lw_at lw_m3 216 rfl) rfl
theorem q835 : (Jvm.Cond.methodLink "SledHouseLaw" (37 : Nat) ({ cls := "SledHouse", name := "fault", desc := "()I" } : Jvm.MethodName)) ∈ lw_all := lw_g (lw_at lw_m4 64 rfl) rfl
theorem q839 : (Jvm.Cond.methodLink "SledHouseLaw" (42 : Nat) ({ cls := "SledHouse", name := "where", desc := "()I" } : Jvm.MethodName)) ∈ lw_all := lw_g (lw_at lw_m4 68 rfl) rfl
theorem q843 : (Jvm.Cond.methodLink "SledHouseLaw" (46 : Nat) ({ cls := "SledHouse", name := "team", desc := "(IIIII)I" } : Jvm.MethodName)) ∈ lw_all := lw_g (lw_at lw_m4 72 rfl) rfl
theorem q859 : (Jvm.Cond.methodLink "SledHouseLaw" (50 : Nat) ({ cls := "SledHouse", name := "follow", desc := "(II)Z" } : Jvm.MethodName)) ∈ lw_all := lw_g (lw_at lw_m4 88 rfl) rfl
theorem q867 : (Jvm.Cond.methodLink "SledHouseLaw" (55 : Nat) ({ cls := "SledHouse", name := "gap", desc := "(III)I" } : Jvm.MethodName)) ∈ lw_all := lw_g (lw_at lw_m4 96 rfl) rfl
theorem q871 : (Jvm.Cond.methodLink "SledHouseLaw" (60 : Nat) ({ cls := "SledHouse", name := "each", desc := "(I)Z" } : Jvm.MethodName)) ∈ lw_all := lw_g (lw_at lw_m4 100 rfl) rfl
theorem q875 : (Jvm.Cond.methodLink "SledHouseLaw" (65 : Nat) ({ cls := "SledHouse", name := "run", desc := "(I)I" } : Jvm.MethodName)) ∈ lw_all := lw_g (lw_at lw_m4 104 rfl) rfl
theorem q965 : (Jvm.Cond.methodLink "SledHouseLaw" (69 : Nat) ({ cls := "SledHouse", name := "about", desc := "(II)I" } : Jvm.MethodName)) ∈ lw_all := lw_g (lw_at lw_m4 194 rfl) rfl
theorem q972 : (Jvm.Cond.methodLink "SledHouseLaw" (73 : Nat) ({ cls := "SledHouse", name := "dog", desc := "(III)I" } : Jvm.MethodName)) ∈ lw_all := lw_g (lw_at lw_m4 201 rfl) rfl
theorem q976 : (Jvm.Cond.methodLink "SledHouseLaw" (77 : Nat) ({ cls := "SledHouse", name := "time", desc := "(IIZ)I" } : Jvm.MethodName)) ∈ lw_all := lw_g (lw_at lw_m4 205 rfl) rfl
theorem q980 : (Jvm.Cond.methodLink "SledHouseLaw" (82 : Nat) ({ cls := "SledHouse", name := "did", desc := "(I)I" } : Jvm.MethodName)) ∈ lw_all := lw_g (lw_at lw_m4 209 rfl) rfl
theorem q984 : (Jvm.Cond.methodLink "SledHouseLaw" (86 : Nat) ({ cls := "SledHouse", name := "result", desc := "(I)I" } : Jvm.MethodName)) ∈ lw_all := lw_g (lw_at lw_m4 213 rfl) rfl
theorem q1042 : (Jvm.Cond.methodLink "SledHouseLaw" (90 : Nat) ({ cls := "SledHouse", name := "lacks", desc := "(II)I" } : Jvm.MethodName)) ∈ lw_all := lw_g (lw_at lw_m5 31 rfl) rfl
theorem q1046 : (Jvm.Cond.methodLink "SledHouseLaw" (94 : Nat) ({ cls := "SledHouse", name := "place", desc := "(I)I" } : Jvm.MethodName)) ∈ lw_all := lw_g (lw_at lw_m5 35 rfl) rfl
theorem q1054 : (Jvm.Cond.methodLink "SledHouseLaw" (98 : Nat) ({ cls := "SledHouse", name := "came", desc := "(II)I" } : Jvm.MethodName)) ∈ lw_all := lw_g (lw_at lw_m5 43 rfl) rfl
theorem q1058 : (Jvm.Cond.methodLink "SledHouseLaw" (102 : Nat) ({ cls := "SledHouse", name := "spot", desc := "(IIZ)I" } : Jvm.MethodName)) ∈ lw_all := lw_g (lw_at lw_m5 47 rfl) rfl
theorem q1068 : (Jvm.Cond.methodLink "SledHouseLaw" (106 : Nat) ({ cls := "SledHouse", name := "signs", desc := "(I)I" } : Jvm.MethodName)) ∈ lw_all := lw_g (lw_at lw_m5 57 rfl) rfl
theorem q1072 : (Jvm.Cond.methodLink "SledHouseLaw" (110 : Nat) ({ cls := "SledHouse", name := "replay", desc := "(III)I" } : Jvm.MethodName)) ∈ lw_all := lw_g (lw_at lw_m5 61 rfl) rfl
theorem q1077 : (Jvm.Cond.methodLink "SledHouseLaw" (114 : Nat) ({ cls := "SledHouse", name := "keep", desc := "()Z" } : Jvm.MethodName)) ∈ lw_all := lw_g (lw_at lw_m5 66 rfl) rfl
theorem q1096 : (Jvm.Cond.methodLink "SledHouseLaw" (119 : Nat) ({ cls := "SledHouse", name := "back", desc := "()Z" } : Jvm.MethodName)) ∈ lw_all := lw_g (lw_at lw_m5 85 rfl) rfl
theorem q1100 : (Jvm.Cond.methodLink "SledHouseLaw" (123 : Nat) ({ cls := "SledHouse", name := "law", desc := "(II)I" } : Jvm.MethodName)) ∈ lw_all := lw_g (lw_at lw_m5 89 rfl) rfl
theorem q1104 : (Jvm.Cond.methodLink "SledHouseLaw" (127 : Nat) ({ cls := "SledHouse", name := "planned", desc := "(II)I" } : Jvm.MethodName)) ∈ lw_all := lw_g (lw_at lw_m5 93 rfl) rfl
theorem q1112 : (Jvm.Cond.methodLink "SledHouseLaw" (131 : Nat) ({ cls := "SledHouse", name := "count", desc := "(I)I" } : Jvm.MethodName)) ∈ lw_all := lw_g (lw_at lw_m5 101 rfl) rfl
theorem q1116 : (Jvm.Cond.methodLink "SledHouseLaw" (135 : Nat) ({ cls := "SledHouse", name := "trouble", desc := "()I" } : Jvm.MethodName)) ∈ lw_all := lw_g (lw_at lw_m5 105 rfl) rfl
theorem q1120 : (Jvm.Cond.classLink "SledHouseLaw" (10 : Nat) "SledHouseModel") ∈ lw_all := lw_g (lw_at lw_m5 109 rfl) rfl
theorem q1122 : (Jvm.Cond.methodLink "SledHouseLaw" (12 : Nat) ({ cls := "SledHouseModel", name := "<init>", desc := "()V" } : Jvm.MethodName)) ∈ lw_all := lw_g (lw_at lw_m5 111 rfl) rfl
theorem q1373 : (Jvm.Cond.methodLink "SledHouseLaw" (118 : Nat) ({ cls := "SledHouseModel", name := "keep", desc := "()Z" } : Jvm.MethodName)) ∈ lw_all := lw_g (lw_at lw_m6 122 rfl) rfl
theorem q1385 : (Jvm.Cond.methodLink "SledHouseLaw" (122 : Nat) ({ cls := "SledHouseModel", name := "back", desc := "()Z" } : Jvm.MethodName)) ∈ lw_all := lw_g (lw_at lw_m6 134 rfl) rfl
theorem q1397 : (Jvm.Cond.methodLink "SledHouseLaw" (17 : Nat) ({ cls := "SledHouseModel", name := "leg", desc := "(II)I" } : Jvm.MethodName)) ∈ lw_all := lw_g (lw_at lw_m6 146 rfl) rfl
theorem q1412 : (Jvm.Cond.methodLink "SledHouseLaw" (22 : Nat) ({ cls := "SledHouseModel", name := "cold", desc := "(III)Z" } : Jvm.MethodName)) ∈ lw_all := lw_g (lw_at lw_m6 161 rfl) rfl
theorem q1416 : (Jvm.Cond.methodLink "SledHouseLaw" (27 : Nat) ({ cls := "SledHouseModel", name := "feed", desc := "(IIIII)I" } : Jvm.MethodName)) ∈ lw_all := lw_g (lw_at lw_m6 165 rfl) rfl
theorem q1420 : (Jvm.Cond.methodLink "SledHouseLaw" (32 : Nat) ({ cls := "SledHouseModel", name := "plan", desc := "(I)I" } : Jvm.MethodName)) ∈ lw_all := lw_g (lw_at lw_m6 169 rfl) rfl
theorem q1527 : (Jvm.Cond.methodLink "SledHouseLaw" (36 : Nat) ({ cls := "SledHouseModel", name := "laws", desc := "(I)I" } : Jvm.MethodName)) ∈ lw_all := lw_g (lw_at lw_m7 36 rfl) rfl
theorem q1544 : (Jvm.Cond.methodLink "SledHouseLaw" (41 : Nat) ({ cls := "SledHouseModel", name := "fault", desc := "()I" } : Jvm.MethodName)) ∈ lw_all := lw_g (lw_at lw_m7 53 rfl) rfl
theorem q1548 : (Jvm.Cond.methodLink "SledHouseLaw" (45 : Nat) ({ cls := "SledHouseModel", name := "where", desc := "()I" } : Jvm.MethodName)) ∈ lw_all := lw_g (lw_at lw_m7 57 rfl) rfl
theorem q1552 : (Jvm.Cond.methodLink "SledHouseLaw" (126 : Nat) ({ cls := "SledHouseModel", name := "law", desc := "(II)I" } : Jvm.MethodName)) ∈ lw_all := lw_g (lw_at lw_m7 61 rfl) rfl
theorem q1556 : (Jvm.Cond.methodLink "SledHouseLaw" (130 : Nat) ({ cls := "SledHouseModel", name := "planned", desc := "(II)I" } : Jvm.MethodName)) ∈ lw_all := lw_g (lw_at lw_m7 65 rfl) rfl
theorem q1560 : (Jvm.Cond.methodLink "SledHouseLaw" (49 : Nat) ({ cls := "SledHouseModel", name := "team", desc := "(IIIII)I" } : Jvm.MethodName)) ∈ lw_all := lw_g (lw_at lw_m7 69 rfl) rfl
theorem q1569 : (Jvm.Cond.methodLink "SledHouseLaw" (54 : Nat) ({ cls := "SledHouseModel", name := "follow", desc := "(II)Z" } : Jvm.MethodName)) ∈ lw_all := lw_g (lw_at lw_m7 78 rfl) rfl
theorem q1577 : (Jvm.Cond.methodLink "SledHouseLaw" (59 : Nat) ({ cls := "SledHouseModel", name := "gap", desc := "(III)I" } : Jvm.MethodName)) ∈ lw_all := lw_g (lw_at lw_m7 86 rfl) rfl
theorem q1581 : (Jvm.Cond.methodLink "SledHouseLaw" (64 : Nat) ({ cls := "SledHouseModel", name := "each", desc := "(I)Z" } : Jvm.MethodName)) ∈ lw_all := lw_g (lw_at lw_m7 90 rfl) rfl
theorem q1585 : (Jvm.Cond.methodLink "SledHouseLaw" (68 : Nat) ({ cls := "SledHouseModel", name := "run", desc := "(I)I" } : Jvm.MethodName)) ∈ lw_all := lw_g (lw_at lw_m7 94 rfl) rfl
theorem q1636 : (Jvm.Cond.methodLink "SledHouseLaw" (72 : Nat) ({ cls := "SledHouseModel", name := "about", desc := "(II)I" } : Jvm.MethodName)) ∈ lw_all := lw_g (lw_at lw_m7 145 rfl) rfl
theorem q1640 : (Jvm.Cond.methodLink "SledHouseLaw" (76 : Nat) ({ cls := "SledHouseModel", name := "dog", desc := "(III)I" } : Jvm.MethodName)) ∈ lw_all := lw_g (lw_at lw_m7 149 rfl) rfl
theorem q1644 : (Jvm.Cond.methodLink "SledHouseLaw" (81 : Nat) ({ cls := "SledHouseModel", name := "time", desc := "(IIZ)I" } : Jvm.MethodName)) ∈ lw_all := lw_g (lw_at lw_m7 153 rfl) rfl
theorem q1648 : (Jvm.Cond.methodLink "SledHouseLaw" (85 : Nat) ({ cls := "SledHouseModel", name := "did", desc := "(I)I" } : Jvm.MethodName)) ∈ lw_all := lw_g (lw_at lw_m7 157 rfl) rfl
theorem q1652 : (Jvm.Cond.methodLink "SledHouseLaw" (89 : Nat) ({ cls := "SledHouseModel", name := "result", desc := "(I)I" } : Jvm.MethodName)) ∈ lw_all := lw_g (lw_at lw_m7 161 rfl) rfl
theorem q1669 : (Jvm.Cond.methodLink "SledHouseLaw" (93 : Nat) ({ cls := "SledHouseModel", name := "lacks", desc := "(II)I" } : Jvm.MethodName)) ∈ lw_all := lw_g (lw_at lw_m7 178 rfl) rfl
theorem q1673 : (Jvm.Cond.methodLink "SledHouseLaw" (97 : Nat) ({ cls := "SledHouseModel", name := "place", desc := "(I)I" } : Jvm.MethodName)) ∈ lw_all := lw_g (lw_at lw_m7 182 rfl) rfl
theorem q1681 : (Jvm.Cond.methodLink "SledHouseLaw" (101 : Nat) ({ cls := "SledHouseModel", name := "came", desc := "(II)I" } : Jvm.MethodName)) ∈ lw_all := lw_g (lw_at lw_m7 190 rfl) rfl
theorem q1685 : (Jvm.Cond.methodLink "SledHouseLaw" (105 : Nat) ({ cls := "SledHouseModel", name := "spot", desc := "(IIZ)I" } : Jvm.MethodName)) ∈ lw_all := lw_g (lw_at lw_m7 194 rfl) rfl
theorem q1693 : (Jvm.Cond.methodLink "SledHouseLaw" (109 : Nat) ({ cls := "SledHouseModel", name := "signs", desc := "(I)I" } : Jvm.MethodName)) ∈ lw_all := lw_g (lw_at lw_m7 202 rfl) rfl
theorem q1697 : (Jvm.Cond.methodLink "SledHouseLaw" (113 : Nat) ({ cls := "SledHouseModel", name := "replay", desc := "(III)I" } : Jvm.MethodName)) ∈ lw_all := lw_g (lw_at lw_m7 206 rfl) rfl
theorem q1701 : (Jvm.Cond.methodLink "SledHouseLaw" (134 : Nat) ({ cls := "SledHouseModel", name := "count", desc := "(I)I" } : Jvm.MethodName)) ∈ lw_all := lw_g (lw_at lw_m7 210 rfl) rfl
theorem q1705 : (Jvm.Cond.methodLink "SledHouseLaw" (138 : Nat) ({ cls := "SledHouseModel", name := "trouble", desc := "()I" } : Jvm.MethodName)) ∈ lw_all := lw_g (lw_at lw_m7 214 rfl) rfl

/-! the law's own entry -/
set_option maxRecDepth 100000
abbrev cL_law : ByteArray := code
def dkwL_law_42 : List UInt8 := [167, 251, 212, 4, 172]
abbrev dktL_law_42 : List UInt8 := dkwL_law_42 ++ []
def dkwL_law_41 : List UInt8 := [182, 0, 134, 159, 0, 18, 3, 172, 43, 182, 0, 135, 44, 182, 0, 138, 159, 0, 5, 3, 172, 132, 3, 6]
abbrev dktL_law_41 : List UInt8 := dkwL_law_41 ++ dktL_law_42
def dkwL_law_40 : List UInt8 := [182, 0, 130, 159, 0, 41, 3, 172, 43, 42, 29, 4, 96, 46, 182, 0, 131, 44, 42, 29, 4, 96, 46]
abbrev dktL_law_40 : List UInt8 := dkwL_law_40 ++ dktL_law_41
def dkwL_law_39 : List UInt8 := [42, 29, 4, 96, 46, 42, 29, 5, 96, 46, 182, 0, 127, 44, 42, 29, 4, 96, 46, 42, 29, 5, 96, 46]
abbrev dktL_law_39 : List UInt8 := dkwL_law_39 ++ dktL_law_40
def dkwL_law_38 : List UInt8 := [46, 182, 0, 123, 44, 42, 29, 4, 96, 46, 42, 29, 5, 96, 46, 182, 0, 126, 159, 0, 74, 3, 172, 43]
abbrev dktL_law_38 : List UInt8 := dkwL_law_38 ++ dktL_law_39
def dkwL_law_37 : List UInt8 := [172, 43, 182, 0, 119, 44, 182, 0, 122, 159, 0, 107, 3, 172, 43, 42, 29, 4, 96, 46, 42, 29, 5, 96]
abbrev dktL_law_37 : List UInt8 := dkwL_law_37 ++ dktL_law_38
def dkwL_law_36 : List UInt8 := [29, 6, 96, 46, 182, 0, 113, 159, 0, 133, 3, 172, 43, 182, 0, 114, 44, 182, 0, 118, 159, 0, 120, 3]
abbrev dktL_law_36 : List UInt8 := dkwL_law_36 ++ dktL_law_37
def dkwL_law_35 : List UInt8 := [29, 5, 96, 46, 42, 29, 6, 96, 46, 182, 0, 110, 44, 42, 29, 4, 96, 46, 42, 29, 5, 96, 46, 42]
abbrev dktL_law_35 : List UInt8 := dkwL_law_35 ++ dktL_law_36
def dkwL_law_34 : List UInt8 := [182, 0, 106, 44, 42, 29, 4, 96, 46, 182, 0, 109, 159, 0, 176, 3, 172, 43, 42, 29, 4, 96, 46, 42]
abbrev dktL_law_34 : List UInt8 := dkwL_law_34 ++ dktL_law_35
def dkwL_law_33 : List UInt8 := [153, 0, 7, 4, 167, 0, 4, 3, 182, 0, 105, 159, 0, 199, 3, 172, 43, 42, 29, 4, 96, 46]
abbrev dktL_law_33 : List UInt8 := dkwL_law_33 ++ dktL_law_34
def dkwL_law_32 : List UInt8 := [167, 0, 4, 3, 182, 0, 102, 44, 42, 29, 4, 96, 46, 42, 29, 5, 96, 46, 42, 29, 6, 96, 46]
abbrev dktL_law_32 : List UInt8 := dkwL_law_32 ++ dktL_law_33
def dkwL_law_31 : List UInt8 := [3, 172, 43, 42, 29, 4, 96, 46, 42, 29, 5, 96, 46, 42, 29, 6, 96, 46, 153, 0, 7, 4]
abbrev dktL_law_31 : List UInt8 := dkwL_law_31 ++ dktL_law_32
def dkwL_law_30 : List UInt8 := [29, 5, 96, 46, 182, 0, 98, 44, 42, 29, 4, 96, 46, 42, 29, 5, 96, 46, 182, 0, 101, 159, 1, 2]
abbrev dktL_law_30 : List UInt8 := dkwL_law_30 ++ dktL_law_31
def dkwL_law_29 : List UInt8 := [182, 0, 94, 44, 42, 29, 4, 96, 46, 182, 0, 97, 159, 1, 35, 3, 172, 43, 42, 29, 4, 96, 46, 42]
abbrev dktL_law_29 : List UInt8 := dkwL_law_29 ++ dktL_law_30
def dkwL_law_28 : List UInt8 := [29, 4, 96, 46, 42, 29, 5, 96, 46, 182, 0, 93, 159, 1, 58, 3, 172, 43, 42, 29, 4, 96, 46]
abbrev dktL_law_28 : List UInt8 := dkwL_law_28 ++ dktL_law_29
def dkwL_law_27 : List UInt8 := [182, 0, 89, 159, 1, 91, 3, 172, 43, 42, 29, 4, 96, 46, 42, 29, 5, 96, 46, 182, 0, 90, 44, 42]
abbrev dktL_law_27 : List UInt8 := dkwL_law_27 ++ dktL_law_28
def dkwL_law_26 : List UInt8 := [182, 0, 85, 159, 1, 114, 3, 172, 43, 42, 29, 4, 96, 46, 182, 0, 86, 44, 42, 29, 4, 96, 46]
abbrev dktL_law_26 : List UInt8 := dkwL_law_26 ++ dktL_law_27
def dkwL_law_25 : List UInt8 := [182, 0, 81, 159, 1, 137, 3, 172, 43, 42, 29, 4, 96, 46, 182, 0, 82, 44, 42, 29, 4, 96, 46]
abbrev dktL_law_25 : List UInt8 := dkwL_law_25 ++ dktL_law_26
def dkwL_law_24 : List UInt8 := [44, 42, 29, 4, 96, 46, 42, 29, 5, 96, 46, 42, 29, 6, 96, 46, 153, 0, 7, 4, 167, 0, 4, 3]
abbrev dktL_law_24 : List UInt8 := dkwL_law_24 ++ dktL_law_25
def dkwL_law_23 : List UInt8 := [4, 96, 46, 42, 29, 5, 96, 46, 42, 29, 6, 96, 46, 153, 0, 7, 4, 167, 0, 4, 3, 182, 0, 77]
abbrev dktL_law_23 : List UInt8 := dkwL_law_23 ++ dktL_law_24
def dkwL_law_22 : List UInt8 := [4, 96, 46, 42, 29, 5, 96, 46, 42, 29, 6, 96, 46, 182, 0, 76, 159, 1, 196, 3, 172, 43, 42, 29]
abbrev dktL_law_22 : List UInt8 := dkwL_law_22 ++ dktL_law_23
def dkwL_law_21 : List UInt8 := [3, 172, 43, 42, 29, 4, 96, 46, 42, 29, 5, 96, 46, 42, 29, 6, 96, 46, 182, 0, 73, 44, 42, 29]
abbrev dktL_law_21 : List UInt8 := dkwL_law_21 ++ dktL_law_22
def dkwL_law_20 : List UInt8 := [29, 5, 96, 46, 182, 0, 69, 44, 42, 29, 4, 96, 46, 42, 29, 5, 96, 46, 182, 0, 72, 159, 1, 239]
abbrev dktL_law_20 : List UInt8 := dkwL_law_20 ++ dktL_law_21
def dkwL_law_19 : List UInt8 := [182, 0, 65, 44, 42, 29, 4, 96, 46, 182, 0, 68, 159, 2, 16, 3, 172, 43, 42, 29, 4, 96, 46, 42]
abbrev dktL_law_19 : List UInt8 := dkwL_law_19 ++ dktL_law_20
def dkwL_law_18 : List UInt8 := [182, 0, 60, 44, 42, 29, 4, 96, 46, 182, 0, 64, 159, 2, 39, 3, 172, 43, 42, 29, 4, 96, 46]
abbrev dktL_law_18 : List UInt8 := dkwL_law_18 ++ dktL_law_19
def dkwL_law_17 : List UInt8 := [29, 5, 96, 46, 42, 29, 6, 96, 46, 182, 0, 59, 159, 2, 62, 3, 172, 43, 42, 29, 4, 96, 46]
abbrev dktL_law_17 : List UInt8 := dkwL_law_17 ++ dktL_law_18
def dkwL_law_16 : List UInt8 := [29, 4, 96, 46, 42, 29, 5, 96, 46, 42, 29, 6, 96, 46, 182, 0, 55, 44, 42, 29, 4, 96, 46, 42]
abbrev dktL_law_16 : List UInt8 := dkwL_law_16 ++ dktL_law_17
def dkwL_law_15 : List UInt8 := [182, 0, 50, 44, 42, 29, 4, 96, 46, 42, 29, 5, 96, 46, 182, 0, 54, 159, 2, 105, 3, 172, 43, 42]
abbrev dktL_law_15 : List UInt8 := dkwL_law_15 ++ dktL_law_16
def dkwL_law_14 : List UInt8 := [42, 29, 8, 96, 46, 182, 0, 49, 159, 2, 138, 3, 172, 43, 42, 29, 4, 96, 46, 42, 29, 5, 96, 46]
abbrev dktL_law_14 : List UInt8 := dkwL_law_14 ++ dktL_law_15
def dkwL_law_13 : List UInt8 := [182, 0, 46, 44, 42, 29, 4, 96, 46, 42, 29, 5, 96, 46, 42, 29, 6, 96, 46, 42, 29, 7, 96, 46]
abbrev dktL_law_13 : List UInt8 := dkwL_law_13 ++ dktL_law_14
def dkwL_law_12 : List UInt8 := [4, 96, 46, 42, 29, 5, 96, 46, 42, 29, 6, 96, 46, 42, 29, 7, 96, 46, 42, 29, 8, 96, 46]
abbrev dktL_law_12 : List UInt8 := dkwL_law_12 ++ dktL_law_13
def dkwL_law_11 : List UInt8 := [182, 0, 41, 159, 2, 214, 3, 172, 43, 182, 0, 42, 44, 182, 0, 45, 159, 2, 201, 3, 172, 43, 42, 29]
abbrev dktL_law_11 : List UInt8 := dkwL_law_11 ++ dktL_law_12
def dkwL_law_10 : List UInt8 := [46, 182, 0, 33, 44, 42, 29, 4, 96, 46, 182, 0, 36, 159, 2, 227, 3, 172, 43, 182, 0, 37, 44]
abbrev dktL_law_10 : List UInt8 := dkwL_law_10 ++ dktL_law_11
def dkwL_law_9 : List UInt8 := [96, 46, 182, 0, 28, 44, 42, 29, 4, 96, 46, 182, 0, 32, 159, 2, 250, 3, 172, 43, 42, 29, 4, 96]
abbrev dktL_law_9 : List UInt8 := dkwL_law_9 ++ dktL_law_10
def dkwL_law_8 : List UInt8 := [96, 46, 42, 29, 7, 96, 46, 42, 29, 8, 96, 46, 182, 0, 27, 159, 3, 17, 3, 172, 43, 42, 29, 4]
abbrev dktL_law_8 : List UInt8 := dkwL_law_8 ++ dktL_law_9
def dkwL_law_7 : List UInt8 := [96, 46, 42, 29, 8, 96, 46, 182, 0, 23, 44, 42, 29, 4, 96, 46, 42, 29, 5, 96, 46, 42, 29, 6]
abbrev dktL_law_7 : List UInt8 := dkwL_law_7 ++ dktL_law_8
def dkwL_law_6 : List UInt8 := [159, 3, 80, 3, 172, 43, 42, 29, 4, 96, 46, 42, 29, 5, 96, 46, 42, 29, 6, 96, 46, 42, 29, 7]
abbrev dktL_law_6 : List UInt8 := dkwL_law_6 ++ dktL_law_7
def dkwL_law_5 : List UInt8 := [46, 182, 0, 18, 44, 42, 29, 4, 96, 46, 42, 29, 5, 96, 46, 42, 29, 6, 96, 46, 182, 0, 22]
abbrev dktL_law_5 : List UInt8 := dkwL_law_5 ++ dktL_law_6
def dkwL_law_4 : List UInt8 := [46, 182, 0, 17, 159, 3, 123, 3, 172, 43, 42, 29, 4, 96, 46, 42, 29, 5, 96, 46, 42, 29, 6, 96]
abbrev dktL_law_4 : List UInt8 := dkwL_law_4 ++ dktL_law_5
def dkwL_law_3 : List UInt8 := [43, 42, 29, 4, 96, 46, 42, 29, 5, 96, 46, 182, 0, 13, 44, 42, 29, 4, 96, 46, 42, 29, 5, 96]
abbrev dktL_law_3 : List UInt8 := dkwL_law_3 ++ dktL_law_4
def dkwL_law_2 : List UInt8 := [170, 0, 0, 0, 0, 4, 26, 0, 0, 0, 0, 0, 0, 0, 28, 0, 0, 0, 131, 0, 0, 0, 164, 0, 0, 0, 207, 0, 0, 1, 14, 0, 0, 1, 37, 0, 0, 1, 60, 0, 0, 1, 73, 0, 0, 1, 86, 0, 0, 1, 149, 0, 0, 1, 182, 0, 0, 1, 225, 0, 0, 1, 248, 0, 0, 2, 15, 0, 0, 2, 48, 0, 0, 2, 91, 0, 0, 2, 150, 0, 0, 2, 173, 0, 0, 2, 196, 0, 0, 2, 229, 0, 0, 2, 252, 0, 0, 3, 29, 0, 0, 3, 88, 0, 0, 3, 111, 0, 0, 3, 154, 0, 0, 3, 167, 0, 0, 3, 180, 0, 0, 3, 213, 0, 0, 3, 246, 0, 0, 4, 13]
abbrev dktL_law_2 : List UInt8 := dkwL_law_2 ++ dktL_law_3
def dkwL_law_1 : List UInt8 := [163, 4, 41, 42, 29, 46, 16, 31, 126]
abbrev dktL_law_1 : List UInt8 := dkwL_law_1 ++ dktL_law_2
def dkwL_law_0 : List UInt8 := [187, 0, 7, 89, 183, 0, 9, 76, 187, 0, 10, 89, 183, 0, 12, 77, 3, 62, 29, 42, 190, 16, 6, 100]
abbrev dktL_law_0 : List UInt8 := dkwL_law_0 ++ dktL_law_1
theorem dksL_law_0 : cL_law.data.toList.drop 0 = dktL_law_0 := by decide +kernel
theorem dksL_law_1 : cL_law.data.toList.drop 24 = dktL_law_1 := dk_seg dksL_law_0 24 rfl rfl
theorem dksL_law_2 : cL_law.data.toList.drop 33 = dktL_law_2 := dk_seg dksL_law_1 9 rfl rfl
theorem dksL_law_3 : cL_law.data.toList.drop 164 = dktL_law_3 := dk_seg dksL_law_2 131 rfl rfl
theorem dksL_law_4 : cL_law.data.toList.drop 188 = dktL_law_4 := dk_seg dksL_law_3 24 rfl rfl
theorem dksL_law_5 : cL_law.data.toList.drop 212 = dktL_law_5 := dk_seg dksL_law_4 24 rfl rfl
theorem dksL_law_6 : cL_law.data.toList.drop 235 = dktL_law_6 := dk_seg dksL_law_5 23 rfl rfl
theorem dksL_law_7 : cL_law.data.toList.drop 259 = dktL_law_7 := dk_seg dksL_law_6 24 rfl rfl
theorem dksL_law_8 : cL_law.data.toList.drop 283 = dktL_law_8 := dk_seg dksL_law_7 24 rfl rfl
theorem dksL_law_9 : cL_law.data.toList.drop 307 = dktL_law_9 := dk_seg dksL_law_8 24 rfl rfl
theorem dksL_law_10 : cL_law.data.toList.drop 331 = dktL_law_10 := dk_seg dksL_law_9 24 rfl rfl
theorem dksL_law_11 : cL_law.data.toList.drop 354 = dktL_law_11 := dk_seg dksL_law_10 23 rfl rfl
theorem dksL_law_12 : cL_law.data.toList.drop 378 = dktL_law_12 := dk_seg dksL_law_11 24 rfl rfl
theorem dksL_law_13 : cL_law.data.toList.drop 401 = dktL_law_13 := dk_seg dksL_law_12 23 rfl rfl
theorem dksL_law_14 : cL_law.data.toList.drop 425 = dktL_law_14 := dk_seg dksL_law_13 24 rfl rfl
theorem dksL_law_15 : cL_law.data.toList.drop 449 = dktL_law_15 := dk_seg dksL_law_14 24 rfl rfl
theorem dksL_law_16 : cL_law.data.toList.drop 473 = dktL_law_16 := dk_seg dksL_law_15 24 rfl rfl
theorem dksL_law_17 : cL_law.data.toList.drop 497 = dktL_law_17 := dk_seg dksL_law_16 24 rfl rfl
theorem dksL_law_18 : cL_law.data.toList.drop 520 = dktL_law_18 := dk_seg dksL_law_17 23 rfl rfl
theorem dksL_law_19 : cL_law.data.toList.drop 543 = dktL_law_19 := dk_seg dksL_law_18 23 rfl rfl
theorem dksL_law_20 : cL_law.data.toList.drop 567 = dktL_law_20 := dk_seg dksL_law_19 24 rfl rfl
theorem dksL_law_21 : cL_law.data.toList.drop 591 = dktL_law_21 := dk_seg dksL_law_20 24 rfl rfl
theorem dksL_law_22 : cL_law.data.toList.drop 615 = dktL_law_22 := dk_seg dksL_law_21 24 rfl rfl
theorem dksL_law_23 : cL_law.data.toList.drop 639 = dktL_law_23 := dk_seg dksL_law_22 24 rfl rfl
theorem dksL_law_24 : cL_law.data.toList.drop 663 = dktL_law_24 := dk_seg dksL_law_23 24 rfl rfl
theorem dksL_law_25 : cL_law.data.toList.drop 687 = dktL_law_25 := dk_seg dksL_law_24 24 rfl rfl
theorem dksL_law_26 : cL_law.data.toList.drop 710 = dktL_law_26 := dk_seg dksL_law_25 23 rfl rfl
theorem dksL_law_27 : cL_law.data.toList.drop 733 = dktL_law_27 := dk_seg dksL_law_26 23 rfl rfl
theorem dksL_law_28 : cL_law.data.toList.drop 757 = dktL_law_28 := dk_seg dksL_law_27 24 rfl rfl
theorem dksL_law_29 : cL_law.data.toList.drop 780 = dktL_law_29 := dk_seg dksL_law_28 23 rfl rfl
theorem dksL_law_30 : cL_law.data.toList.drop 804 = dktL_law_30 := dk_seg dksL_law_29 24 rfl rfl
theorem dksL_law_31 : cL_law.data.toList.drop 828 = dktL_law_31 := dk_seg dksL_law_30 24 rfl rfl
theorem dksL_law_32 : cL_law.data.toList.drop 850 = dktL_law_32 := dk_seg dksL_law_31 22 rfl rfl
theorem dksL_law_33 : cL_law.data.toList.drop 873 = dktL_law_33 := dk_seg dksL_law_32 23 rfl rfl
theorem dksL_law_34 : cL_law.data.toList.drop 895 = dktL_law_34 := dk_seg dksL_law_33 22 rfl rfl
theorem dksL_law_35 : cL_law.data.toList.drop 919 = dktL_law_35 := dk_seg dksL_law_34 24 rfl rfl
theorem dksL_law_36 : cL_law.data.toList.drop 943 = dktL_law_36 := dk_seg dksL_law_35 24 rfl rfl
theorem dksL_law_37 : cL_law.data.toList.drop 967 = dktL_law_37 := dk_seg dksL_law_36 24 rfl rfl
theorem dksL_law_38 : cL_law.data.toList.drop 991 = dktL_law_38 := dk_seg dksL_law_37 24 rfl rfl
theorem dksL_law_39 : cL_law.data.toList.drop 1015 = dktL_law_39 := dk_seg dksL_law_38 24 rfl rfl
theorem dksL_law_40 : cL_law.data.toList.drop 1039 = dktL_law_40 := dk_seg dksL_law_39 24 rfl rfl
theorem dksL_law_41 : cL_law.data.toList.drop 1062 = dktL_law_41 := dk_seg dksL_law_40 23 rfl rfl
theorem dksL_law_42 : cL_law.data.toList.drop 1086 = dktL_law_42 := dk_seg dksL_law_41 24 rfl rfl
theorem dL_law_0 : decode cL_law 0 = .ok (.new 7, 3) := dk_187 0 7 (dk_at dksL_law_0 0 rfl rfl)
theorem dL_law_3 : decode cL_law 3 = .ok (.dup, 1) := dk_89 (dk_at dksL_law_0 3 rfl rfl)
theorem dL_law_4 : decode cL_law 4 = .ok (.invokespecial 9, 3) := dk_183 0 9 (dk_at dksL_law_0 4 rfl rfl)
theorem dL_law_7 : decode cL_law 7 = .ok (.astore_n 1, 1) := dk_76 (dk_at dksL_law_0 7 rfl rfl)
theorem dL_law_8 : decode cL_law 8 = .ok (.new 10, 3) := dk_187 0 10 (dk_at dksL_law_0 8 rfl rfl)
theorem dL_law_11 : decode cL_law 11 = .ok (.dup, 1) := dk_89 (dk_at dksL_law_0 11 rfl rfl)
theorem dL_law_12 : decode cL_law 12 = .ok (.invokespecial 12, 3) := dk_183 0 12 (dk_at dksL_law_0 12 rfl rfl)
theorem dL_law_15 : decode cL_law 15 = .ok (.astore_n 2, 1) := dk_77 (dk_at dksL_law_0 15 rfl rfl)
theorem dL_law_16 : decode cL_law 16 = .ok (.iconst 0, 1) := dk_3 (dk_at dksL_law_0 16 rfl rfl)
theorem dL_law_17 : decode cL_law 17 = .ok (.istore_n 3, 1) := dk_62 (dk_at dksL_law_0 17 rfl rfl)
theorem dL_law_18 : decode cL_law 18 = .ok (.iload_n 3, 1) := dk_29 (dk_at dksL_law_0 18 rfl rfl)
theorem dL_law_19 : decode cL_law 19 = .ok (.aload_n 0, 1) := dk_42 (dk_at dksL_law_0 19 rfl rfl)
theorem dL_law_20 : decode cL_law 20 = .ok (.arraylength, 1) := dk_190 (dk_at dksL_law_0 20 rfl rfl)
theorem dL_law_21 : decode cL_law 21 = .ok (.bipush 6, 2) := dk_16 6 (dk_at dksL_law_0 21 rfl rfl)
theorem dL_law_23 : decode cL_law 23 = .ok (.isub, 1) := dk_100 (dk_at dksL_law_0 23 rfl rfl)
theorem dL_law_24 : decode cL_law 24 = .ok (.if_icmp .gt 1065, 3) := dk_163 4 41 (dk_at dksL_law_1 0 rfl rfl)
theorem dL_law_27 : decode cL_law 27 = .ok (.aload_n 0, 1) := dk_42 (dk_at dksL_law_1 3 rfl rfl)
theorem dL_law_28 : decode cL_law 28 = .ok (.iload_n 3, 1) := dk_29 (dk_at dksL_law_1 4 rfl rfl)
theorem dL_law_29 : decode cL_law 29 = .ok (.iaload, 1) := dk_46 (dk_at dksL_law_1 5 rfl rfl)
theorem dL_law_30 : decode cL_law 30 = .ok (.bipush 31, 2) := dk_16 31 (dk_at dksL_law_1 6 rfl rfl)
theorem dL_law_32 : decode cL_law 32 = .ok (.iand, 1) := dk_126 (dk_at dksL_law_1 8 rfl rfl)
theorem dL_law_33 : decode cL_law 33 = .ok (.tableswitch 1050 0 28 #[131, 164, 207, 270, 293, 316, 329, 342, 405, 438, 481, 504, 527, 560, 603, 662, 685, 708, 741, 764, 797, 856, 879, 922, 935, 948, 981, 1014, 1037], 131) := by decide +kernel
theorem dL_law_164 : decode cL_law 164 = .ok (.aload_n 1, 1) := dk_43 (dk_at dksL_law_3 0 rfl rfl)
theorem dL_law_165 : decode cL_law 165 = .ok (.aload_n 0, 1) := dk_42 (dk_at dksL_law_3 1 rfl rfl)
theorem dL_law_166 : decode cL_law 166 = .ok (.iload_n 3, 1) := dk_29 (dk_at dksL_law_3 2 rfl rfl)
theorem dL_law_167 : decode cL_law 167 = .ok (.iconst 1, 1) := dk_4 (dk_at dksL_law_3 3 rfl rfl)
theorem dL_law_168 : decode cL_law 168 = .ok (.iadd, 1) := dk_96 (dk_at dksL_law_3 4 rfl rfl)
theorem dL_law_169 : decode cL_law 169 = .ok (.iaload, 1) := dk_46 (dk_at dksL_law_3 5 rfl rfl)
theorem dL_law_170 : decode cL_law 170 = .ok (.aload_n 0, 1) := dk_42 (dk_at dksL_law_3 6 rfl rfl)
theorem dL_law_171 : decode cL_law 171 = .ok (.iload_n 3, 1) := dk_29 (dk_at dksL_law_3 7 rfl rfl)
theorem dL_law_172 : decode cL_law 172 = .ok (.iconst 2, 1) := dk_5 (dk_at dksL_law_3 8 rfl rfl)
theorem dL_law_173 : decode cL_law 173 = .ok (.iadd, 1) := dk_96 (dk_at dksL_law_3 9 rfl rfl)
theorem dL_law_174 : decode cL_law 174 = .ok (.iaload, 1) := dk_46 (dk_at dksL_law_3 10 rfl rfl)
theorem dL_law_175 : decode cL_law 175 = .ok (.invokevirtual 13, 3) := dk_182 0 13 (dk_at dksL_law_3 11 rfl rfl)
theorem dL_law_178 : decode cL_law 178 = .ok (.aload_n 2, 1) := dk_44 (dk_at dksL_law_3 14 rfl rfl)
theorem dL_law_179 : decode cL_law 179 = .ok (.aload_n 0, 1) := dk_42 (dk_at dksL_law_3 15 rfl rfl)
theorem dL_law_180 : decode cL_law 180 = .ok (.iload_n 3, 1) := dk_29 (dk_at dksL_law_3 16 rfl rfl)
theorem dL_law_181 : decode cL_law 181 = .ok (.iconst 1, 1) := dk_4 (dk_at dksL_law_3 17 rfl rfl)
theorem dL_law_182 : decode cL_law 182 = .ok (.iadd, 1) := dk_96 (dk_at dksL_law_3 18 rfl rfl)
theorem dL_law_183 : decode cL_law 183 = .ok (.iaload, 1) := dk_46 (dk_at dksL_law_3 19 rfl rfl)
theorem dL_law_184 : decode cL_law 184 = .ok (.aload_n 0, 1) := dk_42 (dk_at dksL_law_3 20 rfl rfl)
theorem dL_law_185 : decode cL_law 185 = .ok (.iload_n 3, 1) := dk_29 (dk_at dksL_law_3 21 rfl rfl)
theorem dL_law_186 : decode cL_law 186 = .ok (.iconst 2, 1) := dk_5 (dk_at dksL_law_3 22 rfl rfl)
theorem dL_law_187 : decode cL_law 187 = .ok (.iadd, 1) := dk_96 (dk_at dksL_law_3 23 rfl rfl)
theorem dL_law_188 : decode cL_law 188 = .ok (.iaload, 1) := dk_46 (dk_at dksL_law_4 0 rfl rfl)
theorem dL_law_189 : decode cL_law 189 = .ok (.invokevirtual 17, 3) := dk_182 0 17 (dk_at dksL_law_4 1 rfl rfl)
theorem dL_law_192 : decode cL_law 192 = .ok (.if_icmp .eq 891, 3) := dk_159 3 123 (dk_at dksL_law_4 4 rfl rfl)
theorem dL_law_195 : decode cL_law 195 = .ok (.iconst 0, 1) := dk_3 (dk_at dksL_law_4 7 rfl rfl)
theorem dL_law_196 : decode cL_law 196 = .ok (.ireturn, 1) := dk_172 (dk_at dksL_law_4 8 rfl rfl)
theorem dL_law_197 : decode cL_law 197 = .ok (.aload_n 1, 1) := dk_43 (dk_at dksL_law_4 9 rfl rfl)
theorem dL_law_198 : decode cL_law 198 = .ok (.aload_n 0, 1) := dk_42 (dk_at dksL_law_4 10 rfl rfl)
theorem dL_law_199 : decode cL_law 199 = .ok (.iload_n 3, 1) := dk_29 (dk_at dksL_law_4 11 rfl rfl)
theorem dL_law_200 : decode cL_law 200 = .ok (.iconst 1, 1) := dk_4 (dk_at dksL_law_4 12 rfl rfl)
theorem dL_law_201 : decode cL_law 201 = .ok (.iadd, 1) := dk_96 (dk_at dksL_law_4 13 rfl rfl)
theorem dL_law_202 : decode cL_law 202 = .ok (.iaload, 1) := dk_46 (dk_at dksL_law_4 14 rfl rfl)
theorem dL_law_203 : decode cL_law 203 = .ok (.aload_n 0, 1) := dk_42 (dk_at dksL_law_4 15 rfl rfl)
theorem dL_law_204 : decode cL_law 204 = .ok (.iload_n 3, 1) := dk_29 (dk_at dksL_law_4 16 rfl rfl)
theorem dL_law_205 : decode cL_law 205 = .ok (.iconst 2, 1) := dk_5 (dk_at dksL_law_4 17 rfl rfl)
theorem dL_law_206 : decode cL_law 206 = .ok (.iadd, 1) := dk_96 (dk_at dksL_law_4 18 rfl rfl)
theorem dL_law_207 : decode cL_law 207 = .ok (.iaload, 1) := dk_46 (dk_at dksL_law_4 19 rfl rfl)
theorem dL_law_208 : decode cL_law 208 = .ok (.aload_n 0, 1) := dk_42 (dk_at dksL_law_4 20 rfl rfl)
theorem dL_law_209 : decode cL_law 209 = .ok (.iload_n 3, 1) := dk_29 (dk_at dksL_law_4 21 rfl rfl)
theorem dL_law_210 : decode cL_law 210 = .ok (.iconst 3, 1) := dk_6 (dk_at dksL_law_4 22 rfl rfl)
theorem dL_law_211 : decode cL_law 211 = .ok (.iadd, 1) := dk_96 (dk_at dksL_law_4 23 rfl rfl)
theorem dL_law_212 : decode cL_law 212 = .ok (.iaload, 1) := dk_46 (dk_at dksL_law_5 0 rfl rfl)
theorem dL_law_213 : decode cL_law 213 = .ok (.invokevirtual 18, 3) := dk_182 0 18 (dk_at dksL_law_5 1 rfl rfl)
theorem dL_law_216 : decode cL_law 216 = .ok (.aload_n 2, 1) := dk_44 (dk_at dksL_law_5 4 rfl rfl)
theorem dL_law_217 : decode cL_law 217 = .ok (.aload_n 0, 1) := dk_42 (dk_at dksL_law_5 5 rfl rfl)
theorem dL_law_218 : decode cL_law 218 = .ok (.iload_n 3, 1) := dk_29 (dk_at dksL_law_5 6 rfl rfl)
theorem dL_law_219 : decode cL_law 219 = .ok (.iconst 1, 1) := dk_4 (dk_at dksL_law_5 7 rfl rfl)
theorem dL_law_220 : decode cL_law 220 = .ok (.iadd, 1) := dk_96 (dk_at dksL_law_5 8 rfl rfl)
theorem dL_law_221 : decode cL_law 221 = .ok (.iaload, 1) := dk_46 (dk_at dksL_law_5 9 rfl rfl)
theorem dL_law_222 : decode cL_law 222 = .ok (.aload_n 0, 1) := dk_42 (dk_at dksL_law_5 10 rfl rfl)
theorem dL_law_223 : decode cL_law 223 = .ok (.iload_n 3, 1) := dk_29 (dk_at dksL_law_5 11 rfl rfl)
theorem dL_law_224 : decode cL_law 224 = .ok (.iconst 2, 1) := dk_5 (dk_at dksL_law_5 12 rfl rfl)
theorem dL_law_225 : decode cL_law 225 = .ok (.iadd, 1) := dk_96 (dk_at dksL_law_5 13 rfl rfl)
theorem dL_law_226 : decode cL_law 226 = .ok (.iaload, 1) := dk_46 (dk_at dksL_law_5 14 rfl rfl)
theorem dL_law_227 : decode cL_law 227 = .ok (.aload_n 0, 1) := dk_42 (dk_at dksL_law_5 15 rfl rfl)
theorem dL_law_228 : decode cL_law 228 = .ok (.iload_n 3, 1) := dk_29 (dk_at dksL_law_5 16 rfl rfl)
theorem dL_law_229 : decode cL_law 229 = .ok (.iconst 3, 1) := dk_6 (dk_at dksL_law_5 17 rfl rfl)
theorem dL_law_230 : decode cL_law 230 = .ok (.iadd, 1) := dk_96 (dk_at dksL_law_5 18 rfl rfl)
theorem dL_law_231 : decode cL_law 231 = .ok (.iaload, 1) := dk_46 (dk_at dksL_law_5 19 rfl rfl)
theorem dL_law_232 : decode cL_law 232 = .ok (.invokevirtual 22, 3) := dk_182 0 22 (dk_at dksL_law_5 20 rfl rfl)
theorem dL_law_235 : decode cL_law 235 = .ok (.if_icmp .eq 848, 3) := dk_159 3 80 (dk_at dksL_law_6 0 rfl rfl)
theorem dL_law_238 : decode cL_law 238 = .ok (.iconst 0, 1) := dk_3 (dk_at dksL_law_6 3 rfl rfl)
theorem dL_law_239 : decode cL_law 239 = .ok (.ireturn, 1) := dk_172 (dk_at dksL_law_6 4 rfl rfl)
theorem dL_law_240 : decode cL_law 240 = .ok (.aload_n 1, 1) := dk_43 (dk_at dksL_law_6 5 rfl rfl)
theorem dL_law_241 : decode cL_law 241 = .ok (.aload_n 0, 1) := dk_42 (dk_at dksL_law_6 6 rfl rfl)
theorem dL_law_242 : decode cL_law 242 = .ok (.iload_n 3, 1) := dk_29 (dk_at dksL_law_6 7 rfl rfl)
theorem dL_law_243 : decode cL_law 243 = .ok (.iconst 1, 1) := dk_4 (dk_at dksL_law_6 8 rfl rfl)
theorem dL_law_244 : decode cL_law 244 = .ok (.iadd, 1) := dk_96 (dk_at dksL_law_6 9 rfl rfl)
theorem dL_law_245 : decode cL_law 245 = .ok (.iaload, 1) := dk_46 (dk_at dksL_law_6 10 rfl rfl)
theorem dL_law_246 : decode cL_law 246 = .ok (.aload_n 0, 1) := dk_42 (dk_at dksL_law_6 11 rfl rfl)
theorem dL_law_247 : decode cL_law 247 = .ok (.iload_n 3, 1) := dk_29 (dk_at dksL_law_6 12 rfl rfl)
theorem dL_law_248 : decode cL_law 248 = .ok (.iconst 2, 1) := dk_5 (dk_at dksL_law_6 13 rfl rfl)
theorem dL_law_249 : decode cL_law 249 = .ok (.iadd, 1) := dk_96 (dk_at dksL_law_6 14 rfl rfl)
theorem dL_law_250 : decode cL_law 250 = .ok (.iaload, 1) := dk_46 (dk_at dksL_law_6 15 rfl rfl)
theorem dL_law_251 : decode cL_law 251 = .ok (.aload_n 0, 1) := dk_42 (dk_at dksL_law_6 16 rfl rfl)
theorem dL_law_252 : decode cL_law 252 = .ok (.iload_n 3, 1) := dk_29 (dk_at dksL_law_6 17 rfl rfl)
theorem dL_law_253 : decode cL_law 253 = .ok (.iconst 3, 1) := dk_6 (dk_at dksL_law_6 18 rfl rfl)
theorem dL_law_254 : decode cL_law 254 = .ok (.iadd, 1) := dk_96 (dk_at dksL_law_6 19 rfl rfl)
theorem dL_law_255 : decode cL_law 255 = .ok (.iaload, 1) := dk_46 (dk_at dksL_law_6 20 rfl rfl)
theorem dL_law_256 : decode cL_law 256 = .ok (.aload_n 0, 1) := dk_42 (dk_at dksL_law_6 21 rfl rfl)
theorem dL_law_257 : decode cL_law 257 = .ok (.iload_n 3, 1) := dk_29 (dk_at dksL_law_6 22 rfl rfl)
theorem dL_law_258 : decode cL_law 258 = .ok (.iconst 4, 1) := dk_7 (dk_at dksL_law_6 23 rfl rfl)
theorem dL_law_259 : decode cL_law 259 = .ok (.iadd, 1) := dk_96 (dk_at dksL_law_7 0 rfl rfl)
theorem dL_law_260 : decode cL_law 260 = .ok (.iaload, 1) := dk_46 (dk_at dksL_law_7 1 rfl rfl)
theorem dL_law_261 : decode cL_law 261 = .ok (.aload_n 0, 1) := dk_42 (dk_at dksL_law_7 2 rfl rfl)
theorem dL_law_262 : decode cL_law 262 = .ok (.iload_n 3, 1) := dk_29 (dk_at dksL_law_7 3 rfl rfl)
theorem dL_law_263 : decode cL_law 263 = .ok (.iconst 5, 1) := dk_8 (dk_at dksL_law_7 4 rfl rfl)
theorem dL_law_264 : decode cL_law 264 = .ok (.iadd, 1) := dk_96 (dk_at dksL_law_7 5 rfl rfl)
theorem dL_law_265 : decode cL_law 265 = .ok (.iaload, 1) := dk_46 (dk_at dksL_law_7 6 rfl rfl)
theorem dL_law_266 : decode cL_law 266 = .ok (.invokevirtual 23, 3) := dk_182 0 23 (dk_at dksL_law_7 7 rfl rfl)
theorem dL_law_269 : decode cL_law 269 = .ok (.aload_n 2, 1) := dk_44 (dk_at dksL_law_7 10 rfl rfl)
theorem dL_law_270 : decode cL_law 270 = .ok (.aload_n 0, 1) := dk_42 (dk_at dksL_law_7 11 rfl rfl)
theorem dL_law_271 : decode cL_law 271 = .ok (.iload_n 3, 1) := dk_29 (dk_at dksL_law_7 12 rfl rfl)
theorem dL_law_272 : decode cL_law 272 = .ok (.iconst 1, 1) := dk_4 (dk_at dksL_law_7 13 rfl rfl)
theorem dL_law_273 : decode cL_law 273 = .ok (.iadd, 1) := dk_96 (dk_at dksL_law_7 14 rfl rfl)
theorem dL_law_274 : decode cL_law 274 = .ok (.iaload, 1) := dk_46 (dk_at dksL_law_7 15 rfl rfl)
theorem dL_law_275 : decode cL_law 275 = .ok (.aload_n 0, 1) := dk_42 (dk_at dksL_law_7 16 rfl rfl)
theorem dL_law_276 : decode cL_law 276 = .ok (.iload_n 3, 1) := dk_29 (dk_at dksL_law_7 17 rfl rfl)
theorem dL_law_277 : decode cL_law 277 = .ok (.iconst 2, 1) := dk_5 (dk_at dksL_law_7 18 rfl rfl)
theorem dL_law_278 : decode cL_law 278 = .ok (.iadd, 1) := dk_96 (dk_at dksL_law_7 19 rfl rfl)
theorem dL_law_279 : decode cL_law 279 = .ok (.iaload, 1) := dk_46 (dk_at dksL_law_7 20 rfl rfl)
theorem dL_law_280 : decode cL_law 280 = .ok (.aload_n 0, 1) := dk_42 (dk_at dksL_law_7 21 rfl rfl)
theorem dL_law_281 : decode cL_law 281 = .ok (.iload_n 3, 1) := dk_29 (dk_at dksL_law_7 22 rfl rfl)
theorem dL_law_282 : decode cL_law 282 = .ok (.iconst 3, 1) := dk_6 (dk_at dksL_law_7 23 rfl rfl)
theorem dL_law_283 : decode cL_law 283 = .ok (.iadd, 1) := dk_96 (dk_at dksL_law_8 0 rfl rfl)
theorem dL_law_284 : decode cL_law 284 = .ok (.iaload, 1) := dk_46 (dk_at dksL_law_8 1 rfl rfl)
theorem dL_law_285 : decode cL_law 285 = .ok (.aload_n 0, 1) := dk_42 (dk_at dksL_law_8 2 rfl rfl)
theorem dL_law_286 : decode cL_law 286 = .ok (.iload_n 3, 1) := dk_29 (dk_at dksL_law_8 3 rfl rfl)
theorem dL_law_287 : decode cL_law 287 = .ok (.iconst 4, 1) := dk_7 (dk_at dksL_law_8 4 rfl rfl)
theorem dL_law_288 : decode cL_law 288 = .ok (.iadd, 1) := dk_96 (dk_at dksL_law_8 5 rfl rfl)
theorem dL_law_289 : decode cL_law 289 = .ok (.iaload, 1) := dk_46 (dk_at dksL_law_8 6 rfl rfl)
theorem dL_law_290 : decode cL_law 290 = .ok (.aload_n 0, 1) := dk_42 (dk_at dksL_law_8 7 rfl rfl)
theorem dL_law_291 : decode cL_law 291 = .ok (.iload_n 3, 1) := dk_29 (dk_at dksL_law_8 8 rfl rfl)
theorem dL_law_292 : decode cL_law 292 = .ok (.iconst 5, 1) := dk_8 (dk_at dksL_law_8 9 rfl rfl)
theorem dL_law_293 : decode cL_law 293 = .ok (.iadd, 1) := dk_96 (dk_at dksL_law_8 10 rfl rfl)
theorem dL_law_294 : decode cL_law 294 = .ok (.iaload, 1) := dk_46 (dk_at dksL_law_8 11 rfl rfl)
theorem dL_law_295 : decode cL_law 295 = .ok (.invokevirtual 27, 3) := dk_182 0 27 (dk_at dksL_law_8 12 rfl rfl)
theorem dL_law_298 : decode cL_law 298 = .ok (.if_icmp .eq 785, 3) := dk_159 3 17 (dk_at dksL_law_8 15 rfl rfl)
theorem dL_law_301 : decode cL_law 301 = .ok (.iconst 0, 1) := dk_3 (dk_at dksL_law_8 18 rfl rfl)
theorem dL_law_302 : decode cL_law 302 = .ok (.ireturn, 1) := dk_172 (dk_at dksL_law_8 19 rfl rfl)
theorem dL_law_303 : decode cL_law 303 = .ok (.aload_n 1, 1) := dk_43 (dk_at dksL_law_8 20 rfl rfl)
theorem dL_law_304 : decode cL_law 304 = .ok (.aload_n 0, 1) := dk_42 (dk_at dksL_law_8 21 rfl rfl)
theorem dL_law_305 : decode cL_law 305 = .ok (.iload_n 3, 1) := dk_29 (dk_at dksL_law_8 22 rfl rfl)
theorem dL_law_306 : decode cL_law 306 = .ok (.iconst 1, 1) := dk_4 (dk_at dksL_law_8 23 rfl rfl)
theorem dL_law_307 : decode cL_law 307 = .ok (.iadd, 1) := dk_96 (dk_at dksL_law_9 0 rfl rfl)
theorem dL_law_308 : decode cL_law 308 = .ok (.iaload, 1) := dk_46 (dk_at dksL_law_9 1 rfl rfl)
theorem dL_law_309 : decode cL_law 309 = .ok (.invokevirtual 28, 3) := dk_182 0 28 (dk_at dksL_law_9 2 rfl rfl)
theorem dL_law_312 : decode cL_law 312 = .ok (.aload_n 2, 1) := dk_44 (dk_at dksL_law_9 5 rfl rfl)
theorem dL_law_313 : decode cL_law 313 = .ok (.aload_n 0, 1) := dk_42 (dk_at dksL_law_9 6 rfl rfl)
theorem dL_law_314 : decode cL_law 314 = .ok (.iload_n 3, 1) := dk_29 (dk_at dksL_law_9 7 rfl rfl)
theorem dL_law_315 : decode cL_law 315 = .ok (.iconst 1, 1) := dk_4 (dk_at dksL_law_9 8 rfl rfl)
theorem dL_law_316 : decode cL_law 316 = .ok (.iadd, 1) := dk_96 (dk_at dksL_law_9 9 rfl rfl)
theorem dL_law_317 : decode cL_law 317 = .ok (.iaload, 1) := dk_46 (dk_at dksL_law_9 10 rfl rfl)
theorem dL_law_318 : decode cL_law 318 = .ok (.invokevirtual 32, 3) := dk_182 0 32 (dk_at dksL_law_9 11 rfl rfl)
theorem dL_law_321 : decode cL_law 321 = .ok (.if_icmp .eq 762, 3) := dk_159 2 250 (dk_at dksL_law_9 14 rfl rfl)
theorem dL_law_324 : decode cL_law 324 = .ok (.iconst 0, 1) := dk_3 (dk_at dksL_law_9 17 rfl rfl)
theorem dL_law_325 : decode cL_law 325 = .ok (.ireturn, 1) := dk_172 (dk_at dksL_law_9 18 rfl rfl)
theorem dL_law_326 : decode cL_law 326 = .ok (.aload_n 1, 1) := dk_43 (dk_at dksL_law_9 19 rfl rfl)
theorem dL_law_327 : decode cL_law 327 = .ok (.aload_n 0, 1) := dk_42 (dk_at dksL_law_9 20 rfl rfl)
theorem dL_law_328 : decode cL_law 328 = .ok (.iload_n 3, 1) := dk_29 (dk_at dksL_law_9 21 rfl rfl)
theorem dL_law_329 : decode cL_law 329 = .ok (.iconst 1, 1) := dk_4 (dk_at dksL_law_9 22 rfl rfl)
theorem dL_law_330 : decode cL_law 330 = .ok (.iadd, 1) := dk_96 (dk_at dksL_law_9 23 rfl rfl)
theorem dL_law_331 : decode cL_law 331 = .ok (.iaload, 1) := dk_46 (dk_at dksL_law_10 0 rfl rfl)
theorem dL_law_332 : decode cL_law 332 = .ok (.invokevirtual 33, 3) := dk_182 0 33 (dk_at dksL_law_10 1 rfl rfl)
theorem dL_law_335 : decode cL_law 335 = .ok (.aload_n 2, 1) := dk_44 (dk_at dksL_law_10 4 rfl rfl)
theorem dL_law_336 : decode cL_law 336 = .ok (.aload_n 0, 1) := dk_42 (dk_at dksL_law_10 5 rfl rfl)
theorem dL_law_337 : decode cL_law 337 = .ok (.iload_n 3, 1) := dk_29 (dk_at dksL_law_10 6 rfl rfl)
theorem dL_law_338 : decode cL_law 338 = .ok (.iconst 1, 1) := dk_4 (dk_at dksL_law_10 7 rfl rfl)
theorem dL_law_339 : decode cL_law 339 = .ok (.iadd, 1) := dk_96 (dk_at dksL_law_10 8 rfl rfl)
theorem dL_law_340 : decode cL_law 340 = .ok (.iaload, 1) := dk_46 (dk_at dksL_law_10 9 rfl rfl)
theorem dL_law_341 : decode cL_law 341 = .ok (.invokevirtual 36, 3) := dk_182 0 36 (dk_at dksL_law_10 10 rfl rfl)
theorem dL_law_344 : decode cL_law 344 = .ok (.if_icmp .eq 739, 3) := dk_159 2 227 (dk_at dksL_law_10 13 rfl rfl)
theorem dL_law_347 : decode cL_law 347 = .ok (.iconst 0, 1) := dk_3 (dk_at dksL_law_10 16 rfl rfl)
theorem dL_law_348 : decode cL_law 348 = .ok (.ireturn, 1) := dk_172 (dk_at dksL_law_10 17 rfl rfl)
theorem dL_law_349 : decode cL_law 349 = .ok (.aload_n 1, 1) := dk_43 (dk_at dksL_law_10 18 rfl rfl)
theorem dL_law_350 : decode cL_law 350 = .ok (.invokevirtual 37, 3) := dk_182 0 37 (dk_at dksL_law_10 19 rfl rfl)
theorem dL_law_353 : decode cL_law 353 = .ok (.aload_n 2, 1) := dk_44 (dk_at dksL_law_10 22 rfl rfl)
theorem dL_law_354 : decode cL_law 354 = .ok (.invokevirtual 41, 3) := dk_182 0 41 (dk_at dksL_law_11 0 rfl rfl)
theorem dL_law_357 : decode cL_law 357 = .ok (.if_icmp .eq 726, 3) := dk_159 2 214 (dk_at dksL_law_11 3 rfl rfl)
theorem dL_law_360 : decode cL_law 360 = .ok (.iconst 0, 1) := dk_3 (dk_at dksL_law_11 6 rfl rfl)
theorem dL_law_361 : decode cL_law 361 = .ok (.ireturn, 1) := dk_172 (dk_at dksL_law_11 7 rfl rfl)
theorem dL_law_362 : decode cL_law 362 = .ok (.aload_n 1, 1) := dk_43 (dk_at dksL_law_11 8 rfl rfl)
theorem dL_law_363 : decode cL_law 363 = .ok (.invokevirtual 42, 3) := dk_182 0 42 (dk_at dksL_law_11 9 rfl rfl)
theorem dL_law_366 : decode cL_law 366 = .ok (.aload_n 2, 1) := dk_44 (dk_at dksL_law_11 12 rfl rfl)
theorem dL_law_367 : decode cL_law 367 = .ok (.invokevirtual 45, 3) := dk_182 0 45 (dk_at dksL_law_11 13 rfl rfl)
theorem dL_law_370 : decode cL_law 370 = .ok (.if_icmp .eq 713, 3) := dk_159 2 201 (dk_at dksL_law_11 16 rfl rfl)
theorem dL_law_373 : decode cL_law 373 = .ok (.iconst 0, 1) := dk_3 (dk_at dksL_law_11 19 rfl rfl)
theorem dL_law_374 : decode cL_law 374 = .ok (.ireturn, 1) := dk_172 (dk_at dksL_law_11 20 rfl rfl)
theorem dL_law_375 : decode cL_law 375 = .ok (.aload_n 1, 1) := dk_43 (dk_at dksL_law_11 21 rfl rfl)
theorem dL_law_376 : decode cL_law 376 = .ok (.aload_n 0, 1) := dk_42 (dk_at dksL_law_11 22 rfl rfl)
theorem dL_law_377 : decode cL_law 377 = .ok (.iload_n 3, 1) := dk_29 (dk_at dksL_law_11 23 rfl rfl)
theorem dL_law_378 : decode cL_law 378 = .ok (.iconst 1, 1) := dk_4 (dk_at dksL_law_12 0 rfl rfl)
theorem dL_law_379 : decode cL_law 379 = .ok (.iadd, 1) := dk_96 (dk_at dksL_law_12 1 rfl rfl)
theorem dL_law_380 : decode cL_law 380 = .ok (.iaload, 1) := dk_46 (dk_at dksL_law_12 2 rfl rfl)
theorem dL_law_381 : decode cL_law 381 = .ok (.aload_n 0, 1) := dk_42 (dk_at dksL_law_12 3 rfl rfl)
theorem dL_law_382 : decode cL_law 382 = .ok (.iload_n 3, 1) := dk_29 (dk_at dksL_law_12 4 rfl rfl)
theorem dL_law_383 : decode cL_law 383 = .ok (.iconst 2, 1) := dk_5 (dk_at dksL_law_12 5 rfl rfl)
theorem dL_law_384 : decode cL_law 384 = .ok (.iadd, 1) := dk_96 (dk_at dksL_law_12 6 rfl rfl)
theorem dL_law_385 : decode cL_law 385 = .ok (.iaload, 1) := dk_46 (dk_at dksL_law_12 7 rfl rfl)
theorem dL_law_386 : decode cL_law 386 = .ok (.aload_n 0, 1) := dk_42 (dk_at dksL_law_12 8 rfl rfl)
theorem dL_law_387 : decode cL_law 387 = .ok (.iload_n 3, 1) := dk_29 (dk_at dksL_law_12 9 rfl rfl)
theorem dL_law_388 : decode cL_law 388 = .ok (.iconst 3, 1) := dk_6 (dk_at dksL_law_12 10 rfl rfl)
theorem dL_law_389 : decode cL_law 389 = .ok (.iadd, 1) := dk_96 (dk_at dksL_law_12 11 rfl rfl)
theorem dL_law_390 : decode cL_law 390 = .ok (.iaload, 1) := dk_46 (dk_at dksL_law_12 12 rfl rfl)
theorem dL_law_391 : decode cL_law 391 = .ok (.aload_n 0, 1) := dk_42 (dk_at dksL_law_12 13 rfl rfl)
theorem dL_law_392 : decode cL_law 392 = .ok (.iload_n 3, 1) := dk_29 (dk_at dksL_law_12 14 rfl rfl)
theorem dL_law_393 : decode cL_law 393 = .ok (.iconst 4, 1) := dk_7 (dk_at dksL_law_12 15 rfl rfl)
theorem dL_law_394 : decode cL_law 394 = .ok (.iadd, 1) := dk_96 (dk_at dksL_law_12 16 rfl rfl)
theorem dL_law_395 : decode cL_law 395 = .ok (.iaload, 1) := dk_46 (dk_at dksL_law_12 17 rfl rfl)
theorem dL_law_396 : decode cL_law 396 = .ok (.aload_n 0, 1) := dk_42 (dk_at dksL_law_12 18 rfl rfl)
theorem dL_law_397 : decode cL_law 397 = .ok (.iload_n 3, 1) := dk_29 (dk_at dksL_law_12 19 rfl rfl)
theorem dL_law_398 : decode cL_law 398 = .ok (.iconst 5, 1) := dk_8 (dk_at dksL_law_12 20 rfl rfl)
theorem dL_law_399 : decode cL_law 399 = .ok (.iadd, 1) := dk_96 (dk_at dksL_law_12 21 rfl rfl)
theorem dL_law_400 : decode cL_law 400 = .ok (.iaload, 1) := dk_46 (dk_at dksL_law_12 22 rfl rfl)
theorem dL_law_401 : decode cL_law 401 = .ok (.invokevirtual 46, 3) := dk_182 0 46 (dk_at dksL_law_13 0 rfl rfl)
theorem dL_law_404 : decode cL_law 404 = .ok (.aload_n 2, 1) := dk_44 (dk_at dksL_law_13 3 rfl rfl)
theorem dL_law_405 : decode cL_law 405 = .ok (.aload_n 0, 1) := dk_42 (dk_at dksL_law_13 4 rfl rfl)
theorem dL_law_406 : decode cL_law 406 = .ok (.iload_n 3, 1) := dk_29 (dk_at dksL_law_13 5 rfl rfl)
theorem dL_law_407 : decode cL_law 407 = .ok (.iconst 1, 1) := dk_4 (dk_at dksL_law_13 6 rfl rfl)
theorem dL_law_408 : decode cL_law 408 = .ok (.iadd, 1) := dk_96 (dk_at dksL_law_13 7 rfl rfl)
theorem dL_law_409 : decode cL_law 409 = .ok (.iaload, 1) := dk_46 (dk_at dksL_law_13 8 rfl rfl)
theorem dL_law_410 : decode cL_law 410 = .ok (.aload_n 0, 1) := dk_42 (dk_at dksL_law_13 9 rfl rfl)
theorem dL_law_411 : decode cL_law 411 = .ok (.iload_n 3, 1) := dk_29 (dk_at dksL_law_13 10 rfl rfl)
theorem dL_law_412 : decode cL_law 412 = .ok (.iconst 2, 1) := dk_5 (dk_at dksL_law_13 11 rfl rfl)
theorem dL_law_413 : decode cL_law 413 = .ok (.iadd, 1) := dk_96 (dk_at dksL_law_13 12 rfl rfl)
theorem dL_law_414 : decode cL_law 414 = .ok (.iaload, 1) := dk_46 (dk_at dksL_law_13 13 rfl rfl)
theorem dL_law_415 : decode cL_law 415 = .ok (.aload_n 0, 1) := dk_42 (dk_at dksL_law_13 14 rfl rfl)
theorem dL_law_416 : decode cL_law 416 = .ok (.iload_n 3, 1) := dk_29 (dk_at dksL_law_13 15 rfl rfl)
theorem dL_law_417 : decode cL_law 417 = .ok (.iconst 3, 1) := dk_6 (dk_at dksL_law_13 16 rfl rfl)
theorem dL_law_418 : decode cL_law 418 = .ok (.iadd, 1) := dk_96 (dk_at dksL_law_13 17 rfl rfl)
theorem dL_law_419 : decode cL_law 419 = .ok (.iaload, 1) := dk_46 (dk_at dksL_law_13 18 rfl rfl)
theorem dL_law_420 : decode cL_law 420 = .ok (.aload_n 0, 1) := dk_42 (dk_at dksL_law_13 19 rfl rfl)
theorem dL_law_421 : decode cL_law 421 = .ok (.iload_n 3, 1) := dk_29 (dk_at dksL_law_13 20 rfl rfl)
theorem dL_law_422 : decode cL_law 422 = .ok (.iconst 4, 1) := dk_7 (dk_at dksL_law_13 21 rfl rfl)
theorem dL_law_423 : decode cL_law 423 = .ok (.iadd, 1) := dk_96 (dk_at dksL_law_13 22 rfl rfl)
theorem dL_law_424 : decode cL_law 424 = .ok (.iaload, 1) := dk_46 (dk_at dksL_law_13 23 rfl rfl)
theorem dL_law_425 : decode cL_law 425 = .ok (.aload_n 0, 1) := dk_42 (dk_at dksL_law_14 0 rfl rfl)
theorem dL_law_426 : decode cL_law 426 = .ok (.iload_n 3, 1) := dk_29 (dk_at dksL_law_14 1 rfl rfl)
theorem dL_law_427 : decode cL_law 427 = .ok (.iconst 5, 1) := dk_8 (dk_at dksL_law_14 2 rfl rfl)
theorem dL_law_428 : decode cL_law 428 = .ok (.iadd, 1) := dk_96 (dk_at dksL_law_14 3 rfl rfl)
theorem dL_law_429 : decode cL_law 429 = .ok (.iaload, 1) := dk_46 (dk_at dksL_law_14 4 rfl rfl)
theorem dL_law_430 : decode cL_law 430 = .ok (.invokevirtual 49, 3) := dk_182 0 49 (dk_at dksL_law_14 5 rfl rfl)
theorem dL_law_433 : decode cL_law 433 = .ok (.if_icmp .eq 650, 3) := dk_159 2 138 (dk_at dksL_law_14 8 rfl rfl)
theorem dL_law_436 : decode cL_law 436 = .ok (.iconst 0, 1) := dk_3 (dk_at dksL_law_14 11 rfl rfl)
theorem dL_law_437 : decode cL_law 437 = .ok (.ireturn, 1) := dk_172 (dk_at dksL_law_14 12 rfl rfl)
theorem dL_law_438 : decode cL_law 438 = .ok (.aload_n 1, 1) := dk_43 (dk_at dksL_law_14 13 rfl rfl)
theorem dL_law_439 : decode cL_law 439 = .ok (.aload_n 0, 1) := dk_42 (dk_at dksL_law_14 14 rfl rfl)
theorem dL_law_440 : decode cL_law 440 = .ok (.iload_n 3, 1) := dk_29 (dk_at dksL_law_14 15 rfl rfl)
theorem dL_law_441 : decode cL_law 441 = .ok (.iconst 1, 1) := dk_4 (dk_at dksL_law_14 16 rfl rfl)
theorem dL_law_442 : decode cL_law 442 = .ok (.iadd, 1) := dk_96 (dk_at dksL_law_14 17 rfl rfl)
theorem dL_law_443 : decode cL_law 443 = .ok (.iaload, 1) := dk_46 (dk_at dksL_law_14 18 rfl rfl)
theorem dL_law_444 : decode cL_law 444 = .ok (.aload_n 0, 1) := dk_42 (dk_at dksL_law_14 19 rfl rfl)
theorem dL_law_445 : decode cL_law 445 = .ok (.iload_n 3, 1) := dk_29 (dk_at dksL_law_14 20 rfl rfl)
theorem dL_law_446 : decode cL_law 446 = .ok (.iconst 2, 1) := dk_5 (dk_at dksL_law_14 21 rfl rfl)
theorem dL_law_447 : decode cL_law 447 = .ok (.iadd, 1) := dk_96 (dk_at dksL_law_14 22 rfl rfl)
theorem dL_law_448 : decode cL_law 448 = .ok (.iaload, 1) := dk_46 (dk_at dksL_law_14 23 rfl rfl)
theorem dL_law_449 : decode cL_law 449 = .ok (.invokevirtual 50, 3) := dk_182 0 50 (dk_at dksL_law_15 0 rfl rfl)
theorem dL_law_452 : decode cL_law 452 = .ok (.aload_n 2, 1) := dk_44 (dk_at dksL_law_15 3 rfl rfl)
theorem dL_law_453 : decode cL_law 453 = .ok (.aload_n 0, 1) := dk_42 (dk_at dksL_law_15 4 rfl rfl)
theorem dL_law_454 : decode cL_law 454 = .ok (.iload_n 3, 1) := dk_29 (dk_at dksL_law_15 5 rfl rfl)
theorem dL_law_455 : decode cL_law 455 = .ok (.iconst 1, 1) := dk_4 (dk_at dksL_law_15 6 rfl rfl)
theorem dL_law_456 : decode cL_law 456 = .ok (.iadd, 1) := dk_96 (dk_at dksL_law_15 7 rfl rfl)
theorem dL_law_457 : decode cL_law 457 = .ok (.iaload, 1) := dk_46 (dk_at dksL_law_15 8 rfl rfl)
theorem dL_law_458 : decode cL_law 458 = .ok (.aload_n 0, 1) := dk_42 (dk_at dksL_law_15 9 rfl rfl)
theorem dL_law_459 : decode cL_law 459 = .ok (.iload_n 3, 1) := dk_29 (dk_at dksL_law_15 10 rfl rfl)
theorem dL_law_460 : decode cL_law 460 = .ok (.iconst 2, 1) := dk_5 (dk_at dksL_law_15 11 rfl rfl)
theorem dL_law_461 : decode cL_law 461 = .ok (.iadd, 1) := dk_96 (dk_at dksL_law_15 12 rfl rfl)
theorem dL_law_462 : decode cL_law 462 = .ok (.iaload, 1) := dk_46 (dk_at dksL_law_15 13 rfl rfl)
theorem dL_law_463 : decode cL_law 463 = .ok (.invokevirtual 54, 3) := dk_182 0 54 (dk_at dksL_law_15 14 rfl rfl)
theorem dL_law_466 : decode cL_law 466 = .ok (.if_icmp .eq 617, 3) := dk_159 2 105 (dk_at dksL_law_15 17 rfl rfl)
theorem dL_law_469 : decode cL_law 469 = .ok (.iconst 0, 1) := dk_3 (dk_at dksL_law_15 20 rfl rfl)
theorem dL_law_470 : decode cL_law 470 = .ok (.ireturn, 1) := dk_172 (dk_at dksL_law_15 21 rfl rfl)
theorem dL_law_471 : decode cL_law 471 = .ok (.aload_n 1, 1) := dk_43 (dk_at dksL_law_15 22 rfl rfl)
theorem dL_law_472 : decode cL_law 472 = .ok (.aload_n 0, 1) := dk_42 (dk_at dksL_law_15 23 rfl rfl)
theorem dL_law_473 : decode cL_law 473 = .ok (.iload_n 3, 1) := dk_29 (dk_at dksL_law_16 0 rfl rfl)
theorem dL_law_474 : decode cL_law 474 = .ok (.iconst 1, 1) := dk_4 (dk_at dksL_law_16 1 rfl rfl)
theorem dL_law_475 : decode cL_law 475 = .ok (.iadd, 1) := dk_96 (dk_at dksL_law_16 2 rfl rfl)
theorem dL_law_476 : decode cL_law 476 = .ok (.iaload, 1) := dk_46 (dk_at dksL_law_16 3 rfl rfl)
theorem dL_law_477 : decode cL_law 477 = .ok (.aload_n 0, 1) := dk_42 (dk_at dksL_law_16 4 rfl rfl)
theorem dL_law_478 : decode cL_law 478 = .ok (.iload_n 3, 1) := dk_29 (dk_at dksL_law_16 5 rfl rfl)
theorem dL_law_479 : decode cL_law 479 = .ok (.iconst 2, 1) := dk_5 (dk_at dksL_law_16 6 rfl rfl)
theorem dL_law_480 : decode cL_law 480 = .ok (.iadd, 1) := dk_96 (dk_at dksL_law_16 7 rfl rfl)
theorem dL_law_481 : decode cL_law 481 = .ok (.iaload, 1) := dk_46 (dk_at dksL_law_16 8 rfl rfl)
theorem dL_law_482 : decode cL_law 482 = .ok (.aload_n 0, 1) := dk_42 (dk_at dksL_law_16 9 rfl rfl)
theorem dL_law_483 : decode cL_law 483 = .ok (.iload_n 3, 1) := dk_29 (dk_at dksL_law_16 10 rfl rfl)
theorem dL_law_484 : decode cL_law 484 = .ok (.iconst 3, 1) := dk_6 (dk_at dksL_law_16 11 rfl rfl)
theorem dL_law_485 : decode cL_law 485 = .ok (.iadd, 1) := dk_96 (dk_at dksL_law_16 12 rfl rfl)
theorem dL_law_486 : decode cL_law 486 = .ok (.iaload, 1) := dk_46 (dk_at dksL_law_16 13 rfl rfl)
theorem dL_law_487 : decode cL_law 487 = .ok (.invokevirtual 55, 3) := dk_182 0 55 (dk_at dksL_law_16 14 rfl rfl)
theorem dL_law_490 : decode cL_law 490 = .ok (.aload_n 2, 1) := dk_44 (dk_at dksL_law_16 17 rfl rfl)
theorem dL_law_491 : decode cL_law 491 = .ok (.aload_n 0, 1) := dk_42 (dk_at dksL_law_16 18 rfl rfl)
theorem dL_law_492 : decode cL_law 492 = .ok (.iload_n 3, 1) := dk_29 (dk_at dksL_law_16 19 rfl rfl)
theorem dL_law_493 : decode cL_law 493 = .ok (.iconst 1, 1) := dk_4 (dk_at dksL_law_16 20 rfl rfl)
theorem dL_law_494 : decode cL_law 494 = .ok (.iadd, 1) := dk_96 (dk_at dksL_law_16 21 rfl rfl)
theorem dL_law_495 : decode cL_law 495 = .ok (.iaload, 1) := dk_46 (dk_at dksL_law_16 22 rfl rfl)
theorem dL_law_496 : decode cL_law 496 = .ok (.aload_n 0, 1) := dk_42 (dk_at dksL_law_16 23 rfl rfl)
theorem dL_law_497 : decode cL_law 497 = .ok (.iload_n 3, 1) := dk_29 (dk_at dksL_law_17 0 rfl rfl)
theorem dL_law_498 : decode cL_law 498 = .ok (.iconst 2, 1) := dk_5 (dk_at dksL_law_17 1 rfl rfl)
theorem dL_law_499 : decode cL_law 499 = .ok (.iadd, 1) := dk_96 (dk_at dksL_law_17 2 rfl rfl)
theorem dL_law_500 : decode cL_law 500 = .ok (.iaload, 1) := dk_46 (dk_at dksL_law_17 3 rfl rfl)
theorem dL_law_501 : decode cL_law 501 = .ok (.aload_n 0, 1) := dk_42 (dk_at dksL_law_17 4 rfl rfl)
theorem dL_law_502 : decode cL_law 502 = .ok (.iload_n 3, 1) := dk_29 (dk_at dksL_law_17 5 rfl rfl)
theorem dL_law_503 : decode cL_law 503 = .ok (.iconst 3, 1) := dk_6 (dk_at dksL_law_17 6 rfl rfl)
theorem dL_law_504 : decode cL_law 504 = .ok (.iadd, 1) := dk_96 (dk_at dksL_law_17 7 rfl rfl)
theorem dL_law_505 : decode cL_law 505 = .ok (.iaload, 1) := dk_46 (dk_at dksL_law_17 8 rfl rfl)
theorem dL_law_506 : decode cL_law 506 = .ok (.invokevirtual 59, 3) := dk_182 0 59 (dk_at dksL_law_17 9 rfl rfl)
theorem dL_law_509 : decode cL_law 509 = .ok (.if_icmp .eq 574, 3) := dk_159 2 62 (dk_at dksL_law_17 12 rfl rfl)
theorem dL_law_512 : decode cL_law 512 = .ok (.iconst 0, 1) := dk_3 (dk_at dksL_law_17 15 rfl rfl)
theorem dL_law_513 : decode cL_law 513 = .ok (.ireturn, 1) := dk_172 (dk_at dksL_law_17 16 rfl rfl)
theorem dL_law_514 : decode cL_law 514 = .ok (.aload_n 1, 1) := dk_43 (dk_at dksL_law_17 17 rfl rfl)
theorem dL_law_515 : decode cL_law 515 = .ok (.aload_n 0, 1) := dk_42 (dk_at dksL_law_17 18 rfl rfl)
theorem dL_law_516 : decode cL_law 516 = .ok (.iload_n 3, 1) := dk_29 (dk_at dksL_law_17 19 rfl rfl)
theorem dL_law_517 : decode cL_law 517 = .ok (.iconst 1, 1) := dk_4 (dk_at dksL_law_17 20 rfl rfl)
theorem dL_law_518 : decode cL_law 518 = .ok (.iadd, 1) := dk_96 (dk_at dksL_law_17 21 rfl rfl)
theorem dL_law_519 : decode cL_law 519 = .ok (.iaload, 1) := dk_46 (dk_at dksL_law_17 22 rfl rfl)
theorem dL_law_520 : decode cL_law 520 = .ok (.invokevirtual 60, 3) := dk_182 0 60 (dk_at dksL_law_18 0 rfl rfl)
theorem dL_law_523 : decode cL_law 523 = .ok (.aload_n 2, 1) := dk_44 (dk_at dksL_law_18 3 rfl rfl)
theorem dL_law_524 : decode cL_law 524 = .ok (.aload_n 0, 1) := dk_42 (dk_at dksL_law_18 4 rfl rfl)
theorem dL_law_525 : decode cL_law 525 = .ok (.iload_n 3, 1) := dk_29 (dk_at dksL_law_18 5 rfl rfl)
theorem dL_law_526 : decode cL_law 526 = .ok (.iconst 1, 1) := dk_4 (dk_at dksL_law_18 6 rfl rfl)
theorem dL_law_527 : decode cL_law 527 = .ok (.iadd, 1) := dk_96 (dk_at dksL_law_18 7 rfl rfl)
theorem dL_law_528 : decode cL_law 528 = .ok (.iaload, 1) := dk_46 (dk_at dksL_law_18 8 rfl rfl)
theorem dL_law_529 : decode cL_law 529 = .ok (.invokevirtual 64, 3) := dk_182 0 64 (dk_at dksL_law_18 9 rfl rfl)
theorem dL_law_532 : decode cL_law 532 = .ok (.if_icmp .eq 551, 3) := dk_159 2 39 (dk_at dksL_law_18 12 rfl rfl)
theorem dL_law_535 : decode cL_law 535 = .ok (.iconst 0, 1) := dk_3 (dk_at dksL_law_18 15 rfl rfl)
theorem dL_law_536 : decode cL_law 536 = .ok (.ireturn, 1) := dk_172 (dk_at dksL_law_18 16 rfl rfl)
theorem dL_law_537 : decode cL_law 537 = .ok (.aload_n 1, 1) := dk_43 (dk_at dksL_law_18 17 rfl rfl)
theorem dL_law_538 : decode cL_law 538 = .ok (.aload_n 0, 1) := dk_42 (dk_at dksL_law_18 18 rfl rfl)
theorem dL_law_539 : decode cL_law 539 = .ok (.iload_n 3, 1) := dk_29 (dk_at dksL_law_18 19 rfl rfl)
theorem dL_law_540 : decode cL_law 540 = .ok (.iconst 1, 1) := dk_4 (dk_at dksL_law_18 20 rfl rfl)
theorem dL_law_541 : decode cL_law 541 = .ok (.iadd, 1) := dk_96 (dk_at dksL_law_18 21 rfl rfl)
theorem dL_law_542 : decode cL_law 542 = .ok (.iaload, 1) := dk_46 (dk_at dksL_law_18 22 rfl rfl)
theorem dL_law_543 : decode cL_law 543 = .ok (.invokevirtual 65, 3) := dk_182 0 65 (dk_at dksL_law_19 0 rfl rfl)
theorem dL_law_546 : decode cL_law 546 = .ok (.aload_n 2, 1) := dk_44 (dk_at dksL_law_19 3 rfl rfl)
theorem dL_law_547 : decode cL_law 547 = .ok (.aload_n 0, 1) := dk_42 (dk_at dksL_law_19 4 rfl rfl)
theorem dL_law_548 : decode cL_law 548 = .ok (.iload_n 3, 1) := dk_29 (dk_at dksL_law_19 5 rfl rfl)
theorem dL_law_549 : decode cL_law 549 = .ok (.iconst 1, 1) := dk_4 (dk_at dksL_law_19 6 rfl rfl)
theorem dL_law_550 : decode cL_law 550 = .ok (.iadd, 1) := dk_96 (dk_at dksL_law_19 7 rfl rfl)
theorem dL_law_551 : decode cL_law 551 = .ok (.iaload, 1) := dk_46 (dk_at dksL_law_19 8 rfl rfl)
theorem dL_law_552 : decode cL_law 552 = .ok (.invokevirtual 68, 3) := dk_182 0 68 (dk_at dksL_law_19 9 rfl rfl)
theorem dL_law_555 : decode cL_law 555 = .ok (.if_icmp .eq 528, 3) := dk_159 2 16 (dk_at dksL_law_19 12 rfl rfl)
theorem dL_law_558 : decode cL_law 558 = .ok (.iconst 0, 1) := dk_3 (dk_at dksL_law_19 15 rfl rfl)
theorem dL_law_559 : decode cL_law 559 = .ok (.ireturn, 1) := dk_172 (dk_at dksL_law_19 16 rfl rfl)
theorem dL_law_560 : decode cL_law 560 = .ok (.aload_n 1, 1) := dk_43 (dk_at dksL_law_19 17 rfl rfl)
theorem dL_law_561 : decode cL_law 561 = .ok (.aload_n 0, 1) := dk_42 (dk_at dksL_law_19 18 rfl rfl)
theorem dL_law_562 : decode cL_law 562 = .ok (.iload_n 3, 1) := dk_29 (dk_at dksL_law_19 19 rfl rfl)
theorem dL_law_563 : decode cL_law 563 = .ok (.iconst 1, 1) := dk_4 (dk_at dksL_law_19 20 rfl rfl)
theorem dL_law_564 : decode cL_law 564 = .ok (.iadd, 1) := dk_96 (dk_at dksL_law_19 21 rfl rfl)
theorem dL_law_565 : decode cL_law 565 = .ok (.iaload, 1) := dk_46 (dk_at dksL_law_19 22 rfl rfl)
theorem dL_law_566 : decode cL_law 566 = .ok (.aload_n 0, 1) := dk_42 (dk_at dksL_law_19 23 rfl rfl)
theorem dL_law_567 : decode cL_law 567 = .ok (.iload_n 3, 1) := dk_29 (dk_at dksL_law_20 0 rfl rfl)
theorem dL_law_568 : decode cL_law 568 = .ok (.iconst 2, 1) := dk_5 (dk_at dksL_law_20 1 rfl rfl)
theorem dL_law_569 : decode cL_law 569 = .ok (.iadd, 1) := dk_96 (dk_at dksL_law_20 2 rfl rfl)
theorem dL_law_570 : decode cL_law 570 = .ok (.iaload, 1) := dk_46 (dk_at dksL_law_20 3 rfl rfl)
theorem dL_law_571 : decode cL_law 571 = .ok (.invokevirtual 69, 3) := dk_182 0 69 (dk_at dksL_law_20 4 rfl rfl)
theorem dL_law_574 : decode cL_law 574 = .ok (.aload_n 2, 1) := dk_44 (dk_at dksL_law_20 7 rfl rfl)
theorem dL_law_575 : decode cL_law 575 = .ok (.aload_n 0, 1) := dk_42 (dk_at dksL_law_20 8 rfl rfl)
theorem dL_law_576 : decode cL_law 576 = .ok (.iload_n 3, 1) := dk_29 (dk_at dksL_law_20 9 rfl rfl)
theorem dL_law_577 : decode cL_law 577 = .ok (.iconst 1, 1) := dk_4 (dk_at dksL_law_20 10 rfl rfl)
theorem dL_law_578 : decode cL_law 578 = .ok (.iadd, 1) := dk_96 (dk_at dksL_law_20 11 rfl rfl)
theorem dL_law_579 : decode cL_law 579 = .ok (.iaload, 1) := dk_46 (dk_at dksL_law_20 12 rfl rfl)
theorem dL_law_580 : decode cL_law 580 = .ok (.aload_n 0, 1) := dk_42 (dk_at dksL_law_20 13 rfl rfl)
theorem dL_law_581 : decode cL_law 581 = .ok (.iload_n 3, 1) := dk_29 (dk_at dksL_law_20 14 rfl rfl)
theorem dL_law_582 : decode cL_law 582 = .ok (.iconst 2, 1) := dk_5 (dk_at dksL_law_20 15 rfl rfl)
theorem dL_law_583 : decode cL_law 583 = .ok (.iadd, 1) := dk_96 (dk_at dksL_law_20 16 rfl rfl)
theorem dL_law_584 : decode cL_law 584 = .ok (.iaload, 1) := dk_46 (dk_at dksL_law_20 17 rfl rfl)
theorem dL_law_585 : decode cL_law 585 = .ok (.invokevirtual 72, 3) := dk_182 0 72 (dk_at dksL_law_20 18 rfl rfl)
theorem dL_law_588 : decode cL_law 588 = .ok (.if_icmp .eq 495, 3) := dk_159 1 239 (dk_at dksL_law_20 21 rfl rfl)
theorem dL_law_591 : decode cL_law 591 = .ok (.iconst 0, 1) := dk_3 (dk_at dksL_law_21 0 rfl rfl)
theorem dL_law_592 : decode cL_law 592 = .ok (.ireturn, 1) := dk_172 (dk_at dksL_law_21 1 rfl rfl)
theorem dL_law_593 : decode cL_law 593 = .ok (.aload_n 1, 1) := dk_43 (dk_at dksL_law_21 2 rfl rfl)
theorem dL_law_594 : decode cL_law 594 = .ok (.aload_n 0, 1) := dk_42 (dk_at dksL_law_21 3 rfl rfl)
theorem dL_law_595 : decode cL_law 595 = .ok (.iload_n 3, 1) := dk_29 (dk_at dksL_law_21 4 rfl rfl)
theorem dL_law_596 : decode cL_law 596 = .ok (.iconst 1, 1) := dk_4 (dk_at dksL_law_21 5 rfl rfl)
theorem dL_law_597 : decode cL_law 597 = .ok (.iadd, 1) := dk_96 (dk_at dksL_law_21 6 rfl rfl)
theorem dL_law_598 : decode cL_law 598 = .ok (.iaload, 1) := dk_46 (dk_at dksL_law_21 7 rfl rfl)
theorem dL_law_599 : decode cL_law 599 = .ok (.aload_n 0, 1) := dk_42 (dk_at dksL_law_21 8 rfl rfl)
theorem dL_law_600 : decode cL_law 600 = .ok (.iload_n 3, 1) := dk_29 (dk_at dksL_law_21 9 rfl rfl)
theorem dL_law_601 : decode cL_law 601 = .ok (.iconst 2, 1) := dk_5 (dk_at dksL_law_21 10 rfl rfl)
theorem dL_law_602 : decode cL_law 602 = .ok (.iadd, 1) := dk_96 (dk_at dksL_law_21 11 rfl rfl)
theorem dL_law_603 : decode cL_law 603 = .ok (.iaload, 1) := dk_46 (dk_at dksL_law_21 12 rfl rfl)
theorem dL_law_604 : decode cL_law 604 = .ok (.aload_n 0, 1) := dk_42 (dk_at dksL_law_21 13 rfl rfl)
theorem dL_law_605 : decode cL_law 605 = .ok (.iload_n 3, 1) := dk_29 (dk_at dksL_law_21 14 rfl rfl)
theorem dL_law_606 : decode cL_law 606 = .ok (.iconst 3, 1) := dk_6 (dk_at dksL_law_21 15 rfl rfl)
theorem dL_law_607 : decode cL_law 607 = .ok (.iadd, 1) := dk_96 (dk_at dksL_law_21 16 rfl rfl)
theorem dL_law_608 : decode cL_law 608 = .ok (.iaload, 1) := dk_46 (dk_at dksL_law_21 17 rfl rfl)
theorem dL_law_609 : decode cL_law 609 = .ok (.invokevirtual 73, 3) := dk_182 0 73 (dk_at dksL_law_21 18 rfl rfl)
theorem dL_law_612 : decode cL_law 612 = .ok (.aload_n 2, 1) := dk_44 (dk_at dksL_law_21 21 rfl rfl)
theorem dL_law_613 : decode cL_law 613 = .ok (.aload_n 0, 1) := dk_42 (dk_at dksL_law_21 22 rfl rfl)
theorem dL_law_614 : decode cL_law 614 = .ok (.iload_n 3, 1) := dk_29 (dk_at dksL_law_21 23 rfl rfl)
theorem dL_law_615 : decode cL_law 615 = .ok (.iconst 1, 1) := dk_4 (dk_at dksL_law_22 0 rfl rfl)
theorem dL_law_616 : decode cL_law 616 = .ok (.iadd, 1) := dk_96 (dk_at dksL_law_22 1 rfl rfl)
theorem dL_law_617 : decode cL_law 617 = .ok (.iaload, 1) := dk_46 (dk_at dksL_law_22 2 rfl rfl)
theorem dL_law_618 : decode cL_law 618 = .ok (.aload_n 0, 1) := dk_42 (dk_at dksL_law_22 3 rfl rfl)
theorem dL_law_619 : decode cL_law 619 = .ok (.iload_n 3, 1) := dk_29 (dk_at dksL_law_22 4 rfl rfl)
theorem dL_law_620 : decode cL_law 620 = .ok (.iconst 2, 1) := dk_5 (dk_at dksL_law_22 5 rfl rfl)
theorem dL_law_621 : decode cL_law 621 = .ok (.iadd, 1) := dk_96 (dk_at dksL_law_22 6 rfl rfl)
theorem dL_law_622 : decode cL_law 622 = .ok (.iaload, 1) := dk_46 (dk_at dksL_law_22 7 rfl rfl)
theorem dL_law_623 : decode cL_law 623 = .ok (.aload_n 0, 1) := dk_42 (dk_at dksL_law_22 8 rfl rfl)
theorem dL_law_624 : decode cL_law 624 = .ok (.iload_n 3, 1) := dk_29 (dk_at dksL_law_22 9 rfl rfl)
theorem dL_law_625 : decode cL_law 625 = .ok (.iconst 3, 1) := dk_6 (dk_at dksL_law_22 10 rfl rfl)
theorem dL_law_626 : decode cL_law 626 = .ok (.iadd, 1) := dk_96 (dk_at dksL_law_22 11 rfl rfl)
theorem dL_law_627 : decode cL_law 627 = .ok (.iaload, 1) := dk_46 (dk_at dksL_law_22 12 rfl rfl)
theorem dL_law_628 : decode cL_law 628 = .ok (.invokevirtual 76, 3) := dk_182 0 76 (dk_at dksL_law_22 13 rfl rfl)
theorem dL_law_631 : decode cL_law 631 = .ok (.if_icmp .eq 452, 3) := dk_159 1 196 (dk_at dksL_law_22 16 rfl rfl)
theorem dL_law_634 : decode cL_law 634 = .ok (.iconst 0, 1) := dk_3 (dk_at dksL_law_22 19 rfl rfl)
theorem dL_law_635 : decode cL_law 635 = .ok (.ireturn, 1) := dk_172 (dk_at dksL_law_22 20 rfl rfl)
theorem dL_law_636 : decode cL_law 636 = .ok (.aload_n 1, 1) := dk_43 (dk_at dksL_law_22 21 rfl rfl)
theorem dL_law_637 : decode cL_law 637 = .ok (.aload_n 0, 1) := dk_42 (dk_at dksL_law_22 22 rfl rfl)
theorem dL_law_638 : decode cL_law 638 = .ok (.iload_n 3, 1) := dk_29 (dk_at dksL_law_22 23 rfl rfl)
theorem dL_law_639 : decode cL_law 639 = .ok (.iconst 1, 1) := dk_4 (dk_at dksL_law_23 0 rfl rfl)
theorem dL_law_640 : decode cL_law 640 = .ok (.iadd, 1) := dk_96 (dk_at dksL_law_23 1 rfl rfl)
theorem dL_law_641 : decode cL_law 641 = .ok (.iaload, 1) := dk_46 (dk_at dksL_law_23 2 rfl rfl)
theorem dL_law_642 : decode cL_law 642 = .ok (.aload_n 0, 1) := dk_42 (dk_at dksL_law_23 3 rfl rfl)
theorem dL_law_643 : decode cL_law 643 = .ok (.iload_n 3, 1) := dk_29 (dk_at dksL_law_23 4 rfl rfl)
theorem dL_law_644 : decode cL_law 644 = .ok (.iconst 2, 1) := dk_5 (dk_at dksL_law_23 5 rfl rfl)
theorem dL_law_645 : decode cL_law 645 = .ok (.iadd, 1) := dk_96 (dk_at dksL_law_23 6 rfl rfl)
theorem dL_law_646 : decode cL_law 646 = .ok (.iaload, 1) := dk_46 (dk_at dksL_law_23 7 rfl rfl)
theorem dL_law_647 : decode cL_law 647 = .ok (.aload_n 0, 1) := dk_42 (dk_at dksL_law_23 8 rfl rfl)
theorem dL_law_648 : decode cL_law 648 = .ok (.iload_n 3, 1) := dk_29 (dk_at dksL_law_23 9 rfl rfl)
theorem dL_law_649 : decode cL_law 649 = .ok (.iconst 3, 1) := dk_6 (dk_at dksL_law_23 10 rfl rfl)
theorem dL_law_650 : decode cL_law 650 = .ok (.iadd, 1) := dk_96 (dk_at dksL_law_23 11 rfl rfl)
theorem dL_law_651 : decode cL_law 651 = .ok (.iaload, 1) := dk_46 (dk_at dksL_law_23 12 rfl rfl)
theorem dL_law_652 : decode cL_law 652 = .ok (.ifCond .eq 7, 3) := dk_153 0 7 (dk_at dksL_law_23 13 rfl rfl)
theorem dL_law_655 : decode cL_law 655 = .ok (.iconst 1, 1) := dk_4 (dk_at dksL_law_23 16 rfl rfl)
theorem dL_law_656 : decode cL_law 656 = .ok (.goto 4, 3) := dk_167 0 4 (dk_at dksL_law_23 17 rfl rfl)
theorem dL_law_659 : decode cL_law 659 = .ok (.iconst 0, 1) := dk_3 (dk_at dksL_law_23 20 rfl rfl)
theorem dL_law_660 : decode cL_law 660 = .ok (.invokevirtual 77, 3) := dk_182 0 77 (dk_at dksL_law_23 21 rfl rfl)
theorem dL_law_663 : decode cL_law 663 = .ok (.aload_n 2, 1) := dk_44 (dk_at dksL_law_24 0 rfl rfl)
theorem dL_law_664 : decode cL_law 664 = .ok (.aload_n 0, 1) := dk_42 (dk_at dksL_law_24 1 rfl rfl)
theorem dL_law_665 : decode cL_law 665 = .ok (.iload_n 3, 1) := dk_29 (dk_at dksL_law_24 2 rfl rfl)
theorem dL_law_666 : decode cL_law 666 = .ok (.iconst 1, 1) := dk_4 (dk_at dksL_law_24 3 rfl rfl)
theorem dL_law_667 : decode cL_law 667 = .ok (.iadd, 1) := dk_96 (dk_at dksL_law_24 4 rfl rfl)
theorem dL_law_668 : decode cL_law 668 = .ok (.iaload, 1) := dk_46 (dk_at dksL_law_24 5 rfl rfl)
theorem dL_law_669 : decode cL_law 669 = .ok (.aload_n 0, 1) := dk_42 (dk_at dksL_law_24 6 rfl rfl)
theorem dL_law_670 : decode cL_law 670 = .ok (.iload_n 3, 1) := dk_29 (dk_at dksL_law_24 7 rfl rfl)
theorem dL_law_671 : decode cL_law 671 = .ok (.iconst 2, 1) := dk_5 (dk_at dksL_law_24 8 rfl rfl)
theorem dL_law_672 : decode cL_law 672 = .ok (.iadd, 1) := dk_96 (dk_at dksL_law_24 9 rfl rfl)
theorem dL_law_673 : decode cL_law 673 = .ok (.iaload, 1) := dk_46 (dk_at dksL_law_24 10 rfl rfl)
theorem dL_law_674 : decode cL_law 674 = .ok (.aload_n 0, 1) := dk_42 (dk_at dksL_law_24 11 rfl rfl)
theorem dL_law_675 : decode cL_law 675 = .ok (.iload_n 3, 1) := dk_29 (dk_at dksL_law_24 12 rfl rfl)
theorem dL_law_676 : decode cL_law 676 = .ok (.iconst 3, 1) := dk_6 (dk_at dksL_law_24 13 rfl rfl)
theorem dL_law_677 : decode cL_law 677 = .ok (.iadd, 1) := dk_96 (dk_at dksL_law_24 14 rfl rfl)
theorem dL_law_678 : decode cL_law 678 = .ok (.iaload, 1) := dk_46 (dk_at dksL_law_24 15 rfl rfl)
theorem dL_law_679 : decode cL_law 679 = .ok (.ifCond .eq 7, 3) := dk_153 0 7 (dk_at dksL_law_24 16 rfl rfl)
theorem dL_law_682 : decode cL_law 682 = .ok (.iconst 1, 1) := dk_4 (dk_at dksL_law_24 19 rfl rfl)
theorem dL_law_683 : decode cL_law 683 = .ok (.goto 4, 3) := dk_167 0 4 (dk_at dksL_law_24 20 rfl rfl)
theorem dL_law_686 : decode cL_law 686 = .ok (.iconst 0, 1) := dk_3 (dk_at dksL_law_24 23 rfl rfl)
theorem dL_law_687 : decode cL_law 687 = .ok (.invokevirtual 81, 3) := dk_182 0 81 (dk_at dksL_law_25 0 rfl rfl)
theorem dL_law_690 : decode cL_law 690 = .ok (.if_icmp .eq 393, 3) := dk_159 1 137 (dk_at dksL_law_25 3 rfl rfl)
theorem dL_law_693 : decode cL_law 693 = .ok (.iconst 0, 1) := dk_3 (dk_at dksL_law_25 6 rfl rfl)
theorem dL_law_694 : decode cL_law 694 = .ok (.ireturn, 1) := dk_172 (dk_at dksL_law_25 7 rfl rfl)
theorem dL_law_695 : decode cL_law 695 = .ok (.aload_n 1, 1) := dk_43 (dk_at dksL_law_25 8 rfl rfl)
theorem dL_law_696 : decode cL_law 696 = .ok (.aload_n 0, 1) := dk_42 (dk_at dksL_law_25 9 rfl rfl)
theorem dL_law_697 : decode cL_law 697 = .ok (.iload_n 3, 1) := dk_29 (dk_at dksL_law_25 10 rfl rfl)
theorem dL_law_698 : decode cL_law 698 = .ok (.iconst 1, 1) := dk_4 (dk_at dksL_law_25 11 rfl rfl)
theorem dL_law_699 : decode cL_law 699 = .ok (.iadd, 1) := dk_96 (dk_at dksL_law_25 12 rfl rfl)
theorem dL_law_700 : decode cL_law 700 = .ok (.iaload, 1) := dk_46 (dk_at dksL_law_25 13 rfl rfl)
theorem dL_law_701 : decode cL_law 701 = .ok (.invokevirtual 82, 3) := dk_182 0 82 (dk_at dksL_law_25 14 rfl rfl)
theorem dL_law_704 : decode cL_law 704 = .ok (.aload_n 2, 1) := dk_44 (dk_at dksL_law_25 17 rfl rfl)
theorem dL_law_705 : decode cL_law 705 = .ok (.aload_n 0, 1) := dk_42 (dk_at dksL_law_25 18 rfl rfl)
theorem dL_law_706 : decode cL_law 706 = .ok (.iload_n 3, 1) := dk_29 (dk_at dksL_law_25 19 rfl rfl)
theorem dL_law_707 : decode cL_law 707 = .ok (.iconst 1, 1) := dk_4 (dk_at dksL_law_25 20 rfl rfl)
theorem dL_law_708 : decode cL_law 708 = .ok (.iadd, 1) := dk_96 (dk_at dksL_law_25 21 rfl rfl)
theorem dL_law_709 : decode cL_law 709 = .ok (.iaload, 1) := dk_46 (dk_at dksL_law_25 22 rfl rfl)
theorem dL_law_710 : decode cL_law 710 = .ok (.invokevirtual 85, 3) := dk_182 0 85 (dk_at dksL_law_26 0 rfl rfl)
theorem dL_law_713 : decode cL_law 713 = .ok (.if_icmp .eq 370, 3) := dk_159 1 114 (dk_at dksL_law_26 3 rfl rfl)
theorem dL_law_716 : decode cL_law 716 = .ok (.iconst 0, 1) := dk_3 (dk_at dksL_law_26 6 rfl rfl)
theorem dL_law_717 : decode cL_law 717 = .ok (.ireturn, 1) := dk_172 (dk_at dksL_law_26 7 rfl rfl)
theorem dL_law_718 : decode cL_law 718 = .ok (.aload_n 1, 1) := dk_43 (dk_at dksL_law_26 8 rfl rfl)
theorem dL_law_719 : decode cL_law 719 = .ok (.aload_n 0, 1) := dk_42 (dk_at dksL_law_26 9 rfl rfl)
theorem dL_law_720 : decode cL_law 720 = .ok (.iload_n 3, 1) := dk_29 (dk_at dksL_law_26 10 rfl rfl)
theorem dL_law_721 : decode cL_law 721 = .ok (.iconst 1, 1) := dk_4 (dk_at dksL_law_26 11 rfl rfl)
theorem dL_law_722 : decode cL_law 722 = .ok (.iadd, 1) := dk_96 (dk_at dksL_law_26 12 rfl rfl)
theorem dL_law_723 : decode cL_law 723 = .ok (.iaload, 1) := dk_46 (dk_at dksL_law_26 13 rfl rfl)
theorem dL_law_724 : decode cL_law 724 = .ok (.invokevirtual 86, 3) := dk_182 0 86 (dk_at dksL_law_26 14 rfl rfl)
theorem dL_law_727 : decode cL_law 727 = .ok (.aload_n 2, 1) := dk_44 (dk_at dksL_law_26 17 rfl rfl)
theorem dL_law_728 : decode cL_law 728 = .ok (.aload_n 0, 1) := dk_42 (dk_at dksL_law_26 18 rfl rfl)
theorem dL_law_729 : decode cL_law 729 = .ok (.iload_n 3, 1) := dk_29 (dk_at dksL_law_26 19 rfl rfl)
theorem dL_law_730 : decode cL_law 730 = .ok (.iconst 1, 1) := dk_4 (dk_at dksL_law_26 20 rfl rfl)
theorem dL_law_731 : decode cL_law 731 = .ok (.iadd, 1) := dk_96 (dk_at dksL_law_26 21 rfl rfl)
theorem dL_law_732 : decode cL_law 732 = .ok (.iaload, 1) := dk_46 (dk_at dksL_law_26 22 rfl rfl)
theorem dL_law_733 : decode cL_law 733 = .ok (.invokevirtual 89, 3) := dk_182 0 89 (dk_at dksL_law_27 0 rfl rfl)
theorem dL_law_736 : decode cL_law 736 = .ok (.if_icmp .eq 347, 3) := dk_159 1 91 (dk_at dksL_law_27 3 rfl rfl)
theorem dL_law_739 : decode cL_law 739 = .ok (.iconst 0, 1) := dk_3 (dk_at dksL_law_27 6 rfl rfl)
theorem dL_law_740 : decode cL_law 740 = .ok (.ireturn, 1) := dk_172 (dk_at dksL_law_27 7 rfl rfl)
theorem dL_law_741 : decode cL_law 741 = .ok (.aload_n 1, 1) := dk_43 (dk_at dksL_law_27 8 rfl rfl)
theorem dL_law_742 : decode cL_law 742 = .ok (.aload_n 0, 1) := dk_42 (dk_at dksL_law_27 9 rfl rfl)
theorem dL_law_743 : decode cL_law 743 = .ok (.iload_n 3, 1) := dk_29 (dk_at dksL_law_27 10 rfl rfl)
theorem dL_law_744 : decode cL_law 744 = .ok (.iconst 1, 1) := dk_4 (dk_at dksL_law_27 11 rfl rfl)
theorem dL_law_745 : decode cL_law 745 = .ok (.iadd, 1) := dk_96 (dk_at dksL_law_27 12 rfl rfl)
theorem dL_law_746 : decode cL_law 746 = .ok (.iaload, 1) := dk_46 (dk_at dksL_law_27 13 rfl rfl)
theorem dL_law_747 : decode cL_law 747 = .ok (.aload_n 0, 1) := dk_42 (dk_at dksL_law_27 14 rfl rfl)
theorem dL_law_748 : decode cL_law 748 = .ok (.iload_n 3, 1) := dk_29 (dk_at dksL_law_27 15 rfl rfl)
theorem dL_law_749 : decode cL_law 749 = .ok (.iconst 2, 1) := dk_5 (dk_at dksL_law_27 16 rfl rfl)
theorem dL_law_750 : decode cL_law 750 = .ok (.iadd, 1) := dk_96 (dk_at dksL_law_27 17 rfl rfl)
theorem dL_law_751 : decode cL_law 751 = .ok (.iaload, 1) := dk_46 (dk_at dksL_law_27 18 rfl rfl)
theorem dL_law_752 : decode cL_law 752 = .ok (.invokevirtual 90, 3) := dk_182 0 90 (dk_at dksL_law_27 19 rfl rfl)
theorem dL_law_755 : decode cL_law 755 = .ok (.aload_n 2, 1) := dk_44 (dk_at dksL_law_27 22 rfl rfl)
theorem dL_law_756 : decode cL_law 756 = .ok (.aload_n 0, 1) := dk_42 (dk_at dksL_law_27 23 rfl rfl)
theorem dL_law_757 : decode cL_law 757 = .ok (.iload_n 3, 1) := dk_29 (dk_at dksL_law_28 0 rfl rfl)
theorem dL_law_758 : decode cL_law 758 = .ok (.iconst 1, 1) := dk_4 (dk_at dksL_law_28 1 rfl rfl)
theorem dL_law_759 : decode cL_law 759 = .ok (.iadd, 1) := dk_96 (dk_at dksL_law_28 2 rfl rfl)
theorem dL_law_760 : decode cL_law 760 = .ok (.iaload, 1) := dk_46 (dk_at dksL_law_28 3 rfl rfl)
theorem dL_law_761 : decode cL_law 761 = .ok (.aload_n 0, 1) := dk_42 (dk_at dksL_law_28 4 rfl rfl)
theorem dL_law_762 : decode cL_law 762 = .ok (.iload_n 3, 1) := dk_29 (dk_at dksL_law_28 5 rfl rfl)
theorem dL_law_763 : decode cL_law 763 = .ok (.iconst 2, 1) := dk_5 (dk_at dksL_law_28 6 rfl rfl)
theorem dL_law_764 : decode cL_law 764 = .ok (.iadd, 1) := dk_96 (dk_at dksL_law_28 7 rfl rfl)
theorem dL_law_765 : decode cL_law 765 = .ok (.iaload, 1) := dk_46 (dk_at dksL_law_28 8 rfl rfl)
theorem dL_law_766 : decode cL_law 766 = .ok (.invokevirtual 93, 3) := dk_182 0 93 (dk_at dksL_law_28 9 rfl rfl)
theorem dL_law_769 : decode cL_law 769 = .ok (.if_icmp .eq 314, 3) := dk_159 1 58 (dk_at dksL_law_28 12 rfl rfl)
theorem dL_law_772 : decode cL_law 772 = .ok (.iconst 0, 1) := dk_3 (dk_at dksL_law_28 15 rfl rfl)
theorem dL_law_773 : decode cL_law 773 = .ok (.ireturn, 1) := dk_172 (dk_at dksL_law_28 16 rfl rfl)
theorem dL_law_774 : decode cL_law 774 = .ok (.aload_n 1, 1) := dk_43 (dk_at dksL_law_28 17 rfl rfl)
theorem dL_law_775 : decode cL_law 775 = .ok (.aload_n 0, 1) := dk_42 (dk_at dksL_law_28 18 rfl rfl)
theorem dL_law_776 : decode cL_law 776 = .ok (.iload_n 3, 1) := dk_29 (dk_at dksL_law_28 19 rfl rfl)
theorem dL_law_777 : decode cL_law 777 = .ok (.iconst 1, 1) := dk_4 (dk_at dksL_law_28 20 rfl rfl)
theorem dL_law_778 : decode cL_law 778 = .ok (.iadd, 1) := dk_96 (dk_at dksL_law_28 21 rfl rfl)
theorem dL_law_779 : decode cL_law 779 = .ok (.iaload, 1) := dk_46 (dk_at dksL_law_28 22 rfl rfl)
theorem dL_law_780 : decode cL_law 780 = .ok (.invokevirtual 94, 3) := dk_182 0 94 (dk_at dksL_law_29 0 rfl rfl)
theorem dL_law_783 : decode cL_law 783 = .ok (.aload_n 2, 1) := dk_44 (dk_at dksL_law_29 3 rfl rfl)
theorem dL_law_784 : decode cL_law 784 = .ok (.aload_n 0, 1) := dk_42 (dk_at dksL_law_29 4 rfl rfl)
theorem dL_law_785 : decode cL_law 785 = .ok (.iload_n 3, 1) := dk_29 (dk_at dksL_law_29 5 rfl rfl)
theorem dL_law_786 : decode cL_law 786 = .ok (.iconst 1, 1) := dk_4 (dk_at dksL_law_29 6 rfl rfl)
theorem dL_law_787 : decode cL_law 787 = .ok (.iadd, 1) := dk_96 (dk_at dksL_law_29 7 rfl rfl)
theorem dL_law_788 : decode cL_law 788 = .ok (.iaload, 1) := dk_46 (dk_at dksL_law_29 8 rfl rfl)
theorem dL_law_789 : decode cL_law 789 = .ok (.invokevirtual 97, 3) := dk_182 0 97 (dk_at dksL_law_29 9 rfl rfl)
theorem dL_law_792 : decode cL_law 792 = .ok (.if_icmp .eq 291, 3) := dk_159 1 35 (dk_at dksL_law_29 12 rfl rfl)
theorem dL_law_795 : decode cL_law 795 = .ok (.iconst 0, 1) := dk_3 (dk_at dksL_law_29 15 rfl rfl)
theorem dL_law_796 : decode cL_law 796 = .ok (.ireturn, 1) := dk_172 (dk_at dksL_law_29 16 rfl rfl)
theorem dL_law_797 : decode cL_law 797 = .ok (.aload_n 1, 1) := dk_43 (dk_at dksL_law_29 17 rfl rfl)
theorem dL_law_798 : decode cL_law 798 = .ok (.aload_n 0, 1) := dk_42 (dk_at dksL_law_29 18 rfl rfl)
theorem dL_law_799 : decode cL_law 799 = .ok (.iload_n 3, 1) := dk_29 (dk_at dksL_law_29 19 rfl rfl)
theorem dL_law_800 : decode cL_law 800 = .ok (.iconst 1, 1) := dk_4 (dk_at dksL_law_29 20 rfl rfl)
theorem dL_law_801 : decode cL_law 801 = .ok (.iadd, 1) := dk_96 (dk_at dksL_law_29 21 rfl rfl)
theorem dL_law_802 : decode cL_law 802 = .ok (.iaload, 1) := dk_46 (dk_at dksL_law_29 22 rfl rfl)
theorem dL_law_803 : decode cL_law 803 = .ok (.aload_n 0, 1) := dk_42 (dk_at dksL_law_29 23 rfl rfl)
theorem dL_law_804 : decode cL_law 804 = .ok (.iload_n 3, 1) := dk_29 (dk_at dksL_law_30 0 rfl rfl)
theorem dL_law_805 : decode cL_law 805 = .ok (.iconst 2, 1) := dk_5 (dk_at dksL_law_30 1 rfl rfl)
theorem dL_law_806 : decode cL_law 806 = .ok (.iadd, 1) := dk_96 (dk_at dksL_law_30 2 rfl rfl)
theorem dL_law_807 : decode cL_law 807 = .ok (.iaload, 1) := dk_46 (dk_at dksL_law_30 3 rfl rfl)
theorem dL_law_808 : decode cL_law 808 = .ok (.invokevirtual 98, 3) := dk_182 0 98 (dk_at dksL_law_30 4 rfl rfl)
theorem dL_law_811 : decode cL_law 811 = .ok (.aload_n 2, 1) := dk_44 (dk_at dksL_law_30 7 rfl rfl)
theorem dL_law_812 : decode cL_law 812 = .ok (.aload_n 0, 1) := dk_42 (dk_at dksL_law_30 8 rfl rfl)
theorem dL_law_813 : decode cL_law 813 = .ok (.iload_n 3, 1) := dk_29 (dk_at dksL_law_30 9 rfl rfl)
theorem dL_law_814 : decode cL_law 814 = .ok (.iconst 1, 1) := dk_4 (dk_at dksL_law_30 10 rfl rfl)
theorem dL_law_815 : decode cL_law 815 = .ok (.iadd, 1) := dk_96 (dk_at dksL_law_30 11 rfl rfl)
theorem dL_law_816 : decode cL_law 816 = .ok (.iaload, 1) := dk_46 (dk_at dksL_law_30 12 rfl rfl)
theorem dL_law_817 : decode cL_law 817 = .ok (.aload_n 0, 1) := dk_42 (dk_at dksL_law_30 13 rfl rfl)
theorem dL_law_818 : decode cL_law 818 = .ok (.iload_n 3, 1) := dk_29 (dk_at dksL_law_30 14 rfl rfl)
theorem dL_law_819 : decode cL_law 819 = .ok (.iconst 2, 1) := dk_5 (dk_at dksL_law_30 15 rfl rfl)
theorem dL_law_820 : decode cL_law 820 = .ok (.iadd, 1) := dk_96 (dk_at dksL_law_30 16 rfl rfl)
theorem dL_law_821 : decode cL_law 821 = .ok (.iaload, 1) := dk_46 (dk_at dksL_law_30 17 rfl rfl)
theorem dL_law_822 : decode cL_law 822 = .ok (.invokevirtual 101, 3) := dk_182 0 101 (dk_at dksL_law_30 18 rfl rfl)
theorem dL_law_825 : decode cL_law 825 = .ok (.if_icmp .eq 258, 3) := dk_159 1 2 (dk_at dksL_law_30 21 rfl rfl)
theorem dL_law_828 : decode cL_law 828 = .ok (.iconst 0, 1) := dk_3 (dk_at dksL_law_31 0 rfl rfl)
theorem dL_law_829 : decode cL_law 829 = .ok (.ireturn, 1) := dk_172 (dk_at dksL_law_31 1 rfl rfl)
theorem dL_law_830 : decode cL_law 830 = .ok (.aload_n 1, 1) := dk_43 (dk_at dksL_law_31 2 rfl rfl)
theorem dL_law_831 : decode cL_law 831 = .ok (.aload_n 0, 1) := dk_42 (dk_at dksL_law_31 3 rfl rfl)
theorem dL_law_832 : decode cL_law 832 = .ok (.iload_n 3, 1) := dk_29 (dk_at dksL_law_31 4 rfl rfl)
theorem dL_law_833 : decode cL_law 833 = .ok (.iconst 1, 1) := dk_4 (dk_at dksL_law_31 5 rfl rfl)
theorem dL_law_834 : decode cL_law 834 = .ok (.iadd, 1) := dk_96 (dk_at dksL_law_31 6 rfl rfl)
theorem dL_law_835 : decode cL_law 835 = .ok (.iaload, 1) := dk_46 (dk_at dksL_law_31 7 rfl rfl)
theorem dL_law_836 : decode cL_law 836 = .ok (.aload_n 0, 1) := dk_42 (dk_at dksL_law_31 8 rfl rfl)
theorem dL_law_837 : decode cL_law 837 = .ok (.iload_n 3, 1) := dk_29 (dk_at dksL_law_31 9 rfl rfl)
theorem dL_law_838 : decode cL_law 838 = .ok (.iconst 2, 1) := dk_5 (dk_at dksL_law_31 10 rfl rfl)
theorem dL_law_839 : decode cL_law 839 = .ok (.iadd, 1) := dk_96 (dk_at dksL_law_31 11 rfl rfl)
theorem dL_law_840 : decode cL_law 840 = .ok (.iaload, 1) := dk_46 (dk_at dksL_law_31 12 rfl rfl)
theorem dL_law_841 : decode cL_law 841 = .ok (.aload_n 0, 1) := dk_42 (dk_at dksL_law_31 13 rfl rfl)
theorem dL_law_842 : decode cL_law 842 = .ok (.iload_n 3, 1) := dk_29 (dk_at dksL_law_31 14 rfl rfl)
theorem dL_law_843 : decode cL_law 843 = .ok (.iconst 3, 1) := dk_6 (dk_at dksL_law_31 15 rfl rfl)
theorem dL_law_844 : decode cL_law 844 = .ok (.iadd, 1) := dk_96 (dk_at dksL_law_31 16 rfl rfl)
theorem dL_law_845 : decode cL_law 845 = .ok (.iaload, 1) := dk_46 (dk_at dksL_law_31 17 rfl rfl)
theorem dL_law_846 : decode cL_law 846 = .ok (.ifCond .eq 7, 3) := dk_153 0 7 (dk_at dksL_law_31 18 rfl rfl)
theorem dL_law_849 : decode cL_law 849 = .ok (.iconst 1, 1) := dk_4 (dk_at dksL_law_31 21 rfl rfl)
theorem dL_law_850 : decode cL_law 850 = .ok (.goto 4, 3) := dk_167 0 4 (dk_at dksL_law_32 0 rfl rfl)
theorem dL_law_853 : decode cL_law 853 = .ok (.iconst 0, 1) := dk_3 (dk_at dksL_law_32 3 rfl rfl)
theorem dL_law_854 : decode cL_law 854 = .ok (.invokevirtual 102, 3) := dk_182 0 102 (dk_at dksL_law_32 4 rfl rfl)
theorem dL_law_857 : decode cL_law 857 = .ok (.aload_n 2, 1) := dk_44 (dk_at dksL_law_32 7 rfl rfl)
theorem dL_law_858 : decode cL_law 858 = .ok (.aload_n 0, 1) := dk_42 (dk_at dksL_law_32 8 rfl rfl)
theorem dL_law_859 : decode cL_law 859 = .ok (.iload_n 3, 1) := dk_29 (dk_at dksL_law_32 9 rfl rfl)
theorem dL_law_860 : decode cL_law 860 = .ok (.iconst 1, 1) := dk_4 (dk_at dksL_law_32 10 rfl rfl)
theorem dL_law_861 : decode cL_law 861 = .ok (.iadd, 1) := dk_96 (dk_at dksL_law_32 11 rfl rfl)
theorem dL_law_862 : decode cL_law 862 = .ok (.iaload, 1) := dk_46 (dk_at dksL_law_32 12 rfl rfl)
theorem dL_law_863 : decode cL_law 863 = .ok (.aload_n 0, 1) := dk_42 (dk_at dksL_law_32 13 rfl rfl)
theorem dL_law_864 : decode cL_law 864 = .ok (.iload_n 3, 1) := dk_29 (dk_at dksL_law_32 14 rfl rfl)
theorem dL_law_865 : decode cL_law 865 = .ok (.iconst 2, 1) := dk_5 (dk_at dksL_law_32 15 rfl rfl)
theorem dL_law_866 : decode cL_law 866 = .ok (.iadd, 1) := dk_96 (dk_at dksL_law_32 16 rfl rfl)
theorem dL_law_867 : decode cL_law 867 = .ok (.iaload, 1) := dk_46 (dk_at dksL_law_32 17 rfl rfl)
theorem dL_law_868 : decode cL_law 868 = .ok (.aload_n 0, 1) := dk_42 (dk_at dksL_law_32 18 rfl rfl)
theorem dL_law_869 : decode cL_law 869 = .ok (.iload_n 3, 1) := dk_29 (dk_at dksL_law_32 19 rfl rfl)
theorem dL_law_870 : decode cL_law 870 = .ok (.iconst 3, 1) := dk_6 (dk_at dksL_law_32 20 rfl rfl)
theorem dL_law_871 : decode cL_law 871 = .ok (.iadd, 1) := dk_96 (dk_at dksL_law_32 21 rfl rfl)
theorem dL_law_872 : decode cL_law 872 = .ok (.iaload, 1) := dk_46 (dk_at dksL_law_32 22 rfl rfl)
theorem dL_law_873 : decode cL_law 873 = .ok (.ifCond .eq 7, 3) := dk_153 0 7 (dk_at dksL_law_33 0 rfl rfl)
theorem dL_law_876 : decode cL_law 876 = .ok (.iconst 1, 1) := dk_4 (dk_at dksL_law_33 3 rfl rfl)
theorem dL_law_877 : decode cL_law 877 = .ok (.goto 4, 3) := dk_167 0 4 (dk_at dksL_law_33 4 rfl rfl)
theorem dL_law_880 : decode cL_law 880 = .ok (.iconst 0, 1) := dk_3 (dk_at dksL_law_33 7 rfl rfl)
theorem dL_law_881 : decode cL_law 881 = .ok (.invokevirtual 105, 3) := dk_182 0 105 (dk_at dksL_law_33 8 rfl rfl)
theorem dL_law_884 : decode cL_law 884 = .ok (.if_icmp .eq 199, 3) := dk_159 0 199 (dk_at dksL_law_33 11 rfl rfl)
theorem dL_law_887 : decode cL_law 887 = .ok (.iconst 0, 1) := dk_3 (dk_at dksL_law_33 14 rfl rfl)
theorem dL_law_888 : decode cL_law 888 = .ok (.ireturn, 1) := dk_172 (dk_at dksL_law_33 15 rfl rfl)
theorem dL_law_889 : decode cL_law 889 = .ok (.aload_n 1, 1) := dk_43 (dk_at dksL_law_33 16 rfl rfl)
theorem dL_law_890 : decode cL_law 890 = .ok (.aload_n 0, 1) := dk_42 (dk_at dksL_law_33 17 rfl rfl)
theorem dL_law_891 : decode cL_law 891 = .ok (.iload_n 3, 1) := dk_29 (dk_at dksL_law_33 18 rfl rfl)
theorem dL_law_892 : decode cL_law 892 = .ok (.iconst 1, 1) := dk_4 (dk_at dksL_law_33 19 rfl rfl)
theorem dL_law_893 : decode cL_law 893 = .ok (.iadd, 1) := dk_96 (dk_at dksL_law_33 20 rfl rfl)
theorem dL_law_894 : decode cL_law 894 = .ok (.iaload, 1) := dk_46 (dk_at dksL_law_33 21 rfl rfl)
theorem dL_law_895 : decode cL_law 895 = .ok (.invokevirtual 106, 3) := dk_182 0 106 (dk_at dksL_law_34 0 rfl rfl)
theorem dL_law_898 : decode cL_law 898 = .ok (.aload_n 2, 1) := dk_44 (dk_at dksL_law_34 3 rfl rfl)
theorem dL_law_899 : decode cL_law 899 = .ok (.aload_n 0, 1) := dk_42 (dk_at dksL_law_34 4 rfl rfl)
theorem dL_law_900 : decode cL_law 900 = .ok (.iload_n 3, 1) := dk_29 (dk_at dksL_law_34 5 rfl rfl)
theorem dL_law_901 : decode cL_law 901 = .ok (.iconst 1, 1) := dk_4 (dk_at dksL_law_34 6 rfl rfl)
theorem dL_law_902 : decode cL_law 902 = .ok (.iadd, 1) := dk_96 (dk_at dksL_law_34 7 rfl rfl)
theorem dL_law_903 : decode cL_law 903 = .ok (.iaload, 1) := dk_46 (dk_at dksL_law_34 8 rfl rfl)
theorem dL_law_904 : decode cL_law 904 = .ok (.invokevirtual 109, 3) := dk_182 0 109 (dk_at dksL_law_34 9 rfl rfl)
theorem dL_law_907 : decode cL_law 907 = .ok (.if_icmp .eq 176, 3) := dk_159 0 176 (dk_at dksL_law_34 12 rfl rfl)
theorem dL_law_910 : decode cL_law 910 = .ok (.iconst 0, 1) := dk_3 (dk_at dksL_law_34 15 rfl rfl)
theorem dL_law_911 : decode cL_law 911 = .ok (.ireturn, 1) := dk_172 (dk_at dksL_law_34 16 rfl rfl)
theorem dL_law_912 : decode cL_law 912 = .ok (.aload_n 1, 1) := dk_43 (dk_at dksL_law_34 17 rfl rfl)
theorem dL_law_913 : decode cL_law 913 = .ok (.aload_n 0, 1) := dk_42 (dk_at dksL_law_34 18 rfl rfl)
theorem dL_law_914 : decode cL_law 914 = .ok (.iload_n 3, 1) := dk_29 (dk_at dksL_law_34 19 rfl rfl)
theorem dL_law_915 : decode cL_law 915 = .ok (.iconst 1, 1) := dk_4 (dk_at dksL_law_34 20 rfl rfl)
theorem dL_law_916 : decode cL_law 916 = .ok (.iadd, 1) := dk_96 (dk_at dksL_law_34 21 rfl rfl)
theorem dL_law_917 : decode cL_law 917 = .ok (.iaload, 1) := dk_46 (dk_at dksL_law_34 22 rfl rfl)
theorem dL_law_918 : decode cL_law 918 = .ok (.aload_n 0, 1) := dk_42 (dk_at dksL_law_34 23 rfl rfl)
theorem dL_law_919 : decode cL_law 919 = .ok (.iload_n 3, 1) := dk_29 (dk_at dksL_law_35 0 rfl rfl)
theorem dL_law_920 : decode cL_law 920 = .ok (.iconst 2, 1) := dk_5 (dk_at dksL_law_35 1 rfl rfl)
theorem dL_law_921 : decode cL_law 921 = .ok (.iadd, 1) := dk_96 (dk_at dksL_law_35 2 rfl rfl)
theorem dL_law_922 : decode cL_law 922 = .ok (.iaload, 1) := dk_46 (dk_at dksL_law_35 3 rfl rfl)
theorem dL_law_923 : decode cL_law 923 = .ok (.aload_n 0, 1) := dk_42 (dk_at dksL_law_35 4 rfl rfl)
theorem dL_law_924 : decode cL_law 924 = .ok (.iload_n 3, 1) := dk_29 (dk_at dksL_law_35 5 rfl rfl)
theorem dL_law_925 : decode cL_law 925 = .ok (.iconst 3, 1) := dk_6 (dk_at dksL_law_35 6 rfl rfl)
theorem dL_law_926 : decode cL_law 926 = .ok (.iadd, 1) := dk_96 (dk_at dksL_law_35 7 rfl rfl)
theorem dL_law_927 : decode cL_law 927 = .ok (.iaload, 1) := dk_46 (dk_at dksL_law_35 8 rfl rfl)
theorem dL_law_928 : decode cL_law 928 = .ok (.invokevirtual 110, 3) := dk_182 0 110 (dk_at dksL_law_35 9 rfl rfl)
theorem dL_law_931 : decode cL_law 931 = .ok (.aload_n 2, 1) := dk_44 (dk_at dksL_law_35 12 rfl rfl)
theorem dL_law_932 : decode cL_law 932 = .ok (.aload_n 0, 1) := dk_42 (dk_at dksL_law_35 13 rfl rfl)
theorem dL_law_933 : decode cL_law 933 = .ok (.iload_n 3, 1) := dk_29 (dk_at dksL_law_35 14 rfl rfl)
theorem dL_law_934 : decode cL_law 934 = .ok (.iconst 1, 1) := dk_4 (dk_at dksL_law_35 15 rfl rfl)
theorem dL_law_935 : decode cL_law 935 = .ok (.iadd, 1) := dk_96 (dk_at dksL_law_35 16 rfl rfl)
theorem dL_law_936 : decode cL_law 936 = .ok (.iaload, 1) := dk_46 (dk_at dksL_law_35 17 rfl rfl)
theorem dL_law_937 : decode cL_law 937 = .ok (.aload_n 0, 1) := dk_42 (dk_at dksL_law_35 18 rfl rfl)
theorem dL_law_938 : decode cL_law 938 = .ok (.iload_n 3, 1) := dk_29 (dk_at dksL_law_35 19 rfl rfl)
theorem dL_law_939 : decode cL_law 939 = .ok (.iconst 2, 1) := dk_5 (dk_at dksL_law_35 20 rfl rfl)
theorem dL_law_940 : decode cL_law 940 = .ok (.iadd, 1) := dk_96 (dk_at dksL_law_35 21 rfl rfl)
theorem dL_law_941 : decode cL_law 941 = .ok (.iaload, 1) := dk_46 (dk_at dksL_law_35 22 rfl rfl)
theorem dL_law_942 : decode cL_law 942 = .ok (.aload_n 0, 1) := dk_42 (dk_at dksL_law_35 23 rfl rfl)
theorem dL_law_943 : decode cL_law 943 = .ok (.iload_n 3, 1) := dk_29 (dk_at dksL_law_36 0 rfl rfl)
theorem dL_law_944 : decode cL_law 944 = .ok (.iconst 3, 1) := dk_6 (dk_at dksL_law_36 1 rfl rfl)
theorem dL_law_945 : decode cL_law 945 = .ok (.iadd, 1) := dk_96 (dk_at dksL_law_36 2 rfl rfl)
theorem dL_law_946 : decode cL_law 946 = .ok (.iaload, 1) := dk_46 (dk_at dksL_law_36 3 rfl rfl)
theorem dL_law_947 : decode cL_law 947 = .ok (.invokevirtual 113, 3) := dk_182 0 113 (dk_at dksL_law_36 4 rfl rfl)
theorem dL_law_950 : decode cL_law 950 = .ok (.if_icmp .eq 133, 3) := dk_159 0 133 (dk_at dksL_law_36 7 rfl rfl)
theorem dL_law_953 : decode cL_law 953 = .ok (.iconst 0, 1) := dk_3 (dk_at dksL_law_36 10 rfl rfl)
theorem dL_law_954 : decode cL_law 954 = .ok (.ireturn, 1) := dk_172 (dk_at dksL_law_36 11 rfl rfl)
theorem dL_law_955 : decode cL_law 955 = .ok (.aload_n 1, 1) := dk_43 (dk_at dksL_law_36 12 rfl rfl)
theorem dL_law_956 : decode cL_law 956 = .ok (.invokevirtual 114, 3) := dk_182 0 114 (dk_at dksL_law_36 13 rfl rfl)
theorem dL_law_959 : decode cL_law 959 = .ok (.aload_n 2, 1) := dk_44 (dk_at dksL_law_36 16 rfl rfl)
theorem dL_law_960 : decode cL_law 960 = .ok (.invokevirtual 118, 3) := dk_182 0 118 (dk_at dksL_law_36 17 rfl rfl)
theorem dL_law_963 : decode cL_law 963 = .ok (.if_icmp .eq 120, 3) := dk_159 0 120 (dk_at dksL_law_36 20 rfl rfl)
theorem dL_law_966 : decode cL_law 966 = .ok (.iconst 0, 1) := dk_3 (dk_at dksL_law_36 23 rfl rfl)
theorem dL_law_967 : decode cL_law 967 = .ok (.ireturn, 1) := dk_172 (dk_at dksL_law_37 0 rfl rfl)
theorem dL_law_968 : decode cL_law 968 = .ok (.aload_n 1, 1) := dk_43 (dk_at dksL_law_37 1 rfl rfl)
theorem dL_law_969 : decode cL_law 969 = .ok (.invokevirtual 119, 3) := dk_182 0 119 (dk_at dksL_law_37 2 rfl rfl)
theorem dL_law_972 : decode cL_law 972 = .ok (.aload_n 2, 1) := dk_44 (dk_at dksL_law_37 5 rfl rfl)
theorem dL_law_973 : decode cL_law 973 = .ok (.invokevirtual 122, 3) := dk_182 0 122 (dk_at dksL_law_37 6 rfl rfl)
theorem dL_law_976 : decode cL_law 976 = .ok (.if_icmp .eq 107, 3) := dk_159 0 107 (dk_at dksL_law_37 9 rfl rfl)
theorem dL_law_979 : decode cL_law 979 = .ok (.iconst 0, 1) := dk_3 (dk_at dksL_law_37 12 rfl rfl)
theorem dL_law_980 : decode cL_law 980 = .ok (.ireturn, 1) := dk_172 (dk_at dksL_law_37 13 rfl rfl)
theorem dL_law_981 : decode cL_law 981 = .ok (.aload_n 1, 1) := dk_43 (dk_at dksL_law_37 14 rfl rfl)
theorem dL_law_982 : decode cL_law 982 = .ok (.aload_n 0, 1) := dk_42 (dk_at dksL_law_37 15 rfl rfl)
theorem dL_law_983 : decode cL_law 983 = .ok (.iload_n 3, 1) := dk_29 (dk_at dksL_law_37 16 rfl rfl)
theorem dL_law_984 : decode cL_law 984 = .ok (.iconst 1, 1) := dk_4 (dk_at dksL_law_37 17 rfl rfl)
theorem dL_law_985 : decode cL_law 985 = .ok (.iadd, 1) := dk_96 (dk_at dksL_law_37 18 rfl rfl)
theorem dL_law_986 : decode cL_law 986 = .ok (.iaload, 1) := dk_46 (dk_at dksL_law_37 19 rfl rfl)
theorem dL_law_987 : decode cL_law 987 = .ok (.aload_n 0, 1) := dk_42 (dk_at dksL_law_37 20 rfl rfl)
theorem dL_law_988 : decode cL_law 988 = .ok (.iload_n 3, 1) := dk_29 (dk_at dksL_law_37 21 rfl rfl)
theorem dL_law_989 : decode cL_law 989 = .ok (.iconst 2, 1) := dk_5 (dk_at dksL_law_37 22 rfl rfl)
theorem dL_law_990 : decode cL_law 990 = .ok (.iadd, 1) := dk_96 (dk_at dksL_law_37 23 rfl rfl)
theorem dL_law_991 : decode cL_law 991 = .ok (.iaload, 1) := dk_46 (dk_at dksL_law_38 0 rfl rfl)
theorem dL_law_992 : decode cL_law 992 = .ok (.invokevirtual 123, 3) := dk_182 0 123 (dk_at dksL_law_38 1 rfl rfl)
theorem dL_law_995 : decode cL_law 995 = .ok (.aload_n 2, 1) := dk_44 (dk_at dksL_law_38 4 rfl rfl)
theorem dL_law_996 : decode cL_law 996 = .ok (.aload_n 0, 1) := dk_42 (dk_at dksL_law_38 5 rfl rfl)
theorem dL_law_997 : decode cL_law 997 = .ok (.iload_n 3, 1) := dk_29 (dk_at dksL_law_38 6 rfl rfl)
theorem dL_law_998 : decode cL_law 998 = .ok (.iconst 1, 1) := dk_4 (dk_at dksL_law_38 7 rfl rfl)
theorem dL_law_999 : decode cL_law 999 = .ok (.iadd, 1) := dk_96 (dk_at dksL_law_38 8 rfl rfl)
theorem dL_law_1000 : decode cL_law 1000 = .ok (.iaload, 1) := dk_46 (dk_at dksL_law_38 9 rfl rfl)
theorem dL_law_1001 : decode cL_law 1001 = .ok (.aload_n 0, 1) := dk_42 (dk_at dksL_law_38 10 rfl rfl)
theorem dL_law_1002 : decode cL_law 1002 = .ok (.iload_n 3, 1) := dk_29 (dk_at dksL_law_38 11 rfl rfl)
theorem dL_law_1003 : decode cL_law 1003 = .ok (.iconst 2, 1) := dk_5 (dk_at dksL_law_38 12 rfl rfl)
theorem dL_law_1004 : decode cL_law 1004 = .ok (.iadd, 1) := dk_96 (dk_at dksL_law_38 13 rfl rfl)
theorem dL_law_1005 : decode cL_law 1005 = .ok (.iaload, 1) := dk_46 (dk_at dksL_law_38 14 rfl rfl)
theorem dL_law_1006 : decode cL_law 1006 = .ok (.invokevirtual 126, 3) := dk_182 0 126 (dk_at dksL_law_38 15 rfl rfl)
theorem dL_law_1009 : decode cL_law 1009 = .ok (.if_icmp .eq 74, 3) := dk_159 0 74 (dk_at dksL_law_38 18 rfl rfl)
theorem dL_law_1012 : decode cL_law 1012 = .ok (.iconst 0, 1) := dk_3 (dk_at dksL_law_38 21 rfl rfl)
theorem dL_law_1013 : decode cL_law 1013 = .ok (.ireturn, 1) := dk_172 (dk_at dksL_law_38 22 rfl rfl)
theorem dL_law_1014 : decode cL_law 1014 = .ok (.aload_n 1, 1) := dk_43 (dk_at dksL_law_38 23 rfl rfl)
theorem dL_law_1015 : decode cL_law 1015 = .ok (.aload_n 0, 1) := dk_42 (dk_at dksL_law_39 0 rfl rfl)
theorem dL_law_1016 : decode cL_law 1016 = .ok (.iload_n 3, 1) := dk_29 (dk_at dksL_law_39 1 rfl rfl)
theorem dL_law_1017 : decode cL_law 1017 = .ok (.iconst 1, 1) := dk_4 (dk_at dksL_law_39 2 rfl rfl)
theorem dL_law_1018 : decode cL_law 1018 = .ok (.iadd, 1) := dk_96 (dk_at dksL_law_39 3 rfl rfl)
theorem dL_law_1019 : decode cL_law 1019 = .ok (.iaload, 1) := dk_46 (dk_at dksL_law_39 4 rfl rfl)
theorem dL_law_1020 : decode cL_law 1020 = .ok (.aload_n 0, 1) := dk_42 (dk_at dksL_law_39 5 rfl rfl)
theorem dL_law_1021 : decode cL_law 1021 = .ok (.iload_n 3, 1) := dk_29 (dk_at dksL_law_39 6 rfl rfl)
theorem dL_law_1022 : decode cL_law 1022 = .ok (.iconst 2, 1) := dk_5 (dk_at dksL_law_39 7 rfl rfl)
theorem dL_law_1023 : decode cL_law 1023 = .ok (.iadd, 1) := dk_96 (dk_at dksL_law_39 8 rfl rfl)
theorem dL_law_1024 : decode cL_law 1024 = .ok (.iaload, 1) := dk_46 (dk_at dksL_law_39 9 rfl rfl)
theorem dL_law_1025 : decode cL_law 1025 = .ok (.invokevirtual 127, 3) := dk_182 0 127 (dk_at dksL_law_39 10 rfl rfl)
theorem dL_law_1028 : decode cL_law 1028 = .ok (.aload_n 2, 1) := dk_44 (dk_at dksL_law_39 13 rfl rfl)
theorem dL_law_1029 : decode cL_law 1029 = .ok (.aload_n 0, 1) := dk_42 (dk_at dksL_law_39 14 rfl rfl)
theorem dL_law_1030 : decode cL_law 1030 = .ok (.iload_n 3, 1) := dk_29 (dk_at dksL_law_39 15 rfl rfl)
theorem dL_law_1031 : decode cL_law 1031 = .ok (.iconst 1, 1) := dk_4 (dk_at dksL_law_39 16 rfl rfl)
theorem dL_law_1032 : decode cL_law 1032 = .ok (.iadd, 1) := dk_96 (dk_at dksL_law_39 17 rfl rfl)
theorem dL_law_1033 : decode cL_law 1033 = .ok (.iaload, 1) := dk_46 (dk_at dksL_law_39 18 rfl rfl)
theorem dL_law_1034 : decode cL_law 1034 = .ok (.aload_n 0, 1) := dk_42 (dk_at dksL_law_39 19 rfl rfl)
theorem dL_law_1035 : decode cL_law 1035 = .ok (.iload_n 3, 1) := dk_29 (dk_at dksL_law_39 20 rfl rfl)
theorem dL_law_1036 : decode cL_law 1036 = .ok (.iconst 2, 1) := dk_5 (dk_at dksL_law_39 21 rfl rfl)
theorem dL_law_1037 : decode cL_law 1037 = .ok (.iadd, 1) := dk_96 (dk_at dksL_law_39 22 rfl rfl)
theorem dL_law_1038 : decode cL_law 1038 = .ok (.iaload, 1) := dk_46 (dk_at dksL_law_39 23 rfl rfl)
theorem dL_law_1039 : decode cL_law 1039 = .ok (.invokevirtual 130, 3) := dk_182 0 130 (dk_at dksL_law_40 0 rfl rfl)
theorem dL_law_1042 : decode cL_law 1042 = .ok (.if_icmp .eq 41, 3) := dk_159 0 41 (dk_at dksL_law_40 3 rfl rfl)
theorem dL_law_1045 : decode cL_law 1045 = .ok (.iconst 0, 1) := dk_3 (dk_at dksL_law_40 6 rfl rfl)
theorem dL_law_1046 : decode cL_law 1046 = .ok (.ireturn, 1) := dk_172 (dk_at dksL_law_40 7 rfl rfl)
theorem dL_law_1047 : decode cL_law 1047 = .ok (.aload_n 1, 1) := dk_43 (dk_at dksL_law_40 8 rfl rfl)
theorem dL_law_1048 : decode cL_law 1048 = .ok (.aload_n 0, 1) := dk_42 (dk_at dksL_law_40 9 rfl rfl)
theorem dL_law_1049 : decode cL_law 1049 = .ok (.iload_n 3, 1) := dk_29 (dk_at dksL_law_40 10 rfl rfl)
theorem dL_law_1050 : decode cL_law 1050 = .ok (.iconst 1, 1) := dk_4 (dk_at dksL_law_40 11 rfl rfl)
theorem dL_law_1051 : decode cL_law 1051 = .ok (.iadd, 1) := dk_96 (dk_at dksL_law_40 12 rfl rfl)
theorem dL_law_1052 : decode cL_law 1052 = .ok (.iaload, 1) := dk_46 (dk_at dksL_law_40 13 rfl rfl)
theorem dL_law_1053 : decode cL_law 1053 = .ok (.invokevirtual 131, 3) := dk_182 0 131 (dk_at dksL_law_40 14 rfl rfl)
theorem dL_law_1056 : decode cL_law 1056 = .ok (.aload_n 2, 1) := dk_44 (dk_at dksL_law_40 17 rfl rfl)
theorem dL_law_1057 : decode cL_law 1057 = .ok (.aload_n 0, 1) := dk_42 (dk_at dksL_law_40 18 rfl rfl)
theorem dL_law_1058 : decode cL_law 1058 = .ok (.iload_n 3, 1) := dk_29 (dk_at dksL_law_40 19 rfl rfl)
theorem dL_law_1059 : decode cL_law 1059 = .ok (.iconst 1, 1) := dk_4 (dk_at dksL_law_40 20 rfl rfl)
theorem dL_law_1060 : decode cL_law 1060 = .ok (.iadd, 1) := dk_96 (dk_at dksL_law_40 21 rfl rfl)
theorem dL_law_1061 : decode cL_law 1061 = .ok (.iaload, 1) := dk_46 (dk_at dksL_law_40 22 rfl rfl)
theorem dL_law_1062 : decode cL_law 1062 = .ok (.invokevirtual 134, 3) := dk_182 0 134 (dk_at dksL_law_41 0 rfl rfl)
theorem dL_law_1065 : decode cL_law 1065 = .ok (.if_icmp .eq 18, 3) := dk_159 0 18 (dk_at dksL_law_41 3 rfl rfl)
theorem dL_law_1068 : decode cL_law 1068 = .ok (.iconst 0, 1) := dk_3 (dk_at dksL_law_41 6 rfl rfl)
theorem dL_law_1069 : decode cL_law 1069 = .ok (.ireturn, 1) := dk_172 (dk_at dksL_law_41 7 rfl rfl)
theorem dL_law_1070 : decode cL_law 1070 = .ok (.aload_n 1, 1) := dk_43 (dk_at dksL_law_41 8 rfl rfl)
theorem dL_law_1071 : decode cL_law 1071 = .ok (.invokevirtual 135, 3) := dk_182 0 135 (dk_at dksL_law_41 9 rfl rfl)
theorem dL_law_1074 : decode cL_law 1074 = .ok (.aload_n 2, 1) := dk_44 (dk_at dksL_law_41 12 rfl rfl)
theorem dL_law_1075 : decode cL_law 1075 = .ok (.invokevirtual 138, 3) := dk_182 0 138 (dk_at dksL_law_41 13 rfl rfl)
theorem dL_law_1078 : decode cL_law 1078 = .ok (.if_icmp .eq 5, 3) := dk_159 0 5 (dk_at dksL_law_41 16 rfl rfl)
theorem dL_law_1081 : decode cL_law 1081 = .ok (.iconst 0, 1) := dk_3 (dk_at dksL_law_41 19 rfl rfl)
theorem dL_law_1082 : decode cL_law 1082 = .ok (.ireturn, 1) := dk_172 (dk_at dksL_law_41 20 rfl rfl)
theorem dL_law_1083 : decode cL_law 1083 = .ok (.iinc 3 6, 3) := dk_132 3 6 (dk_at dksL_law_41 21 rfl rfl)
theorem dL_law_1086 : decode cL_law 1086 = .ok (.goto (-1068), 3) := dk_167 251 212 (dk_at dksL_law_42 0 rfl rfl)
theorem dL_law_1089 : decode cL_law 1089 = .ok (.iconst 1, 1) := dk_4 (dk_at dksL_law_42 3 rfl rfl)
theorem dL_law_1090 : decode cL_law 1090 = .ok (.ireturn, 1) := dk_172 (dk_at dksL_law_42 4 rfl rfl)

